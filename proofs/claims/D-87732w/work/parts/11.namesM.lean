/-! LateAndEarlyModel -/
set_option maxRecDepth 100000
def RX2 : String := "LateAndEarlyModel"
def TX2 : u_T := fun k => match k with
  | 0 => ("LateAndEarlyModel", "tape", "[I", true)
  | 1 => ("LateAndEarlyModel", "taped", "I", false)
  | 2 => ("LateAndEarlyModel", "sort", "I", false)
  | 3 => ("LateAndEarlyModel", "from", "I", false)
  | 4 => ("LateAndEarlyModel", "to", "I", false)
  | 5 => ("LateAndEarlyModel", "digits", "I", false)
  | 6 => ("LateAndEarlyModel", "value", "I", false)
  | 7 => ("LateAndEarlyModel", "letters", "J", false)
  | 8 => ("LateAndEarlyModel", "there", "[Z", true)
  | 9 => ("LateAndEarlyModel", "blocks", "[I", true)
  | 10 => ("LateAndEarlyModel", "nodes", "[I", true)
  | 11 => ("LateAndEarlyModel", "told", "[I", true)
  | 12 => ("LateAndEarlyModel", "sums", "[I", true)
  | 13 => ("LateAndEarlyModel", "firstNode", "[I", true)
  | 14 => ("LateAndEarlyModel", "blockAt", "[I", true)
  | 15 => ("LateAndEarlyModel", "kind", "[I", true)
  | 16 => ("LateAndEarlyModel", "blockOf", "[I", true)
  | 17 => ("LateAndEarlyModel", "nameOf", "[I", true)
  | 18 => ("LateAndEarlyModel", "sumOf", "[I", true)
  | 19 => ("LateAndEarlyModel", "to1", "[I", true)
  | 20 => ("LateAndEarlyModel", "to2", "[I", true)
  | 21 => ("LateAndEarlyModel", "aName", "[I", true)
  | 22 => ("LateAndEarlyModel", "aValue", "[I", true)
  | 23 => ("LateAndEarlyModel", "bName", "[I", true)
  | 24 => ("LateAndEarlyModel", "bValue", "[I", true)
  | 25 => ("LateAndEarlyModel", "rowOf", "[I", true)
  | 26 => ("LateAndEarlyModel", "sign", "[I", true)
  | 27 => ("LateAndEarlyModel", "saName", "[I", true)
  | 28 => ("LateAndEarlyModel", "saValue", "[I", true)
  | 29 => ("LateAndEarlyModel", "sbName", "[I", true)
  | 30 => ("LateAndEarlyModel", "sbValue", "[I", true)
  | 31 => ("LateAndEarlyModel", "facts", "[I", true)
  | 32 => ("LateAndEarlyModel", "bad", "I", false)
  | 33 => ("LateAndEarlyModel", "badAt", "I", false)
  | 34 => ("LateAndEarlyModel", "wrong", "I", false)
  | 35 => ("LateAndEarlyModel", "opName", "I", false)
  | 36 => ("LateAndEarlyModel", "opValue", "I", false)
  | 37 => ("LateAndEarlyModel", "lostAt", "I", false)
  | 38 => ("LateAndEarlyModel", "many", "Z", false)
  | 39 => ("LateAndEarlyModel", "nameAt", "[I", true)
  | 40 => ("LateAndEarlyModel", "nameBlock", "[I", true)
  | 41 => ("LateAndEarlyModel", "names", "I", false)
  | 42 => ("LateAndEarlyModel", "reached", "[Z", true)
  | 43 => ("LateAndEarlyModel", "waysIn", "[I", true)
  | 44 => ("LateAndEarlyModel", "alive", "[Z", true)
  | 45 => ("LateAndEarlyModel", "begins", "[I", true)
  | 46 => ("LateAndEarlyModel", "now", "[I", true)
  | 47 => ("LateAndEarlyModel", "rows", "[I", true)
  | 48 => ("LateAndEarlyModel", "kept", "[I", true)
  | 49 => ("LateAndEarlyModel", "worked", "[I", true)
  | 50 => ("LateAndEarlyModel", "tells", "[I", true)
  | 51 => ("LateAndEarlyModel", "how", "I", false)
  | 52 => ("LateAndEarlyModel", "came", "I", false)
  | 53 => ("LateAndEarlyModel", "toldMany", "I", false)
  | 54 => ("LateAndEarlyModel", "refusedAt", "I", false)
  | 55 => ("LateAndEarlyModel", "workedAll", "I", false)
  | 56 => ("LateAndEarlyModel", "refused", "Z", false)
  | 57 => ("LateAndEarlyModel", "stepped", "[I", true)
  | 58 => ("LateAndEarlyModel", "way", "[I", true)
  | 59 => ("LateAndEarlyModel", "text", "[I", true)
  | 60 => ("LateAndEarlyModel", "written", "I", false)
  | _ => ("LateAndEarlyModel", "asBlock", "[I", true)
def tyX2 : Nat → FieldType := fun k => match k with
  | 0 => .array .int
  | 1 => .int
  | 2 => .int
  | 3 => .int
  | 4 => .int
  | 5 => .int
  | 6 => .int
  | 7 => .long
  | 8 => .array .boolean
  | 9 => .array .int
  | 10 => .array .int
  | 11 => .array .int
  | 12 => .array .int
  | 13 => .array .int
  | 14 => .array .int
  | 15 => .array .int
  | 16 => .array .int
  | 17 => .array .int
  | 18 => .array .int
  | 19 => .array .int
  | 20 => .array .int
  | 21 => .array .int
  | 22 => .array .int
  | 23 => .array .int
  | 24 => .array .int
  | 25 => .array .int
  | 26 => .array .int
  | 27 => .array .int
  | 28 => .array .int
  | 29 => .array .int
  | 30 => .array .int
  | 31 => .array .int
  | 32 => .int
  | 33 => .int
  | 34 => .int
  | 35 => .int
  | 36 => .int
  | 37 => .int
  | 38 => .boolean
  | 39 => .array .int
  | 40 => .array .int
  | 41 => .int
  | 42 => .array .boolean
  | 43 => .array .int
  | 44 => .array .boolean
  | 45 => .array .int
  | 46 => .array .int
  | 47 => .array .int
  | 48 => .array .int
  | 49 => .array .int
  | 50 => .array .int
  | 51 => .int
  | 52 => .int
  | 53 => .int
  | 54 => .int
  | 55 => .int
  | 56 => .boolean
  | 57 => .array .int
  | 58 => .array .int
  | 59 => .array .int
  | 60 => .int
  | _ => .array .int
abbrev wsX20 : List Cond := u_ws RX2 TX2 62
set_option maxRecDepth 100000 in
theorem nmX2 : ∀ a, a < 62 → ∀ b, b < 62 → a ≠ b → (TX2 a).2.1 ≠ (TX2 b).2.1 := by decide +kernel
set_option maxRecDepth 100000 in
theorem tyX2_ok : ∀ k, k < 62 → parseFieldDescriptor (TX2 k).2.2.1 = some (tyX2 k) := by decide +kernel
abbrev cX2_init : ByteArray := prog_24_method_1_code
def yX2_init : MethodName := ⟨RX2, "<init>", "()V"⟩
def dkwX2_init_19 : List UInt8 := [3, 181, 0, 196, 42, 17, 0, 240, 188, 10, 181, 0, 199, 177]
abbrev dktX2_init_19 : List UInt8 := dkwX2_init_19 ++ []
def dkwX2_init_18 : List UInt8 := [8, 188, 10, 181, 0, 186, 42, 17, 1, 44, 188, 10, 181, 0, 189, 42, 18, 192, 188, 10, 181, 0, 193, 42]
abbrev dktX2_init_18 : List UInt8 := dkwX2_init_18 ++ dktX2_init_19
def dkwX2_init_17 : List UInt8 := [181, 0, 171, 42, 3, 181, 0, 174, 42, 3, 181, 0, 177, 42, 3, 181, 0, 180, 42, 3, 181, 0, 183, 42]
abbrev dktX2_init_17 : List UInt8 := dkwX2_init_17 ++ dktX2_init_18
def dkwX2_init_16 : List UInt8 := [16, 32, 188, 10, 181, 0, 162, 42, 16, 100, 188, 10, 181, 0, 165, 42, 3, 181, 0, 168, 42, 3]
abbrev dktX2_init_16 : List UInt8 := dkwX2_init_16 ++ dktX2_init_17
def dkwX2_init_15 : List UInt8 := [16, 48, 188, 10, 181, 0, 153, 42, 16, 16, 188, 10, 181, 0, 156, 42, 16, 32, 188, 10, 181, 0, 159, 42]
abbrev dktX2_init_15 : List UInt8 := dkwX2_init_15 ++ dktX2_init_16
def dkwX2_init_14 : List UInt8 := [188, 10, 181, 0, 144, 42, 17, 0, 240, 188, 4, 181, 0, 147, 42, 16, 48, 188, 10, 181, 0, 150, 42]
abbrev dktX2_init_14 : List UInt8 := dkwX2_init_14 ++ dktX2_init_15
def dkwX2_init_13 : List UInt8 := [17, 0, 200, 188, 10, 181, 0, 135, 42, 3, 181, 0, 138, 42, 16, 40, 188, 4, 181, 0, 141, 42, 16, 40]
abbrev dktX2_init_13 : List UInt8 := dkwX2_init_13 ++ dktX2_init_14
def dkwX2_init_12 : List UInt8 := [3, 181, 0, 122, 42, 3, 181, 0, 125, 42, 3, 181, 0, 128, 42, 17, 0, 200, 188, 10, 181, 0, 132, 42]
abbrev dktX2_init_12 : List UInt8 := dkwX2_init_12 ++ dktX2_init_13
def dkwX2_init_11 : List UInt8 := [181, 0, 107, 42, 3, 181, 0, 110, 42, 3, 181, 0, 113, 42, 3, 181, 0, 116, 42, 3, 181, 0, 119, 42]
abbrev dktX2_init_11 : List UInt8 := dkwX2_init_11 ++ dktX2_init_12
def dkwX2_init_10 : List UInt8 := [17, 0, 160, 188, 10, 181, 0, 100, 42, 17, 0, 160, 188, 10, 181, 0, 103, 42, 18, 106, 188, 10]
abbrev dktX2_init_10 : List UInt8 := dkwX2_init_10 ++ dktX2_init_11
def dkwX2_init_9 : List UInt8 := [181, 0, 91, 42, 17, 0, 160, 188, 10, 181, 0, 94, 42, 17, 0, 160, 188, 10, 181, 0, 97, 42]
abbrev dktX2_init_9 : List UInt8 := dkwX2_init_9 ++ dktX2_init_10
def dkwX2_init_8 : List UInt8 := [17, 4, 176, 188, 10, 181, 0, 85, 42, 17, 4, 176, 188, 10, 181, 0, 88, 42, 17, 0, 160, 188, 10]
abbrev dktX2_init_8 : List UInt8 := dkwX2_init_8 ++ dktX2_init_9
def dkwX2_init_7 : List UInt8 := [181, 0, 76, 42, 17, 4, 176, 188, 10, 181, 0, 79, 42, 17, 4, 176, 188, 10, 181, 0, 82, 42]
abbrev dktX2_init_7 : List UInt8 := dkwX2_init_7 ++ dktX2_init_8
def dkwX2_init_6 : List UInt8 := [17, 4, 176, 188, 10, 181, 0, 70, 42, 17, 4, 176, 188, 10, 181, 0, 73, 42, 17, 4, 176, 188, 10]
abbrev dktX2_init_6 : List UInt8 := dkwX2_init_6 ++ dktX2_init_7
def dkwX2_init_5 : List UInt8 := [181, 0, 61, 42, 17, 4, 176, 188, 10, 181, 0, 64, 42, 17, 4, 176, 188, 10, 181, 0, 67, 42]
abbrev dktX2_init_5 : List UInt8 := dkwX2_init_5 ++ dktX2_init_6
def dkwX2_init_4 : List UInt8 := [17, 0, 205, 188, 10, 181, 0, 55, 42, 17, 4, 176, 188, 10, 181, 0, 58, 42, 17, 4, 176, 188, 10]
abbrev dktX2_init_4 : List UInt8 := dkwX2_init_4 ++ dktX2_init_5
def dkwX2_init_3 : List UInt8 := [188, 10, 181, 0, 46, 42, 8, 188, 10, 181, 0, 49, 42, 17, 0, 205, 188, 10, 181, 0, 52, 42]
abbrev dktX2_init_3 : List UInt8 := dkwX2_init_3 ++ dktX2_init_4
def dkwX2_init_2 : List UInt8 := [42, 8, 188, 4, 181, 0, 36, 42, 8, 188, 10, 181, 0, 40, 42, 8, 188, 10, 181, 0, 43, 42, 8]
abbrev dktX2_init_2 : List UInt8 := dkwX2_init_2 ++ dktX2_init_3
def dkwX2_init_1 : List UInt8 := [3, 181, 0, 20, 42, 3, 181, 0, 23, 42, 3, 181, 0, 26, 42, 3, 181, 0, 29, 42, 9, 181, 0, 32]
abbrev dktX2_init_1 : List UInt8 := dkwX2_init_1 ++ dktX2_init_2
def dkwX2_init_0 : List UInt8 := [42, 183, 0, 1, 42, 17, 11, 184, 188, 10, 181, 0, 7, 42, 3, 181, 0, 13, 42, 3, 181, 0, 17, 42]
abbrev dktX2_init_0 : List UInt8 := dkwX2_init_0 ++ dktX2_init_1
theorem dksX2_init_0 : cX2_init.data.toList.drop 0 = dktX2_init_0 := by decide +kernel
theorem dksX2_init_1 : cX2_init.data.toList.drop 24 = dktX2_init_1 := dk_seg dksX2_init_0 24 rfl rfl
theorem dksX2_init_2 : cX2_init.data.toList.drop 48 = dktX2_init_2 := dk_seg dksX2_init_1 24 rfl rfl
theorem dksX2_init_3 : cX2_init.data.toList.drop 71 = dktX2_init_3 := dk_seg dksX2_init_2 23 rfl rfl
theorem dksX2_init_4 : cX2_init.data.toList.drop 93 = dktX2_init_4 := dk_seg dksX2_init_3 22 rfl rfl
theorem dksX2_init_5 : cX2_init.data.toList.drop 116 = dktX2_init_5 := dk_seg dksX2_init_4 23 rfl rfl
theorem dksX2_init_6 : cX2_init.data.toList.drop 138 = dktX2_init_6 := dk_seg dksX2_init_5 22 rfl rfl
theorem dksX2_init_7 : cX2_init.data.toList.drop 161 = dktX2_init_7 := dk_seg dksX2_init_6 23 rfl rfl
theorem dksX2_init_8 : cX2_init.data.toList.drop 183 = dktX2_init_8 := dk_seg dksX2_init_7 22 rfl rfl
theorem dksX2_init_9 : cX2_init.data.toList.drop 206 = dktX2_init_9 := dk_seg dksX2_init_8 23 rfl rfl
theorem dksX2_init_10 : cX2_init.data.toList.drop 228 = dktX2_init_10 := dk_seg dksX2_init_9 22 rfl rfl
theorem dksX2_init_11 : cX2_init.data.toList.drop 250 = dktX2_init_11 := dk_seg dksX2_init_10 22 rfl rfl
theorem dksX2_init_12 : cX2_init.data.toList.drop 274 = dktX2_init_12 := dk_seg dksX2_init_11 24 rfl rfl
theorem dksX2_init_13 : cX2_init.data.toList.drop 298 = dktX2_init_13 := dk_seg dksX2_init_12 24 rfl rfl
theorem dksX2_init_14 : cX2_init.data.toList.drop 322 = dktX2_init_14 := dk_seg dksX2_init_13 24 rfl rfl
theorem dksX2_init_15 : cX2_init.data.toList.drop 345 = dktX2_init_15 := dk_seg dksX2_init_14 23 rfl rfl
theorem dksX2_init_16 : cX2_init.data.toList.drop 369 = dktX2_init_16 := dk_seg dksX2_init_15 24 rfl rfl
theorem dksX2_init_17 : cX2_init.data.toList.drop 391 = dktX2_init_17 := dk_seg dksX2_init_16 22 rfl rfl
theorem dksX2_init_18 : cX2_init.data.toList.drop 415 = dktX2_init_18 := dk_seg dksX2_init_17 24 rfl rfl
theorem dksX2_init_19 : cX2_init.data.toList.drop 439 = dktX2_init_19 := dk_seg dksX2_init_18 24 rfl rfl
theorem dX2_init_0 : decode cX2_init 0 = .ok (.aload_n 0, 1) := dk_42 (dk_at dksX2_init_0 0 rfl rfl)
theorem dX2_init_1 : decode cX2_init 1 = .ok (.invokespecial 1, 3) := dk_183 0 1 (dk_at dksX2_init_0 1 rfl rfl)
theorem dX2_init_4 : decode cX2_init 4 = .ok (.aload_n 0, 1) := dk_42 (dk_at dksX2_init_0 4 rfl rfl)
theorem dX2_init_5 : decode cX2_init 5 = .ok (.sipush 3000, 3) := dk_17 11 184 (dk_at dksX2_init_0 5 rfl rfl)
theorem dX2_init_8 : decode cX2_init 8 = .ok (.newarray .int, 2) := dk_188_10 (dk_at dksX2_init_0 8 rfl rfl)
theorem dX2_init_10 : decode cX2_init 10 = .ok (.putfield 7, 3) := dk_181 0 7 (dk_at dksX2_init_0 10 rfl rfl)
theorem dX2_init_13 : decode cX2_init 13 = .ok (.aload_n 0, 1) := dk_42 (dk_at dksX2_init_0 13 rfl rfl)
theorem dX2_init_14 : decode cX2_init 14 = .ok (.iconst 0, 1) := dk_3 (dk_at dksX2_init_0 14 rfl rfl)
theorem dX2_init_15 : decode cX2_init 15 = .ok (.putfield 13, 3) := dk_181 0 13 (dk_at dksX2_init_0 15 rfl rfl)
theorem dX2_init_18 : decode cX2_init 18 = .ok (.aload_n 0, 1) := dk_42 (dk_at dksX2_init_0 18 rfl rfl)
theorem dX2_init_19 : decode cX2_init 19 = .ok (.iconst 0, 1) := dk_3 (dk_at dksX2_init_0 19 rfl rfl)
theorem dX2_init_20 : decode cX2_init 20 = .ok (.putfield 17, 3) := dk_181 0 17 (dk_at dksX2_init_0 20 rfl rfl)
theorem dX2_init_23 : decode cX2_init 23 = .ok (.aload_n 0, 1) := dk_42 (dk_at dksX2_init_0 23 rfl rfl)
theorem dX2_init_24 : decode cX2_init 24 = .ok (.iconst 0, 1) := dk_3 (dk_at dksX2_init_1 0 rfl rfl)
theorem dX2_init_25 : decode cX2_init 25 = .ok (.putfield 20, 3) := dk_181 0 20 (dk_at dksX2_init_1 1 rfl rfl)
theorem dX2_init_28 : decode cX2_init 28 = .ok (.aload_n 0, 1) := dk_42 (dk_at dksX2_init_1 4 rfl rfl)
theorem dX2_init_29 : decode cX2_init 29 = .ok (.iconst 0, 1) := dk_3 (dk_at dksX2_init_1 5 rfl rfl)
theorem dX2_init_30 : decode cX2_init 30 = .ok (.putfield 23, 3) := dk_181 0 23 (dk_at dksX2_init_1 6 rfl rfl)
theorem dX2_init_33 : decode cX2_init 33 = .ok (.aload_n 0, 1) := dk_42 (dk_at dksX2_init_1 9 rfl rfl)
theorem dX2_init_34 : decode cX2_init 34 = .ok (.iconst 0, 1) := dk_3 (dk_at dksX2_init_1 10 rfl rfl)
theorem dX2_init_35 : decode cX2_init 35 = .ok (.putfield 26, 3) := dk_181 0 26 (dk_at dksX2_init_1 11 rfl rfl)
theorem dX2_init_38 : decode cX2_init 38 = .ok (.aload_n 0, 1) := dk_42 (dk_at dksX2_init_1 14 rfl rfl)
theorem dX2_init_39 : decode cX2_init 39 = .ok (.iconst 0, 1) := dk_3 (dk_at dksX2_init_1 15 rfl rfl)
theorem dX2_init_40 : decode cX2_init 40 = .ok (.putfield 29, 3) := dk_181 0 29 (dk_at dksX2_init_1 16 rfl rfl)
theorem dX2_init_43 : decode cX2_init 43 = .ok (.aload_n 0, 1) := dk_42 (dk_at dksX2_init_1 19 rfl rfl)
theorem dX2_init_44 : decode cX2_init 44 = .ok (.lconst 0, 1) := dk_9 (dk_at dksX2_init_1 20 rfl rfl)
theorem dX2_init_45 : decode cX2_init 45 = .ok (.putfield 32, 3) := dk_181 0 32 (dk_at dksX2_init_1 21 rfl rfl)
theorem dX2_init_48 : decode cX2_init 48 = .ok (.aload_n 0, 1) := dk_42 (dk_at dksX2_init_2 0 rfl rfl)
theorem dX2_init_49 : decode cX2_init 49 = .ok (.iconst 5, 1) := dk_8 (dk_at dksX2_init_2 1 rfl rfl)
theorem dX2_init_50 : decode cX2_init 50 = .ok (.newarray .boolean, 2) := dk_188_4 (dk_at dksX2_init_2 2 rfl rfl)
theorem dX2_init_52 : decode cX2_init 52 = .ok (.putfield 36, 3) := dk_181 0 36 (dk_at dksX2_init_2 4 rfl rfl)
theorem dX2_init_55 : decode cX2_init 55 = .ok (.aload_n 0, 1) := dk_42 (dk_at dksX2_init_2 7 rfl rfl)
theorem dX2_init_56 : decode cX2_init 56 = .ok (.iconst 5, 1) := dk_8 (dk_at dksX2_init_2 8 rfl rfl)
theorem dX2_init_57 : decode cX2_init 57 = .ok (.newarray .int, 2) := dk_188_10 (dk_at dksX2_init_2 9 rfl rfl)
theorem dX2_init_59 : decode cX2_init 59 = .ok (.putfield 40, 3) := dk_181 0 40 (dk_at dksX2_init_2 11 rfl rfl)
theorem dX2_init_62 : decode cX2_init 62 = .ok (.aload_n 0, 1) := dk_42 (dk_at dksX2_init_2 14 rfl rfl)
theorem dX2_init_63 : decode cX2_init 63 = .ok (.iconst 5, 1) := dk_8 (dk_at dksX2_init_2 15 rfl rfl)
theorem dX2_init_64 : decode cX2_init 64 = .ok (.newarray .int, 2) := dk_188_10 (dk_at dksX2_init_2 16 rfl rfl)
theorem dX2_init_66 : decode cX2_init 66 = .ok (.putfield 43, 3) := dk_181 0 43 (dk_at dksX2_init_2 18 rfl rfl)
theorem dX2_init_69 : decode cX2_init 69 = .ok (.aload_n 0, 1) := dk_42 (dk_at dksX2_init_2 21 rfl rfl)
theorem dX2_init_70 : decode cX2_init 70 = .ok (.iconst 5, 1) := dk_8 (dk_at dksX2_init_2 22 rfl rfl)
theorem dX2_init_71 : decode cX2_init 71 = .ok (.newarray .int, 2) := dk_188_10 (dk_at dksX2_init_3 0 rfl rfl)
theorem dX2_init_73 : decode cX2_init 73 = .ok (.putfield 46, 3) := dk_181 0 46 (dk_at dksX2_init_3 2 rfl rfl)
theorem dX2_init_76 : decode cX2_init 76 = .ok (.aload_n 0, 1) := dk_42 (dk_at dksX2_init_3 5 rfl rfl)
theorem dX2_init_77 : decode cX2_init 77 = .ok (.iconst 5, 1) := dk_8 (dk_at dksX2_init_3 6 rfl rfl)
theorem dX2_init_78 : decode cX2_init 78 = .ok (.newarray .int, 2) := dk_188_10 (dk_at dksX2_init_3 7 rfl rfl)
theorem dX2_init_80 : decode cX2_init 80 = .ok (.putfield 49, 3) := dk_181 0 49 (dk_at dksX2_init_3 9 rfl rfl)
theorem dX2_init_83 : decode cX2_init 83 = .ok (.aload_n 0, 1) := dk_42 (dk_at dksX2_init_3 12 rfl rfl)
theorem dX2_init_84 : decode cX2_init 84 = .ok (.sipush 205, 3) := dk_17 0 205 (dk_at dksX2_init_3 13 rfl rfl)
theorem dX2_init_87 : decode cX2_init 87 = .ok (.newarray .int, 2) := dk_188_10 (dk_at dksX2_init_3 16 rfl rfl)
theorem dX2_init_89 : decode cX2_init 89 = .ok (.putfield 52, 3) := dk_181 0 52 (dk_at dksX2_init_3 18 rfl rfl)
theorem dX2_init_92 : decode cX2_init 92 = .ok (.aload_n 0, 1) := dk_42 (dk_at dksX2_init_3 21 rfl rfl)
theorem dX2_init_93 : decode cX2_init 93 = .ok (.sipush 205, 3) := dk_17 0 205 (dk_at dksX2_init_4 0 rfl rfl)
theorem dX2_init_96 : decode cX2_init 96 = .ok (.newarray .int, 2) := dk_188_10 (dk_at dksX2_init_4 3 rfl rfl)
theorem dX2_init_98 : decode cX2_init 98 = .ok (.putfield 55, 3) := dk_181 0 55 (dk_at dksX2_init_4 5 rfl rfl)
theorem dX2_init_101 : decode cX2_init 101 = .ok (.aload_n 0, 1) := dk_42 (dk_at dksX2_init_4 8 rfl rfl)
theorem dX2_init_102 : decode cX2_init 102 = .ok (.sipush 1200, 3) := dk_17 4 176 (dk_at dksX2_init_4 9 rfl rfl)
theorem dX2_init_105 : decode cX2_init 105 = .ok (.newarray .int, 2) := dk_188_10 (dk_at dksX2_init_4 12 rfl rfl)
theorem dX2_init_107 : decode cX2_init 107 = .ok (.putfield 58, 3) := dk_181 0 58 (dk_at dksX2_init_4 14 rfl rfl)
theorem dX2_init_110 : decode cX2_init 110 = .ok (.aload_n 0, 1) := dk_42 (dk_at dksX2_init_4 17 rfl rfl)
theorem dX2_init_111 : decode cX2_init 111 = .ok (.sipush 1200, 3) := dk_17 4 176 (dk_at dksX2_init_4 18 rfl rfl)
theorem dX2_init_114 : decode cX2_init 114 = .ok (.newarray .int, 2) := dk_188_10 (dk_at dksX2_init_4 21 rfl rfl)
theorem dX2_init_116 : decode cX2_init 116 = .ok (.putfield 61, 3) := dk_181 0 61 (dk_at dksX2_init_5 0 rfl rfl)
theorem dX2_init_119 : decode cX2_init 119 = .ok (.aload_n 0, 1) := dk_42 (dk_at dksX2_init_5 3 rfl rfl)
theorem dX2_init_120 : decode cX2_init 120 = .ok (.sipush 1200, 3) := dk_17 4 176 (dk_at dksX2_init_5 4 rfl rfl)
theorem dX2_init_123 : decode cX2_init 123 = .ok (.newarray .int, 2) := dk_188_10 (dk_at dksX2_init_5 7 rfl rfl)
theorem dX2_init_125 : decode cX2_init 125 = .ok (.putfield 64, 3) := dk_181 0 64 (dk_at dksX2_init_5 9 rfl rfl)
theorem dX2_init_128 : decode cX2_init 128 = .ok (.aload_n 0, 1) := dk_42 (dk_at dksX2_init_5 12 rfl rfl)
theorem dX2_init_129 : decode cX2_init 129 = .ok (.sipush 1200, 3) := dk_17 4 176 (dk_at dksX2_init_5 13 rfl rfl)
theorem dX2_init_132 : decode cX2_init 132 = .ok (.newarray .int, 2) := dk_188_10 (dk_at dksX2_init_5 16 rfl rfl)
theorem dX2_init_134 : decode cX2_init 134 = .ok (.putfield 67, 3) := dk_181 0 67 (dk_at dksX2_init_5 18 rfl rfl)
theorem dX2_init_137 : decode cX2_init 137 = .ok (.aload_n 0, 1) := dk_42 (dk_at dksX2_init_5 21 rfl rfl)
theorem dX2_init_138 : decode cX2_init 138 = .ok (.sipush 1200, 3) := dk_17 4 176 (dk_at dksX2_init_6 0 rfl rfl)
theorem dX2_init_141 : decode cX2_init 141 = .ok (.newarray .int, 2) := dk_188_10 (dk_at dksX2_init_6 3 rfl rfl)
theorem dX2_init_143 : decode cX2_init 143 = .ok (.putfield 70, 3) := dk_181 0 70 (dk_at dksX2_init_6 5 rfl rfl)
theorem dX2_init_146 : decode cX2_init 146 = .ok (.aload_n 0, 1) := dk_42 (dk_at dksX2_init_6 8 rfl rfl)
theorem dX2_init_147 : decode cX2_init 147 = .ok (.sipush 1200, 3) := dk_17 4 176 (dk_at dksX2_init_6 9 rfl rfl)
theorem dX2_init_150 : decode cX2_init 150 = .ok (.newarray .int, 2) := dk_188_10 (dk_at dksX2_init_6 12 rfl rfl)
theorem dX2_init_152 : decode cX2_init 152 = .ok (.putfield 73, 3) := dk_181 0 73 (dk_at dksX2_init_6 14 rfl rfl)
theorem dX2_init_155 : decode cX2_init 155 = .ok (.aload_n 0, 1) := dk_42 (dk_at dksX2_init_6 17 rfl rfl)
theorem dX2_init_156 : decode cX2_init 156 = .ok (.sipush 1200, 3) := dk_17 4 176 (dk_at dksX2_init_6 18 rfl rfl)
theorem dX2_init_159 : decode cX2_init 159 = .ok (.newarray .int, 2) := dk_188_10 (dk_at dksX2_init_6 21 rfl rfl)
theorem dX2_init_161 : decode cX2_init 161 = .ok (.putfield 76, 3) := dk_181 0 76 (dk_at dksX2_init_7 0 rfl rfl)
theorem dX2_init_164 : decode cX2_init 164 = .ok (.aload_n 0, 1) := dk_42 (dk_at dksX2_init_7 3 rfl rfl)
theorem dX2_init_165 : decode cX2_init 165 = .ok (.sipush 1200, 3) := dk_17 4 176 (dk_at dksX2_init_7 4 rfl rfl)
theorem dX2_init_168 : decode cX2_init 168 = .ok (.newarray .int, 2) := dk_188_10 (dk_at dksX2_init_7 7 rfl rfl)
theorem dX2_init_170 : decode cX2_init 170 = .ok (.putfield 79, 3) := dk_181 0 79 (dk_at dksX2_init_7 9 rfl rfl)
theorem dX2_init_173 : decode cX2_init 173 = .ok (.aload_n 0, 1) := dk_42 (dk_at dksX2_init_7 12 rfl rfl)
theorem dX2_init_174 : decode cX2_init 174 = .ok (.sipush 1200, 3) := dk_17 4 176 (dk_at dksX2_init_7 13 rfl rfl)
theorem dX2_init_177 : decode cX2_init 177 = .ok (.newarray .int, 2) := dk_188_10 (dk_at dksX2_init_7 16 rfl rfl)
theorem dX2_init_179 : decode cX2_init 179 = .ok (.putfield 82, 3) := dk_181 0 82 (dk_at dksX2_init_7 18 rfl rfl)
theorem dX2_init_182 : decode cX2_init 182 = .ok (.aload_n 0, 1) := dk_42 (dk_at dksX2_init_7 21 rfl rfl)
theorem dX2_init_183 : decode cX2_init 183 = .ok (.sipush 1200, 3) := dk_17 4 176 (dk_at dksX2_init_8 0 rfl rfl)
theorem dX2_init_186 : decode cX2_init 186 = .ok (.newarray .int, 2) := dk_188_10 (dk_at dksX2_init_8 3 rfl rfl)
theorem dX2_init_188 : decode cX2_init 188 = .ok (.putfield 85, 3) := dk_181 0 85 (dk_at dksX2_init_8 5 rfl rfl)
theorem dX2_init_191 : decode cX2_init 191 = .ok (.aload_n 0, 1) := dk_42 (dk_at dksX2_init_8 8 rfl rfl)
theorem dX2_init_192 : decode cX2_init 192 = .ok (.sipush 1200, 3) := dk_17 4 176 (dk_at dksX2_init_8 9 rfl rfl)
theorem dX2_init_195 : decode cX2_init 195 = .ok (.newarray .int, 2) := dk_188_10 (dk_at dksX2_init_8 12 rfl rfl)
theorem dX2_init_197 : decode cX2_init 197 = .ok (.putfield 88, 3) := dk_181 0 88 (dk_at dksX2_init_8 14 rfl rfl)
theorem dX2_init_200 : decode cX2_init 200 = .ok (.aload_n 0, 1) := dk_42 (dk_at dksX2_init_8 17 rfl rfl)
theorem dX2_init_201 : decode cX2_init 201 = .ok (.sipush 160, 3) := dk_17 0 160 (dk_at dksX2_init_8 18 rfl rfl)
theorem dX2_init_204 : decode cX2_init 204 = .ok (.newarray .int, 2) := dk_188_10 (dk_at dksX2_init_8 21 rfl rfl)
theorem dX2_init_206 : decode cX2_init 206 = .ok (.putfield 91, 3) := dk_181 0 91 (dk_at dksX2_init_9 0 rfl rfl)
theorem dX2_init_209 : decode cX2_init 209 = .ok (.aload_n 0, 1) := dk_42 (dk_at dksX2_init_9 3 rfl rfl)
theorem dX2_init_210 : decode cX2_init 210 = .ok (.sipush 160, 3) := dk_17 0 160 (dk_at dksX2_init_9 4 rfl rfl)
theorem dX2_init_213 : decode cX2_init 213 = .ok (.newarray .int, 2) := dk_188_10 (dk_at dksX2_init_9 7 rfl rfl)
theorem dX2_init_215 : decode cX2_init 215 = .ok (.putfield 94, 3) := dk_181 0 94 (dk_at dksX2_init_9 9 rfl rfl)
theorem dX2_init_218 : decode cX2_init 218 = .ok (.aload_n 0, 1) := dk_42 (dk_at dksX2_init_9 12 rfl rfl)
theorem dX2_init_219 : decode cX2_init 219 = .ok (.sipush 160, 3) := dk_17 0 160 (dk_at dksX2_init_9 13 rfl rfl)
theorem dX2_init_222 : decode cX2_init 222 = .ok (.newarray .int, 2) := dk_188_10 (dk_at dksX2_init_9 16 rfl rfl)
theorem dX2_init_224 : decode cX2_init 224 = .ok (.putfield 97, 3) := dk_181 0 97 (dk_at dksX2_init_9 18 rfl rfl)
theorem dX2_init_227 : decode cX2_init 227 = .ok (.aload_n 0, 1) := dk_42 (dk_at dksX2_init_9 21 rfl rfl)
theorem dX2_init_228 : decode cX2_init 228 = .ok (.sipush 160, 3) := dk_17 0 160 (dk_at dksX2_init_10 0 rfl rfl)
theorem dX2_init_231 : decode cX2_init 231 = .ok (.newarray .int, 2) := dk_188_10 (dk_at dksX2_init_10 3 rfl rfl)
theorem dX2_init_233 : decode cX2_init 233 = .ok (.putfield 100, 3) := dk_181 0 100 (dk_at dksX2_init_10 5 rfl rfl)
theorem dX2_init_236 : decode cX2_init 236 = .ok (.aload_n 0, 1) := dk_42 (dk_at dksX2_init_10 8 rfl rfl)
theorem dX2_init_237 : decode cX2_init 237 = .ok (.sipush 160, 3) := dk_17 0 160 (dk_at dksX2_init_10 9 rfl rfl)
theorem dX2_init_240 : decode cX2_init 240 = .ok (.newarray .int, 2) := dk_188_10 (dk_at dksX2_init_10 12 rfl rfl)
theorem dX2_init_242 : decode cX2_init 242 = .ok (.putfield 103, 3) := dk_181 0 103 (dk_at dksX2_init_10 14 rfl rfl)
theorem dX2_init_245 : decode cX2_init 245 = .ok (.aload_n 0, 1) := dk_42 (dk_at dksX2_init_10 17 rfl rfl)
theorem dX2_init_246 : decode cX2_init 246 = .ok (.ldc 106, 2) := dk_18 106 (dk_at dksX2_init_10 18 rfl rfl)
theorem dX2_init_248 : decode cX2_init 248 = .ok (.newarray .int, 2) := dk_188_10 (dk_at dksX2_init_10 20 rfl rfl)
theorem dX2_init_250 : decode cX2_init 250 = .ok (.putfield 107, 3) := dk_181 0 107 (dk_at dksX2_init_11 0 rfl rfl)
theorem dX2_init_253 : decode cX2_init 253 = .ok (.aload_n 0, 1) := dk_42 (dk_at dksX2_init_11 3 rfl rfl)
theorem dX2_init_254 : decode cX2_init 254 = .ok (.iconst 0, 1) := dk_3 (dk_at dksX2_init_11 4 rfl rfl)
theorem dX2_init_255 : decode cX2_init 255 = .ok (.putfield 110, 3) := dk_181 0 110 (dk_at dksX2_init_11 5 rfl rfl)
theorem dX2_init_258 : decode cX2_init 258 = .ok (.aload_n 0, 1) := dk_42 (dk_at dksX2_init_11 8 rfl rfl)
theorem dX2_init_259 : decode cX2_init 259 = .ok (.iconst 0, 1) := dk_3 (dk_at dksX2_init_11 9 rfl rfl)
theorem dX2_init_260 : decode cX2_init 260 = .ok (.putfield 113, 3) := dk_181 0 113 (dk_at dksX2_init_11 10 rfl rfl)
theorem dX2_init_263 : decode cX2_init 263 = .ok (.aload_n 0, 1) := dk_42 (dk_at dksX2_init_11 13 rfl rfl)
theorem dX2_init_264 : decode cX2_init 264 = .ok (.iconst 0, 1) := dk_3 (dk_at dksX2_init_11 14 rfl rfl)
theorem dX2_init_265 : decode cX2_init 265 = .ok (.putfield 116, 3) := dk_181 0 116 (dk_at dksX2_init_11 15 rfl rfl)
theorem dX2_init_268 : decode cX2_init 268 = .ok (.aload_n 0, 1) := dk_42 (dk_at dksX2_init_11 18 rfl rfl)
theorem dX2_init_269 : decode cX2_init 269 = .ok (.iconst 0, 1) := dk_3 (dk_at dksX2_init_11 19 rfl rfl)
theorem dX2_init_270 : decode cX2_init 270 = .ok (.putfield 119, 3) := dk_181 0 119 (dk_at dksX2_init_11 20 rfl rfl)
theorem dX2_init_273 : decode cX2_init 273 = .ok (.aload_n 0, 1) := dk_42 (dk_at dksX2_init_11 23 rfl rfl)
theorem dX2_init_274 : decode cX2_init 274 = .ok (.iconst 0, 1) := dk_3 (dk_at dksX2_init_12 0 rfl rfl)
theorem dX2_init_275 : decode cX2_init 275 = .ok (.putfield 122, 3) := dk_181 0 122 (dk_at dksX2_init_12 1 rfl rfl)
theorem dX2_init_278 : decode cX2_init 278 = .ok (.aload_n 0, 1) := dk_42 (dk_at dksX2_init_12 4 rfl rfl)
theorem dX2_init_279 : decode cX2_init 279 = .ok (.iconst 0, 1) := dk_3 (dk_at dksX2_init_12 5 rfl rfl)
theorem dX2_init_280 : decode cX2_init 280 = .ok (.putfield 125, 3) := dk_181 0 125 (dk_at dksX2_init_12 6 rfl rfl)
theorem dX2_init_283 : decode cX2_init 283 = .ok (.aload_n 0, 1) := dk_42 (dk_at dksX2_init_12 9 rfl rfl)
theorem dX2_init_284 : decode cX2_init 284 = .ok (.iconst 0, 1) := dk_3 (dk_at dksX2_init_12 10 rfl rfl)
theorem dX2_init_285 : decode cX2_init 285 = .ok (.putfield 128, 3) := dk_181 0 128 (dk_at dksX2_init_12 11 rfl rfl)
theorem dX2_init_288 : decode cX2_init 288 = .ok (.aload_n 0, 1) := dk_42 (dk_at dksX2_init_12 14 rfl rfl)
theorem dX2_init_289 : decode cX2_init 289 = .ok (.sipush 200, 3) := dk_17 0 200 (dk_at dksX2_init_12 15 rfl rfl)
theorem dX2_init_292 : decode cX2_init 292 = .ok (.newarray .int, 2) := dk_188_10 (dk_at dksX2_init_12 18 rfl rfl)
theorem dX2_init_294 : decode cX2_init 294 = .ok (.putfield 132, 3) := dk_181 0 132 (dk_at dksX2_init_12 20 rfl rfl)
theorem dX2_init_297 : decode cX2_init 297 = .ok (.aload_n 0, 1) := dk_42 (dk_at dksX2_init_12 23 rfl rfl)
theorem dX2_init_298 : decode cX2_init 298 = .ok (.sipush 200, 3) := dk_17 0 200 (dk_at dksX2_init_13 0 rfl rfl)
theorem dX2_init_301 : decode cX2_init 301 = .ok (.newarray .int, 2) := dk_188_10 (dk_at dksX2_init_13 3 rfl rfl)
theorem dX2_init_303 : decode cX2_init 303 = .ok (.putfield 135, 3) := dk_181 0 135 (dk_at dksX2_init_13 5 rfl rfl)
theorem dX2_init_306 : decode cX2_init 306 = .ok (.aload_n 0, 1) := dk_42 (dk_at dksX2_init_13 8 rfl rfl)
theorem dX2_init_307 : decode cX2_init 307 = .ok (.iconst 0, 1) := dk_3 (dk_at dksX2_init_13 9 rfl rfl)
theorem dX2_init_308 : decode cX2_init 308 = .ok (.putfield 138, 3) := dk_181 0 138 (dk_at dksX2_init_13 10 rfl rfl)
theorem dX2_init_311 : decode cX2_init 311 = .ok (.aload_n 0, 1) := dk_42 (dk_at dksX2_init_13 13 rfl rfl)
theorem dX2_init_312 : decode cX2_init 312 = .ok (.bipush 40, 2) := dk_16 40 (dk_at dksX2_init_13 14 rfl rfl)
theorem dX2_init_314 : decode cX2_init 314 = .ok (.newarray .boolean, 2) := dk_188_4 (dk_at dksX2_init_13 16 rfl rfl)
theorem dX2_init_316 : decode cX2_init 316 = .ok (.putfield 141, 3) := dk_181 0 141 (dk_at dksX2_init_13 18 rfl rfl)
theorem dX2_init_319 : decode cX2_init 319 = .ok (.aload_n 0, 1) := dk_42 (dk_at dksX2_init_13 21 rfl rfl)
theorem dX2_init_320 : decode cX2_init 320 = .ok (.bipush 40, 2) := dk_16 40 (dk_at dksX2_init_13 22 rfl rfl)
theorem dX2_init_322 : decode cX2_init 322 = .ok (.newarray .int, 2) := dk_188_10 (dk_at dksX2_init_14 0 rfl rfl)
theorem dX2_init_324 : decode cX2_init 324 = .ok (.putfield 144, 3) := dk_181 0 144 (dk_at dksX2_init_14 2 rfl rfl)
theorem dX2_init_327 : decode cX2_init 327 = .ok (.aload_n 0, 1) := dk_42 (dk_at dksX2_init_14 5 rfl rfl)
theorem dX2_init_328 : decode cX2_init 328 = .ok (.sipush 240, 3) := dk_17 0 240 (dk_at dksX2_init_14 6 rfl rfl)
theorem dX2_init_331 : decode cX2_init 331 = .ok (.newarray .boolean, 2) := dk_188_4 (dk_at dksX2_init_14 9 rfl rfl)
theorem dX2_init_333 : decode cX2_init 333 = .ok (.putfield 147, 3) := dk_181 0 147 (dk_at dksX2_init_14 11 rfl rfl)
theorem dX2_init_336 : decode cX2_init 336 = .ok (.aload_n 0, 1) := dk_42 (dk_at dksX2_init_14 14 rfl rfl)
theorem dX2_init_337 : decode cX2_init 337 = .ok (.bipush 48, 2) := dk_16 48 (dk_at dksX2_init_14 15 rfl rfl)
theorem dX2_init_339 : decode cX2_init 339 = .ok (.newarray .int, 2) := dk_188_10 (dk_at dksX2_init_14 17 rfl rfl)
theorem dX2_init_341 : decode cX2_init 341 = .ok (.putfield 150, 3) := dk_181 0 150 (dk_at dksX2_init_14 19 rfl rfl)
theorem dX2_init_344 : decode cX2_init 344 = .ok (.aload_n 0, 1) := dk_42 (dk_at dksX2_init_14 22 rfl rfl)
theorem dX2_init_345 : decode cX2_init 345 = .ok (.bipush 48, 2) := dk_16 48 (dk_at dksX2_init_15 0 rfl rfl)
theorem dX2_init_347 : decode cX2_init 347 = .ok (.newarray .int, 2) := dk_188_10 (dk_at dksX2_init_15 2 rfl rfl)
theorem dX2_init_349 : decode cX2_init 349 = .ok (.putfield 153, 3) := dk_181 0 153 (dk_at dksX2_init_15 4 rfl rfl)
theorem dX2_init_352 : decode cX2_init 352 = .ok (.aload_n 0, 1) := dk_42 (dk_at dksX2_init_15 7 rfl rfl)
theorem dX2_init_353 : decode cX2_init 353 = .ok (.bipush 16, 2) := dk_16 16 (dk_at dksX2_init_15 8 rfl rfl)
theorem dX2_init_355 : decode cX2_init 355 = .ok (.newarray .int, 2) := dk_188_10 (dk_at dksX2_init_15 10 rfl rfl)
theorem dX2_init_357 : decode cX2_init 357 = .ok (.putfield 156, 3) := dk_181 0 156 (dk_at dksX2_init_15 12 rfl rfl)
theorem dX2_init_360 : decode cX2_init 360 = .ok (.aload_n 0, 1) := dk_42 (dk_at dksX2_init_15 15 rfl rfl)
theorem dX2_init_361 : decode cX2_init 361 = .ok (.bipush 32, 2) := dk_16 32 (dk_at dksX2_init_15 16 rfl rfl)
theorem dX2_init_363 : decode cX2_init 363 = .ok (.newarray .int, 2) := dk_188_10 (dk_at dksX2_init_15 18 rfl rfl)
theorem dX2_init_365 : decode cX2_init 365 = .ok (.putfield 159, 3) := dk_181 0 159 (dk_at dksX2_init_15 20 rfl rfl)
theorem dX2_init_368 : decode cX2_init 368 = .ok (.aload_n 0, 1) := dk_42 (dk_at dksX2_init_15 23 rfl rfl)
theorem dX2_init_369 : decode cX2_init 369 = .ok (.bipush 32, 2) := dk_16 32 (dk_at dksX2_init_16 0 rfl rfl)
theorem dX2_init_371 : decode cX2_init 371 = .ok (.newarray .int, 2) := dk_188_10 (dk_at dksX2_init_16 2 rfl rfl)
theorem dX2_init_373 : decode cX2_init 373 = .ok (.putfield 162, 3) := dk_181 0 162 (dk_at dksX2_init_16 4 rfl rfl)
theorem dX2_init_376 : decode cX2_init 376 = .ok (.aload_n 0, 1) := dk_42 (dk_at dksX2_init_16 7 rfl rfl)
theorem dX2_init_377 : decode cX2_init 377 = .ok (.bipush 100, 2) := dk_16 100 (dk_at dksX2_init_16 8 rfl rfl)
theorem dX2_init_379 : decode cX2_init 379 = .ok (.newarray .int, 2) := dk_188_10 (dk_at dksX2_init_16 10 rfl rfl)
theorem dX2_init_381 : decode cX2_init 381 = .ok (.putfield 165, 3) := dk_181 0 165 (dk_at dksX2_init_16 12 rfl rfl)
theorem dX2_init_384 : decode cX2_init 384 = .ok (.aload_n 0, 1) := dk_42 (dk_at dksX2_init_16 15 rfl rfl)
theorem dX2_init_385 : decode cX2_init 385 = .ok (.iconst 0, 1) := dk_3 (dk_at dksX2_init_16 16 rfl rfl)
theorem dX2_init_386 : decode cX2_init 386 = .ok (.putfield 168, 3) := dk_181 0 168 (dk_at dksX2_init_16 17 rfl rfl)
theorem dX2_init_389 : decode cX2_init 389 = .ok (.aload_n 0, 1) := dk_42 (dk_at dksX2_init_16 20 rfl rfl)
theorem dX2_init_390 : decode cX2_init 390 = .ok (.iconst 0, 1) := dk_3 (dk_at dksX2_init_16 21 rfl rfl)
theorem dX2_init_391 : decode cX2_init 391 = .ok (.putfield 171, 3) := dk_181 0 171 (dk_at dksX2_init_17 0 rfl rfl)
theorem dX2_init_394 : decode cX2_init 394 = .ok (.aload_n 0, 1) := dk_42 (dk_at dksX2_init_17 3 rfl rfl)
theorem dX2_init_395 : decode cX2_init 395 = .ok (.iconst 0, 1) := dk_3 (dk_at dksX2_init_17 4 rfl rfl)
theorem dX2_init_396 : decode cX2_init 396 = .ok (.putfield 174, 3) := dk_181 0 174 (dk_at dksX2_init_17 5 rfl rfl)
theorem dX2_init_399 : decode cX2_init 399 = .ok (.aload_n 0, 1) := dk_42 (dk_at dksX2_init_17 8 rfl rfl)
theorem dX2_init_400 : decode cX2_init 400 = .ok (.iconst 0, 1) := dk_3 (dk_at dksX2_init_17 9 rfl rfl)
theorem dX2_init_401 : decode cX2_init 401 = .ok (.putfield 177, 3) := dk_181 0 177 (dk_at dksX2_init_17 10 rfl rfl)
theorem dX2_init_404 : decode cX2_init 404 = .ok (.aload_n 0, 1) := dk_42 (dk_at dksX2_init_17 13 rfl rfl)
theorem dX2_init_405 : decode cX2_init 405 = .ok (.iconst 0, 1) := dk_3 (dk_at dksX2_init_17 14 rfl rfl)
theorem dX2_init_406 : decode cX2_init 406 = .ok (.putfield 180, 3) := dk_181 0 180 (dk_at dksX2_init_17 15 rfl rfl)
theorem dX2_init_409 : decode cX2_init 409 = .ok (.aload_n 0, 1) := dk_42 (dk_at dksX2_init_17 18 rfl rfl)
theorem dX2_init_410 : decode cX2_init 410 = .ok (.iconst 0, 1) := dk_3 (dk_at dksX2_init_17 19 rfl rfl)
theorem dX2_init_411 : decode cX2_init 411 = .ok (.putfield 183, 3) := dk_181 0 183 (dk_at dksX2_init_17 20 rfl rfl)
theorem dX2_init_414 : decode cX2_init 414 = .ok (.aload_n 0, 1) := dk_42 (dk_at dksX2_init_17 23 rfl rfl)
theorem dX2_init_415 : decode cX2_init 415 = .ok (.iconst 5, 1) := dk_8 (dk_at dksX2_init_18 0 rfl rfl)
theorem dX2_init_416 : decode cX2_init 416 = .ok (.newarray .int, 2) := dk_188_10 (dk_at dksX2_init_18 1 rfl rfl)
theorem dX2_init_418 : decode cX2_init 418 = .ok (.putfield 186, 3) := dk_181 0 186 (dk_at dksX2_init_18 3 rfl rfl)
theorem dX2_init_421 : decode cX2_init 421 = .ok (.aload_n 0, 1) := dk_42 (dk_at dksX2_init_18 6 rfl rfl)
theorem dX2_init_422 : decode cX2_init 422 = .ok (.sipush 300, 3) := dk_17 1 44 (dk_at dksX2_init_18 7 rfl rfl)
theorem dX2_init_425 : decode cX2_init 425 = .ok (.newarray .int, 2) := dk_188_10 (dk_at dksX2_init_18 10 rfl rfl)
theorem dX2_init_427 : decode cX2_init 427 = .ok (.putfield 189, 3) := dk_181 0 189 (dk_at dksX2_init_18 12 rfl rfl)
theorem dX2_init_430 : decode cX2_init 430 = .ok (.aload_n 0, 1) := dk_42 (dk_at dksX2_init_18 15 rfl rfl)
theorem dX2_init_431 : decode cX2_init 431 = .ok (.ldc 192, 2) := dk_18 192 (dk_at dksX2_init_18 16 rfl rfl)
theorem dX2_init_433 : decode cX2_init 433 = .ok (.newarray .int, 2) := dk_188_10 (dk_at dksX2_init_18 18 rfl rfl)
theorem dX2_init_435 : decode cX2_init 435 = .ok (.putfield 193, 3) := dk_181 0 193 (dk_at dksX2_init_18 20 rfl rfl)
theorem dX2_init_438 : decode cX2_init 438 = .ok (.aload_n 0, 1) := dk_42 (dk_at dksX2_init_18 23 rfl rfl)
theorem dX2_init_439 : decode cX2_init 439 = .ok (.iconst 0, 1) := dk_3 (dk_at dksX2_init_19 0 rfl rfl)
theorem dX2_init_440 : decode cX2_init 440 = .ok (.putfield 196, 3) := dk_181 0 196 (dk_at dksX2_init_19 1 rfl rfl)
theorem dX2_init_443 : decode cX2_init 443 = .ok (.aload_n 0, 1) := dk_42 (dk_at dksX2_init_19 4 rfl rfl)
theorem dX2_init_444 : decode cX2_init 444 = .ok (.sipush 240, 3) := dk_17 0 240 (dk_at dksX2_init_19 5 rfl rfl)
theorem dX2_init_447 : decode cX2_init 447 = .ok (.newarray .int, 2) := dk_188_10 (dk_at dksX2_init_19 8 rfl rfl)
theorem dX2_init_449 : decode cX2_init 449 = .ok (.putfield 199, 3) := dk_181 0 199 (dk_at dksX2_init_19 10 rfl rfl)
theorem dX2_init_452 : decode cX2_init 452 = .ok (.return_, 1) := dk_177 (dk_at dksX2_init_19 13 rfl rfl)
abbrev cX2_feed : ByteArray := prog_24_method_2_code
def yX2_feed : MethodName := ⟨RX2, "feed", "(JI)I"⟩
def dkwX2_feed_3 : List UInt8 := [132, 4, 255, 167, 255, 217, 42, 180, 0, 13, 172]
abbrev dktX2_feed_3 : List UInt8 := dkwX2_feed_3 ++ []
def dkwX2_feed_2 : List UInt8 := [31, 16, 8, 21, 4, 104, 123, 20, 0, 202, 127, 136, 79, 42, 89, 180, 0, 13, 4, 96, 181, 0, 13]
abbrev dktX2_feed_2 : List UInt8 := dkwX2_feed_2 ++ dktX2_feed_3
def dkwX2_feed_1 : List UInt8 := [164, 0, 6, 16, 253, 172, 29, 4, 100, 54, 4, 21, 4, 155, 0, 40, 42, 180, 0, 7, 42, 180, 0, 13]
abbrev dktX2_feed_1 : List UInt8 := dkwX2_feed_1 ++ dktX2_feed_2
def dkwX2_feed_0 : List UInt8 := [29, 4, 161, 0, 9, 29, 16, 8, 164, 0, 6, 16, 254, 172, 42, 180, 0, 13, 29, 96, 17, 11, 184]
abbrev dktX2_feed_0 : List UInt8 := dkwX2_feed_0 ++ dktX2_feed_1
theorem dksX2_feed_0 : cX2_feed.data.toList.drop 0 = dktX2_feed_0 := by decide +kernel
theorem dksX2_feed_1 : cX2_feed.data.toList.drop 23 = dktX2_feed_1 := dk_seg dksX2_feed_0 23 rfl rfl
theorem dksX2_feed_2 : cX2_feed.data.toList.drop 47 = dktX2_feed_2 := dk_seg dksX2_feed_1 24 rfl rfl
theorem dksX2_feed_3 : cX2_feed.data.toList.drop 70 = dktX2_feed_3 := dk_seg dksX2_feed_2 23 rfl rfl
theorem dX2_feed_0 : decode cX2_feed 0 = .ok (.iload_n 3, 1) := dk_29 (dk_at dksX2_feed_0 0 rfl rfl)
theorem dX2_feed_1 : decode cX2_feed 1 = .ok (.iconst 1, 1) := dk_4 (dk_at dksX2_feed_0 1 rfl rfl)
theorem dX2_feed_2 : decode cX2_feed 2 = .ok (.if_icmp .lt 9, 3) := dk_161 0 9 (dk_at dksX2_feed_0 2 rfl rfl)
theorem dX2_feed_5 : decode cX2_feed 5 = .ok (.iload_n 3, 1) := dk_29 (dk_at dksX2_feed_0 5 rfl rfl)
theorem dX2_feed_6 : decode cX2_feed 6 = .ok (.bipush 8, 2) := dk_16 8 (dk_at dksX2_feed_0 6 rfl rfl)
theorem dX2_feed_8 : decode cX2_feed 8 = .ok (.if_icmp .le 6, 3) := dk_164 0 6 (dk_at dksX2_feed_0 8 rfl rfl)
theorem dX2_feed_11 : decode cX2_feed 11 = .ok (.bipush (-2), 2) := dk_16 254 (dk_at dksX2_feed_0 11 rfl rfl)
theorem dX2_feed_13 : decode cX2_feed 13 = .ok (.ireturn, 1) := dk_172 (dk_at dksX2_feed_0 13 rfl rfl)
theorem dX2_feed_14 : decode cX2_feed 14 = .ok (.aload_n 0, 1) := dk_42 (dk_at dksX2_feed_0 14 rfl rfl)
theorem dX2_feed_15 : decode cX2_feed 15 = .ok (.getfield 13, 3) := dk_180 0 13 (dk_at dksX2_feed_0 15 rfl rfl)
theorem dX2_feed_18 : decode cX2_feed 18 = .ok (.iload_n 3, 1) := dk_29 (dk_at dksX2_feed_0 18 rfl rfl)
theorem dX2_feed_19 : decode cX2_feed 19 = .ok (.iadd, 1) := dk_96 (dk_at dksX2_feed_0 19 rfl rfl)
theorem dX2_feed_20 : decode cX2_feed 20 = .ok (.sipush 3000, 3) := dk_17 11 184 (dk_at dksX2_feed_0 20 rfl rfl)
theorem dX2_feed_23 : decode cX2_feed 23 = .ok (.if_icmp .le 6, 3) := dk_164 0 6 (dk_at dksX2_feed_1 0 rfl rfl)
theorem dX2_feed_26 : decode cX2_feed 26 = .ok (.bipush (-3), 2) := dk_16 253 (dk_at dksX2_feed_1 3 rfl rfl)
theorem dX2_feed_28 : decode cX2_feed 28 = .ok (.ireturn, 1) := dk_172 (dk_at dksX2_feed_1 5 rfl rfl)
theorem dX2_feed_29 : decode cX2_feed 29 = .ok (.iload_n 3, 1) := dk_29 (dk_at dksX2_feed_1 6 rfl rfl)
theorem dX2_feed_30 : decode cX2_feed 30 = .ok (.iconst 1, 1) := dk_4 (dk_at dksX2_feed_1 7 rfl rfl)
theorem dX2_feed_31 : decode cX2_feed 31 = .ok (.isub, 1) := dk_100 (dk_at dksX2_feed_1 8 rfl rfl)
theorem dX2_feed_32 : decode cX2_feed 32 = .ok (.istore 4, 2) := dk_54 4 (dk_at dksX2_feed_1 9 rfl rfl)
theorem dX2_feed_34 : decode cX2_feed 34 = .ok (.iload 4, 2) := dk_21 4 (dk_at dksX2_feed_1 11 rfl rfl)
theorem dX2_feed_36 : decode cX2_feed 36 = .ok (.ifCond .lt 40, 3) := dk_155 0 40 (dk_at dksX2_feed_1 13 rfl rfl)
theorem dX2_feed_39 : decode cX2_feed 39 = .ok (.aload_n 0, 1) := dk_42 (dk_at dksX2_feed_1 16 rfl rfl)
theorem dX2_feed_40 : decode cX2_feed 40 = .ok (.getfield 7, 3) := dk_180 0 7 (dk_at dksX2_feed_1 17 rfl rfl)
theorem dX2_feed_43 : decode cX2_feed 43 = .ok (.aload_n 0, 1) := dk_42 (dk_at dksX2_feed_1 20 rfl rfl)
theorem dX2_feed_44 : decode cX2_feed 44 = .ok (.getfield 13, 3) := dk_180 0 13 (dk_at dksX2_feed_1 21 rfl rfl)
theorem dX2_feed_47 : decode cX2_feed 47 = .ok (.lload_n 1, 1) := dk_31 (dk_at dksX2_feed_2 0 rfl rfl)
theorem dX2_feed_48 : decode cX2_feed 48 = .ok (.bipush 8, 2) := dk_16 8 (dk_at dksX2_feed_2 1 rfl rfl)
theorem dX2_feed_50 : decode cX2_feed 50 = .ok (.iload 4, 2) := dk_21 4 (dk_at dksX2_feed_2 3 rfl rfl)
theorem dX2_feed_52 : decode cX2_feed 52 = .ok (.imul, 1) := dk_104 (dk_at dksX2_feed_2 5 rfl rfl)
theorem dX2_feed_53 : decode cX2_feed 53 = .ok (.lshr, 1) := dk_123 (dk_at dksX2_feed_2 6 rfl rfl)
theorem dX2_feed_54 : decode cX2_feed 54 = .ok (.ldc2_w 202, 3) := dk_20 0 202 (dk_at dksX2_feed_2 7 rfl rfl)
theorem dX2_feed_57 : decode cX2_feed 57 = .ok (.land, 1) := dk_127 (dk_at dksX2_feed_2 10 rfl rfl)
theorem dX2_feed_58 : decode cX2_feed 58 = .ok (.l2i, 1) := dk_136 (dk_at dksX2_feed_2 11 rfl rfl)
theorem dX2_feed_59 : decode cX2_feed 59 = .ok (.iastore, 1) := dk_79 (dk_at dksX2_feed_2 12 rfl rfl)
theorem dX2_feed_60 : decode cX2_feed 60 = .ok (.aload_n 0, 1) := dk_42 (dk_at dksX2_feed_2 13 rfl rfl)
theorem dX2_feed_61 : decode cX2_feed 61 = .ok (.dup, 1) := dk_89 (dk_at dksX2_feed_2 14 rfl rfl)
theorem dX2_feed_62 : decode cX2_feed 62 = .ok (.getfield 13, 3) := dk_180 0 13 (dk_at dksX2_feed_2 15 rfl rfl)
theorem dX2_feed_65 : decode cX2_feed 65 = .ok (.iconst 1, 1) := dk_4 (dk_at dksX2_feed_2 18 rfl rfl)
theorem dX2_feed_66 : decode cX2_feed 66 = .ok (.iadd, 1) := dk_96 (dk_at dksX2_feed_2 19 rfl rfl)
theorem dX2_feed_67 : decode cX2_feed 67 = .ok (.putfield 13, 3) := dk_181 0 13 (dk_at dksX2_feed_2 20 rfl rfl)
theorem dX2_feed_70 : decode cX2_feed 70 = .ok (.iinc 4 (-1), 3) := dk_132 4 255 (dk_at dksX2_feed_3 0 rfl rfl)
theorem dX2_feed_73 : decode cX2_feed 73 = .ok (.goto (-39), 3) := dk_167 255 217 (dk_at dksX2_feed_3 3 rfl rfl)
theorem dX2_feed_76 : decode cX2_feed 76 = .ok (.aload_n 0, 1) := dk_42 (dk_at dksX2_feed_3 6 rfl rfl)
theorem dX2_feed_77 : decode cX2_feed 77 = .ok (.getfield 13, 3) := dk_180 0 13 (dk_at dksX2_feed_3 7 rfl rfl)
theorem dX2_feed_80 : decode cX2_feed 80 = .ok (.ireturn, 1) := dk_172 (dk_at dksX2_feed_3 10 rfl rfl)
abbrev cX2_cut : ByteArray := prog_24_method_3_code
def yX2_cut : MethodName := ⟨RX2, "cut", "(I)I"⟩
def dkwX2_cut_0 : List UInt8 := [27, 155, 0, 11, 27, 42, 180, 0, 13, 164, 0, 6, 16, 254, 172, 42, 27, 181, 0, 13, 27, 172]
abbrev dktX2_cut_0 : List UInt8 := dkwX2_cut_0 ++ []
theorem dksX2_cut_0 : cX2_cut.data.toList.drop 0 = dktX2_cut_0 := by decide +kernel
theorem dX2_cut_0 : decode cX2_cut 0 = .ok (.iload_n 1, 1) := dk_27 (dk_at dksX2_cut_0 0 rfl rfl)
theorem dX2_cut_1 : decode cX2_cut 1 = .ok (.ifCond .lt 11, 3) := dk_155 0 11 (dk_at dksX2_cut_0 1 rfl rfl)
theorem dX2_cut_4 : decode cX2_cut 4 = .ok (.iload_n 1, 1) := dk_27 (dk_at dksX2_cut_0 4 rfl rfl)
theorem dX2_cut_5 : decode cX2_cut 5 = .ok (.aload_n 0, 1) := dk_42 (dk_at dksX2_cut_0 5 rfl rfl)
theorem dX2_cut_6 : decode cX2_cut 6 = .ok (.getfield 13, 3) := dk_180 0 13 (dk_at dksX2_cut_0 6 rfl rfl)
theorem dX2_cut_9 : decode cX2_cut 9 = .ok (.if_icmp .le 6, 3) := dk_164 0 6 (dk_at dksX2_cut_0 9 rfl rfl)
theorem dX2_cut_12 : decode cX2_cut 12 = .ok (.bipush (-2), 2) := dk_16 254 (dk_at dksX2_cut_0 12 rfl rfl)
theorem dX2_cut_14 : decode cX2_cut 14 = .ok (.ireturn, 1) := dk_172 (dk_at dksX2_cut_0 14 rfl rfl)
theorem dX2_cut_15 : decode cX2_cut 15 = .ok (.aload_n 0, 1) := dk_42 (dk_at dksX2_cut_0 15 rfl rfl)
theorem dX2_cut_16 : decode cX2_cut 16 = .ok (.iload_n 1, 1) := dk_27 (dk_at dksX2_cut_0 16 rfl rfl)
theorem dX2_cut_17 : decode cX2_cut 17 = .ok (.putfield 13, 3) := dk_181 0 13 (dk_at dksX2_cut_0 17 rfl rfl)
theorem dX2_cut_20 : decode cX2_cut 20 = .ok (.iload_n 1, 1) := dk_27 (dk_at dksX2_cut_0 20 rfl rfl)
theorem dX2_cut_21 : decode cX2_cut 21 = .ok (.ireturn, 1) := dk_172 (dk_at dksX2_cut_0 21 rfl rfl)
abbrev cX2_tape : ByteArray := prog_24_method_4_code
def yX2_tape : MethodName := ⟨RX2, "tape", "(I)I"⟩
def dkwX2_tape_0 : List UInt8 := [27, 155, 0, 11, 27, 42, 180, 0, 13, 161, 0, 7, 2, 167, 0, 9, 42, 180, 0, 7, 27, 46, 172]
abbrev dktX2_tape_0 : List UInt8 := dkwX2_tape_0 ++ []
theorem dksX2_tape_0 : cX2_tape.data.toList.drop 0 = dktX2_tape_0 := by decide +kernel
theorem dX2_tape_0 : decode cX2_tape 0 = .ok (.iload_n 1, 1) := dk_27 (dk_at dksX2_tape_0 0 rfl rfl)
theorem dX2_tape_1 : decode cX2_tape 1 = .ok (.ifCond .lt 11, 3) := dk_155 0 11 (dk_at dksX2_tape_0 1 rfl rfl)
theorem dX2_tape_4 : decode cX2_tape 4 = .ok (.iload_n 1, 1) := dk_27 (dk_at dksX2_tape_0 4 rfl rfl)
theorem dX2_tape_5 : decode cX2_tape 5 = .ok (.aload_n 0, 1) := dk_42 (dk_at dksX2_tape_0 5 rfl rfl)
theorem dX2_tape_6 : decode cX2_tape 6 = .ok (.getfield 13, 3) := dk_180 0 13 (dk_at dksX2_tape_0 6 rfl rfl)
theorem dX2_tape_9 : decode cX2_tape 9 = .ok (.if_icmp .lt 7, 3) := dk_161 0 7 (dk_at dksX2_tape_0 9 rfl rfl)
theorem dX2_tape_12 : decode cX2_tape 12 = .ok (.iconst (-1), 1) := dk_2 (dk_at dksX2_tape_0 12 rfl rfl)
theorem dX2_tape_13 : decode cX2_tape 13 = .ok (.goto 9, 3) := dk_167 0 9 (dk_at dksX2_tape_0 13 rfl rfl)
theorem dX2_tape_16 : decode cX2_tape 16 = .ok (.aload_n 0, 1) := dk_42 (dk_at dksX2_tape_0 16 rfl rfl)
theorem dX2_tape_17 : decode cX2_tape 17 = .ok (.getfield 7, 3) := dk_180 0 7 (dk_at dksX2_tape_0 17 rfl rfl)
theorem dX2_tape_20 : decode cX2_tape 20 = .ok (.iload_n 1, 1) := dk_27 (dk_at dksX2_tape_0 20 rfl rfl)
theorem dX2_tape_21 : decode cX2_tape 21 = .ok (.iaload, 1) := dk_46 (dk_at dksX2_tape_0 21 rfl rfl)
theorem dX2_tape_22 : decode cX2_tape 22 = .ok (.ireturn, 1) := dk_172 (dk_at dksX2_tape_0 22 rfl rfl)
abbrev cX2_parse : ByteArray := prog_24_method_32_code
def yX2_parse : MethodName := ⟨RX2, "parse", "(I)I"⟩
def dkwX2_parse_7 : List UInt8 := [182, 1, 57, 132, 2, 1, 167, 255, 238, 42, 27, 182, 1, 60, 42, 180, 0, 43, 27, 46, 172]
abbrev dktX2_parse_7 : List UInt8 := dkwX2_parse_7 ++ []
def dkwX2_parse_6 : List UInt8 := [153, 0, 6, 16, 253, 172, 42, 182, 1, 54, 3, 61, 28, 42, 180, 0, 49, 7, 46, 162, 0, 14, 42, 28]
abbrev dktX2_parse_6 : List UInt8 := dkwX2_parse_6 ++ dktX2_parse_7
def dkwX2_parse_5 : List UInt8 := [181, 0, 116, 42, 180, 0, 110, 158, 0, 11, 16, 246, 42, 180, 0, 113, 100, 172, 42, 180, 0, 128]
abbrev dktX2_parse_5 : List UInt8 := dkwX2_parse_5 ++ dktX2_parse_6
def dkwX2_parse_4 : List UInt8 := [167, 255, 238, 42, 180, 0, 110, 154, 0, 7, 42, 182, 1, 51, 42, 3, 181, 0, 13, 42, 42, 180, 0, 110]
abbrev dktX2_parse_4 : List UInt8 := dkwX2_parse_4 ++ dktX2_parse_5
def dkwX2_parse_3 : List UInt8 := [182, 0, 232, 87, 42, 180, 0, 110, 154, 0, 17, 42, 180, 0, 17, 153, 0, 10, 42, 182, 1, 48]
abbrev dktX2_parse_3 : List UInt8 := dkwX2_parse_3 ++ dktX2_parse_4
def dkwX2_parse_2 : List UInt8 := [3, 181, 0, 23, 42, 182, 0, 236, 42, 42, 180, 0, 17, 153, 0, 7, 4, 167, 0, 4, 3, 5]
abbrev dktX2_parse_2 : List UInt8 := dkwX2_parse_2 ++ dktX2_parse_3
def dkwX2_parse_1 : List UInt8 := [79, 42, 180, 0, 49, 7, 3, 79, 42, 3, 181, 0, 138, 42, 3, 181, 0, 110, 42, 3, 181, 0, 128, 42]
abbrev dktX2_parse_1 : List UInt8 := dkwX2_parse_1 ++ dktX2_parse_2
def dkwX2_parse_0 : List UInt8 := [27, 155, 0, 8, 27, 6, 164, 0, 5, 2, 172, 42, 180, 0, 40, 7, 3, 79, 42, 180, 0, 43, 7, 3]
abbrev dktX2_parse_0 : List UInt8 := dkwX2_parse_0 ++ dktX2_parse_1
theorem dksX2_parse_0 : cX2_parse.data.toList.drop 0 = dktX2_parse_0 := by decide +kernel
theorem dksX2_parse_1 : cX2_parse.data.toList.drop 24 = dktX2_parse_1 := dk_seg dksX2_parse_0 24 rfl rfl
theorem dksX2_parse_2 : cX2_parse.data.toList.drop 48 = dktX2_parse_2 := dk_seg dksX2_parse_1 24 rfl rfl
theorem dksX2_parse_3 : cX2_parse.data.toList.drop 70 = dktX2_parse_3 := dk_seg dksX2_parse_2 22 rfl rfl
theorem dksX2_parse_4 : cX2_parse.data.toList.drop 92 = dktX2_parse_4 := dk_seg dksX2_parse_3 22 rfl rfl
theorem dksX2_parse_5 : cX2_parse.data.toList.drop 116 = dktX2_parse_5 := dk_seg dksX2_parse_4 24 rfl rfl
theorem dksX2_parse_6 : cX2_parse.data.toList.drop 138 = dktX2_parse_6 := dk_seg dksX2_parse_5 22 rfl rfl
theorem dksX2_parse_7 : cX2_parse.data.toList.drop 162 = dktX2_parse_7 := dk_seg dksX2_parse_6 24 rfl rfl
theorem dX2_parse_0 : decode cX2_parse 0 = .ok (.iload_n 1, 1) := dk_27 (dk_at dksX2_parse_0 0 rfl rfl)
theorem dX2_parse_1 : decode cX2_parse 1 = .ok (.ifCond .lt 8, 3) := dk_155 0 8 (dk_at dksX2_parse_0 1 rfl rfl)
theorem dX2_parse_4 : decode cX2_parse 4 = .ok (.iload_n 1, 1) := dk_27 (dk_at dksX2_parse_0 4 rfl rfl)
theorem dX2_parse_5 : decode cX2_parse 5 = .ok (.iconst 3, 1) := dk_6 (dk_at dksX2_parse_0 5 rfl rfl)
theorem dX2_parse_6 : decode cX2_parse 6 = .ok (.if_icmp .le 5, 3) := dk_164 0 5 (dk_at dksX2_parse_0 6 rfl rfl)
theorem dX2_parse_9 : decode cX2_parse 9 = .ok (.iconst (-1), 1) := dk_2 (dk_at dksX2_parse_0 9 rfl rfl)
theorem dX2_parse_10 : decode cX2_parse 10 = .ok (.ireturn, 1) := dk_172 (dk_at dksX2_parse_0 10 rfl rfl)
theorem dX2_parse_11 : decode cX2_parse 11 = .ok (.aload_n 0, 1) := dk_42 (dk_at dksX2_parse_0 11 rfl rfl)
theorem dX2_parse_12 : decode cX2_parse 12 = .ok (.getfield 40, 3) := dk_180 0 40 (dk_at dksX2_parse_0 12 rfl rfl)
theorem dX2_parse_15 : decode cX2_parse 15 = .ok (.iconst 4, 1) := dk_7 (dk_at dksX2_parse_0 15 rfl rfl)
theorem dX2_parse_16 : decode cX2_parse 16 = .ok (.iconst 0, 1) := dk_3 (dk_at dksX2_parse_0 16 rfl rfl)
theorem dX2_parse_17 : decode cX2_parse 17 = .ok (.iastore, 1) := dk_79 (dk_at dksX2_parse_0 17 rfl rfl)
theorem dX2_parse_18 : decode cX2_parse 18 = .ok (.aload_n 0, 1) := dk_42 (dk_at dksX2_parse_0 18 rfl rfl)
theorem dX2_parse_19 : decode cX2_parse 19 = .ok (.getfield 43, 3) := dk_180 0 43 (dk_at dksX2_parse_0 19 rfl rfl)
theorem dX2_parse_22 : decode cX2_parse 22 = .ok (.iconst 4, 1) := dk_7 (dk_at dksX2_parse_0 22 rfl rfl)
theorem dX2_parse_23 : decode cX2_parse 23 = .ok (.iconst 0, 1) := dk_3 (dk_at dksX2_parse_0 23 rfl rfl)
theorem dX2_parse_24 : decode cX2_parse 24 = .ok (.iastore, 1) := dk_79 (dk_at dksX2_parse_1 0 rfl rfl)
theorem dX2_parse_25 : decode cX2_parse 25 = .ok (.aload_n 0, 1) := dk_42 (dk_at dksX2_parse_1 1 rfl rfl)
theorem dX2_parse_26 : decode cX2_parse 26 = .ok (.getfield 49, 3) := dk_180 0 49 (dk_at dksX2_parse_1 2 rfl rfl)
theorem dX2_parse_29 : decode cX2_parse 29 = .ok (.iconst 4, 1) := dk_7 (dk_at dksX2_parse_1 5 rfl rfl)
theorem dX2_parse_30 : decode cX2_parse 30 = .ok (.iconst 0, 1) := dk_3 (dk_at dksX2_parse_1 6 rfl rfl)
theorem dX2_parse_31 : decode cX2_parse 31 = .ok (.iastore, 1) := dk_79 (dk_at dksX2_parse_1 7 rfl rfl)
theorem dX2_parse_32 : decode cX2_parse 32 = .ok (.aload_n 0, 1) := dk_42 (dk_at dksX2_parse_1 8 rfl rfl)
theorem dX2_parse_33 : decode cX2_parse 33 = .ok (.iconst 0, 1) := dk_3 (dk_at dksX2_parse_1 9 rfl rfl)
theorem dX2_parse_34 : decode cX2_parse 34 = .ok (.putfield 138, 3) := dk_181 0 138 (dk_at dksX2_parse_1 10 rfl rfl)
theorem dX2_parse_37 : decode cX2_parse 37 = .ok (.aload_n 0, 1) := dk_42 (dk_at dksX2_parse_1 13 rfl rfl)
theorem dX2_parse_38 : decode cX2_parse 38 = .ok (.iconst 0, 1) := dk_3 (dk_at dksX2_parse_1 14 rfl rfl)
theorem dX2_parse_39 : decode cX2_parse 39 = .ok (.putfield 110, 3) := dk_181 0 110 (dk_at dksX2_parse_1 15 rfl rfl)
theorem dX2_parse_42 : decode cX2_parse 42 = .ok (.aload_n 0, 1) := dk_42 (dk_at dksX2_parse_1 18 rfl rfl)
theorem dX2_parse_43 : decode cX2_parse 43 = .ok (.iconst 0, 1) := dk_3 (dk_at dksX2_parse_1 19 rfl rfl)
theorem dX2_parse_44 : decode cX2_parse 44 = .ok (.putfield 128, 3) := dk_181 0 128 (dk_at dksX2_parse_1 20 rfl rfl)
theorem dX2_parse_47 : decode cX2_parse 47 = .ok (.aload_n 0, 1) := dk_42 (dk_at dksX2_parse_1 23 rfl rfl)
theorem dX2_parse_48 : decode cX2_parse 48 = .ok (.iconst 0, 1) := dk_3 (dk_at dksX2_parse_2 0 rfl rfl)
theorem dX2_parse_49 : decode cX2_parse 49 = .ok (.putfield 23, 3) := dk_181 0 23 (dk_at dksX2_parse_2 1 rfl rfl)
theorem dX2_parse_52 : decode cX2_parse 52 = .ok (.aload_n 0, 1) := dk_42 (dk_at dksX2_parse_2 4 rfl rfl)
theorem dX2_parse_53 : decode cX2_parse 53 = .ok (.invokevirtual 236, 3) := dk_182 0 236 (dk_at dksX2_parse_2 5 rfl rfl)
theorem dX2_parse_56 : decode cX2_parse 56 = .ok (.aload_n 0, 1) := dk_42 (dk_at dksX2_parse_2 8 rfl rfl)
theorem dX2_parse_57 : decode cX2_parse 57 = .ok (.aload_n 0, 1) := dk_42 (dk_at dksX2_parse_2 9 rfl rfl)
theorem dX2_parse_58 : decode cX2_parse 58 = .ok (.getfield 17, 3) := dk_180 0 17 (dk_at dksX2_parse_2 10 rfl rfl)
theorem dX2_parse_61 : decode cX2_parse 61 = .ok (.ifCond .eq 7, 3) := dk_153 0 7 (dk_at dksX2_parse_2 13 rfl rfl)
theorem dX2_parse_64 : decode cX2_parse 64 = .ok (.iconst 1, 1) := dk_4 (dk_at dksX2_parse_2 16 rfl rfl)
theorem dX2_parse_65 : decode cX2_parse 65 = .ok (.goto 4, 3) := dk_167 0 4 (dk_at dksX2_parse_2 17 rfl rfl)
theorem dX2_parse_68 : decode cX2_parse 68 = .ok (.iconst 0, 1) := dk_3 (dk_at dksX2_parse_2 20 rfl rfl)
theorem dX2_parse_69 : decode cX2_parse 69 = .ok (.iconst 2, 1) := dk_5 (dk_at dksX2_parse_2 21 rfl rfl)
theorem dX2_parse_70 : decode cX2_parse 70 = .ok (.invokevirtual 232, 3) := dk_182 0 232 (dk_at dksX2_parse_3 0 rfl rfl)
theorem dX2_parse_73 : decode cX2_parse 73 = .ok (.pop, 1) := dk_87 (dk_at dksX2_parse_3 3 rfl rfl)
theorem dX2_parse_74 : decode cX2_parse 74 = .ok (.aload_n 0, 1) := dk_42 (dk_at dksX2_parse_3 4 rfl rfl)
theorem dX2_parse_75 : decode cX2_parse 75 = .ok (.getfield 110, 3) := dk_180 0 110 (dk_at dksX2_parse_3 5 rfl rfl)
theorem dX2_parse_78 : decode cX2_parse 78 = .ok (.ifCond .ne 17, 3) := dk_154 0 17 (dk_at dksX2_parse_3 8 rfl rfl)
theorem dX2_parse_81 : decode cX2_parse 81 = .ok (.aload_n 0, 1) := dk_42 (dk_at dksX2_parse_3 11 rfl rfl)
theorem dX2_parse_82 : decode cX2_parse 82 = .ok (.getfield 17, 3) := dk_180 0 17 (dk_at dksX2_parse_3 12 rfl rfl)
theorem dX2_parse_85 : decode cX2_parse 85 = .ok (.ifCond .eq 10, 3) := dk_153 0 10 (dk_at dksX2_parse_3 15 rfl rfl)
theorem dX2_parse_88 : decode cX2_parse 88 = .ok (.aload_n 0, 1) := dk_42 (dk_at dksX2_parse_3 18 rfl rfl)
theorem dX2_parse_89 : decode cX2_parse 89 = .ok (.invokevirtual 304, 3) := dk_182 1 48 (dk_at dksX2_parse_3 19 rfl rfl)
theorem dX2_parse_92 : decode cX2_parse 92 = .ok (.goto (-18), 3) := dk_167 255 238 (dk_at dksX2_parse_4 0 rfl rfl)
theorem dX2_parse_95 : decode cX2_parse 95 = .ok (.aload_n 0, 1) := dk_42 (dk_at dksX2_parse_4 3 rfl rfl)
theorem dX2_parse_96 : decode cX2_parse 96 = .ok (.getfield 110, 3) := dk_180 0 110 (dk_at dksX2_parse_4 4 rfl rfl)
theorem dX2_parse_99 : decode cX2_parse 99 = .ok (.ifCond .ne 7, 3) := dk_154 0 7 (dk_at dksX2_parse_4 7 rfl rfl)
theorem dX2_parse_102 : decode cX2_parse 102 = .ok (.aload_n 0, 1) := dk_42 (dk_at dksX2_parse_4 10 rfl rfl)
theorem dX2_parse_103 : decode cX2_parse 103 = .ok (.invokevirtual 307, 3) := dk_182 1 51 (dk_at dksX2_parse_4 11 rfl rfl)
theorem dX2_parse_106 : decode cX2_parse 106 = .ok (.aload_n 0, 1) := dk_42 (dk_at dksX2_parse_4 14 rfl rfl)
theorem dX2_parse_107 : decode cX2_parse 107 = .ok (.iconst 0, 1) := dk_3 (dk_at dksX2_parse_4 15 rfl rfl)
theorem dX2_parse_108 : decode cX2_parse 108 = .ok (.putfield 13, 3) := dk_181 0 13 (dk_at dksX2_parse_4 16 rfl rfl)
theorem dX2_parse_111 : decode cX2_parse 111 = .ok (.aload_n 0, 1) := dk_42 (dk_at dksX2_parse_4 19 rfl rfl)
theorem dX2_parse_112 : decode cX2_parse 112 = .ok (.aload_n 0, 1) := dk_42 (dk_at dksX2_parse_4 20 rfl rfl)
theorem dX2_parse_113 : decode cX2_parse 113 = .ok (.getfield 110, 3) := dk_180 0 110 (dk_at dksX2_parse_4 21 rfl rfl)
theorem dX2_parse_116 : decode cX2_parse 116 = .ok (.putfield 116, 3) := dk_181 0 116 (dk_at dksX2_parse_5 0 rfl rfl)
theorem dX2_parse_119 : decode cX2_parse 119 = .ok (.aload_n 0, 1) := dk_42 (dk_at dksX2_parse_5 3 rfl rfl)
theorem dX2_parse_120 : decode cX2_parse 120 = .ok (.getfield 110, 3) := dk_180 0 110 (dk_at dksX2_parse_5 4 rfl rfl)
theorem dX2_parse_123 : decode cX2_parse 123 = .ok (.ifCond .le 11, 3) := dk_158 0 11 (dk_at dksX2_parse_5 7 rfl rfl)
theorem dX2_parse_126 : decode cX2_parse 126 = .ok (.bipush (-10), 2) := dk_16 246 (dk_at dksX2_parse_5 10 rfl rfl)
theorem dX2_parse_128 : decode cX2_parse 128 = .ok (.aload_n 0, 1) := dk_42 (dk_at dksX2_parse_5 12 rfl rfl)
theorem dX2_parse_129 : decode cX2_parse 129 = .ok (.getfield 113, 3) := dk_180 0 113 (dk_at dksX2_parse_5 13 rfl rfl)
theorem dX2_parse_132 : decode cX2_parse 132 = .ok (.isub, 1) := dk_100 (dk_at dksX2_parse_5 16 rfl rfl)
theorem dX2_parse_133 : decode cX2_parse 133 = .ok (.ireturn, 1) := dk_172 (dk_at dksX2_parse_5 17 rfl rfl)
theorem dX2_parse_134 : decode cX2_parse 134 = .ok (.aload_n 0, 1) := dk_42 (dk_at dksX2_parse_5 18 rfl rfl)
theorem dX2_parse_135 : decode cX2_parse 135 = .ok (.getfield 128, 3) := dk_180 0 128 (dk_at dksX2_parse_5 19 rfl rfl)
theorem dX2_parse_138 : decode cX2_parse 138 = .ok (.ifCond .eq 6, 3) := dk_153 0 6 (dk_at dksX2_parse_6 0 rfl rfl)
theorem dX2_parse_141 : decode cX2_parse 141 = .ok (.bipush (-3), 2) := dk_16 253 (dk_at dksX2_parse_6 3 rfl rfl)
theorem dX2_parse_143 : decode cX2_parse 143 = .ok (.ireturn, 1) := dk_172 (dk_at dksX2_parse_6 5 rfl rfl)
theorem dX2_parse_144 : decode cX2_parse 144 = .ok (.aload_n 0, 1) := dk_42 (dk_at dksX2_parse_6 6 rfl rfl)
theorem dX2_parse_145 : decode cX2_parse 145 = .ok (.invokevirtual 310, 3) := dk_182 1 54 (dk_at dksX2_parse_6 7 rfl rfl)
theorem dX2_parse_148 : decode cX2_parse 148 = .ok (.iconst 0, 1) := dk_3 (dk_at dksX2_parse_6 10 rfl rfl)
theorem dX2_parse_149 : decode cX2_parse 149 = .ok (.istore_n 2, 1) := dk_61 (dk_at dksX2_parse_6 11 rfl rfl)
theorem dX2_parse_150 : decode cX2_parse 150 = .ok (.iload_n 2, 1) := dk_28 (dk_at dksX2_parse_6 12 rfl rfl)
theorem dX2_parse_151 : decode cX2_parse 151 = .ok (.aload_n 0, 1) := dk_42 (dk_at dksX2_parse_6 13 rfl rfl)
theorem dX2_parse_152 : decode cX2_parse 152 = .ok (.getfield 49, 3) := dk_180 0 49 (dk_at dksX2_parse_6 14 rfl rfl)
theorem dX2_parse_155 : decode cX2_parse 155 = .ok (.iconst 4, 1) := dk_7 (dk_at dksX2_parse_6 17 rfl rfl)
theorem dX2_parse_156 : decode cX2_parse 156 = .ok (.iaload, 1) := dk_46 (dk_at dksX2_parse_6 18 rfl rfl)
theorem dX2_parse_157 : decode cX2_parse 157 = .ok (.if_icmp .ge 14, 3) := dk_162 0 14 (dk_at dksX2_parse_6 19 rfl rfl)
theorem dX2_parse_160 : decode cX2_parse 160 = .ok (.aload_n 0, 1) := dk_42 (dk_at dksX2_parse_6 22 rfl rfl)
theorem dX2_parse_161 : decode cX2_parse 161 = .ok (.iload_n 2, 1) := dk_28 (dk_at dksX2_parse_6 23 rfl rfl)
theorem dX2_parse_162 : decode cX2_parse 162 = .ok (.invokevirtual 313, 3) := dk_182 1 57 (dk_at dksX2_parse_7 0 rfl rfl)
theorem dX2_parse_165 : decode cX2_parse 165 = .ok (.iinc 2 1, 3) := dk_132 2 1 (dk_at dksX2_parse_7 3 rfl rfl)
theorem dX2_parse_168 : decode cX2_parse 168 = .ok (.goto (-18), 3) := dk_167 255 238 (dk_at dksX2_parse_7 6 rfl rfl)
theorem dX2_parse_171 : decode cX2_parse 171 = .ok (.aload_n 0, 1) := dk_42 (dk_at dksX2_parse_7 9 rfl rfl)
theorem dX2_parse_172 : decode cX2_parse 172 = .ok (.iload_n 1, 1) := dk_27 (dk_at dksX2_parse_7 10 rfl rfl)
theorem dX2_parse_173 : decode cX2_parse 173 = .ok (.invokevirtual 316, 3) := dk_182 1 60 (dk_at dksX2_parse_7 11 rfl rfl)
theorem dX2_parse_176 : decode cX2_parse 176 = .ok (.aload_n 0, 1) := dk_42 (dk_at dksX2_parse_7 14 rfl rfl)
theorem dX2_parse_177 : decode cX2_parse 177 = .ok (.getfield 43, 3) := dk_180 0 43 (dk_at dksX2_parse_7 15 rfl rfl)
theorem dX2_parse_180 : decode cX2_parse 180 = .ok (.iload_n 1, 1) := dk_27 (dk_at dksX2_parse_7 18 rfl rfl)
theorem dX2_parse_181 : decode cX2_parse 181 = .ok (.iaload, 1) := dk_46 (dk_at dksX2_parse_7 19 rfl rfl)
theorem dX2_parse_182 : decode cX2_parse 182 = .ok (.ireturn, 1) := dk_172 (dk_at dksX2_parse_7 20 rfl rfl)
abbrev cX2_next : ByteArray := prog_24_method_8_code
def yX2_next : MethodName := ⟨RX2, "next", "()V"⟩
def dkwX2_next_12 : List UInt8 := [177]
abbrev dktX2_next_12 : List UInt8 := dkwX2_next_12 ++ []
def dkwX2_next_11 : List UInt8 := [4, 167, 0, 4, 3, 61, 42, 28, 153, 0, 7, 6, 167, 0, 4, 7, 181, 0, 17, 42, 27, 181, 0, 29]
abbrev dktX2_next_11 : List UInt8 := dkwX2_next_11 ++ dktX2_next_12
def dkwX2_next_10 : List UInt8 := [27, 16, 94, 159, 0, 21, 27, 16, 60, 159, 0, 15, 27, 16, 91, 159, 0, 9, 27, 16, 93, 160, 0, 7]
abbrev dktX2_next_10 : List UInt8 := dkwX2_next_10 ++ dktX2_next_11
def dkwX2_next_9 : List UInt8 := [27, 16, 45, 159, 0, 45, 27, 16, 42, 159, 0, 39, 27, 16, 47, 159, 0, 33, 27, 16, 38, 159, 0, 27]
abbrev dktX2_next_9 : List UInt8 := dkwX2_next_9 ++ dktX2_next_10
def dkwX2_next_8 : List UInt8 := [27, 16, 58, 159, 0, 69, 27, 16, 59, 159, 0, 63, 27, 16, 61, 159, 0, 57, 27, 16, 43, 159, 0, 51]
abbrev dktX2_next_8 : List UInt8 := dkwX2_next_8 ++ dktX2_next_9
def dkwX2_next_7 : List UInt8 := [42, 182, 0, 215, 167, 0, 116, 42, 182, 0, 218, 167, 0, 109, 42, 89, 180, 0, 23, 4, 96, 181, 0, 23]
abbrev dktX2_next_7 : List UInt8 := dkwX2_next_7 ++ dktX2_next_8
def dkwX2_next_6 : List UInt8 := [153, 0, 16, 42, 89, 180, 0, 23, 4, 96, 181, 0, 23, 167, 255, 216, 42, 27, 182, 0, 208, 153, 0, 10]
abbrev dktX2_next_6 : List UInt8 := dkwX2_next_6 ++ dktX2_next_7
def dkwX2_next_5 : List UInt8 := [180, 0, 23, 182, 0, 204, 182, 0, 208, 154, 0, 18, 42, 42, 42, 180, 0, 23, 182, 0, 204, 182, 0, 212]
abbrev dktX2_next_5 : List UInt8 := dkwX2_next_5 ++ dktX2_next_6
def dkwX2_next_4 : List UInt8 := [167, 0, 190, 42, 27, 182, 0, 208, 154, 0, 11, 42, 27, 182, 0, 212, 153, 0, 68, 42, 42, 42]
abbrev dktX2_next_4 : List UInt8 := dkwX2_next_4 ++ dktX2_next_5
def dkwX2_next_3 : List UInt8 := [180, 0, 20, 182, 0, 204, 60, 42, 180, 0, 20, 42, 180, 0, 13, 161, 0, 11, 42, 3, 181, 0, 17]
abbrev dktX2_next_3 : List UInt8 := dkwX2_next_3 ++ dktX2_next_4
def dkwX2_next_2 : List UInt8 := [89, 180, 0, 20, 4, 96, 181, 0, 20, 167, 255, 207, 42, 42, 180, 0, 20, 181, 0, 23, 42, 42]
abbrev dktX2_next_2 : List UInt8 := dkwX2_next_2 ++ dktX2_next_3
def dkwX2_next_1 : List UInt8 := [180, 0, 20, 46, 16, 32, 159, 0, 17, 42, 180, 0, 7, 42, 180, 0, 20, 46, 16, 10, 160, 0, 16, 42]
abbrev dktX2_next_1 : List UInt8 := dkwX2_next_1 ++ dktX2_next_2
def dkwX2_next_0 : List UInt8 := [42, 42, 180, 0, 23, 181, 0, 20, 42, 180, 0, 20, 42, 180, 0, 13, 162, 0, 44, 42, 180, 0, 7, 42]
abbrev dktX2_next_0 : List UInt8 := dkwX2_next_0 ++ dktX2_next_1
theorem dksX2_next_0 : cX2_next.data.toList.drop 0 = dktX2_next_0 := by decide +kernel
theorem dksX2_next_1 : cX2_next.data.toList.drop 24 = dktX2_next_1 := dk_seg dksX2_next_0 24 rfl rfl
theorem dksX2_next_2 : cX2_next.data.toList.drop 48 = dktX2_next_2 := dk_seg dksX2_next_1 24 rfl rfl
theorem dksX2_next_3 : cX2_next.data.toList.drop 70 = dktX2_next_3 := dk_seg dksX2_next_2 22 rfl rfl
theorem dksX2_next_4 : cX2_next.data.toList.drop 93 = dktX2_next_4 := dk_seg dksX2_next_3 23 rfl rfl
theorem dksX2_next_5 : cX2_next.data.toList.drop 115 = dktX2_next_5 := dk_seg dksX2_next_4 22 rfl rfl
theorem dksX2_next_6 : cX2_next.data.toList.drop 139 = dktX2_next_6 := dk_seg dksX2_next_5 24 rfl rfl
theorem dksX2_next_7 : cX2_next.data.toList.drop 163 = dktX2_next_7 := dk_seg dksX2_next_6 24 rfl rfl
theorem dksX2_next_8 : cX2_next.data.toList.drop 187 = dktX2_next_8 := dk_seg dksX2_next_7 24 rfl rfl
theorem dksX2_next_9 : cX2_next.data.toList.drop 211 = dktX2_next_9 := dk_seg dksX2_next_8 24 rfl rfl
theorem dksX2_next_10 : cX2_next.data.toList.drop 235 = dktX2_next_10 := dk_seg dksX2_next_9 24 rfl rfl
theorem dksX2_next_11 : cX2_next.data.toList.drop 259 = dktX2_next_11 := dk_seg dksX2_next_10 24 rfl rfl
theorem dksX2_next_12 : cX2_next.data.toList.drop 283 = dktX2_next_12 := dk_seg dksX2_next_11 24 rfl rfl
theorem dX2_next_0 : decode cX2_next 0 = .ok (.aload_n 0, 1) := dk_42 (dk_at dksX2_next_0 0 rfl rfl)
theorem dX2_next_1 : decode cX2_next 1 = .ok (.aload_n 0, 1) := dk_42 (dk_at dksX2_next_0 1 rfl rfl)
theorem dX2_next_2 : decode cX2_next 2 = .ok (.getfield 23, 3) := dk_180 0 23 (dk_at dksX2_next_0 2 rfl rfl)
theorem dX2_next_5 : decode cX2_next 5 = .ok (.putfield 20, 3) := dk_181 0 20 (dk_at dksX2_next_0 5 rfl rfl)
theorem dX2_next_8 : decode cX2_next 8 = .ok (.aload_n 0, 1) := dk_42 (dk_at dksX2_next_0 8 rfl rfl)
theorem dX2_next_9 : decode cX2_next 9 = .ok (.getfield 20, 3) := dk_180 0 20 (dk_at dksX2_next_0 9 rfl rfl)
theorem dX2_next_12 : decode cX2_next 12 = .ok (.aload_n 0, 1) := dk_42 (dk_at dksX2_next_0 12 rfl rfl)
theorem dX2_next_13 : decode cX2_next 13 = .ok (.getfield 13, 3) := dk_180 0 13 (dk_at dksX2_next_0 13 rfl rfl)
theorem dX2_next_16 : decode cX2_next 16 = .ok (.if_icmp .ge 44, 3) := dk_162 0 44 (dk_at dksX2_next_0 16 rfl rfl)
theorem dX2_next_19 : decode cX2_next 19 = .ok (.aload_n 0, 1) := dk_42 (dk_at dksX2_next_0 19 rfl rfl)
theorem dX2_next_20 : decode cX2_next 20 = .ok (.getfield 7, 3) := dk_180 0 7 (dk_at dksX2_next_0 20 rfl rfl)
theorem dX2_next_23 : decode cX2_next 23 = .ok (.aload_n 0, 1) := dk_42 (dk_at dksX2_next_0 23 rfl rfl)
theorem dX2_next_24 : decode cX2_next 24 = .ok (.getfield 20, 3) := dk_180 0 20 (dk_at dksX2_next_1 0 rfl rfl)
theorem dX2_next_27 : decode cX2_next 27 = .ok (.iaload, 1) := dk_46 (dk_at dksX2_next_1 3 rfl rfl)
theorem dX2_next_28 : decode cX2_next 28 = .ok (.bipush 32, 2) := dk_16 32 (dk_at dksX2_next_1 4 rfl rfl)
theorem dX2_next_30 : decode cX2_next 30 = .ok (.if_icmp .eq 17, 3) := dk_159 0 17 (dk_at dksX2_next_1 6 rfl rfl)
theorem dX2_next_33 : decode cX2_next 33 = .ok (.aload_n 0, 1) := dk_42 (dk_at dksX2_next_1 9 rfl rfl)
theorem dX2_next_34 : decode cX2_next 34 = .ok (.getfield 7, 3) := dk_180 0 7 (dk_at dksX2_next_1 10 rfl rfl)
theorem dX2_next_37 : decode cX2_next 37 = .ok (.aload_n 0, 1) := dk_42 (dk_at dksX2_next_1 13 rfl rfl)
theorem dX2_next_38 : decode cX2_next 38 = .ok (.getfield 20, 3) := dk_180 0 20 (dk_at dksX2_next_1 14 rfl rfl)
theorem dX2_next_41 : decode cX2_next 41 = .ok (.iaload, 1) := dk_46 (dk_at dksX2_next_1 17 rfl rfl)
theorem dX2_next_42 : decode cX2_next 42 = .ok (.bipush 10, 2) := dk_16 10 (dk_at dksX2_next_1 18 rfl rfl)
theorem dX2_next_44 : decode cX2_next 44 = .ok (.if_icmp .ne 16, 3) := dk_160 0 16 (dk_at dksX2_next_1 20 rfl rfl)
theorem dX2_next_47 : decode cX2_next 47 = .ok (.aload_n 0, 1) := dk_42 (dk_at dksX2_next_1 23 rfl rfl)
theorem dX2_next_48 : decode cX2_next 48 = .ok (.dup, 1) := dk_89 (dk_at dksX2_next_2 0 rfl rfl)
theorem dX2_next_49 : decode cX2_next 49 = .ok (.getfield 20, 3) := dk_180 0 20 (dk_at dksX2_next_2 1 rfl rfl)
theorem dX2_next_52 : decode cX2_next 52 = .ok (.iconst 1, 1) := dk_4 (dk_at dksX2_next_2 4 rfl rfl)
theorem dX2_next_53 : decode cX2_next 53 = .ok (.iadd, 1) := dk_96 (dk_at dksX2_next_2 5 rfl rfl)
theorem dX2_next_54 : decode cX2_next 54 = .ok (.putfield 20, 3) := dk_181 0 20 (dk_at dksX2_next_2 6 rfl rfl)
theorem dX2_next_57 : decode cX2_next 57 = .ok (.goto (-49), 3) := dk_167 255 207 (dk_at dksX2_next_2 9 rfl rfl)
theorem dX2_next_60 : decode cX2_next 60 = .ok (.aload_n 0, 1) := dk_42 (dk_at dksX2_next_2 12 rfl rfl)
theorem dX2_next_61 : decode cX2_next 61 = .ok (.aload_n 0, 1) := dk_42 (dk_at dksX2_next_2 13 rfl rfl)
theorem dX2_next_62 : decode cX2_next 62 = .ok (.getfield 20, 3) := dk_180 0 20 (dk_at dksX2_next_2 14 rfl rfl)
theorem dX2_next_65 : decode cX2_next 65 = .ok (.putfield 23, 3) := dk_181 0 23 (dk_at dksX2_next_2 17 rfl rfl)
theorem dX2_next_68 : decode cX2_next 68 = .ok (.aload_n 0, 1) := dk_42 (dk_at dksX2_next_2 20 rfl rfl)
theorem dX2_next_69 : decode cX2_next 69 = .ok (.aload_n 0, 1) := dk_42 (dk_at dksX2_next_2 21 rfl rfl)
theorem dX2_next_70 : decode cX2_next 70 = .ok (.getfield 20, 3) := dk_180 0 20 (dk_at dksX2_next_3 0 rfl rfl)
theorem dX2_next_73 : decode cX2_next 73 = .ok (.invokevirtual 204, 3) := dk_182 0 204 (dk_at dksX2_next_3 3 rfl rfl)
theorem dX2_next_76 : decode cX2_next 76 = .ok (.istore_n 1, 1) := dk_60 (dk_at dksX2_next_3 6 rfl rfl)
theorem dX2_next_77 : decode cX2_next 77 = .ok (.aload_n 0, 1) := dk_42 (dk_at dksX2_next_3 7 rfl rfl)
theorem dX2_next_78 : decode cX2_next 78 = .ok (.getfield 20, 3) := dk_180 0 20 (dk_at dksX2_next_3 8 rfl rfl)
theorem dX2_next_81 : decode cX2_next 81 = .ok (.aload_n 0, 1) := dk_42 (dk_at dksX2_next_3 11 rfl rfl)
theorem dX2_next_82 : decode cX2_next 82 = .ok (.getfield 13, 3) := dk_180 0 13 (dk_at dksX2_next_3 12 rfl rfl)
theorem dX2_next_85 : decode cX2_next 85 = .ok (.if_icmp .lt 11, 3) := dk_161 0 11 (dk_at dksX2_next_3 15 rfl rfl)
theorem dX2_next_88 : decode cX2_next 88 = .ok (.aload_n 0, 1) := dk_42 (dk_at dksX2_next_3 18 rfl rfl)
theorem dX2_next_89 : decode cX2_next 89 = .ok (.iconst 0, 1) := dk_3 (dk_at dksX2_next_3 19 rfl rfl)
theorem dX2_next_90 : decode cX2_next 90 = .ok (.putfield 17, 3) := dk_181 0 17 (dk_at dksX2_next_3 20 rfl rfl)
theorem dX2_next_93 : decode cX2_next 93 = .ok (.goto 190, 3) := dk_167 0 190 (dk_at dksX2_next_4 0 rfl rfl)
theorem dX2_next_96 : decode cX2_next 96 = .ok (.aload_n 0, 1) := dk_42 (dk_at dksX2_next_4 3 rfl rfl)
theorem dX2_next_97 : decode cX2_next 97 = .ok (.iload_n 1, 1) := dk_27 (dk_at dksX2_next_4 4 rfl rfl)
theorem dX2_next_98 : decode cX2_next 98 = .ok (.invokevirtual 208, 3) := dk_182 0 208 (dk_at dksX2_next_4 5 rfl rfl)
theorem dX2_next_101 : decode cX2_next 101 = .ok (.ifCond .ne 11, 3) := dk_154 0 11 (dk_at dksX2_next_4 8 rfl rfl)
theorem dX2_next_104 : decode cX2_next 104 = .ok (.aload_n 0, 1) := dk_42 (dk_at dksX2_next_4 11 rfl rfl)
theorem dX2_next_105 : decode cX2_next 105 = .ok (.iload_n 1, 1) := dk_27 (dk_at dksX2_next_4 12 rfl rfl)
theorem dX2_next_106 : decode cX2_next 106 = .ok (.invokevirtual 212, 3) := dk_182 0 212 (dk_at dksX2_next_4 13 rfl rfl)
theorem dX2_next_109 : decode cX2_next 109 = .ok (.ifCond .eq 68, 3) := dk_153 0 68 (dk_at dksX2_next_4 16 rfl rfl)
theorem dX2_next_112 : decode cX2_next 112 = .ok (.aload_n 0, 1) := dk_42 (dk_at dksX2_next_4 19 rfl rfl)
theorem dX2_next_113 : decode cX2_next 113 = .ok (.aload_n 0, 1) := dk_42 (dk_at dksX2_next_4 20 rfl rfl)
theorem dX2_next_114 : decode cX2_next 114 = .ok (.aload_n 0, 1) := dk_42 (dk_at dksX2_next_4 21 rfl rfl)
theorem dX2_next_115 : decode cX2_next 115 = .ok (.getfield 23, 3) := dk_180 0 23 (dk_at dksX2_next_5 0 rfl rfl)
theorem dX2_next_118 : decode cX2_next 118 = .ok (.invokevirtual 204, 3) := dk_182 0 204 (dk_at dksX2_next_5 3 rfl rfl)
theorem dX2_next_121 : decode cX2_next 121 = .ok (.invokevirtual 208, 3) := dk_182 0 208 (dk_at dksX2_next_5 6 rfl rfl)
theorem dX2_next_124 : decode cX2_next 124 = .ok (.ifCond .ne 18, 3) := dk_154 0 18 (dk_at dksX2_next_5 9 rfl rfl)
theorem dX2_next_127 : decode cX2_next 127 = .ok (.aload_n 0, 1) := dk_42 (dk_at dksX2_next_5 12 rfl rfl)
theorem dX2_next_128 : decode cX2_next 128 = .ok (.aload_n 0, 1) := dk_42 (dk_at dksX2_next_5 13 rfl rfl)
theorem dX2_next_129 : decode cX2_next 129 = .ok (.aload_n 0, 1) := dk_42 (dk_at dksX2_next_5 14 rfl rfl)
theorem dX2_next_130 : decode cX2_next 130 = .ok (.getfield 23, 3) := dk_180 0 23 (dk_at dksX2_next_5 15 rfl rfl)
theorem dX2_next_133 : decode cX2_next 133 = .ok (.invokevirtual 204, 3) := dk_182 0 204 (dk_at dksX2_next_5 18 rfl rfl)
theorem dX2_next_136 : decode cX2_next 136 = .ok (.invokevirtual 212, 3) := dk_182 0 212 (dk_at dksX2_next_5 21 rfl rfl)
theorem dX2_next_139 : decode cX2_next 139 = .ok (.ifCond .eq 16, 3) := dk_153 0 16 (dk_at dksX2_next_6 0 rfl rfl)
theorem dX2_next_142 : decode cX2_next 142 = .ok (.aload_n 0, 1) := dk_42 (dk_at dksX2_next_6 3 rfl rfl)
theorem dX2_next_143 : decode cX2_next 143 = .ok (.dup, 1) := dk_89 (dk_at dksX2_next_6 4 rfl rfl)
theorem dX2_next_144 : decode cX2_next 144 = .ok (.getfield 23, 3) := dk_180 0 23 (dk_at dksX2_next_6 5 rfl rfl)
theorem dX2_next_147 : decode cX2_next 147 = .ok (.iconst 1, 1) := dk_4 (dk_at dksX2_next_6 8 rfl rfl)
theorem dX2_next_148 : decode cX2_next 148 = .ok (.iadd, 1) := dk_96 (dk_at dksX2_next_6 9 rfl rfl)
theorem dX2_next_149 : decode cX2_next 149 = .ok (.putfield 23, 3) := dk_181 0 23 (dk_at dksX2_next_6 10 rfl rfl)
theorem dX2_next_152 : decode cX2_next 152 = .ok (.goto (-40), 3) := dk_167 255 216 (dk_at dksX2_next_6 13 rfl rfl)
theorem dX2_next_155 : decode cX2_next 155 = .ok (.aload_n 0, 1) := dk_42 (dk_at dksX2_next_6 16 rfl rfl)
theorem dX2_next_156 : decode cX2_next 156 = .ok (.iload_n 1, 1) := dk_27 (dk_at dksX2_next_6 17 rfl rfl)
theorem dX2_next_157 : decode cX2_next 157 = .ok (.invokevirtual 208, 3) := dk_182 0 208 (dk_at dksX2_next_6 18 rfl rfl)
theorem dX2_next_160 : decode cX2_next 160 = .ok (.ifCond .eq 10, 3) := dk_153 0 10 (dk_at dksX2_next_6 21 rfl rfl)
theorem dX2_next_163 : decode cX2_next 163 = .ok (.aload_n 0, 1) := dk_42 (dk_at dksX2_next_7 0 rfl rfl)
theorem dX2_next_164 : decode cX2_next 164 = .ok (.invokevirtual 215, 3) := dk_182 0 215 (dk_at dksX2_next_7 1 rfl rfl)
theorem dX2_next_167 : decode cX2_next 167 = .ok (.goto 116, 3) := dk_167 0 116 (dk_at dksX2_next_7 4 rfl rfl)
theorem dX2_next_170 : decode cX2_next 170 = .ok (.aload_n 0, 1) := dk_42 (dk_at dksX2_next_7 7 rfl rfl)
theorem dX2_next_171 : decode cX2_next 171 = .ok (.invokevirtual 218, 3) := dk_182 0 218 (dk_at dksX2_next_7 8 rfl rfl)
theorem dX2_next_174 : decode cX2_next 174 = .ok (.goto 109, 3) := dk_167 0 109 (dk_at dksX2_next_7 11 rfl rfl)
theorem dX2_next_177 : decode cX2_next 177 = .ok (.aload_n 0, 1) := dk_42 (dk_at dksX2_next_7 14 rfl rfl)
theorem dX2_next_178 : decode cX2_next 178 = .ok (.dup, 1) := dk_89 (dk_at dksX2_next_7 15 rfl rfl)
theorem dX2_next_179 : decode cX2_next 179 = .ok (.getfield 23, 3) := dk_180 0 23 (dk_at dksX2_next_7 16 rfl rfl)
theorem dX2_next_182 : decode cX2_next 182 = .ok (.iconst 1, 1) := dk_4 (dk_at dksX2_next_7 19 rfl rfl)
theorem dX2_next_183 : decode cX2_next 183 = .ok (.iadd, 1) := dk_96 (dk_at dksX2_next_7 20 rfl rfl)
theorem dX2_next_184 : decode cX2_next 184 = .ok (.putfield 23, 3) := dk_181 0 23 (dk_at dksX2_next_7 21 rfl rfl)
theorem dX2_next_187 : decode cX2_next 187 = .ok (.iload_n 1, 1) := dk_27 (dk_at dksX2_next_8 0 rfl rfl)
theorem dX2_next_188 : decode cX2_next 188 = .ok (.bipush 58, 2) := dk_16 58 (dk_at dksX2_next_8 1 rfl rfl)
theorem dX2_next_190 : decode cX2_next 190 = .ok (.if_icmp .eq 69, 3) := dk_159 0 69 (dk_at dksX2_next_8 3 rfl rfl)
theorem dX2_next_193 : decode cX2_next 193 = .ok (.iload_n 1, 1) := dk_27 (dk_at dksX2_next_8 6 rfl rfl)
theorem dX2_next_194 : decode cX2_next 194 = .ok (.bipush 59, 2) := dk_16 59 (dk_at dksX2_next_8 7 rfl rfl)
theorem dX2_next_196 : decode cX2_next 196 = .ok (.if_icmp .eq 63, 3) := dk_159 0 63 (dk_at dksX2_next_8 9 rfl rfl)
theorem dX2_next_199 : decode cX2_next 199 = .ok (.iload_n 1, 1) := dk_27 (dk_at dksX2_next_8 12 rfl rfl)
theorem dX2_next_200 : decode cX2_next 200 = .ok (.bipush 61, 2) := dk_16 61 (dk_at dksX2_next_8 13 rfl rfl)
theorem dX2_next_202 : decode cX2_next 202 = .ok (.if_icmp .eq 57, 3) := dk_159 0 57 (dk_at dksX2_next_8 15 rfl rfl)
theorem dX2_next_205 : decode cX2_next 205 = .ok (.iload_n 1, 1) := dk_27 (dk_at dksX2_next_8 18 rfl rfl)
theorem dX2_next_206 : decode cX2_next 206 = .ok (.bipush 43, 2) := dk_16 43 (dk_at dksX2_next_8 19 rfl rfl)
theorem dX2_next_208 : decode cX2_next 208 = .ok (.if_icmp .eq 51, 3) := dk_159 0 51 (dk_at dksX2_next_8 21 rfl rfl)
theorem dX2_next_211 : decode cX2_next 211 = .ok (.iload_n 1, 1) := dk_27 (dk_at dksX2_next_9 0 rfl rfl)
theorem dX2_next_212 : decode cX2_next 212 = .ok (.bipush 45, 2) := dk_16 45 (dk_at dksX2_next_9 1 rfl rfl)
theorem dX2_next_214 : decode cX2_next 214 = .ok (.if_icmp .eq 45, 3) := dk_159 0 45 (dk_at dksX2_next_9 3 rfl rfl)
theorem dX2_next_217 : decode cX2_next 217 = .ok (.iload_n 1, 1) := dk_27 (dk_at dksX2_next_9 6 rfl rfl)
theorem dX2_next_218 : decode cX2_next 218 = .ok (.bipush 42, 2) := dk_16 42 (dk_at dksX2_next_9 7 rfl rfl)
theorem dX2_next_220 : decode cX2_next 220 = .ok (.if_icmp .eq 39, 3) := dk_159 0 39 (dk_at dksX2_next_9 9 rfl rfl)
theorem dX2_next_223 : decode cX2_next 223 = .ok (.iload_n 1, 1) := dk_27 (dk_at dksX2_next_9 12 rfl rfl)
theorem dX2_next_224 : decode cX2_next 224 = .ok (.bipush 47, 2) := dk_16 47 (dk_at dksX2_next_9 13 rfl rfl)
theorem dX2_next_226 : decode cX2_next 226 = .ok (.if_icmp .eq 33, 3) := dk_159 0 33 (dk_at dksX2_next_9 15 rfl rfl)
theorem dX2_next_229 : decode cX2_next 229 = .ok (.iload_n 1, 1) := dk_27 (dk_at dksX2_next_9 18 rfl rfl)
theorem dX2_next_230 : decode cX2_next 230 = .ok (.bipush 38, 2) := dk_16 38 (dk_at dksX2_next_9 19 rfl rfl)
theorem dX2_next_232 : decode cX2_next 232 = .ok (.if_icmp .eq 27, 3) := dk_159 0 27 (dk_at dksX2_next_9 21 rfl rfl)
theorem dX2_next_235 : decode cX2_next 235 = .ok (.iload_n 1, 1) := dk_27 (dk_at dksX2_next_10 0 rfl rfl)
theorem dX2_next_236 : decode cX2_next 236 = .ok (.bipush 94, 2) := dk_16 94 (dk_at dksX2_next_10 1 rfl rfl)
theorem dX2_next_238 : decode cX2_next 238 = .ok (.if_icmp .eq 21, 3) := dk_159 0 21 (dk_at dksX2_next_10 3 rfl rfl)
theorem dX2_next_241 : decode cX2_next 241 = .ok (.iload_n 1, 1) := dk_27 (dk_at dksX2_next_10 6 rfl rfl)
theorem dX2_next_242 : decode cX2_next 242 = .ok (.bipush 60, 2) := dk_16 60 (dk_at dksX2_next_10 7 rfl rfl)
theorem dX2_next_244 : decode cX2_next 244 = .ok (.if_icmp .eq 15, 3) := dk_159 0 15 (dk_at dksX2_next_10 9 rfl rfl)
theorem dX2_next_247 : decode cX2_next 247 = .ok (.iload_n 1, 1) := dk_27 (dk_at dksX2_next_10 12 rfl rfl)
theorem dX2_next_248 : decode cX2_next 248 = .ok (.bipush 91, 2) := dk_16 91 (dk_at dksX2_next_10 13 rfl rfl)
theorem dX2_next_250 : decode cX2_next 250 = .ok (.if_icmp .eq 9, 3) := dk_159 0 9 (dk_at dksX2_next_10 15 rfl rfl)
theorem dX2_next_253 : decode cX2_next 253 = .ok (.iload_n 1, 1) := dk_27 (dk_at dksX2_next_10 18 rfl rfl)
theorem dX2_next_254 : decode cX2_next 254 = .ok (.bipush 93, 2) := dk_16 93 (dk_at dksX2_next_10 19 rfl rfl)
theorem dX2_next_256 : decode cX2_next 256 = .ok (.if_icmp .ne 7, 3) := dk_160 0 7 (dk_at dksX2_next_10 21 rfl rfl)
theorem dX2_next_259 : decode cX2_next 259 = .ok (.iconst 1, 1) := dk_4 (dk_at dksX2_next_11 0 rfl rfl)
theorem dX2_next_260 : decode cX2_next 260 = .ok (.goto 4, 3) := dk_167 0 4 (dk_at dksX2_next_11 1 rfl rfl)
theorem dX2_next_263 : decode cX2_next 263 = .ok (.iconst 0, 1) := dk_3 (dk_at dksX2_next_11 4 rfl rfl)
theorem dX2_next_264 : decode cX2_next 264 = .ok (.istore_n 2, 1) := dk_61 (dk_at dksX2_next_11 5 rfl rfl)
theorem dX2_next_265 : decode cX2_next 265 = .ok (.aload_n 0, 1) := dk_42 (dk_at dksX2_next_11 6 rfl rfl)
theorem dX2_next_266 : decode cX2_next 266 = .ok (.iload_n 2, 1) := dk_28 (dk_at dksX2_next_11 7 rfl rfl)
theorem dX2_next_267 : decode cX2_next 267 = .ok (.ifCond .eq 7, 3) := dk_153 0 7 (dk_at dksX2_next_11 8 rfl rfl)
theorem dX2_next_270 : decode cX2_next 270 = .ok (.iconst 3, 1) := dk_6 (dk_at dksX2_next_11 11 rfl rfl)
theorem dX2_next_271 : decode cX2_next 271 = .ok (.goto 4, 3) := dk_167 0 4 (dk_at dksX2_next_11 12 rfl rfl)
theorem dX2_next_274 : decode cX2_next 274 = .ok (.iconst 4, 1) := dk_7 (dk_at dksX2_next_11 15 rfl rfl)
theorem dX2_next_275 : decode cX2_next 275 = .ok (.putfield 17, 3) := dk_181 0 17 (dk_at dksX2_next_11 16 rfl rfl)
theorem dX2_next_278 : decode cX2_next 278 = .ok (.aload_n 0, 1) := dk_42 (dk_at dksX2_next_11 19 rfl rfl)
theorem dX2_next_279 : decode cX2_next 279 = .ok (.iload_n 1, 1) := dk_27 (dk_at dksX2_next_11 20 rfl rfl)
theorem dX2_next_280 : decode cX2_next 280 = .ok (.putfield 29, 3) := dk_181 0 29 (dk_at dksX2_next_11 21 rfl rfl)
theorem dX2_next_283 : decode cX2_next 283 = .ok (.return_, 1) := dk_177 (dk_at dksX2_next_12 0 rfl rfl)
abbrev cX2_at : ByteArray := prog_24_method_5_code
def yX2_at : MethodName := ⟨RX2, "at", "(I)I"⟩
def dkwX2_at_0 : List UInt8 := [27, 42, 180, 0, 13, 162, 0, 12, 42, 180, 0, 7, 27, 46, 167, 0, 4, 3, 172]
abbrev dktX2_at_0 : List UInt8 := dkwX2_at_0 ++ []
theorem dksX2_at_0 : cX2_at.data.toList.drop 0 = dktX2_at_0 := by decide +kernel
theorem dX2_at_0 : decode cX2_at 0 = .ok (.iload_n 1, 1) := dk_27 (dk_at dksX2_at_0 0 rfl rfl)
theorem dX2_at_1 : decode cX2_at 1 = .ok (.aload_n 0, 1) := dk_42 (dk_at dksX2_at_0 1 rfl rfl)
theorem dX2_at_2 : decode cX2_at 2 = .ok (.getfield 13, 3) := dk_180 0 13 (dk_at dksX2_at_0 2 rfl rfl)
theorem dX2_at_5 : decode cX2_at 5 = .ok (.if_icmp .ge 12, 3) := dk_162 0 12 (dk_at dksX2_at_0 5 rfl rfl)
theorem dX2_at_8 : decode cX2_at 8 = .ok (.aload_n 0, 1) := dk_42 (dk_at dksX2_at_0 8 rfl rfl)
theorem dX2_at_9 : decode cX2_at 9 = .ok (.getfield 7, 3) := dk_180 0 7 (dk_at dksX2_at_0 9 rfl rfl)
theorem dX2_at_12 : decode cX2_at 12 = .ok (.iload_n 1, 1) := dk_27 (dk_at dksX2_at_0 12 rfl rfl)
theorem dX2_at_13 : decode cX2_at 13 = .ok (.iaload, 1) := dk_46 (dk_at dksX2_at_0 13 rfl rfl)
theorem dX2_at_14 : decode cX2_at 14 = .ok (.goto 4, 3) := dk_167 0 4 (dk_at dksX2_at_0 14 rfl rfl)
theorem dX2_at_17 : decode cX2_at 17 = .ok (.iconst 0, 1) := dk_3 (dk_at dksX2_at_0 17 rfl rfl)
theorem dX2_at_18 : decode cX2_at 18 = .ok (.ireturn, 1) := dk_172 (dk_at dksX2_at_0 18 rfl rfl)
abbrev cX2_isLetter : ByteArray := prog_24_method_6_code
def yX2_isLetter : MethodName := ⟨RX2, "isLetter", "(I)Z"⟩
def dkwX2_isLetter_0 : List UInt8 := [27, 16, 97, 161, 0, 13, 27, 16, 122, 163, 0, 7, 4, 167, 0, 4, 3, 172]
abbrev dktX2_isLetter_0 : List UInt8 := dkwX2_isLetter_0 ++ []
theorem dksX2_isLetter_0 : cX2_isLetter.data.toList.drop 0 = dktX2_isLetter_0 := by decide +kernel
theorem dX2_isLetter_0 : decode cX2_isLetter 0 = .ok (.iload_n 1, 1) := dk_27 (dk_at dksX2_isLetter_0 0 rfl rfl)
theorem dX2_isLetter_1 : decode cX2_isLetter 1 = .ok (.bipush 97, 2) := dk_16 97 (dk_at dksX2_isLetter_0 1 rfl rfl)
theorem dX2_isLetter_3 : decode cX2_isLetter 3 = .ok (.if_icmp .lt 13, 3) := dk_161 0 13 (dk_at dksX2_isLetter_0 3 rfl rfl)
theorem dX2_isLetter_6 : decode cX2_isLetter 6 = .ok (.iload_n 1, 1) := dk_27 (dk_at dksX2_isLetter_0 6 rfl rfl)
theorem dX2_isLetter_7 : decode cX2_isLetter 7 = .ok (.bipush 122, 2) := dk_16 122 (dk_at dksX2_isLetter_0 7 rfl rfl)
theorem dX2_isLetter_9 : decode cX2_isLetter 9 = .ok (.if_icmp .gt 7, 3) := dk_163 0 7 (dk_at dksX2_isLetter_0 9 rfl rfl)
theorem dX2_isLetter_12 : decode cX2_isLetter 12 = .ok (.iconst 1, 1) := dk_4 (dk_at dksX2_isLetter_0 12 rfl rfl)
theorem dX2_isLetter_13 : decode cX2_isLetter 13 = .ok (.goto 4, 3) := dk_167 0 4 (dk_at dksX2_isLetter_0 13 rfl rfl)
theorem dX2_isLetter_16 : decode cX2_isLetter 16 = .ok (.iconst 0, 1) := dk_3 (dk_at dksX2_isLetter_0 16 rfl rfl)
theorem dX2_isLetter_17 : decode cX2_isLetter 17 = .ok (.ireturn, 1) := dk_172 (dk_at dksX2_isLetter_0 17 rfl rfl)
abbrev cX2_isDigit : ByteArray := prog_24_method_7_code
def yX2_isDigit : MethodName := ⟨RX2, "isDigit", "(I)Z"⟩
def dkwX2_isDigit_0 : List UInt8 := [27, 16, 48, 161, 0, 13, 27, 16, 57, 163, 0, 7, 4, 167, 0, 4, 3, 172]
abbrev dktX2_isDigit_0 : List UInt8 := dkwX2_isDigit_0 ++ []
theorem dksX2_isDigit_0 : cX2_isDigit.data.toList.drop 0 = dktX2_isDigit_0 := by decide +kernel
theorem dX2_isDigit_0 : decode cX2_isDigit 0 = .ok (.iload_n 1, 1) := dk_27 (dk_at dksX2_isDigit_0 0 rfl rfl)
theorem dX2_isDigit_1 : decode cX2_isDigit 1 = .ok (.bipush 48, 2) := dk_16 48 (dk_at dksX2_isDigit_0 1 rfl rfl)
theorem dX2_isDigit_3 : decode cX2_isDigit 3 = .ok (.if_icmp .lt 13, 3) := dk_161 0 13 (dk_at dksX2_isDigit_0 3 rfl rfl)
theorem dX2_isDigit_6 : decode cX2_isDigit 6 = .ok (.iload_n 1, 1) := dk_27 (dk_at dksX2_isDigit_0 6 rfl rfl)
theorem dX2_isDigit_7 : decode cX2_isDigit 7 = .ok (.bipush 57, 2) := dk_16 57 (dk_at dksX2_isDigit_0 7 rfl rfl)
theorem dX2_isDigit_9 : decode cX2_isDigit 9 = .ok (.if_icmp .gt 7, 3) := dk_163 0 7 (dk_at dksX2_isDigit_0 9 rfl rfl)
theorem dX2_isDigit_12 : decode cX2_isDigit 12 = .ok (.iconst 1, 1) := dk_4 (dk_at dksX2_isDigit_0 12 rfl rfl)
theorem dX2_isDigit_13 : decode cX2_isDigit 13 = .ok (.goto 4, 3) := dk_167 0 4 (dk_at dksX2_isDigit_0 13 rfl rfl)
theorem dX2_isDigit_16 : decode cX2_isDigit 16 = .ok (.iconst 0, 1) := dk_3 (dk_at dksX2_isDigit_0 16 rfl rfl)
theorem dX2_isDigit_17 : decode cX2_isDigit 17 = .ok (.ireturn, 1) := dk_172 (dk_at dksX2_isDigit_0 17 rfl rfl)
abbrev cX2_word : ByteArray := prog_24_method_9_code
def yX2_word : MethodName := ⟨RX2, "word", "()V"⟩
def dkwX2_word_8 : List UInt8 := [181, 0, 26, 42, 21, 5, 153, 0, 7, 4, 167, 0, 4, 7, 181, 0, 17, 177]
abbrev dktX2_word_8 : List UInt8 := dkwX2_word_8 ++ []
def dkwX2_word_7 : List UInt8 := [100, 4, 164, 0, 19, 42, 180, 0, 7, 28, 46, 16, 48, 160, 0, 8, 16, 254, 167, 0, 5, 33, 136]
abbrev dktX2_word_7 : List UInt8 := dkwX2_word_7 ++ dktX2_word_8
def dkwX2_word_6 : List UInt8 := [132, 6, 1, 167, 255, 207, 42, 28, 42, 180, 0, 23, 160, 0, 7, 2, 167, 0, 31, 42, 180, 0, 23, 28]
abbrev dktX2_word_6 : List UInt8 := dkwX2_word_6 ++ dktX2_word_7
def dkwX2_word_5 : List UInt8 := [182, 0, 212, 54, 5, 20, 0, 221, 33, 105, 42, 180, 0, 7, 21, 6, 46, 133, 97, 20, 0, 223, 101, 66]
abbrev dktX2_word_5 : List UInt8 := dkwX2_word_5 ++ dktX2_word_6
def dkwX2_word_4 : List UInt8 := [21, 6, 42, 180, 0, 23, 162, 0, 46, 21, 5, 153, 0, 41, 42, 42, 180, 0, 7, 21, 6, 46]
abbrev dktX2_word_4 : List UInt8 := dkwX2_word_4 ++ dktX2_word_5
def dkwX2_word_3 : List UInt8 := [42, 180, 0, 23, 42, 180, 0, 20, 100, 16, 8, 163, 0, 7, 4, 167, 0, 4, 3, 54, 5, 27, 54, 6]
abbrev dktX2_word_3 : List UInt8 := dkwX2_word_3 ++ dktX2_word_4
def dkwX2_word_2 : List UInt8 := [16, 8, 121, 42, 180, 0, 7, 27, 46, 133, 129, 181, 0, 32, 132, 1, 1, 167, 255, 202, 27, 61, 9, 66]
abbrev dktX2_word_2 : List UInt8 := dkwX2_word_2 ++ dktX2_word_3
def dkwX2_word_1 : List UInt8 := [46, 182, 0, 208, 153, 0, 39, 27, 42, 180, 0, 20, 100, 16, 9, 162, 0, 28, 42, 42, 180, 0, 32]
abbrev dktX2_word_1 : List UInt8 := dkwX2_word_1 ++ dktX2_word_2
def dkwX2_word_0 : List UInt8 := [42, 180, 0, 20, 60, 42, 9, 181, 0, 32, 27, 42, 180, 0, 23, 162, 0, 52, 42, 42, 180, 0, 7, 27]
abbrev dktX2_word_0 : List UInt8 := dkwX2_word_0 ++ dktX2_word_1
theorem dksX2_word_0 : cX2_word.data.toList.drop 0 = dktX2_word_0 := by decide +kernel
theorem dksX2_word_1 : cX2_word.data.toList.drop 24 = dktX2_word_1 := dk_seg dksX2_word_0 24 rfl rfl
theorem dksX2_word_2 : cX2_word.data.toList.drop 47 = dktX2_word_2 := dk_seg dksX2_word_1 23 rfl rfl
theorem dksX2_word_3 : cX2_word.data.toList.drop 71 = dktX2_word_3 := dk_seg dksX2_word_2 24 rfl rfl
theorem dksX2_word_4 : cX2_word.data.toList.drop 95 = dktX2_word_4 := dk_seg dksX2_word_3 24 rfl rfl
theorem dksX2_word_5 : cX2_word.data.toList.drop 117 = dktX2_word_5 := dk_seg dksX2_word_4 22 rfl rfl
theorem dksX2_word_6 : cX2_word.data.toList.drop 141 = dktX2_word_6 := dk_seg dksX2_word_5 24 rfl rfl
theorem dksX2_word_7 : cX2_word.data.toList.drop 165 = dktX2_word_7 := dk_seg dksX2_word_6 24 rfl rfl
theorem dksX2_word_8 : cX2_word.data.toList.drop 188 = dktX2_word_8 := dk_seg dksX2_word_7 23 rfl rfl
theorem dX2_word_0 : decode cX2_word 0 = .ok (.aload_n 0, 1) := dk_42 (dk_at dksX2_word_0 0 rfl rfl)
theorem dX2_word_1 : decode cX2_word 1 = .ok (.getfield 20, 3) := dk_180 0 20 (dk_at dksX2_word_0 1 rfl rfl)
theorem dX2_word_4 : decode cX2_word 4 = .ok (.istore_n 1, 1) := dk_60 (dk_at dksX2_word_0 4 rfl rfl)
theorem dX2_word_5 : decode cX2_word 5 = .ok (.aload_n 0, 1) := dk_42 (dk_at dksX2_word_0 5 rfl rfl)
theorem dX2_word_6 : decode cX2_word 6 = .ok (.lconst 0, 1) := dk_9 (dk_at dksX2_word_0 6 rfl rfl)
theorem dX2_word_7 : decode cX2_word 7 = .ok (.putfield 32, 3) := dk_181 0 32 (dk_at dksX2_word_0 7 rfl rfl)
theorem dX2_word_10 : decode cX2_word 10 = .ok (.iload_n 1, 1) := dk_27 (dk_at dksX2_word_0 10 rfl rfl)
theorem dX2_word_11 : decode cX2_word 11 = .ok (.aload_n 0, 1) := dk_42 (dk_at dksX2_word_0 11 rfl rfl)
theorem dX2_word_12 : decode cX2_word 12 = .ok (.getfield 23, 3) := dk_180 0 23 (dk_at dksX2_word_0 12 rfl rfl)
theorem dX2_word_15 : decode cX2_word 15 = .ok (.if_icmp .ge 52, 3) := dk_162 0 52 (dk_at dksX2_word_0 15 rfl rfl)
theorem dX2_word_18 : decode cX2_word 18 = .ok (.aload_n 0, 1) := dk_42 (dk_at dksX2_word_0 18 rfl rfl)
theorem dX2_word_19 : decode cX2_word 19 = .ok (.aload_n 0, 1) := dk_42 (dk_at dksX2_word_0 19 rfl rfl)
theorem dX2_word_20 : decode cX2_word 20 = .ok (.getfield 7, 3) := dk_180 0 7 (dk_at dksX2_word_0 20 rfl rfl)
theorem dX2_word_23 : decode cX2_word 23 = .ok (.iload_n 1, 1) := dk_27 (dk_at dksX2_word_0 23 rfl rfl)
theorem dX2_word_24 : decode cX2_word 24 = .ok (.iaload, 1) := dk_46 (dk_at dksX2_word_1 0 rfl rfl)
theorem dX2_word_25 : decode cX2_word 25 = .ok (.invokevirtual 208, 3) := dk_182 0 208 (dk_at dksX2_word_1 1 rfl rfl)
theorem dX2_word_28 : decode cX2_word 28 = .ok (.ifCond .eq 39, 3) := dk_153 0 39 (dk_at dksX2_word_1 4 rfl rfl)
theorem dX2_word_31 : decode cX2_word 31 = .ok (.iload_n 1, 1) := dk_27 (dk_at dksX2_word_1 7 rfl rfl)
theorem dX2_word_32 : decode cX2_word 32 = .ok (.aload_n 0, 1) := dk_42 (dk_at dksX2_word_1 8 rfl rfl)
theorem dX2_word_33 : decode cX2_word 33 = .ok (.getfield 20, 3) := dk_180 0 20 (dk_at dksX2_word_1 9 rfl rfl)
theorem dX2_word_36 : decode cX2_word 36 = .ok (.isub, 1) := dk_100 (dk_at dksX2_word_1 12 rfl rfl)
theorem dX2_word_37 : decode cX2_word 37 = .ok (.bipush 9, 2) := dk_16 9 (dk_at dksX2_word_1 13 rfl rfl)
theorem dX2_word_39 : decode cX2_word 39 = .ok (.if_icmp .ge 28, 3) := dk_162 0 28 (dk_at dksX2_word_1 15 rfl rfl)
theorem dX2_word_42 : decode cX2_word 42 = .ok (.aload_n 0, 1) := dk_42 (dk_at dksX2_word_1 18 rfl rfl)
theorem dX2_word_43 : decode cX2_word 43 = .ok (.aload_n 0, 1) := dk_42 (dk_at dksX2_word_1 19 rfl rfl)
theorem dX2_word_44 : decode cX2_word 44 = .ok (.getfield 32, 3) := dk_180 0 32 (dk_at dksX2_word_1 20 rfl rfl)
theorem dX2_word_47 : decode cX2_word 47 = .ok (.bipush 8, 2) := dk_16 8 (dk_at dksX2_word_2 0 rfl rfl)
theorem dX2_word_49 : decode cX2_word 49 = .ok (.lshl, 1) := dk_121 (dk_at dksX2_word_2 2 rfl rfl)
theorem dX2_word_50 : decode cX2_word 50 = .ok (.aload_n 0, 1) := dk_42 (dk_at dksX2_word_2 3 rfl rfl)
theorem dX2_word_51 : decode cX2_word 51 = .ok (.getfield 7, 3) := dk_180 0 7 (dk_at dksX2_word_2 4 rfl rfl)
theorem dX2_word_54 : decode cX2_word 54 = .ok (.iload_n 1, 1) := dk_27 (dk_at dksX2_word_2 7 rfl rfl)
theorem dX2_word_55 : decode cX2_word 55 = .ok (.iaload, 1) := dk_46 (dk_at dksX2_word_2 8 rfl rfl)
theorem dX2_word_56 : decode cX2_word 56 = .ok (.i2l, 1) := dk_133 (dk_at dksX2_word_2 9 rfl rfl)
theorem dX2_word_57 : decode cX2_word 57 = .ok (.lor, 1) := dk_129 (dk_at dksX2_word_2 10 rfl rfl)
theorem dX2_word_58 : decode cX2_word 58 = .ok (.putfield 32, 3) := dk_181 0 32 (dk_at dksX2_word_2 11 rfl rfl)
theorem dX2_word_61 : decode cX2_word 61 = .ok (.iinc 1 1, 3) := dk_132 1 1 (dk_at dksX2_word_2 14 rfl rfl)
theorem dX2_word_64 : decode cX2_word 64 = .ok (.goto (-54), 3) := dk_167 255 202 (dk_at dksX2_word_2 17 rfl rfl)
theorem dX2_word_67 : decode cX2_word 67 = .ok (.iload_n 1, 1) := dk_27 (dk_at dksX2_word_2 20 rfl rfl)
theorem dX2_word_68 : decode cX2_word 68 = .ok (.istore_n 2, 1) := dk_61 (dk_at dksX2_word_2 21 rfl rfl)
theorem dX2_word_69 : decode cX2_word 69 = .ok (.lconst 0, 1) := dk_9 (dk_at dksX2_word_2 22 rfl rfl)
theorem dX2_word_70 : decode cX2_word 70 = .ok (.lstore_n 3, 1) := dk_66 (dk_at dksX2_word_2 23 rfl rfl)
theorem dX2_word_71 : decode cX2_word 71 = .ok (.aload_n 0, 1) := dk_42 (dk_at dksX2_word_3 0 rfl rfl)
theorem dX2_word_72 : decode cX2_word 72 = .ok (.getfield 23, 3) := dk_180 0 23 (dk_at dksX2_word_3 1 rfl rfl)
theorem dX2_word_75 : decode cX2_word 75 = .ok (.aload_n 0, 1) := dk_42 (dk_at dksX2_word_3 4 rfl rfl)
theorem dX2_word_76 : decode cX2_word 76 = .ok (.getfield 20, 3) := dk_180 0 20 (dk_at dksX2_word_3 5 rfl rfl)
theorem dX2_word_79 : decode cX2_word 79 = .ok (.isub, 1) := dk_100 (dk_at dksX2_word_3 8 rfl rfl)
theorem dX2_word_80 : decode cX2_word 80 = .ok (.bipush 8, 2) := dk_16 8 (dk_at dksX2_word_3 9 rfl rfl)
theorem dX2_word_82 : decode cX2_word 82 = .ok (.if_icmp .gt 7, 3) := dk_163 0 7 (dk_at dksX2_word_3 11 rfl rfl)
theorem dX2_word_85 : decode cX2_word 85 = .ok (.iconst 1, 1) := dk_4 (dk_at dksX2_word_3 14 rfl rfl)
theorem dX2_word_86 : decode cX2_word 86 = .ok (.goto 4, 3) := dk_167 0 4 (dk_at dksX2_word_3 15 rfl rfl)
theorem dX2_word_89 : decode cX2_word 89 = .ok (.iconst 0, 1) := dk_3 (dk_at dksX2_word_3 18 rfl rfl)
theorem dX2_word_90 : decode cX2_word 90 = .ok (.istore 5, 2) := dk_54 5 (dk_at dksX2_word_3 19 rfl rfl)
theorem dX2_word_92 : decode cX2_word 92 = .ok (.iload_n 1, 1) := dk_27 (dk_at dksX2_word_3 21 rfl rfl)
theorem dX2_word_93 : decode cX2_word 93 = .ok (.istore 6, 2) := dk_54 6 (dk_at dksX2_word_3 22 rfl rfl)
theorem dX2_word_95 : decode cX2_word 95 = .ok (.iload 6, 2) := dk_21 6 (dk_at dksX2_word_4 0 rfl rfl)
theorem dX2_word_97 : decode cX2_word 97 = .ok (.aload_n 0, 1) := dk_42 (dk_at dksX2_word_4 2 rfl rfl)
theorem dX2_word_98 : decode cX2_word 98 = .ok (.getfield 23, 3) := dk_180 0 23 (dk_at dksX2_word_4 3 rfl rfl)
theorem dX2_word_101 : decode cX2_word 101 = .ok (.if_icmp .ge 46, 3) := dk_162 0 46 (dk_at dksX2_word_4 6 rfl rfl)
theorem dX2_word_104 : decode cX2_word 104 = .ok (.iload 5, 2) := dk_21 5 (dk_at dksX2_word_4 9 rfl rfl)
theorem dX2_word_106 : decode cX2_word 106 = .ok (.ifCond .eq 41, 3) := dk_153 0 41 (dk_at dksX2_word_4 11 rfl rfl)
theorem dX2_word_109 : decode cX2_word 109 = .ok (.aload_n 0, 1) := dk_42 (dk_at dksX2_word_4 14 rfl rfl)
theorem dX2_word_110 : decode cX2_word 110 = .ok (.aload_n 0, 1) := dk_42 (dk_at dksX2_word_4 15 rfl rfl)
theorem dX2_word_111 : decode cX2_word 111 = .ok (.getfield 7, 3) := dk_180 0 7 (dk_at dksX2_word_4 16 rfl rfl)
theorem dX2_word_114 : decode cX2_word 114 = .ok (.iload 6, 2) := dk_21 6 (dk_at dksX2_word_4 19 rfl rfl)
theorem dX2_word_116 : decode cX2_word 116 = .ok (.iaload, 1) := dk_46 (dk_at dksX2_word_4 21 rfl rfl)
theorem dX2_word_117 : decode cX2_word 117 = .ok (.invokevirtual 212, 3) := dk_182 0 212 (dk_at dksX2_word_5 0 rfl rfl)
theorem dX2_word_120 : decode cX2_word 120 = .ok (.istore 5, 2) := dk_54 5 (dk_at dksX2_word_5 3 rfl rfl)
theorem dX2_word_122 : decode cX2_word 122 = .ok (.ldc2_w 221, 3) := dk_20 0 221 (dk_at dksX2_word_5 5 rfl rfl)
theorem dX2_word_125 : decode cX2_word 125 = .ok (.lload_n 3, 1) := dk_33 (dk_at dksX2_word_5 8 rfl rfl)
theorem dX2_word_126 : decode cX2_word 126 = .ok (.lmul, 1) := dk_105 (dk_at dksX2_word_5 9 rfl rfl)
theorem dX2_word_127 : decode cX2_word 127 = .ok (.aload_n 0, 1) := dk_42 (dk_at dksX2_word_5 10 rfl rfl)
theorem dX2_word_128 : decode cX2_word 128 = .ok (.getfield 7, 3) := dk_180 0 7 (dk_at dksX2_word_5 11 rfl rfl)
theorem dX2_word_131 : decode cX2_word 131 = .ok (.iload 6, 2) := dk_21 6 (dk_at dksX2_word_5 14 rfl rfl)
theorem dX2_word_133 : decode cX2_word 133 = .ok (.iaload, 1) := dk_46 (dk_at dksX2_word_5 16 rfl rfl)
theorem dX2_word_134 : decode cX2_word 134 = .ok (.i2l, 1) := dk_133 (dk_at dksX2_word_5 17 rfl rfl)
theorem dX2_word_135 : decode cX2_word 135 = .ok (.ladd, 1) := dk_97 (dk_at dksX2_word_5 18 rfl rfl)
theorem dX2_word_136 : decode cX2_word 136 = .ok (.ldc2_w 223, 3) := dk_20 0 223 (dk_at dksX2_word_5 19 rfl rfl)
theorem dX2_word_139 : decode cX2_word 139 = .ok (.lsub, 1) := dk_101 (dk_at dksX2_word_5 22 rfl rfl)
theorem dX2_word_140 : decode cX2_word 140 = .ok (.lstore_n 3, 1) := dk_66 (dk_at dksX2_word_5 23 rfl rfl)
theorem dX2_word_141 : decode cX2_word 141 = .ok (.iinc 6 1, 3) := dk_132 6 1 (dk_at dksX2_word_6 0 rfl rfl)
theorem dX2_word_144 : decode cX2_word 144 = .ok (.goto (-49), 3) := dk_167 255 207 (dk_at dksX2_word_6 3 rfl rfl)
theorem dX2_word_147 : decode cX2_word 147 = .ok (.aload_n 0, 1) := dk_42 (dk_at dksX2_word_6 6 rfl rfl)
theorem dX2_word_148 : decode cX2_word 148 = .ok (.iload_n 2, 1) := dk_28 (dk_at dksX2_word_6 7 rfl rfl)
theorem dX2_word_149 : decode cX2_word 149 = .ok (.aload_n 0, 1) := dk_42 (dk_at dksX2_word_6 8 rfl rfl)
theorem dX2_word_150 : decode cX2_word 150 = .ok (.getfield 23, 3) := dk_180 0 23 (dk_at dksX2_word_6 9 rfl rfl)
theorem dX2_word_153 : decode cX2_word 153 = .ok (.if_icmp .ne 7, 3) := dk_160 0 7 (dk_at dksX2_word_6 12 rfl rfl)
theorem dX2_word_156 : decode cX2_word 156 = .ok (.iconst (-1), 1) := dk_2 (dk_at dksX2_word_6 15 rfl rfl)
theorem dX2_word_157 : decode cX2_word 157 = .ok (.goto 31, 3) := dk_167 0 31 (dk_at dksX2_word_6 16 rfl rfl)
theorem dX2_word_160 : decode cX2_word 160 = .ok (.aload_n 0, 1) := dk_42 (dk_at dksX2_word_6 19 rfl rfl)
theorem dX2_word_161 : decode cX2_word 161 = .ok (.getfield 23, 3) := dk_180 0 23 (dk_at dksX2_word_6 20 rfl rfl)
theorem dX2_word_164 : decode cX2_word 164 = .ok (.iload_n 2, 1) := dk_28 (dk_at dksX2_word_6 23 rfl rfl)
theorem dX2_word_165 : decode cX2_word 165 = .ok (.isub, 1) := dk_100 (dk_at dksX2_word_7 0 rfl rfl)
theorem dX2_word_166 : decode cX2_word 166 = .ok (.iconst 1, 1) := dk_4 (dk_at dksX2_word_7 1 rfl rfl)
theorem dX2_word_167 : decode cX2_word 167 = .ok (.if_icmp .le 19, 3) := dk_164 0 19 (dk_at dksX2_word_7 2 rfl rfl)
theorem dX2_word_170 : decode cX2_word 170 = .ok (.aload_n 0, 1) := dk_42 (dk_at dksX2_word_7 5 rfl rfl)
theorem dX2_word_171 : decode cX2_word 171 = .ok (.getfield 7, 3) := dk_180 0 7 (dk_at dksX2_word_7 6 rfl rfl)
theorem dX2_word_174 : decode cX2_word 174 = .ok (.iload_n 2, 1) := dk_28 (dk_at dksX2_word_7 9 rfl rfl)
theorem dX2_word_175 : decode cX2_word 175 = .ok (.iaload, 1) := dk_46 (dk_at dksX2_word_7 10 rfl rfl)
theorem dX2_word_176 : decode cX2_word 176 = .ok (.bipush 48, 2) := dk_16 48 (dk_at dksX2_word_7 11 rfl rfl)
theorem dX2_word_178 : decode cX2_word 178 = .ok (.if_icmp .ne 8, 3) := dk_160 0 8 (dk_at dksX2_word_7 13 rfl rfl)
theorem dX2_word_181 : decode cX2_word 181 = .ok (.bipush (-2), 2) := dk_16 254 (dk_at dksX2_word_7 16 rfl rfl)
theorem dX2_word_183 : decode cX2_word 183 = .ok (.goto 5, 3) := dk_167 0 5 (dk_at dksX2_word_7 18 rfl rfl)
theorem dX2_word_186 : decode cX2_word 186 = .ok (.lload_n 3, 1) := dk_33 (dk_at dksX2_word_7 21 rfl rfl)
theorem dX2_word_187 : decode cX2_word 187 = .ok (.l2i, 1) := dk_136 (dk_at dksX2_word_7 22 rfl rfl)
theorem dX2_word_188 : decode cX2_word 188 = .ok (.putfield 26, 3) := dk_181 0 26 (dk_at dksX2_word_8 0 rfl rfl)
theorem dX2_word_191 : decode cX2_word 191 = .ok (.aload_n 0, 1) := dk_42 (dk_at dksX2_word_8 3 rfl rfl)
theorem dX2_word_192 : decode cX2_word 192 = .ok (.iload 5, 2) := dk_21 5 (dk_at dksX2_word_8 4 rfl rfl)
theorem dX2_word_194 : decode cX2_word 194 = .ok (.ifCond .eq 7, 3) := dk_153 0 7 (dk_at dksX2_word_8 6 rfl rfl)
theorem dX2_word_197 : decode cX2_word 197 = .ok (.iconst 1, 1) := dk_4 (dk_at dksX2_word_8 9 rfl rfl)
theorem dX2_word_198 : decode cX2_word 198 = .ok (.goto 4, 3) := dk_167 0 4 (dk_at dksX2_word_8 10 rfl rfl)
theorem dX2_word_201 : decode cX2_word 201 = .ok (.iconst 4, 1) := dk_7 (dk_at dksX2_word_8 13 rfl rfl)
theorem dX2_word_202 : decode cX2_word 202 = .ok (.putfield 17, 3) := dk_181 0 17 (dk_at dksX2_word_8 14 rfl rfl)
theorem dX2_word_205 : decode cX2_word 205 = .ok (.return_, 1) := dk_177 (dk_at dksX2_word_8 17 rfl rfl)
abbrev cX2_number : ByteArray := prog_24_method_10_code
def yX2_number : MethodName := ⟨RX2, "number", "()V"⟩
def dkwX2_number_4 : List UInt8 := [181, 0, 17, 177]
abbrev dktX2_number_4 : List UInt8 := dkwX2_number_4 ++ []
def dkwX2_number_3 : List UInt8 := [16, 48, 100, 181, 0, 29, 132, 2, 1, 167, 255, 209, 42, 27, 153, 0, 7, 5, 167, 0, 4, 7]
abbrev dktX2_number_3 : List UInt8 := dkwX2_number_3 ++ dktX2_number_4
def dkwX2_number_2 : List UInt8 := [180, 0, 7, 28, 46, 182, 0, 212, 60, 42, 16, 10, 42, 180, 0, 29, 104, 42, 180, 0, 7, 28, 46, 96]
abbrev dktX2_number_2 : List UInt8 := dkwX2_number_2 ++ dktX2_number_3
def dkwX2_number_1 : List UInt8 := [181, 0, 29, 42, 180, 0, 20, 61, 28, 42, 180, 0, 23, 162, 0, 45, 27, 153, 0, 41, 42, 42]
abbrev dktX2_number_1 : List UInt8 := dkwX2_number_1 ++ dktX2_number_2
def dkwX2_number_0 : List UInt8 := [42, 180, 0, 23, 42, 180, 0, 20, 100, 16, 9, 163, 0, 7, 4, 167, 0, 4, 3, 60, 42, 3]
abbrev dktX2_number_0 : List UInt8 := dkwX2_number_0 ++ dktX2_number_1
theorem dksX2_number_0 : cX2_number.data.toList.drop 0 = dktX2_number_0 := by decide +kernel
theorem dksX2_number_1 : cX2_number.data.toList.drop 22 = dktX2_number_1 := dk_seg dksX2_number_0 22 rfl rfl
theorem dksX2_number_2 : cX2_number.data.toList.drop 44 = dktX2_number_2 := dk_seg dksX2_number_1 22 rfl rfl
theorem dksX2_number_3 : cX2_number.data.toList.drop 68 = dktX2_number_3 := dk_seg dksX2_number_2 24 rfl rfl
theorem dksX2_number_4 : cX2_number.data.toList.drop 90 = dktX2_number_4 := dk_seg dksX2_number_3 22 rfl rfl
theorem dX2_number_0 : decode cX2_number 0 = .ok (.aload_n 0, 1) := dk_42 (dk_at dksX2_number_0 0 rfl rfl)
theorem dX2_number_1 : decode cX2_number 1 = .ok (.getfield 23, 3) := dk_180 0 23 (dk_at dksX2_number_0 1 rfl rfl)
theorem dX2_number_4 : decode cX2_number 4 = .ok (.aload_n 0, 1) := dk_42 (dk_at dksX2_number_0 4 rfl rfl)
theorem dX2_number_5 : decode cX2_number 5 = .ok (.getfield 20, 3) := dk_180 0 20 (dk_at dksX2_number_0 5 rfl rfl)
theorem dX2_number_8 : decode cX2_number 8 = .ok (.isub, 1) := dk_100 (dk_at dksX2_number_0 8 rfl rfl)
theorem dX2_number_9 : decode cX2_number 9 = .ok (.bipush 9, 2) := dk_16 9 (dk_at dksX2_number_0 9 rfl rfl)
theorem dX2_number_11 : decode cX2_number 11 = .ok (.if_icmp .gt 7, 3) := dk_163 0 7 (dk_at dksX2_number_0 11 rfl rfl)
theorem dX2_number_14 : decode cX2_number 14 = .ok (.iconst 1, 1) := dk_4 (dk_at dksX2_number_0 14 rfl rfl)
theorem dX2_number_15 : decode cX2_number 15 = .ok (.goto 4, 3) := dk_167 0 4 (dk_at dksX2_number_0 15 rfl rfl)
theorem dX2_number_18 : decode cX2_number 18 = .ok (.iconst 0, 1) := dk_3 (dk_at dksX2_number_0 18 rfl rfl)
theorem dX2_number_19 : decode cX2_number 19 = .ok (.istore_n 1, 1) := dk_60 (dk_at dksX2_number_0 19 rfl rfl)
theorem dX2_number_20 : decode cX2_number 20 = .ok (.aload_n 0, 1) := dk_42 (dk_at dksX2_number_0 20 rfl rfl)
theorem dX2_number_21 : decode cX2_number 21 = .ok (.iconst 0, 1) := dk_3 (dk_at dksX2_number_0 21 rfl rfl)
theorem dX2_number_22 : decode cX2_number 22 = .ok (.putfield 29, 3) := dk_181 0 29 (dk_at dksX2_number_1 0 rfl rfl)
theorem dX2_number_25 : decode cX2_number 25 = .ok (.aload_n 0, 1) := dk_42 (dk_at dksX2_number_1 3 rfl rfl)
theorem dX2_number_26 : decode cX2_number 26 = .ok (.getfield 20, 3) := dk_180 0 20 (dk_at dksX2_number_1 4 rfl rfl)
theorem dX2_number_29 : decode cX2_number 29 = .ok (.istore_n 2, 1) := dk_61 (dk_at dksX2_number_1 7 rfl rfl)
theorem dX2_number_30 : decode cX2_number 30 = .ok (.iload_n 2, 1) := dk_28 (dk_at dksX2_number_1 8 rfl rfl)
theorem dX2_number_31 : decode cX2_number 31 = .ok (.aload_n 0, 1) := dk_42 (dk_at dksX2_number_1 9 rfl rfl)
theorem dX2_number_32 : decode cX2_number 32 = .ok (.getfield 23, 3) := dk_180 0 23 (dk_at dksX2_number_1 10 rfl rfl)
theorem dX2_number_35 : decode cX2_number 35 = .ok (.if_icmp .ge 45, 3) := dk_162 0 45 (dk_at dksX2_number_1 13 rfl rfl)
theorem dX2_number_38 : decode cX2_number 38 = .ok (.iload_n 1, 1) := dk_27 (dk_at dksX2_number_1 16 rfl rfl)
theorem dX2_number_39 : decode cX2_number 39 = .ok (.ifCond .eq 41, 3) := dk_153 0 41 (dk_at dksX2_number_1 17 rfl rfl)
theorem dX2_number_42 : decode cX2_number 42 = .ok (.aload_n 0, 1) := dk_42 (dk_at dksX2_number_1 20 rfl rfl)
theorem dX2_number_43 : decode cX2_number 43 = .ok (.aload_n 0, 1) := dk_42 (dk_at dksX2_number_1 21 rfl rfl)
theorem dX2_number_44 : decode cX2_number 44 = .ok (.getfield 7, 3) := dk_180 0 7 (dk_at dksX2_number_2 0 rfl rfl)
theorem dX2_number_47 : decode cX2_number 47 = .ok (.iload_n 2, 1) := dk_28 (dk_at dksX2_number_2 3 rfl rfl)
theorem dX2_number_48 : decode cX2_number 48 = .ok (.iaload, 1) := dk_46 (dk_at dksX2_number_2 4 rfl rfl)
theorem dX2_number_49 : decode cX2_number 49 = .ok (.invokevirtual 212, 3) := dk_182 0 212 (dk_at dksX2_number_2 5 rfl rfl)
theorem dX2_number_52 : decode cX2_number 52 = .ok (.istore_n 1, 1) := dk_60 (dk_at dksX2_number_2 8 rfl rfl)
theorem dX2_number_53 : decode cX2_number 53 = .ok (.aload_n 0, 1) := dk_42 (dk_at dksX2_number_2 9 rfl rfl)
theorem dX2_number_54 : decode cX2_number 54 = .ok (.bipush 10, 2) := dk_16 10 (dk_at dksX2_number_2 10 rfl rfl)
theorem dX2_number_56 : decode cX2_number 56 = .ok (.aload_n 0, 1) := dk_42 (dk_at dksX2_number_2 12 rfl rfl)
theorem dX2_number_57 : decode cX2_number 57 = .ok (.getfield 29, 3) := dk_180 0 29 (dk_at dksX2_number_2 13 rfl rfl)
theorem dX2_number_60 : decode cX2_number 60 = .ok (.imul, 1) := dk_104 (dk_at dksX2_number_2 16 rfl rfl)
theorem dX2_number_61 : decode cX2_number 61 = .ok (.aload_n 0, 1) := dk_42 (dk_at dksX2_number_2 17 rfl rfl)
theorem dX2_number_62 : decode cX2_number 62 = .ok (.getfield 7, 3) := dk_180 0 7 (dk_at dksX2_number_2 18 rfl rfl)
theorem dX2_number_65 : decode cX2_number 65 = .ok (.iload_n 2, 1) := dk_28 (dk_at dksX2_number_2 21 rfl rfl)
theorem dX2_number_66 : decode cX2_number 66 = .ok (.iaload, 1) := dk_46 (dk_at dksX2_number_2 22 rfl rfl)
theorem dX2_number_67 : decode cX2_number 67 = .ok (.iadd, 1) := dk_96 (dk_at dksX2_number_2 23 rfl rfl)
theorem dX2_number_68 : decode cX2_number 68 = .ok (.bipush 48, 2) := dk_16 48 (dk_at dksX2_number_3 0 rfl rfl)
theorem dX2_number_70 : decode cX2_number 70 = .ok (.isub, 1) := dk_100 (dk_at dksX2_number_3 2 rfl rfl)
theorem dX2_number_71 : decode cX2_number 71 = .ok (.putfield 29, 3) := dk_181 0 29 (dk_at dksX2_number_3 3 rfl rfl)
theorem dX2_number_74 : decode cX2_number 74 = .ok (.iinc 2 1, 3) := dk_132 2 1 (dk_at dksX2_number_3 6 rfl rfl)
theorem dX2_number_77 : decode cX2_number 77 = .ok (.goto (-47), 3) := dk_167 255 209 (dk_at dksX2_number_3 9 rfl rfl)
theorem dX2_number_80 : decode cX2_number 80 = .ok (.aload_n 0, 1) := dk_42 (dk_at dksX2_number_3 12 rfl rfl)
theorem dX2_number_81 : decode cX2_number 81 = .ok (.iload_n 1, 1) := dk_27 (dk_at dksX2_number_3 13 rfl rfl)
theorem dX2_number_82 : decode cX2_number 82 = .ok (.ifCond .eq 7, 3) := dk_153 0 7 (dk_at dksX2_number_3 14 rfl rfl)
theorem dX2_number_85 : decode cX2_number 85 = .ok (.iconst 2, 1) := dk_5 (dk_at dksX2_number_3 17 rfl rfl)
theorem dX2_number_86 : decode cX2_number 86 = .ok (.goto 4, 3) := dk_167 0 4 (dk_at dksX2_number_3 18 rfl rfl)
theorem dX2_number_89 : decode cX2_number 89 = .ok (.iconst 4, 1) := dk_7 (dk_at dksX2_number_3 21 rfl rfl)
theorem dX2_number_90 : decode cX2_number 90 = .ok (.putfield 17, 3) := dk_181 0 17 (dk_at dksX2_number_4 0 rfl rfl)
theorem dX2_number_93 : decode cX2_number 93 = .ok (.return_, 1) := dk_177 (dk_at dksX2_number_4 3 rfl rfl)
abbrev cX2_must : ByteArray := prog_24_method_15_code
def yX2_must : MethodName := ⟨RX2, "must", "(ZI)Z"⟩
def dkwX2_must_2 : List UInt8 := [172]
abbrev dktX2_must_2 : List UInt8 := dkwX2_must_2 ++ []
def dkwX2_must_1 : List UInt8 := [28, 181, 0, 110, 42, 42, 180, 0, 20, 181, 0, 113, 42, 180, 0, 110, 154, 0, 7, 4, 167, 0, 4, 3]
abbrev dktX2_must_1 : List UInt8 := dkwX2_must_1 ++ dktX2_must_2
def dkwX2_must_0 : List UInt8 := [27, 154, 0, 35, 42, 180, 0, 110, 154, 0, 28, 42, 42, 180, 0, 17, 7, 160, 0, 7, 4, 167, 0, 4]
abbrev dktX2_must_0 : List UInt8 := dkwX2_must_0 ++ dktX2_must_1
theorem dksX2_must_0 : cX2_must.data.toList.drop 0 = dktX2_must_0 := by decide +kernel
theorem dksX2_must_1 : cX2_must.data.toList.drop 24 = dktX2_must_1 := dk_seg dksX2_must_0 24 rfl rfl
theorem dksX2_must_2 : cX2_must.data.toList.drop 48 = dktX2_must_2 := dk_seg dksX2_must_1 24 rfl rfl
theorem dX2_must_0 : decode cX2_must 0 = .ok (.iload_n 1, 1) := dk_27 (dk_at dksX2_must_0 0 rfl rfl)
theorem dX2_must_1 : decode cX2_must 1 = .ok (.ifCond .ne 35, 3) := dk_154 0 35 (dk_at dksX2_must_0 1 rfl rfl)
theorem dX2_must_4 : decode cX2_must 4 = .ok (.aload_n 0, 1) := dk_42 (dk_at dksX2_must_0 4 rfl rfl)
theorem dX2_must_5 : decode cX2_must 5 = .ok (.getfield 110, 3) := dk_180 0 110 (dk_at dksX2_must_0 5 rfl rfl)
theorem dX2_must_8 : decode cX2_must 8 = .ok (.ifCond .ne 28, 3) := dk_154 0 28 (dk_at dksX2_must_0 8 rfl rfl)
theorem dX2_must_11 : decode cX2_must 11 = .ok (.aload_n 0, 1) := dk_42 (dk_at dksX2_must_0 11 rfl rfl)
theorem dX2_must_12 : decode cX2_must 12 = .ok (.aload_n 0, 1) := dk_42 (dk_at dksX2_must_0 12 rfl rfl)
theorem dX2_must_13 : decode cX2_must 13 = .ok (.getfield 17, 3) := dk_180 0 17 (dk_at dksX2_must_0 13 rfl rfl)
theorem dX2_must_16 : decode cX2_must 16 = .ok (.iconst 4, 1) := dk_7 (dk_at dksX2_must_0 16 rfl rfl)
theorem dX2_must_17 : decode cX2_must 17 = .ok (.if_icmp .ne 7, 3) := dk_160 0 7 (dk_at dksX2_must_0 17 rfl rfl)
theorem dX2_must_20 : decode cX2_must 20 = .ok (.iconst 1, 1) := dk_4 (dk_at dksX2_must_0 20 rfl rfl)
theorem dX2_must_21 : decode cX2_must 21 = .ok (.goto 4, 3) := dk_167 0 4 (dk_at dksX2_must_0 21 rfl rfl)
theorem dX2_must_24 : decode cX2_must 24 = .ok (.iload_n 2, 1) := dk_28 (dk_at dksX2_must_1 0 rfl rfl)
theorem dX2_must_25 : decode cX2_must 25 = .ok (.putfield 110, 3) := dk_181 0 110 (dk_at dksX2_must_1 1 rfl rfl)
theorem dX2_must_28 : decode cX2_must 28 = .ok (.aload_n 0, 1) := dk_42 (dk_at dksX2_must_1 4 rfl rfl)
theorem dX2_must_29 : decode cX2_must 29 = .ok (.aload_n 0, 1) := dk_42 (dk_at dksX2_must_1 5 rfl rfl)
theorem dX2_must_30 : decode cX2_must 30 = .ok (.getfield 20, 3) := dk_180 0 20 (dk_at dksX2_must_1 6 rfl rfl)
theorem dX2_must_33 : decode cX2_must 33 = .ok (.putfield 113, 3) := dk_181 0 113 (dk_at dksX2_must_1 9 rfl rfl)
theorem dX2_must_36 : decode cX2_must 36 = .ok (.aload_n 0, 1) := dk_42 (dk_at dksX2_must_1 12 rfl rfl)
theorem dX2_must_37 : decode cX2_must 37 = .ok (.getfield 110, 3) := dk_180 0 110 (dk_at dksX2_must_1 13 rfl rfl)
theorem dX2_must_40 : decode cX2_must 40 = .ok (.ifCond .ne 7, 3) := dk_154 0 7 (dk_at dksX2_must_1 16 rfl rfl)
theorem dX2_must_43 : decode cX2_must 43 = .ok (.iconst 1, 1) := dk_4 (dk_at dksX2_must_1 19 rfl rfl)
theorem dX2_must_44 : decode cX2_must 44 = .ok (.goto 4, 3) := dk_167 0 4 (dk_at dksX2_must_1 20 rfl rfl)
theorem dX2_must_47 : decode cX2_must 47 = .ok (.iconst 0, 1) := dk_3 (dk_at dksX2_must_1 23 rfl rfl)
theorem dX2_must_48 : decode cX2_must 48 = .ok (.ireturn, 1) := dk_172 (dk_at dksX2_must_2 0 rfl rfl)
abbrev cX2_readBlock : ByteArray := prog_24_method_31_code
def yX2_readBlock : MethodName := ⟨RX2, "readBlock", "()V"⟩
def dkwX2_readBlock_5 : List UInt8 := [42, 182, 1, 45, 61, 167, 255, 240, 177]
abbrev dktX2_readBlock_5 : List UInt8 := dkwX2_readBlock_5 ++ []
def dkwX2_readBlock_4 : List UInt8 := [79, 42, 182, 0, 236, 42, 16, 58, 182, 1, 23, 3, 61, 42, 180, 0, 110, 154, 0, 15, 28, 154, 0, 11]
abbrev dktX2_readBlock_4 : List UInt8 := dkwX2_readBlock_4 ++ dktX2_readBlock_5
def dkwX2_readBlock_3 : List UInt8 := [180, 0, 52, 17, 0, 164, 27, 96, 42, 180, 0, 43, 7, 46, 79, 42, 180, 0, 40, 7, 92, 46, 4, 96]
abbrev dktX2_readBlock_3 : List UInt8 := dkwX2_readBlock_3 ++ dktX2_readBlock_4
def dkwX2_readBlock_2 : List UInt8 := [182, 0, 232, 154, 0, 4, 177, 42, 180, 0, 55, 17, 0, 164, 27, 96, 42, 180, 0, 20, 79, 42]
abbrev dktX2_readBlock_2 : List UInt8 := dkwX2_readBlock_2 ++ dktX2_readBlock_3
def dkwX2_readBlock_1 : List UInt8 := [153, 0, 28, 42, 42, 16, 98, 16, 39, 182, 0, 225, 27, 160, 0, 7, 4, 167, 0, 4, 3, 5]
abbrev dktX2_readBlock_1 : List UInt8 := dkwX2_readBlock_1 ++ dktX2_readBlock_2
def dkwX2_readBlock_0 : List UInt8 := [42, 180, 0, 40, 7, 46, 60, 42, 27, 16, 40, 162, 0, 7, 4, 167, 0, 4, 3, 6, 182, 0, 232]
abbrev dktX2_readBlock_0 : List UInt8 := dkwX2_readBlock_0 ++ dktX2_readBlock_1
theorem dksX2_readBlock_0 : cX2_readBlock.data.toList.drop 0 = dktX2_readBlock_0 := by decide +kernel
theorem dksX2_readBlock_1 : cX2_readBlock.data.toList.drop 23 = dktX2_readBlock_1 := dk_seg dksX2_readBlock_0 23 rfl rfl
theorem dksX2_readBlock_2 : cX2_readBlock.data.toList.drop 45 = dktX2_readBlock_2 := dk_seg dksX2_readBlock_1 22 rfl rfl
theorem dksX2_readBlock_3 : cX2_readBlock.data.toList.drop 67 = dktX2_readBlock_3 := dk_seg dksX2_readBlock_2 22 rfl rfl
theorem dksX2_readBlock_4 : cX2_readBlock.data.toList.drop 91 = dktX2_readBlock_4 := dk_seg dksX2_readBlock_3 24 rfl rfl
theorem dksX2_readBlock_5 : cX2_readBlock.data.toList.drop 115 = dktX2_readBlock_5 := dk_seg dksX2_readBlock_4 24 rfl rfl
theorem dX2_readBlock_0 : decode cX2_readBlock 0 = .ok (.aload_n 0, 1) := dk_42 (dk_at dksX2_readBlock_0 0 rfl rfl)
theorem dX2_readBlock_1 : decode cX2_readBlock 1 = .ok (.getfield 40, 3) := dk_180 0 40 (dk_at dksX2_readBlock_0 1 rfl rfl)
theorem dX2_readBlock_4 : decode cX2_readBlock 4 = .ok (.iconst 4, 1) := dk_7 (dk_at dksX2_readBlock_0 4 rfl rfl)
theorem dX2_readBlock_5 : decode cX2_readBlock 5 = .ok (.iaload, 1) := dk_46 (dk_at dksX2_readBlock_0 5 rfl rfl)
theorem dX2_readBlock_6 : decode cX2_readBlock 6 = .ok (.istore_n 1, 1) := dk_60 (dk_at dksX2_readBlock_0 6 rfl rfl)
theorem dX2_readBlock_7 : decode cX2_readBlock 7 = .ok (.aload_n 0, 1) := dk_42 (dk_at dksX2_readBlock_0 7 rfl rfl)
theorem dX2_readBlock_8 : decode cX2_readBlock 8 = .ok (.iload_n 1, 1) := dk_27 (dk_at dksX2_readBlock_0 8 rfl rfl)
theorem dX2_readBlock_9 : decode cX2_readBlock 9 = .ok (.bipush 40, 2) := dk_16 40 (dk_at dksX2_readBlock_0 9 rfl rfl)
theorem dX2_readBlock_11 : decode cX2_readBlock 11 = .ok (.if_icmp .ge 7, 3) := dk_162 0 7 (dk_at dksX2_readBlock_0 11 rfl rfl)
theorem dX2_readBlock_14 : decode cX2_readBlock 14 = .ok (.iconst 1, 1) := dk_4 (dk_at dksX2_readBlock_0 14 rfl rfl)
theorem dX2_readBlock_15 : decode cX2_readBlock 15 = .ok (.goto 4, 3) := dk_167 0 4 (dk_at dksX2_readBlock_0 15 rfl rfl)
theorem dX2_readBlock_18 : decode cX2_readBlock 18 = .ok (.iconst 0, 1) := dk_3 (dk_at dksX2_readBlock_0 18 rfl rfl)
theorem dX2_readBlock_19 : decode cX2_readBlock 19 = .ok (.iconst 3, 1) := dk_6 (dk_at dksX2_readBlock_0 19 rfl rfl)
theorem dX2_readBlock_20 : decode cX2_readBlock 20 = .ok (.invokevirtual 232, 3) := dk_182 0 232 (dk_at dksX2_readBlock_0 20 rfl rfl)
theorem dX2_readBlock_23 : decode cX2_readBlock 23 = .ok (.ifCond .eq 28, 3) := dk_153 0 28 (dk_at dksX2_readBlock_1 0 rfl rfl)
theorem dX2_readBlock_26 : decode cX2_readBlock 26 = .ok (.aload_n 0, 1) := dk_42 (dk_at dksX2_readBlock_1 3 rfl rfl)
theorem dX2_readBlock_27 : decode cX2_readBlock 27 = .ok (.aload_n 0, 1) := dk_42 (dk_at dksX2_readBlock_1 4 rfl rfl)
theorem dX2_readBlock_28 : decode cX2_readBlock 28 = .ok (.bipush 98, 2) := dk_16 98 (dk_at dksX2_readBlock_1 5 rfl rfl)
theorem dX2_readBlock_30 : decode cX2_readBlock 30 = .ok (.bipush 39, 2) := dk_16 39 (dk_at dksX2_readBlock_1 7 rfl rfl)
theorem dX2_readBlock_32 : decode cX2_readBlock 32 = .ok (.invokevirtual 225, 3) := dk_182 0 225 (dk_at dksX2_readBlock_1 9 rfl rfl)
theorem dX2_readBlock_35 : decode cX2_readBlock 35 = .ok (.iload_n 1, 1) := dk_27 (dk_at dksX2_readBlock_1 12 rfl rfl)
theorem dX2_readBlock_36 : decode cX2_readBlock 36 = .ok (.if_icmp .ne 7, 3) := dk_160 0 7 (dk_at dksX2_readBlock_1 13 rfl rfl)
theorem dX2_readBlock_39 : decode cX2_readBlock 39 = .ok (.iconst 1, 1) := dk_4 (dk_at dksX2_readBlock_1 16 rfl rfl)
theorem dX2_readBlock_40 : decode cX2_readBlock 40 = .ok (.goto 4, 3) := dk_167 0 4 (dk_at dksX2_readBlock_1 17 rfl rfl)
theorem dX2_readBlock_43 : decode cX2_readBlock 43 = .ok (.iconst 0, 1) := dk_3 (dk_at dksX2_readBlock_1 20 rfl rfl)
theorem dX2_readBlock_44 : decode cX2_readBlock 44 = .ok (.iconst 2, 1) := dk_5 (dk_at dksX2_readBlock_1 21 rfl rfl)
theorem dX2_readBlock_45 : decode cX2_readBlock 45 = .ok (.invokevirtual 232, 3) := dk_182 0 232 (dk_at dksX2_readBlock_2 0 rfl rfl)
theorem dX2_readBlock_48 : decode cX2_readBlock 48 = .ok (.ifCond .ne 4, 3) := dk_154 0 4 (dk_at dksX2_readBlock_2 3 rfl rfl)
theorem dX2_readBlock_51 : decode cX2_readBlock 51 = .ok (.return_, 1) := dk_177 (dk_at dksX2_readBlock_2 6 rfl rfl)
theorem dX2_readBlock_52 : decode cX2_readBlock 52 = .ok (.aload_n 0, 1) := dk_42 (dk_at dksX2_readBlock_2 7 rfl rfl)
theorem dX2_readBlock_53 : decode cX2_readBlock 53 = .ok (.getfield 55, 3) := dk_180 0 55 (dk_at dksX2_readBlock_2 8 rfl rfl)
theorem dX2_readBlock_56 : decode cX2_readBlock 56 = .ok (.sipush 164, 3) := dk_17 0 164 (dk_at dksX2_readBlock_2 11 rfl rfl)
theorem dX2_readBlock_59 : decode cX2_readBlock 59 = .ok (.iload_n 1, 1) := dk_27 (dk_at dksX2_readBlock_2 14 rfl rfl)
theorem dX2_readBlock_60 : decode cX2_readBlock 60 = .ok (.iadd, 1) := dk_96 (dk_at dksX2_readBlock_2 15 rfl rfl)
theorem dX2_readBlock_61 : decode cX2_readBlock 61 = .ok (.aload_n 0, 1) := dk_42 (dk_at dksX2_readBlock_2 16 rfl rfl)
theorem dX2_readBlock_62 : decode cX2_readBlock 62 = .ok (.getfield 20, 3) := dk_180 0 20 (dk_at dksX2_readBlock_2 17 rfl rfl)
theorem dX2_readBlock_65 : decode cX2_readBlock 65 = .ok (.iastore, 1) := dk_79 (dk_at dksX2_readBlock_2 20 rfl rfl)
theorem dX2_readBlock_66 : decode cX2_readBlock 66 = .ok (.aload_n 0, 1) := dk_42 (dk_at dksX2_readBlock_2 21 rfl rfl)
theorem dX2_readBlock_67 : decode cX2_readBlock 67 = .ok (.getfield 52, 3) := dk_180 0 52 (dk_at dksX2_readBlock_3 0 rfl rfl)
theorem dX2_readBlock_70 : decode cX2_readBlock 70 = .ok (.sipush 164, 3) := dk_17 0 164 (dk_at dksX2_readBlock_3 3 rfl rfl)
theorem dX2_readBlock_73 : decode cX2_readBlock 73 = .ok (.iload_n 1, 1) := dk_27 (dk_at dksX2_readBlock_3 6 rfl rfl)
theorem dX2_readBlock_74 : decode cX2_readBlock 74 = .ok (.iadd, 1) := dk_96 (dk_at dksX2_readBlock_3 7 rfl rfl)
theorem dX2_readBlock_75 : decode cX2_readBlock 75 = .ok (.aload_n 0, 1) := dk_42 (dk_at dksX2_readBlock_3 8 rfl rfl)
theorem dX2_readBlock_76 : decode cX2_readBlock 76 = .ok (.getfield 43, 3) := dk_180 0 43 (dk_at dksX2_readBlock_3 9 rfl rfl)
theorem dX2_readBlock_79 : decode cX2_readBlock 79 = .ok (.iconst 4, 1) := dk_7 (dk_at dksX2_readBlock_3 12 rfl rfl)
theorem dX2_readBlock_80 : decode cX2_readBlock 80 = .ok (.iaload, 1) := dk_46 (dk_at dksX2_readBlock_3 13 rfl rfl)
theorem dX2_readBlock_81 : decode cX2_readBlock 81 = .ok (.iastore, 1) := dk_79 (dk_at dksX2_readBlock_3 14 rfl rfl)
theorem dX2_readBlock_82 : decode cX2_readBlock 82 = .ok (.aload_n 0, 1) := dk_42 (dk_at dksX2_readBlock_3 15 rfl rfl)
theorem dX2_readBlock_83 : decode cX2_readBlock 83 = .ok (.getfield 40, 3) := dk_180 0 40 (dk_at dksX2_readBlock_3 16 rfl rfl)
theorem dX2_readBlock_86 : decode cX2_readBlock 86 = .ok (.iconst 4, 1) := dk_7 (dk_at dksX2_readBlock_3 19 rfl rfl)
theorem dX2_readBlock_87 : decode cX2_readBlock 87 = .ok (.dup2, 1) := dk_92 (dk_at dksX2_readBlock_3 20 rfl rfl)
theorem dX2_readBlock_88 : decode cX2_readBlock 88 = .ok (.iaload, 1) := dk_46 (dk_at dksX2_readBlock_3 21 rfl rfl)
theorem dX2_readBlock_89 : decode cX2_readBlock 89 = .ok (.iconst 1, 1) := dk_4 (dk_at dksX2_readBlock_3 22 rfl rfl)
theorem dX2_readBlock_90 : decode cX2_readBlock 90 = .ok (.iadd, 1) := dk_96 (dk_at dksX2_readBlock_3 23 rfl rfl)
theorem dX2_readBlock_91 : decode cX2_readBlock 91 = .ok (.iastore, 1) := dk_79 (dk_at dksX2_readBlock_4 0 rfl rfl)
theorem dX2_readBlock_92 : decode cX2_readBlock 92 = .ok (.aload_n 0, 1) := dk_42 (dk_at dksX2_readBlock_4 1 rfl rfl)
theorem dX2_readBlock_93 : decode cX2_readBlock 93 = .ok (.invokevirtual 236, 3) := dk_182 0 236 (dk_at dksX2_readBlock_4 2 rfl rfl)
theorem dX2_readBlock_96 : decode cX2_readBlock 96 = .ok (.aload_n 0, 1) := dk_42 (dk_at dksX2_readBlock_4 5 rfl rfl)
theorem dX2_readBlock_97 : decode cX2_readBlock 97 = .ok (.bipush 58, 2) := dk_16 58 (dk_at dksX2_readBlock_4 6 rfl rfl)
theorem dX2_readBlock_99 : decode cX2_readBlock 99 = .ok (.invokevirtual 279, 3) := dk_182 1 23 (dk_at dksX2_readBlock_4 8 rfl rfl)
theorem dX2_readBlock_102 : decode cX2_readBlock 102 = .ok (.iconst 0, 1) := dk_3 (dk_at dksX2_readBlock_4 11 rfl rfl)
theorem dX2_readBlock_103 : decode cX2_readBlock 103 = .ok (.istore_n 2, 1) := dk_61 (dk_at dksX2_readBlock_4 12 rfl rfl)
theorem dX2_readBlock_104 : decode cX2_readBlock 104 = .ok (.aload_n 0, 1) := dk_42 (dk_at dksX2_readBlock_4 13 rfl rfl)
theorem dX2_readBlock_105 : decode cX2_readBlock 105 = .ok (.getfield 110, 3) := dk_180 0 110 (dk_at dksX2_readBlock_4 14 rfl rfl)
theorem dX2_readBlock_108 : decode cX2_readBlock 108 = .ok (.ifCond .ne 15, 3) := dk_154 0 15 (dk_at dksX2_readBlock_4 17 rfl rfl)
theorem dX2_readBlock_111 : decode cX2_readBlock 111 = .ok (.iload_n 2, 1) := dk_28 (dk_at dksX2_readBlock_4 20 rfl rfl)
theorem dX2_readBlock_112 : decode cX2_readBlock 112 = .ok (.ifCond .ne 11, 3) := dk_154 0 11 (dk_at dksX2_readBlock_4 21 rfl rfl)
theorem dX2_readBlock_115 : decode cX2_readBlock 115 = .ok (.aload_n 0, 1) := dk_42 (dk_at dksX2_readBlock_5 0 rfl rfl)
theorem dX2_readBlock_116 : decode cX2_readBlock 116 = .ok (.invokevirtual 301, 3) := dk_182 1 45 (dk_at dksX2_readBlock_5 1 rfl rfl)
theorem dX2_readBlock_119 : decode cX2_readBlock 119 = .ok (.istore_n 2, 1) := dk_61 (dk_at dksX2_readBlock_5 4 rfl rfl)
theorem dX2_readBlock_120 : decode cX2_readBlock 120 = .ok (.goto (-16), 3) := dk_167 255 240 (dk_at dksX2_readBlock_5 5 rfl rfl)
theorem dX2_readBlock_123 : decode cX2_readBlock 123 = .ok (.return_, 1) := dk_177 (dk_at dksX2_readBlock_5 8 rfl rfl)
abbrev cX2_numbered : ByteArray := prog_24_method_13_code
def yX2_numbered : MethodName := ⟨RX2, "numbered", "(II)I"⟩
def dkwX2_numbered_1 : List UInt8 := [155, 0, 18, 42, 180, 0, 26, 28, 163, 0, 10, 42, 180, 0, 26, 167, 0, 4, 2, 172]
abbrev dktX2_numbered_1 : List UInt8 := dkwX2_numbered_1 ++ []
def dkwX2_numbered_0 : List UInt8 := [42, 180, 0, 17, 4, 160, 0, 35, 42, 180, 0, 32, 27, 133, 148, 154, 0, 25, 42, 180, 0, 26]
abbrev dktX2_numbered_0 : List UInt8 := dkwX2_numbered_0 ++ dktX2_numbered_1
theorem dksX2_numbered_0 : cX2_numbered.data.toList.drop 0 = dktX2_numbered_0 := by decide +kernel
theorem dksX2_numbered_1 : cX2_numbered.data.toList.drop 22 = dktX2_numbered_1 := dk_seg dksX2_numbered_0 22 rfl rfl
theorem dX2_numbered_0 : decode cX2_numbered 0 = .ok (.aload_n 0, 1) := dk_42 (dk_at dksX2_numbered_0 0 rfl rfl)
theorem dX2_numbered_1 : decode cX2_numbered 1 = .ok (.getfield 17, 3) := dk_180 0 17 (dk_at dksX2_numbered_0 1 rfl rfl)
theorem dX2_numbered_4 : decode cX2_numbered 4 = .ok (.iconst 1, 1) := dk_4 (dk_at dksX2_numbered_0 4 rfl rfl)
theorem dX2_numbered_5 : decode cX2_numbered 5 = .ok (.if_icmp .ne 35, 3) := dk_160 0 35 (dk_at dksX2_numbered_0 5 rfl rfl)
theorem dX2_numbered_8 : decode cX2_numbered 8 = .ok (.aload_n 0, 1) := dk_42 (dk_at dksX2_numbered_0 8 rfl rfl)
theorem dX2_numbered_9 : decode cX2_numbered 9 = .ok (.getfield 32, 3) := dk_180 0 32 (dk_at dksX2_numbered_0 9 rfl rfl)
theorem dX2_numbered_12 : decode cX2_numbered 12 = .ok (.iload_n 1, 1) := dk_27 (dk_at dksX2_numbered_0 12 rfl rfl)
theorem dX2_numbered_13 : decode cX2_numbered 13 = .ok (.i2l, 1) := dk_133 (dk_at dksX2_numbered_0 13 rfl rfl)
theorem dX2_numbered_14 : decode cX2_numbered 14 = .ok (.lcmp, 1) := dk_148 (dk_at dksX2_numbered_0 14 rfl rfl)
theorem dX2_numbered_15 : decode cX2_numbered 15 = .ok (.ifCond .ne 25, 3) := dk_154 0 25 (dk_at dksX2_numbered_0 15 rfl rfl)
theorem dX2_numbered_18 : decode cX2_numbered 18 = .ok (.aload_n 0, 1) := dk_42 (dk_at dksX2_numbered_0 18 rfl rfl)
theorem dX2_numbered_19 : decode cX2_numbered 19 = .ok (.getfield 26, 3) := dk_180 0 26 (dk_at dksX2_numbered_0 19 rfl rfl)
theorem dX2_numbered_22 : decode cX2_numbered 22 = .ok (.ifCond .lt 18, 3) := dk_155 0 18 (dk_at dksX2_numbered_1 0 rfl rfl)
theorem dX2_numbered_25 : decode cX2_numbered 25 = .ok (.aload_n 0, 1) := dk_42 (dk_at dksX2_numbered_1 3 rfl rfl)
theorem dX2_numbered_26 : decode cX2_numbered 26 = .ok (.getfield 26, 3) := dk_180 0 26 (dk_at dksX2_numbered_1 4 rfl rfl)
theorem dX2_numbered_29 : decode cX2_numbered 29 = .ok (.iload_n 2, 1) := dk_28 (dk_at dksX2_numbered_1 7 rfl rfl)
theorem dX2_numbered_30 : decode cX2_numbered 30 = .ok (.if_icmp .gt 10, 3) := dk_163 0 10 (dk_at dksX2_numbered_1 8 rfl rfl)
theorem dX2_numbered_33 : decode cX2_numbered 33 = .ok (.aload_n 0, 1) := dk_42 (dk_at dksX2_numbered_1 11 rfl rfl)
theorem dX2_numbered_34 : decode cX2_numbered 34 = .ok (.getfield 26, 3) := dk_180 0 26 (dk_at dksX2_numbered_1 12 rfl rfl)
theorem dX2_numbered_37 : decode cX2_numbered 37 = .ok (.goto 4, 3) := dk_167 0 4 (dk_at dksX2_numbered_1 15 rfl rfl)
theorem dX2_numbered_40 : decode cX2_numbered 40 = .ok (.iconst (-1), 1) := dk_2 (dk_at dksX2_numbered_1 18 rfl rfl)
theorem dX2_numbered_41 : decode cX2_numbered 41 = .ok (.ireturn, 1) := dk_172 (dk_at dksX2_numbered_1 19 rfl rfl)
abbrev cX2_take : ByteArray := prog_24_method_16_code
def yX2_take : MethodName := ⟨RX2, "take", "(I)V"⟩
def dkwX2_take_0 : List UInt8 := [42, 42, 27, 182, 0, 229, 5, 182, 0, 232, 153, 0, 7, 42, 182, 0, 236, 177]
abbrev dktX2_take_0 : List UInt8 := dkwX2_take_0 ++ []
theorem dksX2_take_0 : cX2_take.data.toList.drop 0 = dktX2_take_0 := by decide +kernel
theorem dX2_take_0 : decode cX2_take 0 = .ok (.aload_n 0, 1) := dk_42 (dk_at dksX2_take_0 0 rfl rfl)
theorem dX2_take_1 : decode cX2_take 1 = .ok (.aload_n 0, 1) := dk_42 (dk_at dksX2_take_0 1 rfl rfl)
theorem dX2_take_2 : decode cX2_take 2 = .ok (.iload_n 1, 1) := dk_27 (dk_at dksX2_take_0 2 rfl rfl)
theorem dX2_take_3 : decode cX2_take 3 = .ok (.invokevirtual 229, 3) := dk_182 0 229 (dk_at dksX2_take_0 3 rfl rfl)
theorem dX2_take_6 : decode cX2_take 6 = .ok (.iconst 2, 1) := dk_5 (dk_at dksX2_take_0 6 rfl rfl)
theorem dX2_take_7 : decode cX2_take 7 = .ok (.invokevirtual 232, 3) := dk_182 0 232 (dk_at dksX2_take_0 7 rfl rfl)
theorem dX2_take_10 : decode cX2_take 10 = .ok (.ifCond .eq 7, 3) := dk_153 0 7 (dk_at dksX2_take_0 10 rfl rfl)
theorem dX2_take_13 : decode cX2_take 13 = .ok (.aload_n 0, 1) := dk_42 (dk_at dksX2_take_0 13 rfl rfl)
theorem dX2_take_14 : decode cX2_take 14 = .ok (.invokevirtual 236, 3) := dk_182 0 236 (dk_at dksX2_take_0 14 rfl rfl)
theorem dX2_take_17 : decode cX2_take 17 = .ok (.return_, 1) := dk_177 (dk_at dksX2_take_0 17 rfl rfl)
abbrev cX2_isSign : ByteArray := prog_24_method_11_code
def yX2_isSign : MethodName := ⟨RX2, "isSign", "(I)Z"⟩
def dkwX2_isSign_0 : List UInt8 := [42, 180, 0, 17, 6, 160, 0, 15, 42, 180, 0, 29, 27, 160, 0, 7, 4, 167, 0, 4, 3, 172]
abbrev dktX2_isSign_0 : List UInt8 := dkwX2_isSign_0 ++ []
theorem dksX2_isSign_0 : cX2_isSign.data.toList.drop 0 = dktX2_isSign_0 := by decide +kernel
theorem dX2_isSign_0 : decode cX2_isSign 0 = .ok (.aload_n 0, 1) := dk_42 (dk_at dksX2_isSign_0 0 rfl rfl)
theorem dX2_isSign_1 : decode cX2_isSign 1 = .ok (.getfield 17, 3) := dk_180 0 17 (dk_at dksX2_isSign_0 1 rfl rfl)
theorem dX2_isSign_4 : decode cX2_isSign 4 = .ok (.iconst 3, 1) := dk_6 (dk_at dksX2_isSign_0 4 rfl rfl)
theorem dX2_isSign_5 : decode cX2_isSign 5 = .ok (.if_icmp .ne 15, 3) := dk_160 0 15 (dk_at dksX2_isSign_0 5 rfl rfl)
theorem dX2_isSign_8 : decode cX2_isSign 8 = .ok (.aload_n 0, 1) := dk_42 (dk_at dksX2_isSign_0 8 rfl rfl)
theorem dX2_isSign_9 : decode cX2_isSign 9 = .ok (.getfield 29, 3) := dk_180 0 29 (dk_at dksX2_isSign_0 9 rfl rfl)
theorem dX2_isSign_12 : decode cX2_isSign 12 = .ok (.iload_n 1, 1) := dk_27 (dk_at dksX2_isSign_0 12 rfl rfl)
theorem dX2_isSign_13 : decode cX2_isSign 13 = .ok (.if_icmp .ne 7, 3) := dk_160 0 7 (dk_at dksX2_isSign_0 13 rfl rfl)
theorem dX2_isSign_16 : decode cX2_isSign 16 = .ok (.iconst 1, 1) := dk_4 (dk_at dksX2_isSign_0 16 rfl rfl)
theorem dX2_isSign_17 : decode cX2_isSign 17 = .ok (.goto 4, 3) := dk_167 0 4 (dk_at dksX2_isSign_0 17 rfl rfl)
theorem dX2_isSign_20 : decode cX2_isSign 20 = .ok (.iconst 0, 1) := dk_3 (dk_at dksX2_isSign_0 20 rfl rfl)
theorem dX2_isSign_21 : decode cX2_isSign 21 = .ok (.ireturn, 1) := dk_172 (dk_at dksX2_isSign_0 21 rfl rfl)
abbrev cX2_statement : ByteArray := prog_24_method_20_code
def yX2_statement : MethodName := ⟨RX2, "statement", "()Z"⟩
def dkwX2_statement_10 : List UInt8 := [172]
abbrev dktX2_statement_10 : List UInt8 := dkwX2_statement_10 ++ []
def dkwX2_statement_9 : List UInt8 := [153, 0, 11, 42, 27, 182, 1, 17, 167, 0, 8, 42, 27, 182, 1, 20, 42, 16, 59, 182, 1, 23, 21, 4]
abbrev dktX2_statement_9 : List UInt8 := dkwX2_statement_9 ++ dktX2_statement_10
def dkwX2_statement_8 : List UInt8 := [20, 0, 249, 182, 0, 245, 153, 0, 11, 42, 27, 182, 1, 14, 167, 0, 26, 42, 20, 0, 251, 182, 0, 245]
abbrev dktX2_statement_8 : List UInt8 := dkwX2_statement_8 ++ dktX2_statement_9
def dkwX2_statement_7 : List UInt8 := [167, 0, 62, 42, 20, 0, 243, 182, 0, 245, 153, 0, 11, 42, 27, 182, 1, 10, 167, 0, 44, 42]
abbrev dktX2_statement_7 : List UInt8 := dkwX2_statement_7 ++ dktX2_statement_8
def dkwX2_statement_6 : List UInt8 := [28, 155, 0, 12, 42, 27, 28, 182, 1, 3, 167, 0, 75, 29, 155, 0, 12, 42, 27, 29, 182, 1, 7]
abbrev dktX2_statement_6 : List UInt8 := dkwX2_statement_6 ++ dktX2_statement_7
def dkwX2_statement_5 : List UInt8 := [156, 0, 21, 29, 156, 0, 17, 42, 20, 0, 243, 182, 0, 245, 154, 0, 7, 4, 167, 0, 4, 3, 54, 4]
abbrev dktX2_statement_5 : List UInt8 := dkwX2_statement_5 ++ dktX2_statement_6
def dkwX2_statement_4 : List UInt8 := [79, 42, 180, 0, 73, 27, 2, 79, 42, 182, 0, 239, 61, 42, 16, 114, 4, 182, 0, 225, 62, 28]
abbrev dktX2_statement_4 : List UInt8 := dkwX2_statement_4 ++ dktX2_statement_5
def dkwX2_statement_3 : List UInt8 := [46, 4, 100, 79, 42, 180, 0, 64, 27, 2, 79, 42, 180, 0, 67, 27, 2, 79, 42, 180, 0, 70, 27, 2]
abbrev dktX2_statement_3 : List UInt8 := dkwX2_statement_3 ++ dktX2_statement_4
def dkwX2_statement_2 : List UInt8 := [7, 46, 96, 60, 42, 180, 0, 43, 7, 92, 46, 4, 96, 79, 42, 180, 0, 61, 27, 42, 180, 0, 40, 7]
abbrev dktX2_statement_2 : List UInt8 := dkwX2_statement_2 ++ dktX2_statement_3
def dkwX2_statement_1 : List UInt8 := [162, 0, 7, 4, 167, 0, 4, 3, 6, 182, 0, 232, 154, 0, 5, 4, 172, 17, 3, 192, 42, 180, 0, 43]
abbrev dktX2_statement_1 : List UInt8 := dkwX2_statement_1 ++ dktX2_statement_2
def dkwX2_statement_0 : List UInt8 := [42, 42, 182, 0, 255, 5, 182, 0, 232, 153, 0, 28, 42, 42, 180, 0, 43, 7, 46, 17, 0, 160]
abbrev dktX2_statement_0 : List UInt8 := dkwX2_statement_0 ++ dktX2_statement_1
theorem dksX2_statement_0 : cX2_statement.data.toList.drop 0 = dktX2_statement_0 := by decide +kernel
theorem dksX2_statement_1 : cX2_statement.data.toList.drop 22 = dktX2_statement_1 := dk_seg dksX2_statement_0 22 rfl rfl
theorem dksX2_statement_2 : cX2_statement.data.toList.drop 46 = dktX2_statement_2 := dk_seg dksX2_statement_1 24 rfl rfl
theorem dksX2_statement_3 : cX2_statement.data.toList.drop 70 = dktX2_statement_3 := dk_seg dksX2_statement_2 24 rfl rfl
theorem dksX2_statement_4 : cX2_statement.data.toList.drop 94 = dktX2_statement_4 := dk_seg dksX2_statement_3 24 rfl rfl
theorem dksX2_statement_5 : cX2_statement.data.toList.drop 116 = dktX2_statement_5 := dk_seg dksX2_statement_4 22 rfl rfl
theorem dksX2_statement_6 : cX2_statement.data.toList.drop 140 = dktX2_statement_6 := dk_seg dksX2_statement_5 24 rfl rfl
theorem dksX2_statement_7 : cX2_statement.data.toList.drop 163 = dktX2_statement_7 := dk_seg dksX2_statement_6 23 rfl rfl
theorem dksX2_statement_8 : cX2_statement.data.toList.drop 185 = dktX2_statement_8 := dk_seg dksX2_statement_7 22 rfl rfl
theorem dksX2_statement_9 : cX2_statement.data.toList.drop 209 = dktX2_statement_9 := dk_seg dksX2_statement_8 24 rfl rfl
theorem dksX2_statement_10 : cX2_statement.data.toList.drop 233 = dktX2_statement_10 := dk_seg dksX2_statement_9 24 rfl rfl
theorem dX2_statement_0 : decode cX2_statement 0 = .ok (.aload_n 0, 1) := dk_42 (dk_at dksX2_statement_0 0 rfl rfl)
theorem dX2_statement_1 : decode cX2_statement 1 = .ok (.aload_n 0, 1) := dk_42 (dk_at dksX2_statement_0 1 rfl rfl)
theorem dX2_statement_2 : decode cX2_statement 2 = .ok (.invokevirtual 255, 3) := dk_182 0 255 (dk_at dksX2_statement_0 2 rfl rfl)
theorem dX2_statement_5 : decode cX2_statement 5 = .ok (.iconst 2, 1) := dk_5 (dk_at dksX2_statement_0 5 rfl rfl)
theorem dX2_statement_6 : decode cX2_statement 6 = .ok (.invokevirtual 232, 3) := dk_182 0 232 (dk_at dksX2_statement_0 6 rfl rfl)
theorem dX2_statement_9 : decode cX2_statement 9 = .ok (.ifCond .eq 28, 3) := dk_153 0 28 (dk_at dksX2_statement_0 9 rfl rfl)
theorem dX2_statement_12 : decode cX2_statement 12 = .ok (.aload_n 0, 1) := dk_42 (dk_at dksX2_statement_0 12 rfl rfl)
theorem dX2_statement_13 : decode cX2_statement 13 = .ok (.aload_n 0, 1) := dk_42 (dk_at dksX2_statement_0 13 rfl rfl)
theorem dX2_statement_14 : decode cX2_statement 14 = .ok (.getfield 43, 3) := dk_180 0 43 (dk_at dksX2_statement_0 14 rfl rfl)
theorem dX2_statement_17 : decode cX2_statement 17 = .ok (.iconst 4, 1) := dk_7 (dk_at dksX2_statement_0 17 rfl rfl)
theorem dX2_statement_18 : decode cX2_statement 18 = .ok (.iaload, 1) := dk_46 (dk_at dksX2_statement_0 18 rfl rfl)
theorem dX2_statement_19 : decode cX2_statement 19 = .ok (.sipush 160, 3) := dk_17 0 160 (dk_at dksX2_statement_0 19 rfl rfl)
theorem dX2_statement_22 : decode cX2_statement 22 = .ok (.if_icmp .ge 7, 3) := dk_162 0 7 (dk_at dksX2_statement_1 0 rfl rfl)
theorem dX2_statement_25 : decode cX2_statement 25 = .ok (.iconst 1, 1) := dk_4 (dk_at dksX2_statement_1 3 rfl rfl)
theorem dX2_statement_26 : decode cX2_statement 26 = .ok (.goto 4, 3) := dk_167 0 4 (dk_at dksX2_statement_1 4 rfl rfl)
theorem dX2_statement_29 : decode cX2_statement 29 = .ok (.iconst 0, 1) := dk_3 (dk_at dksX2_statement_1 7 rfl rfl)
theorem dX2_statement_30 : decode cX2_statement 30 = .ok (.iconst 3, 1) := dk_6 (dk_at dksX2_statement_1 8 rfl rfl)
theorem dX2_statement_31 : decode cX2_statement 31 = .ok (.invokevirtual 232, 3) := dk_182 0 232 (dk_at dksX2_statement_1 9 rfl rfl)
theorem dX2_statement_34 : decode cX2_statement 34 = .ok (.ifCond .ne 5, 3) := dk_154 0 5 (dk_at dksX2_statement_1 12 rfl rfl)
theorem dX2_statement_37 : decode cX2_statement 37 = .ok (.iconst 1, 1) := dk_4 (dk_at dksX2_statement_1 15 rfl rfl)
theorem dX2_statement_38 : decode cX2_statement 38 = .ok (.ireturn, 1) := dk_172 (dk_at dksX2_statement_1 16 rfl rfl)
theorem dX2_statement_39 : decode cX2_statement 39 = .ok (.sipush 960, 3) := dk_17 3 192 (dk_at dksX2_statement_1 17 rfl rfl)
theorem dX2_statement_42 : decode cX2_statement 42 = .ok (.aload_n 0, 1) := dk_42 (dk_at dksX2_statement_1 20 rfl rfl)
theorem dX2_statement_43 : decode cX2_statement 43 = .ok (.getfield 43, 3) := dk_180 0 43 (dk_at dksX2_statement_1 21 rfl rfl)
theorem dX2_statement_46 : decode cX2_statement 46 = .ok (.iconst 4, 1) := dk_7 (dk_at dksX2_statement_2 0 rfl rfl)
theorem dX2_statement_47 : decode cX2_statement 47 = .ok (.iaload, 1) := dk_46 (dk_at dksX2_statement_2 1 rfl rfl)
theorem dX2_statement_48 : decode cX2_statement 48 = .ok (.iadd, 1) := dk_96 (dk_at dksX2_statement_2 2 rfl rfl)
theorem dX2_statement_49 : decode cX2_statement 49 = .ok (.istore_n 1, 1) := dk_60 (dk_at dksX2_statement_2 3 rfl rfl)
theorem dX2_statement_50 : decode cX2_statement 50 = .ok (.aload_n 0, 1) := dk_42 (dk_at dksX2_statement_2 4 rfl rfl)
theorem dX2_statement_51 : decode cX2_statement 51 = .ok (.getfield 43, 3) := dk_180 0 43 (dk_at dksX2_statement_2 5 rfl rfl)
theorem dX2_statement_54 : decode cX2_statement 54 = .ok (.iconst 4, 1) := dk_7 (dk_at dksX2_statement_2 8 rfl rfl)
theorem dX2_statement_55 : decode cX2_statement 55 = .ok (.dup2, 1) := dk_92 (dk_at dksX2_statement_2 9 rfl rfl)
theorem dX2_statement_56 : decode cX2_statement 56 = .ok (.iaload, 1) := dk_46 (dk_at dksX2_statement_2 10 rfl rfl)
theorem dX2_statement_57 : decode cX2_statement 57 = .ok (.iconst 1, 1) := dk_4 (dk_at dksX2_statement_2 11 rfl rfl)
theorem dX2_statement_58 : decode cX2_statement 58 = .ok (.iadd, 1) := dk_96 (dk_at dksX2_statement_2 12 rfl rfl)
theorem dX2_statement_59 : decode cX2_statement 59 = .ok (.iastore, 1) := dk_79 (dk_at dksX2_statement_2 13 rfl rfl)
theorem dX2_statement_60 : decode cX2_statement 60 = .ok (.aload_n 0, 1) := dk_42 (dk_at dksX2_statement_2 14 rfl rfl)
theorem dX2_statement_61 : decode cX2_statement 61 = .ok (.getfield 61, 3) := dk_180 0 61 (dk_at dksX2_statement_2 15 rfl rfl)
theorem dX2_statement_64 : decode cX2_statement 64 = .ok (.iload_n 1, 1) := dk_27 (dk_at dksX2_statement_2 18 rfl rfl)
theorem dX2_statement_65 : decode cX2_statement 65 = .ok (.aload_n 0, 1) := dk_42 (dk_at dksX2_statement_2 19 rfl rfl)
theorem dX2_statement_66 : decode cX2_statement 66 = .ok (.getfield 40, 3) := dk_180 0 40 (dk_at dksX2_statement_2 20 rfl rfl)
theorem dX2_statement_69 : decode cX2_statement 69 = .ok (.iconst 4, 1) := dk_7 (dk_at dksX2_statement_2 23 rfl rfl)
theorem dX2_statement_70 : decode cX2_statement 70 = .ok (.iaload, 1) := dk_46 (dk_at dksX2_statement_3 0 rfl rfl)
theorem dX2_statement_71 : decode cX2_statement 71 = .ok (.iconst 1, 1) := dk_4 (dk_at dksX2_statement_3 1 rfl rfl)
theorem dX2_statement_72 : decode cX2_statement 72 = .ok (.isub, 1) := dk_100 (dk_at dksX2_statement_3 2 rfl rfl)
theorem dX2_statement_73 : decode cX2_statement 73 = .ok (.iastore, 1) := dk_79 (dk_at dksX2_statement_3 3 rfl rfl)
theorem dX2_statement_74 : decode cX2_statement 74 = .ok (.aload_n 0, 1) := dk_42 (dk_at dksX2_statement_3 4 rfl rfl)
theorem dX2_statement_75 : decode cX2_statement 75 = .ok (.getfield 64, 3) := dk_180 0 64 (dk_at dksX2_statement_3 5 rfl rfl)
theorem dX2_statement_78 : decode cX2_statement 78 = .ok (.iload_n 1, 1) := dk_27 (dk_at dksX2_statement_3 8 rfl rfl)
theorem dX2_statement_79 : decode cX2_statement 79 = .ok (.iconst (-1), 1) := dk_2 (dk_at dksX2_statement_3 9 rfl rfl)
theorem dX2_statement_80 : decode cX2_statement 80 = .ok (.iastore, 1) := dk_79 (dk_at dksX2_statement_3 10 rfl rfl)
theorem dX2_statement_81 : decode cX2_statement 81 = .ok (.aload_n 0, 1) := dk_42 (dk_at dksX2_statement_3 11 rfl rfl)
theorem dX2_statement_82 : decode cX2_statement 82 = .ok (.getfield 67, 3) := dk_180 0 67 (dk_at dksX2_statement_3 12 rfl rfl)
theorem dX2_statement_85 : decode cX2_statement 85 = .ok (.iload_n 1, 1) := dk_27 (dk_at dksX2_statement_3 15 rfl rfl)
theorem dX2_statement_86 : decode cX2_statement 86 = .ok (.iconst (-1), 1) := dk_2 (dk_at dksX2_statement_3 16 rfl rfl)
theorem dX2_statement_87 : decode cX2_statement 87 = .ok (.iastore, 1) := dk_79 (dk_at dksX2_statement_3 17 rfl rfl)
theorem dX2_statement_88 : decode cX2_statement 88 = .ok (.aload_n 0, 1) := dk_42 (dk_at dksX2_statement_3 18 rfl rfl)
theorem dX2_statement_89 : decode cX2_statement 89 = .ok (.getfield 70, 3) := dk_180 0 70 (dk_at dksX2_statement_3 19 rfl rfl)
theorem dX2_statement_92 : decode cX2_statement 92 = .ok (.iload_n 1, 1) := dk_27 (dk_at dksX2_statement_3 22 rfl rfl)
theorem dX2_statement_93 : decode cX2_statement 93 = .ok (.iconst (-1), 1) := dk_2 (dk_at dksX2_statement_3 23 rfl rfl)
theorem dX2_statement_94 : decode cX2_statement 94 = .ok (.iastore, 1) := dk_79 (dk_at dksX2_statement_4 0 rfl rfl)
theorem dX2_statement_95 : decode cX2_statement 95 = .ok (.aload_n 0, 1) := dk_42 (dk_at dksX2_statement_4 1 rfl rfl)
theorem dX2_statement_96 : decode cX2_statement 96 = .ok (.getfield 73, 3) := dk_180 0 73 (dk_at dksX2_statement_4 2 rfl rfl)
theorem dX2_statement_99 : decode cX2_statement 99 = .ok (.iload_n 1, 1) := dk_27 (dk_at dksX2_statement_4 5 rfl rfl)
theorem dX2_statement_100 : decode cX2_statement 100 = .ok (.iconst (-1), 1) := dk_2 (dk_at dksX2_statement_4 6 rfl rfl)
theorem dX2_statement_101 : decode cX2_statement 101 = .ok (.iastore, 1) := dk_79 (dk_at dksX2_statement_4 7 rfl rfl)
theorem dX2_statement_102 : decode cX2_statement 102 = .ok (.aload_n 0, 1) := dk_42 (dk_at dksX2_statement_4 8 rfl rfl)
theorem dX2_statement_103 : decode cX2_statement 103 = .ok (.invokevirtual 239, 3) := dk_182 0 239 (dk_at dksX2_statement_4 9 rfl rfl)
theorem dX2_statement_106 : decode cX2_statement 106 = .ok (.istore_n 2, 1) := dk_61 (dk_at dksX2_statement_4 12 rfl rfl)
theorem dX2_statement_107 : decode cX2_statement 107 = .ok (.aload_n 0, 1) := dk_42 (dk_at dksX2_statement_4 13 rfl rfl)
theorem dX2_statement_108 : decode cX2_statement 108 = .ok (.bipush 114, 2) := dk_16 114 (dk_at dksX2_statement_4 14 rfl rfl)
theorem dX2_statement_110 : decode cX2_statement 110 = .ok (.iconst 1, 1) := dk_4 (dk_at dksX2_statement_4 16 rfl rfl)
theorem dX2_statement_111 : decode cX2_statement 111 = .ok (.invokevirtual 225, 3) := dk_182 0 225 (dk_at dksX2_statement_4 17 rfl rfl)
theorem dX2_statement_114 : decode cX2_statement 114 = .ok (.istore_n 3, 1) := dk_62 (dk_at dksX2_statement_4 20 rfl rfl)
theorem dX2_statement_115 : decode cX2_statement 115 = .ok (.iload_n 2, 1) := dk_28 (dk_at dksX2_statement_4 21 rfl rfl)
theorem dX2_statement_116 : decode cX2_statement 116 = .ok (.ifCond .ge 21, 3) := dk_156 0 21 (dk_at dksX2_statement_5 0 rfl rfl)
theorem dX2_statement_119 : decode cX2_statement 119 = .ok (.iload_n 3, 1) := dk_29 (dk_at dksX2_statement_5 3 rfl rfl)
theorem dX2_statement_120 : decode cX2_statement 120 = .ok (.ifCond .ge 17, 3) := dk_156 0 17 (dk_at dksX2_statement_5 4 rfl rfl)
theorem dX2_statement_123 : decode cX2_statement 123 = .ok (.aload_n 0, 1) := dk_42 (dk_at dksX2_statement_5 7 rfl rfl)
theorem dX2_statement_124 : decode cX2_statement 124 = .ok (.ldc2_w 243, 3) := dk_20 0 243 (dk_at dksX2_statement_5 8 rfl rfl)
theorem dX2_statement_127 : decode cX2_statement 127 = .ok (.invokevirtual 245, 3) := dk_182 0 245 (dk_at dksX2_statement_5 11 rfl rfl)
theorem dX2_statement_130 : decode cX2_statement 130 = .ok (.ifCond .ne 7, 3) := dk_154 0 7 (dk_at dksX2_statement_5 14 rfl rfl)
theorem dX2_statement_133 : decode cX2_statement 133 = .ok (.iconst 1, 1) := dk_4 (dk_at dksX2_statement_5 17 rfl rfl)
theorem dX2_statement_134 : decode cX2_statement 134 = .ok (.goto 4, 3) := dk_167 0 4 (dk_at dksX2_statement_5 18 rfl rfl)
theorem dX2_statement_137 : decode cX2_statement 137 = .ok (.iconst 0, 1) := dk_3 (dk_at dksX2_statement_5 21 rfl rfl)
theorem dX2_statement_138 : decode cX2_statement 138 = .ok (.istore 4, 2) := dk_54 4 (dk_at dksX2_statement_5 22 rfl rfl)
theorem dX2_statement_140 : decode cX2_statement 140 = .ok (.iload_n 2, 1) := dk_28 (dk_at dksX2_statement_6 0 rfl rfl)
theorem dX2_statement_141 : decode cX2_statement 141 = .ok (.ifCond .lt 12, 3) := dk_155 0 12 (dk_at dksX2_statement_6 1 rfl rfl)
theorem dX2_statement_144 : decode cX2_statement 144 = .ok (.aload_n 0, 1) := dk_42 (dk_at dksX2_statement_6 4 rfl rfl)
theorem dX2_statement_145 : decode cX2_statement 145 = .ok (.iload_n 1, 1) := dk_27 (dk_at dksX2_statement_6 5 rfl rfl)
theorem dX2_statement_146 : decode cX2_statement 146 = .ok (.iload_n 2, 1) := dk_28 (dk_at dksX2_statement_6 6 rfl rfl)
theorem dX2_statement_147 : decode cX2_statement 147 = .ok (.invokevirtual 259, 3) := dk_182 1 3 (dk_at dksX2_statement_6 7 rfl rfl)
theorem dX2_statement_150 : decode cX2_statement 150 = .ok (.goto 75, 3) := dk_167 0 75 (dk_at dksX2_statement_6 10 rfl rfl)
theorem dX2_statement_153 : decode cX2_statement 153 = .ok (.iload_n 3, 1) := dk_29 (dk_at dksX2_statement_6 13 rfl rfl)
theorem dX2_statement_154 : decode cX2_statement 154 = .ok (.ifCond .lt 12, 3) := dk_155 0 12 (dk_at dksX2_statement_6 14 rfl rfl)
theorem dX2_statement_157 : decode cX2_statement 157 = .ok (.aload_n 0, 1) := dk_42 (dk_at dksX2_statement_6 17 rfl rfl)
theorem dX2_statement_158 : decode cX2_statement 158 = .ok (.iload_n 1, 1) := dk_27 (dk_at dksX2_statement_6 18 rfl rfl)
theorem dX2_statement_159 : decode cX2_statement 159 = .ok (.iload_n 3, 1) := dk_29 (dk_at dksX2_statement_6 19 rfl rfl)
theorem dX2_statement_160 : decode cX2_statement 160 = .ok (.invokevirtual 263, 3) := dk_182 1 7 (dk_at dksX2_statement_6 20 rfl rfl)
theorem dX2_statement_163 : decode cX2_statement 163 = .ok (.goto 62, 3) := dk_167 0 62 (dk_at dksX2_statement_7 0 rfl rfl)
theorem dX2_statement_166 : decode cX2_statement 166 = .ok (.aload_n 0, 1) := dk_42 (dk_at dksX2_statement_7 3 rfl rfl)
theorem dX2_statement_167 : decode cX2_statement 167 = .ok (.ldc2_w 243, 3) := dk_20 0 243 (dk_at dksX2_statement_7 4 rfl rfl)
theorem dX2_statement_170 : decode cX2_statement 170 = .ok (.invokevirtual 245, 3) := dk_182 0 245 (dk_at dksX2_statement_7 7 rfl rfl)
theorem dX2_statement_173 : decode cX2_statement 173 = .ok (.ifCond .eq 11, 3) := dk_153 0 11 (dk_at dksX2_statement_7 10 rfl rfl)
theorem dX2_statement_176 : decode cX2_statement 176 = .ok (.aload_n 0, 1) := dk_42 (dk_at dksX2_statement_7 13 rfl rfl)
theorem dX2_statement_177 : decode cX2_statement 177 = .ok (.iload_n 1, 1) := dk_27 (dk_at dksX2_statement_7 14 rfl rfl)
theorem dX2_statement_178 : decode cX2_statement 178 = .ok (.invokevirtual 266, 3) := dk_182 1 10 (dk_at dksX2_statement_7 15 rfl rfl)
theorem dX2_statement_181 : decode cX2_statement 181 = .ok (.goto 44, 3) := dk_167 0 44 (dk_at dksX2_statement_7 18 rfl rfl)
theorem dX2_statement_184 : decode cX2_statement 184 = .ok (.aload_n 0, 1) := dk_42 (dk_at dksX2_statement_7 21 rfl rfl)
theorem dX2_statement_185 : decode cX2_statement 185 = .ok (.ldc2_w 249, 3) := dk_20 0 249 (dk_at dksX2_statement_8 0 rfl rfl)
theorem dX2_statement_188 : decode cX2_statement 188 = .ok (.invokevirtual 245, 3) := dk_182 0 245 (dk_at dksX2_statement_8 3 rfl rfl)
theorem dX2_statement_191 : decode cX2_statement 191 = .ok (.ifCond .eq 11, 3) := dk_153 0 11 (dk_at dksX2_statement_8 6 rfl rfl)
theorem dX2_statement_194 : decode cX2_statement 194 = .ok (.aload_n 0, 1) := dk_42 (dk_at dksX2_statement_8 9 rfl rfl)
theorem dX2_statement_195 : decode cX2_statement 195 = .ok (.iload_n 1, 1) := dk_27 (dk_at dksX2_statement_8 10 rfl rfl)
theorem dX2_statement_196 : decode cX2_statement 196 = .ok (.invokevirtual 270, 3) := dk_182 1 14 (dk_at dksX2_statement_8 11 rfl rfl)
theorem dX2_statement_199 : decode cX2_statement 199 = .ok (.goto 26, 3) := dk_167 0 26 (dk_at dksX2_statement_8 14 rfl rfl)
theorem dX2_statement_202 : decode cX2_statement 202 = .ok (.aload_n 0, 1) := dk_42 (dk_at dksX2_statement_8 17 rfl rfl)
theorem dX2_statement_203 : decode cX2_statement 203 = .ok (.ldc2_w 251, 3) := dk_20 0 251 (dk_at dksX2_statement_8 18 rfl rfl)
theorem dX2_statement_206 : decode cX2_statement 206 = .ok (.invokevirtual 245, 3) := dk_182 0 245 (dk_at dksX2_statement_8 21 rfl rfl)
theorem dX2_statement_209 : decode cX2_statement 209 = .ok (.ifCond .eq 11, 3) := dk_153 0 11 (dk_at dksX2_statement_9 0 rfl rfl)
theorem dX2_statement_212 : decode cX2_statement 212 = .ok (.aload_n 0, 1) := dk_42 (dk_at dksX2_statement_9 3 rfl rfl)
theorem dX2_statement_213 : decode cX2_statement 213 = .ok (.iload_n 1, 1) := dk_27 (dk_at dksX2_statement_9 4 rfl rfl)
theorem dX2_statement_214 : decode cX2_statement 214 = .ok (.invokevirtual 273, 3) := dk_182 1 17 (dk_at dksX2_statement_9 5 rfl rfl)
theorem dX2_statement_217 : decode cX2_statement 217 = .ok (.goto 8, 3) := dk_167 0 8 (dk_at dksX2_statement_9 8 rfl rfl)
theorem dX2_statement_220 : decode cX2_statement 220 = .ok (.aload_n 0, 1) := dk_42 (dk_at dksX2_statement_9 11 rfl rfl)
theorem dX2_statement_221 : decode cX2_statement 221 = .ok (.iload_n 1, 1) := dk_27 (dk_at dksX2_statement_9 12 rfl rfl)
theorem dX2_statement_222 : decode cX2_statement 222 = .ok (.invokevirtual 276, 3) := dk_182 1 20 (dk_at dksX2_statement_9 13 rfl rfl)
theorem dX2_statement_225 : decode cX2_statement 225 = .ok (.aload_n 0, 1) := dk_42 (dk_at dksX2_statement_9 16 rfl rfl)
theorem dX2_statement_226 : decode cX2_statement 226 = .ok (.bipush 59, 2) := dk_16 59 (dk_at dksX2_statement_9 17 rfl rfl)
theorem dX2_statement_228 : decode cX2_statement 228 = .ok (.invokevirtual 279, 3) := dk_182 1 23 (dk_at dksX2_statement_9 19 rfl rfl)
theorem dX2_statement_231 : decode cX2_statement 231 = .ok (.iload 4, 2) := dk_21 4 (dk_at dksX2_statement_9 22 rfl rfl)
theorem dX2_statement_233 : decode cX2_statement 233 = .ok (.ireturn, 1) := dk_172 (dk_at dksX2_statement_10 0 rfl rfl)
abbrev cX2_mayBegin : ByteArray := prog_24_method_19_code
def yX2_mayBegin : MethodName := ⟨RX2, "mayBegin", "()Z"⟩
def dkwX2_mayBegin_2 : List UInt8 := [20, 0, 253, 182, 0, 245, 153, 0, 7, 4, 167, 0, 4, 3, 172]
abbrev dktX2_mayBegin_2 : List UInt8 := dkwX2_mayBegin_2 ++ []
def dkwX2_mayBegin_1 : List UInt8 := [154, 0, 33, 42, 20, 0, 249, 182, 0, 245, 154, 0, 23, 42, 20, 0, 251, 182, 0, 245, 154, 0, 13, 42]
abbrev dktX2_mayBegin_1 : List UInt8 := dkwX2_mayBegin_1 ++ dktX2_mayBegin_2
def dkwX2_mayBegin_0 : List UInt8 := [42, 182, 0, 239, 156, 0, 53, 42, 16, 114, 4, 182, 0, 225, 156, 0, 43, 42, 20, 0, 243, 182, 0, 245]
abbrev dktX2_mayBegin_0 : List UInt8 := dkwX2_mayBegin_0 ++ dktX2_mayBegin_1
theorem dksX2_mayBegin_0 : cX2_mayBegin.data.toList.drop 0 = dktX2_mayBegin_0 := by decide +kernel
theorem dksX2_mayBegin_1 : cX2_mayBegin.data.toList.drop 24 = dktX2_mayBegin_1 := dk_seg dksX2_mayBegin_0 24 rfl rfl
theorem dksX2_mayBegin_2 : cX2_mayBegin.data.toList.drop 48 = dktX2_mayBegin_2 := dk_seg dksX2_mayBegin_1 24 rfl rfl
theorem dX2_mayBegin_0 : decode cX2_mayBegin 0 = .ok (.aload_n 0, 1) := dk_42 (dk_at dksX2_mayBegin_0 0 rfl rfl)
theorem dX2_mayBegin_1 : decode cX2_mayBegin 1 = .ok (.invokevirtual 239, 3) := dk_182 0 239 (dk_at dksX2_mayBegin_0 1 rfl rfl)
theorem dX2_mayBegin_4 : decode cX2_mayBegin 4 = .ok (.ifCond .ge 53, 3) := dk_156 0 53 (dk_at dksX2_mayBegin_0 4 rfl rfl)
theorem dX2_mayBegin_7 : decode cX2_mayBegin 7 = .ok (.aload_n 0, 1) := dk_42 (dk_at dksX2_mayBegin_0 7 rfl rfl)
theorem dX2_mayBegin_8 : decode cX2_mayBegin 8 = .ok (.bipush 114, 2) := dk_16 114 (dk_at dksX2_mayBegin_0 8 rfl rfl)
theorem dX2_mayBegin_10 : decode cX2_mayBegin 10 = .ok (.iconst 1, 1) := dk_4 (dk_at dksX2_mayBegin_0 10 rfl rfl)
theorem dX2_mayBegin_11 : decode cX2_mayBegin 11 = .ok (.invokevirtual 225, 3) := dk_182 0 225 (dk_at dksX2_mayBegin_0 11 rfl rfl)
theorem dX2_mayBegin_14 : decode cX2_mayBegin 14 = .ok (.ifCond .ge 43, 3) := dk_156 0 43 (dk_at dksX2_mayBegin_0 14 rfl rfl)
theorem dX2_mayBegin_17 : decode cX2_mayBegin 17 = .ok (.aload_n 0, 1) := dk_42 (dk_at dksX2_mayBegin_0 17 rfl rfl)
theorem dX2_mayBegin_18 : decode cX2_mayBegin 18 = .ok (.ldc2_w 243, 3) := dk_20 0 243 (dk_at dksX2_mayBegin_0 18 rfl rfl)
theorem dX2_mayBegin_21 : decode cX2_mayBegin 21 = .ok (.invokevirtual 245, 3) := dk_182 0 245 (dk_at dksX2_mayBegin_0 21 rfl rfl)
theorem dX2_mayBegin_24 : decode cX2_mayBegin 24 = .ok (.ifCond .ne 33, 3) := dk_154 0 33 (dk_at dksX2_mayBegin_1 0 rfl rfl)
theorem dX2_mayBegin_27 : decode cX2_mayBegin 27 = .ok (.aload_n 0, 1) := dk_42 (dk_at dksX2_mayBegin_1 3 rfl rfl)
theorem dX2_mayBegin_28 : decode cX2_mayBegin 28 = .ok (.ldc2_w 249, 3) := dk_20 0 249 (dk_at dksX2_mayBegin_1 4 rfl rfl)
theorem dX2_mayBegin_31 : decode cX2_mayBegin 31 = .ok (.invokevirtual 245, 3) := dk_182 0 245 (dk_at dksX2_mayBegin_1 7 rfl rfl)
theorem dX2_mayBegin_34 : decode cX2_mayBegin 34 = .ok (.ifCond .ne 23, 3) := dk_154 0 23 (dk_at dksX2_mayBegin_1 10 rfl rfl)
theorem dX2_mayBegin_37 : decode cX2_mayBegin 37 = .ok (.aload_n 0, 1) := dk_42 (dk_at dksX2_mayBegin_1 13 rfl rfl)
theorem dX2_mayBegin_38 : decode cX2_mayBegin 38 = .ok (.ldc2_w 251, 3) := dk_20 0 251 (dk_at dksX2_mayBegin_1 14 rfl rfl)
theorem dX2_mayBegin_41 : decode cX2_mayBegin 41 = .ok (.invokevirtual 245, 3) := dk_182 0 245 (dk_at dksX2_mayBegin_1 17 rfl rfl)
theorem dX2_mayBegin_44 : decode cX2_mayBegin 44 = .ok (.ifCond .ne 13, 3) := dk_154 0 13 (dk_at dksX2_mayBegin_1 20 rfl rfl)
theorem dX2_mayBegin_47 : decode cX2_mayBegin 47 = .ok (.aload_n 0, 1) := dk_42 (dk_at dksX2_mayBegin_1 23 rfl rfl)
theorem dX2_mayBegin_48 : decode cX2_mayBegin 48 = .ok (.ldc2_w 253, 3) := dk_20 0 253 (dk_at dksX2_mayBegin_2 0 rfl rfl)
theorem dX2_mayBegin_51 : decode cX2_mayBegin 51 = .ok (.invokevirtual 245, 3) := dk_182 0 245 (dk_at dksX2_mayBegin_2 3 rfl rfl)
theorem dX2_mayBegin_54 : decode cX2_mayBegin 54 = .ok (.ifCond .eq 7, 3) := dk_153 0 7 (dk_at dksX2_mayBegin_2 6 rfl rfl)
theorem dX2_mayBegin_57 : decode cX2_mayBegin 57 = .ok (.iconst 1, 1) := dk_4 (dk_at dksX2_mayBegin_2 9 rfl rfl)
theorem dX2_mayBegin_58 : decode cX2_mayBegin 58 = .ok (.goto 4, 3) := dk_167 0 4 (dk_at dksX2_mayBegin_2 10 rfl rfl)
theorem dX2_mayBegin_61 : decode cX2_mayBegin 61 = .ok (.iconst 0, 1) := dk_3 (dk_at dksX2_mayBegin_2 13 rfl rfl)
theorem dX2_mayBegin_62 : decode cX2_mayBegin 62 = .ok (.ireturn, 1) := dk_172 (dk_at dksX2_mayBegin_2 14 rfl rfl)
abbrev cX2_named : ByteArray := prog_24_method_14_code
def yX2_named : MethodName := ⟨RX2, "named", "()I"⟩
def dkwX2_named_1 : List UInt8 := [167, 0, 15, 28, 155, 0, 10, 16, 16, 28, 96, 167, 0, 4, 2, 172]
abbrev dktX2_named_1 : List UInt8 := dkwX2_named_1 ++ []
def dkwX2_named_0 : List UInt8 := [42, 16, 118, 16, 15, 182, 0, 225, 60, 42, 16, 116, 16, 31, 182, 0, 225, 61, 27, 155, 0, 7, 27]
abbrev dktX2_named_0 : List UInt8 := dkwX2_named_0 ++ dktX2_named_1
theorem dksX2_named_0 : cX2_named.data.toList.drop 0 = dktX2_named_0 := by decide +kernel
theorem dksX2_named_1 : cX2_named.data.toList.drop 23 = dktX2_named_1 := dk_seg dksX2_named_0 23 rfl rfl
theorem dX2_named_0 : decode cX2_named 0 = .ok (.aload_n 0, 1) := dk_42 (dk_at dksX2_named_0 0 rfl rfl)
theorem dX2_named_1 : decode cX2_named 1 = .ok (.bipush 118, 2) := dk_16 118 (dk_at dksX2_named_0 1 rfl rfl)
theorem dX2_named_3 : decode cX2_named 3 = .ok (.bipush 15, 2) := dk_16 15 (dk_at dksX2_named_0 3 rfl rfl)
theorem dX2_named_5 : decode cX2_named 5 = .ok (.invokevirtual 225, 3) := dk_182 0 225 (dk_at dksX2_named_0 5 rfl rfl)
theorem dX2_named_8 : decode cX2_named 8 = .ok (.istore_n 1, 1) := dk_60 (dk_at dksX2_named_0 8 rfl rfl)
theorem dX2_named_9 : decode cX2_named 9 = .ok (.aload_n 0, 1) := dk_42 (dk_at dksX2_named_0 9 rfl rfl)
theorem dX2_named_10 : decode cX2_named 10 = .ok (.bipush 116, 2) := dk_16 116 (dk_at dksX2_named_0 10 rfl rfl)
theorem dX2_named_12 : decode cX2_named 12 = .ok (.bipush 31, 2) := dk_16 31 (dk_at dksX2_named_0 12 rfl rfl)
theorem dX2_named_14 : decode cX2_named 14 = .ok (.invokevirtual 225, 3) := dk_182 0 225 (dk_at dksX2_named_0 14 rfl rfl)
theorem dX2_named_17 : decode cX2_named 17 = .ok (.istore_n 2, 1) := dk_61 (dk_at dksX2_named_0 17 rfl rfl)
theorem dX2_named_18 : decode cX2_named 18 = .ok (.iload_n 1, 1) := dk_27 (dk_at dksX2_named_0 18 rfl rfl)
theorem dX2_named_19 : decode cX2_named 19 = .ok (.ifCond .lt 7, 3) := dk_155 0 7 (dk_at dksX2_named_0 19 rfl rfl)
theorem dX2_named_22 : decode cX2_named 22 = .ok (.iload_n 1, 1) := dk_27 (dk_at dksX2_named_0 22 rfl rfl)
theorem dX2_named_23 : decode cX2_named 23 = .ok (.goto 15, 3) := dk_167 0 15 (dk_at dksX2_named_1 0 rfl rfl)
theorem dX2_named_26 : decode cX2_named 26 = .ok (.iload_n 2, 1) := dk_28 (dk_at dksX2_named_1 3 rfl rfl)
theorem dX2_named_27 : decode cX2_named 27 = .ok (.ifCond .lt 10, 3) := dk_155 0 10 (dk_at dksX2_named_1 4 rfl rfl)
theorem dX2_named_30 : decode cX2_named 30 = .ok (.bipush 16, 2) := dk_16 16 (dk_at dksX2_named_1 7 rfl rfl)
theorem dX2_named_32 : decode cX2_named 32 = .ok (.iload_n 2, 1) := dk_28 (dk_at dksX2_named_1 9 rfl rfl)
theorem dX2_named_33 : decode cX2_named 33 = .ok (.iadd, 1) := dk_96 (dk_at dksX2_named_1 10 rfl rfl)
theorem dX2_named_34 : decode cX2_named 34 = .ok (.goto 4, 3) := dk_167 0 4 (dk_at dksX2_named_1 11 rfl rfl)
theorem dX2_named_37 : decode cX2_named 37 = .ok (.iconst (-1), 1) := dk_2 (dk_at dksX2_named_1 14 rfl rfl)
theorem dX2_named_38 : decode cX2_named 38 = .ok (.ireturn, 1) := dk_172 (dk_at dksX2_named_1 15 rfl rfl)
abbrev cX2_isWord : ByteArray := prog_24_method_12_code
def yX2_isWord : MethodName := ⟨RX2, "isWord", "(J)Z"⟩
def dkwX2_isWord_1 : List UInt8 := [160, 0, 7, 4, 167, 0, 4, 3, 172]
abbrev dktX2_isWord_1 : List UInt8 := dkwX2_isWord_1 ++ []
def dkwX2_isWord_0 : List UInt8 := [42, 180, 0, 17, 4, 160, 0, 24, 42, 180, 0, 32, 31, 148, 154, 0, 15, 42, 180, 0, 26, 2]
abbrev dktX2_isWord_0 : List UInt8 := dkwX2_isWord_0 ++ dktX2_isWord_1
theorem dksX2_isWord_0 : cX2_isWord.data.toList.drop 0 = dktX2_isWord_0 := by decide +kernel
theorem dksX2_isWord_1 : cX2_isWord.data.toList.drop 22 = dktX2_isWord_1 := dk_seg dksX2_isWord_0 22 rfl rfl
theorem dX2_isWord_0 : decode cX2_isWord 0 = .ok (.aload_n 0, 1) := dk_42 (dk_at dksX2_isWord_0 0 rfl rfl)
theorem dX2_isWord_1 : decode cX2_isWord 1 = .ok (.getfield 17, 3) := dk_180 0 17 (dk_at dksX2_isWord_0 1 rfl rfl)
theorem dX2_isWord_4 : decode cX2_isWord 4 = .ok (.iconst 1, 1) := dk_4 (dk_at dksX2_isWord_0 4 rfl rfl)
theorem dX2_isWord_5 : decode cX2_isWord 5 = .ok (.if_icmp .ne 24, 3) := dk_160 0 24 (dk_at dksX2_isWord_0 5 rfl rfl)
theorem dX2_isWord_8 : decode cX2_isWord 8 = .ok (.aload_n 0, 1) := dk_42 (dk_at dksX2_isWord_0 8 rfl rfl)
theorem dX2_isWord_9 : decode cX2_isWord 9 = .ok (.getfield 32, 3) := dk_180 0 32 (dk_at dksX2_isWord_0 9 rfl rfl)
theorem dX2_isWord_12 : decode cX2_isWord 12 = .ok (.lload_n 1, 1) := dk_31 (dk_at dksX2_isWord_0 12 rfl rfl)
theorem dX2_isWord_13 : decode cX2_isWord 13 = .ok (.lcmp, 1) := dk_148 (dk_at dksX2_isWord_0 13 rfl rfl)
theorem dX2_isWord_14 : decode cX2_isWord 14 = .ok (.ifCond .ne 15, 3) := dk_154 0 15 (dk_at dksX2_isWord_0 14 rfl rfl)
theorem dX2_isWord_17 : decode cX2_isWord 17 = .ok (.aload_n 0, 1) := dk_42 (dk_at dksX2_isWord_0 17 rfl rfl)
theorem dX2_isWord_18 : decode cX2_isWord 18 = .ok (.getfield 26, 3) := dk_180 0 26 (dk_at dksX2_isWord_0 18 rfl rfl)
theorem dX2_isWord_21 : decode cX2_isWord 21 = .ok (.iconst (-1), 1) := dk_2 (dk_at dksX2_isWord_0 21 rfl rfl)
theorem dX2_isWord_22 : decode cX2_isWord 22 = .ok (.if_icmp .ne 7, 3) := dk_160 0 7 (dk_at dksX2_isWord_1 0 rfl rfl)
theorem dX2_isWord_25 : decode cX2_isWord 25 = .ok (.iconst 1, 1) := dk_4 (dk_at dksX2_isWord_1 3 rfl rfl)
theorem dX2_isWord_26 : decode cX2_isWord 26 = .ok (.goto 4, 3) := dk_167 0 4 (dk_at dksX2_isWord_1 4 rfl rfl)
theorem dX2_isWord_29 : decode cX2_isWord 29 = .ok (.iconst 0, 1) := dk_3 (dk_at dksX2_isWord_1 7 rfl rfl)
theorem dX2_isWord_30 : decode cX2_isWord 30 = .ok (.ireturn, 1) := dk_172 (dk_at dksX2_isWord_1 8 rfl rfl)
abbrev cX2_assigned : ByteArray := prog_24_method_29_code
def yX2_assigned : MethodName := ⟨RX2, "assigned", "(II)V"⟩
def dkwX2_assigned_6 : List UInt8 := [180, 0, 79, 27, 46, 42, 180, 0, 119, 42, 180, 0, 122, 182, 1, 38, 177]
abbrev dktX2_assigned_6 : List UInt8 := dkwX2_assigned_6 ++ []
def dkwX2_assigned_5 : List UInt8 := [42, 182, 1, 35, 42, 180, 0, 110, 154, 0, 30, 42, 27, 21, 4, 42, 180, 0, 76, 27, 46, 42]
abbrev dktX2_assigned_5 : List UInt8 := dkwX2_assigned_5 ++ dktX2_assigned_6
def dkwX2_assigned_4 : List UInt8 := [180, 0, 110, 157, 0, 10, 42, 182, 1, 42, 154, 0, 4, 177, 42, 180, 0, 29, 54, 4, 42, 182, 0, 236]
abbrev dktX2_assigned_4 : List UInt8 := dkwX2_assigned_4 ++ dktX2_assigned_5
def dkwX2_assigned_3 : List UInt8 := [27, 16, 114, 2, 29, 42, 180, 0, 119, 42, 180, 0, 122, 182, 1, 38, 177, 42, 27, 182, 1, 29, 42]
abbrev dktX2_assigned_3 : List UInt8 := dkwX2_assigned_3 ++ dktX2_assigned_4
def dkwX2_assigned_2 : List UInt8 := [42, 16, 91, 182, 1, 23, 42, 182, 1, 35, 42, 16, 93, 182, 1, 23, 42, 180, 0, 110, 154, 0, 20, 42]
abbrev dktX2_assigned_2 : List UInt8 := dkwX2_assigned_2 ++ dktX2_assigned_3
def dkwX2_assigned_1 : List UInt8 := [42, 180, 0, 110, 158, 0, 4, 177, 42, 16, 114, 4, 182, 0, 225, 62, 29, 155, 0, 48, 42, 182, 0, 236]
abbrev dktX2_assigned_1 : List UInt8 := dkwX2_assigned_1 ++ dktX2_assigned_2
def dkwX2_assigned_0 : List UInt8 := [42, 180, 0, 58, 27, 4, 79, 42, 180, 0, 64, 27, 28, 79, 42, 182, 0, 236, 42, 16, 61, 182, 1, 23]
abbrev dktX2_assigned_0 : List UInt8 := dkwX2_assigned_0 ++ dktX2_assigned_1
theorem dksX2_assigned_0 : cX2_assigned.data.toList.drop 0 = dktX2_assigned_0 := by decide +kernel
theorem dksX2_assigned_1 : cX2_assigned.data.toList.drop 24 = dktX2_assigned_1 := dk_seg dksX2_assigned_0 24 rfl rfl
theorem dksX2_assigned_2 : cX2_assigned.data.toList.drop 48 = dktX2_assigned_2 := dk_seg dksX2_assigned_1 24 rfl rfl
theorem dksX2_assigned_3 : cX2_assigned.data.toList.drop 72 = dktX2_assigned_3 := dk_seg dksX2_assigned_2 24 rfl rfl
theorem dksX2_assigned_4 : cX2_assigned.data.toList.drop 95 = dktX2_assigned_4 := dk_seg dksX2_assigned_3 23 rfl rfl
theorem dksX2_assigned_5 : cX2_assigned.data.toList.drop 119 = dktX2_assigned_5 := dk_seg dksX2_assigned_4 24 rfl rfl
theorem dksX2_assigned_6 : cX2_assigned.data.toList.drop 141 = dktX2_assigned_6 := dk_seg dksX2_assigned_5 22 rfl rfl
theorem dX2_assigned_0 : decode cX2_assigned 0 = .ok (.aload_n 0, 1) := dk_42 (dk_at dksX2_assigned_0 0 rfl rfl)
theorem dX2_assigned_1 : decode cX2_assigned 1 = .ok (.getfield 58, 3) := dk_180 0 58 (dk_at dksX2_assigned_0 1 rfl rfl)
theorem dX2_assigned_4 : decode cX2_assigned 4 = .ok (.iload_n 1, 1) := dk_27 (dk_at dksX2_assigned_0 4 rfl rfl)
theorem dX2_assigned_5 : decode cX2_assigned 5 = .ok (.iconst 1, 1) := dk_4 (dk_at dksX2_assigned_0 5 rfl rfl)
theorem dX2_assigned_6 : decode cX2_assigned 6 = .ok (.iastore, 1) := dk_79 (dk_at dksX2_assigned_0 6 rfl rfl)
theorem dX2_assigned_7 : decode cX2_assigned 7 = .ok (.aload_n 0, 1) := dk_42 (dk_at dksX2_assigned_0 7 rfl rfl)
theorem dX2_assigned_8 : decode cX2_assigned 8 = .ok (.getfield 64, 3) := dk_180 0 64 (dk_at dksX2_assigned_0 8 rfl rfl)
theorem dX2_assigned_11 : decode cX2_assigned 11 = .ok (.iload_n 1, 1) := dk_27 (dk_at dksX2_assigned_0 11 rfl rfl)
theorem dX2_assigned_12 : decode cX2_assigned 12 = .ok (.iload_n 2, 1) := dk_28 (dk_at dksX2_assigned_0 12 rfl rfl)
theorem dX2_assigned_13 : decode cX2_assigned 13 = .ok (.iastore, 1) := dk_79 (dk_at dksX2_assigned_0 13 rfl rfl)
theorem dX2_assigned_14 : decode cX2_assigned 14 = .ok (.aload_n 0, 1) := dk_42 (dk_at dksX2_assigned_0 14 rfl rfl)
theorem dX2_assigned_15 : decode cX2_assigned 15 = .ok (.invokevirtual 236, 3) := dk_182 0 236 (dk_at dksX2_assigned_0 15 rfl rfl)
theorem dX2_assigned_18 : decode cX2_assigned 18 = .ok (.aload_n 0, 1) := dk_42 (dk_at dksX2_assigned_0 18 rfl rfl)
theorem dX2_assigned_19 : decode cX2_assigned 19 = .ok (.bipush 61, 2) := dk_16 61 (dk_at dksX2_assigned_0 19 rfl rfl)
theorem dX2_assigned_21 : decode cX2_assigned 21 = .ok (.invokevirtual 279, 3) := dk_182 1 23 (dk_at dksX2_assigned_0 21 rfl rfl)
theorem dX2_assigned_24 : decode cX2_assigned 24 = .ok (.aload_n 0, 1) := dk_42 (dk_at dksX2_assigned_1 0 rfl rfl)
theorem dX2_assigned_25 : decode cX2_assigned 25 = .ok (.getfield 110, 3) := dk_180 0 110 (dk_at dksX2_assigned_1 1 rfl rfl)
theorem dX2_assigned_28 : decode cX2_assigned 28 = .ok (.ifCond .le 4, 3) := dk_158 0 4 (dk_at dksX2_assigned_1 4 rfl rfl)
theorem dX2_assigned_31 : decode cX2_assigned 31 = .ok (.return_, 1) := dk_177 (dk_at dksX2_assigned_1 7 rfl rfl)
theorem dX2_assigned_32 : decode cX2_assigned 32 = .ok (.aload_n 0, 1) := dk_42 (dk_at dksX2_assigned_1 8 rfl rfl)
theorem dX2_assigned_33 : decode cX2_assigned 33 = .ok (.bipush 114, 2) := dk_16 114 (dk_at dksX2_assigned_1 9 rfl rfl)
theorem dX2_assigned_35 : decode cX2_assigned 35 = .ok (.iconst 1, 1) := dk_4 (dk_at dksX2_assigned_1 11 rfl rfl)
theorem dX2_assigned_36 : decode cX2_assigned 36 = .ok (.invokevirtual 225, 3) := dk_182 0 225 (dk_at dksX2_assigned_1 12 rfl rfl)
theorem dX2_assigned_39 : decode cX2_assigned 39 = .ok (.istore_n 3, 1) := dk_62 (dk_at dksX2_assigned_1 15 rfl rfl)
theorem dX2_assigned_40 : decode cX2_assigned 40 = .ok (.iload_n 3, 1) := dk_29 (dk_at dksX2_assigned_1 16 rfl rfl)
theorem dX2_assigned_41 : decode cX2_assigned 41 = .ok (.ifCond .lt 48, 3) := dk_155 0 48 (dk_at dksX2_assigned_1 17 rfl rfl)
theorem dX2_assigned_44 : decode cX2_assigned 44 = .ok (.aload_n 0, 1) := dk_42 (dk_at dksX2_assigned_1 20 rfl rfl)
theorem dX2_assigned_45 : decode cX2_assigned 45 = .ok (.invokevirtual 236, 3) := dk_182 0 236 (dk_at dksX2_assigned_1 21 rfl rfl)
theorem dX2_assigned_48 : decode cX2_assigned 48 = .ok (.aload_n 0, 1) := dk_42 (dk_at dksX2_assigned_2 0 rfl rfl)
theorem dX2_assigned_49 : decode cX2_assigned 49 = .ok (.bipush 91, 2) := dk_16 91 (dk_at dksX2_assigned_2 1 rfl rfl)
theorem dX2_assigned_51 : decode cX2_assigned 51 = .ok (.invokevirtual 279, 3) := dk_182 1 23 (dk_at dksX2_assigned_2 3 rfl rfl)
theorem dX2_assigned_54 : decode cX2_assigned 54 = .ok (.aload_n 0, 1) := dk_42 (dk_at dksX2_assigned_2 6 rfl rfl)
theorem dX2_assigned_55 : decode cX2_assigned 55 = .ok (.invokevirtual 291, 3) := dk_182 1 35 (dk_at dksX2_assigned_2 7 rfl rfl)
theorem dX2_assigned_58 : decode cX2_assigned 58 = .ok (.aload_n 0, 1) := dk_42 (dk_at dksX2_assigned_2 10 rfl rfl)
theorem dX2_assigned_59 : decode cX2_assigned 59 = .ok (.bipush 93, 2) := dk_16 93 (dk_at dksX2_assigned_2 11 rfl rfl)
theorem dX2_assigned_61 : decode cX2_assigned 61 = .ok (.invokevirtual 279, 3) := dk_182 1 23 (dk_at dksX2_assigned_2 13 rfl rfl)
theorem dX2_assigned_64 : decode cX2_assigned 64 = .ok (.aload_n 0, 1) := dk_42 (dk_at dksX2_assigned_2 16 rfl rfl)
theorem dX2_assigned_65 : decode cX2_assigned 65 = .ok (.getfield 110, 3) := dk_180 0 110 (dk_at dksX2_assigned_2 17 rfl rfl)
theorem dX2_assigned_68 : decode cX2_assigned 68 = .ok (.ifCond .ne 20, 3) := dk_154 0 20 (dk_at dksX2_assigned_2 20 rfl rfl)
theorem dX2_assigned_71 : decode cX2_assigned 71 = .ok (.aload_n 0, 1) := dk_42 (dk_at dksX2_assigned_2 23 rfl rfl)
theorem dX2_assigned_72 : decode cX2_assigned 72 = .ok (.iload_n 1, 1) := dk_27 (dk_at dksX2_assigned_3 0 rfl rfl)
theorem dX2_assigned_73 : decode cX2_assigned 73 = .ok (.bipush 114, 2) := dk_16 114 (dk_at dksX2_assigned_3 1 rfl rfl)
theorem dX2_assigned_75 : decode cX2_assigned 75 = .ok (.iconst (-1), 1) := dk_2 (dk_at dksX2_assigned_3 3 rfl rfl)
theorem dX2_assigned_76 : decode cX2_assigned 76 = .ok (.iload_n 3, 1) := dk_29 (dk_at dksX2_assigned_3 4 rfl rfl)
theorem dX2_assigned_77 : decode cX2_assigned 77 = .ok (.aload_n 0, 1) := dk_42 (dk_at dksX2_assigned_3 5 rfl rfl)
theorem dX2_assigned_78 : decode cX2_assigned 78 = .ok (.getfield 119, 3) := dk_180 0 119 (dk_at dksX2_assigned_3 6 rfl rfl)
theorem dX2_assigned_81 : decode cX2_assigned 81 = .ok (.aload_n 0, 1) := dk_42 (dk_at dksX2_assigned_3 9 rfl rfl)
theorem dX2_assigned_82 : decode cX2_assigned 82 = .ok (.getfield 122, 3) := dk_180 0 122 (dk_at dksX2_assigned_3 10 rfl rfl)
theorem dX2_assigned_85 : decode cX2_assigned 85 = .ok (.invokevirtual 294, 3) := dk_182 1 38 (dk_at dksX2_assigned_3 13 rfl rfl)
theorem dX2_assigned_88 : decode cX2_assigned 88 = .ok (.return_, 1) := dk_177 (dk_at dksX2_assigned_3 16 rfl rfl)
theorem dX2_assigned_89 : decode cX2_assigned 89 = .ok (.aload_n 0, 1) := dk_42 (dk_at dksX2_assigned_3 17 rfl rfl)
theorem dX2_assigned_90 : decode cX2_assigned 90 = .ok (.iload_n 1, 1) := dk_27 (dk_at dksX2_assigned_3 18 rfl rfl)
theorem dX2_assigned_91 : decode cX2_assigned 91 = .ok (.invokevirtual 285, 3) := dk_182 1 29 (dk_at dksX2_assigned_3 19 rfl rfl)
theorem dX2_assigned_94 : decode cX2_assigned 94 = .ok (.aload_n 0, 1) := dk_42 (dk_at dksX2_assigned_3 22 rfl rfl)
theorem dX2_assigned_95 : decode cX2_assigned 95 = .ok (.getfield 110, 3) := dk_180 0 110 (dk_at dksX2_assigned_4 0 rfl rfl)
theorem dX2_assigned_98 : decode cX2_assigned 98 = .ok (.ifCond .gt 10, 3) := dk_157 0 10 (dk_at dksX2_assigned_4 3 rfl rfl)
theorem dX2_assigned_101 : decode cX2_assigned 101 = .ok (.aload_n 0, 1) := dk_42 (dk_at dksX2_assigned_4 6 rfl rfl)
theorem dX2_assigned_102 : decode cX2_assigned 102 = .ok (.invokevirtual 298, 3) := dk_182 1 42 (dk_at dksX2_assigned_4 7 rfl rfl)
theorem dX2_assigned_105 : decode cX2_assigned 105 = .ok (.ifCond .ne 4, 3) := dk_154 0 4 (dk_at dksX2_assigned_4 10 rfl rfl)
theorem dX2_assigned_108 : decode cX2_assigned 108 = .ok (.return_, 1) := dk_177 (dk_at dksX2_assigned_4 13 rfl rfl)
theorem dX2_assigned_109 : decode cX2_assigned 109 = .ok (.aload_n 0, 1) := dk_42 (dk_at dksX2_assigned_4 14 rfl rfl)
theorem dX2_assigned_110 : decode cX2_assigned 110 = .ok (.getfield 29, 3) := dk_180 0 29 (dk_at dksX2_assigned_4 15 rfl rfl)
theorem dX2_assigned_113 : decode cX2_assigned 113 = .ok (.istore 4, 2) := dk_54 4 (dk_at dksX2_assigned_4 18 rfl rfl)
theorem dX2_assigned_115 : decode cX2_assigned 115 = .ok (.aload_n 0, 1) := dk_42 (dk_at dksX2_assigned_4 20 rfl rfl)
theorem dX2_assigned_116 : decode cX2_assigned 116 = .ok (.invokevirtual 236, 3) := dk_182 0 236 (dk_at dksX2_assigned_4 21 rfl rfl)
theorem dX2_assigned_119 : decode cX2_assigned 119 = .ok (.aload_n 0, 1) := dk_42 (dk_at dksX2_assigned_5 0 rfl rfl)
theorem dX2_assigned_120 : decode cX2_assigned 120 = .ok (.invokevirtual 291, 3) := dk_182 1 35 (dk_at dksX2_assigned_5 1 rfl rfl)
theorem dX2_assigned_123 : decode cX2_assigned 123 = .ok (.aload_n 0, 1) := dk_42 (dk_at dksX2_assigned_5 4 rfl rfl)
theorem dX2_assigned_124 : decode cX2_assigned 124 = .ok (.getfield 110, 3) := dk_180 0 110 (dk_at dksX2_assigned_5 5 rfl rfl)
theorem dX2_assigned_127 : decode cX2_assigned 127 = .ok (.ifCond .ne 30, 3) := dk_154 0 30 (dk_at dksX2_assigned_5 8 rfl rfl)
theorem dX2_assigned_130 : decode cX2_assigned 130 = .ok (.aload_n 0, 1) := dk_42 (dk_at dksX2_assigned_5 11 rfl rfl)
theorem dX2_assigned_131 : decode cX2_assigned 131 = .ok (.iload_n 1, 1) := dk_27 (dk_at dksX2_assigned_5 12 rfl rfl)
theorem dX2_assigned_132 : decode cX2_assigned 132 = .ok (.iload 4, 2) := dk_21 4 (dk_at dksX2_assigned_5 13 rfl rfl)
theorem dX2_assigned_134 : decode cX2_assigned 134 = .ok (.aload_n 0, 1) := dk_42 (dk_at dksX2_assigned_5 15 rfl rfl)
theorem dX2_assigned_135 : decode cX2_assigned 135 = .ok (.getfield 76, 3) := dk_180 0 76 (dk_at dksX2_assigned_5 16 rfl rfl)
theorem dX2_assigned_138 : decode cX2_assigned 138 = .ok (.iload_n 1, 1) := dk_27 (dk_at dksX2_assigned_5 19 rfl rfl)
theorem dX2_assigned_139 : decode cX2_assigned 139 = .ok (.iaload, 1) := dk_46 (dk_at dksX2_assigned_5 20 rfl rfl)
theorem dX2_assigned_140 : decode cX2_assigned 140 = .ok (.aload_n 0, 1) := dk_42 (dk_at dksX2_assigned_5 21 rfl rfl)
theorem dX2_assigned_141 : decode cX2_assigned 141 = .ok (.getfield 79, 3) := dk_180 0 79 (dk_at dksX2_assigned_6 0 rfl rfl)
theorem dX2_assigned_144 : decode cX2_assigned 144 = .ok (.iload_n 1, 1) := dk_27 (dk_at dksX2_assigned_6 3 rfl rfl)
theorem dX2_assigned_145 : decode cX2_assigned 145 = .ok (.iaload, 1) := dk_46 (dk_at dksX2_assigned_6 4 rfl rfl)
theorem dX2_assigned_146 : decode cX2_assigned 146 = .ok (.aload_n 0, 1) := dk_42 (dk_at dksX2_assigned_6 5 rfl rfl)
theorem dX2_assigned_147 : decode cX2_assigned 147 = .ok (.getfield 119, 3) := dk_180 0 119 (dk_at dksX2_assigned_6 6 rfl rfl)
theorem dX2_assigned_150 : decode cX2_assigned 150 = .ok (.aload_n 0, 1) := dk_42 (dk_at dksX2_assigned_6 9 rfl rfl)
theorem dX2_assigned_151 : decode cX2_assigned 151 = .ok (.getfield 122, 3) := dk_180 0 122 (dk_at dksX2_assigned_6 10 rfl rfl)
theorem dX2_assigned_154 : decode cX2_assigned 154 = .ok (.invokevirtual 294, 3) := dk_182 1 38 (dk_at dksX2_assigned_6 13 rfl rfl)
theorem dX2_assigned_157 : decode cX2_assigned 157 = .ok (.return_, 1) := dk_177 (dk_at dksX2_assigned_6 16 rfl rfl)
abbrev cX2_operand : ByteArray := prog_24_method_17_code
def yX2_operand : MethodName := ⟨RX2, "operand", "()V"⟩
def dkwX2_operand_5 : List UInt8 := [42, 180, 0, 29, 167, 0, 4, 3, 181, 0, 122, 42, 182, 0, 236, 177]
abbrev dktX2_operand_5 : List UInt8 := dkwX2_operand_5 ++ []
def dkwX2_operand_4 : List UInt8 := [181, 0, 119, 42, 42, 180, 0, 17, 5, 160, 0, 22, 27, 153, 0, 11, 42, 180, 0, 29, 116, 167, 0, 11]
abbrev dktX2_operand_4 : List UInt8 := dkwX2_operand_4 ++ dktX2_operand_5
def dkwX2_operand_3 : List UInt8 := [182, 0, 232, 154, 0, 4, 177, 42, 42, 180, 0, 17, 5, 160, 0, 7, 2, 167, 0, 7, 42, 182, 0, 239]
abbrev dktX2_operand_3 : List UInt8 := dkwX2_operand_3 ++ dktX2_operand_4
def dkwX2_operand_2 : List UInt8 := [177, 42, 42, 180, 0, 17, 5, 159, 0, 10, 42, 182, 0, 239, 155, 0, 7, 4, 167, 0, 4, 3, 5]
abbrev dktX2_operand_2 : List UInt8 := dkwX2_operand_2 ++ dktX2_operand_3
def dkwX2_operand_1 : List UInt8 := [153, 0, 25, 42, 42, 180, 0, 17, 5, 160, 0, 7, 4, 167, 0, 4, 3, 5, 182, 0, 232, 154, 0, 33]
abbrev dktX2_operand_1 : List UInt8 := dkwX2_operand_1 ++ dktX2_operand_2
def dkwX2_operand_0 : List UInt8 := [42, 180, 0, 110, 158, 0, 4, 177, 42, 16, 45, 182, 0, 229, 60, 27, 153, 0, 7, 42, 182, 0, 236, 27]
abbrev dktX2_operand_0 : List UInt8 := dkwX2_operand_0 ++ dktX2_operand_1
theorem dksX2_operand_0 : cX2_operand.data.toList.drop 0 = dktX2_operand_0 := by decide +kernel
theorem dksX2_operand_1 : cX2_operand.data.toList.drop 24 = dktX2_operand_1 := dk_seg dksX2_operand_0 24 rfl rfl
theorem dksX2_operand_2 : cX2_operand.data.toList.drop 48 = dktX2_operand_2 := dk_seg dksX2_operand_1 24 rfl rfl
theorem dksX2_operand_3 : cX2_operand.data.toList.drop 71 = dktX2_operand_3 := dk_seg dksX2_operand_2 23 rfl rfl
theorem dksX2_operand_4 : cX2_operand.data.toList.drop 95 = dktX2_operand_4 := dk_seg dksX2_operand_3 24 rfl rfl
theorem dksX2_operand_5 : cX2_operand.data.toList.drop 119 = dktX2_operand_5 := dk_seg dksX2_operand_4 24 rfl rfl
theorem dX2_operand_0 : decode cX2_operand 0 = .ok (.aload_n 0, 1) := dk_42 (dk_at dksX2_operand_0 0 rfl rfl)
theorem dX2_operand_1 : decode cX2_operand 1 = .ok (.getfield 110, 3) := dk_180 0 110 (dk_at dksX2_operand_0 1 rfl rfl)
theorem dX2_operand_4 : decode cX2_operand 4 = .ok (.ifCond .le 4, 3) := dk_158 0 4 (dk_at dksX2_operand_0 4 rfl rfl)
theorem dX2_operand_7 : decode cX2_operand 7 = .ok (.return_, 1) := dk_177 (dk_at dksX2_operand_0 7 rfl rfl)
theorem dX2_operand_8 : decode cX2_operand 8 = .ok (.aload_n 0, 1) := dk_42 (dk_at dksX2_operand_0 8 rfl rfl)
theorem dX2_operand_9 : decode cX2_operand 9 = .ok (.bipush 45, 2) := dk_16 45 (dk_at dksX2_operand_0 9 rfl rfl)
theorem dX2_operand_11 : decode cX2_operand 11 = .ok (.invokevirtual 229, 3) := dk_182 0 229 (dk_at dksX2_operand_0 11 rfl rfl)
theorem dX2_operand_14 : decode cX2_operand 14 = .ok (.istore_n 1, 1) := dk_60 (dk_at dksX2_operand_0 14 rfl rfl)
theorem dX2_operand_15 : decode cX2_operand 15 = .ok (.iload_n 1, 1) := dk_27 (dk_at dksX2_operand_0 15 rfl rfl)
theorem dX2_operand_16 : decode cX2_operand 16 = .ok (.ifCond .eq 7, 3) := dk_153 0 7 (dk_at dksX2_operand_0 16 rfl rfl)
theorem dX2_operand_19 : decode cX2_operand 19 = .ok (.aload_n 0, 1) := dk_42 (dk_at dksX2_operand_0 19 rfl rfl)
theorem dX2_operand_20 : decode cX2_operand 20 = .ok (.invokevirtual 236, 3) := dk_182 0 236 (dk_at dksX2_operand_0 20 rfl rfl)
theorem dX2_operand_23 : decode cX2_operand 23 = .ok (.iload_n 1, 1) := dk_27 (dk_at dksX2_operand_0 23 rfl rfl)
theorem dX2_operand_24 : decode cX2_operand 24 = .ok (.ifCond .eq 25, 3) := dk_153 0 25 (dk_at dksX2_operand_1 0 rfl rfl)
theorem dX2_operand_27 : decode cX2_operand 27 = .ok (.aload_n 0, 1) := dk_42 (dk_at dksX2_operand_1 3 rfl rfl)
theorem dX2_operand_28 : decode cX2_operand 28 = .ok (.aload_n 0, 1) := dk_42 (dk_at dksX2_operand_1 4 rfl rfl)
theorem dX2_operand_29 : decode cX2_operand 29 = .ok (.getfield 17, 3) := dk_180 0 17 (dk_at dksX2_operand_1 5 rfl rfl)
theorem dX2_operand_32 : decode cX2_operand 32 = .ok (.iconst 2, 1) := dk_5 (dk_at dksX2_operand_1 8 rfl rfl)
theorem dX2_operand_33 : decode cX2_operand 33 = .ok (.if_icmp .ne 7, 3) := dk_160 0 7 (dk_at dksX2_operand_1 9 rfl rfl)
theorem dX2_operand_36 : decode cX2_operand 36 = .ok (.iconst 1, 1) := dk_4 (dk_at dksX2_operand_1 12 rfl rfl)
theorem dX2_operand_37 : decode cX2_operand 37 = .ok (.goto 4, 3) := dk_167 0 4 (dk_at dksX2_operand_1 13 rfl rfl)
theorem dX2_operand_40 : decode cX2_operand 40 = .ok (.iconst 0, 1) := dk_3 (dk_at dksX2_operand_1 16 rfl rfl)
theorem dX2_operand_41 : decode cX2_operand 41 = .ok (.iconst 2, 1) := dk_5 (dk_at dksX2_operand_1 17 rfl rfl)
theorem dX2_operand_42 : decode cX2_operand 42 = .ok (.invokevirtual 232, 3) := dk_182 0 232 (dk_at dksX2_operand_1 18 rfl rfl)
theorem dX2_operand_45 : decode cX2_operand 45 = .ok (.ifCond .ne 33, 3) := dk_154 0 33 (dk_at dksX2_operand_1 21 rfl rfl)
theorem dX2_operand_48 : decode cX2_operand 48 = .ok (.return_, 1) := dk_177 (dk_at dksX2_operand_2 0 rfl rfl)
theorem dX2_operand_49 : decode cX2_operand 49 = .ok (.aload_n 0, 1) := dk_42 (dk_at dksX2_operand_2 1 rfl rfl)
theorem dX2_operand_50 : decode cX2_operand 50 = .ok (.aload_n 0, 1) := dk_42 (dk_at dksX2_operand_2 2 rfl rfl)
theorem dX2_operand_51 : decode cX2_operand 51 = .ok (.getfield 17, 3) := dk_180 0 17 (dk_at dksX2_operand_2 3 rfl rfl)
theorem dX2_operand_54 : decode cX2_operand 54 = .ok (.iconst 2, 1) := dk_5 (dk_at dksX2_operand_2 6 rfl rfl)
theorem dX2_operand_55 : decode cX2_operand 55 = .ok (.if_icmp .eq 10, 3) := dk_159 0 10 (dk_at dksX2_operand_2 7 rfl rfl)
theorem dX2_operand_58 : decode cX2_operand 58 = .ok (.aload_n 0, 1) := dk_42 (dk_at dksX2_operand_2 10 rfl rfl)
theorem dX2_operand_59 : decode cX2_operand 59 = .ok (.invokevirtual 239, 3) := dk_182 0 239 (dk_at dksX2_operand_2 11 rfl rfl)
theorem dX2_operand_62 : decode cX2_operand 62 = .ok (.ifCond .lt 7, 3) := dk_155 0 7 (dk_at dksX2_operand_2 14 rfl rfl)
theorem dX2_operand_65 : decode cX2_operand 65 = .ok (.iconst 1, 1) := dk_4 (dk_at dksX2_operand_2 17 rfl rfl)
theorem dX2_operand_66 : decode cX2_operand 66 = .ok (.goto 4, 3) := dk_167 0 4 (dk_at dksX2_operand_2 18 rfl rfl)
theorem dX2_operand_69 : decode cX2_operand 69 = .ok (.iconst 0, 1) := dk_3 (dk_at dksX2_operand_2 21 rfl rfl)
theorem dX2_operand_70 : decode cX2_operand 70 = .ok (.iconst 2, 1) := dk_5 (dk_at dksX2_operand_2 22 rfl rfl)
theorem dX2_operand_71 : decode cX2_operand 71 = .ok (.invokevirtual 232, 3) := dk_182 0 232 (dk_at dksX2_operand_3 0 rfl rfl)
theorem dX2_operand_74 : decode cX2_operand 74 = .ok (.ifCond .ne 4, 3) := dk_154 0 4 (dk_at dksX2_operand_3 3 rfl rfl)
theorem dX2_operand_77 : decode cX2_operand 77 = .ok (.return_, 1) := dk_177 (dk_at dksX2_operand_3 6 rfl rfl)
theorem dX2_operand_78 : decode cX2_operand 78 = .ok (.aload_n 0, 1) := dk_42 (dk_at dksX2_operand_3 7 rfl rfl)
theorem dX2_operand_79 : decode cX2_operand 79 = .ok (.aload_n 0, 1) := dk_42 (dk_at dksX2_operand_3 8 rfl rfl)
theorem dX2_operand_80 : decode cX2_operand 80 = .ok (.getfield 17, 3) := dk_180 0 17 (dk_at dksX2_operand_3 9 rfl rfl)
theorem dX2_operand_83 : decode cX2_operand 83 = .ok (.iconst 2, 1) := dk_5 (dk_at dksX2_operand_3 12 rfl rfl)
theorem dX2_operand_84 : decode cX2_operand 84 = .ok (.if_icmp .ne 7, 3) := dk_160 0 7 (dk_at dksX2_operand_3 13 rfl rfl)
theorem dX2_operand_87 : decode cX2_operand 87 = .ok (.iconst (-1), 1) := dk_2 (dk_at dksX2_operand_3 16 rfl rfl)
theorem dX2_operand_88 : decode cX2_operand 88 = .ok (.goto 7, 3) := dk_167 0 7 (dk_at dksX2_operand_3 17 rfl rfl)
theorem dX2_operand_91 : decode cX2_operand 91 = .ok (.aload_n 0, 1) := dk_42 (dk_at dksX2_operand_3 20 rfl rfl)
theorem dX2_operand_92 : decode cX2_operand 92 = .ok (.invokevirtual 239, 3) := dk_182 0 239 (dk_at dksX2_operand_3 21 rfl rfl)
theorem dX2_operand_95 : decode cX2_operand 95 = .ok (.putfield 119, 3) := dk_181 0 119 (dk_at dksX2_operand_4 0 rfl rfl)
theorem dX2_operand_98 : decode cX2_operand 98 = .ok (.aload_n 0, 1) := dk_42 (dk_at dksX2_operand_4 3 rfl rfl)
theorem dX2_operand_99 : decode cX2_operand 99 = .ok (.aload_n 0, 1) := dk_42 (dk_at dksX2_operand_4 4 rfl rfl)
theorem dX2_operand_100 : decode cX2_operand 100 = .ok (.getfield 17, 3) := dk_180 0 17 (dk_at dksX2_operand_4 5 rfl rfl)
theorem dX2_operand_103 : decode cX2_operand 103 = .ok (.iconst 2, 1) := dk_5 (dk_at dksX2_operand_4 8 rfl rfl)
theorem dX2_operand_104 : decode cX2_operand 104 = .ok (.if_icmp .ne 22, 3) := dk_160 0 22 (dk_at dksX2_operand_4 9 rfl rfl)
theorem dX2_operand_107 : decode cX2_operand 107 = .ok (.iload_n 1, 1) := dk_27 (dk_at dksX2_operand_4 12 rfl rfl)
theorem dX2_operand_108 : decode cX2_operand 108 = .ok (.ifCond .eq 11, 3) := dk_153 0 11 (dk_at dksX2_operand_4 13 rfl rfl)
theorem dX2_operand_111 : decode cX2_operand 111 = .ok (.aload_n 0, 1) := dk_42 (dk_at dksX2_operand_4 16 rfl rfl)
theorem dX2_operand_112 : decode cX2_operand 112 = .ok (.getfield 29, 3) := dk_180 0 29 (dk_at dksX2_operand_4 17 rfl rfl)
theorem dX2_operand_115 : decode cX2_operand 115 = .ok (.ineg, 1) := dk_116 (dk_at dksX2_operand_4 20 rfl rfl)
theorem dX2_operand_116 : decode cX2_operand 116 = .ok (.goto 11, 3) := dk_167 0 11 (dk_at dksX2_operand_4 21 rfl rfl)
theorem dX2_operand_119 : decode cX2_operand 119 = .ok (.aload_n 0, 1) := dk_42 (dk_at dksX2_operand_5 0 rfl rfl)
theorem dX2_operand_120 : decode cX2_operand 120 = .ok (.getfield 29, 3) := dk_180 0 29 (dk_at dksX2_operand_5 1 rfl rfl)
theorem dX2_operand_123 : decode cX2_operand 123 = .ok (.goto 4, 3) := dk_167 0 4 (dk_at dksX2_operand_5 4 rfl rfl)
theorem dX2_operand_126 : decode cX2_operand 126 = .ok (.iconst 0, 1) := dk_3 (dk_at dksX2_operand_5 7 rfl rfl)
theorem dX2_operand_127 : decode cX2_operand 127 = .ok (.putfield 122, 3) := dk_181 0 122 (dk_at dksX2_operand_5 8 rfl rfl)
theorem dX2_operand_130 : decode cX2_operand 130 = .ok (.aload_n 0, 1) := dk_42 (dk_at dksX2_operand_5 11 rfl rfl)
theorem dX2_operand_131 : decode cX2_operand 131 = .ok (.invokevirtual 236, 3) := dk_182 0 236 (dk_at dksX2_operand_5 12 rfl rfl)
theorem dX2_operand_134 : decode cX2_operand 134 = .ok (.return_, 1) := dk_177 (dk_at dksX2_operand_5 15 rfl rfl)
abbrev cX2_summed : ByteArray := prog_24_method_30_code
def yX2_summed : MethodName := ⟨RX2, "summed", "(IIIIII)V"⟩
def dkwX2_summed_8 : List UInt8 := [180, 0, 103, 21, 8, 21, 7, 96, 21, 6, 79, 42, 180, 0, 49, 7, 92, 46, 4, 96, 79, 177]
abbrev dktX2_summed_8 : List UInt8 := dkwX2_summed_8 ++ []
def dkwX2_summed_7 : List UInt8 := [180, 0, 97, 21, 8, 21, 7, 96, 21, 4, 79, 42, 180, 0, 100, 21, 8, 21, 7, 96, 21, 5, 79, 42]
abbrev dktX2_summed_7 : List UInt8 := dkwX2_summed_7 ++ dktX2_summed_8
def dkwX2_summed_6 : List UInt8 := [180, 0, 91, 21, 8, 21, 7, 96, 28, 79, 42, 180, 0, 94, 21, 8, 21, 7, 96, 29, 79, 42]
abbrev dktX2_summed_6 : List UInt8 := dkwX2_summed_6 ++ dktX2_summed_7
def dkwX2_summed_5 : List UInt8 := [180, 0, 49, 7, 46, 162, 0, 4, 177, 21, 7, 16, 32, 160, 0, 9, 42, 4, 181, 0, 128, 177, 42]
abbrev dktX2_summed_5 : List UInt8 := dkwX2_summed_5 ++ dktX2_summed_6
def dkwX2_summed_4 : List UInt8 := [21, 6, 159, 0, 9, 132, 7, 1, 167, 255, 169, 42, 180, 0, 67, 27, 21, 7, 79, 21, 7, 42]
abbrev dktX2_summed_4 : List UInt8 := dkwX2_summed_4 ++ dktX2_summed_5
def dkwX2_summed_3 : List UInt8 := [180, 0, 100, 21, 8, 21, 7, 96, 46, 21, 5, 160, 0, 18, 42, 180, 0, 103, 21, 8, 21, 7, 96, 46]
abbrev dktX2_summed_3 : List UInt8 := dkwX2_summed_3 ++ dktX2_summed_4
def dkwX2_summed_2 : List UInt8 := [21, 7, 96, 46, 29, 160, 0, 48, 42, 180, 0, 97, 21, 8, 21, 7, 96, 46, 21, 4, 160, 0, 33, 42]
abbrev dktX2_summed_2 : List UInt8 := dkwX2_summed_2 ++ dktX2_summed_3
def dkwX2_summed_1 : List UInt8 := [162, 0, 82, 42, 180, 0, 91, 21, 8, 21, 7, 96, 46, 28, 160, 0, 62, 42, 180, 0, 94, 21, 8]
abbrev dktX2_summed_1 : List UInt8 := dkwX2_summed_1 ++ dktX2_summed_2
def dkwX2_summed_0 : List UInt8 := [42, 180, 0, 58, 27, 3, 79, 3, 54, 7, 17, 0, 128, 54, 8, 21, 7, 42, 180, 0, 49, 7, 46]
abbrev dktX2_summed_0 : List UInt8 := dkwX2_summed_0 ++ dktX2_summed_1
theorem dksX2_summed_0 : cX2_summed.data.toList.drop 0 = dktX2_summed_0 := by decide +kernel
theorem dksX2_summed_1 : cX2_summed.data.toList.drop 23 = dktX2_summed_1 := dk_seg dksX2_summed_0 23 rfl rfl
theorem dksX2_summed_2 : cX2_summed.data.toList.drop 46 = dktX2_summed_2 := dk_seg dksX2_summed_1 23 rfl rfl
theorem dksX2_summed_3 : cX2_summed.data.toList.drop 70 = dktX2_summed_3 := dk_seg dksX2_summed_2 24 rfl rfl
theorem dksX2_summed_4 : cX2_summed.data.toList.drop 94 = dktX2_summed_4 := dk_seg dksX2_summed_3 24 rfl rfl
theorem dksX2_summed_5 : cX2_summed.data.toList.drop 116 = dktX2_summed_5 := dk_seg dksX2_summed_4 22 rfl rfl
theorem dksX2_summed_6 : cX2_summed.data.toList.drop 139 = dktX2_summed_6 := dk_seg dksX2_summed_5 23 rfl rfl
theorem dksX2_summed_7 : cX2_summed.data.toList.drop 161 = dktX2_summed_7 := dk_seg dksX2_summed_6 22 rfl rfl
theorem dksX2_summed_8 : cX2_summed.data.toList.drop 185 = dktX2_summed_8 := dk_seg dksX2_summed_7 24 rfl rfl
theorem dX2_summed_0 : decode cX2_summed 0 = .ok (.aload_n 0, 1) := dk_42 (dk_at dksX2_summed_0 0 rfl rfl)
theorem dX2_summed_1 : decode cX2_summed 1 = .ok (.getfield 58, 3) := dk_180 0 58 (dk_at dksX2_summed_0 1 rfl rfl)
theorem dX2_summed_4 : decode cX2_summed 4 = .ok (.iload_n 1, 1) := dk_27 (dk_at dksX2_summed_0 4 rfl rfl)
theorem dX2_summed_5 : decode cX2_summed 5 = .ok (.iconst 0, 1) := dk_3 (dk_at dksX2_summed_0 5 rfl rfl)
theorem dX2_summed_6 : decode cX2_summed 6 = .ok (.iastore, 1) := dk_79 (dk_at dksX2_summed_0 6 rfl rfl)
theorem dX2_summed_7 : decode cX2_summed 7 = .ok (.iconst 0, 1) := dk_3 (dk_at dksX2_summed_0 7 rfl rfl)
theorem dX2_summed_8 : decode cX2_summed 8 = .ok (.istore 7, 2) := dk_54 7 (dk_at dksX2_summed_0 8 rfl rfl)
theorem dX2_summed_10 : decode cX2_summed 10 = .ok (.sipush 128, 3) := dk_17 0 128 (dk_at dksX2_summed_0 10 rfl rfl)
theorem dX2_summed_13 : decode cX2_summed 13 = .ok (.istore 8, 2) := dk_54 8 (dk_at dksX2_summed_0 13 rfl rfl)
theorem dX2_summed_15 : decode cX2_summed 15 = .ok (.iload 7, 2) := dk_21 7 (dk_at dksX2_summed_0 15 rfl rfl)
theorem dX2_summed_17 : decode cX2_summed 17 = .ok (.aload_n 0, 1) := dk_42 (dk_at dksX2_summed_0 17 rfl rfl)
theorem dX2_summed_18 : decode cX2_summed 18 = .ok (.getfield 49, 3) := dk_180 0 49 (dk_at dksX2_summed_0 18 rfl rfl)
theorem dX2_summed_21 : decode cX2_summed 21 = .ok (.iconst 4, 1) := dk_7 (dk_at dksX2_summed_0 21 rfl rfl)
theorem dX2_summed_22 : decode cX2_summed 22 = .ok (.iaload, 1) := dk_46 (dk_at dksX2_summed_0 22 rfl rfl)
theorem dX2_summed_23 : decode cX2_summed 23 = .ok (.if_icmp .ge 82, 3) := dk_162 0 82 (dk_at dksX2_summed_1 0 rfl rfl)
theorem dX2_summed_26 : decode cX2_summed 26 = .ok (.aload_n 0, 1) := dk_42 (dk_at dksX2_summed_1 3 rfl rfl)
theorem dX2_summed_27 : decode cX2_summed 27 = .ok (.getfield 91, 3) := dk_180 0 91 (dk_at dksX2_summed_1 4 rfl rfl)
theorem dX2_summed_30 : decode cX2_summed 30 = .ok (.iload 8, 2) := dk_21 8 (dk_at dksX2_summed_1 7 rfl rfl)
theorem dX2_summed_32 : decode cX2_summed 32 = .ok (.iload 7, 2) := dk_21 7 (dk_at dksX2_summed_1 9 rfl rfl)
theorem dX2_summed_34 : decode cX2_summed 34 = .ok (.iadd, 1) := dk_96 (dk_at dksX2_summed_1 11 rfl rfl)
theorem dX2_summed_35 : decode cX2_summed 35 = .ok (.iaload, 1) := dk_46 (dk_at dksX2_summed_1 12 rfl rfl)
theorem dX2_summed_36 : decode cX2_summed 36 = .ok (.iload_n 2, 1) := dk_28 (dk_at dksX2_summed_1 13 rfl rfl)
theorem dX2_summed_37 : decode cX2_summed 37 = .ok (.if_icmp .ne 62, 3) := dk_160 0 62 (dk_at dksX2_summed_1 14 rfl rfl)
theorem dX2_summed_40 : decode cX2_summed 40 = .ok (.aload_n 0, 1) := dk_42 (dk_at dksX2_summed_1 17 rfl rfl)
theorem dX2_summed_41 : decode cX2_summed 41 = .ok (.getfield 94, 3) := dk_180 0 94 (dk_at dksX2_summed_1 18 rfl rfl)
theorem dX2_summed_44 : decode cX2_summed 44 = .ok (.iload 8, 2) := dk_21 8 (dk_at dksX2_summed_1 21 rfl rfl)
theorem dX2_summed_46 : decode cX2_summed 46 = .ok (.iload 7, 2) := dk_21 7 (dk_at dksX2_summed_2 0 rfl rfl)
theorem dX2_summed_48 : decode cX2_summed 48 = .ok (.iadd, 1) := dk_96 (dk_at dksX2_summed_2 2 rfl rfl)
theorem dX2_summed_49 : decode cX2_summed 49 = .ok (.iaload, 1) := dk_46 (dk_at dksX2_summed_2 3 rfl rfl)
theorem dX2_summed_50 : decode cX2_summed 50 = .ok (.iload_n 3, 1) := dk_29 (dk_at dksX2_summed_2 4 rfl rfl)
theorem dX2_summed_51 : decode cX2_summed 51 = .ok (.if_icmp .ne 48, 3) := dk_160 0 48 (dk_at dksX2_summed_2 5 rfl rfl)
theorem dX2_summed_54 : decode cX2_summed 54 = .ok (.aload_n 0, 1) := dk_42 (dk_at dksX2_summed_2 8 rfl rfl)
theorem dX2_summed_55 : decode cX2_summed 55 = .ok (.getfield 97, 3) := dk_180 0 97 (dk_at dksX2_summed_2 9 rfl rfl)
theorem dX2_summed_58 : decode cX2_summed 58 = .ok (.iload 8, 2) := dk_21 8 (dk_at dksX2_summed_2 12 rfl rfl)
theorem dX2_summed_60 : decode cX2_summed 60 = .ok (.iload 7, 2) := dk_21 7 (dk_at dksX2_summed_2 14 rfl rfl)
theorem dX2_summed_62 : decode cX2_summed 62 = .ok (.iadd, 1) := dk_96 (dk_at dksX2_summed_2 16 rfl rfl)
theorem dX2_summed_63 : decode cX2_summed 63 = .ok (.iaload, 1) := dk_46 (dk_at dksX2_summed_2 17 rfl rfl)
theorem dX2_summed_64 : decode cX2_summed 64 = .ok (.iload 4, 2) := dk_21 4 (dk_at dksX2_summed_2 18 rfl rfl)
theorem dX2_summed_66 : decode cX2_summed 66 = .ok (.if_icmp .ne 33, 3) := dk_160 0 33 (dk_at dksX2_summed_2 20 rfl rfl)
theorem dX2_summed_69 : decode cX2_summed 69 = .ok (.aload_n 0, 1) := dk_42 (dk_at dksX2_summed_2 23 rfl rfl)
theorem dX2_summed_70 : decode cX2_summed 70 = .ok (.getfield 100, 3) := dk_180 0 100 (dk_at dksX2_summed_3 0 rfl rfl)
theorem dX2_summed_73 : decode cX2_summed 73 = .ok (.iload 8, 2) := dk_21 8 (dk_at dksX2_summed_3 3 rfl rfl)
theorem dX2_summed_75 : decode cX2_summed 75 = .ok (.iload 7, 2) := dk_21 7 (dk_at dksX2_summed_3 5 rfl rfl)
theorem dX2_summed_77 : decode cX2_summed 77 = .ok (.iadd, 1) := dk_96 (dk_at dksX2_summed_3 7 rfl rfl)
theorem dX2_summed_78 : decode cX2_summed 78 = .ok (.iaload, 1) := dk_46 (dk_at dksX2_summed_3 8 rfl rfl)
theorem dX2_summed_79 : decode cX2_summed 79 = .ok (.iload 5, 2) := dk_21 5 (dk_at dksX2_summed_3 9 rfl rfl)
theorem dX2_summed_81 : decode cX2_summed 81 = .ok (.if_icmp .ne 18, 3) := dk_160 0 18 (dk_at dksX2_summed_3 11 rfl rfl)
theorem dX2_summed_84 : decode cX2_summed 84 = .ok (.aload_n 0, 1) := dk_42 (dk_at dksX2_summed_3 14 rfl rfl)
theorem dX2_summed_85 : decode cX2_summed 85 = .ok (.getfield 103, 3) := dk_180 0 103 (dk_at dksX2_summed_3 15 rfl rfl)
theorem dX2_summed_88 : decode cX2_summed 88 = .ok (.iload 8, 2) := dk_21 8 (dk_at dksX2_summed_3 18 rfl rfl)
theorem dX2_summed_90 : decode cX2_summed 90 = .ok (.iload 7, 2) := dk_21 7 (dk_at dksX2_summed_3 20 rfl rfl)
theorem dX2_summed_92 : decode cX2_summed 92 = .ok (.iadd, 1) := dk_96 (dk_at dksX2_summed_3 22 rfl rfl)
theorem dX2_summed_93 : decode cX2_summed 93 = .ok (.iaload, 1) := dk_46 (dk_at dksX2_summed_3 23 rfl rfl)
theorem dX2_summed_94 : decode cX2_summed 94 = .ok (.iload 6, 2) := dk_21 6 (dk_at dksX2_summed_4 0 rfl rfl)
theorem dX2_summed_96 : decode cX2_summed 96 = .ok (.if_icmp .eq 9, 3) := dk_159 0 9 (dk_at dksX2_summed_4 2 rfl rfl)
theorem dX2_summed_99 : decode cX2_summed 99 = .ok (.iinc 7 1, 3) := dk_132 7 1 (dk_at dksX2_summed_4 5 rfl rfl)
theorem dX2_summed_102 : decode cX2_summed 102 = .ok (.goto (-87), 3) := dk_167 255 169 (dk_at dksX2_summed_4 8 rfl rfl)
theorem dX2_summed_105 : decode cX2_summed 105 = .ok (.aload_n 0, 1) := dk_42 (dk_at dksX2_summed_4 11 rfl rfl)
theorem dX2_summed_106 : decode cX2_summed 106 = .ok (.getfield 67, 3) := dk_180 0 67 (dk_at dksX2_summed_4 12 rfl rfl)
theorem dX2_summed_109 : decode cX2_summed 109 = .ok (.iload_n 1, 1) := dk_27 (dk_at dksX2_summed_4 15 rfl rfl)
theorem dX2_summed_110 : decode cX2_summed 110 = .ok (.iload 7, 2) := dk_21 7 (dk_at dksX2_summed_4 16 rfl rfl)
theorem dX2_summed_112 : decode cX2_summed 112 = .ok (.iastore, 1) := dk_79 (dk_at dksX2_summed_4 18 rfl rfl)
theorem dX2_summed_113 : decode cX2_summed 113 = .ok (.iload 7, 2) := dk_21 7 (dk_at dksX2_summed_4 19 rfl rfl)
theorem dX2_summed_115 : decode cX2_summed 115 = .ok (.aload_n 0, 1) := dk_42 (dk_at dksX2_summed_4 21 rfl rfl)
theorem dX2_summed_116 : decode cX2_summed 116 = .ok (.getfield 49, 3) := dk_180 0 49 (dk_at dksX2_summed_5 0 rfl rfl)
theorem dX2_summed_119 : decode cX2_summed 119 = .ok (.iconst 4, 1) := dk_7 (dk_at dksX2_summed_5 3 rfl rfl)
theorem dX2_summed_120 : decode cX2_summed 120 = .ok (.iaload, 1) := dk_46 (dk_at dksX2_summed_5 4 rfl rfl)
theorem dX2_summed_121 : decode cX2_summed 121 = .ok (.if_icmp .ge 4, 3) := dk_162 0 4 (dk_at dksX2_summed_5 5 rfl rfl)
theorem dX2_summed_124 : decode cX2_summed 124 = .ok (.return_, 1) := dk_177 (dk_at dksX2_summed_5 8 rfl rfl)
theorem dX2_summed_125 : decode cX2_summed 125 = .ok (.iload 7, 2) := dk_21 7 (dk_at dksX2_summed_5 9 rfl rfl)
theorem dX2_summed_127 : decode cX2_summed 127 = .ok (.bipush 32, 2) := dk_16 32 (dk_at dksX2_summed_5 11 rfl rfl)
theorem dX2_summed_129 : decode cX2_summed 129 = .ok (.if_icmp .ne 9, 3) := dk_160 0 9 (dk_at dksX2_summed_5 13 rfl rfl)
theorem dX2_summed_132 : decode cX2_summed 132 = .ok (.aload_n 0, 1) := dk_42 (dk_at dksX2_summed_5 16 rfl rfl)
theorem dX2_summed_133 : decode cX2_summed 133 = .ok (.iconst 1, 1) := dk_4 (dk_at dksX2_summed_5 17 rfl rfl)
theorem dX2_summed_134 : decode cX2_summed 134 = .ok (.putfield 128, 3) := dk_181 0 128 (dk_at dksX2_summed_5 18 rfl rfl)
theorem dX2_summed_137 : decode cX2_summed 137 = .ok (.return_, 1) := dk_177 (dk_at dksX2_summed_5 21 rfl rfl)
theorem dX2_summed_138 : decode cX2_summed 138 = .ok (.aload_n 0, 1) := dk_42 (dk_at dksX2_summed_5 22 rfl rfl)
theorem dX2_summed_139 : decode cX2_summed 139 = .ok (.getfield 91, 3) := dk_180 0 91 (dk_at dksX2_summed_6 0 rfl rfl)
theorem dX2_summed_142 : decode cX2_summed 142 = .ok (.iload 8, 2) := dk_21 8 (dk_at dksX2_summed_6 3 rfl rfl)
theorem dX2_summed_144 : decode cX2_summed 144 = .ok (.iload 7, 2) := dk_21 7 (dk_at dksX2_summed_6 5 rfl rfl)
theorem dX2_summed_146 : decode cX2_summed 146 = .ok (.iadd, 1) := dk_96 (dk_at dksX2_summed_6 7 rfl rfl)
theorem dX2_summed_147 : decode cX2_summed 147 = .ok (.iload_n 2, 1) := dk_28 (dk_at dksX2_summed_6 8 rfl rfl)
theorem dX2_summed_148 : decode cX2_summed 148 = .ok (.iastore, 1) := dk_79 (dk_at dksX2_summed_6 9 rfl rfl)
theorem dX2_summed_149 : decode cX2_summed 149 = .ok (.aload_n 0, 1) := dk_42 (dk_at dksX2_summed_6 10 rfl rfl)
theorem dX2_summed_150 : decode cX2_summed 150 = .ok (.getfield 94, 3) := dk_180 0 94 (dk_at dksX2_summed_6 11 rfl rfl)
theorem dX2_summed_153 : decode cX2_summed 153 = .ok (.iload 8, 2) := dk_21 8 (dk_at dksX2_summed_6 14 rfl rfl)
theorem dX2_summed_155 : decode cX2_summed 155 = .ok (.iload 7, 2) := dk_21 7 (dk_at dksX2_summed_6 16 rfl rfl)
theorem dX2_summed_157 : decode cX2_summed 157 = .ok (.iadd, 1) := dk_96 (dk_at dksX2_summed_6 18 rfl rfl)
theorem dX2_summed_158 : decode cX2_summed 158 = .ok (.iload_n 3, 1) := dk_29 (dk_at dksX2_summed_6 19 rfl rfl)
theorem dX2_summed_159 : decode cX2_summed 159 = .ok (.iastore, 1) := dk_79 (dk_at dksX2_summed_6 20 rfl rfl)
theorem dX2_summed_160 : decode cX2_summed 160 = .ok (.aload_n 0, 1) := dk_42 (dk_at dksX2_summed_6 21 rfl rfl)
theorem dX2_summed_161 : decode cX2_summed 161 = .ok (.getfield 97, 3) := dk_180 0 97 (dk_at dksX2_summed_7 0 rfl rfl)
theorem dX2_summed_164 : decode cX2_summed 164 = .ok (.iload 8, 2) := dk_21 8 (dk_at dksX2_summed_7 3 rfl rfl)
theorem dX2_summed_166 : decode cX2_summed 166 = .ok (.iload 7, 2) := dk_21 7 (dk_at dksX2_summed_7 5 rfl rfl)
theorem dX2_summed_168 : decode cX2_summed 168 = .ok (.iadd, 1) := dk_96 (dk_at dksX2_summed_7 7 rfl rfl)
theorem dX2_summed_169 : decode cX2_summed 169 = .ok (.iload 4, 2) := dk_21 4 (dk_at dksX2_summed_7 8 rfl rfl)
theorem dX2_summed_171 : decode cX2_summed 171 = .ok (.iastore, 1) := dk_79 (dk_at dksX2_summed_7 10 rfl rfl)
theorem dX2_summed_172 : decode cX2_summed 172 = .ok (.aload_n 0, 1) := dk_42 (dk_at dksX2_summed_7 11 rfl rfl)
theorem dX2_summed_173 : decode cX2_summed 173 = .ok (.getfield 100, 3) := dk_180 0 100 (dk_at dksX2_summed_7 12 rfl rfl)
theorem dX2_summed_176 : decode cX2_summed 176 = .ok (.iload 8, 2) := dk_21 8 (dk_at dksX2_summed_7 15 rfl rfl)
theorem dX2_summed_178 : decode cX2_summed 178 = .ok (.iload 7, 2) := dk_21 7 (dk_at dksX2_summed_7 17 rfl rfl)
theorem dX2_summed_180 : decode cX2_summed 180 = .ok (.iadd, 1) := dk_96 (dk_at dksX2_summed_7 19 rfl rfl)
theorem dX2_summed_181 : decode cX2_summed 181 = .ok (.iload 5, 2) := dk_21 5 (dk_at dksX2_summed_7 20 rfl rfl)
theorem dX2_summed_183 : decode cX2_summed 183 = .ok (.iastore, 1) := dk_79 (dk_at dksX2_summed_7 22 rfl rfl)
theorem dX2_summed_184 : decode cX2_summed 184 = .ok (.aload_n 0, 1) := dk_42 (dk_at dksX2_summed_7 23 rfl rfl)
theorem dX2_summed_185 : decode cX2_summed 185 = .ok (.getfield 103, 3) := dk_180 0 103 (dk_at dksX2_summed_8 0 rfl rfl)
theorem dX2_summed_188 : decode cX2_summed 188 = .ok (.iload 8, 2) := dk_21 8 (dk_at dksX2_summed_8 3 rfl rfl)
theorem dX2_summed_190 : decode cX2_summed 190 = .ok (.iload 7, 2) := dk_21 7 (dk_at dksX2_summed_8 5 rfl rfl)
theorem dX2_summed_192 : decode cX2_summed 192 = .ok (.iadd, 1) := dk_96 (dk_at dksX2_summed_8 7 rfl rfl)
theorem dX2_summed_193 : decode cX2_summed 193 = .ok (.iload 6, 2) := dk_21 6 (dk_at dksX2_summed_8 8 rfl rfl)
theorem dX2_summed_195 : decode cX2_summed 195 = .ok (.iastore, 1) := dk_79 (dk_at dksX2_summed_8 10 rfl rfl)
theorem dX2_summed_196 : decode cX2_summed 196 = .ok (.aload_n 0, 1) := dk_42 (dk_at dksX2_summed_8 11 rfl rfl)
theorem dX2_summed_197 : decode cX2_summed 197 = .ok (.getfield 49, 3) := dk_180 0 49 (dk_at dksX2_summed_8 12 rfl rfl)
theorem dX2_summed_200 : decode cX2_summed 200 = .ok (.iconst 4, 1) := dk_7 (dk_at dksX2_summed_8 15 rfl rfl)
theorem dX2_summed_201 : decode cX2_summed 201 = .ok (.dup2, 1) := dk_92 (dk_at dksX2_summed_8 16 rfl rfl)
theorem dX2_summed_202 : decode cX2_summed 202 = .ok (.iaload, 1) := dk_46 (dk_at dksX2_summed_8 17 rfl rfl)
theorem dX2_summed_203 : decode cX2_summed 203 = .ok (.iconst 1, 1) := dk_4 (dk_at dksX2_summed_8 18 rfl rfl)
theorem dX2_summed_204 : decode cX2_summed 204 = .ok (.iadd, 1) := dk_96 (dk_at dksX2_summed_8 19 rfl rfl)
theorem dX2_summed_205 : decode cX2_summed 205 = .ok (.iastore, 1) := dk_79 (dk_at dksX2_summed_8 20 rfl rfl)
theorem dX2_summed_206 : decode cX2_summed 206 = .ok (.return_, 1) := dk_177 (dk_at dksX2_summed_8 21 rfl rfl)
abbrev cX2_first : ByteArray := prog_24_method_25_code
def yX2_first : MethodName := ⟨RX2, "first", "(I)V"⟩
def dkwX2_first_1 : List UInt8 := [177]
abbrev dktX2_first_1 : List UInt8 := dkwX2_first_1 ++ []
def dkwX2_first_0 : List UInt8 := [42, 182, 1, 35, 42, 180, 0, 76, 27, 42, 180, 0, 119, 79, 42, 180, 0, 79, 27, 42, 180, 0, 122, 79]
abbrev dktX2_first_0 : List UInt8 := dkwX2_first_0 ++ dktX2_first_1
theorem dksX2_first_0 : cX2_first.data.toList.drop 0 = dktX2_first_0 := by decide +kernel
theorem dksX2_first_1 : cX2_first.data.toList.drop 24 = dktX2_first_1 := dk_seg dksX2_first_0 24 rfl rfl
theorem dX2_first_0 : decode cX2_first 0 = .ok (.aload_n 0, 1) := dk_42 (dk_at dksX2_first_0 0 rfl rfl)
theorem dX2_first_1 : decode cX2_first 1 = .ok (.invokevirtual 291, 3) := dk_182 1 35 (dk_at dksX2_first_0 1 rfl rfl)
theorem dX2_first_4 : decode cX2_first 4 = .ok (.aload_n 0, 1) := dk_42 (dk_at dksX2_first_0 4 rfl rfl)
theorem dX2_first_5 : decode cX2_first 5 = .ok (.getfield 76, 3) := dk_180 0 76 (dk_at dksX2_first_0 5 rfl rfl)
theorem dX2_first_8 : decode cX2_first 8 = .ok (.iload_n 1, 1) := dk_27 (dk_at dksX2_first_0 8 rfl rfl)
theorem dX2_first_9 : decode cX2_first 9 = .ok (.aload_n 0, 1) := dk_42 (dk_at dksX2_first_0 9 rfl rfl)
theorem dX2_first_10 : decode cX2_first 10 = .ok (.getfield 119, 3) := dk_180 0 119 (dk_at dksX2_first_0 10 rfl rfl)
theorem dX2_first_13 : decode cX2_first 13 = .ok (.iastore, 1) := dk_79 (dk_at dksX2_first_0 13 rfl rfl)
theorem dX2_first_14 : decode cX2_first 14 = .ok (.aload_n 0, 1) := dk_42 (dk_at dksX2_first_0 14 rfl rfl)
theorem dX2_first_15 : decode cX2_first 15 = .ok (.getfield 79, 3) := dk_180 0 79 (dk_at dksX2_first_0 15 rfl rfl)
theorem dX2_first_18 : decode cX2_first 18 = .ok (.iload_n 1, 1) := dk_27 (dk_at dksX2_first_0 18 rfl rfl)
theorem dX2_first_19 : decode cX2_first 19 = .ok (.aload_n 0, 1) := dk_42 (dk_at dksX2_first_0 19 rfl rfl)
theorem dX2_first_20 : decode cX2_first 20 = .ok (.getfield 122, 3) := dk_180 0 122 (dk_at dksX2_first_0 20 rfl rfl)
theorem dX2_first_23 : decode cX2_first 23 = .ok (.iastore, 1) := dk_79 (dk_at dksX2_first_0 23 rfl rfl)
theorem dX2_first_24 : decode cX2_first 24 = .ok (.return_, 1) := dk_177 (dk_at dksX2_first_1 0 rfl rfl)
abbrev cX2_isOp : ByteArray := prog_24_method_28_code
def yX2_isOp : MethodName := ⟨RX2, "isOp", "()Z"⟩
def dkwX2_isOp_2 : List UInt8 := [182, 0, 229, 153, 0, 7, 4, 167, 0, 4, 3, 172]
abbrev dktX2_isOp_2 : List UInt8 := dkwX2_isOp_2 ++ []
def dkwX2_isOp_1 : List UInt8 := [154, 0, 30, 42, 16, 38, 182, 0, 229, 154, 0, 21, 42, 16, 94, 182, 0, 229, 154, 0, 12, 42, 16, 47]
abbrev dktX2_isOp_1 : List UInt8 := dkwX2_isOp_1 ++ dktX2_isOp_2
def dkwX2_isOp_0 : List UInt8 := [42, 16, 43, 182, 0, 229, 154, 0, 48, 42, 16, 45, 182, 0, 229, 154, 0, 39, 42, 16, 42, 182, 0, 229]
abbrev dktX2_isOp_0 : List UInt8 := dkwX2_isOp_0 ++ dktX2_isOp_1
theorem dksX2_isOp_0 : cX2_isOp.data.toList.drop 0 = dktX2_isOp_0 := by decide +kernel
theorem dksX2_isOp_1 : cX2_isOp.data.toList.drop 24 = dktX2_isOp_1 := dk_seg dksX2_isOp_0 24 rfl rfl
theorem dksX2_isOp_2 : cX2_isOp.data.toList.drop 48 = dktX2_isOp_2 := dk_seg dksX2_isOp_1 24 rfl rfl
theorem dX2_isOp_0 : decode cX2_isOp 0 = .ok (.aload_n 0, 1) := dk_42 (dk_at dksX2_isOp_0 0 rfl rfl)
theorem dX2_isOp_1 : decode cX2_isOp 1 = .ok (.bipush 43, 2) := dk_16 43 (dk_at dksX2_isOp_0 1 rfl rfl)
theorem dX2_isOp_3 : decode cX2_isOp 3 = .ok (.invokevirtual 229, 3) := dk_182 0 229 (dk_at dksX2_isOp_0 3 rfl rfl)
theorem dX2_isOp_6 : decode cX2_isOp 6 = .ok (.ifCond .ne 48, 3) := dk_154 0 48 (dk_at dksX2_isOp_0 6 rfl rfl)
theorem dX2_isOp_9 : decode cX2_isOp 9 = .ok (.aload_n 0, 1) := dk_42 (dk_at dksX2_isOp_0 9 rfl rfl)
theorem dX2_isOp_10 : decode cX2_isOp 10 = .ok (.bipush 45, 2) := dk_16 45 (dk_at dksX2_isOp_0 10 rfl rfl)
theorem dX2_isOp_12 : decode cX2_isOp 12 = .ok (.invokevirtual 229, 3) := dk_182 0 229 (dk_at dksX2_isOp_0 12 rfl rfl)
theorem dX2_isOp_15 : decode cX2_isOp 15 = .ok (.ifCond .ne 39, 3) := dk_154 0 39 (dk_at dksX2_isOp_0 15 rfl rfl)
theorem dX2_isOp_18 : decode cX2_isOp 18 = .ok (.aload_n 0, 1) := dk_42 (dk_at dksX2_isOp_0 18 rfl rfl)
theorem dX2_isOp_19 : decode cX2_isOp 19 = .ok (.bipush 42, 2) := dk_16 42 (dk_at dksX2_isOp_0 19 rfl rfl)
theorem dX2_isOp_21 : decode cX2_isOp 21 = .ok (.invokevirtual 229, 3) := dk_182 0 229 (dk_at dksX2_isOp_0 21 rfl rfl)
theorem dX2_isOp_24 : decode cX2_isOp 24 = .ok (.ifCond .ne 30, 3) := dk_154 0 30 (dk_at dksX2_isOp_1 0 rfl rfl)
theorem dX2_isOp_27 : decode cX2_isOp 27 = .ok (.aload_n 0, 1) := dk_42 (dk_at dksX2_isOp_1 3 rfl rfl)
theorem dX2_isOp_28 : decode cX2_isOp 28 = .ok (.bipush 38, 2) := dk_16 38 (dk_at dksX2_isOp_1 4 rfl rfl)
theorem dX2_isOp_30 : decode cX2_isOp 30 = .ok (.invokevirtual 229, 3) := dk_182 0 229 (dk_at dksX2_isOp_1 6 rfl rfl)
theorem dX2_isOp_33 : decode cX2_isOp 33 = .ok (.ifCond .ne 21, 3) := dk_154 0 21 (dk_at dksX2_isOp_1 9 rfl rfl)
theorem dX2_isOp_36 : decode cX2_isOp 36 = .ok (.aload_n 0, 1) := dk_42 (dk_at dksX2_isOp_1 12 rfl rfl)
theorem dX2_isOp_37 : decode cX2_isOp 37 = .ok (.bipush 94, 2) := dk_16 94 (dk_at dksX2_isOp_1 13 rfl rfl)
theorem dX2_isOp_39 : decode cX2_isOp 39 = .ok (.invokevirtual 229, 3) := dk_182 0 229 (dk_at dksX2_isOp_1 15 rfl rfl)
theorem dX2_isOp_42 : decode cX2_isOp 42 = .ok (.ifCond .ne 12, 3) := dk_154 0 12 (dk_at dksX2_isOp_1 18 rfl rfl)
theorem dX2_isOp_45 : decode cX2_isOp 45 = .ok (.aload_n 0, 1) := dk_42 (dk_at dksX2_isOp_1 21 rfl rfl)
theorem dX2_isOp_46 : decode cX2_isOp 46 = .ok (.bipush 47, 2) := dk_16 47 (dk_at dksX2_isOp_1 22 rfl rfl)
theorem dX2_isOp_48 : decode cX2_isOp 48 = .ok (.invokevirtual 229, 3) := dk_182 0 229 (dk_at dksX2_isOp_2 0 rfl rfl)
theorem dX2_isOp_51 : decode cX2_isOp 51 = .ok (.ifCond .eq 7, 3) := dk_153 0 7 (dk_at dksX2_isOp_2 3 rfl rfl)
theorem dX2_isOp_54 : decode cX2_isOp 54 = .ok (.iconst 1, 1) := dk_4 (dk_at dksX2_isOp_2 6 rfl rfl)
theorem dX2_isOp_55 : decode cX2_isOp 55 = .ok (.goto 4, 3) := dk_167 0 4 (dk_at dksX2_isOp_2 7 rfl rfl)
theorem dX2_isOp_58 : decode cX2_isOp 58 = .ok (.iconst 0, 1) := dk_3 (dk_at dksX2_isOp_2 10 rfl rfl)
theorem dX2_isOp_59 : decode cX2_isOp 59 = .ok (.ireturn, 1) := dk_172 (dk_at dksX2_isOp_2 11 rfl rfl)
abbrev cX2_put : ByteArray := prog_24_method_27_code
def yX2_put : MethodName := ⟨RX2, "put", "(II)V"⟩
def dkwX2_put_1 : List UInt8 := [42, 27, 182, 1, 29, 42, 16, 93, 182, 1, 23, 42, 16, 61, 182, 1, 23, 42, 27, 182, 1, 32, 177]
abbrev dktX2_put_1 : List UInt8 := dkwX2_put_1 ++ []
def dkwX2_put_0 : List UInt8 := [42, 180, 0, 58, 27, 5, 79, 42, 180, 0, 88, 27, 28, 79, 42, 182, 0, 236, 42, 16, 91, 182, 1, 23]
abbrev dktX2_put_0 : List UInt8 := dkwX2_put_0 ++ dktX2_put_1
theorem dksX2_put_0 : cX2_put.data.toList.drop 0 = dktX2_put_0 := by decide +kernel
theorem dksX2_put_1 : cX2_put.data.toList.drop 24 = dktX2_put_1 := dk_seg dksX2_put_0 24 rfl rfl
theorem dX2_put_0 : decode cX2_put 0 = .ok (.aload_n 0, 1) := dk_42 (dk_at dksX2_put_0 0 rfl rfl)
theorem dX2_put_1 : decode cX2_put 1 = .ok (.getfield 58, 3) := dk_180 0 58 (dk_at dksX2_put_0 1 rfl rfl)
theorem dX2_put_4 : decode cX2_put 4 = .ok (.iload_n 1, 1) := dk_27 (dk_at dksX2_put_0 4 rfl rfl)
theorem dX2_put_5 : decode cX2_put 5 = .ok (.iconst 2, 1) := dk_5 (dk_at dksX2_put_0 5 rfl rfl)
theorem dX2_put_6 : decode cX2_put 6 = .ok (.iastore, 1) := dk_79 (dk_at dksX2_put_0 6 rfl rfl)
theorem dX2_put_7 : decode cX2_put 7 = .ok (.aload_n 0, 1) := dk_42 (dk_at dksX2_put_0 7 rfl rfl)
theorem dX2_put_8 : decode cX2_put 8 = .ok (.getfield 88, 3) := dk_180 0 88 (dk_at dksX2_put_0 8 rfl rfl)
theorem dX2_put_11 : decode cX2_put 11 = .ok (.iload_n 1, 1) := dk_27 (dk_at dksX2_put_0 11 rfl rfl)
theorem dX2_put_12 : decode cX2_put 12 = .ok (.iload_n 2, 1) := dk_28 (dk_at dksX2_put_0 12 rfl rfl)
theorem dX2_put_13 : decode cX2_put 13 = .ok (.iastore, 1) := dk_79 (dk_at dksX2_put_0 13 rfl rfl)
theorem dX2_put_14 : decode cX2_put 14 = .ok (.aload_n 0, 1) := dk_42 (dk_at dksX2_put_0 14 rfl rfl)
theorem dX2_put_15 : decode cX2_put 15 = .ok (.invokevirtual 236, 3) := dk_182 0 236 (dk_at dksX2_put_0 15 rfl rfl)
theorem dX2_put_18 : decode cX2_put 18 = .ok (.aload_n 0, 1) := dk_42 (dk_at dksX2_put_0 18 rfl rfl)
theorem dX2_put_19 : decode cX2_put 19 = .ok (.bipush 91, 2) := dk_16 91 (dk_at dksX2_put_0 19 rfl rfl)
theorem dX2_put_21 : decode cX2_put 21 = .ok (.invokevirtual 279, 3) := dk_182 1 23 (dk_at dksX2_put_0 21 rfl rfl)
theorem dX2_put_24 : decode cX2_put 24 = .ok (.aload_n 0, 1) := dk_42 (dk_at dksX2_put_1 0 rfl rfl)
theorem dX2_put_25 : decode cX2_put 25 = .ok (.iload_n 1, 1) := dk_27 (dk_at dksX2_put_1 1 rfl rfl)
theorem dX2_put_26 : decode cX2_put 26 = .ok (.invokevirtual 285, 3) := dk_182 1 29 (dk_at dksX2_put_1 2 rfl rfl)
theorem dX2_put_29 : decode cX2_put 29 = .ok (.aload_n 0, 1) := dk_42 (dk_at dksX2_put_1 5 rfl rfl)
theorem dX2_put_30 : decode cX2_put 30 = .ok (.bipush 93, 2) := dk_16 93 (dk_at dksX2_put_1 6 rfl rfl)
theorem dX2_put_32 : decode cX2_put 32 = .ok (.invokevirtual 279, 3) := dk_182 1 23 (dk_at dksX2_put_1 8 rfl rfl)
theorem dX2_put_35 : decode cX2_put 35 = .ok (.aload_n 0, 1) := dk_42 (dk_at dksX2_put_1 11 rfl rfl)
theorem dX2_put_36 : decode cX2_put 36 = .ok (.bipush 61, 2) := dk_16 61 (dk_at dksX2_put_1 12 rfl rfl)
theorem dX2_put_38 : decode cX2_put 38 = .ok (.invokevirtual 279, 3) := dk_182 1 23 (dk_at dksX2_put_1 14 rfl rfl)
theorem dX2_put_41 : decode cX2_put 41 = .ok (.aload_n 0, 1) := dk_42 (dk_at dksX2_put_1 17 rfl rfl)
theorem dX2_put_42 : decode cX2_put 42 = .ok (.iload_n 1, 1) := dk_27 (dk_at dksX2_put_1 18 rfl rfl)
theorem dX2_put_43 : decode cX2_put 43 = .ok (.invokevirtual 288, 3) := dk_182 1 32 (dk_at dksX2_put_1 19 rfl rfl)
theorem dX2_put_46 : decode cX2_put 46 = .ok (.return_, 1) := dk_177 (dk_at dksX2_put_1 22 rfl rfl)
abbrev cX2_second : ByteArray := prog_24_method_26_code
def yX2_second : MethodName := ⟨RX2, "second", "(I)V"⟩
def dkwX2_second_1 : List UInt8 := [177]
abbrev dktX2_second_1 : List UInt8 := dkwX2_second_1 ++ []
def dkwX2_second_0 : List UInt8 := [42, 182, 1, 35, 42, 180, 0, 82, 27, 42, 180, 0, 119, 79, 42, 180, 0, 85, 27, 42, 180, 0, 122, 79]
abbrev dktX2_second_0 : List UInt8 := dkwX2_second_0 ++ dktX2_second_1
theorem dksX2_second_0 : cX2_second.data.toList.drop 0 = dktX2_second_0 := by decide +kernel
theorem dksX2_second_1 : cX2_second.data.toList.drop 24 = dktX2_second_1 := dk_seg dksX2_second_0 24 rfl rfl
theorem dX2_second_0 : decode cX2_second 0 = .ok (.aload_n 0, 1) := dk_42 (dk_at dksX2_second_0 0 rfl rfl)
theorem dX2_second_1 : decode cX2_second 1 = .ok (.invokevirtual 291, 3) := dk_182 1 35 (dk_at dksX2_second_0 1 rfl rfl)
theorem dX2_second_4 : decode cX2_second 4 = .ok (.aload_n 0, 1) := dk_42 (dk_at dksX2_second_0 4 rfl rfl)
theorem dX2_second_5 : decode cX2_second 5 = .ok (.getfield 82, 3) := dk_180 0 82 (dk_at dksX2_second_0 5 rfl rfl)
theorem dX2_second_8 : decode cX2_second 8 = .ok (.iload_n 1, 1) := dk_27 (dk_at dksX2_second_0 8 rfl rfl)
theorem dX2_second_9 : decode cX2_second 9 = .ok (.aload_n 0, 1) := dk_42 (dk_at dksX2_second_0 9 rfl rfl)
theorem dX2_second_10 : decode cX2_second 10 = .ok (.getfield 119, 3) := dk_180 0 119 (dk_at dksX2_second_0 10 rfl rfl)
theorem dX2_second_13 : decode cX2_second 13 = .ok (.iastore, 1) := dk_79 (dk_at dksX2_second_0 13 rfl rfl)
theorem dX2_second_14 : decode cX2_second 14 = .ok (.aload_n 0, 1) := dk_42 (dk_at dksX2_second_0 14 rfl rfl)
theorem dX2_second_15 : decode cX2_second 15 = .ok (.getfield 85, 3) := dk_180 0 85 (dk_at dksX2_second_0 15 rfl rfl)
theorem dX2_second_18 : decode cX2_second 18 = .ok (.iload_n 1, 1) := dk_27 (dk_at dksX2_second_0 18 rfl rfl)
theorem dX2_second_19 : decode cX2_second 19 = .ok (.aload_n 0, 1) := dk_42 (dk_at dksX2_second_0 19 rfl rfl)
theorem dX2_second_20 : decode cX2_second 20 = .ok (.getfield 122, 3) := dk_180 0 122 (dk_at dksX2_second_0 20 rfl rfl)
theorem dX2_second_23 : decode cX2_second 23 = .ok (.iastore, 1) := dk_79 (dk_at dksX2_second_0 23 rfl rfl)
theorem dX2_second_24 : decode cX2_second 24 = .ok (.return_, 1) := dk_177 (dk_at dksX2_second_1 0 rfl rfl)
abbrev cX2_tell : ByteArray := prog_24_method_24_code
def yX2_tell : MethodName := ⟨RX2, "tell", "(I)V"⟩
def dkwX2_tell_0 : List UInt8 := [42, 180, 0, 58, 27, 6, 79, 42, 182, 0, 236, 42, 27, 182, 1, 29, 177]
abbrev dktX2_tell_0 : List UInt8 := dkwX2_tell_0 ++ []
theorem dksX2_tell_0 : cX2_tell.data.toList.drop 0 = dktX2_tell_0 := by decide +kernel
theorem dX2_tell_0 : decode cX2_tell 0 = .ok (.aload_n 0, 1) := dk_42 (dk_at dksX2_tell_0 0 rfl rfl)
theorem dX2_tell_1 : decode cX2_tell 1 = .ok (.getfield 58, 3) := dk_180 0 58 (dk_at dksX2_tell_0 1 rfl rfl)
theorem dX2_tell_4 : decode cX2_tell 4 = .ok (.iload_n 1, 1) := dk_27 (dk_at dksX2_tell_0 4 rfl rfl)
theorem dX2_tell_5 : decode cX2_tell 5 = .ok (.iconst 3, 1) := dk_6 (dk_at dksX2_tell_0 5 rfl rfl)
theorem dX2_tell_6 : decode cX2_tell 6 = .ok (.iastore, 1) := dk_79 (dk_at dksX2_tell_0 6 rfl rfl)
theorem dX2_tell_7 : decode cX2_tell 7 = .ok (.aload_n 0, 1) := dk_42 (dk_at dksX2_tell_0 7 rfl rfl)
theorem dX2_tell_8 : decode cX2_tell 8 = .ok (.invokevirtual 236, 3) := dk_182 0 236 (dk_at dksX2_tell_0 8 rfl rfl)
theorem dX2_tell_11 : decode cX2_tell 11 = .ok (.aload_n 0, 1) := dk_42 (dk_at dksX2_tell_0 11 rfl rfl)
theorem dX2_tell_12 : decode cX2_tell 12 = .ok (.iload_n 1, 1) := dk_27 (dk_at dksX2_tell_0 12 rfl rfl)
theorem dX2_tell_13 : decode cX2_tell 13 = .ok (.invokevirtual 285, 3) := dk_182 1 29 (dk_at dksX2_tell_0 13 rfl rfl)
theorem dX2_tell_16 : decode cX2_tell 16 = .ok (.return_, 1) := dk_177 (dk_at dksX2_tell_0 16 rfl rfl)
abbrev cX2_go : ByteArray := prog_24_method_22_code
def yX2_go : MethodName := ⟨RX2, "go", "(I)V"⟩
def dkwX2_go_0 : List UInt8 := [42, 180, 0, 58, 27, 7, 79, 42, 182, 0, 236, 42, 180, 0, 70, 27, 42, 182, 1, 26, 79, 177]
abbrev dktX2_go_0 : List UInt8 := dkwX2_go_0 ++ []
theorem dksX2_go_0 : cX2_go.data.toList.drop 0 = dktX2_go_0 := by decide +kernel
theorem dX2_go_0 : decode cX2_go 0 = .ok (.aload_n 0, 1) := dk_42 (dk_at dksX2_go_0 0 rfl rfl)
theorem dX2_go_1 : decode cX2_go 1 = .ok (.getfield 58, 3) := dk_180 0 58 (dk_at dksX2_go_0 1 rfl rfl)
theorem dX2_go_4 : decode cX2_go 4 = .ok (.iload_n 1, 1) := dk_27 (dk_at dksX2_go_0 4 rfl rfl)
theorem dX2_go_5 : decode cX2_go 5 = .ok (.iconst 4, 1) := dk_7 (dk_at dksX2_go_0 5 rfl rfl)
theorem dX2_go_6 : decode cX2_go 6 = .ok (.iastore, 1) := dk_79 (dk_at dksX2_go_0 6 rfl rfl)
theorem dX2_go_7 : decode cX2_go 7 = .ok (.aload_n 0, 1) := dk_42 (dk_at dksX2_go_0 7 rfl rfl)
theorem dX2_go_8 : decode cX2_go 8 = .ok (.invokevirtual 236, 3) := dk_182 0 236 (dk_at dksX2_go_0 8 rfl rfl)
theorem dX2_go_11 : decode cX2_go 11 = .ok (.aload_n 0, 1) := dk_42 (dk_at dksX2_go_0 11 rfl rfl)
theorem dX2_go_12 : decode cX2_go 12 = .ok (.getfield 70, 3) := dk_180 0 70 (dk_at dksX2_go_0 12 rfl rfl)
theorem dX2_go_15 : decode cX2_go 15 = .ok (.iload_n 1, 1) := dk_27 (dk_at dksX2_go_0 15 rfl rfl)
theorem dX2_go_16 : decode cX2_go 16 = .ok (.aload_n 0, 1) := dk_42 (dk_at dksX2_go_0 16 rfl rfl)
theorem dX2_go_17 : decode cX2_go 17 = .ok (.invokevirtual 282, 3) := dk_182 1 26 (dk_at dksX2_go_0 17 rfl rfl)
theorem dX2_go_20 : decode cX2_go 20 = .ok (.iastore, 1) := dk_79 (dk_at dksX2_go_0 20 rfl rfl)
theorem dX2_go_21 : decode cX2_go 21 = .ok (.return_, 1) := dk_177 (dk_at dksX2_go_0 21 rfl rfl)
abbrev cX2_block : ByteArray := prog_24_method_18_code
def yX2_block : MethodName := ⟨RX2, "block", "()I"⟩
def dkwX2_block_3 : List UInt8 := [42, 182, 0, 236, 27, 172]
abbrev dktX2_block_3 : List UInt8 := dkwX2_block_3 ++ []
def dkwX2_block_2 : List UInt8 := [180, 0, 20, 79, 42, 180, 0, 135, 42, 180, 0, 138, 27, 79, 42, 89, 180, 0, 138, 4, 96, 181, 0, 138]
abbrev dktX2_block_2 : List UInt8 := dkwX2_block_2 ++ dktX2_block_3
def dkwX2_block_1 : List UInt8 := [167, 0, 4, 3, 5, 182, 0, 232, 154, 0, 5, 3, 172, 42, 180, 0, 132, 42, 180, 0, 138, 42]
abbrev dktX2_block_1 : List UInt8 := dkwX2_block_1 ++ dktX2_block_2
def dkwX2_block_0 : List UInt8 := [42, 180, 0, 110, 158, 0, 5, 3, 172, 42, 16, 98, 16, 39, 182, 0, 225, 60, 42, 27, 155, 0, 7, 4]
abbrev dktX2_block_0 : List UInt8 := dkwX2_block_0 ++ dktX2_block_1
theorem dksX2_block_0 : cX2_block.data.toList.drop 0 = dktX2_block_0 := by decide +kernel
theorem dksX2_block_1 : cX2_block.data.toList.drop 24 = dktX2_block_1 := dk_seg dksX2_block_0 24 rfl rfl
theorem dksX2_block_2 : cX2_block.data.toList.drop 46 = dktX2_block_2 := dk_seg dksX2_block_1 22 rfl rfl
theorem dksX2_block_3 : cX2_block.data.toList.drop 70 = dktX2_block_3 := dk_seg dksX2_block_2 24 rfl rfl
theorem dX2_block_0 : decode cX2_block 0 = .ok (.aload_n 0, 1) := dk_42 (dk_at dksX2_block_0 0 rfl rfl)
theorem dX2_block_1 : decode cX2_block 1 = .ok (.getfield 110, 3) := dk_180 0 110 (dk_at dksX2_block_0 1 rfl rfl)
theorem dX2_block_4 : decode cX2_block 4 = .ok (.ifCond .le 5, 3) := dk_158 0 5 (dk_at dksX2_block_0 4 rfl rfl)
theorem dX2_block_7 : decode cX2_block 7 = .ok (.iconst 0, 1) := dk_3 (dk_at dksX2_block_0 7 rfl rfl)
theorem dX2_block_8 : decode cX2_block 8 = .ok (.ireturn, 1) := dk_172 (dk_at dksX2_block_0 8 rfl rfl)
theorem dX2_block_9 : decode cX2_block 9 = .ok (.aload_n 0, 1) := dk_42 (dk_at dksX2_block_0 9 rfl rfl)
theorem dX2_block_10 : decode cX2_block 10 = .ok (.bipush 98, 2) := dk_16 98 (dk_at dksX2_block_0 10 rfl rfl)
theorem dX2_block_12 : decode cX2_block 12 = .ok (.bipush 39, 2) := dk_16 39 (dk_at dksX2_block_0 12 rfl rfl)
theorem dX2_block_14 : decode cX2_block 14 = .ok (.invokevirtual 225, 3) := dk_182 0 225 (dk_at dksX2_block_0 14 rfl rfl)
theorem dX2_block_17 : decode cX2_block 17 = .ok (.istore_n 1, 1) := dk_60 (dk_at dksX2_block_0 17 rfl rfl)
theorem dX2_block_18 : decode cX2_block 18 = .ok (.aload_n 0, 1) := dk_42 (dk_at dksX2_block_0 18 rfl rfl)
theorem dX2_block_19 : decode cX2_block 19 = .ok (.iload_n 1, 1) := dk_27 (dk_at dksX2_block_0 19 rfl rfl)
theorem dX2_block_20 : decode cX2_block 20 = .ok (.ifCond .lt 7, 3) := dk_155 0 7 (dk_at dksX2_block_0 20 rfl rfl)
theorem dX2_block_23 : decode cX2_block 23 = .ok (.iconst 1, 1) := dk_4 (dk_at dksX2_block_0 23 rfl rfl)
theorem dX2_block_24 : decode cX2_block 24 = .ok (.goto 4, 3) := dk_167 0 4 (dk_at dksX2_block_1 0 rfl rfl)
theorem dX2_block_27 : decode cX2_block 27 = .ok (.iconst 0, 1) := dk_3 (dk_at dksX2_block_1 3 rfl rfl)
theorem dX2_block_28 : decode cX2_block 28 = .ok (.iconst 2, 1) := dk_5 (dk_at dksX2_block_1 4 rfl rfl)
theorem dX2_block_29 : decode cX2_block 29 = .ok (.invokevirtual 232, 3) := dk_182 0 232 (dk_at dksX2_block_1 5 rfl rfl)
theorem dX2_block_32 : decode cX2_block 32 = .ok (.ifCond .ne 5, 3) := dk_154 0 5 (dk_at dksX2_block_1 8 rfl rfl)
theorem dX2_block_35 : decode cX2_block 35 = .ok (.iconst 0, 1) := dk_3 (dk_at dksX2_block_1 11 rfl rfl)
theorem dX2_block_36 : decode cX2_block 36 = .ok (.ireturn, 1) := dk_172 (dk_at dksX2_block_1 12 rfl rfl)
theorem dX2_block_37 : decode cX2_block 37 = .ok (.aload_n 0, 1) := dk_42 (dk_at dksX2_block_1 13 rfl rfl)
theorem dX2_block_38 : decode cX2_block 38 = .ok (.getfield 132, 3) := dk_180 0 132 (dk_at dksX2_block_1 14 rfl rfl)
theorem dX2_block_41 : decode cX2_block 41 = .ok (.aload_n 0, 1) := dk_42 (dk_at dksX2_block_1 17 rfl rfl)
theorem dX2_block_42 : decode cX2_block 42 = .ok (.getfield 138, 3) := dk_180 0 138 (dk_at dksX2_block_1 18 rfl rfl)
theorem dX2_block_45 : decode cX2_block 45 = .ok (.aload_n 0, 1) := dk_42 (dk_at dksX2_block_1 21 rfl rfl)
theorem dX2_block_46 : decode cX2_block 46 = .ok (.getfield 20, 3) := dk_180 0 20 (dk_at dksX2_block_2 0 rfl rfl)
theorem dX2_block_49 : decode cX2_block 49 = .ok (.iastore, 1) := dk_79 (dk_at dksX2_block_2 3 rfl rfl)
theorem dX2_block_50 : decode cX2_block 50 = .ok (.aload_n 0, 1) := dk_42 (dk_at dksX2_block_2 4 rfl rfl)
theorem dX2_block_51 : decode cX2_block 51 = .ok (.getfield 135, 3) := dk_180 0 135 (dk_at dksX2_block_2 5 rfl rfl)
theorem dX2_block_54 : decode cX2_block 54 = .ok (.aload_n 0, 1) := dk_42 (dk_at dksX2_block_2 8 rfl rfl)
theorem dX2_block_55 : decode cX2_block 55 = .ok (.getfield 138, 3) := dk_180 0 138 (dk_at dksX2_block_2 9 rfl rfl)
theorem dX2_block_58 : decode cX2_block 58 = .ok (.iload_n 1, 1) := dk_27 (dk_at dksX2_block_2 12 rfl rfl)
theorem dX2_block_59 : decode cX2_block 59 = .ok (.iastore, 1) := dk_79 (dk_at dksX2_block_2 13 rfl rfl)
theorem dX2_block_60 : decode cX2_block 60 = .ok (.aload_n 0, 1) := dk_42 (dk_at dksX2_block_2 14 rfl rfl)
theorem dX2_block_61 : decode cX2_block 61 = .ok (.dup, 1) := dk_89 (dk_at dksX2_block_2 15 rfl rfl)
theorem dX2_block_62 : decode cX2_block 62 = .ok (.getfield 138, 3) := dk_180 0 138 (dk_at dksX2_block_2 16 rfl rfl)
theorem dX2_block_65 : decode cX2_block 65 = .ok (.iconst 1, 1) := dk_4 (dk_at dksX2_block_2 19 rfl rfl)
theorem dX2_block_66 : decode cX2_block 66 = .ok (.iadd, 1) := dk_96 (dk_at dksX2_block_2 20 rfl rfl)
theorem dX2_block_67 : decode cX2_block 67 = .ok (.putfield 138, 3) := dk_181 0 138 (dk_at dksX2_block_2 21 rfl rfl)
theorem dX2_block_70 : decode cX2_block 70 = .ok (.aload_n 0, 1) := dk_42 (dk_at dksX2_block_3 0 rfl rfl)
theorem dX2_block_71 : decode cX2_block 71 = .ok (.invokevirtual 236, 3) := dk_182 0 236 (dk_at dksX2_block_3 1 rfl rfl)
theorem dX2_block_74 : decode cX2_block 74 = .ok (.iload_n 1, 1) := dk_27 (dk_at dksX2_block_3 4 rfl rfl)
theorem dX2_block_75 : decode cX2_block 75 = .ok (.ireturn, 1) := dk_172 (dk_at dksX2_block_3 5 rfl rfl)
abbrev cX2_test : ByteArray := prog_24_method_23_code
def yX2_test : MethodName := ⟨RX2, "test", "(I)V"⟩
def dkwX2_test_1 : List UInt8 := [182, 1, 32, 42, 180, 0, 70, 27, 42, 182, 1, 26, 79, 42, 180, 0, 73, 27, 42, 182, 1, 26, 79, 177]
abbrev dktX2_test_1 : List UInt8 := dkwX2_test_1 ++ []
def dkwX2_test_0 : List UInt8 := [42, 180, 0, 58, 27, 8, 79, 42, 182, 0, 236, 42, 27, 182, 1, 29, 42, 16, 60, 182, 1, 23, 42, 27]
abbrev dktX2_test_0 : List UInt8 := dkwX2_test_0 ++ dktX2_test_1
theorem dksX2_test_0 : cX2_test.data.toList.drop 0 = dktX2_test_0 := by decide +kernel
theorem dksX2_test_1 : cX2_test.data.toList.drop 24 = dktX2_test_1 := dk_seg dksX2_test_0 24 rfl rfl
theorem dX2_test_0 : decode cX2_test 0 = .ok (.aload_n 0, 1) := dk_42 (dk_at dksX2_test_0 0 rfl rfl)
theorem dX2_test_1 : decode cX2_test 1 = .ok (.getfield 58, 3) := dk_180 0 58 (dk_at dksX2_test_0 1 rfl rfl)
theorem dX2_test_4 : decode cX2_test 4 = .ok (.iload_n 1, 1) := dk_27 (dk_at dksX2_test_0 4 rfl rfl)
theorem dX2_test_5 : decode cX2_test 5 = .ok (.iconst 5, 1) := dk_8 (dk_at dksX2_test_0 5 rfl rfl)
theorem dX2_test_6 : decode cX2_test 6 = .ok (.iastore, 1) := dk_79 (dk_at dksX2_test_0 6 rfl rfl)
theorem dX2_test_7 : decode cX2_test 7 = .ok (.aload_n 0, 1) := dk_42 (dk_at dksX2_test_0 7 rfl rfl)
theorem dX2_test_8 : decode cX2_test 8 = .ok (.invokevirtual 236, 3) := dk_182 0 236 (dk_at dksX2_test_0 8 rfl rfl)
theorem dX2_test_11 : decode cX2_test 11 = .ok (.aload_n 0, 1) := dk_42 (dk_at dksX2_test_0 11 rfl rfl)
theorem dX2_test_12 : decode cX2_test 12 = .ok (.iload_n 1, 1) := dk_27 (dk_at dksX2_test_0 12 rfl rfl)
theorem dX2_test_13 : decode cX2_test 13 = .ok (.invokevirtual 285, 3) := dk_182 1 29 (dk_at dksX2_test_0 13 rfl rfl)
theorem dX2_test_16 : decode cX2_test 16 = .ok (.aload_n 0, 1) := dk_42 (dk_at dksX2_test_0 16 rfl rfl)
theorem dX2_test_17 : decode cX2_test 17 = .ok (.bipush 60, 2) := dk_16 60 (dk_at dksX2_test_0 17 rfl rfl)
theorem dX2_test_19 : decode cX2_test 19 = .ok (.invokevirtual 279, 3) := dk_182 1 23 (dk_at dksX2_test_0 19 rfl rfl)
theorem dX2_test_22 : decode cX2_test 22 = .ok (.aload_n 0, 1) := dk_42 (dk_at dksX2_test_0 22 rfl rfl)
theorem dX2_test_23 : decode cX2_test 23 = .ok (.iload_n 1, 1) := dk_27 (dk_at dksX2_test_0 23 rfl rfl)
theorem dX2_test_24 : decode cX2_test 24 = .ok (.invokevirtual 288, 3) := dk_182 1 32 (dk_at dksX2_test_1 0 rfl rfl)
theorem dX2_test_27 : decode cX2_test 27 = .ok (.aload_n 0, 1) := dk_42 (dk_at dksX2_test_1 3 rfl rfl)
theorem dX2_test_28 : decode cX2_test 28 = .ok (.getfield 70, 3) := dk_180 0 70 (dk_at dksX2_test_1 4 rfl rfl)
theorem dX2_test_31 : decode cX2_test 31 = .ok (.iload_n 1, 1) := dk_27 (dk_at dksX2_test_1 7 rfl rfl)
theorem dX2_test_32 : decode cX2_test 32 = .ok (.aload_n 0, 1) := dk_42 (dk_at dksX2_test_1 8 rfl rfl)
theorem dX2_test_33 : decode cX2_test 33 = .ok (.invokevirtual 282, 3) := dk_182 1 26 (dk_at dksX2_test_1 9 rfl rfl)
theorem dX2_test_36 : decode cX2_test 36 = .ok (.iastore, 1) := dk_79 (dk_at dksX2_test_1 12 rfl rfl)
theorem dX2_test_37 : decode cX2_test 37 = .ok (.aload_n 0, 1) := dk_42 (dk_at dksX2_test_1 13 rfl rfl)
theorem dX2_test_38 : decode cX2_test 38 = .ok (.getfield 73, 3) := dk_180 0 73 (dk_at dksX2_test_1 14 rfl rfl)
theorem dX2_test_41 : decode cX2_test 41 = .ok (.iload_n 1, 1) := dk_27 (dk_at dksX2_test_1 17 rfl rfl)
theorem dX2_test_42 : decode cX2_test 42 = .ok (.aload_n 0, 1) := dk_42 (dk_at dksX2_test_1 18 rfl rfl)
theorem dX2_test_43 : decode cX2_test 43 = .ok (.invokevirtual 282, 3) := dk_182 1 26 (dk_at dksX2_test_1 19 rfl rfl)
theorem dX2_test_46 : decode cX2_test 46 = .ok (.iastore, 1) := dk_79 (dk_at dksX2_test_1 22 rfl rfl)
theorem dX2_test_47 : decode cX2_test 47 = .ok (.return_, 1) := dk_177 (dk_at dksX2_test_1 23 rfl rfl)
abbrev cX2_leave : ByteArray := prog_24_method_21_code
def yX2_leave : MethodName := ⟨RX2, "leave", "(I)V"⟩
def dkwX2_leave_0 : List UInt8 := [42, 180, 0, 58, 27, 16, 6, 79, 42, 182, 0, 236, 177]
abbrev dktX2_leave_0 : List UInt8 := dkwX2_leave_0 ++ []
theorem dksX2_leave_0 : cX2_leave.data.toList.drop 0 = dktX2_leave_0 := by decide +kernel
theorem dX2_leave_0 : decode cX2_leave 0 = .ok (.aload_n 0, 1) := dk_42 (dk_at dksX2_leave_0 0 rfl rfl)
theorem dX2_leave_1 : decode cX2_leave 1 = .ok (.getfield 58, 3) := dk_180 0 58 (dk_at dksX2_leave_0 1 rfl rfl)
theorem dX2_leave_4 : decode cX2_leave 4 = .ok (.iload_n 1, 1) := dk_27 (dk_at dksX2_leave_0 4 rfl rfl)
theorem dX2_leave_5 : decode cX2_leave 5 = .ok (.bipush 6, 2) := dk_16 6 (dk_at dksX2_leave_0 5 rfl rfl)
theorem dX2_leave_7 : decode cX2_leave 7 = .ok (.iastore, 1) := dk_79 (dk_at dksX2_leave_0 7 rfl rfl)
theorem dX2_leave_8 : decode cX2_leave 8 = .ok (.aload_n 0, 1) := dk_42 (dk_at dksX2_leave_0 8 rfl rfl)
theorem dX2_leave_9 : decode cX2_leave 9 = .ok (.invokevirtual 236, 3) := dk_182 0 236 (dk_at dksX2_leave_0 9 rfl rfl)
theorem dX2_leave_12 : decode cX2_leave 12 = .ok (.return_, 1) := dk_177 (dk_at dksX2_leave_0 12 rfl rfl)
abbrev cX2_ends : ByteArray := prog_24_method_35_code
def yX2_ends : MethodName := ⟨RX2, "ends", "()V"⟩
def dkwX2_ends_18 : List UInt8 := [17, 0, 164, 28, 96, 46, 182, 1, 63, 132, 2, 255, 167, 255, 224, 177]
abbrev dktX2_ends_18 : List UInt8 := dkwX2_ends_18 ++ []
def dkwX2_ends_17 : List UInt8 := [100, 61, 28, 155, 0, 34, 42, 180, 0, 141, 28, 51, 154, 0, 19, 42, 16, 6, 42, 180, 0, 55]
abbrev dktX2_ends_17 : List UInt8 := dkwX2_ends_17 ++ dktX2_ends_18
def dkwX2_ends_16 : List UInt8 := [180, 0, 141, 28, 4, 84, 4, 60, 132, 2, 1, 167, 255, 158, 167, 255, 147, 42, 180, 0, 40, 7, 46, 4]
abbrev dktX2_ends_16 : List UInt8 := dkwX2_ends_16 ++ dktX2_ends_17
def dkwX2_ends_15 : List UInt8 := [167, 0, 4, 3, 54, 4, 21, 4, 153, 0, 24, 42, 180, 0, 141, 28, 51, 153, 0, 6, 167, 0, 12, 42]
abbrev dktX2_ends_15 : List UInt8 := dkwX2_ends_15 ++ dktX2_ends_16
def dkwX2_ends_14 : List UInt8 := [180, 0, 73, 29, 46, 155, 0, 21, 42, 180, 0, 141, 42, 180, 0, 73, 29, 46, 51, 153, 0, 7, 4]
abbrev dktX2_ends_14 : List UInt8 := dkwX2_ends_14 ++ dktX2_ends_15
def dkwX2_ends_13 : List UInt8 := [180, 0, 70, 29, 46, 155, 0, 17, 42, 180, 0, 141, 42, 180, 0, 70, 29, 46, 51, 154, 0, 26, 42]
abbrev dktX2_ends_13 : List UInt8 := dkwX2_ends_13 ++ dktX2_ends_14
def dkwX2_ends_12 : List UInt8 := [153, 0, 111, 3, 60, 3, 61, 28, 42, 180, 0, 40, 7, 46, 162, 0, 94, 42, 28, 182, 1, 66, 62, 42]
abbrev dktX2_ends_12 : List UInt8 := dkwX2_ends_12 ++ dktX2_ends_13
def dkwX2_ends_11 : List UInt8 := [182, 1, 66, 46, 16, 6, 160, 0, 7, 4, 167, 0, 4, 3, 84, 132, 2, 1, 167, 255, 217, 4, 60, 27]
abbrev dktX2_ends_11 : List UInt8 := dkwX2_ends_11 ++ dktX2_ends_12
def dkwX2_ends_10 : List UInt8 := [61, 28, 42, 180, 0, 40, 7, 46, 162, 0, 35, 42, 180, 0, 141, 28, 42, 180, 0, 58, 42, 28]
abbrev dktX2_ends_10 : List UInt8 := dkwX2_ends_10 ++ dktX2_ends_11
def dkwX2_ends_9 : List UInt8 := [17, 0, 164, 28, 96, 46, 182, 1, 63, 132, 2, 255, 167, 255, 225, 42, 180, 0, 110, 158, 0, 4, 177, 3]
abbrev dktX2_ends_9 : List UInt8 := dkwX2_ends_9 ++ dktX2_ends_10
def dkwX2_ends_8 : List UInt8 := [4, 100, 61, 28, 155, 0, 33, 42, 180, 0, 141, 28, 51, 154, 0, 18, 42, 8, 42, 180, 0, 55]
abbrev dktX2_ends_8 : List UInt8 := dkwX2_ends_8 ++ dktX2_ends_9
def dkwX2_ends_7 : List UInt8 := [153, 0, 7, 4, 167, 0, 4, 3, 60, 132, 2, 1, 167, 255, 192, 167, 255, 181, 42, 180, 0, 40, 7, 46]
abbrev dktX2_ends_7 : List UInt8 := dkwX2_ends_7 ++ dktX2_ends_8
def dkwX2_ends_6 : List UInt8 := [182, 1, 69, 42, 42, 180, 0, 73, 42, 28, 182, 1, 66, 46, 182, 1, 69, 128, 154, 0, 7, 27]
abbrev dktX2_ends_6 : List UInt8 := dkwX2_ends_6 ++ dktX2_ends_7
def dkwX2_ends_5 : List UInt8 := [162, 0, 60, 42, 180, 0, 141, 28, 51, 153, 0, 35, 42, 42, 180, 0, 70, 42, 28, 182, 1, 66, 46]
abbrev dktX2_ends_5 : List UInt8 := dkwX2_ends_5 ++ dktX2_ends_6
def dkwX2_ends_4 : List UInt8 := [132, 1, 1, 167, 255, 228, 4, 60, 27, 153, 0, 77, 3, 60, 3, 61, 28, 42, 180, 0, 40, 7, 46]
abbrev dktX2_ends_4 : List UInt8 := dkwX2_ends_4 ++ dktX2_ends_5
def dkwX2_ends_3 : List UInt8 := [180, 0, 40, 7, 46, 162, 0, 24, 42, 180, 0, 141, 27, 27, 154, 0, 7, 4, 167, 0, 4, 3, 84]
abbrev dktX2_ends_3 : List UInt8 := dkwX2_ends_3 ++ dktX2_ends_4
def dkwX2_ends_2 : List UInt8 := [27, 46, 182, 1, 63, 132, 1, 1, 167, 255, 203, 42, 180, 0, 110, 158, 0, 4, 177, 3, 60, 27, 42]
abbrev dktX2_ends_2 : List UInt8 := dkwX2_ends_2 ++ dktX2_ends_3
def dkwX2_ends_1 : List UInt8 := [153, 0, 18, 42, 180, 0, 135, 27, 46, 42, 180, 0, 40, 7, 46, 161, 0, 14, 42, 7, 42, 180, 0, 132]
abbrev dktX2_ends_1 : List UInt8 := dkwX2_ends_1 ++ dktX2_ends_2
def dkwX2_ends_0 : List UInt8 := [3, 60, 27, 42, 180, 0, 138, 162, 0, 51, 42, 180, 0, 110, 154, 0, 44, 42, 180, 0, 135, 27, 46]
abbrev dktX2_ends_0 : List UInt8 := dkwX2_ends_0 ++ dktX2_ends_1
theorem dksX2_ends_0 : cX2_ends.data.toList.drop 0 = dktX2_ends_0 := by decide +kernel
theorem dksX2_ends_1 : cX2_ends.data.toList.drop 23 = dktX2_ends_1 := dk_seg dksX2_ends_0 23 rfl rfl
theorem dksX2_ends_2 : cX2_ends.data.toList.drop 47 = dktX2_ends_2 := dk_seg dksX2_ends_1 24 rfl rfl
theorem dksX2_ends_3 : cX2_ends.data.toList.drop 70 = dktX2_ends_3 := dk_seg dksX2_ends_2 23 rfl rfl
theorem dksX2_ends_4 : cX2_ends.data.toList.drop 93 = dktX2_ends_4 := dk_seg dksX2_ends_3 23 rfl rfl
theorem dksX2_ends_5 : cX2_ends.data.toList.drop 116 = dktX2_ends_5 := dk_seg dksX2_ends_4 23 rfl rfl
theorem dksX2_ends_6 : cX2_ends.data.toList.drop 139 = dktX2_ends_6 := dk_seg dksX2_ends_5 23 rfl rfl
theorem dksX2_ends_7 : cX2_ends.data.toList.drop 161 = dktX2_ends_7 := dk_seg dksX2_ends_6 22 rfl rfl
theorem dksX2_ends_8 : cX2_ends.data.toList.drop 185 = dktX2_ends_8 := dk_seg dksX2_ends_7 24 rfl rfl
theorem dksX2_ends_9 : cX2_ends.data.toList.drop 207 = dktX2_ends_9 := dk_seg dksX2_ends_8 22 rfl rfl
theorem dksX2_ends_10 : cX2_ends.data.toList.drop 231 = dktX2_ends_10 := dk_seg dksX2_ends_9 24 rfl rfl
theorem dksX2_ends_11 : cX2_ends.data.toList.drop 253 = dktX2_ends_11 := dk_seg dksX2_ends_10 22 rfl rfl
theorem dksX2_ends_12 : cX2_ends.data.toList.drop 277 = dktX2_ends_12 := dk_seg dksX2_ends_11 24 rfl rfl
theorem dksX2_ends_13 : cX2_ends.data.toList.drop 301 = dktX2_ends_13 := dk_seg dksX2_ends_12 24 rfl rfl
theorem dksX2_ends_14 : cX2_ends.data.toList.drop 324 = dktX2_ends_14 := dk_seg dksX2_ends_13 23 rfl rfl
theorem dksX2_ends_15 : cX2_ends.data.toList.drop 347 = dktX2_ends_15 := dk_seg dksX2_ends_14 23 rfl rfl
theorem dksX2_ends_16 : cX2_ends.data.toList.drop 371 = dktX2_ends_16 := dk_seg dksX2_ends_15 24 rfl rfl
theorem dksX2_ends_17 : cX2_ends.data.toList.drop 395 = dktX2_ends_17 := dk_seg dksX2_ends_16 24 rfl rfl
theorem dksX2_ends_18 : cX2_ends.data.toList.drop 417 = dktX2_ends_18 := dk_seg dksX2_ends_17 22 rfl rfl
theorem dX2_ends_0 : decode cX2_ends 0 = .ok (.iconst 0, 1) := dk_3 (dk_at dksX2_ends_0 0 rfl rfl)
theorem dX2_ends_1 : decode cX2_ends 1 = .ok (.istore_n 1, 1) := dk_60 (dk_at dksX2_ends_0 1 rfl rfl)
theorem dX2_ends_2 : decode cX2_ends 2 = .ok (.iload_n 1, 1) := dk_27 (dk_at dksX2_ends_0 2 rfl rfl)
theorem dX2_ends_3 : decode cX2_ends 3 = .ok (.aload_n 0, 1) := dk_42 (dk_at dksX2_ends_0 3 rfl rfl)
theorem dX2_ends_4 : decode cX2_ends 4 = .ok (.getfield 138, 3) := dk_180 0 138 (dk_at dksX2_ends_0 4 rfl rfl)
theorem dX2_ends_7 : decode cX2_ends 7 = .ok (.if_icmp .ge 51, 3) := dk_162 0 51 (dk_at dksX2_ends_0 7 rfl rfl)
theorem dX2_ends_10 : decode cX2_ends 10 = .ok (.aload_n 0, 1) := dk_42 (dk_at dksX2_ends_0 10 rfl rfl)
theorem dX2_ends_11 : decode cX2_ends 11 = .ok (.getfield 110, 3) := dk_180 0 110 (dk_at dksX2_ends_0 11 rfl rfl)
theorem dX2_ends_14 : decode cX2_ends 14 = .ok (.ifCond .ne 44, 3) := dk_154 0 44 (dk_at dksX2_ends_0 14 rfl rfl)
theorem dX2_ends_17 : decode cX2_ends 17 = .ok (.aload_n 0, 1) := dk_42 (dk_at dksX2_ends_0 17 rfl rfl)
theorem dX2_ends_18 : decode cX2_ends 18 = .ok (.getfield 135, 3) := dk_180 0 135 (dk_at dksX2_ends_0 18 rfl rfl)
theorem dX2_ends_21 : decode cX2_ends 21 = .ok (.iload_n 1, 1) := dk_27 (dk_at dksX2_ends_0 21 rfl rfl)
theorem dX2_ends_22 : decode cX2_ends 22 = .ok (.iaload, 1) := dk_46 (dk_at dksX2_ends_0 22 rfl rfl)
theorem dX2_ends_23 : decode cX2_ends 23 = .ok (.ifCond .eq 18, 3) := dk_153 0 18 (dk_at dksX2_ends_1 0 rfl rfl)
theorem dX2_ends_26 : decode cX2_ends 26 = .ok (.aload_n 0, 1) := dk_42 (dk_at dksX2_ends_1 3 rfl rfl)
theorem dX2_ends_27 : decode cX2_ends 27 = .ok (.getfield 135, 3) := dk_180 0 135 (dk_at dksX2_ends_1 4 rfl rfl)
theorem dX2_ends_30 : decode cX2_ends 30 = .ok (.iload_n 1, 1) := dk_27 (dk_at dksX2_ends_1 7 rfl rfl)
theorem dX2_ends_31 : decode cX2_ends 31 = .ok (.iaload, 1) := dk_46 (dk_at dksX2_ends_1 8 rfl rfl)
theorem dX2_ends_32 : decode cX2_ends 32 = .ok (.aload_n 0, 1) := dk_42 (dk_at dksX2_ends_1 9 rfl rfl)
theorem dX2_ends_33 : decode cX2_ends 33 = .ok (.getfield 40, 3) := dk_180 0 40 (dk_at dksX2_ends_1 10 rfl rfl)
theorem dX2_ends_36 : decode cX2_ends 36 = .ok (.iconst 4, 1) := dk_7 (dk_at dksX2_ends_1 13 rfl rfl)
theorem dX2_ends_37 : decode cX2_ends 37 = .ok (.iaload, 1) := dk_46 (dk_at dksX2_ends_1 14 rfl rfl)
theorem dX2_ends_38 : decode cX2_ends 38 = .ok (.if_icmp .lt 14, 3) := dk_161 0 14 (dk_at dksX2_ends_1 15 rfl rfl)
theorem dX2_ends_41 : decode cX2_ends 41 = .ok (.aload_n 0, 1) := dk_42 (dk_at dksX2_ends_1 18 rfl rfl)
theorem dX2_ends_42 : decode cX2_ends 42 = .ok (.iconst 4, 1) := dk_7 (dk_at dksX2_ends_1 19 rfl rfl)
theorem dX2_ends_43 : decode cX2_ends 43 = .ok (.aload_n 0, 1) := dk_42 (dk_at dksX2_ends_1 20 rfl rfl)
theorem dX2_ends_44 : decode cX2_ends 44 = .ok (.getfield 132, 3) := dk_180 0 132 (dk_at dksX2_ends_1 21 rfl rfl)
theorem dX2_ends_47 : decode cX2_ends 47 = .ok (.iload_n 1, 1) := dk_27 (dk_at dksX2_ends_2 0 rfl rfl)
theorem dX2_ends_48 : decode cX2_ends 48 = .ok (.iaload, 1) := dk_46 (dk_at dksX2_ends_2 1 rfl rfl)
theorem dX2_ends_49 : decode cX2_ends 49 = .ok (.invokevirtual 319, 3) := dk_182 1 63 (dk_at dksX2_ends_2 2 rfl rfl)
theorem dX2_ends_52 : decode cX2_ends 52 = .ok (.iinc 1 1, 3) := dk_132 1 1 (dk_at dksX2_ends_2 5 rfl rfl)
theorem dX2_ends_55 : decode cX2_ends 55 = .ok (.goto (-53), 3) := dk_167 255 203 (dk_at dksX2_ends_2 8 rfl rfl)
theorem dX2_ends_58 : decode cX2_ends 58 = .ok (.aload_n 0, 1) := dk_42 (dk_at dksX2_ends_2 11 rfl rfl)
theorem dX2_ends_59 : decode cX2_ends 59 = .ok (.getfield 110, 3) := dk_180 0 110 (dk_at dksX2_ends_2 12 rfl rfl)
theorem dX2_ends_62 : decode cX2_ends 62 = .ok (.ifCond .le 4, 3) := dk_158 0 4 (dk_at dksX2_ends_2 15 rfl rfl)
theorem dX2_ends_65 : decode cX2_ends 65 = .ok (.return_, 1) := dk_177 (dk_at dksX2_ends_2 18 rfl rfl)
theorem dX2_ends_66 : decode cX2_ends 66 = .ok (.iconst 0, 1) := dk_3 (dk_at dksX2_ends_2 19 rfl rfl)
theorem dX2_ends_67 : decode cX2_ends 67 = .ok (.istore_n 1, 1) := dk_60 (dk_at dksX2_ends_2 20 rfl rfl)
theorem dX2_ends_68 : decode cX2_ends 68 = .ok (.iload_n 1, 1) := dk_27 (dk_at dksX2_ends_2 21 rfl rfl)
theorem dX2_ends_69 : decode cX2_ends 69 = .ok (.aload_n 0, 1) := dk_42 (dk_at dksX2_ends_2 22 rfl rfl)
theorem dX2_ends_70 : decode cX2_ends 70 = .ok (.getfield 40, 3) := dk_180 0 40 (dk_at dksX2_ends_3 0 rfl rfl)
theorem dX2_ends_73 : decode cX2_ends 73 = .ok (.iconst 4, 1) := dk_7 (dk_at dksX2_ends_3 3 rfl rfl)
theorem dX2_ends_74 : decode cX2_ends 74 = .ok (.iaload, 1) := dk_46 (dk_at dksX2_ends_3 4 rfl rfl)
theorem dX2_ends_75 : decode cX2_ends 75 = .ok (.if_icmp .ge 24, 3) := dk_162 0 24 (dk_at dksX2_ends_3 5 rfl rfl)
theorem dX2_ends_78 : decode cX2_ends 78 = .ok (.aload_n 0, 1) := dk_42 (dk_at dksX2_ends_3 8 rfl rfl)
theorem dX2_ends_79 : decode cX2_ends 79 = .ok (.getfield 141, 3) := dk_180 0 141 (dk_at dksX2_ends_3 9 rfl rfl)
theorem dX2_ends_82 : decode cX2_ends 82 = .ok (.iload_n 1, 1) := dk_27 (dk_at dksX2_ends_3 12 rfl rfl)
theorem dX2_ends_83 : decode cX2_ends 83 = .ok (.iload_n 1, 1) := dk_27 (dk_at dksX2_ends_3 13 rfl rfl)
theorem dX2_ends_84 : decode cX2_ends 84 = .ok (.ifCond .ne 7, 3) := dk_154 0 7 (dk_at dksX2_ends_3 14 rfl rfl)
theorem dX2_ends_87 : decode cX2_ends 87 = .ok (.iconst 1, 1) := dk_4 (dk_at dksX2_ends_3 17 rfl rfl)
theorem dX2_ends_88 : decode cX2_ends 88 = .ok (.goto 4, 3) := dk_167 0 4 (dk_at dksX2_ends_3 18 rfl rfl)
theorem dX2_ends_91 : decode cX2_ends 91 = .ok (.iconst 0, 1) := dk_3 (dk_at dksX2_ends_3 21 rfl rfl)
theorem dX2_ends_92 : decode cX2_ends 92 = .ok (.bastore, 1) := dk_84 (dk_at dksX2_ends_3 22 rfl rfl)
theorem dX2_ends_93 : decode cX2_ends 93 = .ok (.iinc 1 1, 3) := dk_132 1 1 (dk_at dksX2_ends_4 0 rfl rfl)
theorem dX2_ends_96 : decode cX2_ends 96 = .ok (.goto (-28), 3) := dk_167 255 228 (dk_at dksX2_ends_4 3 rfl rfl)
theorem dX2_ends_99 : decode cX2_ends 99 = .ok (.iconst 1, 1) := dk_4 (dk_at dksX2_ends_4 6 rfl rfl)
theorem dX2_ends_100 : decode cX2_ends 100 = .ok (.istore_n 1, 1) := dk_60 (dk_at dksX2_ends_4 7 rfl rfl)
theorem dX2_ends_101 : decode cX2_ends 101 = .ok (.iload_n 1, 1) := dk_27 (dk_at dksX2_ends_4 8 rfl rfl)
theorem dX2_ends_102 : decode cX2_ends 102 = .ok (.ifCond .eq 77, 3) := dk_153 0 77 (dk_at dksX2_ends_4 9 rfl rfl)
theorem dX2_ends_105 : decode cX2_ends 105 = .ok (.iconst 0, 1) := dk_3 (dk_at dksX2_ends_4 12 rfl rfl)
theorem dX2_ends_106 : decode cX2_ends 106 = .ok (.istore_n 1, 1) := dk_60 (dk_at dksX2_ends_4 13 rfl rfl)
theorem dX2_ends_107 : decode cX2_ends 107 = .ok (.iconst 0, 1) := dk_3 (dk_at dksX2_ends_4 14 rfl rfl)
theorem dX2_ends_108 : decode cX2_ends 108 = .ok (.istore_n 2, 1) := dk_61 (dk_at dksX2_ends_4 15 rfl rfl)
theorem dX2_ends_109 : decode cX2_ends 109 = .ok (.iload_n 2, 1) := dk_28 (dk_at dksX2_ends_4 16 rfl rfl)
theorem dX2_ends_110 : decode cX2_ends 110 = .ok (.aload_n 0, 1) := dk_42 (dk_at dksX2_ends_4 17 rfl rfl)
theorem dX2_ends_111 : decode cX2_ends 111 = .ok (.getfield 40, 3) := dk_180 0 40 (dk_at dksX2_ends_4 18 rfl rfl)
theorem dX2_ends_114 : decode cX2_ends 114 = .ok (.iconst 4, 1) := dk_7 (dk_at dksX2_ends_4 21 rfl rfl)
theorem dX2_ends_115 : decode cX2_ends 115 = .ok (.iaload, 1) := dk_46 (dk_at dksX2_ends_4 22 rfl rfl)
theorem dX2_ends_116 : decode cX2_ends 116 = .ok (.if_icmp .ge 60, 3) := dk_162 0 60 (dk_at dksX2_ends_5 0 rfl rfl)
theorem dX2_ends_119 : decode cX2_ends 119 = .ok (.aload_n 0, 1) := dk_42 (dk_at dksX2_ends_5 3 rfl rfl)
theorem dX2_ends_120 : decode cX2_ends 120 = .ok (.getfield 141, 3) := dk_180 0 141 (dk_at dksX2_ends_5 4 rfl rfl)
theorem dX2_ends_123 : decode cX2_ends 123 = .ok (.iload_n 2, 1) := dk_28 (dk_at dksX2_ends_5 7 rfl rfl)
theorem dX2_ends_124 : decode cX2_ends 124 = .ok (.baload, 1) := dk_51 (dk_at dksX2_ends_5 8 rfl rfl)
theorem dX2_ends_125 : decode cX2_ends 125 = .ok (.ifCond .eq 35, 3) := dk_153 0 35 (dk_at dksX2_ends_5 9 rfl rfl)
theorem dX2_ends_128 : decode cX2_ends 128 = .ok (.aload_n 0, 1) := dk_42 (dk_at dksX2_ends_5 12 rfl rfl)
theorem dX2_ends_129 : decode cX2_ends 129 = .ok (.aload_n 0, 1) := dk_42 (dk_at dksX2_ends_5 13 rfl rfl)
theorem dX2_ends_130 : decode cX2_ends 130 = .ok (.getfield 70, 3) := dk_180 0 70 (dk_at dksX2_ends_5 14 rfl rfl)
theorem dX2_ends_133 : decode cX2_ends 133 = .ok (.aload_n 0, 1) := dk_42 (dk_at dksX2_ends_5 17 rfl rfl)
theorem dX2_ends_134 : decode cX2_ends 134 = .ok (.iload_n 2, 1) := dk_28 (dk_at dksX2_ends_5 18 rfl rfl)
theorem dX2_ends_135 : decode cX2_ends 135 = .ok (.invokevirtual 322, 3) := dk_182 1 66 (dk_at dksX2_ends_5 19 rfl rfl)
theorem dX2_ends_138 : decode cX2_ends 138 = .ok (.iaload, 1) := dk_46 (dk_at dksX2_ends_5 22 rfl rfl)
theorem dX2_ends_139 : decode cX2_ends 139 = .ok (.invokevirtual 325, 3) := dk_182 1 69 (dk_at dksX2_ends_6 0 rfl rfl)
theorem dX2_ends_142 : decode cX2_ends 142 = .ok (.aload_n 0, 1) := dk_42 (dk_at dksX2_ends_6 3 rfl rfl)
theorem dX2_ends_143 : decode cX2_ends 143 = .ok (.aload_n 0, 1) := dk_42 (dk_at dksX2_ends_6 4 rfl rfl)
theorem dX2_ends_144 : decode cX2_ends 144 = .ok (.getfield 73, 3) := dk_180 0 73 (dk_at dksX2_ends_6 5 rfl rfl)
theorem dX2_ends_147 : decode cX2_ends 147 = .ok (.aload_n 0, 1) := dk_42 (dk_at dksX2_ends_6 8 rfl rfl)
theorem dX2_ends_148 : decode cX2_ends 148 = .ok (.iload_n 2, 1) := dk_28 (dk_at dksX2_ends_6 9 rfl rfl)
theorem dX2_ends_149 : decode cX2_ends 149 = .ok (.invokevirtual 322, 3) := dk_182 1 66 (dk_at dksX2_ends_6 10 rfl rfl)
theorem dX2_ends_152 : decode cX2_ends 152 = .ok (.iaload, 1) := dk_46 (dk_at dksX2_ends_6 13 rfl rfl)
theorem dX2_ends_153 : decode cX2_ends 153 = .ok (.invokevirtual 325, 3) := dk_182 1 69 (dk_at dksX2_ends_6 14 rfl rfl)
theorem dX2_ends_156 : decode cX2_ends 156 = .ok (.ior, 1) := dk_128 (dk_at dksX2_ends_6 17 rfl rfl)
theorem dX2_ends_157 : decode cX2_ends 157 = .ok (.ifCond .ne 7, 3) := dk_154 0 7 (dk_at dksX2_ends_6 18 rfl rfl)
theorem dX2_ends_160 : decode cX2_ends 160 = .ok (.iload_n 1, 1) := dk_27 (dk_at dksX2_ends_6 21 rfl rfl)
theorem dX2_ends_161 : decode cX2_ends 161 = .ok (.ifCond .eq 7, 3) := dk_153 0 7 (dk_at dksX2_ends_7 0 rfl rfl)
theorem dX2_ends_164 : decode cX2_ends 164 = .ok (.iconst 1, 1) := dk_4 (dk_at dksX2_ends_7 3 rfl rfl)
theorem dX2_ends_165 : decode cX2_ends 165 = .ok (.goto 4, 3) := dk_167 0 4 (dk_at dksX2_ends_7 4 rfl rfl)
theorem dX2_ends_168 : decode cX2_ends 168 = .ok (.iconst 0, 1) := dk_3 (dk_at dksX2_ends_7 7 rfl rfl)
theorem dX2_ends_169 : decode cX2_ends 169 = .ok (.istore_n 1, 1) := dk_60 (dk_at dksX2_ends_7 8 rfl rfl)
theorem dX2_ends_170 : decode cX2_ends 170 = .ok (.iinc 2 1, 3) := dk_132 2 1 (dk_at dksX2_ends_7 9 rfl rfl)
theorem dX2_ends_173 : decode cX2_ends 173 = .ok (.goto (-64), 3) := dk_167 255 192 (dk_at dksX2_ends_7 12 rfl rfl)
theorem dX2_ends_176 : decode cX2_ends 176 = .ok (.goto (-75), 3) := dk_167 255 181 (dk_at dksX2_ends_7 15 rfl rfl)
theorem dX2_ends_179 : decode cX2_ends 179 = .ok (.aload_n 0, 1) := dk_42 (dk_at dksX2_ends_7 18 rfl rfl)
theorem dX2_ends_180 : decode cX2_ends 180 = .ok (.getfield 40, 3) := dk_180 0 40 (dk_at dksX2_ends_7 19 rfl rfl)
theorem dX2_ends_183 : decode cX2_ends 183 = .ok (.iconst 4, 1) := dk_7 (dk_at dksX2_ends_7 22 rfl rfl)
theorem dX2_ends_184 : decode cX2_ends 184 = .ok (.iaload, 1) := dk_46 (dk_at dksX2_ends_7 23 rfl rfl)
theorem dX2_ends_185 : decode cX2_ends 185 = .ok (.iconst 1, 1) := dk_4 (dk_at dksX2_ends_8 0 rfl rfl)
theorem dX2_ends_186 : decode cX2_ends 186 = .ok (.isub, 1) := dk_100 (dk_at dksX2_ends_8 1 rfl rfl)
theorem dX2_ends_187 : decode cX2_ends 187 = .ok (.istore_n 2, 1) := dk_61 (dk_at dksX2_ends_8 2 rfl rfl)
theorem dX2_ends_188 : decode cX2_ends 188 = .ok (.iload_n 2, 1) := dk_28 (dk_at dksX2_ends_8 3 rfl rfl)
theorem dX2_ends_189 : decode cX2_ends 189 = .ok (.ifCond .lt 33, 3) := dk_155 0 33 (dk_at dksX2_ends_8 4 rfl rfl)
theorem dX2_ends_192 : decode cX2_ends 192 = .ok (.aload_n 0, 1) := dk_42 (dk_at dksX2_ends_8 7 rfl rfl)
theorem dX2_ends_193 : decode cX2_ends 193 = .ok (.getfield 141, 3) := dk_180 0 141 (dk_at dksX2_ends_8 8 rfl rfl)
theorem dX2_ends_196 : decode cX2_ends 196 = .ok (.iload_n 2, 1) := dk_28 (dk_at dksX2_ends_8 11 rfl rfl)
theorem dX2_ends_197 : decode cX2_ends 197 = .ok (.baload, 1) := dk_51 (dk_at dksX2_ends_8 12 rfl rfl)
theorem dX2_ends_198 : decode cX2_ends 198 = .ok (.ifCond .ne 18, 3) := dk_154 0 18 (dk_at dksX2_ends_8 13 rfl rfl)
theorem dX2_ends_201 : decode cX2_ends 201 = .ok (.aload_n 0, 1) := dk_42 (dk_at dksX2_ends_8 16 rfl rfl)
theorem dX2_ends_202 : decode cX2_ends 202 = .ok (.iconst 5, 1) := dk_8 (dk_at dksX2_ends_8 17 rfl rfl)
theorem dX2_ends_203 : decode cX2_ends 203 = .ok (.aload_n 0, 1) := dk_42 (dk_at dksX2_ends_8 18 rfl rfl)
theorem dX2_ends_204 : decode cX2_ends 204 = .ok (.getfield 55, 3) := dk_180 0 55 (dk_at dksX2_ends_8 19 rfl rfl)
theorem dX2_ends_207 : decode cX2_ends 207 = .ok (.sipush 164, 3) := dk_17 0 164 (dk_at dksX2_ends_9 0 rfl rfl)
theorem dX2_ends_210 : decode cX2_ends 210 = .ok (.iload_n 2, 1) := dk_28 (dk_at dksX2_ends_9 3 rfl rfl)
theorem dX2_ends_211 : decode cX2_ends 211 = .ok (.iadd, 1) := dk_96 (dk_at dksX2_ends_9 4 rfl rfl)
theorem dX2_ends_212 : decode cX2_ends 212 = .ok (.iaload, 1) := dk_46 (dk_at dksX2_ends_9 5 rfl rfl)
theorem dX2_ends_213 : decode cX2_ends 213 = .ok (.invokevirtual 319, 3) := dk_182 1 63 (dk_at dksX2_ends_9 6 rfl rfl)
theorem dX2_ends_216 : decode cX2_ends 216 = .ok (.iinc 2 (-1), 3) := dk_132 2 255 (dk_at dksX2_ends_9 9 rfl rfl)
theorem dX2_ends_219 : decode cX2_ends 219 = .ok (.goto (-31), 3) := dk_167 255 225 (dk_at dksX2_ends_9 12 rfl rfl)
theorem dX2_ends_222 : decode cX2_ends 222 = .ok (.aload_n 0, 1) := dk_42 (dk_at dksX2_ends_9 15 rfl rfl)
theorem dX2_ends_223 : decode cX2_ends 223 = .ok (.getfield 110, 3) := dk_180 0 110 (dk_at dksX2_ends_9 16 rfl rfl)
theorem dX2_ends_226 : decode cX2_ends 226 = .ok (.ifCond .le 4, 3) := dk_158 0 4 (dk_at dksX2_ends_9 19 rfl rfl)
theorem dX2_ends_229 : decode cX2_ends 229 = .ok (.return_, 1) := dk_177 (dk_at dksX2_ends_9 22 rfl rfl)
theorem dX2_ends_230 : decode cX2_ends 230 = .ok (.iconst 0, 1) := dk_3 (dk_at dksX2_ends_9 23 rfl rfl)
theorem dX2_ends_231 : decode cX2_ends 231 = .ok (.istore_n 2, 1) := dk_61 (dk_at dksX2_ends_10 0 rfl rfl)
theorem dX2_ends_232 : decode cX2_ends 232 = .ok (.iload_n 2, 1) := dk_28 (dk_at dksX2_ends_10 1 rfl rfl)
theorem dX2_ends_233 : decode cX2_ends 233 = .ok (.aload_n 0, 1) := dk_42 (dk_at dksX2_ends_10 2 rfl rfl)
theorem dX2_ends_234 : decode cX2_ends 234 = .ok (.getfield 40, 3) := dk_180 0 40 (dk_at dksX2_ends_10 3 rfl rfl)
theorem dX2_ends_237 : decode cX2_ends 237 = .ok (.iconst 4, 1) := dk_7 (dk_at dksX2_ends_10 6 rfl rfl)
theorem dX2_ends_238 : decode cX2_ends 238 = .ok (.iaload, 1) := dk_46 (dk_at dksX2_ends_10 7 rfl rfl)
theorem dX2_ends_239 : decode cX2_ends 239 = .ok (.if_icmp .ge 35, 3) := dk_162 0 35 (dk_at dksX2_ends_10 8 rfl rfl)
theorem dX2_ends_242 : decode cX2_ends 242 = .ok (.aload_n 0, 1) := dk_42 (dk_at dksX2_ends_10 11 rfl rfl)
theorem dX2_ends_243 : decode cX2_ends 243 = .ok (.getfield 141, 3) := dk_180 0 141 (dk_at dksX2_ends_10 12 rfl rfl)
theorem dX2_ends_246 : decode cX2_ends 246 = .ok (.iload_n 2, 1) := dk_28 (dk_at dksX2_ends_10 15 rfl rfl)
theorem dX2_ends_247 : decode cX2_ends 247 = .ok (.aload_n 0, 1) := dk_42 (dk_at dksX2_ends_10 16 rfl rfl)
theorem dX2_ends_248 : decode cX2_ends 248 = .ok (.getfield 58, 3) := dk_180 0 58 (dk_at dksX2_ends_10 17 rfl rfl)
theorem dX2_ends_251 : decode cX2_ends 251 = .ok (.aload_n 0, 1) := dk_42 (dk_at dksX2_ends_10 20 rfl rfl)
theorem dX2_ends_252 : decode cX2_ends 252 = .ok (.iload_n 2, 1) := dk_28 (dk_at dksX2_ends_10 21 rfl rfl)
theorem dX2_ends_253 : decode cX2_ends 253 = .ok (.invokevirtual 322, 3) := dk_182 1 66 (dk_at dksX2_ends_11 0 rfl rfl)
theorem dX2_ends_256 : decode cX2_ends 256 = .ok (.iaload, 1) := dk_46 (dk_at dksX2_ends_11 3 rfl rfl)
theorem dX2_ends_257 : decode cX2_ends 257 = .ok (.bipush 6, 2) := dk_16 6 (dk_at dksX2_ends_11 4 rfl rfl)
theorem dX2_ends_259 : decode cX2_ends 259 = .ok (.if_icmp .ne 7, 3) := dk_160 0 7 (dk_at dksX2_ends_11 6 rfl rfl)
theorem dX2_ends_262 : decode cX2_ends 262 = .ok (.iconst 1, 1) := dk_4 (dk_at dksX2_ends_11 9 rfl rfl)
theorem dX2_ends_263 : decode cX2_ends 263 = .ok (.goto 4, 3) := dk_167 0 4 (dk_at dksX2_ends_11 10 rfl rfl)
theorem dX2_ends_266 : decode cX2_ends 266 = .ok (.iconst 0, 1) := dk_3 (dk_at dksX2_ends_11 13 rfl rfl)
theorem dX2_ends_267 : decode cX2_ends 267 = .ok (.bastore, 1) := dk_84 (dk_at dksX2_ends_11 14 rfl rfl)
theorem dX2_ends_268 : decode cX2_ends 268 = .ok (.iinc 2 1, 3) := dk_132 2 1 (dk_at dksX2_ends_11 15 rfl rfl)
theorem dX2_ends_271 : decode cX2_ends 271 = .ok (.goto (-39), 3) := dk_167 255 217 (dk_at dksX2_ends_11 18 rfl rfl)
theorem dX2_ends_274 : decode cX2_ends 274 = .ok (.iconst 1, 1) := dk_4 (dk_at dksX2_ends_11 21 rfl rfl)
theorem dX2_ends_275 : decode cX2_ends 275 = .ok (.istore_n 1, 1) := dk_60 (dk_at dksX2_ends_11 22 rfl rfl)
theorem dX2_ends_276 : decode cX2_ends 276 = .ok (.iload_n 1, 1) := dk_27 (dk_at dksX2_ends_11 23 rfl rfl)
theorem dX2_ends_277 : decode cX2_ends 277 = .ok (.ifCond .eq 111, 3) := dk_153 0 111 (dk_at dksX2_ends_12 0 rfl rfl)
theorem dX2_ends_280 : decode cX2_ends 280 = .ok (.iconst 0, 1) := dk_3 (dk_at dksX2_ends_12 3 rfl rfl)
theorem dX2_ends_281 : decode cX2_ends 281 = .ok (.istore_n 1, 1) := dk_60 (dk_at dksX2_ends_12 4 rfl rfl)
theorem dX2_ends_282 : decode cX2_ends 282 = .ok (.iconst 0, 1) := dk_3 (dk_at dksX2_ends_12 5 rfl rfl)
theorem dX2_ends_283 : decode cX2_ends 283 = .ok (.istore_n 2, 1) := dk_61 (dk_at dksX2_ends_12 6 rfl rfl)
theorem dX2_ends_284 : decode cX2_ends 284 = .ok (.iload_n 2, 1) := dk_28 (dk_at dksX2_ends_12 7 rfl rfl)
theorem dX2_ends_285 : decode cX2_ends 285 = .ok (.aload_n 0, 1) := dk_42 (dk_at dksX2_ends_12 8 rfl rfl)
theorem dX2_ends_286 : decode cX2_ends 286 = .ok (.getfield 40, 3) := dk_180 0 40 (dk_at dksX2_ends_12 9 rfl rfl)
theorem dX2_ends_289 : decode cX2_ends 289 = .ok (.iconst 4, 1) := dk_7 (dk_at dksX2_ends_12 12 rfl rfl)
theorem dX2_ends_290 : decode cX2_ends 290 = .ok (.iaload, 1) := dk_46 (dk_at dksX2_ends_12 13 rfl rfl)
theorem dX2_ends_291 : decode cX2_ends 291 = .ok (.if_icmp .ge 94, 3) := dk_162 0 94 (dk_at dksX2_ends_12 14 rfl rfl)
theorem dX2_ends_294 : decode cX2_ends 294 = .ok (.aload_n 0, 1) := dk_42 (dk_at dksX2_ends_12 17 rfl rfl)
theorem dX2_ends_295 : decode cX2_ends 295 = .ok (.iload_n 2, 1) := dk_28 (dk_at dksX2_ends_12 18 rfl rfl)
theorem dX2_ends_296 : decode cX2_ends 296 = .ok (.invokevirtual 322, 3) := dk_182 1 66 (dk_at dksX2_ends_12 19 rfl rfl)
theorem dX2_ends_299 : decode cX2_ends 299 = .ok (.istore_n 3, 1) := dk_62 (dk_at dksX2_ends_12 22 rfl rfl)
theorem dX2_ends_300 : decode cX2_ends 300 = .ok (.aload_n 0, 1) := dk_42 (dk_at dksX2_ends_12 23 rfl rfl)
theorem dX2_ends_301 : decode cX2_ends 301 = .ok (.getfield 70, 3) := dk_180 0 70 (dk_at dksX2_ends_13 0 rfl rfl)
theorem dX2_ends_304 : decode cX2_ends 304 = .ok (.iload_n 3, 1) := dk_29 (dk_at dksX2_ends_13 3 rfl rfl)
theorem dX2_ends_305 : decode cX2_ends 305 = .ok (.iaload, 1) := dk_46 (dk_at dksX2_ends_13 4 rfl rfl)
theorem dX2_ends_306 : decode cX2_ends 306 = .ok (.ifCond .lt 17, 3) := dk_155 0 17 (dk_at dksX2_ends_13 5 rfl rfl)
theorem dX2_ends_309 : decode cX2_ends 309 = .ok (.aload_n 0, 1) := dk_42 (dk_at dksX2_ends_13 8 rfl rfl)
theorem dX2_ends_310 : decode cX2_ends 310 = .ok (.getfield 141, 3) := dk_180 0 141 (dk_at dksX2_ends_13 9 rfl rfl)
theorem dX2_ends_313 : decode cX2_ends 313 = .ok (.aload_n 0, 1) := dk_42 (dk_at dksX2_ends_13 12 rfl rfl)
theorem dX2_ends_314 : decode cX2_ends 314 = .ok (.getfield 70, 3) := dk_180 0 70 (dk_at dksX2_ends_13 13 rfl rfl)
theorem dX2_ends_317 : decode cX2_ends 317 = .ok (.iload_n 3, 1) := dk_29 (dk_at dksX2_ends_13 16 rfl rfl)
theorem dX2_ends_318 : decode cX2_ends 318 = .ok (.iaload, 1) := dk_46 (dk_at dksX2_ends_13 17 rfl rfl)
theorem dX2_ends_319 : decode cX2_ends 319 = .ok (.baload, 1) := dk_51 (dk_at dksX2_ends_13 18 rfl rfl)
theorem dX2_ends_320 : decode cX2_ends 320 = .ok (.ifCond .ne 26, 3) := dk_154 0 26 (dk_at dksX2_ends_13 19 rfl rfl)
theorem dX2_ends_323 : decode cX2_ends 323 = .ok (.aload_n 0, 1) := dk_42 (dk_at dksX2_ends_13 22 rfl rfl)
theorem dX2_ends_324 : decode cX2_ends 324 = .ok (.getfield 73, 3) := dk_180 0 73 (dk_at dksX2_ends_14 0 rfl rfl)
theorem dX2_ends_327 : decode cX2_ends 327 = .ok (.iload_n 3, 1) := dk_29 (dk_at dksX2_ends_14 3 rfl rfl)
theorem dX2_ends_328 : decode cX2_ends 328 = .ok (.iaload, 1) := dk_46 (dk_at dksX2_ends_14 4 rfl rfl)
theorem dX2_ends_329 : decode cX2_ends 329 = .ok (.ifCond .lt 21, 3) := dk_155 0 21 (dk_at dksX2_ends_14 5 rfl rfl)
theorem dX2_ends_332 : decode cX2_ends 332 = .ok (.aload_n 0, 1) := dk_42 (dk_at dksX2_ends_14 8 rfl rfl)
theorem dX2_ends_333 : decode cX2_ends 333 = .ok (.getfield 141, 3) := dk_180 0 141 (dk_at dksX2_ends_14 9 rfl rfl)
theorem dX2_ends_336 : decode cX2_ends 336 = .ok (.aload_n 0, 1) := dk_42 (dk_at dksX2_ends_14 12 rfl rfl)
theorem dX2_ends_337 : decode cX2_ends 337 = .ok (.getfield 73, 3) := dk_180 0 73 (dk_at dksX2_ends_14 13 rfl rfl)
theorem dX2_ends_340 : decode cX2_ends 340 = .ok (.iload_n 3, 1) := dk_29 (dk_at dksX2_ends_14 16 rfl rfl)
theorem dX2_ends_341 : decode cX2_ends 341 = .ok (.iaload, 1) := dk_46 (dk_at dksX2_ends_14 17 rfl rfl)
theorem dX2_ends_342 : decode cX2_ends 342 = .ok (.baload, 1) := dk_51 (dk_at dksX2_ends_14 18 rfl rfl)
theorem dX2_ends_343 : decode cX2_ends 343 = .ok (.ifCond .eq 7, 3) := dk_153 0 7 (dk_at dksX2_ends_14 19 rfl rfl)
theorem dX2_ends_346 : decode cX2_ends 346 = .ok (.iconst 1, 1) := dk_4 (dk_at dksX2_ends_14 22 rfl rfl)
theorem dX2_ends_347 : decode cX2_ends 347 = .ok (.goto 4, 3) := dk_167 0 4 (dk_at dksX2_ends_15 0 rfl rfl)
theorem dX2_ends_350 : decode cX2_ends 350 = .ok (.iconst 0, 1) := dk_3 (dk_at dksX2_ends_15 3 rfl rfl)
theorem dX2_ends_351 : decode cX2_ends 351 = .ok (.istore 4, 2) := dk_54 4 (dk_at dksX2_ends_15 4 rfl rfl)
theorem dX2_ends_353 : decode cX2_ends 353 = .ok (.iload 4, 2) := dk_21 4 (dk_at dksX2_ends_15 6 rfl rfl)
theorem dX2_ends_355 : decode cX2_ends 355 = .ok (.ifCond .eq 24, 3) := dk_153 0 24 (dk_at dksX2_ends_15 8 rfl rfl)
theorem dX2_ends_358 : decode cX2_ends 358 = .ok (.aload_n 0, 1) := dk_42 (dk_at dksX2_ends_15 11 rfl rfl)
theorem dX2_ends_359 : decode cX2_ends 359 = .ok (.getfield 141, 3) := dk_180 0 141 (dk_at dksX2_ends_15 12 rfl rfl)
theorem dX2_ends_362 : decode cX2_ends 362 = .ok (.iload_n 2, 1) := dk_28 (dk_at dksX2_ends_15 15 rfl rfl)
theorem dX2_ends_363 : decode cX2_ends 363 = .ok (.baload, 1) := dk_51 (dk_at dksX2_ends_15 16 rfl rfl)
theorem dX2_ends_364 : decode cX2_ends 364 = .ok (.ifCond .eq 6, 3) := dk_153 0 6 (dk_at dksX2_ends_15 17 rfl rfl)
theorem dX2_ends_367 : decode cX2_ends 367 = .ok (.goto 12, 3) := dk_167 0 12 (dk_at dksX2_ends_15 20 rfl rfl)
theorem dX2_ends_370 : decode cX2_ends 370 = .ok (.aload_n 0, 1) := dk_42 (dk_at dksX2_ends_15 23 rfl rfl)
theorem dX2_ends_371 : decode cX2_ends 371 = .ok (.getfield 141, 3) := dk_180 0 141 (dk_at dksX2_ends_16 0 rfl rfl)
theorem dX2_ends_374 : decode cX2_ends 374 = .ok (.iload_n 2, 1) := dk_28 (dk_at dksX2_ends_16 3 rfl rfl)
theorem dX2_ends_375 : decode cX2_ends 375 = .ok (.iconst 1, 1) := dk_4 (dk_at dksX2_ends_16 4 rfl rfl)
theorem dX2_ends_376 : decode cX2_ends 376 = .ok (.bastore, 1) := dk_84 (dk_at dksX2_ends_16 5 rfl rfl)
theorem dX2_ends_377 : decode cX2_ends 377 = .ok (.iconst 1, 1) := dk_4 (dk_at dksX2_ends_16 6 rfl rfl)
theorem dX2_ends_378 : decode cX2_ends 378 = .ok (.istore_n 1, 1) := dk_60 (dk_at dksX2_ends_16 7 rfl rfl)
theorem dX2_ends_379 : decode cX2_ends 379 = .ok (.iinc 2 1, 3) := dk_132 2 1 (dk_at dksX2_ends_16 8 rfl rfl)
theorem dX2_ends_382 : decode cX2_ends 382 = .ok (.goto (-98), 3) := dk_167 255 158 (dk_at dksX2_ends_16 11 rfl rfl)
theorem dX2_ends_385 : decode cX2_ends 385 = .ok (.goto (-109), 3) := dk_167 255 147 (dk_at dksX2_ends_16 14 rfl rfl)
theorem dX2_ends_388 : decode cX2_ends 388 = .ok (.aload_n 0, 1) := dk_42 (dk_at dksX2_ends_16 17 rfl rfl)
theorem dX2_ends_389 : decode cX2_ends 389 = .ok (.getfield 40, 3) := dk_180 0 40 (dk_at dksX2_ends_16 18 rfl rfl)
theorem dX2_ends_392 : decode cX2_ends 392 = .ok (.iconst 4, 1) := dk_7 (dk_at dksX2_ends_16 21 rfl rfl)
theorem dX2_ends_393 : decode cX2_ends 393 = .ok (.iaload, 1) := dk_46 (dk_at dksX2_ends_16 22 rfl rfl)
theorem dX2_ends_394 : decode cX2_ends 394 = .ok (.iconst 1, 1) := dk_4 (dk_at dksX2_ends_16 23 rfl rfl)
theorem dX2_ends_395 : decode cX2_ends 395 = .ok (.isub, 1) := dk_100 (dk_at dksX2_ends_17 0 rfl rfl)
theorem dX2_ends_396 : decode cX2_ends 396 = .ok (.istore_n 2, 1) := dk_61 (dk_at dksX2_ends_17 1 rfl rfl)
theorem dX2_ends_397 : decode cX2_ends 397 = .ok (.iload_n 2, 1) := dk_28 (dk_at dksX2_ends_17 2 rfl rfl)
theorem dX2_ends_398 : decode cX2_ends 398 = .ok (.ifCond .lt 34, 3) := dk_155 0 34 (dk_at dksX2_ends_17 3 rfl rfl)
theorem dX2_ends_401 : decode cX2_ends 401 = .ok (.aload_n 0, 1) := dk_42 (dk_at dksX2_ends_17 6 rfl rfl)
theorem dX2_ends_402 : decode cX2_ends 402 = .ok (.getfield 141, 3) := dk_180 0 141 (dk_at dksX2_ends_17 7 rfl rfl)
theorem dX2_ends_405 : decode cX2_ends 405 = .ok (.iload_n 2, 1) := dk_28 (dk_at dksX2_ends_17 10 rfl rfl)
theorem dX2_ends_406 : decode cX2_ends 406 = .ok (.baload, 1) := dk_51 (dk_at dksX2_ends_17 11 rfl rfl)
theorem dX2_ends_407 : decode cX2_ends 407 = .ok (.ifCond .ne 19, 3) := dk_154 0 19 (dk_at dksX2_ends_17 12 rfl rfl)
theorem dX2_ends_410 : decode cX2_ends 410 = .ok (.aload_n 0, 1) := dk_42 (dk_at dksX2_ends_17 15 rfl rfl)
theorem dX2_ends_411 : decode cX2_ends 411 = .ok (.bipush 6, 2) := dk_16 6 (dk_at dksX2_ends_17 16 rfl rfl)
theorem dX2_ends_413 : decode cX2_ends 413 = .ok (.aload_n 0, 1) := dk_42 (dk_at dksX2_ends_17 18 rfl rfl)
theorem dX2_ends_414 : decode cX2_ends 414 = .ok (.getfield 55, 3) := dk_180 0 55 (dk_at dksX2_ends_17 19 rfl rfl)
theorem dX2_ends_417 : decode cX2_ends 417 = .ok (.sipush 164, 3) := dk_17 0 164 (dk_at dksX2_ends_18 0 rfl rfl)
theorem dX2_ends_420 : decode cX2_ends 420 = .ok (.iload_n 2, 1) := dk_28 (dk_at dksX2_ends_18 3 rfl rfl)
theorem dX2_ends_421 : decode cX2_ends 421 = .ok (.iadd, 1) := dk_96 (dk_at dksX2_ends_18 4 rfl rfl)
theorem dX2_ends_422 : decode cX2_ends 422 = .ok (.iaload, 1) := dk_46 (dk_at dksX2_ends_18 5 rfl rfl)
theorem dX2_ends_423 : decode cX2_ends 423 = .ok (.invokevirtual 319, 3) := dk_182 1 63 (dk_at dksX2_ends_18 6 rfl rfl)
theorem dX2_ends_426 : decode cX2_ends 426 = .ok (.iinc 2 (-1), 3) := dk_132 2 255 (dk_at dksX2_ends_18 9 rfl rfl)
theorem dX2_ends_429 : decode cX2_ends 429 = .ok (.goto (-32), 3) := dk_167 255 224 (dk_at dksX2_ends_18 12 rfl rfl)
theorem dX2_ends_432 : decode cX2_ends 432 = .ok (.return_, 1) := dk_177 (dk_at dksX2_ends_18 15 rfl rfl)
abbrev cX2_fault : ByteArray := prog_24_method_34_code
def yX2_fault : MethodName := ⟨RX2, "fault", "(II)V"⟩
def dkwX2_fault_0 : List UInt8 := [42, 27, 181, 0, 110, 42, 28, 181, 0, 113, 177]
abbrev dktX2_fault_0 : List UInt8 := dkwX2_fault_0 ++ []
theorem dksX2_fault_0 : cX2_fault.data.toList.drop 0 = dktX2_fault_0 := by decide +kernel
theorem dX2_fault_0 : decode cX2_fault 0 = .ok (.aload_n 0, 1) := dk_42 (dk_at dksX2_fault_0 0 rfl rfl)
theorem dX2_fault_1 : decode cX2_fault 1 = .ok (.iload_n 1, 1) := dk_27 (dk_at dksX2_fault_0 1 rfl rfl)
theorem dX2_fault_2 : decode cX2_fault 2 = .ok (.putfield 110, 3) := dk_181 0 110 (dk_at dksX2_fault_0 2 rfl rfl)
theorem dX2_fault_5 : decode cX2_fault 5 = .ok (.aload_n 0, 1) := dk_42 (dk_at dksX2_fault_0 5 rfl rfl)
theorem dX2_fault_6 : decode cX2_fault 6 = .ok (.iload_n 2, 1) := dk_28 (dk_at dksX2_fault_0 6 rfl rfl)
theorem dX2_fault_7 : decode cX2_fault 7 = .ok (.putfield 113, 3) := dk_181 0 113 (dk_at dksX2_fault_0 7 rfl rfl)
theorem dX2_fault_10 : decode cX2_fault 10 = .ok (.return_, 1) := dk_177 (dk_at dksX2_fault_0 10 rfl rfl)
abbrev cX2_lastNode : ByteArray := prog_24_method_33_code
def yX2_lastNode : MethodName := ⟨RX2, "lastNode", "(I)I"⟩
def dkwX2_lastNode_1 : List UInt8 := [4, 96, 46, 167, 0, 9, 42, 180, 0, 43, 7, 46, 96, 4, 100, 172]
abbrev dktX2_lastNode_1 : List UInt8 := dkwX2_lastNode_1 ++ []
def dkwX2_lastNode_0 : List UInt8 := [17, 3, 192, 27, 4, 96, 42, 180, 0, 40, 7, 46, 162, 0, 18, 42, 180, 0, 52, 17, 0, 164, 27, 96]
abbrev dktX2_lastNode_0 : List UInt8 := dkwX2_lastNode_0 ++ dktX2_lastNode_1
theorem dksX2_lastNode_0 : cX2_lastNode.data.toList.drop 0 = dktX2_lastNode_0 := by decide +kernel
theorem dksX2_lastNode_1 : cX2_lastNode.data.toList.drop 24 = dktX2_lastNode_1 := dk_seg dksX2_lastNode_0 24 rfl rfl
theorem dX2_lastNode_0 : decode cX2_lastNode 0 = .ok (.sipush 960, 3) := dk_17 3 192 (dk_at dksX2_lastNode_0 0 rfl rfl)
theorem dX2_lastNode_3 : decode cX2_lastNode 3 = .ok (.iload_n 1, 1) := dk_27 (dk_at dksX2_lastNode_0 3 rfl rfl)
theorem dX2_lastNode_4 : decode cX2_lastNode 4 = .ok (.iconst 1, 1) := dk_4 (dk_at dksX2_lastNode_0 4 rfl rfl)
theorem dX2_lastNode_5 : decode cX2_lastNode 5 = .ok (.iadd, 1) := dk_96 (dk_at dksX2_lastNode_0 5 rfl rfl)
theorem dX2_lastNode_6 : decode cX2_lastNode 6 = .ok (.aload_n 0, 1) := dk_42 (dk_at dksX2_lastNode_0 6 rfl rfl)
theorem dX2_lastNode_7 : decode cX2_lastNode 7 = .ok (.getfield 40, 3) := dk_180 0 40 (dk_at dksX2_lastNode_0 7 rfl rfl)
theorem dX2_lastNode_10 : decode cX2_lastNode 10 = .ok (.iconst 4, 1) := dk_7 (dk_at dksX2_lastNode_0 10 rfl rfl)
theorem dX2_lastNode_11 : decode cX2_lastNode 11 = .ok (.iaload, 1) := dk_46 (dk_at dksX2_lastNode_0 11 rfl rfl)
theorem dX2_lastNode_12 : decode cX2_lastNode 12 = .ok (.if_icmp .ge 18, 3) := dk_162 0 18 (dk_at dksX2_lastNode_0 12 rfl rfl)
theorem dX2_lastNode_15 : decode cX2_lastNode 15 = .ok (.aload_n 0, 1) := dk_42 (dk_at dksX2_lastNode_0 15 rfl rfl)
theorem dX2_lastNode_16 : decode cX2_lastNode 16 = .ok (.getfield 52, 3) := dk_180 0 52 (dk_at dksX2_lastNode_0 16 rfl rfl)
theorem dX2_lastNode_19 : decode cX2_lastNode 19 = .ok (.sipush 164, 3) := dk_17 0 164 (dk_at dksX2_lastNode_0 19 rfl rfl)
theorem dX2_lastNode_22 : decode cX2_lastNode 22 = .ok (.iload_n 1, 1) := dk_27 (dk_at dksX2_lastNode_0 22 rfl rfl)
theorem dX2_lastNode_23 : decode cX2_lastNode 23 = .ok (.iadd, 1) := dk_96 (dk_at dksX2_lastNode_0 23 rfl rfl)
theorem dX2_lastNode_24 : decode cX2_lastNode 24 = .ok (.iconst 1, 1) := dk_4 (dk_at dksX2_lastNode_1 0 rfl rfl)
theorem dX2_lastNode_25 : decode cX2_lastNode 25 = .ok (.iadd, 1) := dk_96 (dk_at dksX2_lastNode_1 1 rfl rfl)
theorem dX2_lastNode_26 : decode cX2_lastNode 26 = .ok (.iaload, 1) := dk_46 (dk_at dksX2_lastNode_1 2 rfl rfl)
theorem dX2_lastNode_27 : decode cX2_lastNode 27 = .ok (.goto 9, 3) := dk_167 0 9 (dk_at dksX2_lastNode_1 3 rfl rfl)
theorem dX2_lastNode_30 : decode cX2_lastNode 30 = .ok (.aload_n 0, 1) := dk_42 (dk_at dksX2_lastNode_1 6 rfl rfl)
theorem dX2_lastNode_31 : decode cX2_lastNode 31 = .ok (.getfield 43, 3) := dk_180 0 43 (dk_at dksX2_lastNode_1 7 rfl rfl)
theorem dX2_lastNode_34 : decode cX2_lastNode 34 = .ok (.iconst 4, 1) := dk_7 (dk_at dksX2_lastNode_1 10 rfl rfl)
theorem dX2_lastNode_35 : decode cX2_lastNode 35 = .ok (.iaload, 1) := dk_46 (dk_at dksX2_lastNode_1 11 rfl rfl)
theorem dX2_lastNode_36 : decode cX2_lastNode 36 = .ok (.iadd, 1) := dk_96 (dk_at dksX2_lastNode_1 12 rfl rfl)
theorem dX2_lastNode_37 : decode cX2_lastNode 37 = .ok (.iconst 1, 1) := dk_4 (dk_at dksX2_lastNode_1 13 rfl rfl)
theorem dX2_lastNode_38 : decode cX2_lastNode 38 = .ok (.isub, 1) := dk_100 (dk_at dksX2_lastNode_1 14 rfl rfl)
theorem dX2_lastNode_39 : decode cX2_lastNode 39 = .ok (.ireturn, 1) := dk_172 (dk_at dksX2_lastNode_1 15 rfl rfl)
abbrev cX2_mark : ByteArray := prog_24_method_36_code
def yX2_mark : MethodName := ⟨RX2, "mark", "(I)Z"⟩
def dkwX2_mark_0 : List UInt8 := [27, 155, 0, 12, 42, 180, 0, 141, 27, 51, 153, 0, 5, 3, 172, 42, 180, 0, 141, 27, 4, 84, 4, 172]
abbrev dktX2_mark_0 : List UInt8 := dkwX2_mark_0 ++ []
theorem dksX2_mark_0 : cX2_mark.data.toList.drop 0 = dktX2_mark_0 := by decide +kernel
theorem dX2_mark_0 : decode cX2_mark 0 = .ok (.iload_n 1, 1) := dk_27 (dk_at dksX2_mark_0 0 rfl rfl)
theorem dX2_mark_1 : decode cX2_mark 1 = .ok (.ifCond .lt 12, 3) := dk_155 0 12 (dk_at dksX2_mark_0 1 rfl rfl)
theorem dX2_mark_4 : decode cX2_mark 4 = .ok (.aload_n 0, 1) := dk_42 (dk_at dksX2_mark_0 4 rfl rfl)
theorem dX2_mark_5 : decode cX2_mark 5 = .ok (.getfield 141, 3) := dk_180 0 141 (dk_at dksX2_mark_0 5 rfl rfl)
theorem dX2_mark_8 : decode cX2_mark 8 = .ok (.iload_n 1, 1) := dk_27 (dk_at dksX2_mark_0 8 rfl rfl)
theorem dX2_mark_9 : decode cX2_mark 9 = .ok (.baload, 1) := dk_51 (dk_at dksX2_mark_0 9 rfl rfl)
theorem dX2_mark_10 : decode cX2_mark 10 = .ok (.ifCond .eq 5, 3) := dk_153 0 5 (dk_at dksX2_mark_0 10 rfl rfl)
theorem dX2_mark_13 : decode cX2_mark 13 = .ok (.iconst 0, 1) := dk_3 (dk_at dksX2_mark_0 13 rfl rfl)
theorem dX2_mark_14 : decode cX2_mark 14 = .ok (.ireturn, 1) := dk_172 (dk_at dksX2_mark_0 14 rfl rfl)
theorem dX2_mark_15 : decode cX2_mark 15 = .ok (.aload_n 0, 1) := dk_42 (dk_at dksX2_mark_0 15 rfl rfl)
theorem dX2_mark_16 : decode cX2_mark 16 = .ok (.getfield 141, 3) := dk_180 0 141 (dk_at dksX2_mark_0 16 rfl rfl)
theorem dX2_mark_19 : decode cX2_mark 19 = .ok (.iload_n 1, 1) := dk_27 (dk_at dksX2_mark_0 19 rfl rfl)
theorem dX2_mark_20 : decode cX2_mark 20 = .ok (.iconst 1, 1) := dk_4 (dk_at dksX2_mark_0 20 rfl rfl)
theorem dX2_mark_21 : decode cX2_mark 21 = .ok (.bastore, 1) := dk_84 (dk_at dksX2_mark_0 21 rfl rfl)
theorem dX2_mark_22 : decode cX2_mark 22 = .ok (.iconst 1, 1) := dk_4 (dk_at dksX2_mark_0 22 rfl rfl)
theorem dX2_mark_23 : decode cX2_mark 23 = .ok (.ireturn, 1) := dk_172 (dk_at dksX2_mark_0 23 rfl rfl)
abbrev cX2_lead : ByteArray := prog_24_method_38_code
def yX2_lead : MethodName := ⟨RX2, "lead", "()V"⟩
def dkwX2_lead_6 : List UInt8 := [79, 42, 180, 0, 73, 29, 42, 42, 180, 0, 73, 29, 46, 182, 1, 75, 79, 132, 2, 1, 167, 255, 144, 177]
abbrev dktX2_lead_6 : List UInt8 := dkwX2_lead_6 ++ []
def dkwX2_lead_5 : List UInt8 := [180, 0, 58, 29, 46, 8, 160, 0, 35, 42, 180, 0, 70, 29, 42, 42, 180, 0, 70, 29, 46, 182, 1, 75]
abbrev dktX2_lead_5 : List UInt8 := dkwX2_lead_5 ++ dktX2_lead_6
def dkwX2_lead_4 : List UInt8 := [180, 0, 70, 29, 42, 180, 0, 52, 17, 0, 164, 42, 180, 0, 70, 29, 46, 96, 46, 79, 167, 0, 45, 42]
abbrev dktX2_lead_4 : List UInt8 := dkwX2_lead_4 ++ dktX2_lead_5
def dkwX2_lead_3 : List UInt8 := [180, 0, 70, 29, 28, 4, 96, 79, 167, 0, 79, 42, 180, 0, 58, 29, 46, 7, 160, 0, 27, 42]
abbrev dktX2_lead_3 : List UInt8 := dkwX2_lead_3 ++ dktX2_lead_4
def dkwX2_lead_2 : List UInt8 := [3, 61, 28, 27, 162, 0, 113, 17, 3, 192, 28, 96, 62, 42, 180, 0, 58, 29, 46, 7, 162, 0, 15, 42]
abbrev dktX2_lead_2 : List UInt8 := dkwX2_lead_2 ++ dktX2_lead_3
def dkwX2_lead_1 : List UInt8 := [42, 180, 0, 144, 27, 42, 27, 182, 1, 72, 79, 132, 1, 1, 167, 255, 232, 42, 180, 0, 43, 7, 46, 60]
abbrev dktX2_lead_1 : List UInt8 := dkwX2_lead_1 ++ dktX2_lead_2
def dkwX2_lead_0 : List UInt8 := [42, 180, 0, 46, 7, 42, 180, 0, 43, 7, 46, 79, 3, 60, 27, 42, 180, 0, 40, 7, 46, 162, 0, 20]
abbrev dktX2_lead_0 : List UInt8 := dkwX2_lead_0 ++ dktX2_lead_1
theorem dksX2_lead_0 : cX2_lead.data.toList.drop 0 = dktX2_lead_0 := by decide +kernel
theorem dksX2_lead_1 : cX2_lead.data.toList.drop 24 = dktX2_lead_1 := dk_seg dksX2_lead_0 24 rfl rfl
theorem dksX2_lead_2 : cX2_lead.data.toList.drop 48 = dktX2_lead_2 := dk_seg dksX2_lead_1 24 rfl rfl
theorem dksX2_lead_3 : cX2_lead.data.toList.drop 72 = dktX2_lead_3 := dk_seg dksX2_lead_2 24 rfl rfl
theorem dksX2_lead_4 : cX2_lead.data.toList.drop 94 = dktX2_lead_4 := dk_seg dksX2_lead_3 22 rfl rfl
theorem dksX2_lead_5 : cX2_lead.data.toList.drop 118 = dktX2_lead_5 := dk_seg dksX2_lead_4 24 rfl rfl
theorem dksX2_lead_6 : cX2_lead.data.toList.drop 142 = dktX2_lead_6 := dk_seg dksX2_lead_5 24 rfl rfl
theorem dX2_lead_0 : decode cX2_lead 0 = .ok (.aload_n 0, 1) := dk_42 (dk_at dksX2_lead_0 0 rfl rfl)
theorem dX2_lead_1 : decode cX2_lead 1 = .ok (.getfield 46, 3) := dk_180 0 46 (dk_at dksX2_lead_0 1 rfl rfl)
theorem dX2_lead_4 : decode cX2_lead 4 = .ok (.iconst 4, 1) := dk_7 (dk_at dksX2_lead_0 4 rfl rfl)
theorem dX2_lead_5 : decode cX2_lead 5 = .ok (.aload_n 0, 1) := dk_42 (dk_at dksX2_lead_0 5 rfl rfl)
theorem dX2_lead_6 : decode cX2_lead 6 = .ok (.getfield 43, 3) := dk_180 0 43 (dk_at dksX2_lead_0 6 rfl rfl)
theorem dX2_lead_9 : decode cX2_lead 9 = .ok (.iconst 4, 1) := dk_7 (dk_at dksX2_lead_0 9 rfl rfl)
theorem dX2_lead_10 : decode cX2_lead 10 = .ok (.iaload, 1) := dk_46 (dk_at dksX2_lead_0 10 rfl rfl)
theorem dX2_lead_11 : decode cX2_lead 11 = .ok (.iastore, 1) := dk_79 (dk_at dksX2_lead_0 11 rfl rfl)
theorem dX2_lead_12 : decode cX2_lead 12 = .ok (.iconst 0, 1) := dk_3 (dk_at dksX2_lead_0 12 rfl rfl)
theorem dX2_lead_13 : decode cX2_lead 13 = .ok (.istore_n 1, 1) := dk_60 (dk_at dksX2_lead_0 13 rfl rfl)
theorem dX2_lead_14 : decode cX2_lead 14 = .ok (.iload_n 1, 1) := dk_27 (dk_at dksX2_lead_0 14 rfl rfl)
theorem dX2_lead_15 : decode cX2_lead 15 = .ok (.aload_n 0, 1) := dk_42 (dk_at dksX2_lead_0 15 rfl rfl)
theorem dX2_lead_16 : decode cX2_lead 16 = .ok (.getfield 40, 3) := dk_180 0 40 (dk_at dksX2_lead_0 16 rfl rfl)
theorem dX2_lead_19 : decode cX2_lead 19 = .ok (.iconst 4, 1) := dk_7 (dk_at dksX2_lead_0 19 rfl rfl)
theorem dX2_lead_20 : decode cX2_lead 20 = .ok (.iaload, 1) := dk_46 (dk_at dksX2_lead_0 20 rfl rfl)
theorem dX2_lead_21 : decode cX2_lead 21 = .ok (.if_icmp .ge 20, 3) := dk_162 0 20 (dk_at dksX2_lead_0 21 rfl rfl)
theorem dX2_lead_24 : decode cX2_lead 24 = .ok (.aload_n 0, 1) := dk_42 (dk_at dksX2_lead_1 0 rfl rfl)
theorem dX2_lead_25 : decode cX2_lead 25 = .ok (.getfield 144, 3) := dk_180 0 144 (dk_at dksX2_lead_1 1 rfl rfl)
theorem dX2_lead_28 : decode cX2_lead 28 = .ok (.iload_n 1, 1) := dk_27 (dk_at dksX2_lead_1 4 rfl rfl)
theorem dX2_lead_29 : decode cX2_lead 29 = .ok (.aload_n 0, 1) := dk_42 (dk_at dksX2_lead_1 5 rfl rfl)
theorem dX2_lead_30 : decode cX2_lead 30 = .ok (.iload_n 1, 1) := dk_27 (dk_at dksX2_lead_1 6 rfl rfl)
theorem dX2_lead_31 : decode cX2_lead 31 = .ok (.invokevirtual 328, 3) := dk_182 1 72 (dk_at dksX2_lead_1 7 rfl rfl)
theorem dX2_lead_34 : decode cX2_lead 34 = .ok (.iastore, 1) := dk_79 (dk_at dksX2_lead_1 10 rfl rfl)
theorem dX2_lead_35 : decode cX2_lead 35 = .ok (.iinc 1 1, 3) := dk_132 1 1 (dk_at dksX2_lead_1 11 rfl rfl)
theorem dX2_lead_38 : decode cX2_lead 38 = .ok (.goto (-24), 3) := dk_167 255 232 (dk_at dksX2_lead_1 14 rfl rfl)
theorem dX2_lead_41 : decode cX2_lead 41 = .ok (.aload_n 0, 1) := dk_42 (dk_at dksX2_lead_1 17 rfl rfl)
theorem dX2_lead_42 : decode cX2_lead 42 = .ok (.getfield 43, 3) := dk_180 0 43 (dk_at dksX2_lead_1 18 rfl rfl)
theorem dX2_lead_45 : decode cX2_lead 45 = .ok (.iconst 4, 1) := dk_7 (dk_at dksX2_lead_1 21 rfl rfl)
theorem dX2_lead_46 : decode cX2_lead 46 = .ok (.iaload, 1) := dk_46 (dk_at dksX2_lead_1 22 rfl rfl)
theorem dX2_lead_47 : decode cX2_lead 47 = .ok (.istore_n 1, 1) := dk_60 (dk_at dksX2_lead_1 23 rfl rfl)
theorem dX2_lead_48 : decode cX2_lead 48 = .ok (.iconst 0, 1) := dk_3 (dk_at dksX2_lead_2 0 rfl rfl)
theorem dX2_lead_49 : decode cX2_lead 49 = .ok (.istore_n 2, 1) := dk_61 (dk_at dksX2_lead_2 1 rfl rfl)
theorem dX2_lead_50 : decode cX2_lead 50 = .ok (.iload_n 2, 1) := dk_28 (dk_at dksX2_lead_2 2 rfl rfl)
theorem dX2_lead_51 : decode cX2_lead 51 = .ok (.iload_n 1, 1) := dk_27 (dk_at dksX2_lead_2 3 rfl rfl)
theorem dX2_lead_52 : decode cX2_lead 52 = .ok (.if_icmp .ge 113, 3) := dk_162 0 113 (dk_at dksX2_lead_2 4 rfl rfl)
theorem dX2_lead_55 : decode cX2_lead 55 = .ok (.sipush 960, 3) := dk_17 3 192 (dk_at dksX2_lead_2 7 rfl rfl)
theorem dX2_lead_58 : decode cX2_lead 58 = .ok (.iload_n 2, 1) := dk_28 (dk_at dksX2_lead_2 10 rfl rfl)
theorem dX2_lead_59 : decode cX2_lead 59 = .ok (.iadd, 1) := dk_96 (dk_at dksX2_lead_2 11 rfl rfl)
theorem dX2_lead_60 : decode cX2_lead 60 = .ok (.istore_n 3, 1) := dk_62 (dk_at dksX2_lead_2 12 rfl rfl)
theorem dX2_lead_61 : decode cX2_lead 61 = .ok (.aload_n 0, 1) := dk_42 (dk_at dksX2_lead_2 13 rfl rfl)
theorem dX2_lead_62 : decode cX2_lead 62 = .ok (.getfield 58, 3) := dk_180 0 58 (dk_at dksX2_lead_2 14 rfl rfl)
theorem dX2_lead_65 : decode cX2_lead 65 = .ok (.iload_n 3, 1) := dk_29 (dk_at dksX2_lead_2 17 rfl rfl)
theorem dX2_lead_66 : decode cX2_lead 66 = .ok (.iaload, 1) := dk_46 (dk_at dksX2_lead_2 18 rfl rfl)
theorem dX2_lead_67 : decode cX2_lead 67 = .ok (.iconst 4, 1) := dk_7 (dk_at dksX2_lead_2 19 rfl rfl)
theorem dX2_lead_68 : decode cX2_lead 68 = .ok (.if_icmp .ge 15, 3) := dk_162 0 15 (dk_at dksX2_lead_2 20 rfl rfl)
theorem dX2_lead_71 : decode cX2_lead 71 = .ok (.aload_n 0, 1) := dk_42 (dk_at dksX2_lead_2 23 rfl rfl)
theorem dX2_lead_72 : decode cX2_lead 72 = .ok (.getfield 70, 3) := dk_180 0 70 (dk_at dksX2_lead_3 0 rfl rfl)
theorem dX2_lead_75 : decode cX2_lead 75 = .ok (.iload_n 3, 1) := dk_29 (dk_at dksX2_lead_3 3 rfl rfl)
theorem dX2_lead_76 : decode cX2_lead 76 = .ok (.iload_n 2, 1) := dk_28 (dk_at dksX2_lead_3 4 rfl rfl)
theorem dX2_lead_77 : decode cX2_lead 77 = .ok (.iconst 1, 1) := dk_4 (dk_at dksX2_lead_3 5 rfl rfl)
theorem dX2_lead_78 : decode cX2_lead 78 = .ok (.iadd, 1) := dk_96 (dk_at dksX2_lead_3 6 rfl rfl)
theorem dX2_lead_79 : decode cX2_lead 79 = .ok (.iastore, 1) := dk_79 (dk_at dksX2_lead_3 7 rfl rfl)
theorem dX2_lead_80 : decode cX2_lead 80 = .ok (.goto 79, 3) := dk_167 0 79 (dk_at dksX2_lead_3 8 rfl rfl)
theorem dX2_lead_83 : decode cX2_lead 83 = .ok (.aload_n 0, 1) := dk_42 (dk_at dksX2_lead_3 11 rfl rfl)
theorem dX2_lead_84 : decode cX2_lead 84 = .ok (.getfield 58, 3) := dk_180 0 58 (dk_at dksX2_lead_3 12 rfl rfl)
theorem dX2_lead_87 : decode cX2_lead 87 = .ok (.iload_n 3, 1) := dk_29 (dk_at dksX2_lead_3 15 rfl rfl)
theorem dX2_lead_88 : decode cX2_lead 88 = .ok (.iaload, 1) := dk_46 (dk_at dksX2_lead_3 16 rfl rfl)
theorem dX2_lead_89 : decode cX2_lead 89 = .ok (.iconst 4, 1) := dk_7 (dk_at dksX2_lead_3 17 rfl rfl)
theorem dX2_lead_90 : decode cX2_lead 90 = .ok (.if_icmp .ne 27, 3) := dk_160 0 27 (dk_at dksX2_lead_3 18 rfl rfl)
theorem dX2_lead_93 : decode cX2_lead 93 = .ok (.aload_n 0, 1) := dk_42 (dk_at dksX2_lead_3 21 rfl rfl)
theorem dX2_lead_94 : decode cX2_lead 94 = .ok (.getfield 70, 3) := dk_180 0 70 (dk_at dksX2_lead_4 0 rfl rfl)
theorem dX2_lead_97 : decode cX2_lead 97 = .ok (.iload_n 3, 1) := dk_29 (dk_at dksX2_lead_4 3 rfl rfl)
theorem dX2_lead_98 : decode cX2_lead 98 = .ok (.aload_n 0, 1) := dk_42 (dk_at dksX2_lead_4 4 rfl rfl)
theorem dX2_lead_99 : decode cX2_lead 99 = .ok (.getfield 52, 3) := dk_180 0 52 (dk_at dksX2_lead_4 5 rfl rfl)
theorem dX2_lead_102 : decode cX2_lead 102 = .ok (.sipush 164, 3) := dk_17 0 164 (dk_at dksX2_lead_4 8 rfl rfl)
theorem dX2_lead_105 : decode cX2_lead 105 = .ok (.aload_n 0, 1) := dk_42 (dk_at dksX2_lead_4 11 rfl rfl)
theorem dX2_lead_106 : decode cX2_lead 106 = .ok (.getfield 70, 3) := dk_180 0 70 (dk_at dksX2_lead_4 12 rfl rfl)
theorem dX2_lead_109 : decode cX2_lead 109 = .ok (.iload_n 3, 1) := dk_29 (dk_at dksX2_lead_4 15 rfl rfl)
theorem dX2_lead_110 : decode cX2_lead 110 = .ok (.iaload, 1) := dk_46 (dk_at dksX2_lead_4 16 rfl rfl)
theorem dX2_lead_111 : decode cX2_lead 111 = .ok (.iadd, 1) := dk_96 (dk_at dksX2_lead_4 17 rfl rfl)
theorem dX2_lead_112 : decode cX2_lead 112 = .ok (.iaload, 1) := dk_46 (dk_at dksX2_lead_4 18 rfl rfl)
theorem dX2_lead_113 : decode cX2_lead 113 = .ok (.iastore, 1) := dk_79 (dk_at dksX2_lead_4 19 rfl rfl)
theorem dX2_lead_114 : decode cX2_lead 114 = .ok (.goto 45, 3) := dk_167 0 45 (dk_at dksX2_lead_4 20 rfl rfl)
theorem dX2_lead_117 : decode cX2_lead 117 = .ok (.aload_n 0, 1) := dk_42 (dk_at dksX2_lead_4 23 rfl rfl)
theorem dX2_lead_118 : decode cX2_lead 118 = .ok (.getfield 58, 3) := dk_180 0 58 (dk_at dksX2_lead_5 0 rfl rfl)
theorem dX2_lead_121 : decode cX2_lead 121 = .ok (.iload_n 3, 1) := dk_29 (dk_at dksX2_lead_5 3 rfl rfl)
theorem dX2_lead_122 : decode cX2_lead 122 = .ok (.iaload, 1) := dk_46 (dk_at dksX2_lead_5 4 rfl rfl)
theorem dX2_lead_123 : decode cX2_lead 123 = .ok (.iconst 5, 1) := dk_8 (dk_at dksX2_lead_5 5 rfl rfl)
theorem dX2_lead_124 : decode cX2_lead 124 = .ok (.if_icmp .ne 35, 3) := dk_160 0 35 (dk_at dksX2_lead_5 6 rfl rfl)
theorem dX2_lead_127 : decode cX2_lead 127 = .ok (.aload_n 0, 1) := dk_42 (dk_at dksX2_lead_5 9 rfl rfl)
theorem dX2_lead_128 : decode cX2_lead 128 = .ok (.getfield 70, 3) := dk_180 0 70 (dk_at dksX2_lead_5 10 rfl rfl)
theorem dX2_lead_131 : decode cX2_lead 131 = .ok (.iload_n 3, 1) := dk_29 (dk_at dksX2_lead_5 13 rfl rfl)
theorem dX2_lead_132 : decode cX2_lead 132 = .ok (.aload_n 0, 1) := dk_42 (dk_at dksX2_lead_5 14 rfl rfl)
theorem dX2_lead_133 : decode cX2_lead 133 = .ok (.aload_n 0, 1) := dk_42 (dk_at dksX2_lead_5 15 rfl rfl)
theorem dX2_lead_134 : decode cX2_lead 134 = .ok (.getfield 70, 3) := dk_180 0 70 (dk_at dksX2_lead_5 16 rfl rfl)
theorem dX2_lead_137 : decode cX2_lead 137 = .ok (.iload_n 3, 1) := dk_29 (dk_at dksX2_lead_5 19 rfl rfl)
theorem dX2_lead_138 : decode cX2_lead 138 = .ok (.iaload, 1) := dk_46 (dk_at dksX2_lead_5 20 rfl rfl)
theorem dX2_lead_139 : decode cX2_lead 139 = .ok (.invokevirtual 331, 3) := dk_182 1 75 (dk_at dksX2_lead_5 21 rfl rfl)
theorem dX2_lead_142 : decode cX2_lead 142 = .ok (.iastore, 1) := dk_79 (dk_at dksX2_lead_6 0 rfl rfl)
theorem dX2_lead_143 : decode cX2_lead 143 = .ok (.aload_n 0, 1) := dk_42 (dk_at dksX2_lead_6 1 rfl rfl)
theorem dX2_lead_144 : decode cX2_lead 144 = .ok (.getfield 73, 3) := dk_180 0 73 (dk_at dksX2_lead_6 2 rfl rfl)
theorem dX2_lead_147 : decode cX2_lead 147 = .ok (.iload_n 3, 1) := dk_29 (dk_at dksX2_lead_6 5 rfl rfl)
theorem dX2_lead_148 : decode cX2_lead 148 = .ok (.aload_n 0, 1) := dk_42 (dk_at dksX2_lead_6 6 rfl rfl)
theorem dX2_lead_149 : decode cX2_lead 149 = .ok (.aload_n 0, 1) := dk_42 (dk_at dksX2_lead_6 7 rfl rfl)
theorem dX2_lead_150 : decode cX2_lead 150 = .ok (.getfield 73, 3) := dk_180 0 73 (dk_at dksX2_lead_6 8 rfl rfl)
theorem dX2_lead_153 : decode cX2_lead 153 = .ok (.iload_n 3, 1) := dk_29 (dk_at dksX2_lead_6 11 rfl rfl)
theorem dX2_lead_154 : decode cX2_lead 154 = .ok (.iaload, 1) := dk_46 (dk_at dksX2_lead_6 12 rfl rfl)
theorem dX2_lead_155 : decode cX2_lead 155 = .ok (.invokevirtual 331, 3) := dk_182 1 75 (dk_at dksX2_lead_6 13 rfl rfl)
theorem dX2_lead_158 : decode cX2_lead 158 = .ok (.iastore, 1) := dk_79 (dk_at dksX2_lead_6 16 rfl rfl)
theorem dX2_lead_159 : decode cX2_lead 159 = .ok (.iinc 2 1, 3) := dk_132 2 1 (dk_at dksX2_lead_6 17 rfl rfl)
theorem dX2_lead_162 : decode cX2_lead 162 = .ok (.goto (-112), 3) := dk_167 255 144 (dk_at dksX2_lead_6 20 rfl rfl)
theorem dX2_lead_165 : decode cX2_lead 165 = .ok (.return_, 1) := dk_177 (dk_at dksX2_lead_6 23 rfl rfl)
abbrev cX2_waysTo : ByteArray := prog_24_method_37_code
def yX2_waysTo : MethodName := ⟨RX2, "waysTo", "(I)I"⟩
def dkwX2_waysTo_2 : List UInt8 := [160, 0, 7, 4, 167, 0, 4, 3, 96, 96, 61, 132, 3, 1, 167, 255, 200, 28, 172]
abbrev dktX2_waysTo_2 : List UInt8 := dkwX2_waysTo_2 ++ []
def dkwX2_waysTo_1 : List UInt8 := [180, 0, 70, 21, 4, 46, 27, 160, 0, 7, 4, 167, 0, 4, 3, 42, 180, 0, 73, 21, 4, 46, 27]
abbrev dktX2_waysTo_1 : List UInt8 := dkwX2_waysTo_1 ++ dktX2_waysTo_2
def dkwX2_waysTo_0 : List UInt8 := [3, 61, 3, 62, 29, 42, 180, 0, 40, 7, 46, 162, 0, 52, 42, 29, 182, 1, 66, 54, 4, 28, 42]
abbrev dktX2_waysTo_0 : List UInt8 := dkwX2_waysTo_0 ++ dktX2_waysTo_1
theorem dksX2_waysTo_0 : cX2_waysTo.data.toList.drop 0 = dktX2_waysTo_0 := by decide +kernel
theorem dksX2_waysTo_1 : cX2_waysTo.data.toList.drop 23 = dktX2_waysTo_1 := dk_seg dksX2_waysTo_0 23 rfl rfl
theorem dksX2_waysTo_2 : cX2_waysTo.data.toList.drop 46 = dktX2_waysTo_2 := dk_seg dksX2_waysTo_1 23 rfl rfl
theorem dX2_waysTo_0 : decode cX2_waysTo 0 = .ok (.iconst 0, 1) := dk_3 (dk_at dksX2_waysTo_0 0 rfl rfl)
theorem dX2_waysTo_1 : decode cX2_waysTo 1 = .ok (.istore_n 2, 1) := dk_61 (dk_at dksX2_waysTo_0 1 rfl rfl)
theorem dX2_waysTo_2 : decode cX2_waysTo 2 = .ok (.iconst 0, 1) := dk_3 (dk_at dksX2_waysTo_0 2 rfl rfl)
theorem dX2_waysTo_3 : decode cX2_waysTo 3 = .ok (.istore_n 3, 1) := dk_62 (dk_at dksX2_waysTo_0 3 rfl rfl)
theorem dX2_waysTo_4 : decode cX2_waysTo 4 = .ok (.iload_n 3, 1) := dk_29 (dk_at dksX2_waysTo_0 4 rfl rfl)
theorem dX2_waysTo_5 : decode cX2_waysTo 5 = .ok (.aload_n 0, 1) := dk_42 (dk_at dksX2_waysTo_0 5 rfl rfl)
theorem dX2_waysTo_6 : decode cX2_waysTo 6 = .ok (.getfield 40, 3) := dk_180 0 40 (dk_at dksX2_waysTo_0 6 rfl rfl)
theorem dX2_waysTo_9 : decode cX2_waysTo 9 = .ok (.iconst 4, 1) := dk_7 (dk_at dksX2_waysTo_0 9 rfl rfl)
theorem dX2_waysTo_10 : decode cX2_waysTo 10 = .ok (.iaload, 1) := dk_46 (dk_at dksX2_waysTo_0 10 rfl rfl)
theorem dX2_waysTo_11 : decode cX2_waysTo 11 = .ok (.if_icmp .ge 52, 3) := dk_162 0 52 (dk_at dksX2_waysTo_0 11 rfl rfl)
theorem dX2_waysTo_14 : decode cX2_waysTo 14 = .ok (.aload_n 0, 1) := dk_42 (dk_at dksX2_waysTo_0 14 rfl rfl)
theorem dX2_waysTo_15 : decode cX2_waysTo 15 = .ok (.iload_n 3, 1) := dk_29 (dk_at dksX2_waysTo_0 15 rfl rfl)
theorem dX2_waysTo_16 : decode cX2_waysTo 16 = .ok (.invokevirtual 322, 3) := dk_182 1 66 (dk_at dksX2_waysTo_0 16 rfl rfl)
theorem dX2_waysTo_19 : decode cX2_waysTo 19 = .ok (.istore 4, 2) := dk_54 4 (dk_at dksX2_waysTo_0 19 rfl rfl)
theorem dX2_waysTo_21 : decode cX2_waysTo 21 = .ok (.iload_n 2, 1) := dk_28 (dk_at dksX2_waysTo_0 21 rfl rfl)
theorem dX2_waysTo_22 : decode cX2_waysTo 22 = .ok (.aload_n 0, 1) := dk_42 (dk_at dksX2_waysTo_0 22 rfl rfl)
theorem dX2_waysTo_23 : decode cX2_waysTo 23 = .ok (.getfield 70, 3) := dk_180 0 70 (dk_at dksX2_waysTo_1 0 rfl rfl)
theorem dX2_waysTo_26 : decode cX2_waysTo 26 = .ok (.iload 4, 2) := dk_21 4 (dk_at dksX2_waysTo_1 3 rfl rfl)
theorem dX2_waysTo_28 : decode cX2_waysTo 28 = .ok (.iaload, 1) := dk_46 (dk_at dksX2_waysTo_1 5 rfl rfl)
theorem dX2_waysTo_29 : decode cX2_waysTo 29 = .ok (.iload_n 1, 1) := dk_27 (dk_at dksX2_waysTo_1 6 rfl rfl)
theorem dX2_waysTo_30 : decode cX2_waysTo 30 = .ok (.if_icmp .ne 7, 3) := dk_160 0 7 (dk_at dksX2_waysTo_1 7 rfl rfl)
theorem dX2_waysTo_33 : decode cX2_waysTo 33 = .ok (.iconst 1, 1) := dk_4 (dk_at dksX2_waysTo_1 10 rfl rfl)
theorem dX2_waysTo_34 : decode cX2_waysTo 34 = .ok (.goto 4, 3) := dk_167 0 4 (dk_at dksX2_waysTo_1 11 rfl rfl)
theorem dX2_waysTo_37 : decode cX2_waysTo 37 = .ok (.iconst 0, 1) := dk_3 (dk_at dksX2_waysTo_1 14 rfl rfl)
theorem dX2_waysTo_38 : decode cX2_waysTo 38 = .ok (.aload_n 0, 1) := dk_42 (dk_at dksX2_waysTo_1 15 rfl rfl)
theorem dX2_waysTo_39 : decode cX2_waysTo 39 = .ok (.getfield 73, 3) := dk_180 0 73 (dk_at dksX2_waysTo_1 16 rfl rfl)
theorem dX2_waysTo_42 : decode cX2_waysTo 42 = .ok (.iload 4, 2) := dk_21 4 (dk_at dksX2_waysTo_1 19 rfl rfl)
theorem dX2_waysTo_44 : decode cX2_waysTo 44 = .ok (.iaload, 1) := dk_46 (dk_at dksX2_waysTo_1 21 rfl rfl)
theorem dX2_waysTo_45 : decode cX2_waysTo 45 = .ok (.iload_n 1, 1) := dk_27 (dk_at dksX2_waysTo_1 22 rfl rfl)
theorem dX2_waysTo_46 : decode cX2_waysTo 46 = .ok (.if_icmp .ne 7, 3) := dk_160 0 7 (dk_at dksX2_waysTo_2 0 rfl rfl)
theorem dX2_waysTo_49 : decode cX2_waysTo 49 = .ok (.iconst 1, 1) := dk_4 (dk_at dksX2_waysTo_2 3 rfl rfl)
theorem dX2_waysTo_50 : decode cX2_waysTo 50 = .ok (.goto 4, 3) := dk_167 0 4 (dk_at dksX2_waysTo_2 4 rfl rfl)
theorem dX2_waysTo_53 : decode cX2_waysTo 53 = .ok (.iconst 0, 1) := dk_3 (dk_at dksX2_waysTo_2 7 rfl rfl)
theorem dX2_waysTo_54 : decode cX2_waysTo 54 = .ok (.iadd, 1) := dk_96 (dk_at dksX2_waysTo_2 8 rfl rfl)
theorem dX2_waysTo_55 : decode cX2_waysTo 55 = .ok (.iadd, 1) := dk_96 (dk_at dksX2_waysTo_2 9 rfl rfl)
theorem dX2_waysTo_56 : decode cX2_waysTo 56 = .ok (.istore_n 2, 1) := dk_61 (dk_at dksX2_waysTo_2 10 rfl rfl)
theorem dX2_waysTo_57 : decode cX2_waysTo 57 = .ok (.iinc 3 1, 3) := dk_132 3 1 (dk_at dksX2_waysTo_2 11 rfl rfl)
theorem dX2_waysTo_60 : decode cX2_waysTo 60 = .ok (.goto (-56), 3) := dk_167 255 200 (dk_at dksX2_waysTo_2 14 rfl rfl)
theorem dX2_waysTo_63 : decode cX2_waysTo 63 = .ok (.iload_n 2, 1) := dk_28 (dk_at dksX2_waysTo_2 17 rfl rfl)
theorem dX2_waysTo_64 : decode cX2_waysTo 64 = .ok (.ireturn, 1) := dk_172 (dk_at dksX2_waysTo_2 18 rfl rfl)
abbrev cX2_through : ByteArray := prog_24_method_39_code
def yX2_through : MethodName := ⟨RX2, "through", "(I)I"⟩
def dkwX2_through_4 : List UInt8 := [172]
abbrev dktX2_through_4 : List UInt8 := dkwX2_through_4 ++ []
def dkwX2_through_3 : List UInt8 := [180, 0, 73, 29, 2, 79, 42, 180, 0, 43, 7, 92, 46, 4, 96, 79, 42, 180, 0, 43, 7, 46, 4, 100]
abbrev dktX2_through_3 : List UInt8 := dkwX2_through_3 ++ dktX2_through_4
def dkwX2_through_2 : List UInt8 := [27, 79, 42, 180, 0, 64, 29, 2, 79, 42, 180, 0, 67, 29, 2, 79, 42, 180, 0, 70, 29, 28, 79, 42]
abbrev dktX2_through_2 : List UInt8 := dkwX2_through_2 ++ dktX2_through_3
def dkwX2_through_1 : List UInt8 := [17, 3, 192, 42, 180, 0, 43, 7, 46, 96, 62, 42, 180, 0, 58, 29, 16, 7, 79, 42, 180, 0, 61, 29]
abbrev dktX2_through_1 : List UInt8 := dkwX2_through_1 ++ dktX2_through_2
def dkwX2_through_0 : List UInt8 := [42, 180, 0, 52, 17, 0, 164, 27, 96, 46, 61, 42, 180, 0, 144, 27, 46, 5, 162, 0, 5, 28, 172]
abbrev dktX2_through_0 : List UInt8 := dkwX2_through_0 ++ dktX2_through_1
theorem dksX2_through_0 : cX2_through.data.toList.drop 0 = dktX2_through_0 := by decide +kernel
theorem dksX2_through_1 : cX2_through.data.toList.drop 23 = dktX2_through_1 := dk_seg dksX2_through_0 23 rfl rfl
theorem dksX2_through_2 : cX2_through.data.toList.drop 47 = dktX2_through_2 := dk_seg dksX2_through_1 24 rfl rfl
theorem dksX2_through_3 : cX2_through.data.toList.drop 71 = dktX2_through_3 := dk_seg dksX2_through_2 24 rfl rfl
theorem dksX2_through_4 : cX2_through.data.toList.drop 95 = dktX2_through_4 := dk_seg dksX2_through_3 24 rfl rfl
theorem dX2_through_0 : decode cX2_through 0 = .ok (.aload_n 0, 1) := dk_42 (dk_at dksX2_through_0 0 rfl rfl)
theorem dX2_through_1 : decode cX2_through 1 = .ok (.getfield 52, 3) := dk_180 0 52 (dk_at dksX2_through_0 1 rfl rfl)
theorem dX2_through_4 : decode cX2_through 4 = .ok (.sipush 164, 3) := dk_17 0 164 (dk_at dksX2_through_0 4 rfl rfl)
theorem dX2_through_7 : decode cX2_through 7 = .ok (.iload_n 1, 1) := dk_27 (dk_at dksX2_through_0 7 rfl rfl)
theorem dX2_through_8 : decode cX2_through 8 = .ok (.iadd, 1) := dk_96 (dk_at dksX2_through_0 8 rfl rfl)
theorem dX2_through_9 : decode cX2_through 9 = .ok (.iaload, 1) := dk_46 (dk_at dksX2_through_0 9 rfl rfl)
theorem dX2_through_10 : decode cX2_through 10 = .ok (.istore_n 2, 1) := dk_61 (dk_at dksX2_through_0 10 rfl rfl)
theorem dX2_through_11 : decode cX2_through 11 = .ok (.aload_n 0, 1) := dk_42 (dk_at dksX2_through_0 11 rfl rfl)
theorem dX2_through_12 : decode cX2_through 12 = .ok (.getfield 144, 3) := dk_180 0 144 (dk_at dksX2_through_0 12 rfl rfl)
theorem dX2_through_15 : decode cX2_through 15 = .ok (.iload_n 1, 1) := dk_27 (dk_at dksX2_through_0 15 rfl rfl)
theorem dX2_through_16 : decode cX2_through 16 = .ok (.iaload, 1) := dk_46 (dk_at dksX2_through_0 16 rfl rfl)
theorem dX2_through_17 : decode cX2_through 17 = .ok (.iconst 2, 1) := dk_5 (dk_at dksX2_through_0 17 rfl rfl)
theorem dX2_through_18 : decode cX2_through 18 = .ok (.if_icmp .ge 5, 3) := dk_162 0 5 (dk_at dksX2_through_0 18 rfl rfl)
theorem dX2_through_21 : decode cX2_through 21 = .ok (.iload_n 2, 1) := dk_28 (dk_at dksX2_through_0 21 rfl rfl)
theorem dX2_through_22 : decode cX2_through 22 = .ok (.ireturn, 1) := dk_172 (dk_at dksX2_through_0 22 rfl rfl)
theorem dX2_through_23 : decode cX2_through 23 = .ok (.sipush 960, 3) := dk_17 3 192 (dk_at dksX2_through_1 0 rfl rfl)
theorem dX2_through_26 : decode cX2_through 26 = .ok (.aload_n 0, 1) := dk_42 (dk_at dksX2_through_1 3 rfl rfl)
theorem dX2_through_27 : decode cX2_through 27 = .ok (.getfield 43, 3) := dk_180 0 43 (dk_at dksX2_through_1 4 rfl rfl)
theorem dX2_through_30 : decode cX2_through 30 = .ok (.iconst 4, 1) := dk_7 (dk_at dksX2_through_1 7 rfl rfl)
theorem dX2_through_31 : decode cX2_through 31 = .ok (.iaload, 1) := dk_46 (dk_at dksX2_through_1 8 rfl rfl)
theorem dX2_through_32 : decode cX2_through 32 = .ok (.iadd, 1) := dk_96 (dk_at dksX2_through_1 9 rfl rfl)
theorem dX2_through_33 : decode cX2_through 33 = .ok (.istore_n 3, 1) := dk_62 (dk_at dksX2_through_1 10 rfl rfl)
theorem dX2_through_34 : decode cX2_through 34 = .ok (.aload_n 0, 1) := dk_42 (dk_at dksX2_through_1 11 rfl rfl)
theorem dX2_through_35 : decode cX2_through 35 = .ok (.getfield 58, 3) := dk_180 0 58 (dk_at dksX2_through_1 12 rfl rfl)
theorem dX2_through_38 : decode cX2_through 38 = .ok (.iload_n 3, 1) := dk_29 (dk_at dksX2_through_1 15 rfl rfl)
theorem dX2_through_39 : decode cX2_through 39 = .ok (.bipush 7, 2) := dk_16 7 (dk_at dksX2_through_1 16 rfl rfl)
theorem dX2_through_41 : decode cX2_through 41 = .ok (.iastore, 1) := dk_79 (dk_at dksX2_through_1 18 rfl rfl)
theorem dX2_through_42 : decode cX2_through 42 = .ok (.aload_n 0, 1) := dk_42 (dk_at dksX2_through_1 19 rfl rfl)
theorem dX2_through_43 : decode cX2_through 43 = .ok (.getfield 61, 3) := dk_180 0 61 (dk_at dksX2_through_1 20 rfl rfl)
theorem dX2_through_46 : decode cX2_through 46 = .ok (.iload_n 3, 1) := dk_29 (dk_at dksX2_through_1 23 rfl rfl)
theorem dX2_through_47 : decode cX2_through 47 = .ok (.iload_n 1, 1) := dk_27 (dk_at dksX2_through_2 0 rfl rfl)
theorem dX2_through_48 : decode cX2_through 48 = .ok (.iastore, 1) := dk_79 (dk_at dksX2_through_2 1 rfl rfl)
theorem dX2_through_49 : decode cX2_through 49 = .ok (.aload_n 0, 1) := dk_42 (dk_at dksX2_through_2 2 rfl rfl)
theorem dX2_through_50 : decode cX2_through 50 = .ok (.getfield 64, 3) := dk_180 0 64 (dk_at dksX2_through_2 3 rfl rfl)
theorem dX2_through_53 : decode cX2_through 53 = .ok (.iload_n 3, 1) := dk_29 (dk_at dksX2_through_2 6 rfl rfl)
theorem dX2_through_54 : decode cX2_through 54 = .ok (.iconst (-1), 1) := dk_2 (dk_at dksX2_through_2 7 rfl rfl)
theorem dX2_through_55 : decode cX2_through 55 = .ok (.iastore, 1) := dk_79 (dk_at dksX2_through_2 8 rfl rfl)
theorem dX2_through_56 : decode cX2_through 56 = .ok (.aload_n 0, 1) := dk_42 (dk_at dksX2_through_2 9 rfl rfl)
theorem dX2_through_57 : decode cX2_through 57 = .ok (.getfield 67, 3) := dk_180 0 67 (dk_at dksX2_through_2 10 rfl rfl)
theorem dX2_through_60 : decode cX2_through 60 = .ok (.iload_n 3, 1) := dk_29 (dk_at dksX2_through_2 13 rfl rfl)
theorem dX2_through_61 : decode cX2_through 61 = .ok (.iconst (-1), 1) := dk_2 (dk_at dksX2_through_2 14 rfl rfl)
theorem dX2_through_62 : decode cX2_through 62 = .ok (.iastore, 1) := dk_79 (dk_at dksX2_through_2 15 rfl rfl)
theorem dX2_through_63 : decode cX2_through 63 = .ok (.aload_n 0, 1) := dk_42 (dk_at dksX2_through_2 16 rfl rfl)
theorem dX2_through_64 : decode cX2_through 64 = .ok (.getfield 70, 3) := dk_180 0 70 (dk_at dksX2_through_2 17 rfl rfl)
theorem dX2_through_67 : decode cX2_through 67 = .ok (.iload_n 3, 1) := dk_29 (dk_at dksX2_through_2 20 rfl rfl)
theorem dX2_through_68 : decode cX2_through 68 = .ok (.iload_n 2, 1) := dk_28 (dk_at dksX2_through_2 21 rfl rfl)
theorem dX2_through_69 : decode cX2_through 69 = .ok (.iastore, 1) := dk_79 (dk_at dksX2_through_2 22 rfl rfl)
theorem dX2_through_70 : decode cX2_through 70 = .ok (.aload_n 0, 1) := dk_42 (dk_at dksX2_through_2 23 rfl rfl)
theorem dX2_through_71 : decode cX2_through 71 = .ok (.getfield 73, 3) := dk_180 0 73 (dk_at dksX2_through_3 0 rfl rfl)
theorem dX2_through_74 : decode cX2_through 74 = .ok (.iload_n 3, 1) := dk_29 (dk_at dksX2_through_3 3 rfl rfl)
theorem dX2_through_75 : decode cX2_through 75 = .ok (.iconst (-1), 1) := dk_2 (dk_at dksX2_through_3 4 rfl rfl)
theorem dX2_through_76 : decode cX2_through 76 = .ok (.iastore, 1) := dk_79 (dk_at dksX2_through_3 5 rfl rfl)
theorem dX2_through_77 : decode cX2_through 77 = .ok (.aload_n 0, 1) := dk_42 (dk_at dksX2_through_3 6 rfl rfl)
theorem dX2_through_78 : decode cX2_through 78 = .ok (.getfield 43, 3) := dk_180 0 43 (dk_at dksX2_through_3 7 rfl rfl)
theorem dX2_through_81 : decode cX2_through 81 = .ok (.iconst 4, 1) := dk_7 (dk_at dksX2_through_3 10 rfl rfl)
theorem dX2_through_82 : decode cX2_through 82 = .ok (.dup2, 1) := dk_92 (dk_at dksX2_through_3 11 rfl rfl)
theorem dX2_through_83 : decode cX2_through 83 = .ok (.iaload, 1) := dk_46 (dk_at dksX2_through_3 12 rfl rfl)
theorem dX2_through_84 : decode cX2_through 84 = .ok (.iconst 1, 1) := dk_4 (dk_at dksX2_through_3 13 rfl rfl)
theorem dX2_through_85 : decode cX2_through 85 = .ok (.iadd, 1) := dk_96 (dk_at dksX2_through_3 14 rfl rfl)
theorem dX2_through_86 : decode cX2_through 86 = .ok (.iastore, 1) := dk_79 (dk_at dksX2_through_3 15 rfl rfl)
theorem dX2_through_87 : decode cX2_through 87 = .ok (.aload_n 0, 1) := dk_42 (dk_at dksX2_through_3 16 rfl rfl)
theorem dX2_through_88 : decode cX2_through 88 = .ok (.getfield 43, 3) := dk_180 0 43 (dk_at dksX2_through_3 17 rfl rfl)
theorem dX2_through_91 : decode cX2_through 91 = .ok (.iconst 4, 1) := dk_7 (dk_at dksX2_through_3 20 rfl rfl)
theorem dX2_through_92 : decode cX2_through 92 = .ok (.iaload, 1) := dk_46 (dk_at dksX2_through_3 21 rfl rfl)
theorem dX2_through_93 : decode cX2_through 93 = .ok (.iconst 1, 1) := dk_4 (dk_at dksX2_through_3 22 rfl rfl)
theorem dX2_through_94 : decode cX2_through 94 = .ok (.isub, 1) := dk_100 (dk_at dksX2_through_3 23 rfl rfl)
theorem dX2_through_95 : decode cX2_through 95 = .ok (.ireturn, 1) := dk_172 (dk_at dksX2_through_4 0 rfl rfl)
abbrev cX2_settle : ByteArray := prog_24_method_45_code
def yX2_settle : MethodName := ⟨RX2, "settle", "(I)V"⟩
def dkwX2_settle_9 : List UInt8 := [92, 46, 16, 64, 128, 79, 132, 3, 1, 167, 255, 198, 42, 27, 17, 0, 128, 182, 1, 88, 177]
abbrev dktX2_settle_9 : List UInt8 := dkwX2_settle_9 ++ []
def dkwX2_settle_8 : List UInt8 := [182, 1, 91, 154, 0, 14, 42, 28, 29, 16, 32, 182, 1, 98, 154, 0, 16, 42, 180, 0, 107, 28, 29, 96]
abbrev dktX2_settle_8 : List UInt8 := dkwX2_settle_8 ++ dktX2_settle_9
def dkwX2_settle_7 : List UInt8 := [180, 0, 43, 7, 46, 162, 0, 54, 42, 28, 29, 16, 32, 182, 1, 91, 153, 0, 37, 42, 28, 29, 4]
abbrev dktX2_settle_7 : List UInt8 := dkwX2_settle_7 ++ dktX2_settle_8
def dkwX2_settle_6 : List UInt8 := [46, 16, 16, 128, 79, 132, 3, 1, 167, 255, 207, 42, 27, 16, 32, 182, 1, 88, 3, 62, 29, 42]
abbrev dktX2_settle_6 : List UInt8 := dkwX2_settle_6 ++ dktX2_settle_7
def dkwX2_settle_5 : List UInt8 := [153, 0, 29, 29, 153, 0, 12, 42, 28, 29, 182, 1, 95, 153, 0, 16, 42, 180, 0, 107, 28, 29, 96, 92]
abbrev dktX2_settle_5 : List UInt8 := dkwX2_settle_5 ++ dktX2_settle_6
def dkwX2_settle_4 : List UInt8 := [182, 1, 88, 3, 62, 29, 42, 180, 0, 43, 7, 46, 162, 0, 45, 42, 28, 29, 7, 182, 1, 91]
abbrev dktX2_settle_4 : List UInt8 := dkwX2_settle_4 ++ dktX2_settle_5
def dkwX2_settle_3 : List UInt8 := [128, 17, 0, 128, 128, 79, 132, 3, 1, 167, 255, 184, 42, 27, 7, 182, 1, 88, 42, 27, 16, 8]
abbrev dktX2_settle_3 : List UInt8 := dkwX2_settle_3 ++ dktX2_settle_4
def dkwX2_settle_2 : List UInt8 := [3, 42, 21, 4, 27, 182, 1, 85, 153, 0, 7, 5, 167, 0, 4, 3, 128, 7, 128, 16, 8, 128, 16, 32]
abbrev dktX2_settle_2 : List UInt8 := dkwX2_settle_2 ++ dktX2_settle_3
def dkwX2_settle_1 : List UInt8 := [54, 4, 42, 180, 0, 107, 28, 29, 96, 42, 180, 0, 67, 21, 4, 46, 27, 160, 0, 7, 4, 167, 0, 4]
abbrev dktX2_settle_1 : List UInt8 := dkwX2_settle_1 ++ dktX2_settle_2
def dkwX2_settle_0 : List UInt8 := [42, 7, 27, 182, 1, 82, 61, 3, 62, 29, 42, 180, 0, 43, 7, 46, 162, 0, 68, 17, 3, 192, 29, 96]
abbrev dktX2_settle_0 : List UInt8 := dkwX2_settle_0 ++ dktX2_settle_1
theorem dksX2_settle_0 : cX2_settle.data.toList.drop 0 = dktX2_settle_0 := by decide +kernel
theorem dksX2_settle_1 : cX2_settle.data.toList.drop 24 = dktX2_settle_1 := dk_seg dksX2_settle_0 24 rfl rfl
theorem dksX2_settle_2 : cX2_settle.data.toList.drop 48 = dktX2_settle_2 := dk_seg dksX2_settle_1 24 rfl rfl
theorem dksX2_settle_3 : cX2_settle.data.toList.drop 72 = dktX2_settle_3 := dk_seg dksX2_settle_2 24 rfl rfl
theorem dksX2_settle_4 : cX2_settle.data.toList.drop 94 = dktX2_settle_4 := dk_seg dksX2_settle_3 22 rfl rfl
theorem dksX2_settle_5 : cX2_settle.data.toList.drop 116 = dktX2_settle_5 := dk_seg dksX2_settle_4 22 rfl rfl
theorem dksX2_settle_6 : cX2_settle.data.toList.drop 140 = dktX2_settle_6 := dk_seg dksX2_settle_5 24 rfl rfl
theorem dksX2_settle_7 : cX2_settle.data.toList.drop 162 = dktX2_settle_7 := dk_seg dksX2_settle_6 22 rfl rfl
theorem dksX2_settle_8 : cX2_settle.data.toList.drop 185 = dktX2_settle_8 := dk_seg dksX2_settle_7 23 rfl rfl
theorem dksX2_settle_9 : cX2_settle.data.toList.drop 209 = dktX2_settle_9 := dk_seg dksX2_settle_8 24 rfl rfl
theorem dX2_settle_0 : decode cX2_settle 0 = .ok (.aload_n 0, 1) := dk_42 (dk_at dksX2_settle_0 0 rfl rfl)
theorem dX2_settle_1 : decode cX2_settle 1 = .ok (.iconst 4, 1) := dk_7 (dk_at dksX2_settle_0 1 rfl rfl)
theorem dX2_settle_2 : decode cX2_settle 2 = .ok (.iload_n 1, 1) := dk_27 (dk_at dksX2_settle_0 2 rfl rfl)
theorem dX2_settle_3 : decode cX2_settle 3 = .ok (.invokevirtual 338, 3) := dk_182 1 82 (dk_at dksX2_settle_0 3 rfl rfl)
theorem dX2_settle_6 : decode cX2_settle 6 = .ok (.istore_n 2, 1) := dk_61 (dk_at dksX2_settle_0 6 rfl rfl)
theorem dX2_settle_7 : decode cX2_settle 7 = .ok (.iconst 0, 1) := dk_3 (dk_at dksX2_settle_0 7 rfl rfl)
theorem dX2_settle_8 : decode cX2_settle 8 = .ok (.istore_n 3, 1) := dk_62 (dk_at dksX2_settle_0 8 rfl rfl)
theorem dX2_settle_9 : decode cX2_settle 9 = .ok (.iload_n 3, 1) := dk_29 (dk_at dksX2_settle_0 9 rfl rfl)
theorem dX2_settle_10 : decode cX2_settle 10 = .ok (.aload_n 0, 1) := dk_42 (dk_at dksX2_settle_0 10 rfl rfl)
theorem dX2_settle_11 : decode cX2_settle 11 = .ok (.getfield 43, 3) := dk_180 0 43 (dk_at dksX2_settle_0 11 rfl rfl)
theorem dX2_settle_14 : decode cX2_settle 14 = .ok (.iconst 4, 1) := dk_7 (dk_at dksX2_settle_0 14 rfl rfl)
theorem dX2_settle_15 : decode cX2_settle 15 = .ok (.iaload, 1) := dk_46 (dk_at dksX2_settle_0 15 rfl rfl)
theorem dX2_settle_16 : decode cX2_settle 16 = .ok (.if_icmp .ge 68, 3) := dk_162 0 68 (dk_at dksX2_settle_0 16 rfl rfl)
theorem dX2_settle_19 : decode cX2_settle 19 = .ok (.sipush 960, 3) := dk_17 3 192 (dk_at dksX2_settle_0 19 rfl rfl)
theorem dX2_settle_22 : decode cX2_settle 22 = .ok (.iload_n 3, 1) := dk_29 (dk_at dksX2_settle_0 22 rfl rfl)
theorem dX2_settle_23 : decode cX2_settle 23 = .ok (.iadd, 1) := dk_96 (dk_at dksX2_settle_0 23 rfl rfl)
theorem dX2_settle_24 : decode cX2_settle 24 = .ok (.istore 4, 2) := dk_54 4 (dk_at dksX2_settle_1 0 rfl rfl)
theorem dX2_settle_26 : decode cX2_settle 26 = .ok (.aload_n 0, 1) := dk_42 (dk_at dksX2_settle_1 2 rfl rfl)
theorem dX2_settle_27 : decode cX2_settle 27 = .ok (.getfield 107, 3) := dk_180 0 107 (dk_at dksX2_settle_1 3 rfl rfl)
theorem dX2_settle_30 : decode cX2_settle 30 = .ok (.iload_n 2, 1) := dk_28 (dk_at dksX2_settle_1 6 rfl rfl)
theorem dX2_settle_31 : decode cX2_settle 31 = .ok (.iload_n 3, 1) := dk_29 (dk_at dksX2_settle_1 7 rfl rfl)
theorem dX2_settle_32 : decode cX2_settle 32 = .ok (.iadd, 1) := dk_96 (dk_at dksX2_settle_1 8 rfl rfl)
theorem dX2_settle_33 : decode cX2_settle 33 = .ok (.aload_n 0, 1) := dk_42 (dk_at dksX2_settle_1 9 rfl rfl)
theorem dX2_settle_34 : decode cX2_settle 34 = .ok (.getfield 67, 3) := dk_180 0 67 (dk_at dksX2_settle_1 10 rfl rfl)
theorem dX2_settle_37 : decode cX2_settle 37 = .ok (.iload 4, 2) := dk_21 4 (dk_at dksX2_settle_1 13 rfl rfl)
theorem dX2_settle_39 : decode cX2_settle 39 = .ok (.iaload, 1) := dk_46 (dk_at dksX2_settle_1 15 rfl rfl)
theorem dX2_settle_40 : decode cX2_settle 40 = .ok (.iload_n 1, 1) := dk_27 (dk_at dksX2_settle_1 16 rfl rfl)
theorem dX2_settle_41 : decode cX2_settle 41 = .ok (.if_icmp .ne 7, 3) := dk_160 0 7 (dk_at dksX2_settle_1 17 rfl rfl)
theorem dX2_settle_44 : decode cX2_settle 44 = .ok (.iconst 1, 1) := dk_4 (dk_at dksX2_settle_1 20 rfl rfl)
theorem dX2_settle_45 : decode cX2_settle 45 = .ok (.goto 4, 3) := dk_167 0 4 (dk_at dksX2_settle_1 21 rfl rfl)
theorem dX2_settle_48 : decode cX2_settle 48 = .ok (.iconst 0, 1) := dk_3 (dk_at dksX2_settle_2 0 rfl rfl)
theorem dX2_settle_49 : decode cX2_settle 49 = .ok (.aload_n 0, 1) := dk_42 (dk_at dksX2_settle_2 1 rfl rfl)
theorem dX2_settle_50 : decode cX2_settle 50 = .ok (.iload 4, 2) := dk_21 4 (dk_at dksX2_settle_2 2 rfl rfl)
theorem dX2_settle_52 : decode cX2_settle 52 = .ok (.iload_n 1, 1) := dk_27 (dk_at dksX2_settle_2 4 rfl rfl)
theorem dX2_settle_53 : decode cX2_settle 53 = .ok (.invokevirtual 341, 3) := dk_182 1 85 (dk_at dksX2_settle_2 5 rfl rfl)
theorem dX2_settle_56 : decode cX2_settle 56 = .ok (.ifCond .eq 7, 3) := dk_153 0 7 (dk_at dksX2_settle_2 8 rfl rfl)
theorem dX2_settle_59 : decode cX2_settle 59 = .ok (.iconst 2, 1) := dk_5 (dk_at dksX2_settle_2 11 rfl rfl)
theorem dX2_settle_60 : decode cX2_settle 60 = .ok (.goto 4, 3) := dk_167 0 4 (dk_at dksX2_settle_2 12 rfl rfl)
theorem dX2_settle_63 : decode cX2_settle 63 = .ok (.iconst 0, 1) := dk_3 (dk_at dksX2_settle_2 15 rfl rfl)
theorem dX2_settle_64 : decode cX2_settle 64 = .ok (.ior, 1) := dk_128 (dk_at dksX2_settle_2 16 rfl rfl)
theorem dX2_settle_65 : decode cX2_settle 65 = .ok (.iconst 4, 1) := dk_7 (dk_at dksX2_settle_2 17 rfl rfl)
theorem dX2_settle_66 : decode cX2_settle 66 = .ok (.ior, 1) := dk_128 (dk_at dksX2_settle_2 18 rfl rfl)
theorem dX2_settle_67 : decode cX2_settle 67 = .ok (.bipush 8, 2) := dk_16 8 (dk_at dksX2_settle_2 19 rfl rfl)
theorem dX2_settle_69 : decode cX2_settle 69 = .ok (.ior, 1) := dk_128 (dk_at dksX2_settle_2 21 rfl rfl)
theorem dX2_settle_70 : decode cX2_settle 70 = .ok (.bipush 32, 2) := dk_16 32 (dk_at dksX2_settle_2 22 rfl rfl)
theorem dX2_settle_72 : decode cX2_settle 72 = .ok (.ior, 1) := dk_128 (dk_at dksX2_settle_3 0 rfl rfl)
theorem dX2_settle_73 : decode cX2_settle 73 = .ok (.sipush 128, 3) := dk_17 0 128 (dk_at dksX2_settle_3 1 rfl rfl)
theorem dX2_settle_76 : decode cX2_settle 76 = .ok (.ior, 1) := dk_128 (dk_at dksX2_settle_3 4 rfl rfl)
theorem dX2_settle_77 : decode cX2_settle 77 = .ok (.iastore, 1) := dk_79 (dk_at dksX2_settle_3 5 rfl rfl)
theorem dX2_settle_78 : decode cX2_settle 78 = .ok (.iinc 3 1, 3) := dk_132 3 1 (dk_at dksX2_settle_3 6 rfl rfl)
theorem dX2_settle_81 : decode cX2_settle 81 = .ok (.goto (-72), 3) := dk_167 255 184 (dk_at dksX2_settle_3 9 rfl rfl)
theorem dX2_settle_84 : decode cX2_settle 84 = .ok (.aload_n 0, 1) := dk_42 (dk_at dksX2_settle_3 12 rfl rfl)
theorem dX2_settle_85 : decode cX2_settle 85 = .ok (.iload_n 1, 1) := dk_27 (dk_at dksX2_settle_3 13 rfl rfl)
theorem dX2_settle_86 : decode cX2_settle 86 = .ok (.iconst 4, 1) := dk_7 (dk_at dksX2_settle_3 14 rfl rfl)
theorem dX2_settle_87 : decode cX2_settle 87 = .ok (.invokevirtual 344, 3) := dk_182 1 88 (dk_at dksX2_settle_3 15 rfl rfl)
theorem dX2_settle_90 : decode cX2_settle 90 = .ok (.aload_n 0, 1) := dk_42 (dk_at dksX2_settle_3 18 rfl rfl)
theorem dX2_settle_91 : decode cX2_settle 91 = .ok (.iload_n 1, 1) := dk_27 (dk_at dksX2_settle_3 19 rfl rfl)
theorem dX2_settle_92 : decode cX2_settle 92 = .ok (.bipush 8, 2) := dk_16 8 (dk_at dksX2_settle_3 20 rfl rfl)
theorem dX2_settle_94 : decode cX2_settle 94 = .ok (.invokevirtual 344, 3) := dk_182 1 88 (dk_at dksX2_settle_4 0 rfl rfl)
theorem dX2_settle_97 : decode cX2_settle 97 = .ok (.iconst 0, 1) := dk_3 (dk_at dksX2_settle_4 3 rfl rfl)
theorem dX2_settle_98 : decode cX2_settle 98 = .ok (.istore_n 3, 1) := dk_62 (dk_at dksX2_settle_4 4 rfl rfl)
theorem dX2_settle_99 : decode cX2_settle 99 = .ok (.iload_n 3, 1) := dk_29 (dk_at dksX2_settle_4 5 rfl rfl)
theorem dX2_settle_100 : decode cX2_settle 100 = .ok (.aload_n 0, 1) := dk_42 (dk_at dksX2_settle_4 6 rfl rfl)
theorem dX2_settle_101 : decode cX2_settle 101 = .ok (.getfield 43, 3) := dk_180 0 43 (dk_at dksX2_settle_4 7 rfl rfl)
theorem dX2_settle_104 : decode cX2_settle 104 = .ok (.iconst 4, 1) := dk_7 (dk_at dksX2_settle_4 10 rfl rfl)
theorem dX2_settle_105 : decode cX2_settle 105 = .ok (.iaload, 1) := dk_46 (dk_at dksX2_settle_4 11 rfl rfl)
theorem dX2_settle_106 : decode cX2_settle 106 = .ok (.if_icmp .ge 45, 3) := dk_162 0 45 (dk_at dksX2_settle_4 12 rfl rfl)
theorem dX2_settle_109 : decode cX2_settle 109 = .ok (.aload_n 0, 1) := dk_42 (dk_at dksX2_settle_4 15 rfl rfl)
theorem dX2_settle_110 : decode cX2_settle 110 = .ok (.iload_n 2, 1) := dk_28 (dk_at dksX2_settle_4 16 rfl rfl)
theorem dX2_settle_111 : decode cX2_settle 111 = .ok (.iload_n 3, 1) := dk_29 (dk_at dksX2_settle_4 17 rfl rfl)
theorem dX2_settle_112 : decode cX2_settle 112 = .ok (.iconst 4, 1) := dk_7 (dk_at dksX2_settle_4 18 rfl rfl)
theorem dX2_settle_113 : decode cX2_settle 113 = .ok (.invokevirtual 347, 3) := dk_182 1 91 (dk_at dksX2_settle_4 19 rfl rfl)
theorem dX2_settle_116 : decode cX2_settle 116 = .ok (.ifCond .eq 29, 3) := dk_153 0 29 (dk_at dksX2_settle_5 0 rfl rfl)
theorem dX2_settle_119 : decode cX2_settle 119 = .ok (.iload_n 3, 1) := dk_29 (dk_at dksX2_settle_5 3 rfl rfl)
theorem dX2_settle_120 : decode cX2_settle 120 = .ok (.ifCond .eq 12, 3) := dk_153 0 12 (dk_at dksX2_settle_5 4 rfl rfl)
theorem dX2_settle_123 : decode cX2_settle 123 = .ok (.aload_n 0, 1) := dk_42 (dk_at dksX2_settle_5 7 rfl rfl)
theorem dX2_settle_124 : decode cX2_settle 124 = .ok (.iload_n 2, 1) := dk_28 (dk_at dksX2_settle_5 8 rfl rfl)
theorem dX2_settle_125 : decode cX2_settle 125 = .ok (.iload_n 3, 1) := dk_29 (dk_at dksX2_settle_5 9 rfl rfl)
theorem dX2_settle_126 : decode cX2_settle 126 = .ok (.invokevirtual 351, 3) := dk_182 1 95 (dk_at dksX2_settle_5 10 rfl rfl)
theorem dX2_settle_129 : decode cX2_settle 129 = .ok (.ifCond .eq 16, 3) := dk_153 0 16 (dk_at dksX2_settle_5 13 rfl rfl)
theorem dX2_settle_132 : decode cX2_settle 132 = .ok (.aload_n 0, 1) := dk_42 (dk_at dksX2_settle_5 16 rfl rfl)
theorem dX2_settle_133 : decode cX2_settle 133 = .ok (.getfield 107, 3) := dk_180 0 107 (dk_at dksX2_settle_5 17 rfl rfl)
theorem dX2_settle_136 : decode cX2_settle 136 = .ok (.iload_n 2, 1) := dk_28 (dk_at dksX2_settle_5 20 rfl rfl)
theorem dX2_settle_137 : decode cX2_settle 137 = .ok (.iload_n 3, 1) := dk_29 (dk_at dksX2_settle_5 21 rfl rfl)
theorem dX2_settle_138 : decode cX2_settle 138 = .ok (.iadd, 1) := dk_96 (dk_at dksX2_settle_5 22 rfl rfl)
theorem dX2_settle_139 : decode cX2_settle 139 = .ok (.dup2, 1) := dk_92 (dk_at dksX2_settle_5 23 rfl rfl)
theorem dX2_settle_140 : decode cX2_settle 140 = .ok (.iaload, 1) := dk_46 (dk_at dksX2_settle_6 0 rfl rfl)
theorem dX2_settle_141 : decode cX2_settle 141 = .ok (.bipush 16, 2) := dk_16 16 (dk_at dksX2_settle_6 1 rfl rfl)
theorem dX2_settle_143 : decode cX2_settle 143 = .ok (.ior, 1) := dk_128 (dk_at dksX2_settle_6 3 rfl rfl)
theorem dX2_settle_144 : decode cX2_settle 144 = .ok (.iastore, 1) := dk_79 (dk_at dksX2_settle_6 4 rfl rfl)
theorem dX2_settle_145 : decode cX2_settle 145 = .ok (.iinc 3 1, 3) := dk_132 3 1 (dk_at dksX2_settle_6 5 rfl rfl)
theorem dX2_settle_148 : decode cX2_settle 148 = .ok (.goto (-49), 3) := dk_167 255 207 (dk_at dksX2_settle_6 8 rfl rfl)
theorem dX2_settle_151 : decode cX2_settle 151 = .ok (.aload_n 0, 1) := dk_42 (dk_at dksX2_settle_6 11 rfl rfl)
theorem dX2_settle_152 : decode cX2_settle 152 = .ok (.iload_n 1, 1) := dk_27 (dk_at dksX2_settle_6 12 rfl rfl)
theorem dX2_settle_153 : decode cX2_settle 153 = .ok (.bipush 32, 2) := dk_16 32 (dk_at dksX2_settle_6 13 rfl rfl)
theorem dX2_settle_155 : decode cX2_settle 155 = .ok (.invokevirtual 344, 3) := dk_182 1 88 (dk_at dksX2_settle_6 15 rfl rfl)
theorem dX2_settle_158 : decode cX2_settle 158 = .ok (.iconst 0, 1) := dk_3 (dk_at dksX2_settle_6 18 rfl rfl)
theorem dX2_settle_159 : decode cX2_settle 159 = .ok (.istore_n 3, 1) := dk_62 (dk_at dksX2_settle_6 19 rfl rfl)
theorem dX2_settle_160 : decode cX2_settle 160 = .ok (.iload_n 3, 1) := dk_29 (dk_at dksX2_settle_6 20 rfl rfl)
theorem dX2_settle_161 : decode cX2_settle 161 = .ok (.aload_n 0, 1) := dk_42 (dk_at dksX2_settle_6 21 rfl rfl)
theorem dX2_settle_162 : decode cX2_settle 162 = .ok (.getfield 43, 3) := dk_180 0 43 (dk_at dksX2_settle_7 0 rfl rfl)
theorem dX2_settle_165 : decode cX2_settle 165 = .ok (.iconst 4, 1) := dk_7 (dk_at dksX2_settle_7 3 rfl rfl)
theorem dX2_settle_166 : decode cX2_settle 166 = .ok (.iaload, 1) := dk_46 (dk_at dksX2_settle_7 4 rfl rfl)
theorem dX2_settle_167 : decode cX2_settle 167 = .ok (.if_icmp .ge 54, 3) := dk_162 0 54 (dk_at dksX2_settle_7 5 rfl rfl)
theorem dX2_settle_170 : decode cX2_settle 170 = .ok (.aload_n 0, 1) := dk_42 (dk_at dksX2_settle_7 8 rfl rfl)
theorem dX2_settle_171 : decode cX2_settle 171 = .ok (.iload_n 2, 1) := dk_28 (dk_at dksX2_settle_7 9 rfl rfl)
theorem dX2_settle_172 : decode cX2_settle 172 = .ok (.iload_n 3, 1) := dk_29 (dk_at dksX2_settle_7 10 rfl rfl)
theorem dX2_settle_173 : decode cX2_settle 173 = .ok (.bipush 32, 2) := dk_16 32 (dk_at dksX2_settle_7 11 rfl rfl)
theorem dX2_settle_175 : decode cX2_settle 175 = .ok (.invokevirtual 347, 3) := dk_182 1 91 (dk_at dksX2_settle_7 13 rfl rfl)
theorem dX2_settle_178 : decode cX2_settle 178 = .ok (.ifCond .eq 37, 3) := dk_153 0 37 (dk_at dksX2_settle_7 16 rfl rfl)
theorem dX2_settle_181 : decode cX2_settle 181 = .ok (.aload_n 0, 1) := dk_42 (dk_at dksX2_settle_7 19 rfl rfl)
theorem dX2_settle_182 : decode cX2_settle 182 = .ok (.iload_n 2, 1) := dk_28 (dk_at dksX2_settle_7 20 rfl rfl)
theorem dX2_settle_183 : decode cX2_settle 183 = .ok (.iload_n 3, 1) := dk_29 (dk_at dksX2_settle_7 21 rfl rfl)
theorem dX2_settle_184 : decode cX2_settle 184 = .ok (.iconst 1, 1) := dk_4 (dk_at dksX2_settle_7 22 rfl rfl)
theorem dX2_settle_185 : decode cX2_settle 185 = .ok (.invokevirtual 347, 3) := dk_182 1 91 (dk_at dksX2_settle_8 0 rfl rfl)
theorem dX2_settle_188 : decode cX2_settle 188 = .ok (.ifCond .ne 14, 3) := dk_154 0 14 (dk_at dksX2_settle_8 3 rfl rfl)
theorem dX2_settle_191 : decode cX2_settle 191 = .ok (.aload_n 0, 1) := dk_42 (dk_at dksX2_settle_8 6 rfl rfl)
theorem dX2_settle_192 : decode cX2_settle 192 = .ok (.iload_n 2, 1) := dk_28 (dk_at dksX2_settle_8 7 rfl rfl)
theorem dX2_settle_193 : decode cX2_settle 193 = .ok (.iload_n 3, 1) := dk_29 (dk_at dksX2_settle_8 8 rfl rfl)
theorem dX2_settle_194 : decode cX2_settle 194 = .ok (.bipush 32, 2) := dk_16 32 (dk_at dksX2_settle_8 9 rfl rfl)
theorem dX2_settle_196 : decode cX2_settle 196 = .ok (.invokevirtual 354, 3) := dk_182 1 98 (dk_at dksX2_settle_8 11 rfl rfl)
theorem dX2_settle_199 : decode cX2_settle 199 = .ok (.ifCond .ne 16, 3) := dk_154 0 16 (dk_at dksX2_settle_8 14 rfl rfl)
theorem dX2_settle_202 : decode cX2_settle 202 = .ok (.aload_n 0, 1) := dk_42 (dk_at dksX2_settle_8 17 rfl rfl)
theorem dX2_settle_203 : decode cX2_settle 203 = .ok (.getfield 107, 3) := dk_180 0 107 (dk_at dksX2_settle_8 18 rfl rfl)
theorem dX2_settle_206 : decode cX2_settle 206 = .ok (.iload_n 2, 1) := dk_28 (dk_at dksX2_settle_8 21 rfl rfl)
theorem dX2_settle_207 : decode cX2_settle 207 = .ok (.iload_n 3, 1) := dk_29 (dk_at dksX2_settle_8 22 rfl rfl)
theorem dX2_settle_208 : decode cX2_settle 208 = .ok (.iadd, 1) := dk_96 (dk_at dksX2_settle_8 23 rfl rfl)
theorem dX2_settle_209 : decode cX2_settle 209 = .ok (.dup2, 1) := dk_92 (dk_at dksX2_settle_9 0 rfl rfl)
theorem dX2_settle_210 : decode cX2_settle 210 = .ok (.iaload, 1) := dk_46 (dk_at dksX2_settle_9 1 rfl rfl)
theorem dX2_settle_211 : decode cX2_settle 211 = .ok (.bipush 64, 2) := dk_16 64 (dk_at dksX2_settle_9 2 rfl rfl)
theorem dX2_settle_213 : decode cX2_settle 213 = .ok (.ior, 1) := dk_128 (dk_at dksX2_settle_9 4 rfl rfl)
theorem dX2_settle_214 : decode cX2_settle 214 = .ok (.iastore, 1) := dk_79 (dk_at dksX2_settle_9 5 rfl rfl)
theorem dX2_settle_215 : decode cX2_settle 215 = .ok (.iinc 3 1, 3) := dk_132 3 1 (dk_at dksX2_settle_9 6 rfl rfl)
theorem dX2_settle_218 : decode cX2_settle 218 = .ok (.goto (-58), 3) := dk_167 255 198 (dk_at dksX2_settle_9 9 rfl rfl)
theorem dX2_settle_221 : decode cX2_settle 221 = .ok (.aload_n 0, 1) := dk_42 (dk_at dksX2_settle_9 12 rfl rfl)
theorem dX2_settle_222 : decode cX2_settle 222 = .ok (.iload_n 1, 1) := dk_27 (dk_at dksX2_settle_9 13 rfl rfl)
theorem dX2_settle_223 : decode cX2_settle 223 = .ok (.sipush 128, 3) := dk_17 0 128 (dk_at dksX2_settle_9 14 rfl rfl)
theorem dX2_settle_226 : decode cX2_settle 226 = .ok (.invokevirtual 344, 3) := dk_182 1 88 (dk_at dksX2_settle_9 17 rfl rfl)
theorem dX2_settle_229 : decode cX2_settle 229 = .ok (.return_, 1) := dk_177 (dk_at dksX2_settle_9 20 rfl rfl)
abbrev cX2_base : ByteArray := prog_24_method_43_code
def yX2_base : MethodName := ⟨RX2, "base", "(II)I"⟩
def dkwX2_base_0 : List UInt8 := [16, 32, 27, 104, 28, 96, 17, 0, 240, 104, 172]
abbrev dktX2_base_0 : List UInt8 := dkwX2_base_0 ++ []
theorem dksX2_base_0 : cX2_base.data.toList.drop 0 = dktX2_base_0 := by decide +kernel
theorem dX2_base_0 : decode cX2_base 0 = .ok (.bipush 32, 2) := dk_16 32 (dk_at dksX2_base_0 0 rfl rfl)
theorem dX2_base_2 : decode cX2_base 2 = .ok (.iload_n 1, 1) := dk_27 (dk_at dksX2_base_0 2 rfl rfl)
theorem dX2_base_3 : decode cX2_base 3 = .ok (.imul, 1) := dk_104 (dk_at dksX2_base_0 3 rfl rfl)
theorem dX2_base_4 : decode cX2_base 4 = .ok (.iload_n 2, 1) := dk_28 (dk_at dksX2_base_0 4 rfl rfl)
theorem dX2_base_5 : decode cX2_base 5 = .ok (.iadd, 1) := dk_96 (dk_at dksX2_base_0 5 rfl rfl)
theorem dX2_base_6 : decode cX2_base 6 = .ok (.sipush 240, 3) := dk_17 0 240 (dk_at dksX2_base_0 6 rfl rfl)
theorem dX2_base_9 : decode cX2_base 9 = .ok (.imul, 1) := dk_104 (dk_at dksX2_base_0 9 rfl rfl)
theorem dX2_base_10 : decode cX2_base 10 = .ok (.ireturn, 1) := dk_172 (dk_at dksX2_base_0 10 rfl rfl)
abbrev cX2_kills : ByteArray := prog_24_method_41_code
def yX2_kills : MethodName := ⟨RX2, "kills", "(II)Z"⟩
def dkwX2_kills_3 : List UInt8 := [42, 180, 0, 100, 29, 46, 42, 180, 0, 64, 27, 46, 160, 0, 7, 4, 167, 0, 4, 3, 172]
abbrev dktX2_kills_3 : List UInt8 := dkwX2_kills_3 ++ []
def dkwX2_kills_2 : List UInt8 := [42, 180, 0, 64, 27, 46, 155, 0, 37, 42, 180, 0, 94, 29, 46, 42, 180, 0, 64, 27, 46, 159, 0, 18]
abbrev dktX2_kills_2 : List UInt8 := dkwX2_kills_2 ++ dktX2_kills_3
def dkwX2_kills_1 : List UInt8 := [160, 0, 22, 42, 180, 0, 97, 29, 46, 42, 180, 0, 88, 27, 46, 160, 0, 7, 4, 167, 0, 4, 3, 172]
abbrev dktX2_kills_1 : List UInt8 := dkwX2_kills_1 ++ dktX2_kills_2
def dkwX2_kills_0 : List UInt8 := [17, 0, 128, 28, 96, 62, 42, 180, 0, 58, 27, 46, 5, 160, 0, 35, 42, 180, 0, 91, 29, 46, 16, 114]
abbrev dktX2_kills_0 : List UInt8 := dkwX2_kills_0 ++ dktX2_kills_1
theorem dksX2_kills_0 : cX2_kills.data.toList.drop 0 = dktX2_kills_0 := by decide +kernel
theorem dksX2_kills_1 : cX2_kills.data.toList.drop 24 = dktX2_kills_1 := dk_seg dksX2_kills_0 24 rfl rfl
theorem dksX2_kills_2 : cX2_kills.data.toList.drop 48 = dktX2_kills_2 := dk_seg dksX2_kills_1 24 rfl rfl
theorem dksX2_kills_3 : cX2_kills.data.toList.drop 72 = dktX2_kills_3 := dk_seg dksX2_kills_2 24 rfl rfl
theorem dX2_kills_0 : decode cX2_kills 0 = .ok (.sipush 128, 3) := dk_17 0 128 (dk_at dksX2_kills_0 0 rfl rfl)
theorem dX2_kills_3 : decode cX2_kills 3 = .ok (.iload_n 2, 1) := dk_28 (dk_at dksX2_kills_0 3 rfl rfl)
theorem dX2_kills_4 : decode cX2_kills 4 = .ok (.iadd, 1) := dk_96 (dk_at dksX2_kills_0 4 rfl rfl)
theorem dX2_kills_5 : decode cX2_kills 5 = .ok (.istore_n 3, 1) := dk_62 (dk_at dksX2_kills_0 5 rfl rfl)
theorem dX2_kills_6 : decode cX2_kills 6 = .ok (.aload_n 0, 1) := dk_42 (dk_at dksX2_kills_0 6 rfl rfl)
theorem dX2_kills_7 : decode cX2_kills 7 = .ok (.getfield 58, 3) := dk_180 0 58 (dk_at dksX2_kills_0 7 rfl rfl)
theorem dX2_kills_10 : decode cX2_kills 10 = .ok (.iload_n 1, 1) := dk_27 (dk_at dksX2_kills_0 10 rfl rfl)
theorem dX2_kills_11 : decode cX2_kills 11 = .ok (.iaload, 1) := dk_46 (dk_at dksX2_kills_0 11 rfl rfl)
theorem dX2_kills_12 : decode cX2_kills 12 = .ok (.iconst 2, 1) := dk_5 (dk_at dksX2_kills_0 12 rfl rfl)
theorem dX2_kills_13 : decode cX2_kills 13 = .ok (.if_icmp .ne 35, 3) := dk_160 0 35 (dk_at dksX2_kills_0 13 rfl rfl)
theorem dX2_kills_16 : decode cX2_kills 16 = .ok (.aload_n 0, 1) := dk_42 (dk_at dksX2_kills_0 16 rfl rfl)
theorem dX2_kills_17 : decode cX2_kills 17 = .ok (.getfield 91, 3) := dk_180 0 91 (dk_at dksX2_kills_0 17 rfl rfl)
theorem dX2_kills_20 : decode cX2_kills 20 = .ok (.iload_n 3, 1) := dk_29 (dk_at dksX2_kills_0 20 rfl rfl)
theorem dX2_kills_21 : decode cX2_kills 21 = .ok (.iaload, 1) := dk_46 (dk_at dksX2_kills_0 21 rfl rfl)
theorem dX2_kills_22 : decode cX2_kills 22 = .ok (.bipush 114, 2) := dk_16 114 (dk_at dksX2_kills_0 22 rfl rfl)
theorem dX2_kills_24 : decode cX2_kills 24 = .ok (.if_icmp .ne 22, 3) := dk_160 0 22 (dk_at dksX2_kills_1 0 rfl rfl)
theorem dX2_kills_27 : decode cX2_kills 27 = .ok (.aload_n 0, 1) := dk_42 (dk_at dksX2_kills_1 3 rfl rfl)
theorem dX2_kills_28 : decode cX2_kills 28 = .ok (.getfield 97, 3) := dk_180 0 97 (dk_at dksX2_kills_1 4 rfl rfl)
theorem dX2_kills_31 : decode cX2_kills 31 = .ok (.iload_n 3, 1) := dk_29 (dk_at dksX2_kills_1 7 rfl rfl)
theorem dX2_kills_32 : decode cX2_kills 32 = .ok (.iaload, 1) := dk_46 (dk_at dksX2_kills_1 8 rfl rfl)
theorem dX2_kills_33 : decode cX2_kills 33 = .ok (.aload_n 0, 1) := dk_42 (dk_at dksX2_kills_1 9 rfl rfl)
theorem dX2_kills_34 : decode cX2_kills 34 = .ok (.getfield 88, 3) := dk_180 0 88 (dk_at dksX2_kills_1 10 rfl rfl)
theorem dX2_kills_37 : decode cX2_kills 37 = .ok (.iload_n 1, 1) := dk_27 (dk_at dksX2_kills_1 13 rfl rfl)
theorem dX2_kills_38 : decode cX2_kills 38 = .ok (.iaload, 1) := dk_46 (dk_at dksX2_kills_1 14 rfl rfl)
theorem dX2_kills_39 : decode cX2_kills 39 = .ok (.if_icmp .ne 7, 3) := dk_160 0 7 (dk_at dksX2_kills_1 15 rfl rfl)
theorem dX2_kills_42 : decode cX2_kills 42 = .ok (.iconst 1, 1) := dk_4 (dk_at dksX2_kills_1 18 rfl rfl)
theorem dX2_kills_43 : decode cX2_kills 43 = .ok (.goto 4, 3) := dk_167 0 4 (dk_at dksX2_kills_1 19 rfl rfl)
theorem dX2_kills_46 : decode cX2_kills 46 = .ok (.iconst 0, 1) := dk_3 (dk_at dksX2_kills_1 22 rfl rfl)
theorem dX2_kills_47 : decode cX2_kills 47 = .ok (.ireturn, 1) := dk_172 (dk_at dksX2_kills_1 23 rfl rfl)
theorem dX2_kills_48 : decode cX2_kills 48 = .ok (.aload_n 0, 1) := dk_42 (dk_at dksX2_kills_2 0 rfl rfl)
theorem dX2_kills_49 : decode cX2_kills 49 = .ok (.getfield 64, 3) := dk_180 0 64 (dk_at dksX2_kills_2 1 rfl rfl)
theorem dX2_kills_52 : decode cX2_kills 52 = .ok (.iload_n 1, 1) := dk_27 (dk_at dksX2_kills_2 4 rfl rfl)
theorem dX2_kills_53 : decode cX2_kills 53 = .ok (.iaload, 1) := dk_46 (dk_at dksX2_kills_2 5 rfl rfl)
theorem dX2_kills_54 : decode cX2_kills 54 = .ok (.ifCond .lt 37, 3) := dk_155 0 37 (dk_at dksX2_kills_2 6 rfl rfl)
theorem dX2_kills_57 : decode cX2_kills 57 = .ok (.aload_n 0, 1) := dk_42 (dk_at dksX2_kills_2 9 rfl rfl)
theorem dX2_kills_58 : decode cX2_kills 58 = .ok (.getfield 94, 3) := dk_180 0 94 (dk_at dksX2_kills_2 10 rfl rfl)
theorem dX2_kills_61 : decode cX2_kills 61 = .ok (.iload_n 3, 1) := dk_29 (dk_at dksX2_kills_2 13 rfl rfl)
theorem dX2_kills_62 : decode cX2_kills 62 = .ok (.iaload, 1) := dk_46 (dk_at dksX2_kills_2 14 rfl rfl)
theorem dX2_kills_63 : decode cX2_kills 63 = .ok (.aload_n 0, 1) := dk_42 (dk_at dksX2_kills_2 15 rfl rfl)
theorem dX2_kills_64 : decode cX2_kills 64 = .ok (.getfield 64, 3) := dk_180 0 64 (dk_at dksX2_kills_2 16 rfl rfl)
theorem dX2_kills_67 : decode cX2_kills 67 = .ok (.iload_n 1, 1) := dk_27 (dk_at dksX2_kills_2 19 rfl rfl)
theorem dX2_kills_68 : decode cX2_kills 68 = .ok (.iaload, 1) := dk_46 (dk_at dksX2_kills_2 20 rfl rfl)
theorem dX2_kills_69 : decode cX2_kills 69 = .ok (.if_icmp .eq 18, 3) := dk_159 0 18 (dk_at dksX2_kills_2 21 rfl rfl)
theorem dX2_kills_72 : decode cX2_kills 72 = .ok (.aload_n 0, 1) := dk_42 (dk_at dksX2_kills_3 0 rfl rfl)
theorem dX2_kills_73 : decode cX2_kills 73 = .ok (.getfield 100, 3) := dk_180 0 100 (dk_at dksX2_kills_3 1 rfl rfl)
theorem dX2_kills_76 : decode cX2_kills 76 = .ok (.iload_n 3, 1) := dk_29 (dk_at dksX2_kills_3 4 rfl rfl)
theorem dX2_kills_77 : decode cX2_kills 77 = .ok (.iaload, 1) := dk_46 (dk_at dksX2_kills_3 5 rfl rfl)
theorem dX2_kills_78 : decode cX2_kills 78 = .ok (.aload_n 0, 1) := dk_42 (dk_at dksX2_kills_3 6 rfl rfl)
theorem dX2_kills_79 : decode cX2_kills 79 = .ok (.getfield 64, 3) := dk_180 0 64 (dk_at dksX2_kills_3 7 rfl rfl)
theorem dX2_kills_82 : decode cX2_kills 82 = .ok (.iload_n 1, 1) := dk_27 (dk_at dksX2_kills_3 10 rfl rfl)
theorem dX2_kills_83 : decode cX2_kills 83 = .ok (.iaload, 1) := dk_46 (dk_at dksX2_kills_3 11 rfl rfl)
theorem dX2_kills_84 : decode cX2_kills 84 = .ok (.if_icmp .ne 7, 3) := dk_160 0 7 (dk_at dksX2_kills_3 12 rfl rfl)
theorem dX2_kills_87 : decode cX2_kills 87 = .ok (.iconst 1, 1) := dk_4 (dk_at dksX2_kills_3 15 rfl rfl)
theorem dX2_kills_88 : decode cX2_kills 88 = .ok (.goto 4, 3) := dk_167 0 4 (dk_at dksX2_kills_3 16 rfl rfl)
theorem dX2_kills_91 : decode cX2_kills 91 = .ok (.iconst 0, 1) := dk_3 (dk_at dksX2_kills_3 19 rfl rfl)
theorem dX2_kills_92 : decode cX2_kills 92 = .ok (.ireturn, 1) := dk_172 (dk_at dksX2_kills_3 20 rfl rfl)
abbrev cX2_narrow : ByteArray := prog_24_method_46_code
def yX2_narrow : MethodName := ⟨RX2, "narrow", "(II)V"⟩
def dkwX2_narrow_3 : List UInt8 := [79, 4, 54, 4, 132, 5, 1, 167, 255, 198, 167, 255, 184, 177]
abbrev dktX2_narrow_3 : List UInt8 := dkwX2_narrow_3 ++ []
def dkwX2_narrow_2 : List UInt8 := [28, 182, 1, 101, 153, 0, 6, 167, 0, 21, 42, 180, 0, 107, 29, 21, 5, 96, 92, 46, 28, 2, 130, 126]
abbrev dktX2_narrow_2 : List UInt8 := dkwX2_narrow_2 ++ dktX2_narrow_3
def dkwX2_narrow_1 : List UInt8 := [180, 0, 43, 7, 46, 162, 0, 53, 42, 29, 21, 5, 28, 182, 1, 91, 153, 0, 36, 42, 27, 29, 21, 5]
abbrev dktX2_narrow_1 : List UInt8 := dkwX2_narrow_1 ++ dktX2_narrow_2
def dkwX2_narrow_0 : List UInt8 := [42, 7, 27, 182, 1, 82, 62, 4, 54, 4, 21, 4, 153, 0, 73, 3, 54, 4, 3, 54, 5, 21, 5, 42]
abbrev dktX2_narrow_0 : List UInt8 := dkwX2_narrow_0 ++ dktX2_narrow_1
theorem dksX2_narrow_0 : cX2_narrow.data.toList.drop 0 = dktX2_narrow_0 := by decide +kernel
theorem dksX2_narrow_1 : cX2_narrow.data.toList.drop 24 = dktX2_narrow_1 := dk_seg dksX2_narrow_0 24 rfl rfl
theorem dksX2_narrow_2 : cX2_narrow.data.toList.drop 48 = dktX2_narrow_2 := dk_seg dksX2_narrow_1 24 rfl rfl
theorem dksX2_narrow_3 : cX2_narrow.data.toList.drop 72 = dktX2_narrow_3 := dk_seg dksX2_narrow_2 24 rfl rfl
theorem dX2_narrow_0 : decode cX2_narrow 0 = .ok (.aload_n 0, 1) := dk_42 (dk_at dksX2_narrow_0 0 rfl rfl)
theorem dX2_narrow_1 : decode cX2_narrow 1 = .ok (.iconst 4, 1) := dk_7 (dk_at dksX2_narrow_0 1 rfl rfl)
theorem dX2_narrow_2 : decode cX2_narrow 2 = .ok (.iload_n 1, 1) := dk_27 (dk_at dksX2_narrow_0 2 rfl rfl)
theorem dX2_narrow_3 : decode cX2_narrow 3 = .ok (.invokevirtual 338, 3) := dk_182 1 82 (dk_at dksX2_narrow_0 3 rfl rfl)
theorem dX2_narrow_6 : decode cX2_narrow 6 = .ok (.istore_n 3, 1) := dk_62 (dk_at dksX2_narrow_0 6 rfl rfl)
theorem dX2_narrow_7 : decode cX2_narrow 7 = .ok (.iconst 1, 1) := dk_4 (dk_at dksX2_narrow_0 7 rfl rfl)
theorem dX2_narrow_8 : decode cX2_narrow 8 = .ok (.istore 4, 2) := dk_54 4 (dk_at dksX2_narrow_0 8 rfl rfl)
theorem dX2_narrow_10 : decode cX2_narrow 10 = .ok (.iload 4, 2) := dk_21 4 (dk_at dksX2_narrow_0 10 rfl rfl)
theorem dX2_narrow_12 : decode cX2_narrow 12 = .ok (.ifCond .eq 73, 3) := dk_153 0 73 (dk_at dksX2_narrow_0 12 rfl rfl)
theorem dX2_narrow_15 : decode cX2_narrow 15 = .ok (.iconst 0, 1) := dk_3 (dk_at dksX2_narrow_0 15 rfl rfl)
theorem dX2_narrow_16 : decode cX2_narrow 16 = .ok (.istore 4, 2) := dk_54 4 (dk_at dksX2_narrow_0 16 rfl rfl)
theorem dX2_narrow_18 : decode cX2_narrow 18 = .ok (.iconst 0, 1) := dk_3 (dk_at dksX2_narrow_0 18 rfl rfl)
theorem dX2_narrow_19 : decode cX2_narrow 19 = .ok (.istore 5, 2) := dk_54 5 (dk_at dksX2_narrow_0 19 rfl rfl)
theorem dX2_narrow_21 : decode cX2_narrow 21 = .ok (.iload 5, 2) := dk_21 5 (dk_at dksX2_narrow_0 21 rfl rfl)
theorem dX2_narrow_23 : decode cX2_narrow 23 = .ok (.aload_n 0, 1) := dk_42 (dk_at dksX2_narrow_0 23 rfl rfl)
theorem dX2_narrow_24 : decode cX2_narrow 24 = .ok (.getfield 43, 3) := dk_180 0 43 (dk_at dksX2_narrow_1 0 rfl rfl)
theorem dX2_narrow_27 : decode cX2_narrow 27 = .ok (.iconst 4, 1) := dk_7 (dk_at dksX2_narrow_1 3 rfl rfl)
theorem dX2_narrow_28 : decode cX2_narrow 28 = .ok (.iaload, 1) := dk_46 (dk_at dksX2_narrow_1 4 rfl rfl)
theorem dX2_narrow_29 : decode cX2_narrow 29 = .ok (.if_icmp .ge 53, 3) := dk_162 0 53 (dk_at dksX2_narrow_1 5 rfl rfl)
theorem dX2_narrow_32 : decode cX2_narrow 32 = .ok (.aload_n 0, 1) := dk_42 (dk_at dksX2_narrow_1 8 rfl rfl)
theorem dX2_narrow_33 : decode cX2_narrow 33 = .ok (.iload_n 3, 1) := dk_29 (dk_at dksX2_narrow_1 9 rfl rfl)
theorem dX2_narrow_34 : decode cX2_narrow 34 = .ok (.iload 5, 2) := dk_21 5 (dk_at dksX2_narrow_1 10 rfl rfl)
theorem dX2_narrow_36 : decode cX2_narrow 36 = .ok (.iload_n 2, 1) := dk_28 (dk_at dksX2_narrow_1 12 rfl rfl)
theorem dX2_narrow_37 : decode cX2_narrow 37 = .ok (.invokevirtual 347, 3) := dk_182 1 91 (dk_at dksX2_narrow_1 13 rfl rfl)
theorem dX2_narrow_40 : decode cX2_narrow 40 = .ok (.ifCond .eq 36, 3) := dk_153 0 36 (dk_at dksX2_narrow_1 16 rfl rfl)
theorem dX2_narrow_43 : decode cX2_narrow 43 = .ok (.aload_n 0, 1) := dk_42 (dk_at dksX2_narrow_1 19 rfl rfl)
theorem dX2_narrow_44 : decode cX2_narrow 44 = .ok (.iload_n 1, 1) := dk_27 (dk_at dksX2_narrow_1 20 rfl rfl)
theorem dX2_narrow_45 : decode cX2_narrow 45 = .ok (.iload_n 3, 1) := dk_29 (dk_at dksX2_narrow_1 21 rfl rfl)
theorem dX2_narrow_46 : decode cX2_narrow 46 = .ok (.iload 5, 2) := dk_21 5 (dk_at dksX2_narrow_1 22 rfl rfl)
theorem dX2_narrow_48 : decode cX2_narrow 48 = .ok (.iload_n 2, 1) := dk_28 (dk_at dksX2_narrow_2 0 rfl rfl)
theorem dX2_narrow_49 : decode cX2_narrow 49 = .ok (.invokevirtual 357, 3) := dk_182 1 101 (dk_at dksX2_narrow_2 1 rfl rfl)
theorem dX2_narrow_52 : decode cX2_narrow 52 = .ok (.ifCond .eq 6, 3) := dk_153 0 6 (dk_at dksX2_narrow_2 4 rfl rfl)
theorem dX2_narrow_55 : decode cX2_narrow 55 = .ok (.goto 21, 3) := dk_167 0 21 (dk_at dksX2_narrow_2 7 rfl rfl)
theorem dX2_narrow_58 : decode cX2_narrow 58 = .ok (.aload_n 0, 1) := dk_42 (dk_at dksX2_narrow_2 10 rfl rfl)
theorem dX2_narrow_59 : decode cX2_narrow 59 = .ok (.getfield 107, 3) := dk_180 0 107 (dk_at dksX2_narrow_2 11 rfl rfl)
theorem dX2_narrow_62 : decode cX2_narrow 62 = .ok (.iload_n 3, 1) := dk_29 (dk_at dksX2_narrow_2 14 rfl rfl)
theorem dX2_narrow_63 : decode cX2_narrow 63 = .ok (.iload 5, 2) := dk_21 5 (dk_at dksX2_narrow_2 15 rfl rfl)
theorem dX2_narrow_65 : decode cX2_narrow 65 = .ok (.iadd, 1) := dk_96 (dk_at dksX2_narrow_2 17 rfl rfl)
theorem dX2_narrow_66 : decode cX2_narrow 66 = .ok (.dup2, 1) := dk_92 (dk_at dksX2_narrow_2 18 rfl rfl)
theorem dX2_narrow_67 : decode cX2_narrow 67 = .ok (.iaload, 1) := dk_46 (dk_at dksX2_narrow_2 19 rfl rfl)
theorem dX2_narrow_68 : decode cX2_narrow 68 = .ok (.iload_n 2, 1) := dk_28 (dk_at dksX2_narrow_2 20 rfl rfl)
theorem dX2_narrow_69 : decode cX2_narrow 69 = .ok (.iconst (-1), 1) := dk_2 (dk_at dksX2_narrow_2 21 rfl rfl)
theorem dX2_narrow_70 : decode cX2_narrow 70 = .ok (.ixor, 1) := dk_130 (dk_at dksX2_narrow_2 22 rfl rfl)
theorem dX2_narrow_71 : decode cX2_narrow 71 = .ok (.iand, 1) := dk_126 (dk_at dksX2_narrow_2 23 rfl rfl)
theorem dX2_narrow_72 : decode cX2_narrow 72 = .ok (.iastore, 1) := dk_79 (dk_at dksX2_narrow_3 0 rfl rfl)
theorem dX2_narrow_73 : decode cX2_narrow 73 = .ok (.iconst 1, 1) := dk_4 (dk_at dksX2_narrow_3 1 rfl rfl)
theorem dX2_narrow_74 : decode cX2_narrow 74 = .ok (.istore 4, 2) := dk_54 4 (dk_at dksX2_narrow_3 2 rfl rfl)
theorem dX2_narrow_76 : decode cX2_narrow 76 = .ok (.iinc 5 1, 3) := dk_132 5 1 (dk_at dksX2_narrow_3 4 rfl rfl)
theorem dX2_narrow_79 : decode cX2_narrow 79 = .ok (.goto (-58), 3) := dk_167 255 198 (dk_at dksX2_narrow_3 7 rfl rfl)
theorem dX2_narrow_82 : decode cX2_narrow 82 = .ok (.goto (-72), 3) := dk_167 255 184 (dk_at dksX2_narrow_3 10 rfl rfl)
theorem dX2_narrow_85 : decode cX2_narrow 85 = .ok (.return_, 1) := dk_177 (dk_at dksX2_narrow_3 13 rfl rfl)
abbrev cX2_is : ByteArray := prog_24_method_44_code
def yX2_is : MethodName := ⟨RX2, "is", "(III)Z"⟩
def dkwX2_is_0 : List UInt8 := [42, 180, 0, 107, 27, 28, 96, 46, 29, 126, 153, 0, 7, 4, 167, 0, 4, 3, 172]
abbrev dktX2_is_0 : List UInt8 := dkwX2_is_0 ++ []
theorem dksX2_is_0 : cX2_is.data.toList.drop 0 = dktX2_is_0 := by decide +kernel
theorem dX2_is_0 : decode cX2_is 0 = .ok (.aload_n 0, 1) := dk_42 (dk_at dksX2_is_0 0 rfl rfl)
theorem dX2_is_1 : decode cX2_is 1 = .ok (.getfield 107, 3) := dk_180 0 107 (dk_at dksX2_is_0 1 rfl rfl)
theorem dX2_is_4 : decode cX2_is 4 = .ok (.iload_n 1, 1) := dk_27 (dk_at dksX2_is_0 4 rfl rfl)
theorem dX2_is_5 : decode cX2_is 5 = .ok (.iload_n 2, 1) := dk_28 (dk_at dksX2_is_0 5 rfl rfl)
theorem dX2_is_6 : decode cX2_is 6 = .ok (.iadd, 1) := dk_96 (dk_at dksX2_is_0 6 rfl rfl)
theorem dX2_is_7 : decode cX2_is 7 = .ok (.iaload, 1) := dk_46 (dk_at dksX2_is_0 7 rfl rfl)
theorem dX2_is_8 : decode cX2_is 8 = .ok (.iload_n 3, 1) := dk_29 (dk_at dksX2_is_0 8 rfl rfl)
theorem dX2_is_9 : decode cX2_is 9 = .ok (.iand, 1) := dk_126 (dk_at dksX2_is_0 9 rfl rfl)
theorem dX2_is_10 : decode cX2_is 10 = .ok (.ifCond .eq 7, 3) := dk_153 0 7 (dk_at dksX2_is_0 10 rfl rfl)
theorem dX2_is_13 : decode cX2_is 13 = .ok (.iconst 1, 1) := dk_4 (dk_at dksX2_is_0 13 rfl rfl)
theorem dX2_is_14 : decode cX2_is 14 = .ok (.goto 4, 3) := dk_167 0 4 (dk_at dksX2_is_0 14 rfl rfl)
theorem dX2_is_17 : decode cX2_is 17 = .ok (.iconst 0, 1) := dk_3 (dk_at dksX2_is_0 17 rfl rfl)
theorem dX2_is_18 : decode cX2_is 18 = .ok (.ireturn, 1) := dk_172 (dk_at dksX2_is_0 18 rfl rfl)
abbrev cX2_holds : ByteArray := prog_24_method_47_code
def yX2_holds : MethodName := ⟨RX2, "holds", "(IIII)Z"⟩
def dkwX2_holds_8 : List UInt8 := [46, 182, 1, 111, 153, 0, 7, 4, 167, 0, 4, 3, 172]
abbrev dktX2_holds_8 : List UInt8 := dkwX2_holds_8 ++ []
def dkwX2_holds_7 : List UInt8 := [182, 1, 111, 153, 0, 32, 42, 180, 0, 73, 21, 5, 46, 155, 0, 18, 42, 28, 42, 180, 0, 73, 21, 5]
abbrev dktX2_holds_7 : List UInt8 := dkwX2_holds_7 ++ dktX2_holds_8
def dkwX2_holds_6 : List UInt8 := [167, 0, 4, 3, 172, 42, 180, 0, 70, 21, 5, 46, 155, 0, 18, 42, 28, 42, 180, 0, 70, 21, 5, 46]
abbrev dktX2_holds_6 : List UInt8 := dkwX2_holds_6 ++ dktX2_holds_7
def dkwX2_holds_5 : List UInt8 := [16, 16, 182, 1, 91, 154, 0, 18, 29, 158, 0, 18, 42, 28, 29, 16, 32, 182, 1, 108, 153, 0, 7, 4]
abbrev dktX2_holds_5 : List UInt8 := dkwX2_holds_5 ++ dktX2_holds_6
def dkwX2_holds_4 : List UInt8 := [16, 8, 182, 1, 108, 153, 0, 7, 4, 167, 0, 4, 3, 172, 21, 4, 16, 32, 160, 0, 35, 42, 28, 29]
abbrev dktX2_holds_4 : List UInt8 := dkwX2_holds_4 ++ dktX2_holds_5
def dkwX2_holds_3 : List UInt8 := [154, 0, 7, 4, 167, 0, 4, 3, 172, 21, 4, 16, 8, 160, 0, 24, 29, 158, 0, 18, 42, 28, 29]
abbrev dktX2_holds_3 : List UInt8 := dkwX2_holds_3 ++ dktX2_holds_4
def dkwX2_holds_2 : List UInt8 := [7, 182, 1, 98, 153, 0, 25, 42, 7, 27, 182, 1, 78, 153, 0, 12, 42, 21, 5, 182, 1, 105]
abbrev dktX2_holds_2 : List UInt8 := dkwX2_holds_2 ++ dktX2_holds_3
def dkwX2_holds_1 : List UInt8 := [28, 29, 5, 182, 1, 91, 154, 0, 47, 42, 180, 0, 58, 21, 5, 46, 16, 6, 159, 0, 35, 42, 28, 29]
abbrev dktX2_holds_1 : List UInt8 := dkwX2_holds_1 ++ dktX2_holds_2
def dkwX2_holds_0 : List UInt8 := [17, 3, 192, 29, 96, 54, 5, 21, 4, 7, 160, 0, 69, 42, 28, 29, 4, 182, 1, 91, 154, 0, 53, 42]
abbrev dktX2_holds_0 : List UInt8 := dkwX2_holds_0 ++ dktX2_holds_1
theorem dksX2_holds_0 : cX2_holds.data.toList.drop 0 = dktX2_holds_0 := by decide +kernel
theorem dksX2_holds_1 : cX2_holds.data.toList.drop 24 = dktX2_holds_1 := dk_seg dksX2_holds_0 24 rfl rfl
theorem dksX2_holds_2 : cX2_holds.data.toList.drop 48 = dktX2_holds_2 := dk_seg dksX2_holds_1 24 rfl rfl
theorem dksX2_holds_3 : cX2_holds.data.toList.drop 70 = dktX2_holds_3 := dk_seg dksX2_holds_2 22 rfl rfl
theorem dksX2_holds_4 : cX2_holds.data.toList.drop 93 = dktX2_holds_4 := dk_seg dksX2_holds_3 23 rfl rfl
theorem dksX2_holds_5 : cX2_holds.data.toList.drop 117 = dktX2_holds_5 := dk_seg dksX2_holds_4 24 rfl rfl
theorem dksX2_holds_6 : cX2_holds.data.toList.drop 141 = dktX2_holds_6 := dk_seg dksX2_holds_5 24 rfl rfl
theorem dksX2_holds_7 : cX2_holds.data.toList.drop 165 = dktX2_holds_7 := dk_seg dksX2_holds_6 24 rfl rfl
theorem dksX2_holds_8 : cX2_holds.data.toList.drop 189 = dktX2_holds_8 := dk_seg dksX2_holds_7 24 rfl rfl
theorem dX2_holds_0 : decode cX2_holds 0 = .ok (.sipush 960, 3) := dk_17 3 192 (dk_at dksX2_holds_0 0 rfl rfl)
theorem dX2_holds_3 : decode cX2_holds 3 = .ok (.iload_n 3, 1) := dk_29 (dk_at dksX2_holds_0 3 rfl rfl)
theorem dX2_holds_4 : decode cX2_holds 4 = .ok (.iadd, 1) := dk_96 (dk_at dksX2_holds_0 4 rfl rfl)
theorem dX2_holds_5 : decode cX2_holds 5 = .ok (.istore 5, 2) := dk_54 5 (dk_at dksX2_holds_0 5 rfl rfl)
theorem dX2_holds_7 : decode cX2_holds 7 = .ok (.iload 4, 2) := dk_21 4 (dk_at dksX2_holds_0 7 rfl rfl)
theorem dX2_holds_9 : decode cX2_holds 9 = .ok (.iconst 4, 1) := dk_7 (dk_at dksX2_holds_0 9 rfl rfl)
theorem dX2_holds_10 : decode cX2_holds 10 = .ok (.if_icmp .ne 69, 3) := dk_160 0 69 (dk_at dksX2_holds_0 10 rfl rfl)
theorem dX2_holds_13 : decode cX2_holds 13 = .ok (.aload_n 0, 1) := dk_42 (dk_at dksX2_holds_0 13 rfl rfl)
theorem dX2_holds_14 : decode cX2_holds 14 = .ok (.iload_n 2, 1) := dk_28 (dk_at dksX2_holds_0 14 rfl rfl)
theorem dX2_holds_15 : decode cX2_holds 15 = .ok (.iload_n 3, 1) := dk_29 (dk_at dksX2_holds_0 15 rfl rfl)
theorem dX2_holds_16 : decode cX2_holds 16 = .ok (.iconst 1, 1) := dk_4 (dk_at dksX2_holds_0 16 rfl rfl)
theorem dX2_holds_17 : decode cX2_holds 17 = .ok (.invokevirtual 347, 3) := dk_182 1 91 (dk_at dksX2_holds_0 17 rfl rfl)
theorem dX2_holds_20 : decode cX2_holds 20 = .ok (.ifCond .ne 53, 3) := dk_154 0 53 (dk_at dksX2_holds_0 20 rfl rfl)
theorem dX2_holds_23 : decode cX2_holds 23 = .ok (.aload_n 0, 1) := dk_42 (dk_at dksX2_holds_0 23 rfl rfl)
theorem dX2_holds_24 : decode cX2_holds 24 = .ok (.iload_n 2, 1) := dk_28 (dk_at dksX2_holds_1 0 rfl rfl)
theorem dX2_holds_25 : decode cX2_holds 25 = .ok (.iload_n 3, 1) := dk_29 (dk_at dksX2_holds_1 1 rfl rfl)
theorem dX2_holds_26 : decode cX2_holds 26 = .ok (.iconst 2, 1) := dk_5 (dk_at dksX2_holds_1 2 rfl rfl)
theorem dX2_holds_27 : decode cX2_holds 27 = .ok (.invokevirtual 347, 3) := dk_182 1 91 (dk_at dksX2_holds_1 3 rfl rfl)
theorem dX2_holds_30 : decode cX2_holds 30 = .ok (.ifCond .ne 47, 3) := dk_154 0 47 (dk_at dksX2_holds_1 6 rfl rfl)
theorem dX2_holds_33 : decode cX2_holds 33 = .ok (.aload_n 0, 1) := dk_42 (dk_at dksX2_holds_1 9 rfl rfl)
theorem dX2_holds_34 : decode cX2_holds 34 = .ok (.getfield 58, 3) := dk_180 0 58 (dk_at dksX2_holds_1 10 rfl rfl)
theorem dX2_holds_37 : decode cX2_holds 37 = .ok (.iload 5, 2) := dk_21 5 (dk_at dksX2_holds_1 13 rfl rfl)
theorem dX2_holds_39 : decode cX2_holds 39 = .ok (.iaload, 1) := dk_46 (dk_at dksX2_holds_1 15 rfl rfl)
theorem dX2_holds_40 : decode cX2_holds 40 = .ok (.bipush 6, 2) := dk_16 6 (dk_at dksX2_holds_1 16 rfl rfl)
theorem dX2_holds_42 : decode cX2_holds 42 = .ok (.if_icmp .eq 35, 3) := dk_159 0 35 (dk_at dksX2_holds_1 18 rfl rfl)
theorem dX2_holds_45 : decode cX2_holds 45 = .ok (.aload_n 0, 1) := dk_42 (dk_at dksX2_holds_1 21 rfl rfl)
theorem dX2_holds_46 : decode cX2_holds 46 = .ok (.iload_n 2, 1) := dk_28 (dk_at dksX2_holds_1 22 rfl rfl)
theorem dX2_holds_47 : decode cX2_holds 47 = .ok (.iload_n 3, 1) := dk_29 (dk_at dksX2_holds_1 23 rfl rfl)
theorem dX2_holds_48 : decode cX2_holds 48 = .ok (.iconst 4, 1) := dk_7 (dk_at dksX2_holds_2 0 rfl rfl)
theorem dX2_holds_49 : decode cX2_holds 49 = .ok (.invokevirtual 354, 3) := dk_182 1 98 (dk_at dksX2_holds_2 1 rfl rfl)
theorem dX2_holds_52 : decode cX2_holds 52 = .ok (.ifCond .eq 25, 3) := dk_153 0 25 (dk_at dksX2_holds_2 4 rfl rfl)
theorem dX2_holds_55 : decode cX2_holds 55 = .ok (.aload_n 0, 1) := dk_42 (dk_at dksX2_holds_2 7 rfl rfl)
theorem dX2_holds_56 : decode cX2_holds 56 = .ok (.iconst 4, 1) := dk_7 (dk_at dksX2_holds_2 8 rfl rfl)
theorem dX2_holds_57 : decode cX2_holds 57 = .ok (.iload_n 1, 1) := dk_27 (dk_at dksX2_holds_2 9 rfl rfl)
theorem dX2_holds_58 : decode cX2_holds 58 = .ok (.invokevirtual 334, 3) := dk_182 1 78 (dk_at dksX2_holds_2 10 rfl rfl)
theorem dX2_holds_61 : decode cX2_holds 61 = .ok (.ifCond .eq 12, 3) := dk_153 0 12 (dk_at dksX2_holds_2 13 rfl rfl)
theorem dX2_holds_64 : decode cX2_holds 64 = .ok (.aload_n 0, 1) := dk_42 (dk_at dksX2_holds_2 16 rfl rfl)
theorem dX2_holds_65 : decode cX2_holds 65 = .ok (.iload 5, 2) := dk_21 5 (dk_at dksX2_holds_2 17 rfl rfl)
theorem dX2_holds_67 : decode cX2_holds 67 = .ok (.invokevirtual 361, 3) := dk_182 1 105 (dk_at dksX2_holds_2 19 rfl rfl)
theorem dX2_holds_70 : decode cX2_holds 70 = .ok (.ifCond .ne 7, 3) := dk_154 0 7 (dk_at dksX2_holds_3 0 rfl rfl)
theorem dX2_holds_73 : decode cX2_holds 73 = .ok (.iconst 1, 1) := dk_4 (dk_at dksX2_holds_3 3 rfl rfl)
theorem dX2_holds_74 : decode cX2_holds 74 = .ok (.goto 4, 3) := dk_167 0 4 (dk_at dksX2_holds_3 4 rfl rfl)
theorem dX2_holds_77 : decode cX2_holds 77 = .ok (.iconst 0, 1) := dk_3 (dk_at dksX2_holds_3 7 rfl rfl)
theorem dX2_holds_78 : decode cX2_holds 78 = .ok (.ireturn, 1) := dk_172 (dk_at dksX2_holds_3 8 rfl rfl)
theorem dX2_holds_79 : decode cX2_holds 79 = .ok (.iload 4, 2) := dk_21 4 (dk_at dksX2_holds_3 9 rfl rfl)
theorem dX2_holds_81 : decode cX2_holds 81 = .ok (.bipush 8, 2) := dk_16 8 (dk_at dksX2_holds_3 11 rfl rfl)
theorem dX2_holds_83 : decode cX2_holds 83 = .ok (.if_icmp .ne 24, 3) := dk_160 0 24 (dk_at dksX2_holds_3 13 rfl rfl)
theorem dX2_holds_86 : decode cX2_holds 86 = .ok (.iload_n 3, 1) := dk_29 (dk_at dksX2_holds_3 16 rfl rfl)
theorem dX2_holds_87 : decode cX2_holds 87 = .ok (.ifCond .le 18, 3) := dk_158 0 18 (dk_at dksX2_holds_3 17 rfl rfl)
theorem dX2_holds_90 : decode cX2_holds 90 = .ok (.aload_n 0, 1) := dk_42 (dk_at dksX2_holds_3 20 rfl rfl)
theorem dX2_holds_91 : decode cX2_holds 91 = .ok (.iload_n 2, 1) := dk_28 (dk_at dksX2_holds_3 21 rfl rfl)
theorem dX2_holds_92 : decode cX2_holds 92 = .ok (.iload_n 3, 1) := dk_29 (dk_at dksX2_holds_3 22 rfl rfl)
theorem dX2_holds_93 : decode cX2_holds 93 = .ok (.bipush 8, 2) := dk_16 8 (dk_at dksX2_holds_4 0 rfl rfl)
theorem dX2_holds_95 : decode cX2_holds 95 = .ok (.invokevirtual 364, 3) := dk_182 1 108 (dk_at dksX2_holds_4 2 rfl rfl)
theorem dX2_holds_98 : decode cX2_holds 98 = .ok (.ifCond .eq 7, 3) := dk_153 0 7 (dk_at dksX2_holds_4 5 rfl rfl)
theorem dX2_holds_101 : decode cX2_holds 101 = .ok (.iconst 1, 1) := dk_4 (dk_at dksX2_holds_4 8 rfl rfl)
theorem dX2_holds_102 : decode cX2_holds 102 = .ok (.goto 4, 3) := dk_167 0 4 (dk_at dksX2_holds_4 9 rfl rfl)
theorem dX2_holds_105 : decode cX2_holds 105 = .ok (.iconst 0, 1) := dk_3 (dk_at dksX2_holds_4 12 rfl rfl)
theorem dX2_holds_106 : decode cX2_holds 106 = .ok (.ireturn, 1) := dk_172 (dk_at dksX2_holds_4 13 rfl rfl)
theorem dX2_holds_107 : decode cX2_holds 107 = .ok (.iload 4, 2) := dk_21 4 (dk_at dksX2_holds_4 14 rfl rfl)
theorem dX2_holds_109 : decode cX2_holds 109 = .ok (.bipush 32, 2) := dk_16 32 (dk_at dksX2_holds_4 16 rfl rfl)
theorem dX2_holds_111 : decode cX2_holds 111 = .ok (.if_icmp .ne 35, 3) := dk_160 0 35 (dk_at dksX2_holds_4 18 rfl rfl)
theorem dX2_holds_114 : decode cX2_holds 114 = .ok (.aload_n 0, 1) := dk_42 (dk_at dksX2_holds_4 21 rfl rfl)
theorem dX2_holds_115 : decode cX2_holds 115 = .ok (.iload_n 2, 1) := dk_28 (dk_at dksX2_holds_4 22 rfl rfl)
theorem dX2_holds_116 : decode cX2_holds 116 = .ok (.iload_n 3, 1) := dk_29 (dk_at dksX2_holds_4 23 rfl rfl)
theorem dX2_holds_117 : decode cX2_holds 117 = .ok (.bipush 16, 2) := dk_16 16 (dk_at dksX2_holds_5 0 rfl rfl)
theorem dX2_holds_119 : decode cX2_holds 119 = .ok (.invokevirtual 347, 3) := dk_182 1 91 (dk_at dksX2_holds_5 2 rfl rfl)
theorem dX2_holds_122 : decode cX2_holds 122 = .ok (.ifCond .ne 18, 3) := dk_154 0 18 (dk_at dksX2_holds_5 5 rfl rfl)
theorem dX2_holds_125 : decode cX2_holds 125 = .ok (.iload_n 3, 1) := dk_29 (dk_at dksX2_holds_5 8 rfl rfl)
theorem dX2_holds_126 : decode cX2_holds 126 = .ok (.ifCond .le 18, 3) := dk_158 0 18 (dk_at dksX2_holds_5 9 rfl rfl)
theorem dX2_holds_129 : decode cX2_holds 129 = .ok (.aload_n 0, 1) := dk_42 (dk_at dksX2_holds_5 12 rfl rfl)
theorem dX2_holds_130 : decode cX2_holds 130 = .ok (.iload_n 2, 1) := dk_28 (dk_at dksX2_holds_5 13 rfl rfl)
theorem dX2_holds_131 : decode cX2_holds 131 = .ok (.iload_n 3, 1) := dk_29 (dk_at dksX2_holds_5 14 rfl rfl)
theorem dX2_holds_132 : decode cX2_holds 132 = .ok (.bipush 32, 2) := dk_16 32 (dk_at dksX2_holds_5 15 rfl rfl)
theorem dX2_holds_134 : decode cX2_holds 134 = .ok (.invokevirtual 364, 3) := dk_182 1 108 (dk_at dksX2_holds_5 17 rfl rfl)
theorem dX2_holds_137 : decode cX2_holds 137 = .ok (.ifCond .eq 7, 3) := dk_153 0 7 (dk_at dksX2_holds_5 20 rfl rfl)
theorem dX2_holds_140 : decode cX2_holds 140 = .ok (.iconst 1, 1) := dk_4 (dk_at dksX2_holds_5 23 rfl rfl)
theorem dX2_holds_141 : decode cX2_holds 141 = .ok (.goto 4, 3) := dk_167 0 4 (dk_at dksX2_holds_6 0 rfl rfl)
theorem dX2_holds_144 : decode cX2_holds 144 = .ok (.iconst 0, 1) := dk_3 (dk_at dksX2_holds_6 3 rfl rfl)
theorem dX2_holds_145 : decode cX2_holds 145 = .ok (.ireturn, 1) := dk_172 (dk_at dksX2_holds_6 4 rfl rfl)
theorem dX2_holds_146 : decode cX2_holds 146 = .ok (.aload_n 0, 1) := dk_42 (dk_at dksX2_holds_6 5 rfl rfl)
theorem dX2_holds_147 : decode cX2_holds 147 = .ok (.getfield 70, 3) := dk_180 0 70 (dk_at dksX2_holds_6 6 rfl rfl)
theorem dX2_holds_150 : decode cX2_holds 150 = .ok (.iload 5, 2) := dk_21 5 (dk_at dksX2_holds_6 9 rfl rfl)
theorem dX2_holds_152 : decode cX2_holds 152 = .ok (.iaload, 1) := dk_46 (dk_at dksX2_holds_6 11 rfl rfl)
theorem dX2_holds_153 : decode cX2_holds 153 = .ok (.ifCond .lt 18, 3) := dk_155 0 18 (dk_at dksX2_holds_6 12 rfl rfl)
theorem dX2_holds_156 : decode cX2_holds 156 = .ok (.aload_n 0, 1) := dk_42 (dk_at dksX2_holds_6 15 rfl rfl)
theorem dX2_holds_157 : decode cX2_holds 157 = .ok (.iload_n 2, 1) := dk_28 (dk_at dksX2_holds_6 16 rfl rfl)
theorem dX2_holds_158 : decode cX2_holds 158 = .ok (.aload_n 0, 1) := dk_42 (dk_at dksX2_holds_6 17 rfl rfl)
theorem dX2_holds_159 : decode cX2_holds 159 = .ok (.getfield 70, 3) := dk_180 0 70 (dk_at dksX2_holds_6 18 rfl rfl)
theorem dX2_holds_162 : decode cX2_holds 162 = .ok (.iload 5, 2) := dk_21 5 (dk_at dksX2_holds_6 21 rfl rfl)
theorem dX2_holds_164 : decode cX2_holds 164 = .ok (.iaload, 1) := dk_46 (dk_at dksX2_holds_6 23 rfl rfl)
theorem dX2_holds_165 : decode cX2_holds 165 = .ok (.invokevirtual 367, 3) := dk_182 1 111 (dk_at dksX2_holds_7 0 rfl rfl)
theorem dX2_holds_168 : decode cX2_holds 168 = .ok (.ifCond .eq 32, 3) := dk_153 0 32 (dk_at dksX2_holds_7 3 rfl rfl)
theorem dX2_holds_171 : decode cX2_holds 171 = .ok (.aload_n 0, 1) := dk_42 (dk_at dksX2_holds_7 6 rfl rfl)
theorem dX2_holds_172 : decode cX2_holds 172 = .ok (.getfield 73, 3) := dk_180 0 73 (dk_at dksX2_holds_7 7 rfl rfl)
theorem dX2_holds_175 : decode cX2_holds 175 = .ok (.iload 5, 2) := dk_21 5 (dk_at dksX2_holds_7 10 rfl rfl)
theorem dX2_holds_177 : decode cX2_holds 177 = .ok (.iaload, 1) := dk_46 (dk_at dksX2_holds_7 12 rfl rfl)
theorem dX2_holds_178 : decode cX2_holds 178 = .ok (.ifCond .lt 18, 3) := dk_155 0 18 (dk_at dksX2_holds_7 13 rfl rfl)
theorem dX2_holds_181 : decode cX2_holds 181 = .ok (.aload_n 0, 1) := dk_42 (dk_at dksX2_holds_7 16 rfl rfl)
theorem dX2_holds_182 : decode cX2_holds 182 = .ok (.iload_n 2, 1) := dk_28 (dk_at dksX2_holds_7 17 rfl rfl)
theorem dX2_holds_183 : decode cX2_holds 183 = .ok (.aload_n 0, 1) := dk_42 (dk_at dksX2_holds_7 18 rfl rfl)
theorem dX2_holds_184 : decode cX2_holds 184 = .ok (.getfield 73, 3) := dk_180 0 73 (dk_at dksX2_holds_7 19 rfl rfl)
theorem dX2_holds_187 : decode cX2_holds 187 = .ok (.iload 5, 2) := dk_21 5 (dk_at dksX2_holds_7 22 rfl rfl)
theorem dX2_holds_189 : decode cX2_holds 189 = .ok (.iaload, 1) := dk_46 (dk_at dksX2_holds_8 0 rfl rfl)
theorem dX2_holds_190 : decode cX2_holds 190 = .ok (.invokevirtual 367, 3) := dk_182 1 111 (dk_at dksX2_holds_8 1 rfl rfl)
theorem dX2_holds_193 : decode cX2_holds 193 = .ok (.ifCond .eq 7, 3) := dk_153 0 7 (dk_at dksX2_holds_8 4 rfl rfl)
theorem dX2_holds_196 : decode cX2_holds 196 = .ok (.iconst 1, 1) := dk_4 (dk_at dksX2_holds_8 7 rfl rfl)
theorem dX2_holds_197 : decode cX2_holds 197 = .ok (.goto 4, 3) := dk_167 0 4 (dk_at dksX2_holds_8 8 rfl rfl)
theorem dX2_holds_200 : decode cX2_holds 200 = .ok (.iconst 0, 1) := dk_3 (dk_at dksX2_holds_8 11 rfl rfl)
theorem dX2_holds_201 : decode cX2_holds 201 = .ok (.ireturn, 1) := dk_172 (dk_at dksX2_holds_8 12 rfl rfl)
abbrev cX2_allNext : ByteArray := prog_24_method_49_code
def yX2_allNext : MethodName := ⟨RX2, "allNext", "(III)Z"⟩
def dkwX2_allNext_2 : List UInt8 := [180, 0, 73, 21, 4, 46, 29, 182, 1, 91, 153, 0, 7, 4, 167, 0, 4, 3, 172]
abbrev dktX2_allNext_2 : List UInt8 := dkwX2_allNext_2 ++ []
def dkwX2_allNext_1 : List UInt8 := [21, 4, 46, 29, 182, 1, 91, 153, 0, 33, 42, 180, 0, 73, 21, 4, 46, 155, 0, 19, 42, 27, 42]
abbrev dktX2_allNext_1 : List UInt8 := dkwX2_allNext_1 ++ dktX2_allNext_2
def dkwX2_allNext_0 : List UInt8 := [17, 3, 192, 28, 96, 54, 4, 42, 180, 0, 70, 21, 4, 46, 155, 0, 49, 42, 27, 42, 180, 0, 70]
abbrev dktX2_allNext_0 : List UInt8 := dkwX2_allNext_0 ++ dktX2_allNext_1
theorem dksX2_allNext_0 : cX2_allNext.data.toList.drop 0 = dktX2_allNext_0 := by decide +kernel
theorem dksX2_allNext_1 : cX2_allNext.data.toList.drop 23 = dktX2_allNext_1 := dk_seg dksX2_allNext_0 23 rfl rfl
theorem dksX2_allNext_2 : cX2_allNext.data.toList.drop 46 = dktX2_allNext_2 := dk_seg dksX2_allNext_1 23 rfl rfl
theorem dX2_allNext_0 : decode cX2_allNext 0 = .ok (.sipush 960, 3) := dk_17 3 192 (dk_at dksX2_allNext_0 0 rfl rfl)
theorem dX2_allNext_3 : decode cX2_allNext 3 = .ok (.iload_n 2, 1) := dk_28 (dk_at dksX2_allNext_0 3 rfl rfl)
theorem dX2_allNext_4 : decode cX2_allNext 4 = .ok (.iadd, 1) := dk_96 (dk_at dksX2_allNext_0 4 rfl rfl)
theorem dX2_allNext_5 : decode cX2_allNext 5 = .ok (.istore 4, 2) := dk_54 4 (dk_at dksX2_allNext_0 5 rfl rfl)
theorem dX2_allNext_7 : decode cX2_allNext 7 = .ok (.aload_n 0, 1) := dk_42 (dk_at dksX2_allNext_0 7 rfl rfl)
theorem dX2_allNext_8 : decode cX2_allNext 8 = .ok (.getfield 70, 3) := dk_180 0 70 (dk_at dksX2_allNext_0 8 rfl rfl)
theorem dX2_allNext_11 : decode cX2_allNext 11 = .ok (.iload 4, 2) := dk_21 4 (dk_at dksX2_allNext_0 11 rfl rfl)
theorem dX2_allNext_13 : decode cX2_allNext 13 = .ok (.iaload, 1) := dk_46 (dk_at dksX2_allNext_0 13 rfl rfl)
theorem dX2_allNext_14 : decode cX2_allNext 14 = .ok (.ifCond .lt 49, 3) := dk_155 0 49 (dk_at dksX2_allNext_0 14 rfl rfl)
theorem dX2_allNext_17 : decode cX2_allNext 17 = .ok (.aload_n 0, 1) := dk_42 (dk_at dksX2_allNext_0 17 rfl rfl)
theorem dX2_allNext_18 : decode cX2_allNext 18 = .ok (.iload_n 1, 1) := dk_27 (dk_at dksX2_allNext_0 18 rfl rfl)
theorem dX2_allNext_19 : decode cX2_allNext 19 = .ok (.aload_n 0, 1) := dk_42 (dk_at dksX2_allNext_0 19 rfl rfl)
theorem dX2_allNext_20 : decode cX2_allNext 20 = .ok (.getfield 70, 3) := dk_180 0 70 (dk_at dksX2_allNext_0 20 rfl rfl)
theorem dX2_allNext_23 : decode cX2_allNext 23 = .ok (.iload 4, 2) := dk_21 4 (dk_at dksX2_allNext_1 0 rfl rfl)
theorem dX2_allNext_25 : decode cX2_allNext 25 = .ok (.iaload, 1) := dk_46 (dk_at dksX2_allNext_1 2 rfl rfl)
theorem dX2_allNext_26 : decode cX2_allNext 26 = .ok (.iload_n 3, 1) := dk_29 (dk_at dksX2_allNext_1 3 rfl rfl)
theorem dX2_allNext_27 : decode cX2_allNext 27 = .ok (.invokevirtual 347, 3) := dk_182 1 91 (dk_at dksX2_allNext_1 4 rfl rfl)
theorem dX2_allNext_30 : decode cX2_allNext 30 = .ok (.ifCond .eq 33, 3) := dk_153 0 33 (dk_at dksX2_allNext_1 7 rfl rfl)
theorem dX2_allNext_33 : decode cX2_allNext 33 = .ok (.aload_n 0, 1) := dk_42 (dk_at dksX2_allNext_1 10 rfl rfl)
theorem dX2_allNext_34 : decode cX2_allNext 34 = .ok (.getfield 73, 3) := dk_180 0 73 (dk_at dksX2_allNext_1 11 rfl rfl)
theorem dX2_allNext_37 : decode cX2_allNext 37 = .ok (.iload 4, 2) := dk_21 4 (dk_at dksX2_allNext_1 14 rfl rfl)
theorem dX2_allNext_39 : decode cX2_allNext 39 = .ok (.iaload, 1) := dk_46 (dk_at dksX2_allNext_1 16 rfl rfl)
theorem dX2_allNext_40 : decode cX2_allNext 40 = .ok (.ifCond .lt 19, 3) := dk_155 0 19 (dk_at dksX2_allNext_1 17 rfl rfl)
theorem dX2_allNext_43 : decode cX2_allNext 43 = .ok (.aload_n 0, 1) := dk_42 (dk_at dksX2_allNext_1 20 rfl rfl)
theorem dX2_allNext_44 : decode cX2_allNext 44 = .ok (.iload_n 1, 1) := dk_27 (dk_at dksX2_allNext_1 21 rfl rfl)
theorem dX2_allNext_45 : decode cX2_allNext 45 = .ok (.aload_n 0, 1) := dk_42 (dk_at dksX2_allNext_1 22 rfl rfl)
theorem dX2_allNext_46 : decode cX2_allNext 46 = .ok (.getfield 73, 3) := dk_180 0 73 (dk_at dksX2_allNext_2 0 rfl rfl)
theorem dX2_allNext_49 : decode cX2_allNext 49 = .ok (.iload 4, 2) := dk_21 4 (dk_at dksX2_allNext_2 3 rfl rfl)
theorem dX2_allNext_51 : decode cX2_allNext 51 = .ok (.iaload, 1) := dk_46 (dk_at dksX2_allNext_2 5 rfl rfl)
theorem dX2_allNext_52 : decode cX2_allNext 52 = .ok (.iload_n 3, 1) := dk_29 (dk_at dksX2_allNext_2 6 rfl rfl)
theorem dX2_allNext_53 : decode cX2_allNext 53 = .ok (.invokevirtual 347, 3) := dk_182 1 91 (dk_at dksX2_allNext_2 7 rfl rfl)
theorem dX2_allNext_56 : decode cX2_allNext 56 = .ok (.ifCond .eq 7, 3) := dk_153 0 7 (dk_at dksX2_allNext_2 10 rfl rfl)
theorem dX2_allNext_59 : decode cX2_allNext 59 = .ok (.iconst 1, 1) := dk_4 (dk_at dksX2_allNext_2 13 rfl rfl)
theorem dX2_allNext_60 : decode cX2_allNext 60 = .ok (.goto 4, 3) := dk_167 0 4 (dk_at dksX2_allNext_2 14 rfl rfl)
theorem dX2_allNext_63 : decode cX2_allNext 63 = .ok (.iconst 0, 1) := dk_3 (dk_at dksX2_allNext_2 17 rfl rfl)
theorem dX2_allNext_64 : decode cX2_allNext 64 = .ok (.ireturn, 1) := dk_172 (dk_at dksX2_allNext_2 18 rfl rfl)
abbrev cX2_isBold : ByteArray := prog_24_method_40_code
def yX2_isBold : MethodName := ⟨RX2, "isBold", "(II)Z"⟩
def dkwX2_isBold_1 : List UInt8 := [28, 96, 46, 16, 114, 160, 0, 7, 4, 167, 0, 4, 3, 172]
abbrev dktX2_isBold_1 : List UInt8 := dkwX2_isBold_1 ++ []
def dkwX2_isBold_0 : List UInt8 := [42, 180, 0, 91, 16, 32, 27, 104, 28, 96, 46, 16, 47, 159, 0, 19, 42, 180, 0, 91, 16, 32, 27, 104]
abbrev dktX2_isBold_0 : List UInt8 := dkwX2_isBold_0 ++ dktX2_isBold_1
theorem dksX2_isBold_0 : cX2_isBold.data.toList.drop 0 = dktX2_isBold_0 := by decide +kernel
theorem dksX2_isBold_1 : cX2_isBold.data.toList.drop 24 = dktX2_isBold_1 := dk_seg dksX2_isBold_0 24 rfl rfl
theorem dX2_isBold_0 : decode cX2_isBold 0 = .ok (.aload_n 0, 1) := dk_42 (dk_at dksX2_isBold_0 0 rfl rfl)
theorem dX2_isBold_1 : decode cX2_isBold 1 = .ok (.getfield 91, 3) := dk_180 0 91 (dk_at dksX2_isBold_0 1 rfl rfl)
theorem dX2_isBold_4 : decode cX2_isBold 4 = .ok (.bipush 32, 2) := dk_16 32 (dk_at dksX2_isBold_0 4 rfl rfl)
theorem dX2_isBold_6 : decode cX2_isBold 6 = .ok (.iload_n 1, 1) := dk_27 (dk_at dksX2_isBold_0 6 rfl rfl)
theorem dX2_isBold_7 : decode cX2_isBold 7 = .ok (.imul, 1) := dk_104 (dk_at dksX2_isBold_0 7 rfl rfl)
theorem dX2_isBold_8 : decode cX2_isBold 8 = .ok (.iload_n 2, 1) := dk_28 (dk_at dksX2_isBold_0 8 rfl rfl)
theorem dX2_isBold_9 : decode cX2_isBold 9 = .ok (.iadd, 1) := dk_96 (dk_at dksX2_isBold_0 9 rfl rfl)
theorem dX2_isBold_10 : decode cX2_isBold 10 = .ok (.iaload, 1) := dk_46 (dk_at dksX2_isBold_0 10 rfl rfl)
theorem dX2_isBold_11 : decode cX2_isBold 11 = .ok (.bipush 47, 2) := dk_16 47 (dk_at dksX2_isBold_0 11 rfl rfl)
theorem dX2_isBold_13 : decode cX2_isBold 13 = .ok (.if_icmp .eq 19, 3) := dk_159 0 19 (dk_at dksX2_isBold_0 13 rfl rfl)
theorem dX2_isBold_16 : decode cX2_isBold 16 = .ok (.aload_n 0, 1) := dk_42 (dk_at dksX2_isBold_0 16 rfl rfl)
theorem dX2_isBold_17 : decode cX2_isBold 17 = .ok (.getfield 91, 3) := dk_180 0 91 (dk_at dksX2_isBold_0 17 rfl rfl)
theorem dX2_isBold_20 : decode cX2_isBold 20 = .ok (.bipush 32, 2) := dk_16 32 (dk_at dksX2_isBold_0 20 rfl rfl)
theorem dX2_isBold_22 : decode cX2_isBold 22 = .ok (.iload_n 1, 1) := dk_27 (dk_at dksX2_isBold_0 22 rfl rfl)
theorem dX2_isBold_23 : decode cX2_isBold 23 = .ok (.imul, 1) := dk_104 (dk_at dksX2_isBold_0 23 rfl rfl)
theorem dX2_isBold_24 : decode cX2_isBold 24 = .ok (.iload_n 2, 1) := dk_28 (dk_at dksX2_isBold_1 0 rfl rfl)
theorem dX2_isBold_25 : decode cX2_isBold 25 = .ok (.iadd, 1) := dk_96 (dk_at dksX2_isBold_1 1 rfl rfl)
theorem dX2_isBold_26 : decode cX2_isBold 26 = .ok (.iaload, 1) := dk_46 (dk_at dksX2_isBold_1 2 rfl rfl)
theorem dX2_isBold_27 : decode cX2_isBold 27 = .ok (.bipush 114, 2) := dk_16 114 (dk_at dksX2_isBold_1 3 rfl rfl)
theorem dX2_isBold_29 : decode cX2_isBold 29 = .ok (.if_icmp .ne 7, 3) := dk_160 0 7 (dk_at dksX2_isBold_1 5 rfl rfl)
theorem dX2_isBold_32 : decode cX2_isBold 32 = .ok (.iconst 1, 1) := dk_4 (dk_at dksX2_isBold_1 8 rfl rfl)
theorem dX2_isBold_33 : decode cX2_isBold 33 = .ok (.goto 4, 3) := dk_167 0 4 (dk_at dksX2_isBold_1 9 rfl rfl)
theorem dX2_isBold_36 : decode cX2_isBold 36 = .ok (.iconst 0, 1) := dk_3 (dk_at dksX2_isBold_1 12 rfl rfl)
theorem dX2_isBold_37 : decode cX2_isBold 37 = .ok (.ireturn, 1) := dk_172 (dk_at dksX2_isBold_1 13 rfl rfl)
abbrev cX2_isSeen : ByteArray := prog_24_method_42_code
def yX2_isSeen : MethodName := ⟨RX2, "isSeen", "(I)Z"⟩
def dkwX2_isSeen_2 : List UInt8 := [172]
abbrev dktX2_isSeen_2 : List UInt8 := dkwX2_isSeen_2 ++ []
def dkwX2_isSeen_1 : List UInt8 := [27, 46, 154, 0, 21, 42, 7, 42, 180, 0, 67, 27, 46, 182, 1, 78, 153, 0, 7, 4, 167, 0, 4, 3]
abbrev dktX2_isSeen_1 : List UInt8 := dkwX2_isSeen_1 ++ dktX2_isSeen_2
def dkwX2_isSeen_0 : List UInt8 := [42, 180, 0, 58, 27, 46, 6, 159, 0, 36, 42, 180, 0, 58, 27, 46, 5, 159, 0, 26, 42, 180, 0, 58]
abbrev dktX2_isSeen_0 : List UInt8 := dkwX2_isSeen_0 ++ dktX2_isSeen_1
theorem dksX2_isSeen_0 : cX2_isSeen.data.toList.drop 0 = dktX2_isSeen_0 := by decide +kernel
theorem dksX2_isSeen_1 : cX2_isSeen.data.toList.drop 24 = dktX2_isSeen_1 := dk_seg dksX2_isSeen_0 24 rfl rfl
theorem dksX2_isSeen_2 : cX2_isSeen.data.toList.drop 48 = dktX2_isSeen_2 := dk_seg dksX2_isSeen_1 24 rfl rfl
theorem dX2_isSeen_0 : decode cX2_isSeen 0 = .ok (.aload_n 0, 1) := dk_42 (dk_at dksX2_isSeen_0 0 rfl rfl)
theorem dX2_isSeen_1 : decode cX2_isSeen 1 = .ok (.getfield 58, 3) := dk_180 0 58 (dk_at dksX2_isSeen_0 1 rfl rfl)
theorem dX2_isSeen_4 : decode cX2_isSeen 4 = .ok (.iload_n 1, 1) := dk_27 (dk_at dksX2_isSeen_0 4 rfl rfl)
theorem dX2_isSeen_5 : decode cX2_isSeen 5 = .ok (.iaload, 1) := dk_46 (dk_at dksX2_isSeen_0 5 rfl rfl)
theorem dX2_isSeen_6 : decode cX2_isSeen 6 = .ok (.iconst 3, 1) := dk_6 (dk_at dksX2_isSeen_0 6 rfl rfl)
theorem dX2_isSeen_7 : decode cX2_isSeen 7 = .ok (.if_icmp .eq 36, 3) := dk_159 0 36 (dk_at dksX2_isSeen_0 7 rfl rfl)
theorem dX2_isSeen_10 : decode cX2_isSeen 10 = .ok (.aload_n 0, 1) := dk_42 (dk_at dksX2_isSeen_0 10 rfl rfl)
theorem dX2_isSeen_11 : decode cX2_isSeen 11 = .ok (.getfield 58, 3) := dk_180 0 58 (dk_at dksX2_isSeen_0 11 rfl rfl)
theorem dX2_isSeen_14 : decode cX2_isSeen 14 = .ok (.iload_n 1, 1) := dk_27 (dk_at dksX2_isSeen_0 14 rfl rfl)
theorem dX2_isSeen_15 : decode cX2_isSeen 15 = .ok (.iaload, 1) := dk_46 (dk_at dksX2_isSeen_0 15 rfl rfl)
theorem dX2_isSeen_16 : decode cX2_isSeen 16 = .ok (.iconst 2, 1) := dk_5 (dk_at dksX2_isSeen_0 16 rfl rfl)
theorem dX2_isSeen_17 : decode cX2_isSeen 17 = .ok (.if_icmp .eq 26, 3) := dk_159 0 26 (dk_at dksX2_isSeen_0 17 rfl rfl)
theorem dX2_isSeen_20 : decode cX2_isSeen 20 = .ok (.aload_n 0, 1) := dk_42 (dk_at dksX2_isSeen_0 20 rfl rfl)
theorem dX2_isSeen_21 : decode cX2_isSeen 21 = .ok (.getfield 58, 3) := dk_180 0 58 (dk_at dksX2_isSeen_0 21 rfl rfl)
theorem dX2_isSeen_24 : decode cX2_isSeen 24 = .ok (.iload_n 1, 1) := dk_27 (dk_at dksX2_isSeen_1 0 rfl rfl)
theorem dX2_isSeen_25 : decode cX2_isSeen 25 = .ok (.iaload, 1) := dk_46 (dk_at dksX2_isSeen_1 1 rfl rfl)
theorem dX2_isSeen_26 : decode cX2_isSeen 26 = .ok (.ifCond .ne 21, 3) := dk_154 0 21 (dk_at dksX2_isSeen_1 2 rfl rfl)
theorem dX2_isSeen_29 : decode cX2_isSeen 29 = .ok (.aload_n 0, 1) := dk_42 (dk_at dksX2_isSeen_1 5 rfl rfl)
theorem dX2_isSeen_30 : decode cX2_isSeen 30 = .ok (.iconst 4, 1) := dk_7 (dk_at dksX2_isSeen_1 6 rfl rfl)
theorem dX2_isSeen_31 : decode cX2_isSeen 31 = .ok (.aload_n 0, 1) := dk_42 (dk_at dksX2_isSeen_1 7 rfl rfl)
theorem dX2_isSeen_32 : decode cX2_isSeen 32 = .ok (.getfield 67, 3) := dk_180 0 67 (dk_at dksX2_isSeen_1 8 rfl rfl)
theorem dX2_isSeen_35 : decode cX2_isSeen 35 = .ok (.iload_n 1, 1) := dk_27 (dk_at dksX2_isSeen_1 11 rfl rfl)
theorem dX2_isSeen_36 : decode cX2_isSeen 36 = .ok (.iaload, 1) := dk_46 (dk_at dksX2_isSeen_1 12 rfl rfl)
theorem dX2_isSeen_37 : decode cX2_isSeen 37 = .ok (.invokevirtual 334, 3) := dk_182 1 78 (dk_at dksX2_isSeen_1 13 rfl rfl)
theorem dX2_isSeen_40 : decode cX2_isSeen 40 = .ok (.ifCond .eq 7, 3) := dk_153 0 7 (dk_at dksX2_isSeen_1 16 rfl rfl)
theorem dX2_isSeen_43 : decode cX2_isSeen 43 = .ok (.iconst 1, 1) := dk_4 (dk_at dksX2_isSeen_1 19 rfl rfl)
theorem dX2_isSeen_44 : decode cX2_isSeen 44 = .ok (.goto 4, 3) := dk_167 0 4 (dk_at dksX2_isSeen_1 20 rfl rfl)
theorem dX2_isSeen_47 : decode cX2_isSeen 47 = .ok (.iconst 0, 1) := dk_3 (dk_at dksX2_isSeen_1 23 rfl rfl)
theorem dX2_isSeen_48 : decode cX2_isSeen 48 = .ok (.ireturn, 1) := dk_172 (dk_at dksX2_isSeen_2 0 rfl rfl)
abbrev cX2_allAhead : ByteArray := prog_24_method_51_code
def yX2_allAhead : MethodName := ⟨RX2, "allAhead", "(III)Z"⟩
def dkwX2_allAhead_5 : List UInt8 := [172]
abbrev dktX2_allAhead_5 : List UInt8 := dkwX2_allAhead_5 ++ []
def dkwX2_allAhead_4 : List UInt8 := [154, 0, 7, 4, 167, 0, 4, 3, 54, 5, 21, 5, 154, 0, 5, 3, 172, 132, 4, 1, 167, 255, 144, 4]
abbrev dktX2_allAhead_4 : List UInt8 := dkwX2_allAhead_4 ++ dktX2_allAhead_5
def dkwX2_allAhead_3 : List UInt8 := [167, 0, 31, 42, 27, 21, 4, 16, 32, 182, 1, 91, 153, 0, 18, 42, 27, 21, 4, 4, 182, 1, 91]
abbrev dktX2_allAhead_3 : List UInt8 := dkwX2_allAhead_3 ++ dktX2_allAhead_4
def dkwX2_allAhead_2 : List UInt8 := [4, 182, 1, 91, 154, 0, 15, 42, 27, 21, 4, 16, 8, 182, 1, 91, 153, 0, 7, 4, 167, 0, 35, 3]
abbrev dktX2_allAhead_2 : List UInt8 := dkwX2_allAhead_2 ++ dktX2_allAhead_3
def dkwX2_allAhead_1 : List UInt8 := [167, 0, 88, 29, 16, 8, 160, 0, 45, 42, 27, 21, 4, 5, 182, 1, 91, 154, 0, 30, 42, 27, 21, 4]
abbrev dktX2_allAhead_1 : List UInt8 := dkwX2_allAhead_1 ++ dktX2_allAhead_2
def dkwX2_allAhead_0 : List UInt8 := [3, 54, 4, 21, 4, 42, 180, 0, 43, 7, 46, 162, 0, 107, 42, 21, 4, 28, 182, 1, 114, 154, 0, 6]
abbrev dktX2_allAhead_0 : List UInt8 := dkwX2_allAhead_0 ++ dktX2_allAhead_1
theorem dksX2_allAhead_0 : cX2_allAhead.data.toList.drop 0 = dktX2_allAhead_0 := by decide +kernel
theorem dksX2_allAhead_1 : cX2_allAhead.data.toList.drop 24 = dktX2_allAhead_1 := dk_seg dksX2_allAhead_0 24 rfl rfl
theorem dksX2_allAhead_2 : cX2_allAhead.data.toList.drop 48 = dktX2_allAhead_2 := dk_seg dksX2_allAhead_1 24 rfl rfl
theorem dksX2_allAhead_3 : cX2_allAhead.data.toList.drop 72 = dktX2_allAhead_3 := dk_seg dksX2_allAhead_2 24 rfl rfl
theorem dksX2_allAhead_4 : cX2_allAhead.data.toList.drop 95 = dktX2_allAhead_4 := dk_seg dksX2_allAhead_3 23 rfl rfl
theorem dksX2_allAhead_5 : cX2_allAhead.data.toList.drop 119 = dktX2_allAhead_5 := dk_seg dksX2_allAhead_4 24 rfl rfl
theorem dX2_allAhead_0 : decode cX2_allAhead 0 = .ok (.iconst 0, 1) := dk_3 (dk_at dksX2_allAhead_0 0 rfl rfl)
theorem dX2_allAhead_1 : decode cX2_allAhead 1 = .ok (.istore 4, 2) := dk_54 4 (dk_at dksX2_allAhead_0 1 rfl rfl)
theorem dX2_allAhead_3 : decode cX2_allAhead 3 = .ok (.iload 4, 2) := dk_21 4 (dk_at dksX2_allAhead_0 3 rfl rfl)
theorem dX2_allAhead_5 : decode cX2_allAhead 5 = .ok (.aload_n 0, 1) := dk_42 (dk_at dksX2_allAhead_0 5 rfl rfl)
theorem dX2_allAhead_6 : decode cX2_allAhead 6 = .ok (.getfield 43, 3) := dk_180 0 43 (dk_at dksX2_allAhead_0 6 rfl rfl)
theorem dX2_allAhead_9 : decode cX2_allAhead 9 = .ok (.iconst 4, 1) := dk_7 (dk_at dksX2_allAhead_0 9 rfl rfl)
theorem dX2_allAhead_10 : decode cX2_allAhead 10 = .ok (.iaload, 1) := dk_46 (dk_at dksX2_allAhead_0 10 rfl rfl)
theorem dX2_allAhead_11 : decode cX2_allAhead 11 = .ok (.if_icmp .ge 107, 3) := dk_162 0 107 (dk_at dksX2_allAhead_0 11 rfl rfl)
theorem dX2_allAhead_14 : decode cX2_allAhead 14 = .ok (.aload_n 0, 1) := dk_42 (dk_at dksX2_allAhead_0 14 rfl rfl)
theorem dX2_allAhead_15 : decode cX2_allAhead 15 = .ok (.iload 4, 2) := dk_21 4 (dk_at dksX2_allAhead_0 15 rfl rfl)
theorem dX2_allAhead_17 : decode cX2_allAhead 17 = .ok (.iload_n 2, 1) := dk_28 (dk_at dksX2_allAhead_0 17 rfl rfl)
theorem dX2_allAhead_18 : decode cX2_allAhead 18 = .ok (.invokevirtual 370, 3) := dk_182 1 114 (dk_at dksX2_allAhead_0 18 rfl rfl)
theorem dX2_allAhead_21 : decode cX2_allAhead 21 = .ok (.ifCond .ne 6, 3) := dk_154 0 6 (dk_at dksX2_allAhead_0 21 rfl rfl)
theorem dX2_allAhead_24 : decode cX2_allAhead 24 = .ok (.goto 88, 3) := dk_167 0 88 (dk_at dksX2_allAhead_1 0 rfl rfl)
theorem dX2_allAhead_27 : decode cX2_allAhead 27 = .ok (.iload_n 3, 1) := dk_29 (dk_at dksX2_allAhead_1 3 rfl rfl)
theorem dX2_allAhead_28 : decode cX2_allAhead 28 = .ok (.bipush 8, 2) := dk_16 8 (dk_at dksX2_allAhead_1 4 rfl rfl)
theorem dX2_allAhead_30 : decode cX2_allAhead 30 = .ok (.if_icmp .ne 45, 3) := dk_160 0 45 (dk_at dksX2_allAhead_1 6 rfl rfl)
theorem dX2_allAhead_33 : decode cX2_allAhead 33 = .ok (.aload_n 0, 1) := dk_42 (dk_at dksX2_allAhead_1 9 rfl rfl)
theorem dX2_allAhead_34 : decode cX2_allAhead 34 = .ok (.iload_n 1, 1) := dk_27 (dk_at dksX2_allAhead_1 10 rfl rfl)
theorem dX2_allAhead_35 : decode cX2_allAhead 35 = .ok (.iload 4, 2) := dk_21 4 (dk_at dksX2_allAhead_1 11 rfl rfl)
theorem dX2_allAhead_37 : decode cX2_allAhead 37 = .ok (.iconst 2, 1) := dk_5 (dk_at dksX2_allAhead_1 13 rfl rfl)
theorem dX2_allAhead_38 : decode cX2_allAhead 38 = .ok (.invokevirtual 347, 3) := dk_182 1 91 (dk_at dksX2_allAhead_1 14 rfl rfl)
theorem dX2_allAhead_41 : decode cX2_allAhead 41 = .ok (.ifCond .ne 30, 3) := dk_154 0 30 (dk_at dksX2_allAhead_1 17 rfl rfl)
theorem dX2_allAhead_44 : decode cX2_allAhead 44 = .ok (.aload_n 0, 1) := dk_42 (dk_at dksX2_allAhead_1 20 rfl rfl)
theorem dX2_allAhead_45 : decode cX2_allAhead 45 = .ok (.iload_n 1, 1) := dk_27 (dk_at dksX2_allAhead_1 21 rfl rfl)
theorem dX2_allAhead_46 : decode cX2_allAhead 46 = .ok (.iload 4, 2) := dk_21 4 (dk_at dksX2_allAhead_1 22 rfl rfl)
theorem dX2_allAhead_48 : decode cX2_allAhead 48 = .ok (.iconst 1, 1) := dk_4 (dk_at dksX2_allAhead_2 0 rfl rfl)
theorem dX2_allAhead_49 : decode cX2_allAhead 49 = .ok (.invokevirtual 347, 3) := dk_182 1 91 (dk_at dksX2_allAhead_2 1 rfl rfl)
theorem dX2_allAhead_52 : decode cX2_allAhead 52 = .ok (.ifCond .ne 15, 3) := dk_154 0 15 (dk_at dksX2_allAhead_2 4 rfl rfl)
theorem dX2_allAhead_55 : decode cX2_allAhead 55 = .ok (.aload_n 0, 1) := dk_42 (dk_at dksX2_allAhead_2 7 rfl rfl)
theorem dX2_allAhead_56 : decode cX2_allAhead 56 = .ok (.iload_n 1, 1) := dk_27 (dk_at dksX2_allAhead_2 8 rfl rfl)
theorem dX2_allAhead_57 : decode cX2_allAhead 57 = .ok (.iload 4, 2) := dk_21 4 (dk_at dksX2_allAhead_2 9 rfl rfl)
theorem dX2_allAhead_59 : decode cX2_allAhead 59 = .ok (.bipush 8, 2) := dk_16 8 (dk_at dksX2_allAhead_2 11 rfl rfl)
theorem dX2_allAhead_61 : decode cX2_allAhead 61 = .ok (.invokevirtual 347, 3) := dk_182 1 91 (dk_at dksX2_allAhead_2 13 rfl rfl)
theorem dX2_allAhead_64 : decode cX2_allAhead 64 = .ok (.ifCond .eq 7, 3) := dk_153 0 7 (dk_at dksX2_allAhead_2 16 rfl rfl)
theorem dX2_allAhead_67 : decode cX2_allAhead 67 = .ok (.iconst 1, 1) := dk_4 (dk_at dksX2_allAhead_2 19 rfl rfl)
theorem dX2_allAhead_68 : decode cX2_allAhead 68 = .ok (.goto 35, 3) := dk_167 0 35 (dk_at dksX2_allAhead_2 20 rfl rfl)
theorem dX2_allAhead_71 : decode cX2_allAhead 71 = .ok (.iconst 0, 1) := dk_3 (dk_at dksX2_allAhead_2 23 rfl rfl)
theorem dX2_allAhead_72 : decode cX2_allAhead 72 = .ok (.goto 31, 3) := dk_167 0 31 (dk_at dksX2_allAhead_3 0 rfl rfl)
theorem dX2_allAhead_75 : decode cX2_allAhead 75 = .ok (.aload_n 0, 1) := dk_42 (dk_at dksX2_allAhead_3 3 rfl rfl)
theorem dX2_allAhead_76 : decode cX2_allAhead 76 = .ok (.iload_n 1, 1) := dk_27 (dk_at dksX2_allAhead_3 4 rfl rfl)
theorem dX2_allAhead_77 : decode cX2_allAhead 77 = .ok (.iload 4, 2) := dk_21 4 (dk_at dksX2_allAhead_3 5 rfl rfl)
theorem dX2_allAhead_79 : decode cX2_allAhead 79 = .ok (.bipush 32, 2) := dk_16 32 (dk_at dksX2_allAhead_3 7 rfl rfl)
theorem dX2_allAhead_81 : decode cX2_allAhead 81 = .ok (.invokevirtual 347, 3) := dk_182 1 91 (dk_at dksX2_allAhead_3 9 rfl rfl)
theorem dX2_allAhead_84 : decode cX2_allAhead 84 = .ok (.ifCond .eq 18, 3) := dk_153 0 18 (dk_at dksX2_allAhead_3 12 rfl rfl)
theorem dX2_allAhead_87 : decode cX2_allAhead 87 = .ok (.aload_n 0, 1) := dk_42 (dk_at dksX2_allAhead_3 15 rfl rfl)
theorem dX2_allAhead_88 : decode cX2_allAhead 88 = .ok (.iload_n 1, 1) := dk_27 (dk_at dksX2_allAhead_3 16 rfl rfl)
theorem dX2_allAhead_89 : decode cX2_allAhead 89 = .ok (.iload 4, 2) := dk_21 4 (dk_at dksX2_allAhead_3 17 rfl rfl)
theorem dX2_allAhead_91 : decode cX2_allAhead 91 = .ok (.iconst 1, 1) := dk_4 (dk_at dksX2_allAhead_3 19 rfl rfl)
theorem dX2_allAhead_92 : decode cX2_allAhead 92 = .ok (.invokevirtual 347, 3) := dk_182 1 91 (dk_at dksX2_allAhead_3 20 rfl rfl)
theorem dX2_allAhead_95 : decode cX2_allAhead 95 = .ok (.ifCond .ne 7, 3) := dk_154 0 7 (dk_at dksX2_allAhead_4 0 rfl rfl)
theorem dX2_allAhead_98 : decode cX2_allAhead 98 = .ok (.iconst 1, 1) := dk_4 (dk_at dksX2_allAhead_4 3 rfl rfl)
theorem dX2_allAhead_99 : decode cX2_allAhead 99 = .ok (.goto 4, 3) := dk_167 0 4 (dk_at dksX2_allAhead_4 4 rfl rfl)
theorem dX2_allAhead_102 : decode cX2_allAhead 102 = .ok (.iconst 0, 1) := dk_3 (dk_at dksX2_allAhead_4 7 rfl rfl)
theorem dX2_allAhead_103 : decode cX2_allAhead 103 = .ok (.istore 5, 2) := dk_54 5 (dk_at dksX2_allAhead_4 8 rfl rfl)
theorem dX2_allAhead_105 : decode cX2_allAhead 105 = .ok (.iload 5, 2) := dk_21 5 (dk_at dksX2_allAhead_4 10 rfl rfl)
theorem dX2_allAhead_107 : decode cX2_allAhead 107 = .ok (.ifCond .ne 5, 3) := dk_154 0 5 (dk_at dksX2_allAhead_4 12 rfl rfl)
theorem dX2_allAhead_110 : decode cX2_allAhead 110 = .ok (.iconst 0, 1) := dk_3 (dk_at dksX2_allAhead_4 15 rfl rfl)
theorem dX2_allAhead_111 : decode cX2_allAhead 111 = .ok (.ireturn, 1) := dk_172 (dk_at dksX2_allAhead_4 16 rfl rfl)
theorem dX2_allAhead_112 : decode cX2_allAhead 112 = .ok (.iinc 4 1, 3) := dk_132 4 1 (dk_at dksX2_allAhead_4 17 rfl rfl)
theorem dX2_allAhead_115 : decode cX2_allAhead 115 = .ok (.goto (-112), 3) := dk_167 255 144 (dk_at dksX2_allAhead_4 20 rfl rfl)
theorem dX2_allAhead_118 : decode cX2_allAhead 118 = .ok (.iconst 1, 1) := dk_4 (dk_at dksX2_allAhead_4 23 rfl rfl)
theorem dX2_allAhead_119 : decode cX2_allAhead 119 = .ok (.ireturn, 1) := dk_172 (dk_at dksX2_allAhead_5 0 rfl rfl)
abbrev cX2_leads : ByteArray := prog_24_method_50_code
def yX2_leads : MethodName := ⟨RX2, "leads", "(II)Z"⟩
def dkwX2_leads_1 : List UInt8 := [28, 160, 0, 7, 4, 167, 0, 4, 3, 172]
abbrev dktX2_leads_1 : List UInt8 := dkwX2_leads_1 ++ []
def dkwX2_leads_0 : List UInt8 := [42, 180, 0, 70, 17, 3, 192, 27, 96, 46, 28, 159, 0, 17, 42, 180, 0, 73, 17, 3, 192, 27, 96, 46]
abbrev dktX2_leads_0 : List UInt8 := dkwX2_leads_0 ++ dktX2_leads_1
theorem dksX2_leads_0 : cX2_leads.data.toList.drop 0 = dktX2_leads_0 := by decide +kernel
theorem dksX2_leads_1 : cX2_leads.data.toList.drop 24 = dktX2_leads_1 := dk_seg dksX2_leads_0 24 rfl rfl
theorem dX2_leads_0 : decode cX2_leads 0 = .ok (.aload_n 0, 1) := dk_42 (dk_at dksX2_leads_0 0 rfl rfl)
theorem dX2_leads_1 : decode cX2_leads 1 = .ok (.getfield 70, 3) := dk_180 0 70 (dk_at dksX2_leads_0 1 rfl rfl)
theorem dX2_leads_4 : decode cX2_leads 4 = .ok (.sipush 960, 3) := dk_17 3 192 (dk_at dksX2_leads_0 4 rfl rfl)
theorem dX2_leads_7 : decode cX2_leads 7 = .ok (.iload_n 1, 1) := dk_27 (dk_at dksX2_leads_0 7 rfl rfl)
theorem dX2_leads_8 : decode cX2_leads 8 = .ok (.iadd, 1) := dk_96 (dk_at dksX2_leads_0 8 rfl rfl)
theorem dX2_leads_9 : decode cX2_leads 9 = .ok (.iaload, 1) := dk_46 (dk_at dksX2_leads_0 9 rfl rfl)
theorem dX2_leads_10 : decode cX2_leads 10 = .ok (.iload_n 2, 1) := dk_28 (dk_at dksX2_leads_0 10 rfl rfl)
theorem dX2_leads_11 : decode cX2_leads 11 = .ok (.if_icmp .eq 17, 3) := dk_159 0 17 (dk_at dksX2_leads_0 11 rfl rfl)
theorem dX2_leads_14 : decode cX2_leads 14 = .ok (.aload_n 0, 1) := dk_42 (dk_at dksX2_leads_0 14 rfl rfl)
theorem dX2_leads_15 : decode cX2_leads 15 = .ok (.getfield 73, 3) := dk_180 0 73 (dk_at dksX2_leads_0 15 rfl rfl)
theorem dX2_leads_18 : decode cX2_leads 18 = .ok (.sipush 960, 3) := dk_17 3 192 (dk_at dksX2_leads_0 18 rfl rfl)
theorem dX2_leads_21 : decode cX2_leads 21 = .ok (.iload_n 1, 1) := dk_27 (dk_at dksX2_leads_0 21 rfl rfl)
theorem dX2_leads_22 : decode cX2_leads 22 = .ok (.iadd, 1) := dk_96 (dk_at dksX2_leads_0 22 rfl rfl)
theorem dX2_leads_23 : decode cX2_leads 23 = .ok (.iaload, 1) := dk_46 (dk_at dksX2_leads_0 23 rfl rfl)
theorem dX2_leads_24 : decode cX2_leads 24 = .ok (.iload_n 2, 1) := dk_28 (dk_at dksX2_leads_1 0 rfl rfl)
theorem dX2_leads_25 : decode cX2_leads 25 = .ok (.if_icmp .ne 7, 3) := dk_160 0 7 (dk_at dksX2_leads_1 1 rfl rfl)
theorem dX2_leads_28 : decode cX2_leads 28 = .ok (.iconst 1, 1) := dk_4 (dk_at dksX2_leads_1 4 rfl rfl)
theorem dX2_leads_29 : decode cX2_leads 29 = .ok (.goto 4, 3) := dk_167 0 4 (dk_at dksX2_leads_1 5 rfl rfl)
theorem dX2_leads_32 : decode cX2_leads 32 = .ok (.iconst 0, 1) := dk_3 (dk_at dksX2_leads_1 8 rfl rfl)
theorem dX2_leads_33 : decode cX2_leads 33 = .ok (.ireturn, 1) := dk_172 (dk_at dksX2_leads_1 9 rfl rfl)
abbrev cX2_isAloneNext : ByteArray := prog_24_method_48_code
def yX2_isAloneNext : MethodName := ⟨RX2, "isAloneNext", "(II)Z"⟩
def dkwX2_isAloneNext_1 : List UInt8 := [17, 0, 128, 182, 1, 91, 153, 0, 7, 4, 167, 0, 4, 3, 172]
abbrev dktX2_isAloneNext_1 : List UInt8 := dkwX2_isAloneNext_1 ++ []
def dkwX2_isAloneNext_0 : List UInt8 := [42, 27, 28, 16, 64, 182, 1, 91, 154, 0, 25, 42, 27, 28, 4, 182, 1, 91, 154, 0, 19, 42, 27, 28]
abbrev dktX2_isAloneNext_0 : List UInt8 := dkwX2_isAloneNext_0 ++ dktX2_isAloneNext_1
theorem dksX2_isAloneNext_0 : cX2_isAloneNext.data.toList.drop 0 = dktX2_isAloneNext_0 := by decide +kernel
theorem dksX2_isAloneNext_1 : cX2_isAloneNext.data.toList.drop 24 = dktX2_isAloneNext_1 := dk_seg dksX2_isAloneNext_0 24 rfl rfl
theorem dX2_isAloneNext_0 : decode cX2_isAloneNext 0 = .ok (.aload_n 0, 1) := dk_42 (dk_at dksX2_isAloneNext_0 0 rfl rfl)
theorem dX2_isAloneNext_1 : decode cX2_isAloneNext 1 = .ok (.iload_n 1, 1) := dk_27 (dk_at dksX2_isAloneNext_0 1 rfl rfl)
theorem dX2_isAloneNext_2 : decode cX2_isAloneNext 2 = .ok (.iload_n 2, 1) := dk_28 (dk_at dksX2_isAloneNext_0 2 rfl rfl)
theorem dX2_isAloneNext_3 : decode cX2_isAloneNext 3 = .ok (.bipush 64, 2) := dk_16 64 (dk_at dksX2_isAloneNext_0 3 rfl rfl)
theorem dX2_isAloneNext_5 : decode cX2_isAloneNext 5 = .ok (.invokevirtual 347, 3) := dk_182 1 91 (dk_at dksX2_isAloneNext_0 5 rfl rfl)
theorem dX2_isAloneNext_8 : decode cX2_isAloneNext 8 = .ok (.ifCond .ne 25, 3) := dk_154 0 25 (dk_at dksX2_isAloneNext_0 8 rfl rfl)
theorem dX2_isAloneNext_11 : decode cX2_isAloneNext 11 = .ok (.aload_n 0, 1) := dk_42 (dk_at dksX2_isAloneNext_0 11 rfl rfl)
theorem dX2_isAloneNext_12 : decode cX2_isAloneNext 12 = .ok (.iload_n 1, 1) := dk_27 (dk_at dksX2_isAloneNext_0 12 rfl rfl)
theorem dX2_isAloneNext_13 : decode cX2_isAloneNext 13 = .ok (.iload_n 2, 1) := dk_28 (dk_at dksX2_isAloneNext_0 13 rfl rfl)
theorem dX2_isAloneNext_14 : decode cX2_isAloneNext 14 = .ok (.iconst 1, 1) := dk_4 (dk_at dksX2_isAloneNext_0 14 rfl rfl)
theorem dX2_isAloneNext_15 : decode cX2_isAloneNext 15 = .ok (.invokevirtual 347, 3) := dk_182 1 91 (dk_at dksX2_isAloneNext_0 15 rfl rfl)
theorem dX2_isAloneNext_18 : decode cX2_isAloneNext 18 = .ok (.ifCond .ne 19, 3) := dk_154 0 19 (dk_at dksX2_isAloneNext_0 18 rfl rfl)
theorem dX2_isAloneNext_21 : decode cX2_isAloneNext 21 = .ok (.aload_n 0, 1) := dk_42 (dk_at dksX2_isAloneNext_0 21 rfl rfl)
theorem dX2_isAloneNext_22 : decode cX2_isAloneNext 22 = .ok (.iload_n 1, 1) := dk_27 (dk_at dksX2_isAloneNext_0 22 rfl rfl)
theorem dX2_isAloneNext_23 : decode cX2_isAloneNext 23 = .ok (.iload_n 2, 1) := dk_28 (dk_at dksX2_isAloneNext_0 23 rfl rfl)
theorem dX2_isAloneNext_24 : decode cX2_isAloneNext 24 = .ok (.sipush 128, 3) := dk_17 0 128 (dk_at dksX2_isAloneNext_1 0 rfl rfl)
theorem dX2_isAloneNext_27 : decode cX2_isAloneNext 27 = .ok (.invokevirtual 347, 3) := dk_182 1 91 (dk_at dksX2_isAloneNext_1 3 rfl rfl)
theorem dX2_isAloneNext_30 : decode cX2_isAloneNext 30 = .ok (.ifCond .eq 7, 3) := dk_153 0 7 (dk_at dksX2_isAloneNext_1 6 rfl rfl)
theorem dX2_isAloneNext_33 : decode cX2_isAloneNext 33 = .ok (.iconst 1, 1) := dk_4 (dk_at dksX2_isAloneNext_1 9 rfl rfl)
theorem dX2_isAloneNext_34 : decode cX2_isAloneNext 34 = .ok (.goto 4, 3) := dk_167 0 4 (dk_at dksX2_isAloneNext_1 10 rfl rfl)
theorem dX2_isAloneNext_37 : decode cX2_isAloneNext 37 = .ok (.iconst 0, 1) := dk_3 (dk_at dksX2_isAloneNext_1 13 rfl rfl)
theorem dX2_isAloneNext_38 : decode cX2_isAloneNext 38 = .ok (.ireturn, 1) := dk_172 (dk_at dksX2_isAloneNext_1 14 rfl rfl)
abbrev cX2_anyAhead : ByteArray := prog_24_method_52_code
def yX2_anyAhead : MethodName := ⟨RX2, "anyAhead", "(II)Z"⟩
def dkwX2_anyAhead_2 : List UInt8 := [182, 1, 91, 154, 0, 5, 4, 172, 132, 3, 1, 167, 255, 201, 3, 172]
abbrev dktX2_anyAhead_2 : List UInt8 := dkwX2_anyAhead_2 ++ []
def dkwX2_anyAhead_1 : List UInt8 := [5, 182, 1, 91, 154, 0, 24, 42, 27, 29, 16, 8, 182, 1, 91, 154, 0, 15, 42, 27, 29, 7]
abbrev dktX2_anyAhead_1 : List UInt8 := dkwX2_anyAhead_1 ++ dktX2_anyAhead_2
def dkwX2_anyAhead_0 : List UInt8 := [3, 62, 29, 42, 180, 0, 43, 7, 46, 162, 0, 51, 42, 29, 28, 182, 1, 114, 153, 0, 36, 42, 27, 29]
abbrev dktX2_anyAhead_0 : List UInt8 := dkwX2_anyAhead_0 ++ dktX2_anyAhead_1
theorem dksX2_anyAhead_0 : cX2_anyAhead.data.toList.drop 0 = dktX2_anyAhead_0 := by decide +kernel
theorem dksX2_anyAhead_1 : cX2_anyAhead.data.toList.drop 24 = dktX2_anyAhead_1 := dk_seg dksX2_anyAhead_0 24 rfl rfl
theorem dksX2_anyAhead_2 : cX2_anyAhead.data.toList.drop 46 = dktX2_anyAhead_2 := dk_seg dksX2_anyAhead_1 22 rfl rfl
theorem dX2_anyAhead_0 : decode cX2_anyAhead 0 = .ok (.iconst 0, 1) := dk_3 (dk_at dksX2_anyAhead_0 0 rfl rfl)
theorem dX2_anyAhead_1 : decode cX2_anyAhead 1 = .ok (.istore_n 3, 1) := dk_62 (dk_at dksX2_anyAhead_0 1 rfl rfl)
theorem dX2_anyAhead_2 : decode cX2_anyAhead 2 = .ok (.iload_n 3, 1) := dk_29 (dk_at dksX2_anyAhead_0 2 rfl rfl)
theorem dX2_anyAhead_3 : decode cX2_anyAhead 3 = .ok (.aload_n 0, 1) := dk_42 (dk_at dksX2_anyAhead_0 3 rfl rfl)
theorem dX2_anyAhead_4 : decode cX2_anyAhead 4 = .ok (.getfield 43, 3) := dk_180 0 43 (dk_at dksX2_anyAhead_0 4 rfl rfl)
theorem dX2_anyAhead_7 : decode cX2_anyAhead 7 = .ok (.iconst 4, 1) := dk_7 (dk_at dksX2_anyAhead_0 7 rfl rfl)
theorem dX2_anyAhead_8 : decode cX2_anyAhead 8 = .ok (.iaload, 1) := dk_46 (dk_at dksX2_anyAhead_0 8 rfl rfl)
theorem dX2_anyAhead_9 : decode cX2_anyAhead 9 = .ok (.if_icmp .ge 51, 3) := dk_162 0 51 (dk_at dksX2_anyAhead_0 9 rfl rfl)
theorem dX2_anyAhead_12 : decode cX2_anyAhead 12 = .ok (.aload_n 0, 1) := dk_42 (dk_at dksX2_anyAhead_0 12 rfl rfl)
theorem dX2_anyAhead_13 : decode cX2_anyAhead 13 = .ok (.iload_n 3, 1) := dk_29 (dk_at dksX2_anyAhead_0 13 rfl rfl)
theorem dX2_anyAhead_14 : decode cX2_anyAhead 14 = .ok (.iload_n 2, 1) := dk_28 (dk_at dksX2_anyAhead_0 14 rfl rfl)
theorem dX2_anyAhead_15 : decode cX2_anyAhead 15 = .ok (.invokevirtual 370, 3) := dk_182 1 114 (dk_at dksX2_anyAhead_0 15 rfl rfl)
theorem dX2_anyAhead_18 : decode cX2_anyAhead 18 = .ok (.ifCond .eq 36, 3) := dk_153 0 36 (dk_at dksX2_anyAhead_0 18 rfl rfl)
theorem dX2_anyAhead_21 : decode cX2_anyAhead 21 = .ok (.aload_n 0, 1) := dk_42 (dk_at dksX2_anyAhead_0 21 rfl rfl)
theorem dX2_anyAhead_22 : decode cX2_anyAhead 22 = .ok (.iload_n 1, 1) := dk_27 (dk_at dksX2_anyAhead_0 22 rfl rfl)
theorem dX2_anyAhead_23 : decode cX2_anyAhead 23 = .ok (.iload_n 3, 1) := dk_29 (dk_at dksX2_anyAhead_0 23 rfl rfl)
theorem dX2_anyAhead_24 : decode cX2_anyAhead 24 = .ok (.iconst 2, 1) := dk_5 (dk_at dksX2_anyAhead_1 0 rfl rfl)
theorem dX2_anyAhead_25 : decode cX2_anyAhead 25 = .ok (.invokevirtual 347, 3) := dk_182 1 91 (dk_at dksX2_anyAhead_1 1 rfl rfl)
theorem dX2_anyAhead_28 : decode cX2_anyAhead 28 = .ok (.ifCond .ne 24, 3) := dk_154 0 24 (dk_at dksX2_anyAhead_1 4 rfl rfl)
theorem dX2_anyAhead_31 : decode cX2_anyAhead 31 = .ok (.aload_n 0, 1) := dk_42 (dk_at dksX2_anyAhead_1 7 rfl rfl)
theorem dX2_anyAhead_32 : decode cX2_anyAhead 32 = .ok (.iload_n 1, 1) := dk_27 (dk_at dksX2_anyAhead_1 8 rfl rfl)
theorem dX2_anyAhead_33 : decode cX2_anyAhead 33 = .ok (.iload_n 3, 1) := dk_29 (dk_at dksX2_anyAhead_1 9 rfl rfl)
theorem dX2_anyAhead_34 : decode cX2_anyAhead 34 = .ok (.bipush 8, 2) := dk_16 8 (dk_at dksX2_anyAhead_1 10 rfl rfl)
theorem dX2_anyAhead_36 : decode cX2_anyAhead 36 = .ok (.invokevirtual 347, 3) := dk_182 1 91 (dk_at dksX2_anyAhead_1 12 rfl rfl)
theorem dX2_anyAhead_39 : decode cX2_anyAhead 39 = .ok (.ifCond .ne 15, 3) := dk_154 0 15 (dk_at dksX2_anyAhead_1 15 rfl rfl)
theorem dX2_anyAhead_42 : decode cX2_anyAhead 42 = .ok (.aload_n 0, 1) := dk_42 (dk_at dksX2_anyAhead_1 18 rfl rfl)
theorem dX2_anyAhead_43 : decode cX2_anyAhead 43 = .ok (.iload_n 1, 1) := dk_27 (dk_at dksX2_anyAhead_1 19 rfl rfl)
theorem dX2_anyAhead_44 : decode cX2_anyAhead 44 = .ok (.iload_n 3, 1) := dk_29 (dk_at dksX2_anyAhead_1 20 rfl rfl)
theorem dX2_anyAhead_45 : decode cX2_anyAhead 45 = .ok (.iconst 4, 1) := dk_7 (dk_at dksX2_anyAhead_1 21 rfl rfl)
theorem dX2_anyAhead_46 : decode cX2_anyAhead 46 = .ok (.invokevirtual 347, 3) := dk_182 1 91 (dk_at dksX2_anyAhead_2 0 rfl rfl)
theorem dX2_anyAhead_49 : decode cX2_anyAhead 49 = .ok (.ifCond .ne 5, 3) := dk_154 0 5 (dk_at dksX2_anyAhead_2 3 rfl rfl)
theorem dX2_anyAhead_52 : decode cX2_anyAhead 52 = .ok (.iconst 1, 1) := dk_4 (dk_at dksX2_anyAhead_2 6 rfl rfl)
theorem dX2_anyAhead_53 : decode cX2_anyAhead 53 = .ok (.ireturn, 1) := dk_172 (dk_at dksX2_anyAhead_2 7 rfl rfl)
theorem dX2_anyAhead_54 : decode cX2_anyAhead 54 = .ok (.iinc 3 1, 3) := dk_132 3 1 (dk_at dksX2_anyAhead_2 8 rfl rfl)
theorem dX2_anyAhead_57 : decode cX2_anyAhead 57 = .ok (.goto (-55), 3) := dk_167 255 201 (dk_at dksX2_anyAhead_2 11 rfl rfl)
theorem dX2_anyAhead_60 : decode cX2_anyAhead 60 = .ok (.iconst 0, 1) := dk_3 (dk_at dksX2_anyAhead_2 14 rfl rfl)
theorem dX2_anyAhead_61 : decode cX2_anyAhead 61 = .ok (.ireturn, 1) := dk_172 (dk_at dksX2_anyAhead_2 15 rfl rfl)
abbrev cX2_copy : ByteArray := prog_24_method_53_code
def yX2_copy : MethodName := ⟨RX2, "copy", "(I)V"⟩
def dkwX2_copy_18 : List UInt8 := [42, 7, 28, 182, 1, 82, 29, 96, 46, 79, 132, 3, 1, 167, 255, 217, 132, 2, 1, 167, 255, 94, 177]
abbrev dktX2_copy_18 : List UInt8 := dkwX2_copy_18 ++ []
def dkwX2_copy_17 : List UInt8 := [180, 0, 43, 27, 46, 162, 0, 35, 42, 180, 0, 107, 42, 27, 28, 182, 1, 82, 29, 96, 42, 180, 0, 107]
abbrev dktX2_copy_17 : List UInt8 := dkwX2_copy_17 ++ dktX2_copy_18
def dkwX2_copy_16 : List UInt8 := [180, 0, 103, 16, 32, 27, 104, 28, 96, 42, 180, 0, 103, 17, 0, 128, 28, 96, 46, 79, 3, 62, 29, 42]
abbrev dktX2_copy_16 : List UInt8 := dkwX2_copy_16 ++ dktX2_copy_17
def dkwX2_copy_15 : List UInt8 := [79, 42, 180, 0, 100, 16, 32, 27, 104, 28, 96, 42, 180, 0, 100, 17, 0, 128, 28, 96, 46, 79, 42]
abbrev dktX2_copy_15 : List UInt8 := dkwX2_copy_15 ++ dktX2_copy_16
def dkwX2_copy_14 : List UInt8 := [28, 96, 46, 79, 42, 180, 0, 97, 16, 32, 27, 104, 28, 96, 42, 180, 0, 97, 17, 0, 128, 28, 96, 46]
abbrev dktX2_copy_14 : List UInt8 := dkwX2_copy_14 ++ dktX2_copy_15
def dkwX2_copy_13 : List UInt8 := [17, 0, 128, 28, 96, 46, 79, 42, 180, 0, 94, 16, 32, 27, 104, 28, 96, 42, 180, 0, 94, 17, 0, 128]
abbrev dktX2_copy_13 : List UInt8 := dkwX2_copy_13 ++ dktX2_copy_14
def dkwX2_copy_12 : List UInt8 := [180, 0, 49, 27, 46, 162, 0, 158, 42, 180, 0, 91, 16, 32, 27, 104, 28, 96, 42, 180, 0, 91]
abbrev dktX2_copy_12 : List UInt8 := dkwX2_copy_12 ++ dktX2_copy_13
def dkwX2_copy_11 : List UInt8 := [180, 0, 88, 29, 42, 180, 0, 88, 21, 4, 46, 79, 132, 2, 1, 167, 255, 85, 3, 61, 28, 42]
abbrev dktX2_copy_11 : List UInt8 := dkwX2_copy_11 ++ dktX2_copy_12
def dkwX2_copy_10 : List UInt8 := [29, 42, 180, 0, 82, 21, 4, 46, 79, 42, 180, 0, 85, 29, 42, 180, 0, 85, 21, 4, 46, 79, 42]
abbrev dktX2_copy_10 : List UInt8 := dkwX2_copy_10 ++ dktX2_copy_11
def dkwX2_copy_9 : List UInt8 := [180, 0, 76, 21, 4, 46, 79, 42, 180, 0, 79, 29, 42, 180, 0, 79, 21, 4, 46, 79, 42, 180, 0, 82]
abbrev dktX2_copy_9 : List UInt8 := dkwX2_copy_9 ++ dktX2_copy_10
def dkwX2_copy_8 : List UInt8 := [21, 4, 46, 79, 42, 180, 0, 73, 29, 42, 180, 0, 73, 21, 4, 46, 79, 42, 180, 0, 76, 29, 42]
abbrev dktX2_copy_8 : List UInt8 := dkwX2_copy_8 ++ dktX2_copy_9
def dkwX2_copy_7 : List UInt8 := [79, 42, 180, 0, 67, 29, 42, 180, 0, 67, 21, 4, 46, 79, 42, 180, 0, 70, 29, 42, 180, 0, 70]
abbrev dktX2_copy_7 : List UInt8 := dkwX2_copy_7 ++ dktX2_copy_8
def dkwX2_copy_6 : List UInt8 := [180, 0, 61, 29, 42, 180, 0, 61, 21, 4, 46, 79, 42, 180, 0, 64, 29, 42, 180, 0, 64, 21, 4, 46]
abbrev dktX2_copy_6 : List UInt8 := dkwX2_copy_6 ++ dktX2_copy_7
def dkwX2_copy_5 : List UInt8 := [96, 62, 17, 3, 192, 28, 96, 54, 4, 42, 180, 0, 58, 29, 42, 180, 0, 58, 21, 4, 46, 79, 42]
abbrev dktX2_copy_5 : List UInt8 := dkwX2_copy_5 ++ dktX2_copy_6
def dkwX2_copy_4 : List UInt8 := [132, 2, 1, 167, 255, 222, 3, 61, 28, 42, 180, 0, 43, 27, 46, 162, 0, 167, 17, 0, 240, 27, 104, 28]
abbrev dktX2_copy_4 : List UInt8 := dkwX2_copy_4 ++ dktX2_copy_5
def dkwX2_copy_3 : List UInt8 := [162, 0, 30, 42, 180, 0, 52, 16, 41, 27, 104, 28, 96, 42, 180, 0, 52, 17, 0, 164, 28, 96, 46, 79]
abbrev dktX2_copy_3 : List UInt8 := dkwX2_copy_3 ++ dktX2_copy_4
def dkwX2_copy_2 : List UInt8 := [42, 180, 0, 49, 7, 46, 79, 42, 180, 0, 186, 27, 3, 79, 3, 61, 28, 42, 180, 0, 40, 27, 46]
abbrev dktX2_copy_2 : List UInt8 := dkwX2_copy_2 ++ dktX2_copy_3
def dkwX2_copy_1 : List UInt8 := [42, 180, 0, 43, 7, 46, 79, 42, 180, 0, 46, 27, 42, 180, 0, 46, 7, 46, 79, 42, 180, 0, 49, 27]
abbrev dktX2_copy_1 : List UInt8 := dkwX2_copy_1 ++ dktX2_copy_2
def dkwX2_copy_0 : List UInt8 := [42, 180, 0, 36, 27, 4, 84, 42, 180, 0, 40, 27, 42, 180, 0, 40, 7, 46, 79, 42, 180, 0, 43, 27]
abbrev dktX2_copy_0 : List UInt8 := dkwX2_copy_0 ++ dktX2_copy_1
theorem dksX2_copy_0 : cX2_copy.data.toList.drop 0 = dktX2_copy_0 := by decide +kernel
theorem dksX2_copy_1 : cX2_copy.data.toList.drop 24 = dktX2_copy_1 := dk_seg dksX2_copy_0 24 rfl rfl
theorem dksX2_copy_2 : cX2_copy.data.toList.drop 48 = dktX2_copy_2 := dk_seg dksX2_copy_1 24 rfl rfl
theorem dksX2_copy_3 : cX2_copy.data.toList.drop 71 = dktX2_copy_3 := dk_seg dksX2_copy_2 23 rfl rfl
theorem dksX2_copy_4 : cX2_copy.data.toList.drop 95 = dktX2_copy_4 := dk_seg dksX2_copy_3 24 rfl rfl
theorem dksX2_copy_5 : cX2_copy.data.toList.drop 119 = dktX2_copy_5 := dk_seg dksX2_copy_4 24 rfl rfl
theorem dksX2_copy_6 : cX2_copy.data.toList.drop 142 = dktX2_copy_6 := dk_seg dksX2_copy_5 23 rfl rfl
theorem dksX2_copy_7 : cX2_copy.data.toList.drop 166 = dktX2_copy_7 := dk_seg dksX2_copy_6 24 rfl rfl
theorem dksX2_copy_8 : cX2_copy.data.toList.drop 189 = dktX2_copy_8 := dk_seg dksX2_copy_7 23 rfl rfl
theorem dksX2_copy_9 : cX2_copy.data.toList.drop 212 = dktX2_copy_9 := dk_seg dksX2_copy_8 23 rfl rfl
theorem dksX2_copy_10 : cX2_copy.data.toList.drop 236 = dktX2_copy_10 := dk_seg dksX2_copy_9 24 rfl rfl
theorem dksX2_copy_11 : cX2_copy.data.toList.drop 259 = dktX2_copy_11 := dk_seg dksX2_copy_10 23 rfl rfl
theorem dksX2_copy_12 : cX2_copy.data.toList.drop 281 = dktX2_copy_12 := dk_seg dksX2_copy_11 22 rfl rfl
theorem dksX2_copy_13 : cX2_copy.data.toList.drop 303 = dktX2_copy_13 := dk_seg dksX2_copy_12 22 rfl rfl
theorem dksX2_copy_14 : cX2_copy.data.toList.drop 327 = dktX2_copy_14 := dk_seg dksX2_copy_13 24 rfl rfl
theorem dksX2_copy_15 : cX2_copy.data.toList.drop 351 = dktX2_copy_15 := dk_seg dksX2_copy_14 24 rfl rfl
theorem dksX2_copy_16 : cX2_copy.data.toList.drop 374 = dktX2_copy_16 := dk_seg dksX2_copy_15 23 rfl rfl
theorem dksX2_copy_17 : cX2_copy.data.toList.drop 398 = dktX2_copy_17 := dk_seg dksX2_copy_16 24 rfl rfl
theorem dksX2_copy_18 : cX2_copy.data.toList.drop 422 = dktX2_copy_18 := dk_seg dksX2_copy_17 24 rfl rfl
theorem dX2_copy_0 : decode cX2_copy 0 = .ok (.aload_n 0, 1) := dk_42 (dk_at dksX2_copy_0 0 rfl rfl)
theorem dX2_copy_1 : decode cX2_copy 1 = .ok (.getfield 36, 3) := dk_180 0 36 (dk_at dksX2_copy_0 1 rfl rfl)
theorem dX2_copy_4 : decode cX2_copy 4 = .ok (.iload_n 1, 1) := dk_27 (dk_at dksX2_copy_0 4 rfl rfl)
theorem dX2_copy_5 : decode cX2_copy 5 = .ok (.iconst 1, 1) := dk_4 (dk_at dksX2_copy_0 5 rfl rfl)
theorem dX2_copy_6 : decode cX2_copy 6 = .ok (.bastore, 1) := dk_84 (dk_at dksX2_copy_0 6 rfl rfl)
theorem dX2_copy_7 : decode cX2_copy 7 = .ok (.aload_n 0, 1) := dk_42 (dk_at dksX2_copy_0 7 rfl rfl)
theorem dX2_copy_8 : decode cX2_copy 8 = .ok (.getfield 40, 3) := dk_180 0 40 (dk_at dksX2_copy_0 8 rfl rfl)
theorem dX2_copy_11 : decode cX2_copy 11 = .ok (.iload_n 1, 1) := dk_27 (dk_at dksX2_copy_0 11 rfl rfl)
theorem dX2_copy_12 : decode cX2_copy 12 = .ok (.aload_n 0, 1) := dk_42 (dk_at dksX2_copy_0 12 rfl rfl)
theorem dX2_copy_13 : decode cX2_copy 13 = .ok (.getfield 40, 3) := dk_180 0 40 (dk_at dksX2_copy_0 13 rfl rfl)
theorem dX2_copy_16 : decode cX2_copy 16 = .ok (.iconst 4, 1) := dk_7 (dk_at dksX2_copy_0 16 rfl rfl)
theorem dX2_copy_17 : decode cX2_copy 17 = .ok (.iaload, 1) := dk_46 (dk_at dksX2_copy_0 17 rfl rfl)
theorem dX2_copy_18 : decode cX2_copy 18 = .ok (.iastore, 1) := dk_79 (dk_at dksX2_copy_0 18 rfl rfl)
theorem dX2_copy_19 : decode cX2_copy 19 = .ok (.aload_n 0, 1) := dk_42 (dk_at dksX2_copy_0 19 rfl rfl)
theorem dX2_copy_20 : decode cX2_copy 20 = .ok (.getfield 43, 3) := dk_180 0 43 (dk_at dksX2_copy_0 20 rfl rfl)
theorem dX2_copy_23 : decode cX2_copy 23 = .ok (.iload_n 1, 1) := dk_27 (dk_at dksX2_copy_0 23 rfl rfl)
theorem dX2_copy_24 : decode cX2_copy 24 = .ok (.aload_n 0, 1) := dk_42 (dk_at dksX2_copy_1 0 rfl rfl)
theorem dX2_copy_25 : decode cX2_copy 25 = .ok (.getfield 43, 3) := dk_180 0 43 (dk_at dksX2_copy_1 1 rfl rfl)
theorem dX2_copy_28 : decode cX2_copy 28 = .ok (.iconst 4, 1) := dk_7 (dk_at dksX2_copy_1 4 rfl rfl)
theorem dX2_copy_29 : decode cX2_copy 29 = .ok (.iaload, 1) := dk_46 (dk_at dksX2_copy_1 5 rfl rfl)
theorem dX2_copy_30 : decode cX2_copy 30 = .ok (.iastore, 1) := dk_79 (dk_at dksX2_copy_1 6 rfl rfl)
theorem dX2_copy_31 : decode cX2_copy 31 = .ok (.aload_n 0, 1) := dk_42 (dk_at dksX2_copy_1 7 rfl rfl)
theorem dX2_copy_32 : decode cX2_copy 32 = .ok (.getfield 46, 3) := dk_180 0 46 (dk_at dksX2_copy_1 8 rfl rfl)
theorem dX2_copy_35 : decode cX2_copy 35 = .ok (.iload_n 1, 1) := dk_27 (dk_at dksX2_copy_1 11 rfl rfl)
theorem dX2_copy_36 : decode cX2_copy 36 = .ok (.aload_n 0, 1) := dk_42 (dk_at dksX2_copy_1 12 rfl rfl)
theorem dX2_copy_37 : decode cX2_copy 37 = .ok (.getfield 46, 3) := dk_180 0 46 (dk_at dksX2_copy_1 13 rfl rfl)
theorem dX2_copy_40 : decode cX2_copy 40 = .ok (.iconst 4, 1) := dk_7 (dk_at dksX2_copy_1 16 rfl rfl)
theorem dX2_copy_41 : decode cX2_copy 41 = .ok (.iaload, 1) := dk_46 (dk_at dksX2_copy_1 17 rfl rfl)
theorem dX2_copy_42 : decode cX2_copy 42 = .ok (.iastore, 1) := dk_79 (dk_at dksX2_copy_1 18 rfl rfl)
theorem dX2_copy_43 : decode cX2_copy 43 = .ok (.aload_n 0, 1) := dk_42 (dk_at dksX2_copy_1 19 rfl rfl)
theorem dX2_copy_44 : decode cX2_copy 44 = .ok (.getfield 49, 3) := dk_180 0 49 (dk_at dksX2_copy_1 20 rfl rfl)
theorem dX2_copy_47 : decode cX2_copy 47 = .ok (.iload_n 1, 1) := dk_27 (dk_at dksX2_copy_1 23 rfl rfl)
theorem dX2_copy_48 : decode cX2_copy 48 = .ok (.aload_n 0, 1) := dk_42 (dk_at dksX2_copy_2 0 rfl rfl)
theorem dX2_copy_49 : decode cX2_copy 49 = .ok (.getfield 49, 3) := dk_180 0 49 (dk_at dksX2_copy_2 1 rfl rfl)
theorem dX2_copy_52 : decode cX2_copy 52 = .ok (.iconst 4, 1) := dk_7 (dk_at dksX2_copy_2 4 rfl rfl)
theorem dX2_copy_53 : decode cX2_copy 53 = .ok (.iaload, 1) := dk_46 (dk_at dksX2_copy_2 5 rfl rfl)
theorem dX2_copy_54 : decode cX2_copy 54 = .ok (.iastore, 1) := dk_79 (dk_at dksX2_copy_2 6 rfl rfl)
theorem dX2_copy_55 : decode cX2_copy 55 = .ok (.aload_n 0, 1) := dk_42 (dk_at dksX2_copy_2 7 rfl rfl)
theorem dX2_copy_56 : decode cX2_copy 56 = .ok (.getfield 186, 3) := dk_180 0 186 (dk_at dksX2_copy_2 8 rfl rfl)
theorem dX2_copy_59 : decode cX2_copy 59 = .ok (.iload_n 1, 1) := dk_27 (dk_at dksX2_copy_2 11 rfl rfl)
theorem dX2_copy_60 : decode cX2_copy 60 = .ok (.iconst 0, 1) := dk_3 (dk_at dksX2_copy_2 12 rfl rfl)
theorem dX2_copy_61 : decode cX2_copy 61 = .ok (.iastore, 1) := dk_79 (dk_at dksX2_copy_2 13 rfl rfl)
theorem dX2_copy_62 : decode cX2_copy 62 = .ok (.iconst 0, 1) := dk_3 (dk_at dksX2_copy_2 14 rfl rfl)
theorem dX2_copy_63 : decode cX2_copy 63 = .ok (.istore_n 2, 1) := dk_61 (dk_at dksX2_copy_2 15 rfl rfl)
theorem dX2_copy_64 : decode cX2_copy 64 = .ok (.iload_n 2, 1) := dk_28 (dk_at dksX2_copy_2 16 rfl rfl)
theorem dX2_copy_65 : decode cX2_copy 65 = .ok (.aload_n 0, 1) := dk_42 (dk_at dksX2_copy_2 17 rfl rfl)
theorem dX2_copy_66 : decode cX2_copy 66 = .ok (.getfield 40, 3) := dk_180 0 40 (dk_at dksX2_copy_2 18 rfl rfl)
theorem dX2_copy_69 : decode cX2_copy 69 = .ok (.iload_n 1, 1) := dk_27 (dk_at dksX2_copy_2 21 rfl rfl)
theorem dX2_copy_70 : decode cX2_copy 70 = .ok (.iaload, 1) := dk_46 (dk_at dksX2_copy_2 22 rfl rfl)
theorem dX2_copy_71 : decode cX2_copy 71 = .ok (.if_icmp .ge 30, 3) := dk_162 0 30 (dk_at dksX2_copy_3 0 rfl rfl)
theorem dX2_copy_74 : decode cX2_copy 74 = .ok (.aload_n 0, 1) := dk_42 (dk_at dksX2_copy_3 3 rfl rfl)
theorem dX2_copy_75 : decode cX2_copy 75 = .ok (.getfield 52, 3) := dk_180 0 52 (dk_at dksX2_copy_3 4 rfl rfl)
theorem dX2_copy_78 : decode cX2_copy 78 = .ok (.bipush 41, 2) := dk_16 41 (dk_at dksX2_copy_3 7 rfl rfl)
theorem dX2_copy_80 : decode cX2_copy 80 = .ok (.iload_n 1, 1) := dk_27 (dk_at dksX2_copy_3 9 rfl rfl)
theorem dX2_copy_81 : decode cX2_copy 81 = .ok (.imul, 1) := dk_104 (dk_at dksX2_copy_3 10 rfl rfl)
theorem dX2_copy_82 : decode cX2_copy 82 = .ok (.iload_n 2, 1) := dk_28 (dk_at dksX2_copy_3 11 rfl rfl)
theorem dX2_copy_83 : decode cX2_copy 83 = .ok (.iadd, 1) := dk_96 (dk_at dksX2_copy_3 12 rfl rfl)
theorem dX2_copy_84 : decode cX2_copy 84 = .ok (.aload_n 0, 1) := dk_42 (dk_at dksX2_copy_3 13 rfl rfl)
theorem dX2_copy_85 : decode cX2_copy 85 = .ok (.getfield 52, 3) := dk_180 0 52 (dk_at dksX2_copy_3 14 rfl rfl)
theorem dX2_copy_88 : decode cX2_copy 88 = .ok (.sipush 164, 3) := dk_17 0 164 (dk_at dksX2_copy_3 17 rfl rfl)
theorem dX2_copy_91 : decode cX2_copy 91 = .ok (.iload_n 2, 1) := dk_28 (dk_at dksX2_copy_3 20 rfl rfl)
theorem dX2_copy_92 : decode cX2_copy 92 = .ok (.iadd, 1) := dk_96 (dk_at dksX2_copy_3 21 rfl rfl)
theorem dX2_copy_93 : decode cX2_copy 93 = .ok (.iaload, 1) := dk_46 (dk_at dksX2_copy_3 22 rfl rfl)
theorem dX2_copy_94 : decode cX2_copy 94 = .ok (.iastore, 1) := dk_79 (dk_at dksX2_copy_3 23 rfl rfl)
theorem dX2_copy_95 : decode cX2_copy 95 = .ok (.iinc 2 1, 3) := dk_132 2 1 (dk_at dksX2_copy_4 0 rfl rfl)
theorem dX2_copy_98 : decode cX2_copy 98 = .ok (.goto (-34), 3) := dk_167 255 222 (dk_at dksX2_copy_4 3 rfl rfl)
theorem dX2_copy_101 : decode cX2_copy 101 = .ok (.iconst 0, 1) := dk_3 (dk_at dksX2_copy_4 6 rfl rfl)
theorem dX2_copy_102 : decode cX2_copy 102 = .ok (.istore_n 2, 1) := dk_61 (dk_at dksX2_copy_4 7 rfl rfl)
theorem dX2_copy_103 : decode cX2_copy 103 = .ok (.iload_n 2, 1) := dk_28 (dk_at dksX2_copy_4 8 rfl rfl)
theorem dX2_copy_104 : decode cX2_copy 104 = .ok (.aload_n 0, 1) := dk_42 (dk_at dksX2_copy_4 9 rfl rfl)
theorem dX2_copy_105 : decode cX2_copy 105 = .ok (.getfield 43, 3) := dk_180 0 43 (dk_at dksX2_copy_4 10 rfl rfl)
theorem dX2_copy_108 : decode cX2_copy 108 = .ok (.iload_n 1, 1) := dk_27 (dk_at dksX2_copy_4 13 rfl rfl)
theorem dX2_copy_109 : decode cX2_copy 109 = .ok (.iaload, 1) := dk_46 (dk_at dksX2_copy_4 14 rfl rfl)
theorem dX2_copy_110 : decode cX2_copy 110 = .ok (.if_icmp .ge 167, 3) := dk_162 0 167 (dk_at dksX2_copy_4 15 rfl rfl)
theorem dX2_copy_113 : decode cX2_copy 113 = .ok (.sipush 240, 3) := dk_17 0 240 (dk_at dksX2_copy_4 18 rfl rfl)
theorem dX2_copy_116 : decode cX2_copy 116 = .ok (.iload_n 1, 1) := dk_27 (dk_at dksX2_copy_4 21 rfl rfl)
theorem dX2_copy_117 : decode cX2_copy 117 = .ok (.imul, 1) := dk_104 (dk_at dksX2_copy_4 22 rfl rfl)
theorem dX2_copy_118 : decode cX2_copy 118 = .ok (.iload_n 2, 1) := dk_28 (dk_at dksX2_copy_4 23 rfl rfl)
theorem dX2_copy_119 : decode cX2_copy 119 = .ok (.iadd, 1) := dk_96 (dk_at dksX2_copy_5 0 rfl rfl)
theorem dX2_copy_120 : decode cX2_copy 120 = .ok (.istore_n 3, 1) := dk_62 (dk_at dksX2_copy_5 1 rfl rfl)
theorem dX2_copy_121 : decode cX2_copy 121 = .ok (.sipush 960, 3) := dk_17 3 192 (dk_at dksX2_copy_5 2 rfl rfl)
theorem dX2_copy_124 : decode cX2_copy 124 = .ok (.iload_n 2, 1) := dk_28 (dk_at dksX2_copy_5 5 rfl rfl)
theorem dX2_copy_125 : decode cX2_copy 125 = .ok (.iadd, 1) := dk_96 (dk_at dksX2_copy_5 6 rfl rfl)
theorem dX2_copy_126 : decode cX2_copy 126 = .ok (.istore 4, 2) := dk_54 4 (dk_at dksX2_copy_5 7 rfl rfl)
theorem dX2_copy_128 : decode cX2_copy 128 = .ok (.aload_n 0, 1) := dk_42 (dk_at dksX2_copy_5 9 rfl rfl)
theorem dX2_copy_129 : decode cX2_copy 129 = .ok (.getfield 58, 3) := dk_180 0 58 (dk_at dksX2_copy_5 10 rfl rfl)
theorem dX2_copy_132 : decode cX2_copy 132 = .ok (.iload_n 3, 1) := dk_29 (dk_at dksX2_copy_5 13 rfl rfl)
theorem dX2_copy_133 : decode cX2_copy 133 = .ok (.aload_n 0, 1) := dk_42 (dk_at dksX2_copy_5 14 rfl rfl)
theorem dX2_copy_134 : decode cX2_copy 134 = .ok (.getfield 58, 3) := dk_180 0 58 (dk_at dksX2_copy_5 15 rfl rfl)
theorem dX2_copy_137 : decode cX2_copy 137 = .ok (.iload 4, 2) := dk_21 4 (dk_at dksX2_copy_5 18 rfl rfl)
theorem dX2_copy_139 : decode cX2_copy 139 = .ok (.iaload, 1) := dk_46 (dk_at dksX2_copy_5 20 rfl rfl)
theorem dX2_copy_140 : decode cX2_copy 140 = .ok (.iastore, 1) := dk_79 (dk_at dksX2_copy_5 21 rfl rfl)
theorem dX2_copy_141 : decode cX2_copy 141 = .ok (.aload_n 0, 1) := dk_42 (dk_at dksX2_copy_5 22 rfl rfl)
theorem dX2_copy_142 : decode cX2_copy 142 = .ok (.getfield 61, 3) := dk_180 0 61 (dk_at dksX2_copy_6 0 rfl rfl)
theorem dX2_copy_145 : decode cX2_copy 145 = .ok (.iload_n 3, 1) := dk_29 (dk_at dksX2_copy_6 3 rfl rfl)
theorem dX2_copy_146 : decode cX2_copy 146 = .ok (.aload_n 0, 1) := dk_42 (dk_at dksX2_copy_6 4 rfl rfl)
theorem dX2_copy_147 : decode cX2_copy 147 = .ok (.getfield 61, 3) := dk_180 0 61 (dk_at dksX2_copy_6 5 rfl rfl)
theorem dX2_copy_150 : decode cX2_copy 150 = .ok (.iload 4, 2) := dk_21 4 (dk_at dksX2_copy_6 8 rfl rfl)
theorem dX2_copy_152 : decode cX2_copy 152 = .ok (.iaload, 1) := dk_46 (dk_at dksX2_copy_6 10 rfl rfl)
theorem dX2_copy_153 : decode cX2_copy 153 = .ok (.iastore, 1) := dk_79 (dk_at dksX2_copy_6 11 rfl rfl)
theorem dX2_copy_154 : decode cX2_copy 154 = .ok (.aload_n 0, 1) := dk_42 (dk_at dksX2_copy_6 12 rfl rfl)
theorem dX2_copy_155 : decode cX2_copy 155 = .ok (.getfield 64, 3) := dk_180 0 64 (dk_at dksX2_copy_6 13 rfl rfl)
theorem dX2_copy_158 : decode cX2_copy 158 = .ok (.iload_n 3, 1) := dk_29 (dk_at dksX2_copy_6 16 rfl rfl)
theorem dX2_copy_159 : decode cX2_copy 159 = .ok (.aload_n 0, 1) := dk_42 (dk_at dksX2_copy_6 17 rfl rfl)
theorem dX2_copy_160 : decode cX2_copy 160 = .ok (.getfield 64, 3) := dk_180 0 64 (dk_at dksX2_copy_6 18 rfl rfl)
theorem dX2_copy_163 : decode cX2_copy 163 = .ok (.iload 4, 2) := dk_21 4 (dk_at dksX2_copy_6 21 rfl rfl)
theorem dX2_copy_165 : decode cX2_copy 165 = .ok (.iaload, 1) := dk_46 (dk_at dksX2_copy_6 23 rfl rfl)
theorem dX2_copy_166 : decode cX2_copy 166 = .ok (.iastore, 1) := dk_79 (dk_at dksX2_copy_7 0 rfl rfl)
theorem dX2_copy_167 : decode cX2_copy 167 = .ok (.aload_n 0, 1) := dk_42 (dk_at dksX2_copy_7 1 rfl rfl)
theorem dX2_copy_168 : decode cX2_copy 168 = .ok (.getfield 67, 3) := dk_180 0 67 (dk_at dksX2_copy_7 2 rfl rfl)
theorem dX2_copy_171 : decode cX2_copy 171 = .ok (.iload_n 3, 1) := dk_29 (dk_at dksX2_copy_7 5 rfl rfl)
theorem dX2_copy_172 : decode cX2_copy 172 = .ok (.aload_n 0, 1) := dk_42 (dk_at dksX2_copy_7 6 rfl rfl)
theorem dX2_copy_173 : decode cX2_copy 173 = .ok (.getfield 67, 3) := dk_180 0 67 (dk_at dksX2_copy_7 7 rfl rfl)
theorem dX2_copy_176 : decode cX2_copy 176 = .ok (.iload 4, 2) := dk_21 4 (dk_at dksX2_copy_7 10 rfl rfl)
theorem dX2_copy_178 : decode cX2_copy 178 = .ok (.iaload, 1) := dk_46 (dk_at dksX2_copy_7 12 rfl rfl)
theorem dX2_copy_179 : decode cX2_copy 179 = .ok (.iastore, 1) := dk_79 (dk_at dksX2_copy_7 13 rfl rfl)
theorem dX2_copy_180 : decode cX2_copy 180 = .ok (.aload_n 0, 1) := dk_42 (dk_at dksX2_copy_7 14 rfl rfl)
theorem dX2_copy_181 : decode cX2_copy 181 = .ok (.getfield 70, 3) := dk_180 0 70 (dk_at dksX2_copy_7 15 rfl rfl)
theorem dX2_copy_184 : decode cX2_copy 184 = .ok (.iload_n 3, 1) := dk_29 (dk_at dksX2_copy_7 18 rfl rfl)
theorem dX2_copy_185 : decode cX2_copy 185 = .ok (.aload_n 0, 1) := dk_42 (dk_at dksX2_copy_7 19 rfl rfl)
theorem dX2_copy_186 : decode cX2_copy 186 = .ok (.getfield 70, 3) := dk_180 0 70 (dk_at dksX2_copy_7 20 rfl rfl)
theorem dX2_copy_189 : decode cX2_copy 189 = .ok (.iload 4, 2) := dk_21 4 (dk_at dksX2_copy_8 0 rfl rfl)
theorem dX2_copy_191 : decode cX2_copy 191 = .ok (.iaload, 1) := dk_46 (dk_at dksX2_copy_8 2 rfl rfl)
theorem dX2_copy_192 : decode cX2_copy 192 = .ok (.iastore, 1) := dk_79 (dk_at dksX2_copy_8 3 rfl rfl)
theorem dX2_copy_193 : decode cX2_copy 193 = .ok (.aload_n 0, 1) := dk_42 (dk_at dksX2_copy_8 4 rfl rfl)
theorem dX2_copy_194 : decode cX2_copy 194 = .ok (.getfield 73, 3) := dk_180 0 73 (dk_at dksX2_copy_8 5 rfl rfl)
theorem dX2_copy_197 : decode cX2_copy 197 = .ok (.iload_n 3, 1) := dk_29 (dk_at dksX2_copy_8 8 rfl rfl)
theorem dX2_copy_198 : decode cX2_copy 198 = .ok (.aload_n 0, 1) := dk_42 (dk_at dksX2_copy_8 9 rfl rfl)
theorem dX2_copy_199 : decode cX2_copy 199 = .ok (.getfield 73, 3) := dk_180 0 73 (dk_at dksX2_copy_8 10 rfl rfl)
theorem dX2_copy_202 : decode cX2_copy 202 = .ok (.iload 4, 2) := dk_21 4 (dk_at dksX2_copy_8 13 rfl rfl)
theorem dX2_copy_204 : decode cX2_copy 204 = .ok (.iaload, 1) := dk_46 (dk_at dksX2_copy_8 15 rfl rfl)
theorem dX2_copy_205 : decode cX2_copy 205 = .ok (.iastore, 1) := dk_79 (dk_at dksX2_copy_8 16 rfl rfl)
theorem dX2_copy_206 : decode cX2_copy 206 = .ok (.aload_n 0, 1) := dk_42 (dk_at dksX2_copy_8 17 rfl rfl)
theorem dX2_copy_207 : decode cX2_copy 207 = .ok (.getfield 76, 3) := dk_180 0 76 (dk_at dksX2_copy_8 18 rfl rfl)
theorem dX2_copy_210 : decode cX2_copy 210 = .ok (.iload_n 3, 1) := dk_29 (dk_at dksX2_copy_8 21 rfl rfl)
theorem dX2_copy_211 : decode cX2_copy 211 = .ok (.aload_n 0, 1) := dk_42 (dk_at dksX2_copy_8 22 rfl rfl)
theorem dX2_copy_212 : decode cX2_copy 212 = .ok (.getfield 76, 3) := dk_180 0 76 (dk_at dksX2_copy_9 0 rfl rfl)
theorem dX2_copy_215 : decode cX2_copy 215 = .ok (.iload 4, 2) := dk_21 4 (dk_at dksX2_copy_9 3 rfl rfl)
theorem dX2_copy_217 : decode cX2_copy 217 = .ok (.iaload, 1) := dk_46 (dk_at dksX2_copy_9 5 rfl rfl)
theorem dX2_copy_218 : decode cX2_copy 218 = .ok (.iastore, 1) := dk_79 (dk_at dksX2_copy_9 6 rfl rfl)
theorem dX2_copy_219 : decode cX2_copy 219 = .ok (.aload_n 0, 1) := dk_42 (dk_at dksX2_copy_9 7 rfl rfl)
theorem dX2_copy_220 : decode cX2_copy 220 = .ok (.getfield 79, 3) := dk_180 0 79 (dk_at dksX2_copy_9 8 rfl rfl)
theorem dX2_copy_223 : decode cX2_copy 223 = .ok (.iload_n 3, 1) := dk_29 (dk_at dksX2_copy_9 11 rfl rfl)
theorem dX2_copy_224 : decode cX2_copy 224 = .ok (.aload_n 0, 1) := dk_42 (dk_at dksX2_copy_9 12 rfl rfl)
theorem dX2_copy_225 : decode cX2_copy 225 = .ok (.getfield 79, 3) := dk_180 0 79 (dk_at dksX2_copy_9 13 rfl rfl)
theorem dX2_copy_228 : decode cX2_copy 228 = .ok (.iload 4, 2) := dk_21 4 (dk_at dksX2_copy_9 16 rfl rfl)
theorem dX2_copy_230 : decode cX2_copy 230 = .ok (.iaload, 1) := dk_46 (dk_at dksX2_copy_9 18 rfl rfl)
theorem dX2_copy_231 : decode cX2_copy 231 = .ok (.iastore, 1) := dk_79 (dk_at dksX2_copy_9 19 rfl rfl)
theorem dX2_copy_232 : decode cX2_copy 232 = .ok (.aload_n 0, 1) := dk_42 (dk_at dksX2_copy_9 20 rfl rfl)
theorem dX2_copy_233 : decode cX2_copy 233 = .ok (.getfield 82, 3) := dk_180 0 82 (dk_at dksX2_copy_9 21 rfl rfl)
theorem dX2_copy_236 : decode cX2_copy 236 = .ok (.iload_n 3, 1) := dk_29 (dk_at dksX2_copy_10 0 rfl rfl)
theorem dX2_copy_237 : decode cX2_copy 237 = .ok (.aload_n 0, 1) := dk_42 (dk_at dksX2_copy_10 1 rfl rfl)
theorem dX2_copy_238 : decode cX2_copy 238 = .ok (.getfield 82, 3) := dk_180 0 82 (dk_at dksX2_copy_10 2 rfl rfl)
theorem dX2_copy_241 : decode cX2_copy 241 = .ok (.iload 4, 2) := dk_21 4 (dk_at dksX2_copy_10 5 rfl rfl)
theorem dX2_copy_243 : decode cX2_copy 243 = .ok (.iaload, 1) := dk_46 (dk_at dksX2_copy_10 7 rfl rfl)
theorem dX2_copy_244 : decode cX2_copy 244 = .ok (.iastore, 1) := dk_79 (dk_at dksX2_copy_10 8 rfl rfl)
theorem dX2_copy_245 : decode cX2_copy 245 = .ok (.aload_n 0, 1) := dk_42 (dk_at dksX2_copy_10 9 rfl rfl)
theorem dX2_copy_246 : decode cX2_copy 246 = .ok (.getfield 85, 3) := dk_180 0 85 (dk_at dksX2_copy_10 10 rfl rfl)
theorem dX2_copy_249 : decode cX2_copy 249 = .ok (.iload_n 3, 1) := dk_29 (dk_at dksX2_copy_10 13 rfl rfl)
theorem dX2_copy_250 : decode cX2_copy 250 = .ok (.aload_n 0, 1) := dk_42 (dk_at dksX2_copy_10 14 rfl rfl)
theorem dX2_copy_251 : decode cX2_copy 251 = .ok (.getfield 85, 3) := dk_180 0 85 (dk_at dksX2_copy_10 15 rfl rfl)
theorem dX2_copy_254 : decode cX2_copy 254 = .ok (.iload 4, 2) := dk_21 4 (dk_at dksX2_copy_10 18 rfl rfl)
theorem dX2_copy_256 : decode cX2_copy 256 = .ok (.iaload, 1) := dk_46 (dk_at dksX2_copy_10 20 rfl rfl)
theorem dX2_copy_257 : decode cX2_copy 257 = .ok (.iastore, 1) := dk_79 (dk_at dksX2_copy_10 21 rfl rfl)
theorem dX2_copy_258 : decode cX2_copy 258 = .ok (.aload_n 0, 1) := dk_42 (dk_at dksX2_copy_10 22 rfl rfl)
theorem dX2_copy_259 : decode cX2_copy 259 = .ok (.getfield 88, 3) := dk_180 0 88 (dk_at dksX2_copy_11 0 rfl rfl)
theorem dX2_copy_262 : decode cX2_copy 262 = .ok (.iload_n 3, 1) := dk_29 (dk_at dksX2_copy_11 3 rfl rfl)
theorem dX2_copy_263 : decode cX2_copy 263 = .ok (.aload_n 0, 1) := dk_42 (dk_at dksX2_copy_11 4 rfl rfl)
theorem dX2_copy_264 : decode cX2_copy 264 = .ok (.getfield 88, 3) := dk_180 0 88 (dk_at dksX2_copy_11 5 rfl rfl)
theorem dX2_copy_267 : decode cX2_copy 267 = .ok (.iload 4, 2) := dk_21 4 (dk_at dksX2_copy_11 8 rfl rfl)
theorem dX2_copy_269 : decode cX2_copy 269 = .ok (.iaload, 1) := dk_46 (dk_at dksX2_copy_11 10 rfl rfl)
theorem dX2_copy_270 : decode cX2_copy 270 = .ok (.iastore, 1) := dk_79 (dk_at dksX2_copy_11 11 rfl rfl)
theorem dX2_copy_271 : decode cX2_copy 271 = .ok (.iinc 2 1, 3) := dk_132 2 1 (dk_at dksX2_copy_11 12 rfl rfl)
theorem dX2_copy_274 : decode cX2_copy 274 = .ok (.goto (-171), 3) := dk_167 255 85 (dk_at dksX2_copy_11 15 rfl rfl)
theorem dX2_copy_277 : decode cX2_copy 277 = .ok (.iconst 0, 1) := dk_3 (dk_at dksX2_copy_11 18 rfl rfl)
theorem dX2_copy_278 : decode cX2_copy 278 = .ok (.istore_n 2, 1) := dk_61 (dk_at dksX2_copy_11 19 rfl rfl)
theorem dX2_copy_279 : decode cX2_copy 279 = .ok (.iload_n 2, 1) := dk_28 (dk_at dksX2_copy_11 20 rfl rfl)
theorem dX2_copy_280 : decode cX2_copy 280 = .ok (.aload_n 0, 1) := dk_42 (dk_at dksX2_copy_11 21 rfl rfl)
theorem dX2_copy_281 : decode cX2_copy 281 = .ok (.getfield 49, 3) := dk_180 0 49 (dk_at dksX2_copy_12 0 rfl rfl)
theorem dX2_copy_284 : decode cX2_copy 284 = .ok (.iload_n 1, 1) := dk_27 (dk_at dksX2_copy_12 3 rfl rfl)
theorem dX2_copy_285 : decode cX2_copy 285 = .ok (.iaload, 1) := dk_46 (dk_at dksX2_copy_12 4 rfl rfl)
theorem dX2_copy_286 : decode cX2_copy 286 = .ok (.if_icmp .ge 158, 3) := dk_162 0 158 (dk_at dksX2_copy_12 5 rfl rfl)
theorem dX2_copy_289 : decode cX2_copy 289 = .ok (.aload_n 0, 1) := dk_42 (dk_at dksX2_copy_12 8 rfl rfl)
theorem dX2_copy_290 : decode cX2_copy 290 = .ok (.getfield 91, 3) := dk_180 0 91 (dk_at dksX2_copy_12 9 rfl rfl)
theorem dX2_copy_293 : decode cX2_copy 293 = .ok (.bipush 32, 2) := dk_16 32 (dk_at dksX2_copy_12 12 rfl rfl)
theorem dX2_copy_295 : decode cX2_copy 295 = .ok (.iload_n 1, 1) := dk_27 (dk_at dksX2_copy_12 14 rfl rfl)
theorem dX2_copy_296 : decode cX2_copy 296 = .ok (.imul, 1) := dk_104 (dk_at dksX2_copy_12 15 rfl rfl)
theorem dX2_copy_297 : decode cX2_copy 297 = .ok (.iload_n 2, 1) := dk_28 (dk_at dksX2_copy_12 16 rfl rfl)
theorem dX2_copy_298 : decode cX2_copy 298 = .ok (.iadd, 1) := dk_96 (dk_at dksX2_copy_12 17 rfl rfl)
theorem dX2_copy_299 : decode cX2_copy 299 = .ok (.aload_n 0, 1) := dk_42 (dk_at dksX2_copy_12 18 rfl rfl)
theorem dX2_copy_300 : decode cX2_copy 300 = .ok (.getfield 91, 3) := dk_180 0 91 (dk_at dksX2_copy_12 19 rfl rfl)
theorem dX2_copy_303 : decode cX2_copy 303 = .ok (.sipush 128, 3) := dk_17 0 128 (dk_at dksX2_copy_13 0 rfl rfl)
theorem dX2_copy_306 : decode cX2_copy 306 = .ok (.iload_n 2, 1) := dk_28 (dk_at dksX2_copy_13 3 rfl rfl)
theorem dX2_copy_307 : decode cX2_copy 307 = .ok (.iadd, 1) := dk_96 (dk_at dksX2_copy_13 4 rfl rfl)
theorem dX2_copy_308 : decode cX2_copy 308 = .ok (.iaload, 1) := dk_46 (dk_at dksX2_copy_13 5 rfl rfl)
theorem dX2_copy_309 : decode cX2_copy 309 = .ok (.iastore, 1) := dk_79 (dk_at dksX2_copy_13 6 rfl rfl)
theorem dX2_copy_310 : decode cX2_copy 310 = .ok (.aload_n 0, 1) := dk_42 (dk_at dksX2_copy_13 7 rfl rfl)
theorem dX2_copy_311 : decode cX2_copy 311 = .ok (.getfield 94, 3) := dk_180 0 94 (dk_at dksX2_copy_13 8 rfl rfl)
theorem dX2_copy_314 : decode cX2_copy 314 = .ok (.bipush 32, 2) := dk_16 32 (dk_at dksX2_copy_13 11 rfl rfl)
theorem dX2_copy_316 : decode cX2_copy 316 = .ok (.iload_n 1, 1) := dk_27 (dk_at dksX2_copy_13 13 rfl rfl)
theorem dX2_copy_317 : decode cX2_copy 317 = .ok (.imul, 1) := dk_104 (dk_at dksX2_copy_13 14 rfl rfl)
theorem dX2_copy_318 : decode cX2_copy 318 = .ok (.iload_n 2, 1) := dk_28 (dk_at dksX2_copy_13 15 rfl rfl)
theorem dX2_copy_319 : decode cX2_copy 319 = .ok (.iadd, 1) := dk_96 (dk_at dksX2_copy_13 16 rfl rfl)
theorem dX2_copy_320 : decode cX2_copy 320 = .ok (.aload_n 0, 1) := dk_42 (dk_at dksX2_copy_13 17 rfl rfl)
theorem dX2_copy_321 : decode cX2_copy 321 = .ok (.getfield 94, 3) := dk_180 0 94 (dk_at dksX2_copy_13 18 rfl rfl)
theorem dX2_copy_324 : decode cX2_copy 324 = .ok (.sipush 128, 3) := dk_17 0 128 (dk_at dksX2_copy_13 21 rfl rfl)
theorem dX2_copy_327 : decode cX2_copy 327 = .ok (.iload_n 2, 1) := dk_28 (dk_at dksX2_copy_14 0 rfl rfl)
theorem dX2_copy_328 : decode cX2_copy 328 = .ok (.iadd, 1) := dk_96 (dk_at dksX2_copy_14 1 rfl rfl)
theorem dX2_copy_329 : decode cX2_copy 329 = .ok (.iaload, 1) := dk_46 (dk_at dksX2_copy_14 2 rfl rfl)
theorem dX2_copy_330 : decode cX2_copy 330 = .ok (.iastore, 1) := dk_79 (dk_at dksX2_copy_14 3 rfl rfl)
theorem dX2_copy_331 : decode cX2_copy 331 = .ok (.aload_n 0, 1) := dk_42 (dk_at dksX2_copy_14 4 rfl rfl)
theorem dX2_copy_332 : decode cX2_copy 332 = .ok (.getfield 97, 3) := dk_180 0 97 (dk_at dksX2_copy_14 5 rfl rfl)
theorem dX2_copy_335 : decode cX2_copy 335 = .ok (.bipush 32, 2) := dk_16 32 (dk_at dksX2_copy_14 8 rfl rfl)
theorem dX2_copy_337 : decode cX2_copy 337 = .ok (.iload_n 1, 1) := dk_27 (dk_at dksX2_copy_14 10 rfl rfl)
theorem dX2_copy_338 : decode cX2_copy 338 = .ok (.imul, 1) := dk_104 (dk_at dksX2_copy_14 11 rfl rfl)
theorem dX2_copy_339 : decode cX2_copy 339 = .ok (.iload_n 2, 1) := dk_28 (dk_at dksX2_copy_14 12 rfl rfl)
theorem dX2_copy_340 : decode cX2_copy 340 = .ok (.iadd, 1) := dk_96 (dk_at dksX2_copy_14 13 rfl rfl)
theorem dX2_copy_341 : decode cX2_copy 341 = .ok (.aload_n 0, 1) := dk_42 (dk_at dksX2_copy_14 14 rfl rfl)
theorem dX2_copy_342 : decode cX2_copy 342 = .ok (.getfield 97, 3) := dk_180 0 97 (dk_at dksX2_copy_14 15 rfl rfl)
theorem dX2_copy_345 : decode cX2_copy 345 = .ok (.sipush 128, 3) := dk_17 0 128 (dk_at dksX2_copy_14 18 rfl rfl)
theorem dX2_copy_348 : decode cX2_copy 348 = .ok (.iload_n 2, 1) := dk_28 (dk_at dksX2_copy_14 21 rfl rfl)
theorem dX2_copy_349 : decode cX2_copy 349 = .ok (.iadd, 1) := dk_96 (dk_at dksX2_copy_14 22 rfl rfl)
theorem dX2_copy_350 : decode cX2_copy 350 = .ok (.iaload, 1) := dk_46 (dk_at dksX2_copy_14 23 rfl rfl)
theorem dX2_copy_351 : decode cX2_copy 351 = .ok (.iastore, 1) := dk_79 (dk_at dksX2_copy_15 0 rfl rfl)
theorem dX2_copy_352 : decode cX2_copy 352 = .ok (.aload_n 0, 1) := dk_42 (dk_at dksX2_copy_15 1 rfl rfl)
theorem dX2_copy_353 : decode cX2_copy 353 = .ok (.getfield 100, 3) := dk_180 0 100 (dk_at dksX2_copy_15 2 rfl rfl)
theorem dX2_copy_356 : decode cX2_copy 356 = .ok (.bipush 32, 2) := dk_16 32 (dk_at dksX2_copy_15 5 rfl rfl)
theorem dX2_copy_358 : decode cX2_copy 358 = .ok (.iload_n 1, 1) := dk_27 (dk_at dksX2_copy_15 7 rfl rfl)
theorem dX2_copy_359 : decode cX2_copy 359 = .ok (.imul, 1) := dk_104 (dk_at dksX2_copy_15 8 rfl rfl)
theorem dX2_copy_360 : decode cX2_copy 360 = .ok (.iload_n 2, 1) := dk_28 (dk_at dksX2_copy_15 9 rfl rfl)
theorem dX2_copy_361 : decode cX2_copy 361 = .ok (.iadd, 1) := dk_96 (dk_at dksX2_copy_15 10 rfl rfl)
theorem dX2_copy_362 : decode cX2_copy 362 = .ok (.aload_n 0, 1) := dk_42 (dk_at dksX2_copy_15 11 rfl rfl)
theorem dX2_copy_363 : decode cX2_copy 363 = .ok (.getfield 100, 3) := dk_180 0 100 (dk_at dksX2_copy_15 12 rfl rfl)
theorem dX2_copy_366 : decode cX2_copy 366 = .ok (.sipush 128, 3) := dk_17 0 128 (dk_at dksX2_copy_15 15 rfl rfl)
theorem dX2_copy_369 : decode cX2_copy 369 = .ok (.iload_n 2, 1) := dk_28 (dk_at dksX2_copy_15 18 rfl rfl)
theorem dX2_copy_370 : decode cX2_copy 370 = .ok (.iadd, 1) := dk_96 (dk_at dksX2_copy_15 19 rfl rfl)
theorem dX2_copy_371 : decode cX2_copy 371 = .ok (.iaload, 1) := dk_46 (dk_at dksX2_copy_15 20 rfl rfl)
theorem dX2_copy_372 : decode cX2_copy 372 = .ok (.iastore, 1) := dk_79 (dk_at dksX2_copy_15 21 rfl rfl)
theorem dX2_copy_373 : decode cX2_copy 373 = .ok (.aload_n 0, 1) := dk_42 (dk_at dksX2_copy_15 22 rfl rfl)
theorem dX2_copy_374 : decode cX2_copy 374 = .ok (.getfield 103, 3) := dk_180 0 103 (dk_at dksX2_copy_16 0 rfl rfl)
theorem dX2_copy_377 : decode cX2_copy 377 = .ok (.bipush 32, 2) := dk_16 32 (dk_at dksX2_copy_16 3 rfl rfl)
theorem dX2_copy_379 : decode cX2_copy 379 = .ok (.iload_n 1, 1) := dk_27 (dk_at dksX2_copy_16 5 rfl rfl)
theorem dX2_copy_380 : decode cX2_copy 380 = .ok (.imul, 1) := dk_104 (dk_at dksX2_copy_16 6 rfl rfl)
theorem dX2_copy_381 : decode cX2_copy 381 = .ok (.iload_n 2, 1) := dk_28 (dk_at dksX2_copy_16 7 rfl rfl)
theorem dX2_copy_382 : decode cX2_copy 382 = .ok (.iadd, 1) := dk_96 (dk_at dksX2_copy_16 8 rfl rfl)
theorem dX2_copy_383 : decode cX2_copy 383 = .ok (.aload_n 0, 1) := dk_42 (dk_at dksX2_copy_16 9 rfl rfl)
theorem dX2_copy_384 : decode cX2_copy 384 = .ok (.getfield 103, 3) := dk_180 0 103 (dk_at dksX2_copy_16 10 rfl rfl)
theorem dX2_copy_387 : decode cX2_copy 387 = .ok (.sipush 128, 3) := dk_17 0 128 (dk_at dksX2_copy_16 13 rfl rfl)
theorem dX2_copy_390 : decode cX2_copy 390 = .ok (.iload_n 2, 1) := dk_28 (dk_at dksX2_copy_16 16 rfl rfl)
theorem dX2_copy_391 : decode cX2_copy 391 = .ok (.iadd, 1) := dk_96 (dk_at dksX2_copy_16 17 rfl rfl)
theorem dX2_copy_392 : decode cX2_copy 392 = .ok (.iaload, 1) := dk_46 (dk_at dksX2_copy_16 18 rfl rfl)
theorem dX2_copy_393 : decode cX2_copy 393 = .ok (.iastore, 1) := dk_79 (dk_at dksX2_copy_16 19 rfl rfl)
theorem dX2_copy_394 : decode cX2_copy 394 = .ok (.iconst 0, 1) := dk_3 (dk_at dksX2_copy_16 20 rfl rfl)
theorem dX2_copy_395 : decode cX2_copy 395 = .ok (.istore_n 3, 1) := dk_62 (dk_at dksX2_copy_16 21 rfl rfl)
theorem dX2_copy_396 : decode cX2_copy 396 = .ok (.iload_n 3, 1) := dk_29 (dk_at dksX2_copy_16 22 rfl rfl)
theorem dX2_copy_397 : decode cX2_copy 397 = .ok (.aload_n 0, 1) := dk_42 (dk_at dksX2_copy_16 23 rfl rfl)
theorem dX2_copy_398 : decode cX2_copy 398 = .ok (.getfield 43, 3) := dk_180 0 43 (dk_at dksX2_copy_17 0 rfl rfl)
theorem dX2_copy_401 : decode cX2_copy 401 = .ok (.iload_n 1, 1) := dk_27 (dk_at dksX2_copy_17 3 rfl rfl)
theorem dX2_copy_402 : decode cX2_copy 402 = .ok (.iaload, 1) := dk_46 (dk_at dksX2_copy_17 4 rfl rfl)
theorem dX2_copy_403 : decode cX2_copy 403 = .ok (.if_icmp .ge 35, 3) := dk_162 0 35 (dk_at dksX2_copy_17 5 rfl rfl)
theorem dX2_copy_406 : decode cX2_copy 406 = .ok (.aload_n 0, 1) := dk_42 (dk_at dksX2_copy_17 8 rfl rfl)
theorem dX2_copy_407 : decode cX2_copy 407 = .ok (.getfield 107, 3) := dk_180 0 107 (dk_at dksX2_copy_17 9 rfl rfl)
theorem dX2_copy_410 : decode cX2_copy 410 = .ok (.aload_n 0, 1) := dk_42 (dk_at dksX2_copy_17 12 rfl rfl)
theorem dX2_copy_411 : decode cX2_copy 411 = .ok (.iload_n 1, 1) := dk_27 (dk_at dksX2_copy_17 13 rfl rfl)
theorem dX2_copy_412 : decode cX2_copy 412 = .ok (.iload_n 2, 1) := dk_28 (dk_at dksX2_copy_17 14 rfl rfl)
theorem dX2_copy_413 : decode cX2_copy 413 = .ok (.invokevirtual 338, 3) := dk_182 1 82 (dk_at dksX2_copy_17 15 rfl rfl)
theorem dX2_copy_416 : decode cX2_copy 416 = .ok (.iload_n 3, 1) := dk_29 (dk_at dksX2_copy_17 18 rfl rfl)
theorem dX2_copy_417 : decode cX2_copy 417 = .ok (.iadd, 1) := dk_96 (dk_at dksX2_copy_17 19 rfl rfl)
theorem dX2_copy_418 : decode cX2_copy 418 = .ok (.aload_n 0, 1) := dk_42 (dk_at dksX2_copy_17 20 rfl rfl)
theorem dX2_copy_419 : decode cX2_copy 419 = .ok (.getfield 107, 3) := dk_180 0 107 (dk_at dksX2_copy_17 21 rfl rfl)
theorem dX2_copy_422 : decode cX2_copy 422 = .ok (.aload_n 0, 1) := dk_42 (dk_at dksX2_copy_18 0 rfl rfl)
theorem dX2_copy_423 : decode cX2_copy 423 = .ok (.iconst 4, 1) := dk_7 (dk_at dksX2_copy_18 1 rfl rfl)
theorem dX2_copy_424 : decode cX2_copy 424 = .ok (.iload_n 2, 1) := dk_28 (dk_at dksX2_copy_18 2 rfl rfl)
theorem dX2_copy_425 : decode cX2_copy 425 = .ok (.invokevirtual 338, 3) := dk_182 1 82 (dk_at dksX2_copy_18 3 rfl rfl)
theorem dX2_copy_428 : decode cX2_copy 428 = .ok (.iload_n 3, 1) := dk_29 (dk_at dksX2_copy_18 6 rfl rfl)
theorem dX2_copy_429 : decode cX2_copy 429 = .ok (.iadd, 1) := dk_96 (dk_at dksX2_copy_18 7 rfl rfl)
theorem dX2_copy_430 : decode cX2_copy 430 = .ok (.iaload, 1) := dk_46 (dk_at dksX2_copy_18 8 rfl rfl)
theorem dX2_copy_431 : decode cX2_copy 431 = .ok (.iastore, 1) := dk_79 (dk_at dksX2_copy_18 9 rfl rfl)
theorem dX2_copy_432 : decode cX2_copy 432 = .ok (.iinc 3 1, 3) := dk_132 3 1 (dk_at dksX2_copy_18 10 rfl rfl)
theorem dX2_copy_435 : decode cX2_copy 435 = .ok (.goto (-39), 3) := dk_167 255 217 (dk_at dksX2_copy_18 13 rfl rfl)
theorem dX2_copy_438 : decode cX2_copy 438 = .ok (.iinc 2 1, 3) := dk_132 2 1 (dk_at dksX2_copy_18 16 rfl rfl)
theorem dX2_copy_441 : decode cX2_copy 441 = .ok (.goto (-162), 3) := dk_167 255 94 (dk_at dksX2_copy_18 19 rfl rfl)
theorem dX2_copy_444 : decode cX2_copy 444 = .ok (.return_, 1) := dk_177 (dk_at dksX2_copy_18 22 rfl rfl)
abbrev cX2_wrong : ByteArray := prog_24_method_54_code
def yX2_wrong : MethodName := ⟨RX2, "wrong", "()I"⟩
theorem dX2_wrong_0 : decode cX2_wrong 0 = .ok (.aload_n 0, 1) := by decide +kernel
theorem dX2_wrong_1 : decode cX2_wrong 1 = .ok (.getfield 116, 3) := by decide +kernel
theorem dX2_wrong_4 : decode cX2_wrong 4 = .ok (.ireturn, 1) := by decide +kernel
abbrev cX2_about : ByteArray := prog_24_method_56_code
def yX2_about : MethodName := ⟨RX2, "about", "(II)I"⟩
def dkwX2_about_3 : List UInt8 := [180, 0, 43, 27, 46, 42, 180, 0, 46, 27, 46, 100, 172, 42, 180, 0, 46, 27, 46, 172, 2, 172]
abbrev dktX2_about_3 : List UInt8 := dkwX2_about_3 ++ []
def dkwX2_about_2 : List UInt8 := [42, 180, 0, 40, 27, 46, 172, 42, 180, 0, 43, 27, 46, 172, 42, 180, 0, 49, 27, 46, 172, 42]
abbrev dktX2_about_2 : List UInt8 := dkwX2_about_2 ++ dktX2_about_3
def dkwX2_about_1 : List UInt8 := [170, 0, 0, 0, 75, 0, 0, 0, 0, 0, 0, 0, 4, 0, 0, 0, 33, 0, 0, 0, 40, 0, 0, 0, 47, 0, 0, 0, 54, 0, 0, 0, 68]
abbrev dktX2_about_1 : List UInt8 := dkwX2_about_1 ++ dktX2_about_2
def dkwX2_about_0 : List UInt8 := [42, 27, 182, 1, 117, 154, 0, 5, 2, 172, 28]
abbrev dktX2_about_0 : List UInt8 := dkwX2_about_0 ++ dktX2_about_1
theorem dksX2_about_0 : cX2_about.data.toList.drop 0 = dktX2_about_0 := by decide +kernel
theorem dksX2_about_1 : cX2_about.data.toList.drop 11 = dktX2_about_1 := dk_seg dksX2_about_0 11 rfl rfl
theorem dksX2_about_2 : cX2_about.data.toList.drop 44 = dktX2_about_2 := dk_seg dksX2_about_1 33 rfl rfl
theorem dksX2_about_3 : cX2_about.data.toList.drop 66 = dktX2_about_3 := dk_seg dksX2_about_2 22 rfl rfl
theorem dX2_about_0 : decode cX2_about 0 = .ok (.aload_n 0, 1) := dk_42 (dk_at dksX2_about_0 0 rfl rfl)
theorem dX2_about_1 : decode cX2_about 1 = .ok (.iload_n 1, 1) := dk_27 (dk_at dksX2_about_0 1 rfl rfl)
theorem dX2_about_2 : decode cX2_about 2 = .ok (.invokevirtual 373, 3) := dk_182 1 117 (dk_at dksX2_about_0 2 rfl rfl)
theorem dX2_about_5 : decode cX2_about 5 = .ok (.ifCond .ne 5, 3) := dk_154 0 5 (dk_at dksX2_about_0 5 rfl rfl)
theorem dX2_about_8 : decode cX2_about 8 = .ok (.iconst (-1), 1) := dk_2 (dk_at dksX2_about_0 8 rfl rfl)
theorem dX2_about_9 : decode cX2_about 9 = .ok (.ireturn, 1) := dk_172 (dk_at dksX2_about_0 9 rfl rfl)
theorem dX2_about_10 : decode cX2_about 10 = .ok (.iload_n 2, 1) := dk_28 (dk_at dksX2_about_0 10 rfl rfl)
theorem dX2_about_11 : decode cX2_about 11 = .ok (.tableswitch 75 0 4 #[33, 40, 47, 54, 68], 33) := by decide +kernel
theorem dX2_about_44 : decode cX2_about 44 = .ok (.aload_n 0, 1) := dk_42 (dk_at dksX2_about_2 0 rfl rfl)
theorem dX2_about_45 : decode cX2_about 45 = .ok (.getfield 40, 3) := dk_180 0 40 (dk_at dksX2_about_2 1 rfl rfl)
theorem dX2_about_48 : decode cX2_about 48 = .ok (.iload_n 1, 1) := dk_27 (dk_at dksX2_about_2 4 rfl rfl)
theorem dX2_about_49 : decode cX2_about 49 = .ok (.iaload, 1) := dk_46 (dk_at dksX2_about_2 5 rfl rfl)
theorem dX2_about_50 : decode cX2_about 50 = .ok (.ireturn, 1) := dk_172 (dk_at dksX2_about_2 6 rfl rfl)
theorem dX2_about_51 : decode cX2_about 51 = .ok (.aload_n 0, 1) := dk_42 (dk_at dksX2_about_2 7 rfl rfl)
theorem dX2_about_52 : decode cX2_about 52 = .ok (.getfield 43, 3) := dk_180 0 43 (dk_at dksX2_about_2 8 rfl rfl)
theorem dX2_about_55 : decode cX2_about 55 = .ok (.iload_n 1, 1) := dk_27 (dk_at dksX2_about_2 11 rfl rfl)
theorem dX2_about_56 : decode cX2_about 56 = .ok (.iaload, 1) := dk_46 (dk_at dksX2_about_2 12 rfl rfl)
theorem dX2_about_57 : decode cX2_about 57 = .ok (.ireturn, 1) := dk_172 (dk_at dksX2_about_2 13 rfl rfl)
theorem dX2_about_58 : decode cX2_about 58 = .ok (.aload_n 0, 1) := dk_42 (dk_at dksX2_about_2 14 rfl rfl)
theorem dX2_about_59 : decode cX2_about 59 = .ok (.getfield 49, 3) := dk_180 0 49 (dk_at dksX2_about_2 15 rfl rfl)
theorem dX2_about_62 : decode cX2_about 62 = .ok (.iload_n 1, 1) := dk_27 (dk_at dksX2_about_2 18 rfl rfl)
theorem dX2_about_63 : decode cX2_about 63 = .ok (.iaload, 1) := dk_46 (dk_at dksX2_about_2 19 rfl rfl)
theorem dX2_about_64 : decode cX2_about 64 = .ok (.ireturn, 1) := dk_172 (dk_at dksX2_about_2 20 rfl rfl)
theorem dX2_about_65 : decode cX2_about 65 = .ok (.aload_n 0, 1) := dk_42 (dk_at dksX2_about_2 21 rfl rfl)
theorem dX2_about_66 : decode cX2_about 66 = .ok (.getfield 43, 3) := dk_180 0 43 (dk_at dksX2_about_3 0 rfl rfl)
theorem dX2_about_69 : decode cX2_about 69 = .ok (.iload_n 1, 1) := dk_27 (dk_at dksX2_about_3 3 rfl rfl)
theorem dX2_about_70 : decode cX2_about 70 = .ok (.iaload, 1) := dk_46 (dk_at dksX2_about_3 4 rfl rfl)
theorem dX2_about_71 : decode cX2_about 71 = .ok (.aload_n 0, 1) := dk_42 (dk_at dksX2_about_3 5 rfl rfl)
theorem dX2_about_72 : decode cX2_about 72 = .ok (.getfield 46, 3) := dk_180 0 46 (dk_at dksX2_about_3 6 rfl rfl)
theorem dX2_about_75 : decode cX2_about 75 = .ok (.iload_n 1, 1) := dk_27 (dk_at dksX2_about_3 9 rfl rfl)
theorem dX2_about_76 : decode cX2_about 76 = .ok (.iaload, 1) := dk_46 (dk_at dksX2_about_3 10 rfl rfl)
theorem dX2_about_77 : decode cX2_about 77 = .ok (.isub, 1) := dk_100 (dk_at dksX2_about_3 11 rfl rfl)
theorem dX2_about_78 : decode cX2_about 78 = .ok (.ireturn, 1) := dk_172 (dk_at dksX2_about_3 12 rfl rfl)
theorem dX2_about_79 : decode cX2_about 79 = .ok (.aload_n 0, 1) := dk_42 (dk_at dksX2_about_3 13 rfl rfl)
theorem dX2_about_80 : decode cX2_about 80 = .ok (.getfield 46, 3) := dk_180 0 46 (dk_at dksX2_about_3 14 rfl rfl)
theorem dX2_about_83 : decode cX2_about 83 = .ok (.iload_n 1, 1) := dk_27 (dk_at dksX2_about_3 17 rfl rfl)
theorem dX2_about_84 : decode cX2_about 84 = .ok (.iaload, 1) := dk_46 (dk_at dksX2_about_3 18 rfl rfl)
theorem dX2_about_85 : decode cX2_about 85 = .ok (.ireturn, 1) := dk_172 (dk_at dksX2_about_3 19 rfl rfl)
theorem dX2_about_86 : decode cX2_about 86 = .ok (.iconst (-1), 1) := dk_2 (dk_at dksX2_about_3 20 rfl rfl)
theorem dX2_about_87 : decode cX2_about 87 = .ok (.ireturn, 1) := dk_172 (dk_at dksX2_about_3 21 rfl rfl)
abbrev cX2_isThere : ByteArray := prog_24_method_55_code
def yX2_isThere : MethodName := ⟨RX2, "isThere", "(I)Z"⟩
def dkwX2_isThere_0 : List UInt8 := [27, 155, 0, 21, 27, 6, 163, 0, 16, 42, 180, 0, 36, 27, 51, 153, 0, 7, 4, 167, 0, 4, 3, 172]
abbrev dktX2_isThere_0 : List UInt8 := dkwX2_isThere_0 ++ []
theorem dksX2_isThere_0 : cX2_isThere.data.toList.drop 0 = dktX2_isThere_0 := by decide +kernel
theorem dX2_isThere_0 : decode cX2_isThere 0 = .ok (.iload_n 1, 1) := dk_27 (dk_at dksX2_isThere_0 0 rfl rfl)
theorem dX2_isThere_1 : decode cX2_isThere 1 = .ok (.ifCond .lt 21, 3) := dk_155 0 21 (dk_at dksX2_isThere_0 1 rfl rfl)
theorem dX2_isThere_4 : decode cX2_isThere 4 = .ok (.iload_n 1, 1) := dk_27 (dk_at dksX2_isThere_0 4 rfl rfl)
theorem dX2_isThere_5 : decode cX2_isThere 5 = .ok (.iconst 3, 1) := dk_6 (dk_at dksX2_isThere_0 5 rfl rfl)
theorem dX2_isThere_6 : decode cX2_isThere 6 = .ok (.if_icmp .gt 16, 3) := dk_163 0 16 (dk_at dksX2_isThere_0 6 rfl rfl)
theorem dX2_isThere_9 : decode cX2_isThere 9 = .ok (.aload_n 0, 1) := dk_42 (dk_at dksX2_isThere_0 9 rfl rfl)
theorem dX2_isThere_10 : decode cX2_isThere 10 = .ok (.getfield 36, 3) := dk_180 0 36 (dk_at dksX2_isThere_0 10 rfl rfl)
theorem dX2_isThere_13 : decode cX2_isThere 13 = .ok (.iload_n 1, 1) := dk_27 (dk_at dksX2_isThere_0 13 rfl rfl)
theorem dX2_isThere_14 : decode cX2_isThere 14 = .ok (.baload, 1) := dk_51 (dk_at dksX2_isThere_0 14 rfl rfl)
theorem dX2_isThere_15 : decode cX2_isThere 15 = .ok (.ifCond .eq 7, 3) := dk_153 0 7 (dk_at dksX2_isThere_0 15 rfl rfl)
theorem dX2_isThere_18 : decode cX2_isThere 18 = .ok (.iconst 1, 1) := dk_4 (dk_at dksX2_isThere_0 18 rfl rfl)
theorem dX2_isThere_19 : decode cX2_isThere 19 = .ok (.goto 4, 3) := dk_167 0 4 (dk_at dksX2_isThere_0 19 rfl rfl)
theorem dX2_isThere_22 : decode cX2_isThere 22 = .ok (.iconst 0, 1) := dk_3 (dk_at dksX2_isThere_0 22 rfl rfl)
theorem dX2_isThere_23 : decode cX2_isThere 23 = .ok (.ireturn, 1) := dk_172 (dk_at dksX2_isThere_0 23 rfl rfl)
abbrev cX2_node : ByteArray := prog_24_method_57_code
def yX2_node : MethodName := ⟨RX2, "node", "(III)I"⟩
def dkwX2_node_7 : List UInt8 := [167, 0, 4, 3, 96, 54, 5, 132, 6, 1, 167, 255, 204, 21, 5, 172, 2, 172]
abbrev dktX2_node_7 : List UInt8 := dkwX2_node_7 ++ []
def dkwX2_node_6 : List UInt8 := [180, 0, 70, 21, 6, 46, 28, 159, 0, 14, 42, 180, 0, 73, 21, 6, 46, 28, 160, 0, 7, 4]
abbrev dktX2_node_6 : List UInt8 := dkwX2_node_6 ++ dktX2_node_7
def dkwX2_node_5 : List UInt8 := [54, 6, 21, 6, 17, 0, 240, 27, 104, 42, 180, 0, 43, 27, 46, 96, 162, 0, 41, 21, 5, 42]
abbrev dktX2_node_5 : List UInt8 := dkwX2_node_5 ++ dktX2_node_6
def dkwX2_node_4 : List UInt8 := [42, 180, 0, 70, 21, 4, 46, 172, 42, 180, 0, 73, 21, 4, 46, 172, 3, 54, 5, 17, 0, 240, 27, 104]
abbrev dktX2_node_4 : List UInt8 := dkwX2_node_4 ++ dktX2_node_5
def dkwX2_node_3 : List UInt8 := [42, 180, 0, 58, 21, 4, 46, 172, 42, 180, 0, 61, 21, 4, 46, 172, 42, 180, 0, 67, 21, 4, 46, 172]
abbrev dktX2_node_3 : List UInt8 := dkwX2_node_3 ++ dktX2_node_4
def dkwX2_node_2 : List UInt8 := [170, 0, 0, 0, 0, 146, 0, 0, 0, 0, 0, 0, 0, 5, 0, 0, 0, 38, 0, 0, 0, 46, 0, 0, 0, 54, 0, 0, 0, 62, 0, 0, 0, 70, 0, 0, 0, 78]
abbrev dktX2_node_2 : List UInt8 := dkwX2_node_2 ++ dktX2_node_3
def dkwX2_node_1 : List UInt8 := [17, 0, 240, 27, 104, 28, 96, 54, 4, 29]
abbrev dktX2_node_1 : List UInt8 := dkwX2_node_1 ++ dktX2_node_2
def dkwX2_node_0 : List UInt8 := [42, 27, 182, 1, 117, 153, 0, 17, 28, 155, 0, 13, 28, 42, 180, 0, 43, 27, 46, 161, 0, 5, 2, 172]
abbrev dktX2_node_0 : List UInt8 := dkwX2_node_0 ++ dktX2_node_1
theorem dksX2_node_0 : cX2_node.data.toList.drop 0 = dktX2_node_0 := by decide +kernel
theorem dksX2_node_1 : cX2_node.data.toList.drop 24 = dktX2_node_1 := dk_seg dksX2_node_0 24 rfl rfl
theorem dksX2_node_2 : cX2_node.data.toList.drop 34 = dktX2_node_2 := dk_seg dksX2_node_1 10 rfl rfl
theorem dksX2_node_3 : cX2_node.data.toList.drop 72 = dktX2_node_3 := dk_seg dksX2_node_2 38 rfl rfl
theorem dksX2_node_4 : cX2_node.data.toList.drop 96 = dktX2_node_4 := dk_seg dksX2_node_3 24 rfl rfl
theorem dksX2_node_5 : cX2_node.data.toList.drop 120 = dktX2_node_5 := dk_seg dksX2_node_4 24 rfl rfl
theorem dksX2_node_6 : cX2_node.data.toList.drop 142 = dktX2_node_6 := dk_seg dksX2_node_5 22 rfl rfl
theorem dksX2_node_7 : cX2_node.data.toList.drop 164 = dktX2_node_7 := dk_seg dksX2_node_6 22 rfl rfl
theorem dX2_node_0 : decode cX2_node 0 = .ok (.aload_n 0, 1) := dk_42 (dk_at dksX2_node_0 0 rfl rfl)
theorem dX2_node_1 : decode cX2_node 1 = .ok (.iload_n 1, 1) := dk_27 (dk_at dksX2_node_0 1 rfl rfl)
theorem dX2_node_2 : decode cX2_node 2 = .ok (.invokevirtual 373, 3) := dk_182 1 117 (dk_at dksX2_node_0 2 rfl rfl)
theorem dX2_node_5 : decode cX2_node 5 = .ok (.ifCond .eq 17, 3) := dk_153 0 17 (dk_at dksX2_node_0 5 rfl rfl)
theorem dX2_node_8 : decode cX2_node 8 = .ok (.iload_n 2, 1) := dk_28 (dk_at dksX2_node_0 8 rfl rfl)
theorem dX2_node_9 : decode cX2_node 9 = .ok (.ifCond .lt 13, 3) := dk_155 0 13 (dk_at dksX2_node_0 9 rfl rfl)
theorem dX2_node_12 : decode cX2_node 12 = .ok (.iload_n 2, 1) := dk_28 (dk_at dksX2_node_0 12 rfl rfl)
theorem dX2_node_13 : decode cX2_node 13 = .ok (.aload_n 0, 1) := dk_42 (dk_at dksX2_node_0 13 rfl rfl)
theorem dX2_node_14 : decode cX2_node 14 = .ok (.getfield 43, 3) := dk_180 0 43 (dk_at dksX2_node_0 14 rfl rfl)
theorem dX2_node_17 : decode cX2_node 17 = .ok (.iload_n 1, 1) := dk_27 (dk_at dksX2_node_0 17 rfl rfl)
theorem dX2_node_18 : decode cX2_node 18 = .ok (.iaload, 1) := dk_46 (dk_at dksX2_node_0 18 rfl rfl)
theorem dX2_node_19 : decode cX2_node 19 = .ok (.if_icmp .lt 5, 3) := dk_161 0 5 (dk_at dksX2_node_0 19 rfl rfl)
theorem dX2_node_22 : decode cX2_node 22 = .ok (.iconst (-1), 1) := dk_2 (dk_at dksX2_node_0 22 rfl rfl)
theorem dX2_node_23 : decode cX2_node 23 = .ok (.ireturn, 1) := dk_172 (dk_at dksX2_node_0 23 rfl rfl)
theorem dX2_node_24 : decode cX2_node 24 = .ok (.sipush 240, 3) := dk_17 0 240 (dk_at dksX2_node_1 0 rfl rfl)
theorem dX2_node_27 : decode cX2_node 27 = .ok (.iload_n 1, 1) := dk_27 (dk_at dksX2_node_1 3 rfl rfl)
theorem dX2_node_28 : decode cX2_node 28 = .ok (.imul, 1) := dk_104 (dk_at dksX2_node_1 4 rfl rfl)
theorem dX2_node_29 : decode cX2_node 29 = .ok (.iload_n 2, 1) := dk_28 (dk_at dksX2_node_1 5 rfl rfl)
theorem dX2_node_30 : decode cX2_node 30 = .ok (.iadd, 1) := dk_96 (dk_at dksX2_node_1 6 rfl rfl)
theorem dX2_node_31 : decode cX2_node 31 = .ok (.istore 4, 2) := dk_54 4 (dk_at dksX2_node_1 7 rfl rfl)
theorem dX2_node_33 : decode cX2_node 33 = .ok (.iload_n 3, 1) := dk_29 (dk_at dksX2_node_1 9 rfl rfl)
theorem dX2_node_34 : decode cX2_node 34 = .ok (.tableswitch 146 0 5 #[38, 46, 54, 62, 70, 78], 38) := by decide +kernel
theorem dX2_node_72 : decode cX2_node 72 = .ok (.aload_n 0, 1) := dk_42 (dk_at dksX2_node_3 0 rfl rfl)
theorem dX2_node_73 : decode cX2_node 73 = .ok (.getfield 58, 3) := dk_180 0 58 (dk_at dksX2_node_3 1 rfl rfl)
theorem dX2_node_76 : decode cX2_node 76 = .ok (.iload 4, 2) := dk_21 4 (dk_at dksX2_node_3 4 rfl rfl)
theorem dX2_node_78 : decode cX2_node 78 = .ok (.iaload, 1) := dk_46 (dk_at dksX2_node_3 6 rfl rfl)
theorem dX2_node_79 : decode cX2_node 79 = .ok (.ireturn, 1) := dk_172 (dk_at dksX2_node_3 7 rfl rfl)
theorem dX2_node_80 : decode cX2_node 80 = .ok (.aload_n 0, 1) := dk_42 (dk_at dksX2_node_3 8 rfl rfl)
theorem dX2_node_81 : decode cX2_node 81 = .ok (.getfield 61, 3) := dk_180 0 61 (dk_at dksX2_node_3 9 rfl rfl)
theorem dX2_node_84 : decode cX2_node 84 = .ok (.iload 4, 2) := dk_21 4 (dk_at dksX2_node_3 12 rfl rfl)
theorem dX2_node_86 : decode cX2_node 86 = .ok (.iaload, 1) := dk_46 (dk_at dksX2_node_3 14 rfl rfl)
theorem dX2_node_87 : decode cX2_node 87 = .ok (.ireturn, 1) := dk_172 (dk_at dksX2_node_3 15 rfl rfl)
theorem dX2_node_88 : decode cX2_node 88 = .ok (.aload_n 0, 1) := dk_42 (dk_at dksX2_node_3 16 rfl rfl)
theorem dX2_node_89 : decode cX2_node 89 = .ok (.getfield 67, 3) := dk_180 0 67 (dk_at dksX2_node_3 17 rfl rfl)
theorem dX2_node_92 : decode cX2_node 92 = .ok (.iload 4, 2) := dk_21 4 (dk_at dksX2_node_3 20 rfl rfl)
theorem dX2_node_94 : decode cX2_node 94 = .ok (.iaload, 1) := dk_46 (dk_at dksX2_node_3 22 rfl rfl)
theorem dX2_node_95 : decode cX2_node 95 = .ok (.ireturn, 1) := dk_172 (dk_at dksX2_node_3 23 rfl rfl)
theorem dX2_node_96 : decode cX2_node 96 = .ok (.aload_n 0, 1) := dk_42 (dk_at dksX2_node_4 0 rfl rfl)
theorem dX2_node_97 : decode cX2_node 97 = .ok (.getfield 70, 3) := dk_180 0 70 (dk_at dksX2_node_4 1 rfl rfl)
theorem dX2_node_100 : decode cX2_node 100 = .ok (.iload 4, 2) := dk_21 4 (dk_at dksX2_node_4 4 rfl rfl)
theorem dX2_node_102 : decode cX2_node 102 = .ok (.iaload, 1) := dk_46 (dk_at dksX2_node_4 6 rfl rfl)
theorem dX2_node_103 : decode cX2_node 103 = .ok (.ireturn, 1) := dk_172 (dk_at dksX2_node_4 7 rfl rfl)
theorem dX2_node_104 : decode cX2_node 104 = .ok (.aload_n 0, 1) := dk_42 (dk_at dksX2_node_4 8 rfl rfl)
theorem dX2_node_105 : decode cX2_node 105 = .ok (.getfield 73, 3) := dk_180 0 73 (dk_at dksX2_node_4 9 rfl rfl)
theorem dX2_node_108 : decode cX2_node 108 = .ok (.iload 4, 2) := dk_21 4 (dk_at dksX2_node_4 12 rfl rfl)
theorem dX2_node_110 : decode cX2_node 110 = .ok (.iaload, 1) := dk_46 (dk_at dksX2_node_4 14 rfl rfl)
theorem dX2_node_111 : decode cX2_node 111 = .ok (.ireturn, 1) := dk_172 (dk_at dksX2_node_4 15 rfl rfl)
theorem dX2_node_112 : decode cX2_node 112 = .ok (.iconst 0, 1) := dk_3 (dk_at dksX2_node_4 16 rfl rfl)
theorem dX2_node_113 : decode cX2_node 113 = .ok (.istore 5, 2) := dk_54 5 (dk_at dksX2_node_4 17 rfl rfl)
theorem dX2_node_115 : decode cX2_node 115 = .ok (.sipush 240, 3) := dk_17 0 240 (dk_at dksX2_node_4 19 rfl rfl)
theorem dX2_node_118 : decode cX2_node 118 = .ok (.iload_n 1, 1) := dk_27 (dk_at dksX2_node_4 22 rfl rfl)
theorem dX2_node_119 : decode cX2_node 119 = .ok (.imul, 1) := dk_104 (dk_at dksX2_node_4 23 rfl rfl)
theorem dX2_node_120 : decode cX2_node 120 = .ok (.istore 6, 2) := dk_54 6 (dk_at dksX2_node_5 0 rfl rfl)
theorem dX2_node_122 : decode cX2_node 122 = .ok (.iload 6, 2) := dk_21 6 (dk_at dksX2_node_5 2 rfl rfl)
theorem dX2_node_124 : decode cX2_node 124 = .ok (.sipush 240, 3) := dk_17 0 240 (dk_at dksX2_node_5 4 rfl rfl)
theorem dX2_node_127 : decode cX2_node 127 = .ok (.iload_n 1, 1) := dk_27 (dk_at dksX2_node_5 7 rfl rfl)
theorem dX2_node_128 : decode cX2_node 128 = .ok (.imul, 1) := dk_104 (dk_at dksX2_node_5 8 rfl rfl)
theorem dX2_node_129 : decode cX2_node 129 = .ok (.aload_n 0, 1) := dk_42 (dk_at dksX2_node_5 9 rfl rfl)
theorem dX2_node_130 : decode cX2_node 130 = .ok (.getfield 43, 3) := dk_180 0 43 (dk_at dksX2_node_5 10 rfl rfl)
theorem dX2_node_133 : decode cX2_node 133 = .ok (.iload_n 1, 1) := dk_27 (dk_at dksX2_node_5 13 rfl rfl)
theorem dX2_node_134 : decode cX2_node 134 = .ok (.iaload, 1) := dk_46 (dk_at dksX2_node_5 14 rfl rfl)
theorem dX2_node_135 : decode cX2_node 135 = .ok (.iadd, 1) := dk_96 (dk_at dksX2_node_5 15 rfl rfl)
theorem dX2_node_136 : decode cX2_node 136 = .ok (.if_icmp .ge 41, 3) := dk_162 0 41 (dk_at dksX2_node_5 16 rfl rfl)
theorem dX2_node_139 : decode cX2_node 139 = .ok (.iload 5, 2) := dk_21 5 (dk_at dksX2_node_5 19 rfl rfl)
theorem dX2_node_141 : decode cX2_node 141 = .ok (.aload_n 0, 1) := dk_42 (dk_at dksX2_node_5 21 rfl rfl)
theorem dX2_node_142 : decode cX2_node 142 = .ok (.getfield 70, 3) := dk_180 0 70 (dk_at dksX2_node_6 0 rfl rfl)
theorem dX2_node_145 : decode cX2_node 145 = .ok (.iload 6, 2) := dk_21 6 (dk_at dksX2_node_6 3 rfl rfl)
theorem dX2_node_147 : decode cX2_node 147 = .ok (.iaload, 1) := dk_46 (dk_at dksX2_node_6 5 rfl rfl)
theorem dX2_node_148 : decode cX2_node 148 = .ok (.iload_n 2, 1) := dk_28 (dk_at dksX2_node_6 6 rfl rfl)
theorem dX2_node_149 : decode cX2_node 149 = .ok (.if_icmp .eq 14, 3) := dk_159 0 14 (dk_at dksX2_node_6 7 rfl rfl)
theorem dX2_node_152 : decode cX2_node 152 = .ok (.aload_n 0, 1) := dk_42 (dk_at dksX2_node_6 10 rfl rfl)
theorem dX2_node_153 : decode cX2_node 153 = .ok (.getfield 73, 3) := dk_180 0 73 (dk_at dksX2_node_6 11 rfl rfl)
theorem dX2_node_156 : decode cX2_node 156 = .ok (.iload 6, 2) := dk_21 6 (dk_at dksX2_node_6 14 rfl rfl)
theorem dX2_node_158 : decode cX2_node 158 = .ok (.iaload, 1) := dk_46 (dk_at dksX2_node_6 16 rfl rfl)
theorem dX2_node_159 : decode cX2_node 159 = .ok (.iload_n 2, 1) := dk_28 (dk_at dksX2_node_6 17 rfl rfl)
theorem dX2_node_160 : decode cX2_node 160 = .ok (.if_icmp .ne 7, 3) := dk_160 0 7 (dk_at dksX2_node_6 18 rfl rfl)
theorem dX2_node_163 : decode cX2_node 163 = .ok (.iconst 1, 1) := dk_4 (dk_at dksX2_node_6 21 rfl rfl)
theorem dX2_node_164 : decode cX2_node 164 = .ok (.goto 4, 3) := dk_167 0 4 (dk_at dksX2_node_7 0 rfl rfl)
theorem dX2_node_167 : decode cX2_node 167 = .ok (.iconst 0, 1) := dk_3 (dk_at dksX2_node_7 3 rfl rfl)
theorem dX2_node_168 : decode cX2_node 168 = .ok (.iadd, 1) := dk_96 (dk_at dksX2_node_7 4 rfl rfl)
theorem dX2_node_169 : decode cX2_node 169 = .ok (.istore 5, 2) := dk_54 5 (dk_at dksX2_node_7 5 rfl rfl)
theorem dX2_node_171 : decode cX2_node 171 = .ok (.iinc 6 1, 3) := dk_132 6 1 (dk_at dksX2_node_7 7 rfl rfl)
theorem dX2_node_174 : decode cX2_node 174 = .ok (.goto (-52), 3) := dk_167 255 204 (dk_at dksX2_node_7 10 rfl rfl)
theorem dX2_node_177 : decode cX2_node 177 = .ok (.iload 5, 2) := dk_21 5 (dk_at dksX2_node_7 13 rfl rfl)
theorem dX2_node_179 : decode cX2_node 179 = .ok (.ireturn, 1) := dk_172 (dk_at dksX2_node_7 15 rfl rfl)
theorem dX2_node_180 : decode cX2_node 180 = .ok (.iconst (-1), 1) := dk_2 (dk_at dksX2_node_7 16 rfl rfl)
theorem dX2_node_181 : decode cX2_node 181 = .ok (.ireturn, 1) := dk_172 (dk_at dksX2_node_7 17 rfl rfl)
abbrev cX2_sum : ByteArray := prog_24_method_60_code
def yX2_sum : MethodName := ⟨RX2, "sum", "(III)I"⟩
def dkwX2_sum_6 : List UInt8 := [160, 0, 7, 4, 167, 0, 4, 3, 96, 54, 5, 132, 6, 1, 167, 255, 215, 21, 5, 172, 2, 172]
abbrev dktX2_sum_6 : List UInt8 := dkwX2_sum_6 ++ []
def dkwX2_sum_5 : List UInt8 := [180, 0, 43, 27, 46, 162, 0, 36, 21, 5, 42, 180, 0, 67, 17, 0, 240, 27, 104, 21, 6, 96, 46, 28]
abbrev dktX2_sum_5 : List UInt8 := dkwX2_sum_5 ++ dktX2_sum_6
def dkwX2_sum_4 : List UInt8 := [27, 28, 182, 1, 78, 153, 0, 7, 4, 167, 0, 4, 3, 172, 3, 54, 5, 3, 54, 6, 21, 6, 42]
abbrev dktX2_sum_4 : List UInt8 := dkwX2_sum_4 ++ dktX2_sum_5
def dkwX2_sum_3 : List UInt8 := [182, 1, 123, 172, 42, 42, 180, 0, 100, 21, 4, 46, 42, 180, 0, 103, 21, 4, 46, 182, 1, 123, 172, 42]
abbrev dktX2_sum_3 : List UInt8 := dkwX2_sum_3 ++ dktX2_sum_4
def dkwX2_sum_2 : List UInt8 := [42, 180, 0, 91, 21, 4, 46, 172, 42, 42, 180, 0, 94, 21, 4, 46, 42, 180, 0, 97, 21, 4, 46]
abbrev dktX2_sum_2 : List UInt8 := dkwX2_sum_2 ++ dktX2_sum_3
def dkwX2_sum_1 : List UInt8 := [170, 0, 0, 0, 0, 0, 0, 150, 0, 0, 0, 0, 0, 0, 0, 4, 0, 0, 0, 36, 0, 0, 0, 44, 0, 0, 0, 63, 0, 0, 0, 82, 0, 0, 0, 97]
abbrev dktX2_sum_1 : List UInt8 := dkwX2_sum_1 ++ dktX2_sum_2
def dkwX2_sum_0 : List UInt8 := [42, 27, 28, 182, 1, 120, 154, 0, 5, 2, 172, 16, 32, 27, 104, 28, 96, 54, 4, 29]
abbrev dktX2_sum_0 : List UInt8 := dkwX2_sum_0 ++ dktX2_sum_1
theorem dksX2_sum_0 : cX2_sum.data.toList.drop 0 = dktX2_sum_0 := by decide +kernel
theorem dksX2_sum_1 : cX2_sum.data.toList.drop 20 = dktX2_sum_1 := dk_seg dksX2_sum_0 20 rfl rfl
theorem dksX2_sum_2 : cX2_sum.data.toList.drop 56 = dktX2_sum_2 := dk_seg dksX2_sum_1 36 rfl rfl
theorem dksX2_sum_3 : cX2_sum.data.toList.drop 79 = dktX2_sum_3 := dk_seg dksX2_sum_2 23 rfl rfl
theorem dksX2_sum_4 : cX2_sum.data.toList.drop 103 = dktX2_sum_4 := dk_seg dksX2_sum_3 24 rfl rfl
theorem dksX2_sum_5 : cX2_sum.data.toList.drop 126 = dktX2_sum_5 := dk_seg dksX2_sum_4 23 rfl rfl
theorem dksX2_sum_6 : cX2_sum.data.toList.drop 150 = dktX2_sum_6 := dk_seg dksX2_sum_5 24 rfl rfl
theorem dX2_sum_0 : decode cX2_sum 0 = .ok (.aload_n 0, 1) := dk_42 (dk_at dksX2_sum_0 0 rfl rfl)
theorem dX2_sum_1 : decode cX2_sum 1 = .ok (.iload_n 1, 1) := dk_27 (dk_at dksX2_sum_0 1 rfl rfl)
theorem dX2_sum_2 : decode cX2_sum 2 = .ok (.iload_n 2, 1) := dk_28 (dk_at dksX2_sum_0 2 rfl rfl)
theorem dX2_sum_3 : decode cX2_sum 3 = .ok (.invokevirtual 376, 3) := dk_182 1 120 (dk_at dksX2_sum_0 3 rfl rfl)
theorem dX2_sum_6 : decode cX2_sum 6 = .ok (.ifCond .ne 5, 3) := dk_154 0 5 (dk_at dksX2_sum_0 6 rfl rfl)
theorem dX2_sum_9 : decode cX2_sum 9 = .ok (.iconst (-1), 1) := dk_2 (dk_at dksX2_sum_0 9 rfl rfl)
theorem dX2_sum_10 : decode cX2_sum 10 = .ok (.ireturn, 1) := dk_172 (dk_at dksX2_sum_0 10 rfl rfl)
theorem dX2_sum_11 : decode cX2_sum 11 = .ok (.bipush 32, 2) := dk_16 32 (dk_at dksX2_sum_0 11 rfl rfl)
theorem dX2_sum_13 : decode cX2_sum 13 = .ok (.iload_n 1, 1) := dk_27 (dk_at dksX2_sum_0 13 rfl rfl)
theorem dX2_sum_14 : decode cX2_sum 14 = .ok (.imul, 1) := dk_104 (dk_at dksX2_sum_0 14 rfl rfl)
theorem dX2_sum_15 : decode cX2_sum 15 = .ok (.iload_n 2, 1) := dk_28 (dk_at dksX2_sum_0 15 rfl rfl)
theorem dX2_sum_16 : decode cX2_sum 16 = .ok (.iadd, 1) := dk_96 (dk_at dksX2_sum_0 16 rfl rfl)
theorem dX2_sum_17 : decode cX2_sum 17 = .ok (.istore 4, 2) := dk_54 4 (dk_at dksX2_sum_0 17 rfl rfl)
theorem dX2_sum_19 : decode cX2_sum 19 = .ok (.iload_n 3, 1) := dk_29 (dk_at dksX2_sum_0 19 rfl rfl)
theorem dX2_sum_20 : decode cX2_sum 20 = .ok (.tableswitch 150 0 4 #[36, 44, 63, 82, 97], 36) := by decide +kernel
theorem dX2_sum_56 : decode cX2_sum 56 = .ok (.aload_n 0, 1) := dk_42 (dk_at dksX2_sum_2 0 rfl rfl)
theorem dX2_sum_57 : decode cX2_sum 57 = .ok (.getfield 91, 3) := dk_180 0 91 (dk_at dksX2_sum_2 1 rfl rfl)
theorem dX2_sum_60 : decode cX2_sum 60 = .ok (.iload 4, 2) := dk_21 4 (dk_at dksX2_sum_2 4 rfl rfl)
theorem dX2_sum_62 : decode cX2_sum 62 = .ok (.iaload, 1) := dk_46 (dk_at dksX2_sum_2 6 rfl rfl)
theorem dX2_sum_63 : decode cX2_sum 63 = .ok (.ireturn, 1) := dk_172 (dk_at dksX2_sum_2 7 rfl rfl)
theorem dX2_sum_64 : decode cX2_sum 64 = .ok (.aload_n 0, 1) := dk_42 (dk_at dksX2_sum_2 8 rfl rfl)
theorem dX2_sum_65 : decode cX2_sum 65 = .ok (.aload_n 0, 1) := dk_42 (dk_at dksX2_sum_2 9 rfl rfl)
theorem dX2_sum_66 : decode cX2_sum 66 = .ok (.getfield 94, 3) := dk_180 0 94 (dk_at dksX2_sum_2 10 rfl rfl)
theorem dX2_sum_69 : decode cX2_sum 69 = .ok (.iload 4, 2) := dk_21 4 (dk_at dksX2_sum_2 13 rfl rfl)
theorem dX2_sum_71 : decode cX2_sum 71 = .ok (.iaload, 1) := dk_46 (dk_at dksX2_sum_2 15 rfl rfl)
theorem dX2_sum_72 : decode cX2_sum 72 = .ok (.aload_n 0, 1) := dk_42 (dk_at dksX2_sum_2 16 rfl rfl)
theorem dX2_sum_73 : decode cX2_sum 73 = .ok (.getfield 97, 3) := dk_180 0 97 (dk_at dksX2_sum_2 17 rfl rfl)
theorem dX2_sum_76 : decode cX2_sum 76 = .ok (.iload 4, 2) := dk_21 4 (dk_at dksX2_sum_2 20 rfl rfl)
theorem dX2_sum_78 : decode cX2_sum 78 = .ok (.iaload, 1) := dk_46 (dk_at dksX2_sum_2 22 rfl rfl)
theorem dX2_sum_79 : decode cX2_sum 79 = .ok (.invokevirtual 379, 3) := dk_182 1 123 (dk_at dksX2_sum_3 0 rfl rfl)
theorem dX2_sum_82 : decode cX2_sum 82 = .ok (.ireturn, 1) := dk_172 (dk_at dksX2_sum_3 3 rfl rfl)
theorem dX2_sum_83 : decode cX2_sum 83 = .ok (.aload_n 0, 1) := dk_42 (dk_at dksX2_sum_3 4 rfl rfl)
theorem dX2_sum_84 : decode cX2_sum 84 = .ok (.aload_n 0, 1) := dk_42 (dk_at dksX2_sum_3 5 rfl rfl)
theorem dX2_sum_85 : decode cX2_sum 85 = .ok (.getfield 100, 3) := dk_180 0 100 (dk_at dksX2_sum_3 6 rfl rfl)
theorem dX2_sum_88 : decode cX2_sum 88 = .ok (.iload 4, 2) := dk_21 4 (dk_at dksX2_sum_3 9 rfl rfl)
theorem dX2_sum_90 : decode cX2_sum 90 = .ok (.iaload, 1) := dk_46 (dk_at dksX2_sum_3 11 rfl rfl)
theorem dX2_sum_91 : decode cX2_sum 91 = .ok (.aload_n 0, 1) := dk_42 (dk_at dksX2_sum_3 12 rfl rfl)
theorem dX2_sum_92 : decode cX2_sum 92 = .ok (.getfield 103, 3) := dk_180 0 103 (dk_at dksX2_sum_3 13 rfl rfl)
theorem dX2_sum_95 : decode cX2_sum 95 = .ok (.iload 4, 2) := dk_21 4 (dk_at dksX2_sum_3 16 rfl rfl)
theorem dX2_sum_97 : decode cX2_sum 97 = .ok (.iaload, 1) := dk_46 (dk_at dksX2_sum_3 18 rfl rfl)
theorem dX2_sum_98 : decode cX2_sum 98 = .ok (.invokevirtual 379, 3) := dk_182 1 123 (dk_at dksX2_sum_3 19 rfl rfl)
theorem dX2_sum_101 : decode cX2_sum 101 = .ok (.ireturn, 1) := dk_172 (dk_at dksX2_sum_3 22 rfl rfl)
theorem dX2_sum_102 : decode cX2_sum 102 = .ok (.aload_n 0, 1) := dk_42 (dk_at dksX2_sum_3 23 rfl rfl)
theorem dX2_sum_103 : decode cX2_sum 103 = .ok (.iload_n 1, 1) := dk_27 (dk_at dksX2_sum_4 0 rfl rfl)
theorem dX2_sum_104 : decode cX2_sum 104 = .ok (.iload_n 2, 1) := dk_28 (dk_at dksX2_sum_4 1 rfl rfl)
theorem dX2_sum_105 : decode cX2_sum 105 = .ok (.invokevirtual 334, 3) := dk_182 1 78 (dk_at dksX2_sum_4 2 rfl rfl)
theorem dX2_sum_108 : decode cX2_sum 108 = .ok (.ifCond .eq 7, 3) := dk_153 0 7 (dk_at dksX2_sum_4 5 rfl rfl)
theorem dX2_sum_111 : decode cX2_sum 111 = .ok (.iconst 1, 1) := dk_4 (dk_at dksX2_sum_4 8 rfl rfl)
theorem dX2_sum_112 : decode cX2_sum 112 = .ok (.goto 4, 3) := dk_167 0 4 (dk_at dksX2_sum_4 9 rfl rfl)
theorem dX2_sum_115 : decode cX2_sum 115 = .ok (.iconst 0, 1) := dk_3 (dk_at dksX2_sum_4 12 rfl rfl)
theorem dX2_sum_116 : decode cX2_sum 116 = .ok (.ireturn, 1) := dk_172 (dk_at dksX2_sum_4 13 rfl rfl)
theorem dX2_sum_117 : decode cX2_sum 117 = .ok (.iconst 0, 1) := dk_3 (dk_at dksX2_sum_4 14 rfl rfl)
theorem dX2_sum_118 : decode cX2_sum 118 = .ok (.istore 5, 2) := dk_54 5 (dk_at dksX2_sum_4 15 rfl rfl)
theorem dX2_sum_120 : decode cX2_sum 120 = .ok (.iconst 0, 1) := dk_3 (dk_at dksX2_sum_4 17 rfl rfl)
theorem dX2_sum_121 : decode cX2_sum 121 = .ok (.istore 6, 2) := dk_54 6 (dk_at dksX2_sum_4 18 rfl rfl)
theorem dX2_sum_123 : decode cX2_sum 123 = .ok (.iload 6, 2) := dk_21 6 (dk_at dksX2_sum_4 20 rfl rfl)
theorem dX2_sum_125 : decode cX2_sum 125 = .ok (.aload_n 0, 1) := dk_42 (dk_at dksX2_sum_4 22 rfl rfl)
theorem dX2_sum_126 : decode cX2_sum 126 = .ok (.getfield 43, 3) := dk_180 0 43 (dk_at dksX2_sum_5 0 rfl rfl)
theorem dX2_sum_129 : decode cX2_sum 129 = .ok (.iload_n 1, 1) := dk_27 (dk_at dksX2_sum_5 3 rfl rfl)
theorem dX2_sum_130 : decode cX2_sum 130 = .ok (.iaload, 1) := dk_46 (dk_at dksX2_sum_5 4 rfl rfl)
theorem dX2_sum_131 : decode cX2_sum 131 = .ok (.if_icmp .ge 36, 3) := dk_162 0 36 (dk_at dksX2_sum_5 5 rfl rfl)
theorem dX2_sum_134 : decode cX2_sum 134 = .ok (.iload 5, 2) := dk_21 5 (dk_at dksX2_sum_5 8 rfl rfl)
theorem dX2_sum_136 : decode cX2_sum 136 = .ok (.aload_n 0, 1) := dk_42 (dk_at dksX2_sum_5 10 rfl rfl)
theorem dX2_sum_137 : decode cX2_sum 137 = .ok (.getfield 67, 3) := dk_180 0 67 (dk_at dksX2_sum_5 11 rfl rfl)
theorem dX2_sum_140 : decode cX2_sum 140 = .ok (.sipush 240, 3) := dk_17 0 240 (dk_at dksX2_sum_5 14 rfl rfl)
theorem dX2_sum_143 : decode cX2_sum 143 = .ok (.iload_n 1, 1) := dk_27 (dk_at dksX2_sum_5 17 rfl rfl)
theorem dX2_sum_144 : decode cX2_sum 144 = .ok (.imul, 1) := dk_104 (dk_at dksX2_sum_5 18 rfl rfl)
theorem dX2_sum_145 : decode cX2_sum 145 = .ok (.iload 6, 2) := dk_21 6 (dk_at dksX2_sum_5 19 rfl rfl)
theorem dX2_sum_147 : decode cX2_sum 147 = .ok (.iadd, 1) := dk_96 (dk_at dksX2_sum_5 21 rfl rfl)
theorem dX2_sum_148 : decode cX2_sum 148 = .ok (.iaload, 1) := dk_46 (dk_at dksX2_sum_5 22 rfl rfl)
theorem dX2_sum_149 : decode cX2_sum 149 = .ok (.iload_n 2, 1) := dk_28 (dk_at dksX2_sum_5 23 rfl rfl)
theorem dX2_sum_150 : decode cX2_sum 150 = .ok (.if_icmp .ne 7, 3) := dk_160 0 7 (dk_at dksX2_sum_6 0 rfl rfl)
theorem dX2_sum_153 : decode cX2_sum 153 = .ok (.iconst 1, 1) := dk_4 (dk_at dksX2_sum_6 3 rfl rfl)
theorem dX2_sum_154 : decode cX2_sum 154 = .ok (.goto 4, 3) := dk_167 0 4 (dk_at dksX2_sum_6 4 rfl rfl)
theorem dX2_sum_157 : decode cX2_sum 157 = .ok (.iconst 0, 1) := dk_3 (dk_at dksX2_sum_6 7 rfl rfl)
theorem dX2_sum_158 : decode cX2_sum 158 = .ok (.iadd, 1) := dk_96 (dk_at dksX2_sum_6 8 rfl rfl)
theorem dX2_sum_159 : decode cX2_sum 159 = .ok (.istore 5, 2) := dk_54 5 (dk_at dksX2_sum_6 9 rfl rfl)
theorem dX2_sum_161 : decode cX2_sum 161 = .ok (.iinc 6 1, 3) := dk_132 6 1 (dk_at dksX2_sum_6 11 rfl rfl)
theorem dX2_sum_164 : decode cX2_sum 164 = .ok (.goto (-41), 3) := dk_167 255 215 (dk_at dksX2_sum_6 14 rfl rfl)
theorem dX2_sum_167 : decode cX2_sum 167 = .ok (.iload 5, 2) := dk_21 5 (dk_at dksX2_sum_6 17 rfl rfl)
theorem dX2_sum_169 : decode cX2_sum 169 = .ok (.ireturn, 1) := dk_172 (dk_at dksX2_sum_6 19 rfl rfl)
theorem dX2_sum_170 : decode cX2_sum 170 = .ok (.iconst (-1), 1) := dk_2 (dk_at dksX2_sum_6 20 rfl rfl)
theorem dX2_sum_171 : decode cX2_sum 171 = .ok (.ireturn, 1) := dk_172 (dk_at dksX2_sum_6 21 rfl rfl)
abbrev cX2_isSum : ByteArray := prog_24_method_59_code
def yX2_isSum : MethodName := ⟨RX2, "isSum", "(II)Z"⟩
def dkwX2_isSum_1 : List UInt8 := [167, 0, 4, 3, 172]
abbrev dktX2_isSum_1 : List UInt8 := dkwX2_isSum_1 ++ []
def dkwX2_isSum_0 : List UInt8 := [42, 27, 182, 1, 117, 153, 0, 21, 28, 155, 0, 17, 28, 42, 180, 0, 49, 27, 46, 162, 0, 7, 4]
abbrev dktX2_isSum_0 : List UInt8 := dkwX2_isSum_0 ++ dktX2_isSum_1
theorem dksX2_isSum_0 : cX2_isSum.data.toList.drop 0 = dktX2_isSum_0 := by decide +kernel
theorem dksX2_isSum_1 : cX2_isSum.data.toList.drop 23 = dktX2_isSum_1 := dk_seg dksX2_isSum_0 23 rfl rfl
theorem dX2_isSum_0 : decode cX2_isSum 0 = .ok (.aload_n 0, 1) := dk_42 (dk_at dksX2_isSum_0 0 rfl rfl)
theorem dX2_isSum_1 : decode cX2_isSum 1 = .ok (.iload_n 1, 1) := dk_27 (dk_at dksX2_isSum_0 1 rfl rfl)
theorem dX2_isSum_2 : decode cX2_isSum 2 = .ok (.invokevirtual 373, 3) := dk_182 1 117 (dk_at dksX2_isSum_0 2 rfl rfl)
theorem dX2_isSum_5 : decode cX2_isSum 5 = .ok (.ifCond .eq 21, 3) := dk_153 0 21 (dk_at dksX2_isSum_0 5 rfl rfl)
theorem dX2_isSum_8 : decode cX2_isSum 8 = .ok (.iload_n 2, 1) := dk_28 (dk_at dksX2_isSum_0 8 rfl rfl)
theorem dX2_isSum_9 : decode cX2_isSum 9 = .ok (.ifCond .lt 17, 3) := dk_155 0 17 (dk_at dksX2_isSum_0 9 rfl rfl)
theorem dX2_isSum_12 : decode cX2_isSum 12 = .ok (.iload_n 2, 1) := dk_28 (dk_at dksX2_isSum_0 12 rfl rfl)
theorem dX2_isSum_13 : decode cX2_isSum 13 = .ok (.aload_n 0, 1) := dk_42 (dk_at dksX2_isSum_0 13 rfl rfl)
theorem dX2_isSum_14 : decode cX2_isSum 14 = .ok (.getfield 49, 3) := dk_180 0 49 (dk_at dksX2_isSum_0 14 rfl rfl)
theorem dX2_isSum_17 : decode cX2_isSum 17 = .ok (.iload_n 1, 1) := dk_27 (dk_at dksX2_isSum_0 17 rfl rfl)
theorem dX2_isSum_18 : decode cX2_isSum 18 = .ok (.iaload, 1) := dk_46 (dk_at dksX2_isSum_0 18 rfl rfl)
theorem dX2_isSum_19 : decode cX2_isSum 19 = .ok (.if_icmp .ge 7, 3) := dk_162 0 7 (dk_at dksX2_isSum_0 19 rfl rfl)
theorem dX2_isSum_22 : decode cX2_isSum 22 = .ok (.iconst 1, 1) := dk_4 (dk_at dksX2_isSum_0 22 rfl rfl)
theorem dX2_isSum_23 : decode cX2_isSum 23 = .ok (.goto 4, 3) := dk_167 0 4 (dk_at dksX2_isSum_1 0 rfl rfl)
theorem dX2_isSum_26 : decode cX2_isSum 26 = .ok (.iconst 0, 1) := dk_3 (dk_at dksX2_isSum_1 3 rfl rfl)
theorem dX2_isSum_27 : decode cX2_isSum 27 = .ok (.ireturn, 1) := dk_172 (dk_at dksX2_isSum_1 4 rfl rfl)
abbrev cX2_coded : ByteArray := prog_24_method_58_code
def yX2_coded : MethodName := ⟨RX2, "coded", "(II)I"⟩
def dkwX2_coded_2 : List UInt8 := [17, 252, 25, 167, 0, 4, 28, 172]
abbrev dktX2_coded_2 : List UInt8 := dkwX2_coded_2 ++ []
def dkwX2_coded_1 : List UInt8 := [16, 16, 100, 172, 28, 17, 3, 231, 164, 0, 9, 17, 3, 231, 167, 0, 17, 28, 17, 252, 25, 162, 0, 9]
abbrev dktX2_coded_1 : List UInt8 := dkwX2_coded_1 ++ dktX2_coded_2
def dkwX2_coded_0 : List UInt8 := [27, 155, 0, 26, 27, 16, 16, 162, 0, 11, 17, 3, 232, 27, 96, 167, 0, 11, 17, 7, 208, 27, 96]
abbrev dktX2_coded_0 : List UInt8 := dkwX2_coded_0 ++ dktX2_coded_1
theorem dksX2_coded_0 : cX2_coded.data.toList.drop 0 = dktX2_coded_0 := by decide +kernel
theorem dksX2_coded_1 : cX2_coded.data.toList.drop 23 = dktX2_coded_1 := dk_seg dksX2_coded_0 23 rfl rfl
theorem dksX2_coded_2 : cX2_coded.data.toList.drop 47 = dktX2_coded_2 := dk_seg dksX2_coded_1 24 rfl rfl
theorem dX2_coded_0 : decode cX2_coded 0 = .ok (.iload_n 1, 1) := dk_27 (dk_at dksX2_coded_0 0 rfl rfl)
theorem dX2_coded_1 : decode cX2_coded 1 = .ok (.ifCond .lt 26, 3) := dk_155 0 26 (dk_at dksX2_coded_0 1 rfl rfl)
theorem dX2_coded_4 : decode cX2_coded 4 = .ok (.iload_n 1, 1) := dk_27 (dk_at dksX2_coded_0 4 rfl rfl)
theorem dX2_coded_5 : decode cX2_coded 5 = .ok (.bipush 16, 2) := dk_16 16 (dk_at dksX2_coded_0 5 rfl rfl)
theorem dX2_coded_7 : decode cX2_coded 7 = .ok (.if_icmp .ge 11, 3) := dk_162 0 11 (dk_at dksX2_coded_0 7 rfl rfl)
theorem dX2_coded_10 : decode cX2_coded 10 = .ok (.sipush 1000, 3) := dk_17 3 232 (dk_at dksX2_coded_0 10 rfl rfl)
theorem dX2_coded_13 : decode cX2_coded 13 = .ok (.iload_n 1, 1) := dk_27 (dk_at dksX2_coded_0 13 rfl rfl)
theorem dX2_coded_14 : decode cX2_coded 14 = .ok (.iadd, 1) := dk_96 (dk_at dksX2_coded_0 14 rfl rfl)
theorem dX2_coded_15 : decode cX2_coded 15 = .ok (.goto 11, 3) := dk_167 0 11 (dk_at dksX2_coded_0 15 rfl rfl)
theorem dX2_coded_18 : decode cX2_coded 18 = .ok (.sipush 2000, 3) := dk_17 7 208 (dk_at dksX2_coded_0 18 rfl rfl)
theorem dX2_coded_21 : decode cX2_coded 21 = .ok (.iload_n 1, 1) := dk_27 (dk_at dksX2_coded_0 21 rfl rfl)
theorem dX2_coded_22 : decode cX2_coded 22 = .ok (.iadd, 1) := dk_96 (dk_at dksX2_coded_0 22 rfl rfl)
theorem dX2_coded_23 : decode cX2_coded 23 = .ok (.bipush 16, 2) := dk_16 16 (dk_at dksX2_coded_1 0 rfl rfl)
theorem dX2_coded_25 : decode cX2_coded 25 = .ok (.isub, 1) := dk_100 (dk_at dksX2_coded_1 2 rfl rfl)
theorem dX2_coded_26 : decode cX2_coded 26 = .ok (.ireturn, 1) := dk_172 (dk_at dksX2_coded_1 3 rfl rfl)
theorem dX2_coded_27 : decode cX2_coded 27 = .ok (.iload_n 2, 1) := dk_28 (dk_at dksX2_coded_1 4 rfl rfl)
theorem dX2_coded_28 : decode cX2_coded 28 = .ok (.sipush 999, 3) := dk_17 3 231 (dk_at dksX2_coded_1 5 rfl rfl)
theorem dX2_coded_31 : decode cX2_coded 31 = .ok (.if_icmp .le 9, 3) := dk_164 0 9 (dk_at dksX2_coded_1 8 rfl rfl)
theorem dX2_coded_34 : decode cX2_coded 34 = .ok (.sipush 999, 3) := dk_17 3 231 (dk_at dksX2_coded_1 11 rfl rfl)
theorem dX2_coded_37 : decode cX2_coded 37 = .ok (.goto 17, 3) := dk_167 0 17 (dk_at dksX2_coded_1 14 rfl rfl)
theorem dX2_coded_40 : decode cX2_coded 40 = .ok (.iload_n 2, 1) := dk_28 (dk_at dksX2_coded_1 17 rfl rfl)
theorem dX2_coded_41 : decode cX2_coded 41 = .ok (.sipush (-999), 3) := dk_17 252 25 (dk_at dksX2_coded_1 18 rfl rfl)
theorem dX2_coded_44 : decode cX2_coded 44 = .ok (.if_icmp .ge 9, 3) := dk_162 0 9 (dk_at dksX2_coded_1 21 rfl rfl)
theorem dX2_coded_47 : decode cX2_coded 47 = .ok (.sipush (-999), 3) := dk_17 252 25 (dk_at dksX2_coded_2 0 rfl rfl)
theorem dX2_coded_50 : decode cX2_coded 50 = .ok (.goto 4, 3) := dk_167 0 4 (dk_at dksX2_coded_2 3 rfl rfl)
theorem dX2_coded_53 : decode cX2_coded 53 = .ok (.iload_n 2, 1) := dk_28 (dk_at dksX2_coded_2 6 rfl rfl)
theorem dX2_coded_54 : decode cX2_coded 54 = .ok (.ireturn, 1) := dk_172 (dk_at dksX2_coded_2 7 rfl rfl)
abbrev cX2_at_2 : ByteArray := prog_24_method_61_code
def yX2_at_2 : MethodName := ⟨RX2, "at", "(IIII)I"⟩
def dkwX2_at_2_2 : List UInt8 := [29, 96, 46, 21, 4, 122, 4, 126, 172]
abbrev dktX2_at_2_2 : List UInt8 := dkwX2_at_2_2 ++ []
def dkwX2_at_2_1 : List UInt8 := [21, 4, 155, 0, 10, 21, 4, 16, 7, 164, 0, 5, 2, 172, 42, 180, 0, 107, 42, 27, 28, 182, 1, 82]
abbrev dktX2_at_2_1 : List UInt8 := dkwX2_at_2_1 ++ dktX2_at_2_2
def dkwX2_at_2_0 : List UInt8 := [42, 27, 28, 182, 1, 120, 153, 0, 29, 29, 155, 0, 25, 29, 42, 180, 0, 43, 27, 46, 162, 0, 15]
abbrev dktX2_at_2_0 : List UInt8 := dkwX2_at_2_0 ++ dktX2_at_2_1
theorem dksX2_at_2_0 : cX2_at_2.data.toList.drop 0 = dktX2_at_2_0 := by decide +kernel
theorem dksX2_at_2_1 : cX2_at_2.data.toList.drop 23 = dktX2_at_2_1 := dk_seg dksX2_at_2_0 23 rfl rfl
theorem dksX2_at_2_2 : cX2_at_2.data.toList.drop 47 = dktX2_at_2_2 := dk_seg dksX2_at_2_1 24 rfl rfl
theorem dX2_at_2_0 : decode cX2_at_2 0 = .ok (.aload_n 0, 1) := dk_42 (dk_at dksX2_at_2_0 0 rfl rfl)
theorem dX2_at_2_1 : decode cX2_at_2 1 = .ok (.iload_n 1, 1) := dk_27 (dk_at dksX2_at_2_0 1 rfl rfl)
theorem dX2_at_2_2 : decode cX2_at_2 2 = .ok (.iload_n 2, 1) := dk_28 (dk_at dksX2_at_2_0 2 rfl rfl)
theorem dX2_at_2_3 : decode cX2_at_2 3 = .ok (.invokevirtual 376, 3) := dk_182 1 120 (dk_at dksX2_at_2_0 3 rfl rfl)
theorem dX2_at_2_6 : decode cX2_at_2 6 = .ok (.ifCond .eq 29, 3) := dk_153 0 29 (dk_at dksX2_at_2_0 6 rfl rfl)
theorem dX2_at_2_9 : decode cX2_at_2 9 = .ok (.iload_n 3, 1) := dk_29 (dk_at dksX2_at_2_0 9 rfl rfl)
theorem dX2_at_2_10 : decode cX2_at_2 10 = .ok (.ifCond .lt 25, 3) := dk_155 0 25 (dk_at dksX2_at_2_0 10 rfl rfl)
theorem dX2_at_2_13 : decode cX2_at_2 13 = .ok (.iload_n 3, 1) := dk_29 (dk_at dksX2_at_2_0 13 rfl rfl)
theorem dX2_at_2_14 : decode cX2_at_2 14 = .ok (.aload_n 0, 1) := dk_42 (dk_at dksX2_at_2_0 14 rfl rfl)
theorem dX2_at_2_15 : decode cX2_at_2 15 = .ok (.getfield 43, 3) := dk_180 0 43 (dk_at dksX2_at_2_0 15 rfl rfl)
theorem dX2_at_2_18 : decode cX2_at_2 18 = .ok (.iload_n 1, 1) := dk_27 (dk_at dksX2_at_2_0 18 rfl rfl)
theorem dX2_at_2_19 : decode cX2_at_2 19 = .ok (.iaload, 1) := dk_46 (dk_at dksX2_at_2_0 19 rfl rfl)
theorem dX2_at_2_20 : decode cX2_at_2 20 = .ok (.if_icmp .ge 15, 3) := dk_162 0 15 (dk_at dksX2_at_2_0 20 rfl rfl)
theorem dX2_at_2_23 : decode cX2_at_2 23 = .ok (.iload 4, 2) := dk_21 4 (dk_at dksX2_at_2_1 0 rfl rfl)
theorem dX2_at_2_25 : decode cX2_at_2 25 = .ok (.ifCond .lt 10, 3) := dk_155 0 10 (dk_at dksX2_at_2_1 2 rfl rfl)
theorem dX2_at_2_28 : decode cX2_at_2 28 = .ok (.iload 4, 2) := dk_21 4 (dk_at dksX2_at_2_1 5 rfl rfl)
theorem dX2_at_2_30 : decode cX2_at_2 30 = .ok (.bipush 7, 2) := dk_16 7 (dk_at dksX2_at_2_1 7 rfl rfl)
theorem dX2_at_2_32 : decode cX2_at_2 32 = .ok (.if_icmp .le 5, 3) := dk_164 0 5 (dk_at dksX2_at_2_1 9 rfl rfl)
theorem dX2_at_2_35 : decode cX2_at_2 35 = .ok (.iconst (-1), 1) := dk_2 (dk_at dksX2_at_2_1 12 rfl rfl)
theorem dX2_at_2_36 : decode cX2_at_2 36 = .ok (.ireturn, 1) := dk_172 (dk_at dksX2_at_2_1 13 rfl rfl)
theorem dX2_at_2_37 : decode cX2_at_2 37 = .ok (.aload_n 0, 1) := dk_42 (dk_at dksX2_at_2_1 14 rfl rfl)
theorem dX2_at_2_38 : decode cX2_at_2 38 = .ok (.getfield 107, 3) := dk_180 0 107 (dk_at dksX2_at_2_1 15 rfl rfl)
theorem dX2_at_2_41 : decode cX2_at_2 41 = .ok (.aload_n 0, 1) := dk_42 (dk_at dksX2_at_2_1 18 rfl rfl)
theorem dX2_at_2_42 : decode cX2_at_2 42 = .ok (.iload_n 1, 1) := dk_27 (dk_at dksX2_at_2_1 19 rfl rfl)
theorem dX2_at_2_43 : decode cX2_at_2 43 = .ok (.iload_n 2, 1) := dk_28 (dk_at dksX2_at_2_1 20 rfl rfl)
theorem dX2_at_2_44 : decode cX2_at_2 44 = .ok (.invokevirtual 338, 3) := dk_182 1 82 (dk_at dksX2_at_2_1 21 rfl rfl)
theorem dX2_at_2_47 : decode cX2_at_2 47 = .ok (.iload_n 3, 1) := dk_29 (dk_at dksX2_at_2_2 0 rfl rfl)
theorem dX2_at_2_48 : decode cX2_at_2 48 = .ok (.iadd, 1) := dk_96 (dk_at dksX2_at_2_2 1 rfl rfl)
theorem dX2_at_2_49 : decode cX2_at_2 49 = .ok (.iaload, 1) := dk_46 (dk_at dksX2_at_2_2 2 rfl rfl)
theorem dX2_at_2_50 : decode cX2_at_2 50 = .ok (.iload 4, 2) := dk_21 4 (dk_at dksX2_at_2_2 3 rfl rfl)
theorem dX2_at_2_52 : decode cX2_at_2 52 = .ok (.ishr, 1) := dk_122 (dk_at dksX2_at_2_2 5 rfl rfl)
theorem dX2_at_2_53 : decode cX2_at_2 53 = .ok (.iconst 1, 1) := dk_4 (dk_at dksX2_at_2_2 6 rfl rfl)
theorem dX2_at_2_54 : decode cX2_at_2 54 = .ok (.iand, 1) := dk_126 (dk_at dksX2_at_2_2 7 rfl rfl)
theorem dX2_at_2_55 : decode cX2_at_2 55 = .ok (.ireturn, 1) := dk_172 (dk_at dksX2_at_2_2 8 rfl rfl)
abbrev cX2_placed : ByteArray := prog_24_method_66_code
def yX2_placed : MethodName := ⟨RX2, "placed", "(IIIII)I"⟩
def dkwX2_placed_4 : List UInt8 := [182, 1, 135, 42, 180, 0, 147, 21, 4, 51, 153, 0, 7, 4, 167, 0, 4, 3, 172]
abbrev dktX2_placed_4 : List UInt8 := dkwX2_placed_4 ++ []
def dkwX2_placed_3 : List UInt8 := [42, 27, 28, 29, 21, 4, 182, 1, 129, 153, 0, 7, 4, 167, 0, 4, 3, 172, 42, 27, 28, 29]
abbrev dktX2_placed_3 : List UInt8 := dkwX2_placed_3 ++ dktX2_placed_4
def dkwX2_placed_2 : List UInt8 := [5, 162, 0, 41, 21, 5, 154, 0, 18, 42, 27, 28, 29, 21, 4, 182, 1, 126, 153, 0, 22, 167, 0, 15]
abbrev dktX2_placed_2 : List UInt8 := dkwX2_placed_2 ++ dktX2_placed_3
def dkwX2_placed_1 : List UInt8 := [42, 180, 0, 43, 27, 46, 162, 0, 14, 21, 5, 155, 0, 9, 21, 5, 5, 164, 0, 5, 2, 172, 21, 5]
abbrev dktX2_placed_1 : List UInt8 := dkwX2_placed_1 ++ dktX2_placed_2
def dkwX2_placed_0 : List UInt8 := [42, 27, 29, 182, 1, 120, 153, 0, 38, 42, 28, 182, 1, 132, 153, 0, 30, 21, 4, 155, 0, 25, 21, 4]
abbrev dktX2_placed_0 : List UInt8 := dkwX2_placed_0 ++ dktX2_placed_1
theorem dksX2_placed_0 : cX2_placed.data.toList.drop 0 = dktX2_placed_0 := by decide +kernel
theorem dksX2_placed_1 : cX2_placed.data.toList.drop 24 = dktX2_placed_1 := dk_seg dksX2_placed_0 24 rfl rfl
theorem dksX2_placed_2 : cX2_placed.data.toList.drop 48 = dktX2_placed_2 := dk_seg dksX2_placed_1 24 rfl rfl
theorem dksX2_placed_3 : cX2_placed.data.toList.drop 72 = dktX2_placed_3 := dk_seg dksX2_placed_2 24 rfl rfl
theorem dksX2_placed_4 : cX2_placed.data.toList.drop 94 = dktX2_placed_4 := dk_seg dksX2_placed_3 22 rfl rfl
theorem dX2_placed_0 : decode cX2_placed 0 = .ok (.aload_n 0, 1) := dk_42 (dk_at dksX2_placed_0 0 rfl rfl)
theorem dX2_placed_1 : decode cX2_placed 1 = .ok (.iload_n 1, 1) := dk_27 (dk_at dksX2_placed_0 1 rfl rfl)
theorem dX2_placed_2 : decode cX2_placed 2 = .ok (.iload_n 3, 1) := dk_29 (dk_at dksX2_placed_0 2 rfl rfl)
theorem dX2_placed_3 : decode cX2_placed 3 = .ok (.invokevirtual 376, 3) := dk_182 1 120 (dk_at dksX2_placed_0 3 rfl rfl)
theorem dX2_placed_6 : decode cX2_placed 6 = .ok (.ifCond .eq 38, 3) := dk_153 0 38 (dk_at dksX2_placed_0 6 rfl rfl)
theorem dX2_placed_9 : decode cX2_placed 9 = .ok (.aload_n 0, 1) := dk_42 (dk_at dksX2_placed_0 9 rfl rfl)
theorem dX2_placed_10 : decode cX2_placed 10 = .ok (.iload_n 2, 1) := dk_28 (dk_at dksX2_placed_0 10 rfl rfl)
theorem dX2_placed_11 : decode cX2_placed 11 = .ok (.invokevirtual 388, 3) := dk_182 1 132 (dk_at dksX2_placed_0 11 rfl rfl)
theorem dX2_placed_14 : decode cX2_placed 14 = .ok (.ifCond .eq 30, 3) := dk_153 0 30 (dk_at dksX2_placed_0 14 rfl rfl)
theorem dX2_placed_17 : decode cX2_placed 17 = .ok (.iload 4, 2) := dk_21 4 (dk_at dksX2_placed_0 17 rfl rfl)
theorem dX2_placed_19 : decode cX2_placed 19 = .ok (.ifCond .lt 25, 3) := dk_155 0 25 (dk_at dksX2_placed_0 19 rfl rfl)
theorem dX2_placed_22 : decode cX2_placed 22 = .ok (.iload 4, 2) := dk_21 4 (dk_at dksX2_placed_0 22 rfl rfl)
theorem dX2_placed_24 : decode cX2_placed 24 = .ok (.aload_n 0, 1) := dk_42 (dk_at dksX2_placed_1 0 rfl rfl)
theorem dX2_placed_25 : decode cX2_placed 25 = .ok (.getfield 43, 3) := dk_180 0 43 (dk_at dksX2_placed_1 1 rfl rfl)
theorem dX2_placed_28 : decode cX2_placed 28 = .ok (.iload_n 1, 1) := dk_27 (dk_at dksX2_placed_1 4 rfl rfl)
theorem dX2_placed_29 : decode cX2_placed 29 = .ok (.iaload, 1) := dk_46 (dk_at dksX2_placed_1 5 rfl rfl)
theorem dX2_placed_30 : decode cX2_placed 30 = .ok (.if_icmp .ge 14, 3) := dk_162 0 14 (dk_at dksX2_placed_1 6 rfl rfl)
theorem dX2_placed_33 : decode cX2_placed 33 = .ok (.iload 5, 2) := dk_21 5 (dk_at dksX2_placed_1 9 rfl rfl)
theorem dX2_placed_35 : decode cX2_placed 35 = .ok (.ifCond .lt 9, 3) := dk_155 0 9 (dk_at dksX2_placed_1 11 rfl rfl)
theorem dX2_placed_38 : decode cX2_placed 38 = .ok (.iload 5, 2) := dk_21 5 (dk_at dksX2_placed_1 14 rfl rfl)
theorem dX2_placed_40 : decode cX2_placed 40 = .ok (.iconst 2, 1) := dk_5 (dk_at dksX2_placed_1 16 rfl rfl)
theorem dX2_placed_41 : decode cX2_placed 41 = .ok (.if_icmp .le 5, 3) := dk_164 0 5 (dk_at dksX2_placed_1 17 rfl rfl)
theorem dX2_placed_44 : decode cX2_placed 44 = .ok (.iconst (-1), 1) := dk_2 (dk_at dksX2_placed_1 20 rfl rfl)
theorem dX2_placed_45 : decode cX2_placed 45 = .ok (.ireturn, 1) := dk_172 (dk_at dksX2_placed_1 21 rfl rfl)
theorem dX2_placed_46 : decode cX2_placed 46 = .ok (.iload 5, 2) := dk_21 5 (dk_at dksX2_placed_1 22 rfl rfl)
theorem dX2_placed_48 : decode cX2_placed 48 = .ok (.iconst 2, 1) := dk_5 (dk_at dksX2_placed_2 0 rfl rfl)
theorem dX2_placed_49 : decode cX2_placed 49 = .ok (.if_icmp .ge 41, 3) := dk_162 0 41 (dk_at dksX2_placed_2 1 rfl rfl)
theorem dX2_placed_52 : decode cX2_placed 52 = .ok (.iload 5, 2) := dk_21 5 (dk_at dksX2_placed_2 4 rfl rfl)
theorem dX2_placed_54 : decode cX2_placed 54 = .ok (.ifCond .ne 18, 3) := dk_154 0 18 (dk_at dksX2_placed_2 6 rfl rfl)
theorem dX2_placed_57 : decode cX2_placed 57 = .ok (.aload_n 0, 1) := dk_42 (dk_at dksX2_placed_2 9 rfl rfl)
theorem dX2_placed_58 : decode cX2_placed 58 = .ok (.iload_n 1, 1) := dk_27 (dk_at dksX2_placed_2 10 rfl rfl)
theorem dX2_placed_59 : decode cX2_placed 59 = .ok (.iload_n 2, 1) := dk_28 (dk_at dksX2_placed_2 11 rfl rfl)
theorem dX2_placed_60 : decode cX2_placed 60 = .ok (.iload_n 3, 1) := dk_29 (dk_at dksX2_placed_2 12 rfl rfl)
theorem dX2_placed_61 : decode cX2_placed 61 = .ok (.iload 4, 2) := dk_21 4 (dk_at dksX2_placed_2 13 rfl rfl)
theorem dX2_placed_63 : decode cX2_placed 63 = .ok (.invokevirtual 382, 3) := dk_182 1 126 (dk_at dksX2_placed_2 15 rfl rfl)
theorem dX2_placed_66 : decode cX2_placed 66 = .ok (.ifCond .eq 22, 3) := dk_153 0 22 (dk_at dksX2_placed_2 18 rfl rfl)
theorem dX2_placed_69 : decode cX2_placed 69 = .ok (.goto 15, 3) := dk_167 0 15 (dk_at dksX2_placed_2 21 rfl rfl)
theorem dX2_placed_72 : decode cX2_placed 72 = .ok (.aload_n 0, 1) := dk_42 (dk_at dksX2_placed_3 0 rfl rfl)
theorem dX2_placed_73 : decode cX2_placed 73 = .ok (.iload_n 1, 1) := dk_27 (dk_at dksX2_placed_3 1 rfl rfl)
theorem dX2_placed_74 : decode cX2_placed 74 = .ok (.iload_n 2, 1) := dk_28 (dk_at dksX2_placed_3 2 rfl rfl)
theorem dX2_placed_75 : decode cX2_placed 75 = .ok (.iload_n 3, 1) := dk_29 (dk_at dksX2_placed_3 3 rfl rfl)
theorem dX2_placed_76 : decode cX2_placed 76 = .ok (.iload 4, 2) := dk_21 4 (dk_at dksX2_placed_3 4 rfl rfl)
theorem dX2_placed_78 : decode cX2_placed 78 = .ok (.invokevirtual 385, 3) := dk_182 1 129 (dk_at dksX2_placed_3 6 rfl rfl)
theorem dX2_placed_81 : decode cX2_placed 81 = .ok (.ifCond .eq 7, 3) := dk_153 0 7 (dk_at dksX2_placed_3 9 rfl rfl)
theorem dX2_placed_84 : decode cX2_placed 84 = .ok (.iconst 1, 1) := dk_4 (dk_at dksX2_placed_3 12 rfl rfl)
theorem dX2_placed_85 : decode cX2_placed 85 = .ok (.goto 4, 3) := dk_167 0 4 (dk_at dksX2_placed_3 13 rfl rfl)
theorem dX2_placed_88 : decode cX2_placed 88 = .ok (.iconst 0, 1) := dk_3 (dk_at dksX2_placed_3 16 rfl rfl)
theorem dX2_placed_89 : decode cX2_placed 89 = .ok (.ireturn, 1) := dk_172 (dk_at dksX2_placed_3 17 rfl rfl)
theorem dX2_placed_90 : decode cX2_placed 90 = .ok (.aload_n 0, 1) := dk_42 (dk_at dksX2_placed_3 18 rfl rfl)
theorem dX2_placed_91 : decode cX2_placed 91 = .ok (.iload_n 1, 1) := dk_27 (dk_at dksX2_placed_3 19 rfl rfl)
theorem dX2_placed_92 : decode cX2_placed 92 = .ok (.iload_n 2, 1) := dk_28 (dk_at dksX2_placed_3 20 rfl rfl)
theorem dX2_placed_93 : decode cX2_placed 93 = .ok (.iload_n 3, 1) := dk_29 (dk_at dksX2_placed_3 21 rfl rfl)
theorem dX2_placed_94 : decode cX2_placed 94 = .ok (.invokevirtual 391, 3) := dk_182 1 135 (dk_at dksX2_placed_4 0 rfl rfl)
theorem dX2_placed_97 : decode cX2_placed 97 = .ok (.aload_n 0, 1) := dk_42 (dk_at dksX2_placed_4 3 rfl rfl)
theorem dX2_placed_98 : decode cX2_placed 98 = .ok (.getfield 147, 3) := dk_180 0 147 (dk_at dksX2_placed_4 4 rfl rfl)
theorem dX2_placed_101 : decode cX2_placed 101 = .ok (.iload 4, 2) := dk_21 4 (dk_at dksX2_placed_4 7 rfl rfl)
theorem dX2_placed_103 : decode cX2_placed 103 = .ok (.baload, 1) := dk_51 (dk_at dksX2_placed_4 9 rfl rfl)
theorem dX2_placed_104 : decode cX2_placed 104 = .ok (.ifCond .eq 7, 3) := dk_153 0 7 (dk_at dksX2_placed_4 10 rfl rfl)
theorem dX2_placed_107 : decode cX2_placed 107 = .ok (.iconst 1, 1) := dk_4 (dk_at dksX2_placed_4 13 rfl rfl)
theorem dX2_placed_108 : decode cX2_placed 108 = .ok (.goto 4, 3) := dk_167 0 4 (dk_at dksX2_placed_4 14 rfl rfl)
theorem dX2_placed_111 : decode cX2_placed 111 = .ok (.iconst 0, 1) := dk_3 (dk_at dksX2_placed_4 17 rfl rfl)
theorem dX2_placed_112 : decode cX2_placed 112 = .ok (.ireturn, 1) := dk_172 (dk_at dksX2_placed_4 18 rfl rfl)
abbrev cX2_isPlacing : ByteArray := prog_24_method_65_code
def yX2_isPlacing : MethodName := ⟨RX2, "isPlacing", "(I)Z"⟩
def dkwX2_isPlacing_0 : List UInt8 := [27, 155, 0, 12, 27, 5, 163, 0, 7, 4, 167, 0, 4, 3, 172]
abbrev dktX2_isPlacing_0 : List UInt8 := dkwX2_isPlacing_0 ++ []
theorem dksX2_isPlacing_0 : cX2_isPlacing.data.toList.drop 0 = dktX2_isPlacing_0 := by decide +kernel
theorem dX2_isPlacing_0 : decode cX2_isPlacing 0 = .ok (.iload_n 1, 1) := dk_27 (dk_at dksX2_isPlacing_0 0 rfl rfl)
theorem dX2_isPlacing_1 : decode cX2_isPlacing 1 = .ok (.ifCond .lt 12, 3) := dk_155 0 12 (dk_at dksX2_isPlacing_0 1 rfl rfl)
theorem dX2_isPlacing_4 : decode cX2_isPlacing 4 = .ok (.iload_n 1, 1) := dk_27 (dk_at dksX2_isPlacing_0 4 rfl rfl)
theorem dX2_isPlacing_5 : decode cX2_isPlacing 5 = .ok (.iconst 2, 1) := dk_5 (dk_at dksX2_isPlacing_0 5 rfl rfl)
theorem dX2_isPlacing_6 : decode cX2_isPlacing 6 = .ok (.if_icmp .gt 7, 3) := dk_163 0 7 (dk_at dksX2_isPlacing_0 6 rfl rfl)
theorem dX2_isPlacing_9 : decode cX2_isPlacing 9 = .ok (.iconst 1, 1) := dk_4 (dk_at dksX2_isPlacing_0 9 rfl rfl)
theorem dX2_isPlacing_10 : decode cX2_isPlacing 10 = .ok (.goto 4, 3) := dk_167 0 4 (dk_at dksX2_isPlacing_0 10 rfl rfl)
theorem dX2_isPlacing_13 : decode cX2_isPlacing 13 = .ok (.iconst 0, 1) := dk_3 (dk_at dksX2_isPlacing_0 13 rfl rfl)
theorem dX2_isPlacing_14 : decode cX2_isPlacing 14 = .ok (.ireturn, 1) := dk_172 (dk_at dksX2_isPlacing_0 14 rfl rfl)
abbrev cX2_isSet : ByteArray := prog_24_method_62_code
def yX2_isSet : MethodName := ⟨RX2, "isSet", "(IIII)Z"⟩
def dkwX2_isSet_2 : List UInt8 := [21, 4, 17, 0, 128, 182, 1, 91, 154, 0, 7, 4, 167, 0, 4, 3, 172]
abbrev dktX2_isSet_2 : List UInt8 := dkwX2_isSet_2 ++ []
def dkwX2_isSet_1 : List UInt8 := [167, 0, 40, 28, 5, 160, 0, 34, 42, 21, 5, 21, 4, 16, 64, 182, 1, 91, 153, 0, 21, 42, 21, 5]
abbrev dktX2_isSet_1 : List UInt8 := dkwX2_isSet_1 ++ dktX2_isSet_2
def dkwX2_isSet_0 : List UInt8 := [42, 27, 29, 182, 1, 82, 54, 5, 28, 4, 160, 0, 16, 42, 21, 5, 21, 4, 16, 16, 182, 1, 91]
abbrev dktX2_isSet_0 : List UInt8 := dkwX2_isSet_0 ++ dktX2_isSet_1
theorem dksX2_isSet_0 : cX2_isSet.data.toList.drop 0 = dktX2_isSet_0 := by decide +kernel
theorem dksX2_isSet_1 : cX2_isSet.data.toList.drop 23 = dktX2_isSet_1 := dk_seg dksX2_isSet_0 23 rfl rfl
theorem dksX2_isSet_2 : cX2_isSet.data.toList.drop 47 = dktX2_isSet_2 := dk_seg dksX2_isSet_1 24 rfl rfl
theorem dX2_isSet_0 : decode cX2_isSet 0 = .ok (.aload_n 0, 1) := dk_42 (dk_at dksX2_isSet_0 0 rfl rfl)
theorem dX2_isSet_1 : decode cX2_isSet 1 = .ok (.iload_n 1, 1) := dk_27 (dk_at dksX2_isSet_0 1 rfl rfl)
theorem dX2_isSet_2 : decode cX2_isSet 2 = .ok (.iload_n 3, 1) := dk_29 (dk_at dksX2_isSet_0 2 rfl rfl)
theorem dX2_isSet_3 : decode cX2_isSet 3 = .ok (.invokevirtual 338, 3) := dk_182 1 82 (dk_at dksX2_isSet_0 3 rfl rfl)
theorem dX2_isSet_6 : decode cX2_isSet 6 = .ok (.istore 5, 2) := dk_54 5 (dk_at dksX2_isSet_0 6 rfl rfl)
theorem dX2_isSet_8 : decode cX2_isSet 8 = .ok (.iload_n 2, 1) := dk_28 (dk_at dksX2_isSet_0 8 rfl rfl)
theorem dX2_isSet_9 : decode cX2_isSet 9 = .ok (.iconst 1, 1) := dk_4 (dk_at dksX2_isSet_0 9 rfl rfl)
theorem dX2_isSet_10 : decode cX2_isSet 10 = .ok (.if_icmp .ne 16, 3) := dk_160 0 16 (dk_at dksX2_isSet_0 10 rfl rfl)
theorem dX2_isSet_13 : decode cX2_isSet 13 = .ok (.aload_n 0, 1) := dk_42 (dk_at dksX2_isSet_0 13 rfl rfl)
theorem dX2_isSet_14 : decode cX2_isSet 14 = .ok (.iload 5, 2) := dk_21 5 (dk_at dksX2_isSet_0 14 rfl rfl)
theorem dX2_isSet_16 : decode cX2_isSet 16 = .ok (.iload 4, 2) := dk_21 4 (dk_at dksX2_isSet_0 16 rfl rfl)
theorem dX2_isSet_18 : decode cX2_isSet 18 = .ok (.bipush 16, 2) := dk_16 16 (dk_at dksX2_isSet_0 18 rfl rfl)
theorem dX2_isSet_20 : decode cX2_isSet 20 = .ok (.invokevirtual 347, 3) := dk_182 1 91 (dk_at dksX2_isSet_0 20 rfl rfl)
theorem dX2_isSet_23 : decode cX2_isSet 23 = .ok (.goto 40, 3) := dk_167 0 40 (dk_at dksX2_isSet_1 0 rfl rfl)
theorem dX2_isSet_26 : decode cX2_isSet 26 = .ok (.iload_n 2, 1) := dk_28 (dk_at dksX2_isSet_1 3 rfl rfl)
theorem dX2_isSet_27 : decode cX2_isSet 27 = .ok (.iconst 2, 1) := dk_5 (dk_at dksX2_isSet_1 4 rfl rfl)
theorem dX2_isSet_28 : decode cX2_isSet 28 = .ok (.if_icmp .ne 34, 3) := dk_160 0 34 (dk_at dksX2_isSet_1 5 rfl rfl)
theorem dX2_isSet_31 : decode cX2_isSet 31 = .ok (.aload_n 0, 1) := dk_42 (dk_at dksX2_isSet_1 8 rfl rfl)
theorem dX2_isSet_32 : decode cX2_isSet 32 = .ok (.iload 5, 2) := dk_21 5 (dk_at dksX2_isSet_1 9 rfl rfl)
theorem dX2_isSet_34 : decode cX2_isSet 34 = .ok (.iload 4, 2) := dk_21 4 (dk_at dksX2_isSet_1 11 rfl rfl)
theorem dX2_isSet_36 : decode cX2_isSet 36 = .ok (.bipush 64, 2) := dk_16 64 (dk_at dksX2_isSet_1 13 rfl rfl)
theorem dX2_isSet_38 : decode cX2_isSet 38 = .ok (.invokevirtual 347, 3) := dk_182 1 91 (dk_at dksX2_isSet_1 15 rfl rfl)
theorem dX2_isSet_41 : decode cX2_isSet 41 = .ok (.ifCond .eq 21, 3) := dk_153 0 21 (dk_at dksX2_isSet_1 18 rfl rfl)
theorem dX2_isSet_44 : decode cX2_isSet 44 = .ok (.aload_n 0, 1) := dk_42 (dk_at dksX2_isSet_1 21 rfl rfl)
theorem dX2_isSet_45 : decode cX2_isSet 45 = .ok (.iload 5, 2) := dk_21 5 (dk_at dksX2_isSet_1 22 rfl rfl)
theorem dX2_isSet_47 : decode cX2_isSet 47 = .ok (.iload 4, 2) := dk_21 4 (dk_at dksX2_isSet_2 0 rfl rfl)
theorem dX2_isSet_49 : decode cX2_isSet 49 = .ok (.sipush 128, 3) := dk_17 0 128 (dk_at dksX2_isSet_2 2 rfl rfl)
theorem dX2_isSet_52 : decode cX2_isSet 52 = .ok (.invokevirtual 347, 3) := dk_182 1 91 (dk_at dksX2_isSet_2 5 rfl rfl)
theorem dX2_isSet_55 : decode cX2_isSet 55 = .ok (.ifCond .ne 7, 3) := dk_154 0 7 (dk_at dksX2_isSet_2 8 rfl rfl)
theorem dX2_isSet_58 : decode cX2_isSet 58 = .ok (.iconst 1, 1) := dk_4 (dk_at dksX2_isSet_2 11 rfl rfl)
theorem dX2_isSet_59 : decode cX2_isSet 59 = .ok (.goto 4, 3) := dk_167 0 4 (dk_at dksX2_isSet_2 12 rfl rfl)
theorem dX2_isSet_62 : decode cX2_isSet 62 = .ok (.iconst 0, 1) := dk_3 (dk_at dksX2_isSet_2 15 rfl rfl)
theorem dX2_isSet_63 : decode cX2_isSet 63 = .ok (.ireturn, 1) := dk_172 (dk_at dksX2_isSet_2 16 rfl rfl)
abbrev cX2_isTaken : ByteArray := prog_24_method_63_code
def yX2_isTaken : MethodName := ⟨RX2, "isTaken", "(IIII)Z"⟩
def dkwX2_isTaken_2 : List UInt8 := [21, 4, 17, 0, 128, 182, 1, 91, 154, 0, 7, 4, 167, 0, 4, 3, 172]
abbrev dktX2_isTaken_2 : List UInt8 := dkwX2_isTaken_2 ++ []
def dkwX2_isTaken_1 : List UInt8 := [159, 0, 35, 28, 5, 160, 0, 34, 42, 21, 5, 21, 4, 16, 64, 182, 1, 91, 153, 0, 17, 42, 21, 5]
abbrev dktX2_isTaken_1 : List UInt8 := dkwX2_isTaken_1 ++ dktX2_isTaken_2
def dkwX2_isTaken_0 : List UInt8 := [42, 27, 29, 182, 1, 82, 54, 5, 42, 21, 5, 21, 4, 4, 182, 1, 91, 153, 0, 44, 28, 4]
abbrev dktX2_isTaken_0 : List UInt8 := dkwX2_isTaken_0 ++ dktX2_isTaken_1
theorem dksX2_isTaken_0 : cX2_isTaken.data.toList.drop 0 = dktX2_isTaken_0 := by decide +kernel
theorem dksX2_isTaken_1 : cX2_isTaken.data.toList.drop 22 = dktX2_isTaken_1 := dk_seg dksX2_isTaken_0 22 rfl rfl
theorem dksX2_isTaken_2 : cX2_isTaken.data.toList.drop 46 = dktX2_isTaken_2 := dk_seg dksX2_isTaken_1 24 rfl rfl
theorem dX2_isTaken_0 : decode cX2_isTaken 0 = .ok (.aload_n 0, 1) := dk_42 (dk_at dksX2_isTaken_0 0 rfl rfl)
theorem dX2_isTaken_1 : decode cX2_isTaken 1 = .ok (.iload_n 1, 1) := dk_27 (dk_at dksX2_isTaken_0 1 rfl rfl)
theorem dX2_isTaken_2 : decode cX2_isTaken 2 = .ok (.iload_n 3, 1) := dk_29 (dk_at dksX2_isTaken_0 2 rfl rfl)
theorem dX2_isTaken_3 : decode cX2_isTaken 3 = .ok (.invokevirtual 338, 3) := dk_182 1 82 (dk_at dksX2_isTaken_0 3 rfl rfl)
theorem dX2_isTaken_6 : decode cX2_isTaken 6 = .ok (.istore 5, 2) := dk_54 5 (dk_at dksX2_isTaken_0 6 rfl rfl)
theorem dX2_isTaken_8 : decode cX2_isTaken 8 = .ok (.aload_n 0, 1) := dk_42 (dk_at dksX2_isTaken_0 8 rfl rfl)
theorem dX2_isTaken_9 : decode cX2_isTaken 9 = .ok (.iload 5, 2) := dk_21 5 (dk_at dksX2_isTaken_0 9 rfl rfl)
theorem dX2_isTaken_11 : decode cX2_isTaken 11 = .ok (.iload 4, 2) := dk_21 4 (dk_at dksX2_isTaken_0 11 rfl rfl)
theorem dX2_isTaken_13 : decode cX2_isTaken 13 = .ok (.iconst 1, 1) := dk_4 (dk_at dksX2_isTaken_0 13 rfl rfl)
theorem dX2_isTaken_14 : decode cX2_isTaken 14 = .ok (.invokevirtual 347, 3) := dk_182 1 91 (dk_at dksX2_isTaken_0 14 rfl rfl)
theorem dX2_isTaken_17 : decode cX2_isTaken 17 = .ok (.ifCond .eq 44, 3) := dk_153 0 44 (dk_at dksX2_isTaken_0 17 rfl rfl)
theorem dX2_isTaken_20 : decode cX2_isTaken 20 = .ok (.iload_n 2, 1) := dk_28 (dk_at dksX2_isTaken_0 20 rfl rfl)
theorem dX2_isTaken_21 : decode cX2_isTaken 21 = .ok (.iconst 1, 1) := dk_4 (dk_at dksX2_isTaken_0 21 rfl rfl)
theorem dX2_isTaken_22 : decode cX2_isTaken 22 = .ok (.if_icmp .eq 35, 3) := dk_159 0 35 (dk_at dksX2_isTaken_1 0 rfl rfl)
theorem dX2_isTaken_25 : decode cX2_isTaken 25 = .ok (.iload_n 2, 1) := dk_28 (dk_at dksX2_isTaken_1 3 rfl rfl)
theorem dX2_isTaken_26 : decode cX2_isTaken 26 = .ok (.iconst 2, 1) := dk_5 (dk_at dksX2_isTaken_1 4 rfl rfl)
theorem dX2_isTaken_27 : decode cX2_isTaken 27 = .ok (.if_icmp .ne 34, 3) := dk_160 0 34 (dk_at dksX2_isTaken_1 5 rfl rfl)
theorem dX2_isTaken_30 : decode cX2_isTaken 30 = .ok (.aload_n 0, 1) := dk_42 (dk_at dksX2_isTaken_1 8 rfl rfl)
theorem dX2_isTaken_31 : decode cX2_isTaken 31 = .ok (.iload 5, 2) := dk_21 5 (dk_at dksX2_isTaken_1 9 rfl rfl)
theorem dX2_isTaken_33 : decode cX2_isTaken 33 = .ok (.iload 4, 2) := dk_21 4 (dk_at dksX2_isTaken_1 11 rfl rfl)
theorem dX2_isTaken_35 : decode cX2_isTaken 35 = .ok (.bipush 64, 2) := dk_16 64 (dk_at dksX2_isTaken_1 13 rfl rfl)
theorem dX2_isTaken_37 : decode cX2_isTaken 37 = .ok (.invokevirtual 347, 3) := dk_182 1 91 (dk_at dksX2_isTaken_1 15 rfl rfl)
theorem dX2_isTaken_40 : decode cX2_isTaken 40 = .ok (.ifCond .eq 17, 3) := dk_153 0 17 (dk_at dksX2_isTaken_1 18 rfl rfl)
theorem dX2_isTaken_43 : decode cX2_isTaken 43 = .ok (.aload_n 0, 1) := dk_42 (dk_at dksX2_isTaken_1 21 rfl rfl)
theorem dX2_isTaken_44 : decode cX2_isTaken 44 = .ok (.iload 5, 2) := dk_21 5 (dk_at dksX2_isTaken_1 22 rfl rfl)
theorem dX2_isTaken_46 : decode cX2_isTaken 46 = .ok (.iload 4, 2) := dk_21 4 (dk_at dksX2_isTaken_2 0 rfl rfl)
theorem dX2_isTaken_48 : decode cX2_isTaken 48 = .ok (.sipush 128, 3) := dk_17 0 128 (dk_at dksX2_isTaken_2 2 rfl rfl)
theorem dX2_isTaken_51 : decode cX2_isTaken 51 = .ok (.invokevirtual 347, 3) := dk_182 1 91 (dk_at dksX2_isTaken_2 5 rfl rfl)
theorem dX2_isTaken_54 : decode cX2_isTaken 54 = .ok (.ifCond .ne 7, 3) := dk_154 0 7 (dk_at dksX2_isTaken_2 8 rfl rfl)
theorem dX2_isTaken_57 : decode cX2_isTaken 57 = .ok (.iconst 1, 1) := dk_4 (dk_at dksX2_isTaken_2 11 rfl rfl)
theorem dX2_isTaken_58 : decode cX2_isTaken 58 = .ok (.goto 4, 3) := dk_167 0 4 (dk_at dksX2_isTaken_2 12 rfl rfl)
theorem dX2_isTaken_61 : decode cX2_isTaken 61 = .ok (.iconst 0, 1) := dk_3 (dk_at dksX2_isTaken_2 15 rfl rfl)
theorem dX2_isTaken_62 : decode cX2_isTaken 62 = .ok (.ireturn, 1) := dk_172 (dk_at dksX2_isTaken_2 16 rfl rfl)
abbrev cX2_live : ByteArray := prog_24_method_64_code
def yX2_live : MethodName := ⟨RX2, "live", "(III)V"⟩
def dkwX2_live_7 : List UInt8 := [167, 0, 14, 42, 180, 0, 147, 21, 5, 4, 84, 4, 54, 4, 132, 5, 1, 167, 255, 122, 167, 255, 108, 177]
abbrev dktX2_live_7 : List UInt8 := dkwX2_live_7 ++ []
def dkwX2_live_6 : List UInt8 := [182, 1, 126, 154, 0, 34, 42, 27, 28, 29, 21, 5, 182, 1, 129, 154, 0, 11, 21, 7, 154, 0, 6]
abbrev dktX2_live_6 : List UInt8 := dkwX2_live_6 ++ dktX2_live_7
def dkwX2_live_5 : List UInt8 := [167, 0, 4, 3, 54, 7, 42, 180, 0, 147, 21, 5, 51, 154, 0, 46, 42, 27, 28, 29, 21, 5]
abbrev dktX2_live_5 : List UInt8 := dkwX2_live_5 ++ dktX2_live_6
def dkwX2_live_4 : List UInt8 := [21, 6, 46, 155, 0, 22, 42, 180, 0, 147, 42, 180, 0, 73, 21, 6, 46, 51, 153, 0, 7, 4]
abbrev dktX2_live_4 : List UInt8 := dkwX2_live_4 ++ dktX2_live_5
def dkwX2_live_3 : List UInt8 := [46, 155, 0, 18, 42, 180, 0, 147, 42, 180, 0, 70, 21, 6, 46, 51, 154, 0, 28, 42, 180, 0, 73]
abbrev dktX2_live_3 : List UInt8 := dkwX2_live_3 ++ dktX2_live_4
def dkwX2_live_2 : List UInt8 := [180, 0, 43, 27, 46, 162, 0, 129, 17, 0, 240, 27, 104, 21, 5, 96, 54, 6, 42, 180, 0, 70, 21, 6]
abbrev dktX2_live_2 : List UInt8 := dkwX2_live_2 ++ dktX2_live_3
def dkwX2_live_1 : List UInt8 := [132, 4, 1, 167, 255, 234, 4, 54, 4, 21, 4, 153, 0, 149, 3, 54, 4, 3, 54, 5, 21, 5, 42]
abbrev dktX2_live_1 : List UInt8 := dkwX2_live_1 ++ dktX2_live_2
def dkwX2_live_0 : List UInt8 := [3, 54, 4, 21, 4, 42, 180, 0, 43, 27, 46, 162, 0, 17, 42, 180, 0, 147, 21, 4, 3, 84]
abbrev dktX2_live_0 : List UInt8 := dkwX2_live_0 ++ dktX2_live_1
theorem dksX2_live_0 : cX2_live.data.toList.drop 0 = dktX2_live_0 := by decide +kernel
theorem dksX2_live_1 : cX2_live.data.toList.drop 22 = dktX2_live_1 := dk_seg dksX2_live_0 22 rfl rfl
theorem dksX2_live_2 : cX2_live.data.toList.drop 45 = dktX2_live_2 := dk_seg dksX2_live_1 23 rfl rfl
theorem dksX2_live_3 : cX2_live.data.toList.drop 69 = dktX2_live_3 := dk_seg dksX2_live_2 24 rfl rfl
theorem dksX2_live_4 : cX2_live.data.toList.drop 92 = dktX2_live_4 := dk_seg dksX2_live_3 23 rfl rfl
theorem dksX2_live_5 : cX2_live.data.toList.drop 114 = dktX2_live_5 := dk_seg dksX2_live_4 22 rfl rfl
theorem dksX2_live_6 : cX2_live.data.toList.drop 136 = dktX2_live_6 := dk_seg dksX2_live_5 22 rfl rfl
theorem dksX2_live_7 : cX2_live.data.toList.drop 159 = dktX2_live_7 := dk_seg dksX2_live_6 23 rfl rfl
theorem dX2_live_0 : decode cX2_live 0 = .ok (.iconst 0, 1) := dk_3 (dk_at dksX2_live_0 0 rfl rfl)
theorem dX2_live_1 : decode cX2_live 1 = .ok (.istore 4, 2) := dk_54 4 (dk_at dksX2_live_0 1 rfl rfl)
theorem dX2_live_3 : decode cX2_live 3 = .ok (.iload 4, 2) := dk_21 4 (dk_at dksX2_live_0 3 rfl rfl)
theorem dX2_live_5 : decode cX2_live 5 = .ok (.aload_n 0, 1) := dk_42 (dk_at dksX2_live_0 5 rfl rfl)
theorem dX2_live_6 : decode cX2_live 6 = .ok (.getfield 43, 3) := dk_180 0 43 (dk_at dksX2_live_0 6 rfl rfl)
theorem dX2_live_9 : decode cX2_live 9 = .ok (.iload_n 1, 1) := dk_27 (dk_at dksX2_live_0 9 rfl rfl)
theorem dX2_live_10 : decode cX2_live 10 = .ok (.iaload, 1) := dk_46 (dk_at dksX2_live_0 10 rfl rfl)
theorem dX2_live_11 : decode cX2_live 11 = .ok (.if_icmp .ge 17, 3) := dk_162 0 17 (dk_at dksX2_live_0 11 rfl rfl)
theorem dX2_live_14 : decode cX2_live 14 = .ok (.aload_n 0, 1) := dk_42 (dk_at dksX2_live_0 14 rfl rfl)
theorem dX2_live_15 : decode cX2_live 15 = .ok (.getfield 147, 3) := dk_180 0 147 (dk_at dksX2_live_0 15 rfl rfl)
theorem dX2_live_18 : decode cX2_live 18 = .ok (.iload 4, 2) := dk_21 4 (dk_at dksX2_live_0 18 rfl rfl)
theorem dX2_live_20 : decode cX2_live 20 = .ok (.iconst 0, 1) := dk_3 (dk_at dksX2_live_0 20 rfl rfl)
theorem dX2_live_21 : decode cX2_live 21 = .ok (.bastore, 1) := dk_84 (dk_at dksX2_live_0 21 rfl rfl)
theorem dX2_live_22 : decode cX2_live 22 = .ok (.iinc 4 1, 3) := dk_132 4 1 (dk_at dksX2_live_1 0 rfl rfl)
theorem dX2_live_25 : decode cX2_live 25 = .ok (.goto (-22), 3) := dk_167 255 234 (dk_at dksX2_live_1 3 rfl rfl)
theorem dX2_live_28 : decode cX2_live 28 = .ok (.iconst 1, 1) := dk_4 (dk_at dksX2_live_1 6 rfl rfl)
theorem dX2_live_29 : decode cX2_live 29 = .ok (.istore 4, 2) := dk_54 4 (dk_at dksX2_live_1 7 rfl rfl)
theorem dX2_live_31 : decode cX2_live 31 = .ok (.iload 4, 2) := dk_21 4 (dk_at dksX2_live_1 9 rfl rfl)
theorem dX2_live_33 : decode cX2_live 33 = .ok (.ifCond .eq 149, 3) := dk_153 0 149 (dk_at dksX2_live_1 11 rfl rfl)
theorem dX2_live_36 : decode cX2_live 36 = .ok (.iconst 0, 1) := dk_3 (dk_at dksX2_live_1 14 rfl rfl)
theorem dX2_live_37 : decode cX2_live 37 = .ok (.istore 4, 2) := dk_54 4 (dk_at dksX2_live_1 15 rfl rfl)
theorem dX2_live_39 : decode cX2_live 39 = .ok (.iconst 0, 1) := dk_3 (dk_at dksX2_live_1 17 rfl rfl)
theorem dX2_live_40 : decode cX2_live 40 = .ok (.istore 5, 2) := dk_54 5 (dk_at dksX2_live_1 18 rfl rfl)
theorem dX2_live_42 : decode cX2_live 42 = .ok (.iload 5, 2) := dk_21 5 (dk_at dksX2_live_1 20 rfl rfl)
theorem dX2_live_44 : decode cX2_live 44 = .ok (.aload_n 0, 1) := dk_42 (dk_at dksX2_live_1 22 rfl rfl)
theorem dX2_live_45 : decode cX2_live 45 = .ok (.getfield 43, 3) := dk_180 0 43 (dk_at dksX2_live_2 0 rfl rfl)
theorem dX2_live_48 : decode cX2_live 48 = .ok (.iload_n 1, 1) := dk_27 (dk_at dksX2_live_2 3 rfl rfl)
theorem dX2_live_49 : decode cX2_live 49 = .ok (.iaload, 1) := dk_46 (dk_at dksX2_live_2 4 rfl rfl)
theorem dX2_live_50 : decode cX2_live 50 = .ok (.if_icmp .ge 129, 3) := dk_162 0 129 (dk_at dksX2_live_2 5 rfl rfl)
theorem dX2_live_53 : decode cX2_live 53 = .ok (.sipush 240, 3) := dk_17 0 240 (dk_at dksX2_live_2 8 rfl rfl)
theorem dX2_live_56 : decode cX2_live 56 = .ok (.iload_n 1, 1) := dk_27 (dk_at dksX2_live_2 11 rfl rfl)
theorem dX2_live_57 : decode cX2_live 57 = .ok (.imul, 1) := dk_104 (dk_at dksX2_live_2 12 rfl rfl)
theorem dX2_live_58 : decode cX2_live 58 = .ok (.iload 5, 2) := dk_21 5 (dk_at dksX2_live_2 13 rfl rfl)
theorem dX2_live_60 : decode cX2_live 60 = .ok (.iadd, 1) := dk_96 (dk_at dksX2_live_2 15 rfl rfl)
theorem dX2_live_61 : decode cX2_live 61 = .ok (.istore 6, 2) := dk_54 6 (dk_at dksX2_live_2 16 rfl rfl)
theorem dX2_live_63 : decode cX2_live 63 = .ok (.aload_n 0, 1) := dk_42 (dk_at dksX2_live_2 18 rfl rfl)
theorem dX2_live_64 : decode cX2_live 64 = .ok (.getfield 70, 3) := dk_180 0 70 (dk_at dksX2_live_2 19 rfl rfl)
theorem dX2_live_67 : decode cX2_live 67 = .ok (.iload 6, 2) := dk_21 6 (dk_at dksX2_live_2 22 rfl rfl)
theorem dX2_live_69 : decode cX2_live 69 = .ok (.iaload, 1) := dk_46 (dk_at dksX2_live_3 0 rfl rfl)
theorem dX2_live_70 : decode cX2_live 70 = .ok (.ifCond .lt 18, 3) := dk_155 0 18 (dk_at dksX2_live_3 1 rfl rfl)
theorem dX2_live_73 : decode cX2_live 73 = .ok (.aload_n 0, 1) := dk_42 (dk_at dksX2_live_3 4 rfl rfl)
theorem dX2_live_74 : decode cX2_live 74 = .ok (.getfield 147, 3) := dk_180 0 147 (dk_at dksX2_live_3 5 rfl rfl)
theorem dX2_live_77 : decode cX2_live 77 = .ok (.aload_n 0, 1) := dk_42 (dk_at dksX2_live_3 8 rfl rfl)
theorem dX2_live_78 : decode cX2_live 78 = .ok (.getfield 70, 3) := dk_180 0 70 (dk_at dksX2_live_3 9 rfl rfl)
theorem dX2_live_81 : decode cX2_live 81 = .ok (.iload 6, 2) := dk_21 6 (dk_at dksX2_live_3 12 rfl rfl)
theorem dX2_live_83 : decode cX2_live 83 = .ok (.iaload, 1) := dk_46 (dk_at dksX2_live_3 14 rfl rfl)
theorem dX2_live_84 : decode cX2_live 84 = .ok (.baload, 1) := dk_51 (dk_at dksX2_live_3 15 rfl rfl)
theorem dX2_live_85 : decode cX2_live 85 = .ok (.ifCond .ne 28, 3) := dk_154 0 28 (dk_at dksX2_live_3 16 rfl rfl)
theorem dX2_live_88 : decode cX2_live 88 = .ok (.aload_n 0, 1) := dk_42 (dk_at dksX2_live_3 19 rfl rfl)
theorem dX2_live_89 : decode cX2_live 89 = .ok (.getfield 73, 3) := dk_180 0 73 (dk_at dksX2_live_3 20 rfl rfl)
theorem dX2_live_92 : decode cX2_live 92 = .ok (.iload 6, 2) := dk_21 6 (dk_at dksX2_live_4 0 rfl rfl)
theorem dX2_live_94 : decode cX2_live 94 = .ok (.iaload, 1) := dk_46 (dk_at dksX2_live_4 2 rfl rfl)
theorem dX2_live_95 : decode cX2_live 95 = .ok (.ifCond .lt 22, 3) := dk_155 0 22 (dk_at dksX2_live_4 3 rfl rfl)
theorem dX2_live_98 : decode cX2_live 98 = .ok (.aload_n 0, 1) := dk_42 (dk_at dksX2_live_4 6 rfl rfl)
theorem dX2_live_99 : decode cX2_live 99 = .ok (.getfield 147, 3) := dk_180 0 147 (dk_at dksX2_live_4 7 rfl rfl)
theorem dX2_live_102 : decode cX2_live 102 = .ok (.aload_n 0, 1) := dk_42 (dk_at dksX2_live_4 10 rfl rfl)
theorem dX2_live_103 : decode cX2_live 103 = .ok (.getfield 73, 3) := dk_180 0 73 (dk_at dksX2_live_4 11 rfl rfl)
theorem dX2_live_106 : decode cX2_live 106 = .ok (.iload 6, 2) := dk_21 6 (dk_at dksX2_live_4 14 rfl rfl)
theorem dX2_live_108 : decode cX2_live 108 = .ok (.iaload, 1) := dk_46 (dk_at dksX2_live_4 16 rfl rfl)
theorem dX2_live_109 : decode cX2_live 109 = .ok (.baload, 1) := dk_51 (dk_at dksX2_live_4 17 rfl rfl)
theorem dX2_live_110 : decode cX2_live 110 = .ok (.ifCond .eq 7, 3) := dk_153 0 7 (dk_at dksX2_live_4 18 rfl rfl)
theorem dX2_live_113 : decode cX2_live 113 = .ok (.iconst 1, 1) := dk_4 (dk_at dksX2_live_4 21 rfl rfl)
theorem dX2_live_114 : decode cX2_live 114 = .ok (.goto 4, 3) := dk_167 0 4 (dk_at dksX2_live_5 0 rfl rfl)
theorem dX2_live_117 : decode cX2_live 117 = .ok (.iconst 0, 1) := dk_3 (dk_at dksX2_live_5 3 rfl rfl)
theorem dX2_live_118 : decode cX2_live 118 = .ok (.istore 7, 2) := dk_54 7 (dk_at dksX2_live_5 4 rfl rfl)
theorem dX2_live_120 : decode cX2_live 120 = .ok (.aload_n 0, 1) := dk_42 (dk_at dksX2_live_5 6 rfl rfl)
theorem dX2_live_121 : decode cX2_live 121 = .ok (.getfield 147, 3) := dk_180 0 147 (dk_at dksX2_live_5 7 rfl rfl)
theorem dX2_live_124 : decode cX2_live 124 = .ok (.iload 5, 2) := dk_21 5 (dk_at dksX2_live_5 10 rfl rfl)
theorem dX2_live_126 : decode cX2_live 126 = .ok (.baload, 1) := dk_51 (dk_at dksX2_live_5 12 rfl rfl)
theorem dX2_live_127 : decode cX2_live 127 = .ok (.ifCond .ne 46, 3) := dk_154 0 46 (dk_at dksX2_live_5 13 rfl rfl)
theorem dX2_live_130 : decode cX2_live 130 = .ok (.aload_n 0, 1) := dk_42 (dk_at dksX2_live_5 16 rfl rfl)
theorem dX2_live_131 : decode cX2_live 131 = .ok (.iload_n 1, 1) := dk_27 (dk_at dksX2_live_5 17 rfl rfl)
theorem dX2_live_132 : decode cX2_live 132 = .ok (.iload_n 2, 1) := dk_28 (dk_at dksX2_live_5 18 rfl rfl)
theorem dX2_live_133 : decode cX2_live 133 = .ok (.iload_n 3, 1) := dk_29 (dk_at dksX2_live_5 19 rfl rfl)
theorem dX2_live_134 : decode cX2_live 134 = .ok (.iload 5, 2) := dk_21 5 (dk_at dksX2_live_5 20 rfl rfl)
theorem dX2_live_136 : decode cX2_live 136 = .ok (.invokevirtual 382, 3) := dk_182 1 126 (dk_at dksX2_live_6 0 rfl rfl)
theorem dX2_live_139 : decode cX2_live 139 = .ok (.ifCond .ne 34, 3) := dk_154 0 34 (dk_at dksX2_live_6 3 rfl rfl)
theorem dX2_live_142 : decode cX2_live 142 = .ok (.aload_n 0, 1) := dk_42 (dk_at dksX2_live_6 6 rfl rfl)
theorem dX2_live_143 : decode cX2_live 143 = .ok (.iload_n 1, 1) := dk_27 (dk_at dksX2_live_6 7 rfl rfl)
theorem dX2_live_144 : decode cX2_live 144 = .ok (.iload_n 2, 1) := dk_28 (dk_at dksX2_live_6 8 rfl rfl)
theorem dX2_live_145 : decode cX2_live 145 = .ok (.iload_n 3, 1) := dk_29 (dk_at dksX2_live_6 9 rfl rfl)
theorem dX2_live_146 : decode cX2_live 146 = .ok (.iload 5, 2) := dk_21 5 (dk_at dksX2_live_6 10 rfl rfl)
theorem dX2_live_148 : decode cX2_live 148 = .ok (.invokevirtual 385, 3) := dk_182 1 129 (dk_at dksX2_live_6 12 rfl rfl)
theorem dX2_live_151 : decode cX2_live 151 = .ok (.ifCond .ne 11, 3) := dk_154 0 11 (dk_at dksX2_live_6 15 rfl rfl)
theorem dX2_live_154 : decode cX2_live 154 = .ok (.iload 7, 2) := dk_21 7 (dk_at dksX2_live_6 18 rfl rfl)
theorem dX2_live_156 : decode cX2_live 156 = .ok (.ifCond .ne 6, 3) := dk_154 0 6 (dk_at dksX2_live_6 20 rfl rfl)
theorem dX2_live_159 : decode cX2_live 159 = .ok (.goto 14, 3) := dk_167 0 14 (dk_at dksX2_live_7 0 rfl rfl)
theorem dX2_live_162 : decode cX2_live 162 = .ok (.aload_n 0, 1) := dk_42 (dk_at dksX2_live_7 3 rfl rfl)
theorem dX2_live_163 : decode cX2_live 163 = .ok (.getfield 147, 3) := dk_180 0 147 (dk_at dksX2_live_7 4 rfl rfl)
theorem dX2_live_166 : decode cX2_live 166 = .ok (.iload 5, 2) := dk_21 5 (dk_at dksX2_live_7 7 rfl rfl)
theorem dX2_live_168 : decode cX2_live 168 = .ok (.iconst 1, 1) := dk_4 (dk_at dksX2_live_7 9 rfl rfl)
theorem dX2_live_169 : decode cX2_live 169 = .ok (.bastore, 1) := dk_84 (dk_at dksX2_live_7 10 rfl rfl)
theorem dX2_live_170 : decode cX2_live 170 = .ok (.iconst 1, 1) := dk_4 (dk_at dksX2_live_7 11 rfl rfl)
theorem dX2_live_171 : decode cX2_live 171 = .ok (.istore 4, 2) := dk_54 4 (dk_at dksX2_live_7 12 rfl rfl)
theorem dX2_live_173 : decode cX2_live 173 = .ok (.iinc 5 1, 3) := dk_132 5 1 (dk_at dksX2_live_7 14 rfl rfl)
theorem dX2_live_176 : decode cX2_live 176 = .ok (.goto (-134), 3) := dk_167 255 122 (dk_at dksX2_live_7 17 rfl rfl)
theorem dX2_live_179 : decode cX2_live 179 = .ok (.goto (-148), 3) := dk_167 255 108 (dk_at dksX2_live_7 20 rfl rfl)
theorem dX2_live_182 : decode cX2_live 182 = .ok (.return_, 1) := dk_177 (dk_at dksX2_live_7 23 rfl rfl)
abbrev cX2_life : ByteArray := prog_24_method_67_code
def yX2_life : MethodName := ⟨RX2, "life", "(III)I"⟩
def dkwX2_life_3 : List UInt8 := [21, 4, 172]
abbrev dktX2_life_3 : List UInt8 := dkwX2_life_3 ++ []
def dkwX2_life_2 : List UInt8 := [180, 0, 147, 21, 5, 51, 153, 0, 7, 4, 167, 0, 4, 3, 96, 54, 4, 132, 5, 1, 167, 255, 222]
abbrev dktX2_life_2 : List UInt8 := dkwX2_life_2 ++ dktX2_life_3
def dkwX2_life_1 : List UInt8 := [182, 1, 135, 3, 54, 4, 3, 54, 5, 21, 5, 42, 180, 0, 43, 27, 46, 162, 0, 29, 21, 4, 42]
abbrev dktX2_life_1 : List UInt8 := dkwX2_life_1 ++ dktX2_life_2
def dkwX2_life_0 : List UInt8 := [42, 27, 29, 182, 1, 120, 153, 0, 11, 42, 28, 182, 1, 132, 154, 0, 5, 2, 172, 42, 27, 28, 29]
abbrev dktX2_life_0 : List UInt8 := dkwX2_life_0 ++ dktX2_life_1
theorem dksX2_life_0 : cX2_life.data.toList.drop 0 = dktX2_life_0 := by decide +kernel
theorem dksX2_life_1 : cX2_life.data.toList.drop 23 = dktX2_life_1 := dk_seg dksX2_life_0 23 rfl rfl
theorem dksX2_life_2 : cX2_life.data.toList.drop 46 = dktX2_life_2 := dk_seg dksX2_life_1 23 rfl rfl
theorem dksX2_life_3 : cX2_life.data.toList.drop 69 = dktX2_life_3 := dk_seg dksX2_life_2 23 rfl rfl
theorem dX2_life_0 : decode cX2_life 0 = .ok (.aload_n 0, 1) := dk_42 (dk_at dksX2_life_0 0 rfl rfl)
theorem dX2_life_1 : decode cX2_life 1 = .ok (.iload_n 1, 1) := dk_27 (dk_at dksX2_life_0 1 rfl rfl)
theorem dX2_life_2 : decode cX2_life 2 = .ok (.iload_n 3, 1) := dk_29 (dk_at dksX2_life_0 2 rfl rfl)
theorem dX2_life_3 : decode cX2_life 3 = .ok (.invokevirtual 376, 3) := dk_182 1 120 (dk_at dksX2_life_0 3 rfl rfl)
theorem dX2_life_6 : decode cX2_life 6 = .ok (.ifCond .eq 11, 3) := dk_153 0 11 (dk_at dksX2_life_0 6 rfl rfl)
theorem dX2_life_9 : decode cX2_life 9 = .ok (.aload_n 0, 1) := dk_42 (dk_at dksX2_life_0 9 rfl rfl)
theorem dX2_life_10 : decode cX2_life 10 = .ok (.iload_n 2, 1) := dk_28 (dk_at dksX2_life_0 10 rfl rfl)
theorem dX2_life_11 : decode cX2_life 11 = .ok (.invokevirtual 388, 3) := dk_182 1 132 (dk_at dksX2_life_0 11 rfl rfl)
theorem dX2_life_14 : decode cX2_life 14 = .ok (.ifCond .ne 5, 3) := dk_154 0 5 (dk_at dksX2_life_0 14 rfl rfl)
theorem dX2_life_17 : decode cX2_life 17 = .ok (.iconst (-1), 1) := dk_2 (dk_at dksX2_life_0 17 rfl rfl)
theorem dX2_life_18 : decode cX2_life 18 = .ok (.ireturn, 1) := dk_172 (dk_at dksX2_life_0 18 rfl rfl)
theorem dX2_life_19 : decode cX2_life 19 = .ok (.aload_n 0, 1) := dk_42 (dk_at dksX2_life_0 19 rfl rfl)
theorem dX2_life_20 : decode cX2_life 20 = .ok (.iload_n 1, 1) := dk_27 (dk_at dksX2_life_0 20 rfl rfl)
theorem dX2_life_21 : decode cX2_life 21 = .ok (.iload_n 2, 1) := dk_28 (dk_at dksX2_life_0 21 rfl rfl)
theorem dX2_life_22 : decode cX2_life 22 = .ok (.iload_n 3, 1) := dk_29 (dk_at dksX2_life_0 22 rfl rfl)
theorem dX2_life_23 : decode cX2_life 23 = .ok (.invokevirtual 391, 3) := dk_182 1 135 (dk_at dksX2_life_1 0 rfl rfl)
theorem dX2_life_26 : decode cX2_life 26 = .ok (.iconst 0, 1) := dk_3 (dk_at dksX2_life_1 3 rfl rfl)
theorem dX2_life_27 : decode cX2_life 27 = .ok (.istore 4, 2) := dk_54 4 (dk_at dksX2_life_1 4 rfl rfl)
theorem dX2_life_29 : decode cX2_life 29 = .ok (.iconst 0, 1) := dk_3 (dk_at dksX2_life_1 6 rfl rfl)
theorem dX2_life_30 : decode cX2_life 30 = .ok (.istore 5, 2) := dk_54 5 (dk_at dksX2_life_1 7 rfl rfl)
theorem dX2_life_32 : decode cX2_life 32 = .ok (.iload 5, 2) := dk_21 5 (dk_at dksX2_life_1 9 rfl rfl)
theorem dX2_life_34 : decode cX2_life 34 = .ok (.aload_n 0, 1) := dk_42 (dk_at dksX2_life_1 11 rfl rfl)
theorem dX2_life_35 : decode cX2_life 35 = .ok (.getfield 43, 3) := dk_180 0 43 (dk_at dksX2_life_1 12 rfl rfl)
theorem dX2_life_38 : decode cX2_life 38 = .ok (.iload_n 1, 1) := dk_27 (dk_at dksX2_life_1 15 rfl rfl)
theorem dX2_life_39 : decode cX2_life 39 = .ok (.iaload, 1) := dk_46 (dk_at dksX2_life_1 16 rfl rfl)
theorem dX2_life_40 : decode cX2_life 40 = .ok (.if_icmp .ge 29, 3) := dk_162 0 29 (dk_at dksX2_life_1 17 rfl rfl)
theorem dX2_life_43 : decode cX2_life 43 = .ok (.iload 4, 2) := dk_21 4 (dk_at dksX2_life_1 20 rfl rfl)
theorem dX2_life_45 : decode cX2_life 45 = .ok (.aload_n 0, 1) := dk_42 (dk_at dksX2_life_1 22 rfl rfl)
theorem dX2_life_46 : decode cX2_life 46 = .ok (.getfield 147, 3) := dk_180 0 147 (dk_at dksX2_life_2 0 rfl rfl)
theorem dX2_life_49 : decode cX2_life 49 = .ok (.iload 5, 2) := dk_21 5 (dk_at dksX2_life_2 3 rfl rfl)
theorem dX2_life_51 : decode cX2_life 51 = .ok (.baload, 1) := dk_51 (dk_at dksX2_life_2 5 rfl rfl)
theorem dX2_life_52 : decode cX2_life 52 = .ok (.ifCond .eq 7, 3) := dk_153 0 7 (dk_at dksX2_life_2 6 rfl rfl)
theorem dX2_life_55 : decode cX2_life 55 = .ok (.iconst 1, 1) := dk_4 (dk_at dksX2_life_2 9 rfl rfl)
theorem dX2_life_56 : decode cX2_life 56 = .ok (.goto 4, 3) := dk_167 0 4 (dk_at dksX2_life_2 10 rfl rfl)
theorem dX2_life_59 : decode cX2_life 59 = .ok (.iconst 0, 1) := dk_3 (dk_at dksX2_life_2 13 rfl rfl)
theorem dX2_life_60 : decode cX2_life 60 = .ok (.iadd, 1) := dk_96 (dk_at dksX2_life_2 14 rfl rfl)
theorem dX2_life_61 : decode cX2_life 61 = .ok (.istore 4, 2) := dk_54 4 (dk_at dksX2_life_2 15 rfl rfl)
theorem dX2_life_63 : decode cX2_life 63 = .ok (.iinc 5 1, 3) := dk_132 5 1 (dk_at dksX2_life_2 17 rfl rfl)
theorem dX2_life_66 : decode cX2_life 66 = .ok (.goto (-34), 3) := dk_167 255 222 (dk_at dksX2_life_2 20 rfl rfl)
theorem dX2_life_69 : decode cX2_life 69 = .ok (.iload 4, 2) := dk_21 4 (dk_at dksX2_life_3 0 rfl rfl)
theorem dX2_life_71 : decode cX2_life 71 = .ok (.ireturn, 1) := dk_172 (dk_at dksX2_life_3 2 rfl rfl)
abbrev cX2_places : ByteArray := prog_24_method_68_code
def yX2_places : MethodName := ⟨RX2, "places", "(IIII)I"⟩
def dkwX2_places_4 : List UInt8 := [21, 5, 172]
abbrev dktX2_places_4 : List UInt8 := dkwX2_places_4 ++ []
def dkwX2_places_3 : List UInt8 := [28, 29, 21, 6, 182, 1, 129, 153, 0, 7, 4, 167, 0, 4, 3, 96, 54, 5, 132, 6, 1, 167, 255, 200]
abbrev dktX2_places_3 : List UInt8 := dkwX2_places_3 ++ dktX2_places_4
def dkwX2_places_2 : List UInt8 := [21, 5, 21, 4, 154, 0, 18, 42, 27, 28, 29, 21, 6, 182, 1, 126, 153, 0, 22, 167, 0, 15, 42, 27]
abbrev dktX2_places_2 : List UInt8 := dkwX2_places_2 ++ dktX2_places_3
def dkwX2_places_1 : List UInt8 := [4, 164, 0, 5, 2, 172, 3, 54, 5, 3, 54, 6, 21, 6, 42, 180, 0, 43, 27, 46, 162, 0, 51]
abbrev dktX2_places_1 : List UInt8 := dkwX2_places_1 ++ dktX2_places_2
def dkwX2_places_0 : List UInt8 := [42, 27, 29, 182, 1, 120, 153, 0, 22, 42, 28, 182, 1, 132, 153, 0, 14, 21, 4, 155, 0, 9, 21, 4]
abbrev dktX2_places_0 : List UInt8 := dkwX2_places_0 ++ dktX2_places_1
theorem dksX2_places_0 : cX2_places.data.toList.drop 0 = dktX2_places_0 := by decide +kernel
theorem dksX2_places_1 : cX2_places.data.toList.drop 24 = dktX2_places_1 := dk_seg dksX2_places_0 24 rfl rfl
theorem dksX2_places_2 : cX2_places.data.toList.drop 47 = dktX2_places_2 := dk_seg dksX2_places_1 23 rfl rfl
theorem dksX2_places_3 : cX2_places.data.toList.drop 71 = dktX2_places_3 := dk_seg dksX2_places_2 24 rfl rfl
theorem dksX2_places_4 : cX2_places.data.toList.drop 95 = dktX2_places_4 := dk_seg dksX2_places_3 24 rfl rfl
theorem dX2_places_0 : decode cX2_places 0 = .ok (.aload_n 0, 1) := dk_42 (dk_at dksX2_places_0 0 rfl rfl)
theorem dX2_places_1 : decode cX2_places 1 = .ok (.iload_n 1, 1) := dk_27 (dk_at dksX2_places_0 1 rfl rfl)
theorem dX2_places_2 : decode cX2_places 2 = .ok (.iload_n 3, 1) := dk_29 (dk_at dksX2_places_0 2 rfl rfl)
theorem dX2_places_3 : decode cX2_places 3 = .ok (.invokevirtual 376, 3) := dk_182 1 120 (dk_at dksX2_places_0 3 rfl rfl)
theorem dX2_places_6 : decode cX2_places 6 = .ok (.ifCond .eq 22, 3) := dk_153 0 22 (dk_at dksX2_places_0 6 rfl rfl)
theorem dX2_places_9 : decode cX2_places 9 = .ok (.aload_n 0, 1) := dk_42 (dk_at dksX2_places_0 9 rfl rfl)
theorem dX2_places_10 : decode cX2_places 10 = .ok (.iload_n 2, 1) := dk_28 (dk_at dksX2_places_0 10 rfl rfl)
theorem dX2_places_11 : decode cX2_places 11 = .ok (.invokevirtual 388, 3) := dk_182 1 132 (dk_at dksX2_places_0 11 rfl rfl)
theorem dX2_places_14 : decode cX2_places 14 = .ok (.ifCond .eq 14, 3) := dk_153 0 14 (dk_at dksX2_places_0 14 rfl rfl)
theorem dX2_places_17 : decode cX2_places 17 = .ok (.iload 4, 2) := dk_21 4 (dk_at dksX2_places_0 17 rfl rfl)
theorem dX2_places_19 : decode cX2_places 19 = .ok (.ifCond .lt 9, 3) := dk_155 0 9 (dk_at dksX2_places_0 19 rfl rfl)
theorem dX2_places_22 : decode cX2_places 22 = .ok (.iload 4, 2) := dk_21 4 (dk_at dksX2_places_0 22 rfl rfl)
theorem dX2_places_24 : decode cX2_places 24 = .ok (.iconst 1, 1) := dk_4 (dk_at dksX2_places_1 0 rfl rfl)
theorem dX2_places_25 : decode cX2_places 25 = .ok (.if_icmp .le 5, 3) := dk_164 0 5 (dk_at dksX2_places_1 1 rfl rfl)
theorem dX2_places_28 : decode cX2_places 28 = .ok (.iconst (-1), 1) := dk_2 (dk_at dksX2_places_1 4 rfl rfl)
theorem dX2_places_29 : decode cX2_places 29 = .ok (.ireturn, 1) := dk_172 (dk_at dksX2_places_1 5 rfl rfl)
theorem dX2_places_30 : decode cX2_places 30 = .ok (.iconst 0, 1) := dk_3 (dk_at dksX2_places_1 6 rfl rfl)
theorem dX2_places_31 : decode cX2_places 31 = .ok (.istore 5, 2) := dk_54 5 (dk_at dksX2_places_1 7 rfl rfl)
theorem dX2_places_33 : decode cX2_places 33 = .ok (.iconst 0, 1) := dk_3 (dk_at dksX2_places_1 9 rfl rfl)
theorem dX2_places_34 : decode cX2_places 34 = .ok (.istore 6, 2) := dk_54 6 (dk_at dksX2_places_1 10 rfl rfl)
theorem dX2_places_36 : decode cX2_places 36 = .ok (.iload 6, 2) := dk_21 6 (dk_at dksX2_places_1 12 rfl rfl)
theorem dX2_places_38 : decode cX2_places 38 = .ok (.aload_n 0, 1) := dk_42 (dk_at dksX2_places_1 14 rfl rfl)
theorem dX2_places_39 : decode cX2_places 39 = .ok (.getfield 43, 3) := dk_180 0 43 (dk_at dksX2_places_1 15 rfl rfl)
theorem dX2_places_42 : decode cX2_places 42 = .ok (.iload_n 1, 1) := dk_27 (dk_at dksX2_places_1 18 rfl rfl)
theorem dX2_places_43 : decode cX2_places 43 = .ok (.iaload, 1) := dk_46 (dk_at dksX2_places_1 19 rfl rfl)
theorem dX2_places_44 : decode cX2_places 44 = .ok (.if_icmp .ge 51, 3) := dk_162 0 51 (dk_at dksX2_places_1 20 rfl rfl)
theorem dX2_places_47 : decode cX2_places 47 = .ok (.iload 5, 2) := dk_21 5 (dk_at dksX2_places_2 0 rfl rfl)
theorem dX2_places_49 : decode cX2_places 49 = .ok (.iload 4, 2) := dk_21 4 (dk_at dksX2_places_2 2 rfl rfl)
theorem dX2_places_51 : decode cX2_places 51 = .ok (.ifCond .ne 18, 3) := dk_154 0 18 (dk_at dksX2_places_2 4 rfl rfl)
theorem dX2_places_54 : decode cX2_places 54 = .ok (.aload_n 0, 1) := dk_42 (dk_at dksX2_places_2 7 rfl rfl)
theorem dX2_places_55 : decode cX2_places 55 = .ok (.iload_n 1, 1) := dk_27 (dk_at dksX2_places_2 8 rfl rfl)
theorem dX2_places_56 : decode cX2_places 56 = .ok (.iload_n 2, 1) := dk_28 (dk_at dksX2_places_2 9 rfl rfl)
theorem dX2_places_57 : decode cX2_places 57 = .ok (.iload_n 3, 1) := dk_29 (dk_at dksX2_places_2 10 rfl rfl)
theorem dX2_places_58 : decode cX2_places 58 = .ok (.iload 6, 2) := dk_21 6 (dk_at dksX2_places_2 11 rfl rfl)
theorem dX2_places_60 : decode cX2_places 60 = .ok (.invokevirtual 382, 3) := dk_182 1 126 (dk_at dksX2_places_2 13 rfl rfl)
theorem dX2_places_63 : decode cX2_places 63 = .ok (.ifCond .eq 22, 3) := dk_153 0 22 (dk_at dksX2_places_2 16 rfl rfl)
theorem dX2_places_66 : decode cX2_places 66 = .ok (.goto 15, 3) := dk_167 0 15 (dk_at dksX2_places_2 19 rfl rfl)
theorem dX2_places_69 : decode cX2_places 69 = .ok (.aload_n 0, 1) := dk_42 (dk_at dksX2_places_2 22 rfl rfl)
theorem dX2_places_70 : decode cX2_places 70 = .ok (.iload_n 1, 1) := dk_27 (dk_at dksX2_places_2 23 rfl rfl)
theorem dX2_places_71 : decode cX2_places 71 = .ok (.iload_n 2, 1) := dk_28 (dk_at dksX2_places_3 0 rfl rfl)
theorem dX2_places_72 : decode cX2_places 72 = .ok (.iload_n 3, 1) := dk_29 (dk_at dksX2_places_3 1 rfl rfl)
theorem dX2_places_73 : decode cX2_places 73 = .ok (.iload 6, 2) := dk_21 6 (dk_at dksX2_places_3 2 rfl rfl)
theorem dX2_places_75 : decode cX2_places 75 = .ok (.invokevirtual 385, 3) := dk_182 1 129 (dk_at dksX2_places_3 4 rfl rfl)
theorem dX2_places_78 : decode cX2_places 78 = .ok (.ifCond .eq 7, 3) := dk_153 0 7 (dk_at dksX2_places_3 7 rfl rfl)
theorem dX2_places_81 : decode cX2_places 81 = .ok (.iconst 1, 1) := dk_4 (dk_at dksX2_places_3 10 rfl rfl)
theorem dX2_places_82 : decode cX2_places 82 = .ok (.goto 4, 3) := dk_167 0 4 (dk_at dksX2_places_3 11 rfl rfl)
theorem dX2_places_85 : decode cX2_places 85 = .ok (.iconst 0, 1) := dk_3 (dk_at dksX2_places_3 14 rfl rfl)
theorem dX2_places_86 : decode cX2_places 86 = .ok (.iadd, 1) := dk_96 (dk_at dksX2_places_3 15 rfl rfl)
theorem dX2_places_87 : decode cX2_places 87 = .ok (.istore 5, 2) := dk_54 5 (dk_at dksX2_places_3 16 rfl rfl)
theorem dX2_places_89 : decode cX2_places 89 = .ok (.iinc 6 1, 3) := dk_132 6 1 (dk_at dksX2_places_3 18 rfl rfl)
theorem dX2_places_92 : decode cX2_places 92 = .ok (.goto (-56), 3) := dk_167 255 200 (dk_at dksX2_places_3 21 rfl rfl)
theorem dX2_places_95 : decode cX2_places 95 = .ok (.iload 5, 2) := dk_21 5 (dk_at dksX2_places_4 0 rfl rfl)
theorem dX2_places_97 : decode cX2_places 97 = .ok (.ireturn, 1) := dk_172 (dk_at dksX2_places_4 2 rfl rfl)
abbrev cX2_name : ByteArray := prog_24_method_69_code
def yX2_name : MethodName := ⟨RX2, "name", "(II)I"⟩
def dkwX2_name_1 : List UInt8 := [28, 79, 29, 172]
abbrev dktX2_name_1 : List UInt8 := dkwX2_name_1 ++ []
def dkwX2_name_0 : List UInt8 := [27, 155, 0, 9, 27, 16, 47, 164, 0, 5, 3, 172, 42, 180, 0, 150, 27, 46, 62, 42, 180, 0, 150, 27]
abbrev dktX2_name_0 : List UInt8 := dkwX2_name_0 ++ dktX2_name_1
theorem dksX2_name_0 : cX2_name.data.toList.drop 0 = dktX2_name_0 := by decide +kernel
theorem dksX2_name_1 : cX2_name.data.toList.drop 24 = dktX2_name_1 := dk_seg dksX2_name_0 24 rfl rfl
theorem dX2_name_0 : decode cX2_name 0 = .ok (.iload_n 1, 1) := dk_27 (dk_at dksX2_name_0 0 rfl rfl)
theorem dX2_name_1 : decode cX2_name 1 = .ok (.ifCond .lt 9, 3) := dk_155 0 9 (dk_at dksX2_name_0 1 rfl rfl)
theorem dX2_name_4 : decode cX2_name 4 = .ok (.iload_n 1, 1) := dk_27 (dk_at dksX2_name_0 4 rfl rfl)
theorem dX2_name_5 : decode cX2_name 5 = .ok (.bipush 47, 2) := dk_16 47 (dk_at dksX2_name_0 5 rfl rfl)
theorem dX2_name_7 : decode cX2_name 7 = .ok (.if_icmp .le 5, 3) := dk_164 0 5 (dk_at dksX2_name_0 7 rfl rfl)
theorem dX2_name_10 : decode cX2_name 10 = .ok (.iconst 0, 1) := dk_3 (dk_at dksX2_name_0 10 rfl rfl)
theorem dX2_name_11 : decode cX2_name 11 = .ok (.ireturn, 1) := dk_172 (dk_at dksX2_name_0 11 rfl rfl)
theorem dX2_name_12 : decode cX2_name 12 = .ok (.aload_n 0, 1) := dk_42 (dk_at dksX2_name_0 12 rfl rfl)
theorem dX2_name_13 : decode cX2_name 13 = .ok (.getfield 150, 3) := dk_180 0 150 (dk_at dksX2_name_0 13 rfl rfl)
theorem dX2_name_16 : decode cX2_name 16 = .ok (.iload_n 1, 1) := dk_27 (dk_at dksX2_name_0 16 rfl rfl)
theorem dX2_name_17 : decode cX2_name 17 = .ok (.iaload, 1) := dk_46 (dk_at dksX2_name_0 17 rfl rfl)
theorem dX2_name_18 : decode cX2_name 18 = .ok (.istore_n 3, 1) := dk_62 (dk_at dksX2_name_0 18 rfl rfl)
theorem dX2_name_19 : decode cX2_name 19 = .ok (.aload_n 0, 1) := dk_42 (dk_at dksX2_name_0 19 rfl rfl)
theorem dX2_name_20 : decode cX2_name 20 = .ok (.getfield 150, 3) := dk_180 0 150 (dk_at dksX2_name_0 20 rfl rfl)
theorem dX2_name_23 : decode cX2_name 23 = .ok (.iload_n 1, 1) := dk_27 (dk_at dksX2_name_0 23 rfl rfl)
theorem dX2_name_24 : decode cX2_name 24 = .ok (.iload_n 2, 1) := dk_28 (dk_at dksX2_name_1 0 rfl rfl)
theorem dX2_name_25 : decode cX2_name 25 = .ok (.iastore, 1) := dk_79 (dk_at dksX2_name_1 1 rfl rfl)
theorem dX2_name_26 : decode cX2_name 26 = .ok (.iload_n 3, 1) := dk_29 (dk_at dksX2_name_1 2 rfl rfl)
theorem dX2_name_27 : decode cX2_name 27 = .ok (.ireturn, 1) := dk_172 (dk_at dksX2_name_1 3 rfl rfl)
abbrev cX2_run : ByteArray := prog_24_method_72_code
def yX2_run : MethodName := ⟨RX2, "run", "(II)I"⟩
def dkwX2_run_9 : List UInt8 := [167, 255, 166, 42, 180, 0, 168, 172]
abbrev dktX2_run_9 : List UInt8 := dkwX2_run_9 ++ []
def dkwX2_run_8 : List UInt8 := [181, 0, 168, 42, 42, 180, 0, 61, 17, 0, 240, 27, 104, 29, 96, 46, 181, 0, 177, 21, 4, 62]
abbrev dktX2_run_8 : List UInt8 := dkwX2_run_8 ++ dktX2_run_9
def dkwX2_run_7 : List UInt8 := [29, 17, 0, 240, 27, 104, 29, 96, 182, 1, 142, 54, 4, 42, 180, 0, 183, 153, 0, 24, 42, 4]
abbrev dktX2_run_7 : List UInt8 := dkwX2_run_7 ++ dktX2_run_8
def dkwX2_run_6 : List UInt8 := [159, 0, 21, 42, 180, 0, 171, 17, 3, 232, 160, 0, 11, 42, 5, 181, 0, 168, 167, 255, 216, 42, 27, 28]
abbrev dktX2_run_6 : List UInt8 := dkwX2_run_6 ++ dktX2_run_7
def dkwX2_run_5 : List UInt8 := [62, 42, 180, 0, 168, 2, 160, 0, 88, 42, 180, 0, 58, 17, 0, 240, 27, 104, 29, 96, 46, 16, 7]
abbrev dktX2_run_5 : List UInt8 := dkwX2_run_5 ++ dktX2_run_6
def dkwX2_run_4 : List UInt8 := [181, 0, 174, 42, 2, 181, 0, 177, 42, 3, 181, 0, 180, 42, 3, 181, 0, 183, 42, 2, 181, 0, 168, 3]
abbrev dktX2_run_4 : List UInt8 := dkwX2_run_4 ++ dktX2_run_5
def dkwX2_run_3 : List UInt8 := [162, 0, 16, 42, 180, 0, 162, 29, 3, 79, 132, 3, 1, 167, 255, 240, 42, 3, 181, 0, 171, 42, 3]
abbrev dktX2_run_3 : List UInt8 := dkwX2_run_3 ++ dktX2_run_4
def dkwX2_run_2 : List UInt8 := [16, 16, 162, 0, 16, 42, 180, 0, 156, 29, 3, 79, 132, 3, 1, 167, 255, 240, 3, 62, 29, 16, 32]
abbrev dktX2_run_2 : List UInt8 := dkwX2_run_2 ++ dktX2_run_3
def dkwX2_run_1 : List UInt8 := [162, 0, 21, 42, 180, 0, 153, 29, 42, 180, 0, 150, 29, 46, 79, 132, 3, 1, 167, 255, 235, 3, 62, 29]
abbrev dktX2_run_1 : List UInt8 := dkwX2_run_1 ++ dktX2_run_2
def dkwX2_run_0 : List UInt8 := [42, 27, 182, 1, 117, 153, 0, 11, 42, 28, 182, 1, 132, 154, 0, 5, 2, 172, 3, 62, 29, 16, 48]
abbrev dktX2_run_0 : List UInt8 := dkwX2_run_0 ++ dktX2_run_1
theorem dksX2_run_0 : cX2_run.data.toList.drop 0 = dktX2_run_0 := by decide +kernel
theorem dksX2_run_1 : cX2_run.data.toList.drop 23 = dktX2_run_1 := dk_seg dksX2_run_0 23 rfl rfl
theorem dksX2_run_2 : cX2_run.data.toList.drop 47 = dktX2_run_2 := dk_seg dksX2_run_1 24 rfl rfl
theorem dksX2_run_3 : cX2_run.data.toList.drop 70 = dktX2_run_3 := dk_seg dksX2_run_2 23 rfl rfl
theorem dksX2_run_4 : cX2_run.data.toList.drop 93 = dktX2_run_4 := dk_seg dksX2_run_3 23 rfl rfl
theorem dksX2_run_5 : cX2_run.data.toList.drop 117 = dktX2_run_5 := dk_seg dksX2_run_4 24 rfl rfl
theorem dksX2_run_6 : cX2_run.data.toList.drop 140 = dktX2_run_6 := dk_seg dksX2_run_5 23 rfl rfl
theorem dksX2_run_7 : cX2_run.data.toList.drop 164 = dktX2_run_7 := dk_seg dksX2_run_6 24 rfl rfl
theorem dksX2_run_8 : cX2_run.data.toList.drop 186 = dktX2_run_8 := dk_seg dksX2_run_7 22 rfl rfl
theorem dksX2_run_9 : cX2_run.data.toList.drop 208 = dktX2_run_9 := dk_seg dksX2_run_8 22 rfl rfl
theorem dX2_run_0 : decode cX2_run 0 = .ok (.aload_n 0, 1) := dk_42 (dk_at dksX2_run_0 0 rfl rfl)
theorem dX2_run_1 : decode cX2_run 1 = .ok (.iload_n 1, 1) := dk_27 (dk_at dksX2_run_0 1 rfl rfl)
theorem dX2_run_2 : decode cX2_run 2 = .ok (.invokevirtual 373, 3) := dk_182 1 117 (dk_at dksX2_run_0 2 rfl rfl)
theorem dX2_run_5 : decode cX2_run 5 = .ok (.ifCond .eq 11, 3) := dk_153 0 11 (dk_at dksX2_run_0 5 rfl rfl)
theorem dX2_run_8 : decode cX2_run 8 = .ok (.aload_n 0, 1) := dk_42 (dk_at dksX2_run_0 8 rfl rfl)
theorem dX2_run_9 : decode cX2_run 9 = .ok (.iload_n 2, 1) := dk_28 (dk_at dksX2_run_0 9 rfl rfl)
theorem dX2_run_10 : decode cX2_run 10 = .ok (.invokevirtual 388, 3) := dk_182 1 132 (dk_at dksX2_run_0 10 rfl rfl)
theorem dX2_run_13 : decode cX2_run 13 = .ok (.ifCond .ne 5, 3) := dk_154 0 5 (dk_at dksX2_run_0 13 rfl rfl)
theorem dX2_run_16 : decode cX2_run 16 = .ok (.iconst (-1), 1) := dk_2 (dk_at dksX2_run_0 16 rfl rfl)
theorem dX2_run_17 : decode cX2_run 17 = .ok (.ireturn, 1) := dk_172 (dk_at dksX2_run_0 17 rfl rfl)
theorem dX2_run_18 : decode cX2_run 18 = .ok (.iconst 0, 1) := dk_3 (dk_at dksX2_run_0 18 rfl rfl)
theorem dX2_run_19 : decode cX2_run 19 = .ok (.istore_n 3, 1) := dk_62 (dk_at dksX2_run_0 19 rfl rfl)
theorem dX2_run_20 : decode cX2_run 20 = .ok (.iload_n 3, 1) := dk_29 (dk_at dksX2_run_0 20 rfl rfl)
theorem dX2_run_21 : decode cX2_run 21 = .ok (.bipush 48, 2) := dk_16 48 (dk_at dksX2_run_0 21 rfl rfl)
theorem dX2_run_23 : decode cX2_run 23 = .ok (.if_icmp .ge 21, 3) := dk_162 0 21 (dk_at dksX2_run_1 0 rfl rfl)
theorem dX2_run_26 : decode cX2_run 26 = .ok (.aload_n 0, 1) := dk_42 (dk_at dksX2_run_1 3 rfl rfl)
theorem dX2_run_27 : decode cX2_run 27 = .ok (.getfield 153, 3) := dk_180 0 153 (dk_at dksX2_run_1 4 rfl rfl)
theorem dX2_run_30 : decode cX2_run 30 = .ok (.iload_n 3, 1) := dk_29 (dk_at dksX2_run_1 7 rfl rfl)
theorem dX2_run_31 : decode cX2_run 31 = .ok (.aload_n 0, 1) := dk_42 (dk_at dksX2_run_1 8 rfl rfl)
theorem dX2_run_32 : decode cX2_run 32 = .ok (.getfield 150, 3) := dk_180 0 150 (dk_at dksX2_run_1 9 rfl rfl)
theorem dX2_run_35 : decode cX2_run 35 = .ok (.iload_n 3, 1) := dk_29 (dk_at dksX2_run_1 12 rfl rfl)
theorem dX2_run_36 : decode cX2_run 36 = .ok (.iaload, 1) := dk_46 (dk_at dksX2_run_1 13 rfl rfl)
theorem dX2_run_37 : decode cX2_run 37 = .ok (.iastore, 1) := dk_79 (dk_at dksX2_run_1 14 rfl rfl)
theorem dX2_run_38 : decode cX2_run 38 = .ok (.iinc 3 1, 3) := dk_132 3 1 (dk_at dksX2_run_1 15 rfl rfl)
theorem dX2_run_41 : decode cX2_run 41 = .ok (.goto (-21), 3) := dk_167 255 235 (dk_at dksX2_run_1 18 rfl rfl)
theorem dX2_run_44 : decode cX2_run 44 = .ok (.iconst 0, 1) := dk_3 (dk_at dksX2_run_1 21 rfl rfl)
theorem dX2_run_45 : decode cX2_run 45 = .ok (.istore_n 3, 1) := dk_62 (dk_at dksX2_run_1 22 rfl rfl)
theorem dX2_run_46 : decode cX2_run 46 = .ok (.iload_n 3, 1) := dk_29 (dk_at dksX2_run_1 23 rfl rfl)
theorem dX2_run_47 : decode cX2_run 47 = .ok (.bipush 16, 2) := dk_16 16 (dk_at dksX2_run_2 0 rfl rfl)
theorem dX2_run_49 : decode cX2_run 49 = .ok (.if_icmp .ge 16, 3) := dk_162 0 16 (dk_at dksX2_run_2 2 rfl rfl)
theorem dX2_run_52 : decode cX2_run 52 = .ok (.aload_n 0, 1) := dk_42 (dk_at dksX2_run_2 5 rfl rfl)
theorem dX2_run_53 : decode cX2_run 53 = .ok (.getfield 156, 3) := dk_180 0 156 (dk_at dksX2_run_2 6 rfl rfl)
theorem dX2_run_56 : decode cX2_run 56 = .ok (.iload_n 3, 1) := dk_29 (dk_at dksX2_run_2 9 rfl rfl)
theorem dX2_run_57 : decode cX2_run 57 = .ok (.iconst 0, 1) := dk_3 (dk_at dksX2_run_2 10 rfl rfl)
theorem dX2_run_58 : decode cX2_run 58 = .ok (.iastore, 1) := dk_79 (dk_at dksX2_run_2 11 rfl rfl)
theorem dX2_run_59 : decode cX2_run 59 = .ok (.iinc 3 1, 3) := dk_132 3 1 (dk_at dksX2_run_2 12 rfl rfl)
theorem dX2_run_62 : decode cX2_run 62 = .ok (.goto (-16), 3) := dk_167 255 240 (dk_at dksX2_run_2 15 rfl rfl)
theorem dX2_run_65 : decode cX2_run 65 = .ok (.iconst 0, 1) := dk_3 (dk_at dksX2_run_2 18 rfl rfl)
theorem dX2_run_66 : decode cX2_run 66 = .ok (.istore_n 3, 1) := dk_62 (dk_at dksX2_run_2 19 rfl rfl)
theorem dX2_run_67 : decode cX2_run 67 = .ok (.iload_n 3, 1) := dk_29 (dk_at dksX2_run_2 20 rfl rfl)
theorem dX2_run_68 : decode cX2_run 68 = .ok (.bipush 32, 2) := dk_16 32 (dk_at dksX2_run_2 21 rfl rfl)
theorem dX2_run_70 : decode cX2_run 70 = .ok (.if_icmp .ge 16, 3) := dk_162 0 16 (dk_at dksX2_run_3 0 rfl rfl)
theorem dX2_run_73 : decode cX2_run 73 = .ok (.aload_n 0, 1) := dk_42 (dk_at dksX2_run_3 3 rfl rfl)
theorem dX2_run_74 : decode cX2_run 74 = .ok (.getfield 162, 3) := dk_180 0 162 (dk_at dksX2_run_3 4 rfl rfl)
theorem dX2_run_77 : decode cX2_run 77 = .ok (.iload_n 3, 1) := dk_29 (dk_at dksX2_run_3 7 rfl rfl)
theorem dX2_run_78 : decode cX2_run 78 = .ok (.iconst 0, 1) := dk_3 (dk_at dksX2_run_3 8 rfl rfl)
theorem dX2_run_79 : decode cX2_run 79 = .ok (.iastore, 1) := dk_79 (dk_at dksX2_run_3 9 rfl rfl)
theorem dX2_run_80 : decode cX2_run 80 = .ok (.iinc 3 1, 3) := dk_132 3 1 (dk_at dksX2_run_3 10 rfl rfl)
theorem dX2_run_83 : decode cX2_run 83 = .ok (.goto (-16), 3) := dk_167 255 240 (dk_at dksX2_run_3 13 rfl rfl)
theorem dX2_run_86 : decode cX2_run 86 = .ok (.aload_n 0, 1) := dk_42 (dk_at dksX2_run_3 16 rfl rfl)
theorem dX2_run_87 : decode cX2_run 87 = .ok (.iconst 0, 1) := dk_3 (dk_at dksX2_run_3 17 rfl rfl)
theorem dX2_run_88 : decode cX2_run 88 = .ok (.putfield 171, 3) := dk_181 0 171 (dk_at dksX2_run_3 18 rfl rfl)
theorem dX2_run_91 : decode cX2_run 91 = .ok (.aload_n 0, 1) := dk_42 (dk_at dksX2_run_3 21 rfl rfl)
theorem dX2_run_92 : decode cX2_run 92 = .ok (.iconst 0, 1) := dk_3 (dk_at dksX2_run_3 22 rfl rfl)
theorem dX2_run_93 : decode cX2_run 93 = .ok (.putfield 174, 3) := dk_181 0 174 (dk_at dksX2_run_4 0 rfl rfl)
theorem dX2_run_96 : decode cX2_run 96 = .ok (.aload_n 0, 1) := dk_42 (dk_at dksX2_run_4 3 rfl rfl)
theorem dX2_run_97 : decode cX2_run 97 = .ok (.iconst (-1), 1) := dk_2 (dk_at dksX2_run_4 4 rfl rfl)
theorem dX2_run_98 : decode cX2_run 98 = .ok (.putfield 177, 3) := dk_181 0 177 (dk_at dksX2_run_4 5 rfl rfl)
theorem dX2_run_101 : decode cX2_run 101 = .ok (.aload_n 0, 1) := dk_42 (dk_at dksX2_run_4 8 rfl rfl)
theorem dX2_run_102 : decode cX2_run 102 = .ok (.iconst 0, 1) := dk_3 (dk_at dksX2_run_4 9 rfl rfl)
theorem dX2_run_103 : decode cX2_run 103 = .ok (.putfield 180, 3) := dk_181 0 180 (dk_at dksX2_run_4 10 rfl rfl)
theorem dX2_run_106 : decode cX2_run 106 = .ok (.aload_n 0, 1) := dk_42 (dk_at dksX2_run_4 13 rfl rfl)
theorem dX2_run_107 : decode cX2_run 107 = .ok (.iconst 0, 1) := dk_3 (dk_at dksX2_run_4 14 rfl rfl)
theorem dX2_run_108 : decode cX2_run 108 = .ok (.putfield 183, 3) := dk_181 0 183 (dk_at dksX2_run_4 15 rfl rfl)
theorem dX2_run_111 : decode cX2_run 111 = .ok (.aload_n 0, 1) := dk_42 (dk_at dksX2_run_4 18 rfl rfl)
theorem dX2_run_112 : decode cX2_run 112 = .ok (.iconst (-1), 1) := dk_2 (dk_at dksX2_run_4 19 rfl rfl)
theorem dX2_run_113 : decode cX2_run 113 = .ok (.putfield 168, 3) := dk_181 0 168 (dk_at dksX2_run_4 20 rfl rfl)
theorem dX2_run_116 : decode cX2_run 116 = .ok (.iconst 0, 1) := dk_3 (dk_at dksX2_run_4 23 rfl rfl)
theorem dX2_run_117 : decode cX2_run 117 = .ok (.istore_n 3, 1) := dk_62 (dk_at dksX2_run_5 0 rfl rfl)
theorem dX2_run_118 : decode cX2_run 118 = .ok (.aload_n 0, 1) := dk_42 (dk_at dksX2_run_5 1 rfl rfl)
theorem dX2_run_119 : decode cX2_run 119 = .ok (.getfield 168, 3) := dk_180 0 168 (dk_at dksX2_run_5 2 rfl rfl)
theorem dX2_run_122 : decode cX2_run 122 = .ok (.iconst (-1), 1) := dk_2 (dk_at dksX2_run_5 5 rfl rfl)
theorem dX2_run_123 : decode cX2_run 123 = .ok (.if_icmp .ne 88, 3) := dk_160 0 88 (dk_at dksX2_run_5 6 rfl rfl)
theorem dX2_run_126 : decode cX2_run 126 = .ok (.aload_n 0, 1) := dk_42 (dk_at dksX2_run_5 9 rfl rfl)
theorem dX2_run_127 : decode cX2_run 127 = .ok (.getfield 58, 3) := dk_180 0 58 (dk_at dksX2_run_5 10 rfl rfl)
theorem dX2_run_130 : decode cX2_run 130 = .ok (.sipush 240, 3) := dk_17 0 240 (dk_at dksX2_run_5 13 rfl rfl)
theorem dX2_run_133 : decode cX2_run 133 = .ok (.iload_n 1, 1) := dk_27 (dk_at dksX2_run_5 16 rfl rfl)
theorem dX2_run_134 : decode cX2_run 134 = .ok (.imul, 1) := dk_104 (dk_at dksX2_run_5 17 rfl rfl)
theorem dX2_run_135 : decode cX2_run 135 = .ok (.iload_n 3, 1) := dk_29 (dk_at dksX2_run_5 18 rfl rfl)
theorem dX2_run_136 : decode cX2_run 136 = .ok (.iadd, 1) := dk_96 (dk_at dksX2_run_5 19 rfl rfl)
theorem dX2_run_137 : decode cX2_run 137 = .ok (.iaload, 1) := dk_46 (dk_at dksX2_run_5 20 rfl rfl)
theorem dX2_run_138 : decode cX2_run 138 = .ok (.bipush 7, 2) := dk_16 7 (dk_at dksX2_run_5 21 rfl rfl)
theorem dX2_run_140 : decode cX2_run 140 = .ok (.if_icmp .eq 21, 3) := dk_159 0 21 (dk_at dksX2_run_6 0 rfl rfl)
theorem dX2_run_143 : decode cX2_run 143 = .ok (.aload_n 0, 1) := dk_42 (dk_at dksX2_run_6 3 rfl rfl)
theorem dX2_run_144 : decode cX2_run 144 = .ok (.getfield 171, 3) := dk_180 0 171 (dk_at dksX2_run_6 4 rfl rfl)
theorem dX2_run_147 : decode cX2_run 147 = .ok (.sipush 1000, 3) := dk_17 3 232 (dk_at dksX2_run_6 7 rfl rfl)
theorem dX2_run_150 : decode cX2_run 150 = .ok (.if_icmp .ne 11, 3) := dk_160 0 11 (dk_at dksX2_run_6 10 rfl rfl)
theorem dX2_run_153 : decode cX2_run 153 = .ok (.aload_n 0, 1) := dk_42 (dk_at dksX2_run_6 13 rfl rfl)
theorem dX2_run_154 : decode cX2_run 154 = .ok (.iconst 2, 1) := dk_5 (dk_at dksX2_run_6 14 rfl rfl)
theorem dX2_run_155 : decode cX2_run 155 = .ok (.putfield 168, 3) := dk_181 0 168 (dk_at dksX2_run_6 15 rfl rfl)
theorem dX2_run_158 : decode cX2_run 158 = .ok (.goto (-40), 3) := dk_167 255 216 (dk_at dksX2_run_6 18 rfl rfl)
theorem dX2_run_161 : decode cX2_run 161 = .ok (.aload_n 0, 1) := dk_42 (dk_at dksX2_run_6 21 rfl rfl)
theorem dX2_run_162 : decode cX2_run 162 = .ok (.iload_n 1, 1) := dk_27 (dk_at dksX2_run_6 22 rfl rfl)
theorem dX2_run_163 : decode cX2_run 163 = .ok (.iload_n 2, 1) := dk_28 (dk_at dksX2_run_6 23 rfl rfl)
theorem dX2_run_164 : decode cX2_run 164 = .ok (.iload_n 3, 1) := dk_29 (dk_at dksX2_run_7 0 rfl rfl)
theorem dX2_run_165 : decode cX2_run 165 = .ok (.sipush 240, 3) := dk_17 0 240 (dk_at dksX2_run_7 1 rfl rfl)
theorem dX2_run_168 : decode cX2_run 168 = .ok (.iload_n 1, 1) := dk_27 (dk_at dksX2_run_7 4 rfl rfl)
theorem dX2_run_169 : decode cX2_run 169 = .ok (.imul, 1) := dk_104 (dk_at dksX2_run_7 5 rfl rfl)
theorem dX2_run_170 : decode cX2_run 170 = .ok (.iload_n 3, 1) := dk_29 (dk_at dksX2_run_7 6 rfl rfl)
theorem dX2_run_171 : decode cX2_run 171 = .ok (.iadd, 1) := dk_96 (dk_at dksX2_run_7 7 rfl rfl)
theorem dX2_run_172 : decode cX2_run 172 = .ok (.invokevirtual 398, 3) := dk_182 1 142 (dk_at dksX2_run_7 8 rfl rfl)
theorem dX2_run_175 : decode cX2_run 175 = .ok (.istore 4, 2) := dk_54 4 (dk_at dksX2_run_7 11 rfl rfl)
theorem dX2_run_177 : decode cX2_run 177 = .ok (.aload_n 0, 1) := dk_42 (dk_at dksX2_run_7 13 rfl rfl)
theorem dX2_run_178 : decode cX2_run 178 = .ok (.getfield 183, 3) := dk_180 0 183 (dk_at dksX2_run_7 14 rfl rfl)
theorem dX2_run_181 : decode cX2_run 181 = .ok (.ifCond .eq 24, 3) := dk_153 0 24 (dk_at dksX2_run_7 17 rfl rfl)
theorem dX2_run_184 : decode cX2_run 184 = .ok (.aload_n 0, 1) := dk_42 (dk_at dksX2_run_7 20 rfl rfl)
theorem dX2_run_185 : decode cX2_run 185 = .ok (.iconst 1, 1) := dk_4 (dk_at dksX2_run_7 21 rfl rfl)
theorem dX2_run_186 : decode cX2_run 186 = .ok (.putfield 168, 3) := dk_181 0 168 (dk_at dksX2_run_8 0 rfl rfl)
theorem dX2_run_189 : decode cX2_run 189 = .ok (.aload_n 0, 1) := dk_42 (dk_at dksX2_run_8 3 rfl rfl)
theorem dX2_run_190 : decode cX2_run 190 = .ok (.aload_n 0, 1) := dk_42 (dk_at dksX2_run_8 4 rfl rfl)
theorem dX2_run_191 : decode cX2_run 191 = .ok (.getfield 61, 3) := dk_180 0 61 (dk_at dksX2_run_8 5 rfl rfl)
theorem dX2_run_194 : decode cX2_run 194 = .ok (.sipush 240, 3) := dk_17 0 240 (dk_at dksX2_run_8 8 rfl rfl)
theorem dX2_run_197 : decode cX2_run 197 = .ok (.iload_n 1, 1) := dk_27 (dk_at dksX2_run_8 11 rfl rfl)
theorem dX2_run_198 : decode cX2_run 198 = .ok (.imul, 1) := dk_104 (dk_at dksX2_run_8 12 rfl rfl)
theorem dX2_run_199 : decode cX2_run 199 = .ok (.iload_n 3, 1) := dk_29 (dk_at dksX2_run_8 13 rfl rfl)
theorem dX2_run_200 : decode cX2_run 200 = .ok (.iadd, 1) := dk_96 (dk_at dksX2_run_8 14 rfl rfl)
theorem dX2_run_201 : decode cX2_run 201 = .ok (.iaload, 1) := dk_46 (dk_at dksX2_run_8 15 rfl rfl)
theorem dX2_run_202 : decode cX2_run 202 = .ok (.putfield 177, 3) := dk_181 0 177 (dk_at dksX2_run_8 16 rfl rfl)
theorem dX2_run_205 : decode cX2_run 205 = .ok (.iload 4, 2) := dk_21 4 (dk_at dksX2_run_8 19 rfl rfl)
theorem dX2_run_207 : decode cX2_run 207 = .ok (.istore_n 3, 1) := dk_62 (dk_at dksX2_run_8 21 rfl rfl)
theorem dX2_run_208 : decode cX2_run 208 = .ok (.goto (-90), 3) := dk_167 255 166 (dk_at dksX2_run_9 0 rfl rfl)
theorem dX2_run_211 : decode cX2_run 211 = .ok (.aload_n 0, 1) := dk_42 (dk_at dksX2_run_9 3 rfl rfl)
theorem dX2_run_212 : decode cX2_run 212 = .ok (.getfield 168, 3) := dk_180 0 168 (dk_at dksX2_run_9 4 rfl rfl)
theorem dX2_run_215 : decode cX2_run 215 = .ok (.ireturn, 1) := dk_172 (dk_at dksX2_run_9 7 rfl rfl)
abbrev cX2_step : ByteArray := prog_24_method_73_code
def yX2_step : MethodName := ⟨RX2, "step", "(IIII)I"⟩
def dkwX2_step_19 : List UInt8 := [180, 0, 70, 21, 4, 46, 172]
abbrev dktX2_step_19 : List UInt8 := dkwX2_step_19 ++ []
def dkwX2_step_18 : List UInt8 := [21, 4, 46, 167, 0, 10, 42, 180, 0, 73, 21, 4, 46, 172, 42, 3, 181, 0, 168, 167, 0, 3, 42]
abbrev dktX2_step_18 : List UInt8 := dkwX2_step_18 ++ dktX2_step_19
def dkwX2_step_17 : List UInt8 := [180, 0, 82, 21, 4, 46, 42, 180, 0, 85, 21, 4, 46, 182, 1, 139, 162, 0, 13, 42, 180, 0, 70]
abbrev dktX2_step_17 : List UInt8 := dkwX2_step_17 ++ dktX2_step_18
def dkwX2_step_16 : List UInt8 := [180, 0, 174, 21, 5, 79, 42, 89, 180, 0, 174, 4, 96, 181, 0, 174, 167, 0, 52, 21, 5, 42, 42]
abbrev dktX2_step_16 : List UInt8 := dkwX2_step_16 ++ dktX2_step_17
def dkwX2_step_15 : List UInt8 := [21, 4, 46, 182, 1, 139, 79, 167, 0, 85, 42, 180, 0, 174, 16, 100, 162, 0, 14, 42, 180, 0, 165, 42]
abbrev dktX2_step_15 : List UInt8 := dkwX2_step_15 ++ dktX2_step_16
def dkwX2_step_14 : List UInt8 := [42, 180, 0, 88, 21, 4, 46, 104, 21, 5, 96, 42, 42, 180, 0, 82, 21, 4, 46, 42, 180, 0, 85]
abbrev dktX2_step_14 : List UInt8 := dkwX2_step_14 ++ dktX2_step_15
def dkwX2_step_13 : List UInt8 := [164, 0, 7, 4, 167, 0, 4, 3, 181, 0, 183, 42, 180, 0, 183, 154, 0, 124, 42, 180, 0, 156, 16, 8]
abbrev dktX2_step_13 : List UInt8 := dkwX2_step_13 ++ dktX2_step_14
def dkwX2_step_12 : List UInt8 := [42, 180, 0, 64, 21, 4, 46, 21, 5, 79, 167, 0, 152, 42, 21, 5, 155, 0, 10, 21, 5, 16, 7]
abbrev dktX2_step_12 : List UInt8 := dkwX2_step_12 ++ dktX2_step_13
def dkwX2_step_11 : List UInt8 := [154, 0, 186, 42, 180, 0, 153, 42, 180, 0, 64, 21, 4, 46, 21, 7, 79, 167, 0, 169, 42, 180, 0, 153]
abbrev dktX2_step_11 : List UInt8 := dkwX2_step_11 ++ dktX2_step_12
def dkwX2_step_10 : List UInt8 := [180, 0, 159, 21, 6, 46, 167, 0, 10, 42, 27, 21, 6, 182, 1, 146, 54, 7, 42, 180, 0, 183]
abbrev dktX2_step_10 : List UInt8 := dkwX2_step_10 ++ dktX2_step_11
def dkwX2_step_9 : List UInt8 := [42, 180, 0, 67, 21, 4, 46, 54, 6, 42, 27, 28, 21, 6, 29, 182, 1, 129, 153, 0, 13, 42]
abbrev dktX2_step_9 : List UInt8 := dkwX2_step_9 ++ dktX2_step_10
def dkwX2_step_8 : List UInt8 := [170, 0, 0, 0, 0, 0, 1, 18, 0, 0, 0, 0, 0, 0, 0, 6, 0, 0, 0, 44, 0, 0, 0, 108, 0, 0, 0, 125, 0, 0, 0, 192, 0, 0, 1, 18, 0, 0, 0, 225, 0, 0, 1, 10]
abbrev dktX2_step_8 : List UInt8 := dkwX2_step_8 ++ dktX2_step_9
def dkwX2_step_7 : List UInt8 := [46]
abbrev dktX2_step_7 : List UInt8 := dkwX2_step_7 ++ dktX2_step_8
def dkwX2_step_6 : List UInt8 := [180, 0, 76, 21, 4, 46, 42, 180, 0, 79, 21, 4, 46, 182, 1, 139, 54, 5, 42, 180, 0, 58, 21, 4]
abbrev dktX2_step_6 : List UInt8 := dkwX2_step_6 ++ dktX2_step_7
def dkwX2_step_5 : List UInt8 := [46, 7, 159, 0, 15, 42, 180, 0, 58, 21, 4, 46, 16, 6, 160, 0, 7, 3, 167, 0, 21, 42, 42]
abbrev dktX2_step_5 : List UInt8 := dkwX2_step_5 ++ dktX2_step_6
def dkwX2_step_4 : List UInt8 := [21, 4, 46, 153, 0, 38, 42, 180, 0, 58, 21, 4, 46, 16, 7, 159, 0, 26, 42, 180, 0, 58, 21, 4]
abbrev dktX2_step_4 : List UInt8 := dkwX2_step_4 ++ dktX2_step_5
def dkwX2_step_3 : List UInt8 := [182, 1, 146, 79, 132, 5, 1, 167, 255, 209, 42, 180, 0, 183, 153, 0, 5, 29, 172, 42, 180, 0, 58]
abbrev dktX2_step_3 : List UInt8 := dkwX2_step_3 ++ dktX2_step_4
def dkwX2_step_2 : List UInt8 := [42, 27, 28, 21, 5, 29, 182, 1, 126, 153, 0, 17, 42, 180, 0, 159, 21, 5, 42, 27, 21, 5]
abbrev dktX2_step_2 : List UInt8 := dkwX2_step_2 ++ dktX2_step_3
def dkwX2_step_1 : List UInt8 := [181, 0, 171, 3, 54, 5, 21, 5, 42, 180, 0, 49, 27, 46, 162, 0, 42, 42, 180, 0, 183, 154, 0, 35]
abbrev dktX2_step_1 : List UInt8 := dkwX2_step_1 ++ dktX2_step_2
def dkwX2_step_0 : List UInt8 := [42, 89, 180, 0, 171, 42, 180, 0, 58, 21, 4, 46, 16, 7, 160, 0, 7, 3, 167, 0, 4, 4, 96]
abbrev dktX2_step_0 : List UInt8 := dkwX2_step_0 ++ dktX2_step_1
theorem dksX2_step_0 : cX2_step.data.toList.drop 0 = dktX2_step_0 := by decide +kernel
theorem dksX2_step_1 : cX2_step.data.toList.drop 23 = dktX2_step_1 := dk_seg dksX2_step_0 23 rfl rfl
theorem dksX2_step_2 : cX2_step.data.toList.drop 47 = dktX2_step_2 := dk_seg dksX2_step_1 24 rfl rfl
theorem dksX2_step_3 : cX2_step.data.toList.drop 69 = dktX2_step_3 := dk_seg dksX2_step_2 22 rfl rfl
theorem dksX2_step_4 : cX2_step.data.toList.drop 92 = dktX2_step_4 := dk_seg dksX2_step_3 23 rfl rfl
theorem dksX2_step_5 : cX2_step.data.toList.drop 116 = dktX2_step_5 := dk_seg dksX2_step_4 24 rfl rfl
theorem dksX2_step_6 : cX2_step.data.toList.drop 139 = dktX2_step_6 := dk_seg dksX2_step_5 23 rfl rfl
theorem dksX2_step_7 : cX2_step.data.toList.drop 163 = dktX2_step_7 := dk_seg dksX2_step_6 24 rfl rfl
theorem dksX2_step_8 : cX2_step.data.toList.drop 164 = dktX2_step_8 := dk_seg dksX2_step_7 1 rfl rfl
theorem dksX2_step_9 : cX2_step.data.toList.drop 208 = dktX2_step_9 := dk_seg dksX2_step_8 44 rfl rfl
theorem dksX2_step_10 : cX2_step.data.toList.drop 230 = dktX2_step_10 := dk_seg dksX2_step_9 22 rfl rfl
theorem dksX2_step_11 : cX2_step.data.toList.drop 252 = dktX2_step_11 := dk_seg dksX2_step_10 22 rfl rfl
theorem dksX2_step_12 : cX2_step.data.toList.drop 276 = dktX2_step_12 := dk_seg dksX2_step_11 24 rfl rfl
theorem dksX2_step_13 : cX2_step.data.toList.drop 299 = dktX2_step_13 := dk_seg dksX2_step_12 23 rfl rfl
theorem dksX2_step_14 : cX2_step.data.toList.drop 323 = dktX2_step_14 := dk_seg dksX2_step_13 24 rfl rfl
theorem dksX2_step_15 : cX2_step.data.toList.drop 346 = dktX2_step_15 := dk_seg dksX2_step_14 23 rfl rfl
theorem dksX2_step_16 : cX2_step.data.toList.drop 370 = dktX2_step_16 := dk_seg dksX2_step_15 24 rfl rfl
theorem dksX2_step_17 : cX2_step.data.toList.drop 393 = dktX2_step_17 := dk_seg dksX2_step_16 23 rfl rfl
theorem dksX2_step_18 : cX2_step.data.toList.drop 416 = dktX2_step_18 := dk_seg dksX2_step_17 23 rfl rfl
theorem dksX2_step_19 : cX2_step.data.toList.drop 439 = dktX2_step_19 := dk_seg dksX2_step_18 23 rfl rfl
theorem dX2_step_0 : decode cX2_step 0 = .ok (.aload_n 0, 1) := dk_42 (dk_at dksX2_step_0 0 rfl rfl)
theorem dX2_step_1 : decode cX2_step 1 = .ok (.dup, 1) := dk_89 (dk_at dksX2_step_0 1 rfl rfl)
theorem dX2_step_2 : decode cX2_step 2 = .ok (.getfield 171, 3) := dk_180 0 171 (dk_at dksX2_step_0 2 rfl rfl)
theorem dX2_step_5 : decode cX2_step 5 = .ok (.aload_n 0, 1) := dk_42 (dk_at dksX2_step_0 5 rfl rfl)
theorem dX2_step_6 : decode cX2_step 6 = .ok (.getfield 58, 3) := dk_180 0 58 (dk_at dksX2_step_0 6 rfl rfl)
theorem dX2_step_9 : decode cX2_step 9 = .ok (.iload 4, 2) := dk_21 4 (dk_at dksX2_step_0 9 rfl rfl)
theorem dX2_step_11 : decode cX2_step 11 = .ok (.iaload, 1) := dk_46 (dk_at dksX2_step_0 11 rfl rfl)
theorem dX2_step_12 : decode cX2_step 12 = .ok (.bipush 7, 2) := dk_16 7 (dk_at dksX2_step_0 12 rfl rfl)
theorem dX2_step_14 : decode cX2_step 14 = .ok (.if_icmp .ne 7, 3) := dk_160 0 7 (dk_at dksX2_step_0 14 rfl rfl)
theorem dX2_step_17 : decode cX2_step 17 = .ok (.iconst 0, 1) := dk_3 (dk_at dksX2_step_0 17 rfl rfl)
theorem dX2_step_18 : decode cX2_step 18 = .ok (.goto 4, 3) := dk_167 0 4 (dk_at dksX2_step_0 18 rfl rfl)
theorem dX2_step_21 : decode cX2_step 21 = .ok (.iconst 1, 1) := dk_4 (dk_at dksX2_step_0 21 rfl rfl)
theorem dX2_step_22 : decode cX2_step 22 = .ok (.iadd, 1) := dk_96 (dk_at dksX2_step_0 22 rfl rfl)
theorem dX2_step_23 : decode cX2_step 23 = .ok (.putfield 171, 3) := dk_181 0 171 (dk_at dksX2_step_1 0 rfl rfl)
theorem dX2_step_26 : decode cX2_step 26 = .ok (.iconst 0, 1) := dk_3 (dk_at dksX2_step_1 3 rfl rfl)
theorem dX2_step_27 : decode cX2_step 27 = .ok (.istore 5, 2) := dk_54 5 (dk_at dksX2_step_1 4 rfl rfl)
theorem dX2_step_29 : decode cX2_step 29 = .ok (.iload 5, 2) := dk_21 5 (dk_at dksX2_step_1 6 rfl rfl)
theorem dX2_step_31 : decode cX2_step 31 = .ok (.aload_n 0, 1) := dk_42 (dk_at dksX2_step_1 8 rfl rfl)
theorem dX2_step_32 : decode cX2_step 32 = .ok (.getfield 49, 3) := dk_180 0 49 (dk_at dksX2_step_1 9 rfl rfl)
theorem dX2_step_35 : decode cX2_step 35 = .ok (.iload_n 1, 1) := dk_27 (dk_at dksX2_step_1 12 rfl rfl)
theorem dX2_step_36 : decode cX2_step 36 = .ok (.iaload, 1) := dk_46 (dk_at dksX2_step_1 13 rfl rfl)
theorem dX2_step_37 : decode cX2_step 37 = .ok (.if_icmp .ge 42, 3) := dk_162 0 42 (dk_at dksX2_step_1 14 rfl rfl)
theorem dX2_step_40 : decode cX2_step 40 = .ok (.aload_n 0, 1) := dk_42 (dk_at dksX2_step_1 17 rfl rfl)
theorem dX2_step_41 : decode cX2_step 41 = .ok (.getfield 183, 3) := dk_180 0 183 (dk_at dksX2_step_1 18 rfl rfl)
theorem dX2_step_44 : decode cX2_step 44 = .ok (.ifCond .ne 35, 3) := dk_154 0 35 (dk_at dksX2_step_1 21 rfl rfl)
theorem dX2_step_47 : decode cX2_step 47 = .ok (.aload_n 0, 1) := dk_42 (dk_at dksX2_step_2 0 rfl rfl)
theorem dX2_step_48 : decode cX2_step 48 = .ok (.iload_n 1, 1) := dk_27 (dk_at dksX2_step_2 1 rfl rfl)
theorem dX2_step_49 : decode cX2_step 49 = .ok (.iload_n 2, 1) := dk_28 (dk_at dksX2_step_2 2 rfl rfl)
theorem dX2_step_50 : decode cX2_step 50 = .ok (.iload 5, 2) := dk_21 5 (dk_at dksX2_step_2 3 rfl rfl)
theorem dX2_step_52 : decode cX2_step 52 = .ok (.iload_n 3, 1) := dk_29 (dk_at dksX2_step_2 5 rfl rfl)
theorem dX2_step_53 : decode cX2_step 53 = .ok (.invokevirtual 382, 3) := dk_182 1 126 (dk_at dksX2_step_2 6 rfl rfl)
theorem dX2_step_56 : decode cX2_step 56 = .ok (.ifCond .eq 17, 3) := dk_153 0 17 (dk_at dksX2_step_2 9 rfl rfl)
theorem dX2_step_59 : decode cX2_step 59 = .ok (.aload_n 0, 1) := dk_42 (dk_at dksX2_step_2 12 rfl rfl)
theorem dX2_step_60 : decode cX2_step 60 = .ok (.getfield 159, 3) := dk_180 0 159 (dk_at dksX2_step_2 13 rfl rfl)
theorem dX2_step_63 : decode cX2_step 63 = .ok (.iload 5, 2) := dk_21 5 (dk_at dksX2_step_2 16 rfl rfl)
theorem dX2_step_65 : decode cX2_step 65 = .ok (.aload_n 0, 1) := dk_42 (dk_at dksX2_step_2 18 rfl rfl)
theorem dX2_step_66 : decode cX2_step 66 = .ok (.iload_n 1, 1) := dk_27 (dk_at dksX2_step_2 19 rfl rfl)
theorem dX2_step_67 : decode cX2_step 67 = .ok (.iload 5, 2) := dk_21 5 (dk_at dksX2_step_2 20 rfl rfl)
theorem dX2_step_69 : decode cX2_step 69 = .ok (.invokevirtual 402, 3) := dk_182 1 146 (dk_at dksX2_step_3 0 rfl rfl)
theorem dX2_step_72 : decode cX2_step 72 = .ok (.iastore, 1) := dk_79 (dk_at dksX2_step_3 3 rfl rfl)
theorem dX2_step_73 : decode cX2_step 73 = .ok (.iinc 5 1, 3) := dk_132 5 1 (dk_at dksX2_step_3 4 rfl rfl)
theorem dX2_step_76 : decode cX2_step 76 = .ok (.goto (-47), 3) := dk_167 255 209 (dk_at dksX2_step_3 7 rfl rfl)
theorem dX2_step_79 : decode cX2_step 79 = .ok (.aload_n 0, 1) := dk_42 (dk_at dksX2_step_3 10 rfl rfl)
theorem dX2_step_80 : decode cX2_step 80 = .ok (.getfield 183, 3) := dk_180 0 183 (dk_at dksX2_step_3 11 rfl rfl)
theorem dX2_step_83 : decode cX2_step 83 = .ok (.ifCond .eq 5, 3) := dk_153 0 5 (dk_at dksX2_step_3 14 rfl rfl)
theorem dX2_step_86 : decode cX2_step 86 = .ok (.iload_n 3, 1) := dk_29 (dk_at dksX2_step_3 17 rfl rfl)
theorem dX2_step_87 : decode cX2_step 87 = .ok (.ireturn, 1) := dk_172 (dk_at dksX2_step_3 18 rfl rfl)
theorem dX2_step_88 : decode cX2_step 88 = .ok (.aload_n 0, 1) := dk_42 (dk_at dksX2_step_3 19 rfl rfl)
theorem dX2_step_89 : decode cX2_step 89 = .ok (.getfield 58, 3) := dk_180 0 58 (dk_at dksX2_step_3 20 rfl rfl)
theorem dX2_step_92 : decode cX2_step 92 = .ok (.iload 4, 2) := dk_21 4 (dk_at dksX2_step_4 0 rfl rfl)
theorem dX2_step_94 : decode cX2_step 94 = .ok (.iaload, 1) := dk_46 (dk_at dksX2_step_4 2 rfl rfl)
theorem dX2_step_95 : decode cX2_step 95 = .ok (.ifCond .eq 38, 3) := dk_153 0 38 (dk_at dksX2_step_4 3 rfl rfl)
theorem dX2_step_98 : decode cX2_step 98 = .ok (.aload_n 0, 1) := dk_42 (dk_at dksX2_step_4 6 rfl rfl)
theorem dX2_step_99 : decode cX2_step 99 = .ok (.getfield 58, 3) := dk_180 0 58 (dk_at dksX2_step_4 7 rfl rfl)
theorem dX2_step_102 : decode cX2_step 102 = .ok (.iload 4, 2) := dk_21 4 (dk_at dksX2_step_4 10 rfl rfl)
theorem dX2_step_104 : decode cX2_step 104 = .ok (.iaload, 1) := dk_46 (dk_at dksX2_step_4 12 rfl rfl)
theorem dX2_step_105 : decode cX2_step 105 = .ok (.bipush 7, 2) := dk_16 7 (dk_at dksX2_step_4 13 rfl rfl)
theorem dX2_step_107 : decode cX2_step 107 = .ok (.if_icmp .eq 26, 3) := dk_159 0 26 (dk_at dksX2_step_4 15 rfl rfl)
theorem dX2_step_110 : decode cX2_step 110 = .ok (.aload_n 0, 1) := dk_42 (dk_at dksX2_step_4 18 rfl rfl)
theorem dX2_step_111 : decode cX2_step 111 = .ok (.getfield 58, 3) := dk_180 0 58 (dk_at dksX2_step_4 19 rfl rfl)
theorem dX2_step_114 : decode cX2_step 114 = .ok (.iload 4, 2) := dk_21 4 (dk_at dksX2_step_4 22 rfl rfl)
theorem dX2_step_116 : decode cX2_step 116 = .ok (.iaload, 1) := dk_46 (dk_at dksX2_step_5 0 rfl rfl)
theorem dX2_step_117 : decode cX2_step 117 = .ok (.iconst 4, 1) := dk_7 (dk_at dksX2_step_5 1 rfl rfl)
theorem dX2_step_118 : decode cX2_step 118 = .ok (.if_icmp .eq 15, 3) := dk_159 0 15 (dk_at dksX2_step_5 2 rfl rfl)
theorem dX2_step_121 : decode cX2_step 121 = .ok (.aload_n 0, 1) := dk_42 (dk_at dksX2_step_5 5 rfl rfl)
theorem dX2_step_122 : decode cX2_step 122 = .ok (.getfield 58, 3) := dk_180 0 58 (dk_at dksX2_step_5 6 rfl rfl)
theorem dX2_step_125 : decode cX2_step 125 = .ok (.iload 4, 2) := dk_21 4 (dk_at dksX2_step_5 9 rfl rfl)
theorem dX2_step_127 : decode cX2_step 127 = .ok (.iaload, 1) := dk_46 (dk_at dksX2_step_5 11 rfl rfl)
theorem dX2_step_128 : decode cX2_step 128 = .ok (.bipush 6, 2) := dk_16 6 (dk_at dksX2_step_5 12 rfl rfl)
theorem dX2_step_130 : decode cX2_step 130 = .ok (.if_icmp .ne 7, 3) := dk_160 0 7 (dk_at dksX2_step_5 14 rfl rfl)
theorem dX2_step_133 : decode cX2_step 133 = .ok (.iconst 0, 1) := dk_3 (dk_at dksX2_step_5 17 rfl rfl)
theorem dX2_step_134 : decode cX2_step 134 = .ok (.goto 21, 3) := dk_167 0 21 (dk_at dksX2_step_5 18 rfl rfl)
theorem dX2_step_137 : decode cX2_step 137 = .ok (.aload_n 0, 1) := dk_42 (dk_at dksX2_step_5 21 rfl rfl)
theorem dX2_step_138 : decode cX2_step 138 = .ok (.aload_n 0, 1) := dk_42 (dk_at dksX2_step_5 22 rfl rfl)
theorem dX2_step_139 : decode cX2_step 139 = .ok (.getfield 76, 3) := dk_180 0 76 (dk_at dksX2_step_6 0 rfl rfl)
theorem dX2_step_142 : decode cX2_step 142 = .ok (.iload 4, 2) := dk_21 4 (dk_at dksX2_step_6 3 rfl rfl)
theorem dX2_step_144 : decode cX2_step 144 = .ok (.iaload, 1) := dk_46 (dk_at dksX2_step_6 5 rfl rfl)
theorem dX2_step_145 : decode cX2_step 145 = .ok (.aload_n 0, 1) := dk_42 (dk_at dksX2_step_6 6 rfl rfl)
theorem dX2_step_146 : decode cX2_step 146 = .ok (.getfield 79, 3) := dk_180 0 79 (dk_at dksX2_step_6 7 rfl rfl)
theorem dX2_step_149 : decode cX2_step 149 = .ok (.iload 4, 2) := dk_21 4 (dk_at dksX2_step_6 10 rfl rfl)
theorem dX2_step_151 : decode cX2_step 151 = .ok (.iaload, 1) := dk_46 (dk_at dksX2_step_6 12 rfl rfl)
theorem dX2_step_152 : decode cX2_step 152 = .ok (.invokevirtual 395, 3) := dk_182 1 139 (dk_at dksX2_step_6 13 rfl rfl)
theorem dX2_step_155 : decode cX2_step 155 = .ok (.istore 5, 2) := dk_54 5 (dk_at dksX2_step_6 16 rfl rfl)
theorem dX2_step_157 : decode cX2_step 157 = .ok (.aload_n 0, 1) := dk_42 (dk_at dksX2_step_6 18 rfl rfl)
theorem dX2_step_158 : decode cX2_step 158 = .ok (.getfield 58, 3) := dk_180 0 58 (dk_at dksX2_step_6 19 rfl rfl)
theorem dX2_step_161 : decode cX2_step 161 = .ok (.iload 4, 2) := dk_21 4 (dk_at dksX2_step_6 22 rfl rfl)
theorem dX2_step_163 : decode cX2_step 163 = .ok (.iaload, 1) := dk_46 (dk_at dksX2_step_7 0 rfl rfl)
theorem dX2_step_164 : decode cX2_step 164 = .ok (.tableswitch 274 0 6 #[44, 108, 125, 192, 274, 225, 266], 44) := by decide +kernel
theorem dX2_step_208 : decode cX2_step 208 = .ok (.aload_n 0, 1) := dk_42 (dk_at dksX2_step_9 0 rfl rfl)
theorem dX2_step_209 : decode cX2_step 209 = .ok (.getfield 67, 3) := dk_180 0 67 (dk_at dksX2_step_9 1 rfl rfl)
theorem dX2_step_212 : decode cX2_step 212 = .ok (.iload 4, 2) := dk_21 4 (dk_at dksX2_step_9 4 rfl rfl)
theorem dX2_step_214 : decode cX2_step 214 = .ok (.iaload, 1) := dk_46 (dk_at dksX2_step_9 6 rfl rfl)
theorem dX2_step_215 : decode cX2_step 215 = .ok (.istore 6, 2) := dk_54 6 (dk_at dksX2_step_9 7 rfl rfl)
theorem dX2_step_217 : decode cX2_step 217 = .ok (.aload_n 0, 1) := dk_42 (dk_at dksX2_step_9 9 rfl rfl)
theorem dX2_step_218 : decode cX2_step 218 = .ok (.iload_n 1, 1) := dk_27 (dk_at dksX2_step_9 10 rfl rfl)
theorem dX2_step_219 : decode cX2_step 219 = .ok (.iload_n 2, 1) := dk_28 (dk_at dksX2_step_9 11 rfl rfl)
theorem dX2_step_220 : decode cX2_step 220 = .ok (.iload 6, 2) := dk_21 6 (dk_at dksX2_step_9 12 rfl rfl)
theorem dX2_step_222 : decode cX2_step 222 = .ok (.iload_n 3, 1) := dk_29 (dk_at dksX2_step_9 14 rfl rfl)
theorem dX2_step_223 : decode cX2_step 223 = .ok (.invokevirtual 385, 3) := dk_182 1 129 (dk_at dksX2_step_9 15 rfl rfl)
theorem dX2_step_226 : decode cX2_step 226 = .ok (.ifCond .eq 13, 3) := dk_153 0 13 (dk_at dksX2_step_9 18 rfl rfl)
theorem dX2_step_229 : decode cX2_step 229 = .ok (.aload_n 0, 1) := dk_42 (dk_at dksX2_step_9 21 rfl rfl)
theorem dX2_step_230 : decode cX2_step 230 = .ok (.getfield 159, 3) := dk_180 0 159 (dk_at dksX2_step_10 0 rfl rfl)
theorem dX2_step_233 : decode cX2_step 233 = .ok (.iload 6, 2) := dk_21 6 (dk_at dksX2_step_10 3 rfl rfl)
theorem dX2_step_235 : decode cX2_step 235 = .ok (.iaload, 1) := dk_46 (dk_at dksX2_step_10 5 rfl rfl)
theorem dX2_step_236 : decode cX2_step 236 = .ok (.goto 10, 3) := dk_167 0 10 (dk_at dksX2_step_10 6 rfl rfl)
theorem dX2_step_239 : decode cX2_step 239 = .ok (.aload_n 0, 1) := dk_42 (dk_at dksX2_step_10 9 rfl rfl)
theorem dX2_step_240 : decode cX2_step 240 = .ok (.iload_n 1, 1) := dk_27 (dk_at dksX2_step_10 10 rfl rfl)
theorem dX2_step_241 : decode cX2_step 241 = .ok (.iload 6, 2) := dk_21 6 (dk_at dksX2_step_10 11 rfl rfl)
theorem dX2_step_243 : decode cX2_step 243 = .ok (.invokevirtual 402, 3) := dk_182 1 146 (dk_at dksX2_step_10 13 rfl rfl)
theorem dX2_step_246 : decode cX2_step 246 = .ok (.istore 7, 2) := dk_54 7 (dk_at dksX2_step_10 16 rfl rfl)
theorem dX2_step_248 : decode cX2_step 248 = .ok (.aload_n 0, 1) := dk_42 (dk_at dksX2_step_10 18 rfl rfl)
theorem dX2_step_249 : decode cX2_step 249 = .ok (.getfield 183, 3) := dk_180 0 183 (dk_at dksX2_step_10 19 rfl rfl)
theorem dX2_step_252 : decode cX2_step 252 = .ok (.ifCond .ne 186, 3) := dk_154 0 186 (dk_at dksX2_step_11 0 rfl rfl)
theorem dX2_step_255 : decode cX2_step 255 = .ok (.aload_n 0, 1) := dk_42 (dk_at dksX2_step_11 3 rfl rfl)
theorem dX2_step_256 : decode cX2_step 256 = .ok (.getfield 153, 3) := dk_180 0 153 (dk_at dksX2_step_11 4 rfl rfl)
theorem dX2_step_259 : decode cX2_step 259 = .ok (.aload_n 0, 1) := dk_42 (dk_at dksX2_step_11 7 rfl rfl)
theorem dX2_step_260 : decode cX2_step 260 = .ok (.getfield 64, 3) := dk_180 0 64 (dk_at dksX2_step_11 8 rfl rfl)
theorem dX2_step_263 : decode cX2_step 263 = .ok (.iload 4, 2) := dk_21 4 (dk_at dksX2_step_11 11 rfl rfl)
theorem dX2_step_265 : decode cX2_step 265 = .ok (.iaload, 1) := dk_46 (dk_at dksX2_step_11 13 rfl rfl)
theorem dX2_step_266 : decode cX2_step 266 = .ok (.iload 7, 2) := dk_21 7 (dk_at dksX2_step_11 14 rfl rfl)
theorem dX2_step_268 : decode cX2_step 268 = .ok (.iastore, 1) := dk_79 (dk_at dksX2_step_11 16 rfl rfl)
theorem dX2_step_269 : decode cX2_step 269 = .ok (.goto 169, 3) := dk_167 0 169 (dk_at dksX2_step_11 17 rfl rfl)
theorem dX2_step_272 : decode cX2_step 272 = .ok (.aload_n 0, 1) := dk_42 (dk_at dksX2_step_11 20 rfl rfl)
theorem dX2_step_273 : decode cX2_step 273 = .ok (.getfield 153, 3) := dk_180 0 153 (dk_at dksX2_step_11 21 rfl rfl)
theorem dX2_step_276 : decode cX2_step 276 = .ok (.aload_n 0, 1) := dk_42 (dk_at dksX2_step_12 0 rfl rfl)
theorem dX2_step_277 : decode cX2_step 277 = .ok (.getfield 64, 3) := dk_180 0 64 (dk_at dksX2_step_12 1 rfl rfl)
theorem dX2_step_280 : decode cX2_step 280 = .ok (.iload 4, 2) := dk_21 4 (dk_at dksX2_step_12 4 rfl rfl)
theorem dX2_step_282 : decode cX2_step 282 = .ok (.iaload, 1) := dk_46 (dk_at dksX2_step_12 6 rfl rfl)
theorem dX2_step_283 : decode cX2_step 283 = .ok (.iload 5, 2) := dk_21 5 (dk_at dksX2_step_12 7 rfl rfl)
theorem dX2_step_285 : decode cX2_step 285 = .ok (.iastore, 1) := dk_79 (dk_at dksX2_step_12 9 rfl rfl)
theorem dX2_step_286 : decode cX2_step 286 = .ok (.goto 152, 3) := dk_167 0 152 (dk_at dksX2_step_12 10 rfl rfl)
theorem dX2_step_289 : decode cX2_step 289 = .ok (.aload_n 0, 1) := dk_42 (dk_at dksX2_step_12 13 rfl rfl)
theorem dX2_step_290 : decode cX2_step 290 = .ok (.iload 5, 2) := dk_21 5 (dk_at dksX2_step_12 14 rfl rfl)
theorem dX2_step_292 : decode cX2_step 292 = .ok (.ifCond .lt 10, 3) := dk_155 0 10 (dk_at dksX2_step_12 16 rfl rfl)
theorem dX2_step_295 : decode cX2_step 295 = .ok (.iload 5, 2) := dk_21 5 (dk_at dksX2_step_12 19 rfl rfl)
theorem dX2_step_297 : decode cX2_step 297 = .ok (.bipush 7, 2) := dk_16 7 (dk_at dksX2_step_12 21 rfl rfl)
theorem dX2_step_299 : decode cX2_step 299 = .ok (.if_icmp .le 7, 3) := dk_164 0 7 (dk_at dksX2_step_13 0 rfl rfl)
theorem dX2_step_302 : decode cX2_step 302 = .ok (.iconst 1, 1) := dk_4 (dk_at dksX2_step_13 3 rfl rfl)
theorem dX2_step_303 : decode cX2_step 303 = .ok (.goto 4, 3) := dk_167 0 4 (dk_at dksX2_step_13 4 rfl rfl)
theorem dX2_step_306 : decode cX2_step 306 = .ok (.iconst 0, 1) := dk_3 (dk_at dksX2_step_13 7 rfl rfl)
theorem dX2_step_307 : decode cX2_step 307 = .ok (.putfield 183, 3) := dk_181 0 183 (dk_at dksX2_step_13 8 rfl rfl)
theorem dX2_step_310 : decode cX2_step 310 = .ok (.aload_n 0, 1) := dk_42 (dk_at dksX2_step_13 11 rfl rfl)
theorem dX2_step_311 : decode cX2_step 311 = .ok (.getfield 183, 3) := dk_180 0 183 (dk_at dksX2_step_13 12 rfl rfl)
theorem dX2_step_314 : decode cX2_step 314 = .ok (.ifCond .ne 124, 3) := dk_154 0 124 (dk_at dksX2_step_13 15 rfl rfl)
theorem dX2_step_317 : decode cX2_step 317 = .ok (.aload_n 0, 1) := dk_42 (dk_at dksX2_step_13 18 rfl rfl)
theorem dX2_step_318 : decode cX2_step 318 = .ok (.getfield 156, 3) := dk_180 0 156 (dk_at dksX2_step_13 19 rfl rfl)
theorem dX2_step_321 : decode cX2_step 321 = .ok (.bipush 8, 2) := dk_16 8 (dk_at dksX2_step_13 22 rfl rfl)
theorem dX2_step_323 : decode cX2_step 323 = .ok (.aload_n 0, 1) := dk_42 (dk_at dksX2_step_14 0 rfl rfl)
theorem dX2_step_324 : decode cX2_step 324 = .ok (.getfield 88, 3) := dk_180 0 88 (dk_at dksX2_step_14 1 rfl rfl)
theorem dX2_step_327 : decode cX2_step 327 = .ok (.iload 4, 2) := dk_21 4 (dk_at dksX2_step_14 4 rfl rfl)
theorem dX2_step_329 : decode cX2_step 329 = .ok (.iaload, 1) := dk_46 (dk_at dksX2_step_14 6 rfl rfl)
theorem dX2_step_330 : decode cX2_step 330 = .ok (.imul, 1) := dk_104 (dk_at dksX2_step_14 7 rfl rfl)
theorem dX2_step_331 : decode cX2_step 331 = .ok (.iload 5, 2) := dk_21 5 (dk_at dksX2_step_14 8 rfl rfl)
theorem dX2_step_333 : decode cX2_step 333 = .ok (.iadd, 1) := dk_96 (dk_at dksX2_step_14 10 rfl rfl)
theorem dX2_step_334 : decode cX2_step 334 = .ok (.aload_n 0, 1) := dk_42 (dk_at dksX2_step_14 11 rfl rfl)
theorem dX2_step_335 : decode cX2_step 335 = .ok (.aload_n 0, 1) := dk_42 (dk_at dksX2_step_14 12 rfl rfl)
theorem dX2_step_336 : decode cX2_step 336 = .ok (.getfield 82, 3) := dk_180 0 82 (dk_at dksX2_step_14 13 rfl rfl)
theorem dX2_step_339 : decode cX2_step 339 = .ok (.iload 4, 2) := dk_21 4 (dk_at dksX2_step_14 16 rfl rfl)
theorem dX2_step_341 : decode cX2_step 341 = .ok (.iaload, 1) := dk_46 (dk_at dksX2_step_14 18 rfl rfl)
theorem dX2_step_342 : decode cX2_step 342 = .ok (.aload_n 0, 1) := dk_42 (dk_at dksX2_step_14 19 rfl rfl)
theorem dX2_step_343 : decode cX2_step 343 = .ok (.getfield 85, 3) := dk_180 0 85 (dk_at dksX2_step_14 20 rfl rfl)
theorem dX2_step_346 : decode cX2_step 346 = .ok (.iload 4, 2) := dk_21 4 (dk_at dksX2_step_15 0 rfl rfl)
theorem dX2_step_348 : decode cX2_step 348 = .ok (.iaload, 1) := dk_46 (dk_at dksX2_step_15 2 rfl rfl)
theorem dX2_step_349 : decode cX2_step 349 = .ok (.invokevirtual 395, 3) := dk_182 1 139 (dk_at dksX2_step_15 3 rfl rfl)
theorem dX2_step_352 : decode cX2_step 352 = .ok (.iastore, 1) := dk_79 (dk_at dksX2_step_15 6 rfl rfl)
theorem dX2_step_353 : decode cX2_step 353 = .ok (.goto 85, 3) := dk_167 0 85 (dk_at dksX2_step_15 7 rfl rfl)
theorem dX2_step_356 : decode cX2_step 356 = .ok (.aload_n 0, 1) := dk_42 (dk_at dksX2_step_15 10 rfl rfl)
theorem dX2_step_357 : decode cX2_step 357 = .ok (.getfield 174, 3) := dk_180 0 174 (dk_at dksX2_step_15 11 rfl rfl)
theorem dX2_step_360 : decode cX2_step 360 = .ok (.bipush 100, 2) := dk_16 100 (dk_at dksX2_step_15 14 rfl rfl)
theorem dX2_step_362 : decode cX2_step 362 = .ok (.if_icmp .ge 14, 3) := dk_162 0 14 (dk_at dksX2_step_15 16 rfl rfl)
theorem dX2_step_365 : decode cX2_step 365 = .ok (.aload_n 0, 1) := dk_42 (dk_at dksX2_step_15 19 rfl rfl)
theorem dX2_step_366 : decode cX2_step 366 = .ok (.getfield 165, 3) := dk_180 0 165 (dk_at dksX2_step_15 20 rfl rfl)
theorem dX2_step_369 : decode cX2_step 369 = .ok (.aload_n 0, 1) := dk_42 (dk_at dksX2_step_15 23 rfl rfl)
theorem dX2_step_370 : decode cX2_step 370 = .ok (.getfield 174, 3) := dk_180 0 174 (dk_at dksX2_step_16 0 rfl rfl)
theorem dX2_step_373 : decode cX2_step 373 = .ok (.iload 5, 2) := dk_21 5 (dk_at dksX2_step_16 3 rfl rfl)
theorem dX2_step_375 : decode cX2_step 375 = .ok (.iastore, 1) := dk_79 (dk_at dksX2_step_16 5 rfl rfl)
theorem dX2_step_376 : decode cX2_step 376 = .ok (.aload_n 0, 1) := dk_42 (dk_at dksX2_step_16 6 rfl rfl)
theorem dX2_step_377 : decode cX2_step 377 = .ok (.dup, 1) := dk_89 (dk_at dksX2_step_16 7 rfl rfl)
theorem dX2_step_378 : decode cX2_step 378 = .ok (.getfield 174, 3) := dk_180 0 174 (dk_at dksX2_step_16 8 rfl rfl)
theorem dX2_step_381 : decode cX2_step 381 = .ok (.iconst 1, 1) := dk_4 (dk_at dksX2_step_16 11 rfl rfl)
theorem dX2_step_382 : decode cX2_step 382 = .ok (.iadd, 1) := dk_96 (dk_at dksX2_step_16 12 rfl rfl)
theorem dX2_step_383 : decode cX2_step 383 = .ok (.putfield 174, 3) := dk_181 0 174 (dk_at dksX2_step_16 13 rfl rfl)
theorem dX2_step_386 : decode cX2_step 386 = .ok (.goto 52, 3) := dk_167 0 52 (dk_at dksX2_step_16 16 rfl rfl)
theorem dX2_step_389 : decode cX2_step 389 = .ok (.iload 5, 2) := dk_21 5 (dk_at dksX2_step_16 19 rfl rfl)
theorem dX2_step_391 : decode cX2_step 391 = .ok (.aload_n 0, 1) := dk_42 (dk_at dksX2_step_16 21 rfl rfl)
theorem dX2_step_392 : decode cX2_step 392 = .ok (.aload_n 0, 1) := dk_42 (dk_at dksX2_step_16 22 rfl rfl)
theorem dX2_step_393 : decode cX2_step 393 = .ok (.getfield 82, 3) := dk_180 0 82 (dk_at dksX2_step_17 0 rfl rfl)
theorem dX2_step_396 : decode cX2_step 396 = .ok (.iload 4, 2) := dk_21 4 (dk_at dksX2_step_17 3 rfl rfl)
theorem dX2_step_398 : decode cX2_step 398 = .ok (.iaload, 1) := dk_46 (dk_at dksX2_step_17 5 rfl rfl)
theorem dX2_step_399 : decode cX2_step 399 = .ok (.aload_n 0, 1) := dk_42 (dk_at dksX2_step_17 6 rfl rfl)
theorem dX2_step_400 : decode cX2_step 400 = .ok (.getfield 85, 3) := dk_180 0 85 (dk_at dksX2_step_17 7 rfl rfl)
theorem dX2_step_403 : decode cX2_step 403 = .ok (.iload 4, 2) := dk_21 4 (dk_at dksX2_step_17 10 rfl rfl)
theorem dX2_step_405 : decode cX2_step 405 = .ok (.iaload, 1) := dk_46 (dk_at dksX2_step_17 12 rfl rfl)
theorem dX2_step_406 : decode cX2_step 406 = .ok (.invokevirtual 395, 3) := dk_182 1 139 (dk_at dksX2_step_17 13 rfl rfl)
theorem dX2_step_409 : decode cX2_step 409 = .ok (.if_icmp .ge 13, 3) := dk_162 0 13 (dk_at dksX2_step_17 16 rfl rfl)
theorem dX2_step_412 : decode cX2_step 412 = .ok (.aload_n 0, 1) := dk_42 (dk_at dksX2_step_17 19 rfl rfl)
theorem dX2_step_413 : decode cX2_step 413 = .ok (.getfield 70, 3) := dk_180 0 70 (dk_at dksX2_step_17 20 rfl rfl)
theorem dX2_step_416 : decode cX2_step 416 = .ok (.iload 4, 2) := dk_21 4 (dk_at dksX2_step_18 0 rfl rfl)
theorem dX2_step_418 : decode cX2_step 418 = .ok (.iaload, 1) := dk_46 (dk_at dksX2_step_18 2 rfl rfl)
theorem dX2_step_419 : decode cX2_step 419 = .ok (.goto 10, 3) := dk_167 0 10 (dk_at dksX2_step_18 3 rfl rfl)
theorem dX2_step_422 : decode cX2_step 422 = .ok (.aload_n 0, 1) := dk_42 (dk_at dksX2_step_18 6 rfl rfl)
theorem dX2_step_423 : decode cX2_step 423 = .ok (.getfield 73, 3) := dk_180 0 73 (dk_at dksX2_step_18 7 rfl rfl)
theorem dX2_step_426 : decode cX2_step 426 = .ok (.iload 4, 2) := dk_21 4 (dk_at dksX2_step_18 10 rfl rfl)
theorem dX2_step_428 : decode cX2_step 428 = .ok (.iaload, 1) := dk_46 (dk_at dksX2_step_18 12 rfl rfl)
theorem dX2_step_429 : decode cX2_step 429 = .ok (.ireturn, 1) := dk_172 (dk_at dksX2_step_18 13 rfl rfl)
theorem dX2_step_430 : decode cX2_step 430 = .ok (.aload_n 0, 1) := dk_42 (dk_at dksX2_step_18 14 rfl rfl)
theorem dX2_step_431 : decode cX2_step 431 = .ok (.iconst 0, 1) := dk_3 (dk_at dksX2_step_18 15 rfl rfl)
theorem dX2_step_432 : decode cX2_step 432 = .ok (.putfield 168, 3) := dk_181 0 168 (dk_at dksX2_step_18 16 rfl rfl)
theorem dX2_step_435 : decode cX2_step 435 = .ok (.goto 3, 3) := dk_167 0 3 (dk_at dksX2_step_18 19 rfl rfl)
theorem dX2_step_438 : decode cX2_step 438 = .ok (.aload_n 0, 1) := dk_42 (dk_at dksX2_step_18 22 rfl rfl)
theorem dX2_step_439 : decode cX2_step 439 = .ok (.getfield 70, 3) := dk_180 0 70 (dk_at dksX2_step_19 0 rfl rfl)
theorem dX2_step_442 : decode cX2_step 442 = .ok (.iload 4, 2) := dk_21 4 (dk_at dksX2_step_19 3 rfl rfl)
theorem dX2_step_444 : decode cX2_step 444 = .ok (.iaload, 1) := dk_46 (dk_at dksX2_step_19 5 rfl rfl)
theorem dX2_step_445 : decode cX2_step 445 = .ok (.ireturn, 1) := dk_172 (dk_at dksX2_step_19 6 rfl rfl)
abbrev cX2_work : ByteArray := prog_24_method_71_code
def yX2_work : MethodName := ⟨RX2, "work", "(II)I"⟩
def dkwX2_work_10 : List UInt8 := [172]
abbrev dktX2_work_10 : List UInt8 := dkwX2_work_10 ++ []
def dkwX2_work_9 : List UInt8 := [153, 0, 7, 3, 167, 0, 20, 21, 4, 2, 160, 0, 9, 21, 5, 116, 167, 0, 8, 21, 5, 21, 4, 108]
abbrev dktX2_work_9 : List UInt8 := dkwX2_work_9 ++ dktX2_work_10
def dkwX2_work_8 : List UInt8 := [21, 5, 21, 4, 130, 172, 42, 21, 4, 154, 0, 7, 4, 167, 0, 4, 3, 181, 0, 183, 42, 180, 0, 183]
abbrev dktX2_work_8 : List UInt8 := dkwX2_work_8 ++ dktX2_work_9
def dkwX2_work_7 : List UInt8 := [21, 5, 21, 4, 96, 172, 21, 5, 21, 4, 100, 172, 21, 5, 21, 4, 104, 172, 21, 5, 21, 4, 126, 172]
abbrev dktX2_work_7 : List UInt8 := dkwX2_work_7 ++ dktX2_work_8
def dkwX2_work_6 : List UInt8 := [171, 0, 0, 0, 0, 80, 0, 0, 0, 5, 0, 0, 0, 38, 0, 0, 0, 68, 0, 0, 0, 42, 0, 0, 0, 62, 0, 0, 0, 43, 0, 0, 0, 50, 0, 0, 0, 45, 0, 0, 0, 56, 0, 0, 0, 94, 0, 0, 0, 74]
abbrev dktX2_work_6 : List UInt8 := dkwX2_work_6 ++ dktX2_work_7
def dkwX2_work_5 : List UInt8 := [46, 182, 1, 139, 54, 5, 42, 180, 0, 91, 29, 46]
abbrev dktX2_work_5 : List UInt8 := dkwX2_work_5 ++ dktX2_work_6
def dkwX2_work_4 : List UInt8 := [42, 180, 0, 97, 29, 46, 104, 21, 4, 96, 46, 172, 42, 42, 180, 0, 94, 29, 46, 42, 180, 0, 97, 29]
abbrev dktX2_work_4 : List UInt8 := dkwX2_work_4 ++ dktX2_work_5
def dkwX2_work_3 : List UInt8 := [167, 0, 4, 3, 181, 0, 183, 42, 180, 0, 183, 153, 0, 7, 3, 167, 0, 20, 42, 180, 0, 156, 16, 8]
abbrev dktX2_work_3 : List UInt8 := dkwX2_work_3 ++ dktX2_work_4
def dkwX2_work_2 : List UInt8 := [180, 0, 91, 29, 46, 16, 114, 160, 0, 53, 42, 21, 4, 155, 0, 10, 21, 4, 16, 7, 164, 0, 7, 4]
abbrev dktX2_work_2 : List UInt8 := dkwX2_work_2 ++ dktX2_work_3
def dkwX2_work_1 : List UInt8 := [28, 96, 62, 42, 42, 180, 0, 100, 29, 46, 42, 180, 0, 103, 29, 46, 182, 1, 139, 54, 4, 42]
abbrev dktX2_work_1 : List UInt8 := dkwX2_work_1 ++ dktX2_work_2
def dkwX2_work_0 : List UInt8 := [42, 180, 0, 162, 28, 92, 46, 4, 96, 79, 42, 89, 180, 0, 180, 4, 96, 181, 0, 180, 16, 32, 27, 104]
abbrev dktX2_work_0 : List UInt8 := dkwX2_work_0 ++ dktX2_work_1
theorem dksX2_work_0 : cX2_work.data.toList.drop 0 = dktX2_work_0 := by decide +kernel
theorem dksX2_work_1 : cX2_work.data.toList.drop 24 = dktX2_work_1 := dk_seg dksX2_work_0 24 rfl rfl
theorem dksX2_work_2 : cX2_work.data.toList.drop 46 = dktX2_work_2 := dk_seg dksX2_work_1 22 rfl rfl
theorem dksX2_work_3 : cX2_work.data.toList.drop 70 = dktX2_work_3 := dk_seg dksX2_work_2 24 rfl rfl
theorem dksX2_work_4 : cX2_work.data.toList.drop 94 = dktX2_work_4 := dk_seg dksX2_work_3 24 rfl rfl
theorem dksX2_work_5 : cX2_work.data.toList.drop 118 = dktX2_work_5 := dk_seg dksX2_work_4 24 rfl rfl
theorem dksX2_work_6 : cX2_work.data.toList.drop 130 = dktX2_work_6 := dk_seg dksX2_work_5 12 rfl rfl
theorem dksX2_work_7 : cX2_work.data.toList.drop 180 = dktX2_work_7 := dk_seg dksX2_work_6 50 rfl rfl
theorem dksX2_work_8 : cX2_work.data.toList.drop 204 = dktX2_work_8 := dk_seg dksX2_work_7 24 rfl rfl
theorem dksX2_work_9 : cX2_work.data.toList.drop 228 = dktX2_work_9 := dk_seg dksX2_work_8 24 rfl rfl
theorem dksX2_work_10 : cX2_work.data.toList.drop 252 = dktX2_work_10 := dk_seg dksX2_work_9 24 rfl rfl
theorem dX2_work_0 : decode cX2_work 0 = .ok (.aload_n 0, 1) := dk_42 (dk_at dksX2_work_0 0 rfl rfl)
theorem dX2_work_1 : decode cX2_work 1 = .ok (.getfield 162, 3) := dk_180 0 162 (dk_at dksX2_work_0 1 rfl rfl)
theorem dX2_work_4 : decode cX2_work 4 = .ok (.iload_n 2, 1) := dk_28 (dk_at dksX2_work_0 4 rfl rfl)
theorem dX2_work_5 : decode cX2_work 5 = .ok (.dup2, 1) := dk_92 (dk_at dksX2_work_0 5 rfl rfl)
theorem dX2_work_6 : decode cX2_work 6 = .ok (.iaload, 1) := dk_46 (dk_at dksX2_work_0 6 rfl rfl)
theorem dX2_work_7 : decode cX2_work 7 = .ok (.iconst 1, 1) := dk_4 (dk_at dksX2_work_0 7 rfl rfl)
theorem dX2_work_8 : decode cX2_work 8 = .ok (.iadd, 1) := dk_96 (dk_at dksX2_work_0 8 rfl rfl)
theorem dX2_work_9 : decode cX2_work 9 = .ok (.iastore, 1) := dk_79 (dk_at dksX2_work_0 9 rfl rfl)
theorem dX2_work_10 : decode cX2_work 10 = .ok (.aload_n 0, 1) := dk_42 (dk_at dksX2_work_0 10 rfl rfl)
theorem dX2_work_11 : decode cX2_work 11 = .ok (.dup, 1) := dk_89 (dk_at dksX2_work_0 11 rfl rfl)
theorem dX2_work_12 : decode cX2_work 12 = .ok (.getfield 180, 3) := dk_180 0 180 (dk_at dksX2_work_0 12 rfl rfl)
theorem dX2_work_15 : decode cX2_work 15 = .ok (.iconst 1, 1) := dk_4 (dk_at dksX2_work_0 15 rfl rfl)
theorem dX2_work_16 : decode cX2_work 16 = .ok (.iadd, 1) := dk_96 (dk_at dksX2_work_0 16 rfl rfl)
theorem dX2_work_17 : decode cX2_work 17 = .ok (.putfield 180, 3) := dk_181 0 180 (dk_at dksX2_work_0 17 rfl rfl)
theorem dX2_work_20 : decode cX2_work 20 = .ok (.bipush 32, 2) := dk_16 32 (dk_at dksX2_work_0 20 rfl rfl)
theorem dX2_work_22 : decode cX2_work 22 = .ok (.iload_n 1, 1) := dk_27 (dk_at dksX2_work_0 22 rfl rfl)
theorem dX2_work_23 : decode cX2_work 23 = .ok (.imul, 1) := dk_104 (dk_at dksX2_work_0 23 rfl rfl)
theorem dX2_work_24 : decode cX2_work 24 = .ok (.iload_n 2, 1) := dk_28 (dk_at dksX2_work_1 0 rfl rfl)
theorem dX2_work_25 : decode cX2_work 25 = .ok (.iadd, 1) := dk_96 (dk_at dksX2_work_1 1 rfl rfl)
theorem dX2_work_26 : decode cX2_work 26 = .ok (.istore_n 3, 1) := dk_62 (dk_at dksX2_work_1 2 rfl rfl)
theorem dX2_work_27 : decode cX2_work 27 = .ok (.aload_n 0, 1) := dk_42 (dk_at dksX2_work_1 3 rfl rfl)
theorem dX2_work_28 : decode cX2_work 28 = .ok (.aload_n 0, 1) := dk_42 (dk_at dksX2_work_1 4 rfl rfl)
theorem dX2_work_29 : decode cX2_work 29 = .ok (.getfield 100, 3) := dk_180 0 100 (dk_at dksX2_work_1 5 rfl rfl)
theorem dX2_work_32 : decode cX2_work 32 = .ok (.iload_n 3, 1) := dk_29 (dk_at dksX2_work_1 8 rfl rfl)
theorem dX2_work_33 : decode cX2_work 33 = .ok (.iaload, 1) := dk_46 (dk_at dksX2_work_1 9 rfl rfl)
theorem dX2_work_34 : decode cX2_work 34 = .ok (.aload_n 0, 1) := dk_42 (dk_at dksX2_work_1 10 rfl rfl)
theorem dX2_work_35 : decode cX2_work 35 = .ok (.getfield 103, 3) := dk_180 0 103 (dk_at dksX2_work_1 11 rfl rfl)
theorem dX2_work_38 : decode cX2_work 38 = .ok (.iload_n 3, 1) := dk_29 (dk_at dksX2_work_1 14 rfl rfl)
theorem dX2_work_39 : decode cX2_work 39 = .ok (.iaload, 1) := dk_46 (dk_at dksX2_work_1 15 rfl rfl)
theorem dX2_work_40 : decode cX2_work 40 = .ok (.invokevirtual 395, 3) := dk_182 1 139 (dk_at dksX2_work_1 16 rfl rfl)
theorem dX2_work_43 : decode cX2_work 43 = .ok (.istore 4, 2) := dk_54 4 (dk_at dksX2_work_1 19 rfl rfl)
theorem dX2_work_45 : decode cX2_work 45 = .ok (.aload_n 0, 1) := dk_42 (dk_at dksX2_work_1 21 rfl rfl)
theorem dX2_work_46 : decode cX2_work 46 = .ok (.getfield 91, 3) := dk_180 0 91 (dk_at dksX2_work_2 0 rfl rfl)
theorem dX2_work_49 : decode cX2_work 49 = .ok (.iload_n 3, 1) := dk_29 (dk_at dksX2_work_2 3 rfl rfl)
theorem dX2_work_50 : decode cX2_work 50 = .ok (.iaload, 1) := dk_46 (dk_at dksX2_work_2 4 rfl rfl)
theorem dX2_work_51 : decode cX2_work 51 = .ok (.bipush 114, 2) := dk_16 114 (dk_at dksX2_work_2 5 rfl rfl)
theorem dX2_work_53 : decode cX2_work 53 = .ok (.if_icmp .ne 53, 3) := dk_160 0 53 (dk_at dksX2_work_2 7 rfl rfl)
theorem dX2_work_56 : decode cX2_work 56 = .ok (.aload_n 0, 1) := dk_42 (dk_at dksX2_work_2 10 rfl rfl)
theorem dX2_work_57 : decode cX2_work 57 = .ok (.iload 4, 2) := dk_21 4 (dk_at dksX2_work_2 11 rfl rfl)
theorem dX2_work_59 : decode cX2_work 59 = .ok (.ifCond .lt 10, 3) := dk_155 0 10 (dk_at dksX2_work_2 13 rfl rfl)
theorem dX2_work_62 : decode cX2_work 62 = .ok (.iload 4, 2) := dk_21 4 (dk_at dksX2_work_2 16 rfl rfl)
theorem dX2_work_64 : decode cX2_work 64 = .ok (.bipush 7, 2) := dk_16 7 (dk_at dksX2_work_2 18 rfl rfl)
theorem dX2_work_66 : decode cX2_work 66 = .ok (.if_icmp .le 7, 3) := dk_164 0 7 (dk_at dksX2_work_2 20 rfl rfl)
theorem dX2_work_69 : decode cX2_work 69 = .ok (.iconst 1, 1) := dk_4 (dk_at dksX2_work_2 23 rfl rfl)
theorem dX2_work_70 : decode cX2_work 70 = .ok (.goto 4, 3) := dk_167 0 4 (dk_at dksX2_work_3 0 rfl rfl)
theorem dX2_work_73 : decode cX2_work 73 = .ok (.iconst 0, 1) := dk_3 (dk_at dksX2_work_3 3 rfl rfl)
theorem dX2_work_74 : decode cX2_work 74 = .ok (.putfield 183, 3) := dk_181 0 183 (dk_at dksX2_work_3 4 rfl rfl)
theorem dX2_work_77 : decode cX2_work 77 = .ok (.aload_n 0, 1) := dk_42 (dk_at dksX2_work_3 7 rfl rfl)
theorem dX2_work_78 : decode cX2_work 78 = .ok (.getfield 183, 3) := dk_180 0 183 (dk_at dksX2_work_3 8 rfl rfl)
theorem dX2_work_81 : decode cX2_work 81 = .ok (.ifCond .eq 7, 3) := dk_153 0 7 (dk_at dksX2_work_3 11 rfl rfl)
theorem dX2_work_84 : decode cX2_work 84 = .ok (.iconst 0, 1) := dk_3 (dk_at dksX2_work_3 14 rfl rfl)
theorem dX2_work_85 : decode cX2_work 85 = .ok (.goto 20, 3) := dk_167 0 20 (dk_at dksX2_work_3 15 rfl rfl)
theorem dX2_work_88 : decode cX2_work 88 = .ok (.aload_n 0, 1) := dk_42 (dk_at dksX2_work_3 18 rfl rfl)
theorem dX2_work_89 : decode cX2_work 89 = .ok (.getfield 156, 3) := dk_180 0 156 (dk_at dksX2_work_3 19 rfl rfl)
theorem dX2_work_92 : decode cX2_work 92 = .ok (.bipush 8, 2) := dk_16 8 (dk_at dksX2_work_3 22 rfl rfl)
theorem dX2_work_94 : decode cX2_work 94 = .ok (.aload_n 0, 1) := dk_42 (dk_at dksX2_work_4 0 rfl rfl)
theorem dX2_work_95 : decode cX2_work 95 = .ok (.getfield 97, 3) := dk_180 0 97 (dk_at dksX2_work_4 1 rfl rfl)
theorem dX2_work_98 : decode cX2_work 98 = .ok (.iload_n 3, 1) := dk_29 (dk_at dksX2_work_4 4 rfl rfl)
theorem dX2_work_99 : decode cX2_work 99 = .ok (.iaload, 1) := dk_46 (dk_at dksX2_work_4 5 rfl rfl)
theorem dX2_work_100 : decode cX2_work 100 = .ok (.imul, 1) := dk_104 (dk_at dksX2_work_4 6 rfl rfl)
theorem dX2_work_101 : decode cX2_work 101 = .ok (.iload 4, 2) := dk_21 4 (dk_at dksX2_work_4 7 rfl rfl)
theorem dX2_work_103 : decode cX2_work 103 = .ok (.iadd, 1) := dk_96 (dk_at dksX2_work_4 9 rfl rfl)
theorem dX2_work_104 : decode cX2_work 104 = .ok (.iaload, 1) := dk_46 (dk_at dksX2_work_4 10 rfl rfl)
theorem dX2_work_105 : decode cX2_work 105 = .ok (.ireturn, 1) := dk_172 (dk_at dksX2_work_4 11 rfl rfl)
theorem dX2_work_106 : decode cX2_work 106 = .ok (.aload_n 0, 1) := dk_42 (dk_at dksX2_work_4 12 rfl rfl)
theorem dX2_work_107 : decode cX2_work 107 = .ok (.aload_n 0, 1) := dk_42 (dk_at dksX2_work_4 13 rfl rfl)
theorem dX2_work_108 : decode cX2_work 108 = .ok (.getfield 94, 3) := dk_180 0 94 (dk_at dksX2_work_4 14 rfl rfl)
theorem dX2_work_111 : decode cX2_work 111 = .ok (.iload_n 3, 1) := dk_29 (dk_at dksX2_work_4 17 rfl rfl)
theorem dX2_work_112 : decode cX2_work 112 = .ok (.iaload, 1) := dk_46 (dk_at dksX2_work_4 18 rfl rfl)
theorem dX2_work_113 : decode cX2_work 113 = .ok (.aload_n 0, 1) := dk_42 (dk_at dksX2_work_4 19 rfl rfl)
theorem dX2_work_114 : decode cX2_work 114 = .ok (.getfield 97, 3) := dk_180 0 97 (dk_at dksX2_work_4 20 rfl rfl)
theorem dX2_work_117 : decode cX2_work 117 = .ok (.iload_n 3, 1) := dk_29 (dk_at dksX2_work_4 23 rfl rfl)
theorem dX2_work_118 : decode cX2_work 118 = .ok (.iaload, 1) := dk_46 (dk_at dksX2_work_5 0 rfl rfl)
theorem dX2_work_119 : decode cX2_work 119 = .ok (.invokevirtual 395, 3) := dk_182 1 139 (dk_at dksX2_work_5 1 rfl rfl)
theorem dX2_work_122 : decode cX2_work 122 = .ok (.istore 5, 2) := dk_54 5 (dk_at dksX2_work_5 4 rfl rfl)
theorem dX2_work_124 : decode cX2_work 124 = .ok (.aload_n 0, 1) := dk_42 (dk_at dksX2_work_5 6 rfl rfl)
theorem dX2_work_125 : decode cX2_work 125 = .ok (.getfield 91, 3) := dk_180 0 91 (dk_at dksX2_work_5 7 rfl rfl)
theorem dX2_work_128 : decode cX2_work 128 = .ok (.iload_n 3, 1) := dk_29 (dk_at dksX2_work_5 10 rfl rfl)
theorem dX2_work_129 : decode cX2_work 129 = .ok (.iaload, 1) := dk_46 (dk_at dksX2_work_5 11 rfl rfl)
theorem dX2_work_130 : decode cX2_work 130 = .ok (.lookupswitch 80 #[(38, 68), (42, 62), (43, 50), (45, 56), (94, 74)], 50) := by decide +kernel
theorem dX2_work_180 : decode cX2_work 180 = .ok (.iload 5, 2) := dk_21 5 (dk_at dksX2_work_7 0 rfl rfl)
theorem dX2_work_182 : decode cX2_work 182 = .ok (.iload 4, 2) := dk_21 4 (dk_at dksX2_work_7 2 rfl rfl)
theorem dX2_work_184 : decode cX2_work 184 = .ok (.iadd, 1) := dk_96 (dk_at dksX2_work_7 4 rfl rfl)
theorem dX2_work_185 : decode cX2_work 185 = .ok (.ireturn, 1) := dk_172 (dk_at dksX2_work_7 5 rfl rfl)
theorem dX2_work_186 : decode cX2_work 186 = .ok (.iload 5, 2) := dk_21 5 (dk_at dksX2_work_7 6 rfl rfl)
theorem dX2_work_188 : decode cX2_work 188 = .ok (.iload 4, 2) := dk_21 4 (dk_at dksX2_work_7 8 rfl rfl)
theorem dX2_work_190 : decode cX2_work 190 = .ok (.isub, 1) := dk_100 (dk_at dksX2_work_7 10 rfl rfl)
theorem dX2_work_191 : decode cX2_work 191 = .ok (.ireturn, 1) := dk_172 (dk_at dksX2_work_7 11 rfl rfl)
theorem dX2_work_192 : decode cX2_work 192 = .ok (.iload 5, 2) := dk_21 5 (dk_at dksX2_work_7 12 rfl rfl)
theorem dX2_work_194 : decode cX2_work 194 = .ok (.iload 4, 2) := dk_21 4 (dk_at dksX2_work_7 14 rfl rfl)
theorem dX2_work_196 : decode cX2_work 196 = .ok (.imul, 1) := dk_104 (dk_at dksX2_work_7 16 rfl rfl)
theorem dX2_work_197 : decode cX2_work 197 = .ok (.ireturn, 1) := dk_172 (dk_at dksX2_work_7 17 rfl rfl)
theorem dX2_work_198 : decode cX2_work 198 = .ok (.iload 5, 2) := dk_21 5 (dk_at dksX2_work_7 18 rfl rfl)
theorem dX2_work_200 : decode cX2_work 200 = .ok (.iload 4, 2) := dk_21 4 (dk_at dksX2_work_7 20 rfl rfl)
theorem dX2_work_202 : decode cX2_work 202 = .ok (.iand, 1) := dk_126 (dk_at dksX2_work_7 22 rfl rfl)
theorem dX2_work_203 : decode cX2_work 203 = .ok (.ireturn, 1) := dk_172 (dk_at dksX2_work_7 23 rfl rfl)
theorem dX2_work_204 : decode cX2_work 204 = .ok (.iload 5, 2) := dk_21 5 (dk_at dksX2_work_8 0 rfl rfl)
theorem dX2_work_206 : decode cX2_work 206 = .ok (.iload 4, 2) := dk_21 4 (dk_at dksX2_work_8 2 rfl rfl)
theorem dX2_work_208 : decode cX2_work 208 = .ok (.ixor, 1) := dk_130 (dk_at dksX2_work_8 4 rfl rfl)
theorem dX2_work_209 : decode cX2_work 209 = .ok (.ireturn, 1) := dk_172 (dk_at dksX2_work_8 5 rfl rfl)
theorem dX2_work_210 : decode cX2_work 210 = .ok (.aload_n 0, 1) := dk_42 (dk_at dksX2_work_8 6 rfl rfl)
theorem dX2_work_211 : decode cX2_work 211 = .ok (.iload 4, 2) := dk_21 4 (dk_at dksX2_work_8 7 rfl rfl)
theorem dX2_work_213 : decode cX2_work 213 = .ok (.ifCond .ne 7, 3) := dk_154 0 7 (dk_at dksX2_work_8 9 rfl rfl)
theorem dX2_work_216 : decode cX2_work 216 = .ok (.iconst 1, 1) := dk_4 (dk_at dksX2_work_8 12 rfl rfl)
theorem dX2_work_217 : decode cX2_work 217 = .ok (.goto 4, 3) := dk_167 0 4 (dk_at dksX2_work_8 13 rfl rfl)
theorem dX2_work_220 : decode cX2_work 220 = .ok (.iconst 0, 1) := dk_3 (dk_at dksX2_work_8 16 rfl rfl)
theorem dX2_work_221 : decode cX2_work 221 = .ok (.putfield 183, 3) := dk_181 0 183 (dk_at dksX2_work_8 17 rfl rfl)
theorem dX2_work_224 : decode cX2_work 224 = .ok (.aload_n 0, 1) := dk_42 (dk_at dksX2_work_8 20 rfl rfl)
theorem dX2_work_225 : decode cX2_work 225 = .ok (.getfield 183, 3) := dk_180 0 183 (dk_at dksX2_work_8 21 rfl rfl)
theorem dX2_work_228 : decode cX2_work 228 = .ok (.ifCond .eq 7, 3) := dk_153 0 7 (dk_at dksX2_work_9 0 rfl rfl)
theorem dX2_work_231 : decode cX2_work 231 = .ok (.iconst 0, 1) := dk_3 (dk_at dksX2_work_9 3 rfl rfl)
theorem dX2_work_232 : decode cX2_work 232 = .ok (.goto 20, 3) := dk_167 0 20 (dk_at dksX2_work_9 4 rfl rfl)
theorem dX2_work_235 : decode cX2_work 235 = .ok (.iload 4, 2) := dk_21 4 (dk_at dksX2_work_9 7 rfl rfl)
theorem dX2_work_237 : decode cX2_work 237 = .ok (.iconst (-1), 1) := dk_2 (dk_at dksX2_work_9 9 rfl rfl)
theorem dX2_work_238 : decode cX2_work 238 = .ok (.if_icmp .ne 9, 3) := dk_160 0 9 (dk_at dksX2_work_9 10 rfl rfl)
theorem dX2_work_241 : decode cX2_work 241 = .ok (.iload 5, 2) := dk_21 5 (dk_at dksX2_work_9 13 rfl rfl)
theorem dX2_work_243 : decode cX2_work 243 = .ok (.ineg, 1) := dk_116 (dk_at dksX2_work_9 15 rfl rfl)
theorem dX2_work_244 : decode cX2_work 244 = .ok (.goto 8, 3) := dk_167 0 8 (dk_at dksX2_work_9 16 rfl rfl)
theorem dX2_work_247 : decode cX2_work 247 = .ok (.iload 5, 2) := dk_21 5 (dk_at dksX2_work_9 19 rfl rfl)
theorem dX2_work_249 : decode cX2_work 249 = .ok (.iload 4, 2) := dk_21 4 (dk_at dksX2_work_9 21 rfl rfl)
theorem dX2_work_251 : decode cX2_work 251 = .ok (.idiv, 1) := dk_108 (dk_at dksX2_work_9 23 rfl rfl)
theorem dX2_work_252 : decode cX2_work 252 = .ok (.ireturn, 1) := dk_172 (dk_at dksX2_work_10 0 rfl rfl)
abbrev cX2_of : ByteArray := prog_24_method_70_code
def yX2_of : MethodName := ⟨RX2, "of", "(II)I"⟩
def dkwX2_of_0 : List UInt8 := [27, 156, 0, 7, 28, 167, 0, 9, 42, 180, 0, 153, 27, 46, 172]
abbrev dktX2_of_0 : List UInt8 := dkwX2_of_0 ++ []
theorem dksX2_of_0 : cX2_of.data.toList.drop 0 = dktX2_of_0 := by decide +kernel
theorem dX2_of_0 : decode cX2_of 0 = .ok (.iload_n 1, 1) := dk_27 (dk_at dksX2_of_0 0 rfl rfl)
theorem dX2_of_1 : decode cX2_of 1 = .ok (.ifCond .ge 7, 3) := dk_156 0 7 (dk_at dksX2_of_0 1 rfl rfl)
theorem dX2_of_4 : decode cX2_of 4 = .ok (.iload_n 2, 1) := dk_28 (dk_at dksX2_of_0 4 rfl rfl)
theorem dX2_of_5 : decode cX2_of 5 = .ok (.goto 9, 3) := dk_167 0 9 (dk_at dksX2_of_0 5 rfl rfl)
theorem dX2_of_8 : decode cX2_of 8 = .ok (.aload_n 0, 1) := dk_42 (dk_at dksX2_of_0 8 rfl rfl)
theorem dX2_of_9 : decode cX2_of 9 = .ok (.getfield 153, 3) := dk_180 0 153 (dk_at dksX2_of_0 9 rfl rfl)
theorem dX2_of_12 : decode cX2_of 12 = .ok (.iload_n 1, 1) := dk_27 (dk_at dksX2_of_0 12 rfl rfl)
theorem dX2_of_13 : decode cX2_of 13 = .ok (.iaload, 1) := dk_46 (dk_at dksX2_of_0 13 rfl rfl)
theorem dX2_of_14 : decode cX2_of 14 = .ok (.ireturn, 1) := dk_172 (dk_at dksX2_of_0 14 rfl rfl)
abbrev cX2_ran : ByteArray := prog_24_method_74_code
def yX2_ran : MethodName := ⟨RX2, "ran", "(I)I"⟩
def dkwX2_ran_3 : List UInt8 := [172, 2, 172]
abbrev dktX2_ran_3 : List UInt8 := dkwX2_ran_3 ++ []
def dkwX2_ran_2 : List UInt8 := [42, 180, 0, 168, 172, 42, 180, 0, 171, 172, 42, 180, 0, 174, 172, 42, 180, 0, 177, 172, 42, 180, 0, 180]
abbrev dktX2_ran_2 : List UInt8 := dkwX2_ran_2 ++ dktX2_ran_3
def dkwX2_ran_1 : List UInt8 := [170, 0, 0, 0, 0, 0, 60, 0, 0, 0, 0, 0, 0, 0, 4, 0, 0, 0, 35, 0, 0, 0, 40, 0, 0, 0, 45, 0, 0, 0, 50, 0, 0, 0, 55]
abbrev dktX2_ran_1 : List UInt8 := dkwX2_ran_1 ++ dktX2_ran_2
def dkwX2_ran_0 : List UInt8 := [27]
abbrev dktX2_ran_0 : List UInt8 := dkwX2_ran_0 ++ dktX2_ran_1
theorem dksX2_ran_0 : cX2_ran.data.toList.drop 0 = dktX2_ran_0 := by decide +kernel
theorem dksX2_ran_1 : cX2_ran.data.toList.drop 1 = dktX2_ran_1 := dk_seg dksX2_ran_0 1 rfl rfl
theorem dksX2_ran_2 : cX2_ran.data.toList.drop 36 = dktX2_ran_2 := dk_seg dksX2_ran_1 35 rfl rfl
theorem dksX2_ran_3 : cX2_ran.data.toList.drop 60 = dktX2_ran_3 := dk_seg dksX2_ran_2 24 rfl rfl
theorem dX2_ran_0 : decode cX2_ran 0 = .ok (.iload_n 1, 1) := dk_27 (dk_at dksX2_ran_0 0 rfl rfl)
theorem dX2_ran_1 : decode cX2_ran 1 = .ok (.tableswitch 60 0 4 #[35, 40, 45, 50, 55], 35) := by decide +kernel
theorem dX2_ran_36 : decode cX2_ran 36 = .ok (.aload_n 0, 1) := dk_42 (dk_at dksX2_ran_2 0 rfl rfl)
theorem dX2_ran_37 : decode cX2_ran 37 = .ok (.getfield 168, 3) := dk_180 0 168 (dk_at dksX2_ran_2 1 rfl rfl)
theorem dX2_ran_40 : decode cX2_ran 40 = .ok (.ireturn, 1) := dk_172 (dk_at dksX2_ran_2 4 rfl rfl)
theorem dX2_ran_41 : decode cX2_ran 41 = .ok (.aload_n 0, 1) := dk_42 (dk_at dksX2_ran_2 5 rfl rfl)
theorem dX2_ran_42 : decode cX2_ran 42 = .ok (.getfield 171, 3) := dk_180 0 171 (dk_at dksX2_ran_2 6 rfl rfl)
theorem dX2_ran_45 : decode cX2_ran 45 = .ok (.ireturn, 1) := dk_172 (dk_at dksX2_ran_2 9 rfl rfl)
theorem dX2_ran_46 : decode cX2_ran 46 = .ok (.aload_n 0, 1) := dk_42 (dk_at dksX2_ran_2 10 rfl rfl)
theorem dX2_ran_47 : decode cX2_ran 47 = .ok (.getfield 174, 3) := dk_180 0 174 (dk_at dksX2_ran_2 11 rfl rfl)
theorem dX2_ran_50 : decode cX2_ran 50 = .ok (.ireturn, 1) := dk_172 (dk_at dksX2_ran_2 14 rfl rfl)
theorem dX2_ran_51 : decode cX2_ran 51 = .ok (.aload_n 0, 1) := dk_42 (dk_at dksX2_ran_2 15 rfl rfl)
theorem dX2_ran_52 : decode cX2_ran 52 = .ok (.getfield 177, 3) := dk_180 0 177 (dk_at dksX2_ran_2 16 rfl rfl)
theorem dX2_ran_55 : decode cX2_ran 55 = .ok (.ireturn, 1) := dk_172 (dk_at dksX2_ran_2 19 rfl rfl)
theorem dX2_ran_56 : decode cX2_ran 56 = .ok (.aload_n 0, 1) := dk_42 (dk_at dksX2_ran_2 20 rfl rfl)
theorem dX2_ran_57 : decode cX2_ran 57 = .ok (.getfield 180, 3) := dk_180 0 180 (dk_at dksX2_ran_2 21 rfl rfl)
theorem dX2_ran_60 : decode cX2_ran 60 = .ok (.ireturn, 1) := dk_172 (dk_at dksX2_ran_3 0 rfl rfl)
theorem dX2_ran_61 : decode cX2_ran 61 = .ok (.iconst (-1), 1) := dk_2 (dk_at dksX2_ran_3 1 rfl rfl)
theorem dX2_ran_62 : decode cX2_ran 62 = .ok (.ireturn, 1) := dk_172 (dk_at dksX2_ran_3 2 rfl rfl)
abbrev cX2_told : ByteArray := prog_24_method_75_code
def yX2_told : MethodName := ⟨RX2, "told", "(I)I"⟩
def dkwX2_told_1 : List UInt8 := [180, 0, 165, 27, 46, 172]
abbrev dktX2_told_1 : List UInt8 := dkwX2_told_1 ++ []
def dkwX2_told_0 : List UInt8 := [27, 155, 0, 17, 27, 42, 180, 0, 174, 162, 0, 9, 27, 16, 100, 161, 0, 7, 3, 167, 0, 9, 42]
abbrev dktX2_told_0 : List UInt8 := dkwX2_told_0 ++ dktX2_told_1
theorem dksX2_told_0 : cX2_told.data.toList.drop 0 = dktX2_told_0 := by decide +kernel
theorem dksX2_told_1 : cX2_told.data.toList.drop 23 = dktX2_told_1 := dk_seg dksX2_told_0 23 rfl rfl
theorem dX2_told_0 : decode cX2_told 0 = .ok (.iload_n 1, 1) := dk_27 (dk_at dksX2_told_0 0 rfl rfl)
theorem dX2_told_1 : decode cX2_told 1 = .ok (.ifCond .lt 17, 3) := dk_155 0 17 (dk_at dksX2_told_0 1 rfl rfl)
theorem dX2_told_4 : decode cX2_told 4 = .ok (.iload_n 1, 1) := dk_27 (dk_at dksX2_told_0 4 rfl rfl)
theorem dX2_told_5 : decode cX2_told 5 = .ok (.aload_n 0, 1) := dk_42 (dk_at dksX2_told_0 5 rfl rfl)
theorem dX2_told_6 : decode cX2_told 6 = .ok (.getfield 174, 3) := dk_180 0 174 (dk_at dksX2_told_0 6 rfl rfl)
theorem dX2_told_9 : decode cX2_told 9 = .ok (.if_icmp .ge 9, 3) := dk_162 0 9 (dk_at dksX2_told_0 9 rfl rfl)
theorem dX2_told_12 : decode cX2_told 12 = .ok (.iload_n 1, 1) := dk_27 (dk_at dksX2_told_0 12 rfl rfl)
theorem dX2_told_13 : decode cX2_told 13 = .ok (.bipush 100, 2) := dk_16 100 (dk_at dksX2_told_0 13 rfl rfl)
theorem dX2_told_15 : decode cX2_told 15 = .ok (.if_icmp .lt 7, 3) := dk_161 0 7 (dk_at dksX2_told_0 15 rfl rfl)
theorem dX2_told_18 : decode cX2_told 18 = .ok (.iconst 0, 1) := dk_3 (dk_at dksX2_told_0 18 rfl rfl)
theorem dX2_told_19 : decode cX2_told 19 = .ok (.goto 9, 3) := dk_167 0 9 (dk_at dksX2_told_0 19 rfl rfl)
theorem dX2_told_22 : decode cX2_told 22 = .ok (.aload_n 0, 1) := dk_42 (dk_at dksX2_told_0 22 rfl rfl)
theorem dX2_told_23 : decode cX2_told 23 = .ok (.getfield 165, 3) := dk_180 0 165 (dk_at dksX2_told_1 0 rfl rfl)
theorem dX2_told_26 : decode cX2_told 26 = .ok (.iload_n 1, 1) := dk_27 (dk_at dksX2_told_1 3 rfl rfl)
theorem dX2_told_27 : decode cX2_told 27 = .ok (.iaload, 1) := dk_46 (dk_at dksX2_told_1 4 rfl rfl)
theorem dX2_told_28 : decode cX2_told 28 = .ok (.ireturn, 1) := dk_172 (dk_at dksX2_told_1 5 rfl rfl)
abbrev cX2_value : ByteArray := prog_24_method_76_code
def yX2_value : MethodName := ⟨RX2, "value", "(I)I"⟩
def dkwX2_value_0 : List UInt8 := [27, 155, 0, 9, 27, 16, 47, 164, 0, 7, 3, 167, 0, 9, 42, 180, 0, 153, 27, 46, 172]
abbrev dktX2_value_0 : List UInt8 := dkwX2_value_0 ++ []
theorem dksX2_value_0 : cX2_value.data.toList.drop 0 = dktX2_value_0 := by decide +kernel
theorem dX2_value_0 : decode cX2_value 0 = .ok (.iload_n 1, 1) := dk_27 (dk_at dksX2_value_0 0 rfl rfl)
theorem dX2_value_1 : decode cX2_value 1 = .ok (.ifCond .lt 9, 3) := dk_155 0 9 (dk_at dksX2_value_0 1 rfl rfl)
theorem dX2_value_4 : decode cX2_value 4 = .ok (.iload_n 1, 1) := dk_27 (dk_at dksX2_value_0 4 rfl rfl)
theorem dX2_value_5 : decode cX2_value 5 = .ok (.bipush 47, 2) := dk_16 47 (dk_at dksX2_value_0 5 rfl rfl)
theorem dX2_value_7 : decode cX2_value 7 = .ok (.if_icmp .le 7, 3) := dk_164 0 7 (dk_at dksX2_value_0 7 rfl rfl)
theorem dX2_value_10 : decode cX2_value 10 = .ok (.iconst 0, 1) := dk_3 (dk_at dksX2_value_0 10 rfl rfl)
theorem dX2_value_11 : decode cX2_value 11 = .ok (.goto 9, 3) := dk_167 0 9 (dk_at dksX2_value_0 11 rfl rfl)
theorem dX2_value_14 : decode cX2_value 14 = .ok (.aload_n 0, 1) := dk_42 (dk_at dksX2_value_0 14 rfl rfl)
theorem dX2_value_15 : decode cX2_value 15 = .ok (.getfield 153, 3) := dk_180 0 153 (dk_at dksX2_value_0 15 rfl rfl)
theorem dX2_value_18 : decode cX2_value 18 = .ok (.iload_n 1, 1) := dk_27 (dk_at dksX2_value_0 18 rfl rfl)
theorem dX2_value_19 : decode cX2_value 19 = .ok (.iaload, 1) := dk_46 (dk_at dksX2_value_0 19 rfl rfl)
theorem dX2_value_20 : decode cX2_value 20 = .ok (.ireturn, 1) := dk_172 (dk_at dksX2_value_0 20 rfl rfl)
abbrev cX2_row : ByteArray := prog_24_method_77_code
def yX2_row : MethodName := ⟨RX2, "row", "(II)I"⟩
def dkwX2_row_1 : List UInt8 := [180, 0, 156, 16, 8, 27, 104, 28, 96, 46, 172]
abbrev dktX2_row_1 : List UInt8 := dkwX2_row_1 ++ []
def dkwX2_row_0 : List UInt8 := [27, 155, 0, 18, 27, 4, 163, 0, 13, 28, 155, 0, 9, 28, 16, 7, 164, 0, 7, 3, 167, 0, 14, 42]
abbrev dktX2_row_0 : List UInt8 := dkwX2_row_0 ++ dktX2_row_1
theorem dksX2_row_0 : cX2_row.data.toList.drop 0 = dktX2_row_0 := by decide +kernel
theorem dksX2_row_1 : cX2_row.data.toList.drop 24 = dktX2_row_1 := dk_seg dksX2_row_0 24 rfl rfl
theorem dX2_row_0 : decode cX2_row 0 = .ok (.iload_n 1, 1) := dk_27 (dk_at dksX2_row_0 0 rfl rfl)
theorem dX2_row_1 : decode cX2_row 1 = .ok (.ifCond .lt 18, 3) := dk_155 0 18 (dk_at dksX2_row_0 1 rfl rfl)
theorem dX2_row_4 : decode cX2_row 4 = .ok (.iload_n 1, 1) := dk_27 (dk_at dksX2_row_0 4 rfl rfl)
theorem dX2_row_5 : decode cX2_row 5 = .ok (.iconst 1, 1) := dk_4 (dk_at dksX2_row_0 5 rfl rfl)
theorem dX2_row_6 : decode cX2_row 6 = .ok (.if_icmp .gt 13, 3) := dk_163 0 13 (dk_at dksX2_row_0 6 rfl rfl)
theorem dX2_row_9 : decode cX2_row 9 = .ok (.iload_n 2, 1) := dk_28 (dk_at dksX2_row_0 9 rfl rfl)
theorem dX2_row_10 : decode cX2_row 10 = .ok (.ifCond .lt 9, 3) := dk_155 0 9 (dk_at dksX2_row_0 10 rfl rfl)
theorem dX2_row_13 : decode cX2_row 13 = .ok (.iload_n 2, 1) := dk_28 (dk_at dksX2_row_0 13 rfl rfl)
theorem dX2_row_14 : decode cX2_row 14 = .ok (.bipush 7, 2) := dk_16 7 (dk_at dksX2_row_0 14 rfl rfl)
theorem dX2_row_16 : decode cX2_row 16 = .ok (.if_icmp .le 7, 3) := dk_164 0 7 (dk_at dksX2_row_0 16 rfl rfl)
theorem dX2_row_19 : decode cX2_row 19 = .ok (.iconst 0, 1) := dk_3 (dk_at dksX2_row_0 19 rfl rfl)
theorem dX2_row_20 : decode cX2_row 20 = .ok (.goto 14, 3) := dk_167 0 14 (dk_at dksX2_row_0 20 rfl rfl)
theorem dX2_row_23 : decode cX2_row 23 = .ok (.aload_n 0, 1) := dk_42 (dk_at dksX2_row_0 23 rfl rfl)
theorem dX2_row_24 : decode cX2_row 24 = .ok (.getfield 156, 3) := dk_180 0 156 (dk_at dksX2_row_1 0 rfl rfl)
theorem dX2_row_27 : decode cX2_row 27 = .ok (.bipush 8, 2) := dk_16 8 (dk_at dksX2_row_1 3 rfl rfl)
theorem dX2_row_29 : decode cX2_row 29 = .ok (.iload_n 1, 1) := dk_27 (dk_at dksX2_row_1 5 rfl rfl)
theorem dX2_row_30 : decode cX2_row 30 = .ok (.imul, 1) := dk_104 (dk_at dksX2_row_1 6 rfl rfl)
theorem dX2_row_31 : decode cX2_row 31 = .ok (.iload_n 2, 1) := dk_28 (dk_at dksX2_row_1 7 rfl rfl)
theorem dX2_row_32 : decode cX2_row 32 = .ok (.iadd, 1) := dk_96 (dk_at dksX2_row_1 8 rfl rfl)
theorem dX2_row_33 : decode cX2_row 33 = .ok (.iaload, 1) := dk_46 (dk_at dksX2_row_1 9 rfl rfl)
theorem dX2_row_34 : decode cX2_row 34 = .ok (.ireturn, 1) := dk_172 (dk_at dksX2_row_1 10 rfl rfl)
abbrev cX2_worked : ByteArray := prog_24_method_78_code
def yX2_worked : MethodName := ⟨RX2, "worked", "(I)I"⟩
def dkwX2_worked_0 : List UInt8 := [27, 155, 0, 9, 27, 16, 31, 164, 0, 7, 2, 167, 0, 9, 42, 180, 0, 162, 27, 46, 172]
abbrev dktX2_worked_0 : List UInt8 := dkwX2_worked_0 ++ []
theorem dksX2_worked_0 : cX2_worked.data.toList.drop 0 = dktX2_worked_0 := by decide +kernel
theorem dX2_worked_0 : decode cX2_worked 0 = .ok (.iload_n 1, 1) := dk_27 (dk_at dksX2_worked_0 0 rfl rfl)
theorem dX2_worked_1 : decode cX2_worked 1 = .ok (.ifCond .lt 9, 3) := dk_155 0 9 (dk_at dksX2_worked_0 1 rfl rfl)
theorem dX2_worked_4 : decode cX2_worked 4 = .ok (.iload_n 1, 1) := dk_27 (dk_at dksX2_worked_0 4 rfl rfl)
theorem dX2_worked_5 : decode cX2_worked 5 = .ok (.bipush 31, 2) := dk_16 31 (dk_at dksX2_worked_0 5 rfl rfl)
theorem dX2_worked_7 : decode cX2_worked 7 = .ok (.if_icmp .le 7, 3) := dk_164 0 7 (dk_at dksX2_worked_0 7 rfl rfl)
theorem dX2_worked_10 : decode cX2_worked 10 = .ok (.iconst (-1), 1) := dk_2 (dk_at dksX2_worked_0 10 rfl rfl)
theorem dX2_worked_11 : decode cX2_worked 11 = .ok (.goto 9, 3) := dk_167 0 9 (dk_at dksX2_worked_0 11 rfl rfl)
theorem dX2_worked_14 : decode cX2_worked 14 = .ok (.aload_n 0, 1) := dk_42 (dk_at dksX2_worked_0 14 rfl rfl)
theorem dX2_worked_15 : decode cX2_worked 15 = .ok (.getfield 162, 3) := dk_180 0 162 (dk_at dksX2_worked_0 15 rfl rfl)
theorem dX2_worked_18 : decode cX2_worked 18 = .ok (.iload_n 1, 1) := dk_27 (dk_at dksX2_worked_0 18 rfl rfl)
theorem dX2_worked_19 : decode cX2_worked 19 = .ok (.iaload, 1) := dk_46 (dk_at dksX2_worked_0 19 rfl rfl)
theorem dX2_worked_20 : decode cX2_worked 20 = .ok (.ireturn, 1) := dk_172 (dk_at dksX2_worked_0 20 rfl rfl)
abbrev cX2_step_2 : ByteArray := prog_24_method_81_code
def yX2_step_2 : MethodName := ⟨RX2, "step", "(II)I"⟩
def dkwX2_step_2_5 : List UInt8 := [79, 42, 180, 0, 186, 27, 46, 172]
abbrev dktX2_step_2_5 : List UInt8 := dkwX2_step_2_5 ++ []
def dkwX2_step_2_4 : List UInt8 := [16, 253, 172, 42, 180, 0, 189, 16, 60, 27, 104, 29, 96, 28, 79, 42, 180, 0, 186, 27, 92, 46, 4, 96]
abbrev dktX2_step_2_4 : List UInt8 := dkwX2_step_2_4 ++ dktX2_step_2_5
def dkwX2_step_2_3 : List UInt8 := [155, 0, 7, 4, 167, 0, 4, 3, 54, 4, 21, 4, 154, 0, 6, 16, 254, 172, 29, 16, 60, 160, 0, 6]
abbrev dktX2_step_2_3 : List UInt8 := dkwX2_step_2_3 ++ dktX2_step_2_4
def dkwX2_step_2_2 : List UInt8 := [27, 42, 27, 42, 180, 0, 189, 16, 60, 27, 104, 29, 96, 4, 100, 46, 182, 1, 149, 28, 182, 1, 152]
abbrev dktX2_step_2_2 : List UInt8 := dkwX2_step_2_2 ++ dktX2_step_2_3
def dkwX2_step_2_1 : List UInt8 := [42, 180, 0, 186, 27, 46, 62, 29, 154, 0, 15, 28, 154, 0, 7, 4, 167, 0, 39, 3, 167, 0, 35, 42]
abbrev dktX2_step_2_1 : List UInt8 := dkwX2_step_2_1 ++ dktX2_step_2_2
def dkwX2_step_2_0 : List UInt8 := [42, 27, 182, 1, 117, 153, 0, 17, 28, 155, 0, 13, 28, 42, 180, 0, 40, 27, 46, 161, 0, 5, 2, 172]
abbrev dktX2_step_2_0 : List UInt8 := dkwX2_step_2_0 ++ dktX2_step_2_1
theorem dksX2_step_2_0 : cX2_step_2.data.toList.drop 0 = dktX2_step_2_0 := by decide +kernel
theorem dksX2_step_2_1 : cX2_step_2.data.toList.drop 24 = dktX2_step_2_1 := dk_seg dksX2_step_2_0 24 rfl rfl
theorem dksX2_step_2_2 : cX2_step_2.data.toList.drop 48 = dktX2_step_2_2 := dk_seg dksX2_step_2_1 24 rfl rfl
theorem dksX2_step_2_3 : cX2_step_2.data.toList.drop 71 = dktX2_step_2_3 := dk_seg dksX2_step_2_2 23 rfl rfl
theorem dksX2_step_2_4 : cX2_step_2.data.toList.drop 95 = dktX2_step_2_4 := dk_seg dksX2_step_2_3 24 rfl rfl
theorem dksX2_step_2_5 : cX2_step_2.data.toList.drop 119 = dktX2_step_2_5 := dk_seg dksX2_step_2_4 24 rfl rfl
theorem dX2_step_2_0 : decode cX2_step_2 0 = .ok (.aload_n 0, 1) := dk_42 (dk_at dksX2_step_2_0 0 rfl rfl)
theorem dX2_step_2_1 : decode cX2_step_2 1 = .ok (.iload_n 1, 1) := dk_27 (dk_at dksX2_step_2_0 1 rfl rfl)
theorem dX2_step_2_2 : decode cX2_step_2 2 = .ok (.invokevirtual 373, 3) := dk_182 1 117 (dk_at dksX2_step_2_0 2 rfl rfl)
theorem dX2_step_2_5 : decode cX2_step_2 5 = .ok (.ifCond .eq 17, 3) := dk_153 0 17 (dk_at dksX2_step_2_0 5 rfl rfl)
theorem dX2_step_2_8 : decode cX2_step_2 8 = .ok (.iload_n 2, 1) := dk_28 (dk_at dksX2_step_2_0 8 rfl rfl)
theorem dX2_step_2_9 : decode cX2_step_2 9 = .ok (.ifCond .lt 13, 3) := dk_155 0 13 (dk_at dksX2_step_2_0 9 rfl rfl)
theorem dX2_step_2_12 : decode cX2_step_2 12 = .ok (.iload_n 2, 1) := dk_28 (dk_at dksX2_step_2_0 12 rfl rfl)
theorem dX2_step_2_13 : decode cX2_step_2 13 = .ok (.aload_n 0, 1) := dk_42 (dk_at dksX2_step_2_0 13 rfl rfl)
theorem dX2_step_2_14 : decode cX2_step_2 14 = .ok (.getfield 40, 3) := dk_180 0 40 (dk_at dksX2_step_2_0 14 rfl rfl)
theorem dX2_step_2_17 : decode cX2_step_2 17 = .ok (.iload_n 1, 1) := dk_27 (dk_at dksX2_step_2_0 17 rfl rfl)
theorem dX2_step_2_18 : decode cX2_step_2 18 = .ok (.iaload, 1) := dk_46 (dk_at dksX2_step_2_0 18 rfl rfl)
theorem dX2_step_2_19 : decode cX2_step_2 19 = .ok (.if_icmp .lt 5, 3) := dk_161 0 5 (dk_at dksX2_step_2_0 19 rfl rfl)
theorem dX2_step_2_22 : decode cX2_step_2 22 = .ok (.iconst (-1), 1) := dk_2 (dk_at dksX2_step_2_0 22 rfl rfl)
theorem dX2_step_2_23 : decode cX2_step_2 23 = .ok (.ireturn, 1) := dk_172 (dk_at dksX2_step_2_0 23 rfl rfl)
theorem dX2_step_2_24 : decode cX2_step_2 24 = .ok (.aload_n 0, 1) := dk_42 (dk_at dksX2_step_2_1 0 rfl rfl)
theorem dX2_step_2_25 : decode cX2_step_2 25 = .ok (.getfield 186, 3) := dk_180 0 186 (dk_at dksX2_step_2_1 1 rfl rfl)
theorem dX2_step_2_28 : decode cX2_step_2 28 = .ok (.iload_n 1, 1) := dk_27 (dk_at dksX2_step_2_1 4 rfl rfl)
theorem dX2_step_2_29 : decode cX2_step_2 29 = .ok (.iaload, 1) := dk_46 (dk_at dksX2_step_2_1 5 rfl rfl)
theorem dX2_step_2_30 : decode cX2_step_2 30 = .ok (.istore_n 3, 1) := dk_62 (dk_at dksX2_step_2_1 6 rfl rfl)
theorem dX2_step_2_31 : decode cX2_step_2 31 = .ok (.iload_n 3, 1) := dk_29 (dk_at dksX2_step_2_1 7 rfl rfl)
theorem dX2_step_2_32 : decode cX2_step_2 32 = .ok (.ifCond .ne 15, 3) := dk_154 0 15 (dk_at dksX2_step_2_1 8 rfl rfl)
theorem dX2_step_2_35 : decode cX2_step_2 35 = .ok (.iload_n 2, 1) := dk_28 (dk_at dksX2_step_2_1 11 rfl rfl)
theorem dX2_step_2_36 : decode cX2_step_2 36 = .ok (.ifCond .ne 7, 3) := dk_154 0 7 (dk_at dksX2_step_2_1 12 rfl rfl)
theorem dX2_step_2_39 : decode cX2_step_2 39 = .ok (.iconst 1, 1) := dk_4 (dk_at dksX2_step_2_1 15 rfl rfl)
theorem dX2_step_2_40 : decode cX2_step_2 40 = .ok (.goto 39, 3) := dk_167 0 39 (dk_at dksX2_step_2_1 16 rfl rfl)
theorem dX2_step_2_43 : decode cX2_step_2 43 = .ok (.iconst 0, 1) := dk_3 (dk_at dksX2_step_2_1 19 rfl rfl)
theorem dX2_step_2_44 : decode cX2_step_2 44 = .ok (.goto 35, 3) := dk_167 0 35 (dk_at dksX2_step_2_1 20 rfl rfl)
theorem dX2_step_2_47 : decode cX2_step_2 47 = .ok (.aload_n 0, 1) := dk_42 (dk_at dksX2_step_2_1 23 rfl rfl)
theorem dX2_step_2_48 : decode cX2_step_2 48 = .ok (.iload_n 1, 1) := dk_27 (dk_at dksX2_step_2_2 0 rfl rfl)
theorem dX2_step_2_49 : decode cX2_step_2 49 = .ok (.aload_n 0, 1) := dk_42 (dk_at dksX2_step_2_2 1 rfl rfl)
theorem dX2_step_2_50 : decode cX2_step_2 50 = .ok (.iload_n 1, 1) := dk_27 (dk_at dksX2_step_2_2 2 rfl rfl)
theorem dX2_step_2_51 : decode cX2_step_2 51 = .ok (.aload_n 0, 1) := dk_42 (dk_at dksX2_step_2_2 3 rfl rfl)
theorem dX2_step_2_52 : decode cX2_step_2 52 = .ok (.getfield 189, 3) := dk_180 0 189 (dk_at dksX2_step_2_2 4 rfl rfl)
theorem dX2_step_2_55 : decode cX2_step_2 55 = .ok (.bipush 60, 2) := dk_16 60 (dk_at dksX2_step_2_2 7 rfl rfl)
theorem dX2_step_2_57 : decode cX2_step_2 57 = .ok (.iload_n 1, 1) := dk_27 (dk_at dksX2_step_2_2 9 rfl rfl)
theorem dX2_step_2_58 : decode cX2_step_2 58 = .ok (.imul, 1) := dk_104 (dk_at dksX2_step_2_2 10 rfl rfl)
theorem dX2_step_2_59 : decode cX2_step_2 59 = .ok (.iload_n 3, 1) := dk_29 (dk_at dksX2_step_2_2 11 rfl rfl)
theorem dX2_step_2_60 : decode cX2_step_2 60 = .ok (.iadd, 1) := dk_96 (dk_at dksX2_step_2_2 12 rfl rfl)
theorem dX2_step_2_61 : decode cX2_step_2 61 = .ok (.iconst 1, 1) := dk_4 (dk_at dksX2_step_2_2 13 rfl rfl)
theorem dX2_step_2_62 : decode cX2_step_2 62 = .ok (.isub, 1) := dk_100 (dk_at dksX2_step_2_2 14 rfl rfl)
theorem dX2_step_2_63 : decode cX2_step_2 63 = .ok (.iaload, 1) := dk_46 (dk_at dksX2_step_2_2 15 rfl rfl)
theorem dX2_step_2_64 : decode cX2_step_2 64 = .ok (.invokevirtual 405, 3) := dk_182 1 149 (dk_at dksX2_step_2_2 16 rfl rfl)
theorem dX2_step_2_67 : decode cX2_step_2 67 = .ok (.iload_n 2, 1) := dk_28 (dk_at dksX2_step_2_2 19 rfl rfl)
theorem dX2_step_2_68 : decode cX2_step_2 68 = .ok (.invokevirtual 408, 3) := dk_182 1 152 (dk_at dksX2_step_2_2 20 rfl rfl)
theorem dX2_step_2_71 : decode cX2_step_2 71 = .ok (.ifCond .lt 7, 3) := dk_155 0 7 (dk_at dksX2_step_2_3 0 rfl rfl)
theorem dX2_step_2_74 : decode cX2_step_2 74 = .ok (.iconst 1, 1) := dk_4 (dk_at dksX2_step_2_3 3 rfl rfl)
theorem dX2_step_2_75 : decode cX2_step_2 75 = .ok (.goto 4, 3) := dk_167 0 4 (dk_at dksX2_step_2_3 4 rfl rfl)
theorem dX2_step_2_78 : decode cX2_step_2 78 = .ok (.iconst 0, 1) := dk_3 (dk_at dksX2_step_2_3 7 rfl rfl)
theorem dX2_step_2_79 : decode cX2_step_2 79 = .ok (.istore 4, 2) := dk_54 4 (dk_at dksX2_step_2_3 8 rfl rfl)
theorem dX2_step_2_81 : decode cX2_step_2 81 = .ok (.iload 4, 2) := dk_21 4 (dk_at dksX2_step_2_3 10 rfl rfl)
theorem dX2_step_2_83 : decode cX2_step_2 83 = .ok (.ifCond .ne 6, 3) := dk_154 0 6 (dk_at dksX2_step_2_3 12 rfl rfl)
theorem dX2_step_2_86 : decode cX2_step_2 86 = .ok (.bipush (-2), 2) := dk_16 254 (dk_at dksX2_step_2_3 15 rfl rfl)
theorem dX2_step_2_88 : decode cX2_step_2 88 = .ok (.ireturn, 1) := dk_172 (dk_at dksX2_step_2_3 17 rfl rfl)
theorem dX2_step_2_89 : decode cX2_step_2 89 = .ok (.iload_n 3, 1) := dk_29 (dk_at dksX2_step_2_3 18 rfl rfl)
theorem dX2_step_2_90 : decode cX2_step_2 90 = .ok (.bipush 60, 2) := dk_16 60 (dk_at dksX2_step_2_3 19 rfl rfl)
theorem dX2_step_2_92 : decode cX2_step_2 92 = .ok (.if_icmp .ne 6, 3) := dk_160 0 6 (dk_at dksX2_step_2_3 21 rfl rfl)
theorem dX2_step_2_95 : decode cX2_step_2 95 = .ok (.bipush (-3), 2) := dk_16 253 (dk_at dksX2_step_2_4 0 rfl rfl)
theorem dX2_step_2_97 : decode cX2_step_2 97 = .ok (.ireturn, 1) := dk_172 (dk_at dksX2_step_2_4 2 rfl rfl)
theorem dX2_step_2_98 : decode cX2_step_2 98 = .ok (.aload_n 0, 1) := dk_42 (dk_at dksX2_step_2_4 3 rfl rfl)
theorem dX2_step_2_99 : decode cX2_step_2 99 = .ok (.getfield 189, 3) := dk_180 0 189 (dk_at dksX2_step_2_4 4 rfl rfl)
theorem dX2_step_2_102 : decode cX2_step_2 102 = .ok (.bipush 60, 2) := dk_16 60 (dk_at dksX2_step_2_4 7 rfl rfl)
theorem dX2_step_2_104 : decode cX2_step_2 104 = .ok (.iload_n 1, 1) := dk_27 (dk_at dksX2_step_2_4 9 rfl rfl)
theorem dX2_step_2_105 : decode cX2_step_2 105 = .ok (.imul, 1) := dk_104 (dk_at dksX2_step_2_4 10 rfl rfl)
theorem dX2_step_2_106 : decode cX2_step_2 106 = .ok (.iload_n 3, 1) := dk_29 (dk_at dksX2_step_2_4 11 rfl rfl)
theorem dX2_step_2_107 : decode cX2_step_2 107 = .ok (.iadd, 1) := dk_96 (dk_at dksX2_step_2_4 12 rfl rfl)
theorem dX2_step_2_108 : decode cX2_step_2 108 = .ok (.iload_n 2, 1) := dk_28 (dk_at dksX2_step_2_4 13 rfl rfl)
theorem dX2_step_2_109 : decode cX2_step_2 109 = .ok (.iastore, 1) := dk_79 (dk_at dksX2_step_2_4 14 rfl rfl)
theorem dX2_step_2_110 : decode cX2_step_2 110 = .ok (.aload_n 0, 1) := dk_42 (dk_at dksX2_step_2_4 15 rfl rfl)
theorem dX2_step_2_111 : decode cX2_step_2 111 = .ok (.getfield 186, 3) := dk_180 0 186 (dk_at dksX2_step_2_4 16 rfl rfl)
theorem dX2_step_2_114 : decode cX2_step_2 114 = .ok (.iload_n 1, 1) := dk_27 (dk_at dksX2_step_2_4 19 rfl rfl)
theorem dX2_step_2_115 : decode cX2_step_2 115 = .ok (.dup2, 1) := dk_92 (dk_at dksX2_step_2_4 20 rfl rfl)
theorem dX2_step_2_116 : decode cX2_step_2 116 = .ok (.iaload, 1) := dk_46 (dk_at dksX2_step_2_4 21 rfl rfl)
theorem dX2_step_2_117 : decode cX2_step_2 117 = .ok (.iconst 1, 1) := dk_4 (dk_at dksX2_step_2_4 22 rfl rfl)
theorem dX2_step_2_118 : decode cX2_step_2 118 = .ok (.iadd, 1) := dk_96 (dk_at dksX2_step_2_4 23 rfl rfl)
theorem dX2_step_2_119 : decode cX2_step_2 119 = .ok (.iastore, 1) := dk_79 (dk_at dksX2_step_2_5 0 rfl rfl)
theorem dX2_step_2_120 : decode cX2_step_2 120 = .ok (.aload_n 0, 1) := dk_42 (dk_at dksX2_step_2_5 1 rfl rfl)
theorem dX2_step_2_121 : decode cX2_step_2 121 = .ok (.getfield 186, 3) := dk_180 0 186 (dk_at dksX2_step_2_5 2 rfl rfl)
theorem dX2_step_2_124 : decode cX2_step_2 124 = .ok (.iload_n 1, 1) := dk_27 (dk_at dksX2_step_2_5 5 rfl rfl)
theorem dX2_step_2_125 : decode cX2_step_2 125 = .ok (.iaload, 1) := dk_46 (dk_at dksX2_step_2_5 6 rfl rfl)
theorem dX2_step_2_126 : decode cX2_step_2 126 = .ok (.ireturn, 1) := dk_172 (dk_at dksX2_step_2_5 7 rfl rfl)
abbrev cX2_end : ByteArray := prog_24_method_79_code
def yX2_end : MethodName := ⟨RX2, "end", "(II)I"⟩
def dkwX2_end_1 : List UInt8 := [104, 28, 96, 4, 96, 46, 167, 0, 9, 42, 180, 0, 46, 27, 46, 96, 4, 100, 172]
abbrev dktX2_end_1 : List UInt8 := dkwX2_end_1 ++ []
def dkwX2_end_0 : List UInt8 := [17, 0, 240, 27, 104, 28, 4, 96, 42, 180, 0, 40, 27, 46, 162, 0, 19, 42, 180, 0, 52, 16, 41, 27]
abbrev dktX2_end_0 : List UInt8 := dkwX2_end_0 ++ dktX2_end_1
theorem dksX2_end_0 : cX2_end.data.toList.drop 0 = dktX2_end_0 := by decide +kernel
theorem dksX2_end_1 : cX2_end.data.toList.drop 24 = dktX2_end_1 := dk_seg dksX2_end_0 24 rfl rfl
theorem dX2_end_0 : decode cX2_end 0 = .ok (.sipush 240, 3) := dk_17 0 240 (dk_at dksX2_end_0 0 rfl rfl)
theorem dX2_end_3 : decode cX2_end 3 = .ok (.iload_n 1, 1) := dk_27 (dk_at dksX2_end_0 3 rfl rfl)
theorem dX2_end_4 : decode cX2_end 4 = .ok (.imul, 1) := dk_104 (dk_at dksX2_end_0 4 rfl rfl)
theorem dX2_end_5 : decode cX2_end 5 = .ok (.iload_n 2, 1) := dk_28 (dk_at dksX2_end_0 5 rfl rfl)
theorem dX2_end_6 : decode cX2_end 6 = .ok (.iconst 1, 1) := dk_4 (dk_at dksX2_end_0 6 rfl rfl)
theorem dX2_end_7 : decode cX2_end 7 = .ok (.iadd, 1) := dk_96 (dk_at dksX2_end_0 7 rfl rfl)
theorem dX2_end_8 : decode cX2_end 8 = .ok (.aload_n 0, 1) := dk_42 (dk_at dksX2_end_0 8 rfl rfl)
theorem dX2_end_9 : decode cX2_end 9 = .ok (.getfield 40, 3) := dk_180 0 40 (dk_at dksX2_end_0 9 rfl rfl)
theorem dX2_end_12 : decode cX2_end 12 = .ok (.iload_n 1, 1) := dk_27 (dk_at dksX2_end_0 12 rfl rfl)
theorem dX2_end_13 : decode cX2_end 13 = .ok (.iaload, 1) := dk_46 (dk_at dksX2_end_0 13 rfl rfl)
theorem dX2_end_14 : decode cX2_end 14 = .ok (.if_icmp .ge 19, 3) := dk_162 0 19 (dk_at dksX2_end_0 14 rfl rfl)
theorem dX2_end_17 : decode cX2_end 17 = .ok (.aload_n 0, 1) := dk_42 (dk_at dksX2_end_0 17 rfl rfl)
theorem dX2_end_18 : decode cX2_end 18 = .ok (.getfield 52, 3) := dk_180 0 52 (dk_at dksX2_end_0 18 rfl rfl)
theorem dX2_end_21 : decode cX2_end 21 = .ok (.bipush 41, 2) := dk_16 41 (dk_at dksX2_end_0 21 rfl rfl)
theorem dX2_end_23 : decode cX2_end 23 = .ok (.iload_n 1, 1) := dk_27 (dk_at dksX2_end_0 23 rfl rfl)
theorem dX2_end_24 : decode cX2_end 24 = .ok (.imul, 1) := dk_104 (dk_at dksX2_end_1 0 rfl rfl)
theorem dX2_end_25 : decode cX2_end 25 = .ok (.iload_n 2, 1) := dk_28 (dk_at dksX2_end_1 1 rfl rfl)
theorem dX2_end_26 : decode cX2_end 26 = .ok (.iadd, 1) := dk_96 (dk_at dksX2_end_1 2 rfl rfl)
theorem dX2_end_27 : decode cX2_end 27 = .ok (.iconst 1, 1) := dk_4 (dk_at dksX2_end_1 3 rfl rfl)
theorem dX2_end_28 : decode cX2_end 28 = .ok (.iadd, 1) := dk_96 (dk_at dksX2_end_1 4 rfl rfl)
theorem dX2_end_29 : decode cX2_end 29 = .ok (.iaload, 1) := dk_46 (dk_at dksX2_end_1 5 rfl rfl)
theorem dX2_end_30 : decode cX2_end 30 = .ok (.goto 9, 3) := dk_167 0 9 (dk_at dksX2_end_1 6 rfl rfl)
theorem dX2_end_33 : decode cX2_end 33 = .ok (.aload_n 0, 1) := dk_42 (dk_at dksX2_end_1 9 rfl rfl)
theorem dX2_end_34 : decode cX2_end 34 = .ok (.getfield 46, 3) := dk_180 0 46 (dk_at dksX2_end_1 10 rfl rfl)
theorem dX2_end_37 : decode cX2_end 37 = .ok (.iload_n 1, 1) := dk_27 (dk_at dksX2_end_1 13 rfl rfl)
theorem dX2_end_38 : decode cX2_end 38 = .ok (.iaload, 1) := dk_46 (dk_at dksX2_end_1 14 rfl rfl)
theorem dX2_end_39 : decode cX2_end 39 = .ok (.iadd, 1) := dk_96 (dk_at dksX2_end_1 15 rfl rfl)
theorem dX2_end_40 : decode cX2_end 40 = .ok (.iconst 1, 1) := dk_4 (dk_at dksX2_end_1 16 rfl rfl)
theorem dX2_end_41 : decode cX2_end 41 = .ok (.isub, 1) := dk_100 (dk_at dksX2_end_1 17 rfl rfl)
theorem dX2_end_42 : decode cX2_end 42 = .ok (.ireturn, 1) := dk_172 (dk_at dksX2_end_1 18 rfl rfl)
abbrev cX2_passes : ByteArray := prog_24_method_80_code
def yX2_passes : MethodName := ⟨RX2, "passes", "(III)I"⟩
def dkwX2_passes_5 : List UInt8 := [27, 104, 21, 5, 96, 46, 21, 4, 160, 0, 6, 21, 5, 172, 2, 172]
abbrev dktX2_passes_5 : List UInt8 := dkwX2_passes_5 ++ []
def dkwX2_passes_4 : List UInt8 := [180, 0, 58, 17, 0, 240, 27, 104, 21, 5, 96, 46, 16, 7, 160, 0, 24, 42, 180, 0, 70, 17, 0, 240]
abbrev dktX2_passes_4 : List UInt8 := dkwX2_passes_4 ++ dktX2_passes_5
def dkwX2_passes_3 : List UInt8 := [21, 5, 172, 42, 180, 0, 73, 28, 46, 54, 5, 21, 5, 155, 0, 49, 21, 5, 21, 4, 159, 0, 39, 42]
abbrev dktX2_passes_3 : List UInt8 := dkwX2_passes_3 ++ dktX2_passes_4
def dkwX2_passes_2 : List UInt8 := [16, 7, 160, 0, 24, 42, 180, 0, 70, 17, 0, 240, 27, 104, 21, 5, 96, 46, 21, 4, 160, 0, 6]
abbrev dktX2_passes_2 : List UInt8 := dkwX2_passes_2 ++ dktX2_passes_3
def dkwX2_passes_1 : List UInt8 := [155, 0, 49, 21, 5, 21, 4, 159, 0, 39, 42, 180, 0, 58, 17, 0, 240, 27, 104, 21, 5, 96, 46]
abbrev dktX2_passes_1 : List UInt8 := dkwX2_passes_1 ++ dktX2_passes_2
def dkwX2_passes_0 : List UInt8 := [42, 180, 0, 52, 16, 41, 27, 104, 29, 96, 46, 54, 4, 42, 180, 0, 70, 28, 46, 54, 5, 21, 5]
abbrev dktX2_passes_0 : List UInt8 := dkwX2_passes_0 ++ dktX2_passes_1
theorem dksX2_passes_0 : cX2_passes.data.toList.drop 0 = dktX2_passes_0 := by decide +kernel
theorem dksX2_passes_1 : cX2_passes.data.toList.drop 23 = dktX2_passes_1 := dk_seg dksX2_passes_0 23 rfl rfl
theorem dksX2_passes_2 : cX2_passes.data.toList.drop 46 = dktX2_passes_2 := dk_seg dksX2_passes_1 23 rfl rfl
theorem dksX2_passes_3 : cX2_passes.data.toList.drop 69 = dktX2_passes_3 := dk_seg dksX2_passes_2 23 rfl rfl
theorem dksX2_passes_4 : cX2_passes.data.toList.drop 93 = dktX2_passes_4 := dk_seg dksX2_passes_3 24 rfl rfl
theorem dksX2_passes_5 : cX2_passes.data.toList.drop 117 = dktX2_passes_5 := dk_seg dksX2_passes_4 24 rfl rfl
theorem dX2_passes_0 : decode cX2_passes 0 = .ok (.aload_n 0, 1) := dk_42 (dk_at dksX2_passes_0 0 rfl rfl)
theorem dX2_passes_1 : decode cX2_passes 1 = .ok (.getfield 52, 3) := dk_180 0 52 (dk_at dksX2_passes_0 1 rfl rfl)
theorem dX2_passes_4 : decode cX2_passes 4 = .ok (.bipush 41, 2) := dk_16 41 (dk_at dksX2_passes_0 4 rfl rfl)
theorem dX2_passes_6 : decode cX2_passes 6 = .ok (.iload_n 1, 1) := dk_27 (dk_at dksX2_passes_0 6 rfl rfl)
theorem dX2_passes_7 : decode cX2_passes 7 = .ok (.imul, 1) := dk_104 (dk_at dksX2_passes_0 7 rfl rfl)
theorem dX2_passes_8 : decode cX2_passes 8 = .ok (.iload_n 3, 1) := dk_29 (dk_at dksX2_passes_0 8 rfl rfl)
theorem dX2_passes_9 : decode cX2_passes 9 = .ok (.iadd, 1) := dk_96 (dk_at dksX2_passes_0 9 rfl rfl)
theorem dX2_passes_10 : decode cX2_passes 10 = .ok (.iaload, 1) := dk_46 (dk_at dksX2_passes_0 10 rfl rfl)
theorem dX2_passes_11 : decode cX2_passes 11 = .ok (.istore 4, 2) := dk_54 4 (dk_at dksX2_passes_0 11 rfl rfl)
theorem dX2_passes_13 : decode cX2_passes 13 = .ok (.aload_n 0, 1) := dk_42 (dk_at dksX2_passes_0 13 rfl rfl)
theorem dX2_passes_14 : decode cX2_passes 14 = .ok (.getfield 70, 3) := dk_180 0 70 (dk_at dksX2_passes_0 14 rfl rfl)
theorem dX2_passes_17 : decode cX2_passes 17 = .ok (.iload_n 2, 1) := dk_28 (dk_at dksX2_passes_0 17 rfl rfl)
theorem dX2_passes_18 : decode cX2_passes 18 = .ok (.iaload, 1) := dk_46 (dk_at dksX2_passes_0 18 rfl rfl)
theorem dX2_passes_19 : decode cX2_passes 19 = .ok (.istore 5, 2) := dk_54 5 (dk_at dksX2_passes_0 19 rfl rfl)
theorem dX2_passes_21 : decode cX2_passes 21 = .ok (.iload 5, 2) := dk_21 5 (dk_at dksX2_passes_0 21 rfl rfl)
theorem dX2_passes_23 : decode cX2_passes 23 = .ok (.ifCond .lt 49, 3) := dk_155 0 49 (dk_at dksX2_passes_1 0 rfl rfl)
theorem dX2_passes_26 : decode cX2_passes 26 = .ok (.iload 5, 2) := dk_21 5 (dk_at dksX2_passes_1 3 rfl rfl)
theorem dX2_passes_28 : decode cX2_passes 28 = .ok (.iload 4, 2) := dk_21 4 (dk_at dksX2_passes_1 5 rfl rfl)
theorem dX2_passes_30 : decode cX2_passes 30 = .ok (.if_icmp .eq 39, 3) := dk_159 0 39 (dk_at dksX2_passes_1 7 rfl rfl)
theorem dX2_passes_33 : decode cX2_passes 33 = .ok (.aload_n 0, 1) := dk_42 (dk_at dksX2_passes_1 10 rfl rfl)
theorem dX2_passes_34 : decode cX2_passes 34 = .ok (.getfield 58, 3) := dk_180 0 58 (dk_at dksX2_passes_1 11 rfl rfl)
theorem dX2_passes_37 : decode cX2_passes 37 = .ok (.sipush 240, 3) := dk_17 0 240 (dk_at dksX2_passes_1 14 rfl rfl)
theorem dX2_passes_40 : decode cX2_passes 40 = .ok (.iload_n 1, 1) := dk_27 (dk_at dksX2_passes_1 17 rfl rfl)
theorem dX2_passes_41 : decode cX2_passes 41 = .ok (.imul, 1) := dk_104 (dk_at dksX2_passes_1 18 rfl rfl)
theorem dX2_passes_42 : decode cX2_passes 42 = .ok (.iload 5, 2) := dk_21 5 (dk_at dksX2_passes_1 19 rfl rfl)
theorem dX2_passes_44 : decode cX2_passes 44 = .ok (.iadd, 1) := dk_96 (dk_at dksX2_passes_1 21 rfl rfl)
theorem dX2_passes_45 : decode cX2_passes 45 = .ok (.iaload, 1) := dk_46 (dk_at dksX2_passes_1 22 rfl rfl)
theorem dX2_passes_46 : decode cX2_passes 46 = .ok (.bipush 7, 2) := dk_16 7 (dk_at dksX2_passes_2 0 rfl rfl)
theorem dX2_passes_48 : decode cX2_passes 48 = .ok (.if_icmp .ne 24, 3) := dk_160 0 24 (dk_at dksX2_passes_2 2 rfl rfl)
theorem dX2_passes_51 : decode cX2_passes 51 = .ok (.aload_n 0, 1) := dk_42 (dk_at dksX2_passes_2 5 rfl rfl)
theorem dX2_passes_52 : decode cX2_passes 52 = .ok (.getfield 70, 3) := dk_180 0 70 (dk_at dksX2_passes_2 6 rfl rfl)
theorem dX2_passes_55 : decode cX2_passes 55 = .ok (.sipush 240, 3) := dk_17 0 240 (dk_at dksX2_passes_2 9 rfl rfl)
theorem dX2_passes_58 : decode cX2_passes 58 = .ok (.iload_n 1, 1) := dk_27 (dk_at dksX2_passes_2 12 rfl rfl)
theorem dX2_passes_59 : decode cX2_passes 59 = .ok (.imul, 1) := dk_104 (dk_at dksX2_passes_2 13 rfl rfl)
theorem dX2_passes_60 : decode cX2_passes 60 = .ok (.iload 5, 2) := dk_21 5 (dk_at dksX2_passes_2 14 rfl rfl)
theorem dX2_passes_62 : decode cX2_passes 62 = .ok (.iadd, 1) := dk_96 (dk_at dksX2_passes_2 16 rfl rfl)
theorem dX2_passes_63 : decode cX2_passes 63 = .ok (.iaload, 1) := dk_46 (dk_at dksX2_passes_2 17 rfl rfl)
theorem dX2_passes_64 : decode cX2_passes 64 = .ok (.iload 4, 2) := dk_21 4 (dk_at dksX2_passes_2 18 rfl rfl)
theorem dX2_passes_66 : decode cX2_passes 66 = .ok (.if_icmp .ne 6, 3) := dk_160 0 6 (dk_at dksX2_passes_2 20 rfl rfl)
theorem dX2_passes_69 : decode cX2_passes 69 = .ok (.iload 5, 2) := dk_21 5 (dk_at dksX2_passes_3 0 rfl rfl)
theorem dX2_passes_71 : decode cX2_passes 71 = .ok (.ireturn, 1) := dk_172 (dk_at dksX2_passes_3 2 rfl rfl)
theorem dX2_passes_72 : decode cX2_passes 72 = .ok (.aload_n 0, 1) := dk_42 (dk_at dksX2_passes_3 3 rfl rfl)
theorem dX2_passes_73 : decode cX2_passes 73 = .ok (.getfield 73, 3) := dk_180 0 73 (dk_at dksX2_passes_3 4 rfl rfl)
theorem dX2_passes_76 : decode cX2_passes 76 = .ok (.iload_n 2, 1) := dk_28 (dk_at dksX2_passes_3 7 rfl rfl)
theorem dX2_passes_77 : decode cX2_passes 77 = .ok (.iaload, 1) := dk_46 (dk_at dksX2_passes_3 8 rfl rfl)
theorem dX2_passes_78 : decode cX2_passes 78 = .ok (.istore 5, 2) := dk_54 5 (dk_at dksX2_passes_3 9 rfl rfl)
theorem dX2_passes_80 : decode cX2_passes 80 = .ok (.iload 5, 2) := dk_21 5 (dk_at dksX2_passes_3 11 rfl rfl)
theorem dX2_passes_82 : decode cX2_passes 82 = .ok (.ifCond .lt 49, 3) := dk_155 0 49 (dk_at dksX2_passes_3 13 rfl rfl)
theorem dX2_passes_85 : decode cX2_passes 85 = .ok (.iload 5, 2) := dk_21 5 (dk_at dksX2_passes_3 16 rfl rfl)
theorem dX2_passes_87 : decode cX2_passes 87 = .ok (.iload 4, 2) := dk_21 4 (dk_at dksX2_passes_3 18 rfl rfl)
theorem dX2_passes_89 : decode cX2_passes 89 = .ok (.if_icmp .eq 39, 3) := dk_159 0 39 (dk_at dksX2_passes_3 20 rfl rfl)
theorem dX2_passes_92 : decode cX2_passes 92 = .ok (.aload_n 0, 1) := dk_42 (dk_at dksX2_passes_3 23 rfl rfl)
theorem dX2_passes_93 : decode cX2_passes 93 = .ok (.getfield 58, 3) := dk_180 0 58 (dk_at dksX2_passes_4 0 rfl rfl)
theorem dX2_passes_96 : decode cX2_passes 96 = .ok (.sipush 240, 3) := dk_17 0 240 (dk_at dksX2_passes_4 3 rfl rfl)
theorem dX2_passes_99 : decode cX2_passes 99 = .ok (.iload_n 1, 1) := dk_27 (dk_at dksX2_passes_4 6 rfl rfl)
theorem dX2_passes_100 : decode cX2_passes 100 = .ok (.imul, 1) := dk_104 (dk_at dksX2_passes_4 7 rfl rfl)
theorem dX2_passes_101 : decode cX2_passes 101 = .ok (.iload 5, 2) := dk_21 5 (dk_at dksX2_passes_4 8 rfl rfl)
theorem dX2_passes_103 : decode cX2_passes 103 = .ok (.iadd, 1) := dk_96 (dk_at dksX2_passes_4 10 rfl rfl)
theorem dX2_passes_104 : decode cX2_passes 104 = .ok (.iaload, 1) := dk_46 (dk_at dksX2_passes_4 11 rfl rfl)
theorem dX2_passes_105 : decode cX2_passes 105 = .ok (.bipush 7, 2) := dk_16 7 (dk_at dksX2_passes_4 12 rfl rfl)
theorem dX2_passes_107 : decode cX2_passes 107 = .ok (.if_icmp .ne 24, 3) := dk_160 0 24 (dk_at dksX2_passes_4 14 rfl rfl)
theorem dX2_passes_110 : decode cX2_passes 110 = .ok (.aload_n 0, 1) := dk_42 (dk_at dksX2_passes_4 17 rfl rfl)
theorem dX2_passes_111 : decode cX2_passes 111 = .ok (.getfield 70, 3) := dk_180 0 70 (dk_at dksX2_passes_4 18 rfl rfl)
theorem dX2_passes_114 : decode cX2_passes 114 = .ok (.sipush 240, 3) := dk_17 0 240 (dk_at dksX2_passes_4 21 rfl rfl)
theorem dX2_passes_117 : decode cX2_passes 117 = .ok (.iload_n 1, 1) := dk_27 (dk_at dksX2_passes_5 0 rfl rfl)
theorem dX2_passes_118 : decode cX2_passes 118 = .ok (.imul, 1) := dk_104 (dk_at dksX2_passes_5 1 rfl rfl)
theorem dX2_passes_119 : decode cX2_passes 119 = .ok (.iload 5, 2) := dk_21 5 (dk_at dksX2_passes_5 2 rfl rfl)
theorem dX2_passes_121 : decode cX2_passes 121 = .ok (.iadd, 1) := dk_96 (dk_at dksX2_passes_5 4 rfl rfl)
theorem dX2_passes_122 : decode cX2_passes 122 = .ok (.iaload, 1) := dk_46 (dk_at dksX2_passes_5 5 rfl rfl)
theorem dX2_passes_123 : decode cX2_passes 123 = .ok (.iload 4, 2) := dk_21 4 (dk_at dksX2_passes_5 6 rfl rfl)
theorem dX2_passes_125 : decode cX2_passes 125 = .ok (.if_icmp .ne 6, 3) := dk_160 0 6 (dk_at dksX2_passes_5 8 rfl rfl)
theorem dX2_passes_128 : decode cX2_passes 128 = .ok (.iload 5, 2) := dk_21 5 (dk_at dksX2_passes_5 11 rfl rfl)
theorem dX2_passes_130 : decode cX2_passes 130 = .ok (.ireturn, 1) := dk_172 (dk_at dksX2_passes_5 13 rfl rfl)
theorem dX2_passes_131 : decode cX2_passes 131 = .ok (.iconst (-1), 1) := dk_2 (dk_at dksX2_passes_5 14 rfl rfl)
theorem dX2_passes_132 : decode cX2_passes 132 = .ok (.ireturn, 1) := dk_172 (dk_at dksX2_passes_5 15 rfl rfl)
abbrev cX2_home : ByteArray := prog_24_method_82_code
def yX2_home : MethodName := ⟨RX2, "home", "(I)I"⟩
def dkwX2_home_1 : List UInt8 := [28, 172]
abbrev dktX2_home_1 : List UInt8 := dkwX2_home_1 ++ []
def dkwX2_home_0 : List UInt8 := [42, 27, 182, 1, 117, 154, 0, 5, 2, 172, 42, 180, 0, 186, 27, 46, 61, 42, 180, 0, 186, 27, 3, 79]
abbrev dktX2_home_0 : List UInt8 := dkwX2_home_0 ++ dktX2_home_1
theorem dksX2_home_0 : cX2_home.data.toList.drop 0 = dktX2_home_0 := by decide +kernel
theorem dksX2_home_1 : cX2_home.data.toList.drop 24 = dktX2_home_1 := dk_seg dksX2_home_0 24 rfl rfl
theorem dX2_home_0 : decode cX2_home 0 = .ok (.aload_n 0, 1) := dk_42 (dk_at dksX2_home_0 0 rfl rfl)
theorem dX2_home_1 : decode cX2_home 1 = .ok (.iload_n 1, 1) := dk_27 (dk_at dksX2_home_0 1 rfl rfl)
theorem dX2_home_2 : decode cX2_home 2 = .ok (.invokevirtual 373, 3) := dk_182 1 117 (dk_at dksX2_home_0 2 rfl rfl)
theorem dX2_home_5 : decode cX2_home 5 = .ok (.ifCond .ne 5, 3) := dk_154 0 5 (dk_at dksX2_home_0 5 rfl rfl)
theorem dX2_home_8 : decode cX2_home 8 = .ok (.iconst (-1), 1) := dk_2 (dk_at dksX2_home_0 8 rfl rfl)
theorem dX2_home_9 : decode cX2_home 9 = .ok (.ireturn, 1) := dk_172 (dk_at dksX2_home_0 9 rfl rfl)
theorem dX2_home_10 : decode cX2_home 10 = .ok (.aload_n 0, 1) := dk_42 (dk_at dksX2_home_0 10 rfl rfl)
theorem dX2_home_11 : decode cX2_home 11 = .ok (.getfield 186, 3) := dk_180 0 186 (dk_at dksX2_home_0 11 rfl rfl)
theorem dX2_home_14 : decode cX2_home 14 = .ok (.iload_n 1, 1) := dk_27 (dk_at dksX2_home_0 14 rfl rfl)
theorem dX2_home_15 : decode cX2_home 15 = .ok (.iaload, 1) := dk_46 (dk_at dksX2_home_0 15 rfl rfl)
theorem dX2_home_16 : decode cX2_home 16 = .ok (.istore_n 2, 1) := dk_61 (dk_at dksX2_home_0 16 rfl rfl)
theorem dX2_home_17 : decode cX2_home 17 = .ok (.aload_n 0, 1) := dk_42 (dk_at dksX2_home_0 17 rfl rfl)
theorem dX2_home_18 : decode cX2_home 18 = .ok (.getfield 186, 3) := dk_180 0 186 (dk_at dksX2_home_0 18 rfl rfl)
theorem dX2_home_21 : decode cX2_home 21 = .ok (.iload_n 1, 1) := dk_27 (dk_at dksX2_home_0 21 rfl rfl)
theorem dX2_home_22 : decode cX2_home 22 = .ok (.iconst 0, 1) := dk_3 (dk_at dksX2_home_0 22 rfl rfl)
theorem dX2_home_23 : decode cX2_home 23 = .ok (.iastore, 1) := dk_79 (dk_at dksX2_home_0 23 rfl rfl)
theorem dX2_home_24 : decode cX2_home 24 = .ok (.iload_n 2, 1) := dk_28 (dk_at dksX2_home_1 0 rfl rfl)
theorem dX2_home_25 : decode cX2_home 25 = .ok (.ireturn, 1) := dk_172 (dk_at dksX2_home_1 1 rfl rfl)
abbrev cX2_works : ByteArray := prog_24_method_84_code
def yX2_works : MethodName := ⟨RX2, "works", "(III)I"⟩
def dkwX2_works_8 : List UInt8 := [167, 255, 95, 21, 4, 172]
abbrev dktX2_works_8 : List UInt8 := dkwX2_works_8 ++ []
def dkwX2_works_7 : List UInt8 := [16, 7, 160, 0, 17, 21, 4, 42, 27, 28, 29, 21, 8, 182, 1, 156, 96, 54, 4, 132, 5, 1]
abbrev dktX2_works_7 : List UInt8 := dkwX2_works_7 ++ dktX2_works_8
def dkwX2_works_6 : List UInt8 := [21, 5, 96, 4, 96, 46, 182, 1, 152, 54, 8, 42, 180, 0, 58, 17, 0, 240, 27, 104, 21, 8, 96, 46]
abbrev dktX2_works_6 : List UInt8 := dkwX2_works_6 ++ dktX2_works_7
def dkwX2_works_5 : List UInt8 := [160, 0, 6, 167, 0, 64, 42, 27, 17, 0, 240, 27, 104, 21, 7, 96, 42, 180, 0, 189, 16, 60, 27, 104]
abbrev dktX2_works_5 : List UInt8 := dkwX2_works_5 ++ dktX2_works_6
def dkwX2_works_4 : List UInt8 := [182, 1, 156, 96, 54, 4, 132, 8, 1, 167, 255, 232, 21, 5, 4, 96, 42, 180, 0, 186, 27, 46]
abbrev dktX2_works_4 : List UInt8 := dkwX2_works_4 ++ dktX2_works_5
def dkwX2_works_3 : List UInt8 := [27, 104, 21, 6, 96, 46, 54, 8, 21, 8, 21, 7, 163, 0, 23, 21, 4, 42, 27, 28, 29, 21, 8]
abbrev dktX2_works_3 : List UInt8 := dkwX2_works_3 ++ dktX2_works_4
def dkwX2_works_2 : List UInt8 := [46, 54, 6, 42, 27, 21, 6, 182, 1, 149, 17, 0, 240, 27, 104, 100, 54, 7, 42, 180, 0, 52, 16, 41]
abbrev dktX2_works_2 : List UInt8 := dkwX2_works_2 ++ dktX2_works_3
def dkwX2_works_1 : List UInt8 := [54, 5, 21, 5, 42, 180, 0, 186, 27, 46, 162, 0, 156, 42, 180, 0, 189, 16, 60, 27, 104, 21, 5, 96]
abbrev dktX2_works_1 : List UInt8 := dkwX2_works_1 ++ dktX2_works_2
def dkwX2_works_0 : List UInt8 := [42, 27, 29, 182, 1, 120, 153, 0, 11, 42, 28, 182, 1, 132, 154, 0, 5, 2, 172, 3, 54, 4, 3]
abbrev dktX2_works_0 : List UInt8 := dkwX2_works_0 ++ dktX2_works_1
theorem dksX2_works_0 : cX2_works.data.toList.drop 0 = dktX2_works_0 := by decide +kernel
theorem dksX2_works_1 : cX2_works.data.toList.drop 23 = dktX2_works_1 := dk_seg dksX2_works_0 23 rfl rfl
theorem dksX2_works_2 : cX2_works.data.toList.drop 47 = dktX2_works_2 := dk_seg dksX2_works_1 24 rfl rfl
theorem dksX2_works_3 : cX2_works.data.toList.drop 71 = dktX2_works_3 := dk_seg dksX2_works_2 24 rfl rfl
theorem dksX2_works_4 : cX2_works.data.toList.drop 94 = dktX2_works_4 := dk_seg dksX2_works_3 23 rfl rfl
theorem dksX2_works_5 : cX2_works.data.toList.drop 116 = dktX2_works_5 := dk_seg dksX2_works_4 22 rfl rfl
theorem dksX2_works_6 : cX2_works.data.toList.drop 140 = dktX2_works_6 := dk_seg dksX2_works_5 24 rfl rfl
theorem dksX2_works_7 : cX2_works.data.toList.drop 164 = dktX2_works_7 := dk_seg dksX2_works_6 24 rfl rfl
theorem dksX2_works_8 : cX2_works.data.toList.drop 186 = dktX2_works_8 := dk_seg dksX2_works_7 22 rfl rfl
theorem dX2_works_0 : decode cX2_works 0 = .ok (.aload_n 0, 1) := dk_42 (dk_at dksX2_works_0 0 rfl rfl)
theorem dX2_works_1 : decode cX2_works 1 = .ok (.iload_n 1, 1) := dk_27 (dk_at dksX2_works_0 1 rfl rfl)
theorem dX2_works_2 : decode cX2_works 2 = .ok (.iload_n 3, 1) := dk_29 (dk_at dksX2_works_0 2 rfl rfl)
theorem dX2_works_3 : decode cX2_works 3 = .ok (.invokevirtual 376, 3) := dk_182 1 120 (dk_at dksX2_works_0 3 rfl rfl)
theorem dX2_works_6 : decode cX2_works 6 = .ok (.ifCond .eq 11, 3) := dk_153 0 11 (dk_at dksX2_works_0 6 rfl rfl)
theorem dX2_works_9 : decode cX2_works 9 = .ok (.aload_n 0, 1) := dk_42 (dk_at dksX2_works_0 9 rfl rfl)
theorem dX2_works_10 : decode cX2_works 10 = .ok (.iload_n 2, 1) := dk_28 (dk_at dksX2_works_0 10 rfl rfl)
theorem dX2_works_11 : decode cX2_works 11 = .ok (.invokevirtual 388, 3) := dk_182 1 132 (dk_at dksX2_works_0 11 rfl rfl)
theorem dX2_works_14 : decode cX2_works 14 = .ok (.ifCond .ne 5, 3) := dk_154 0 5 (dk_at dksX2_works_0 14 rfl rfl)
theorem dX2_works_17 : decode cX2_works 17 = .ok (.iconst (-1), 1) := dk_2 (dk_at dksX2_works_0 17 rfl rfl)
theorem dX2_works_18 : decode cX2_works 18 = .ok (.ireturn, 1) := dk_172 (dk_at dksX2_works_0 18 rfl rfl)
theorem dX2_works_19 : decode cX2_works 19 = .ok (.iconst 0, 1) := dk_3 (dk_at dksX2_works_0 19 rfl rfl)
theorem dX2_works_20 : decode cX2_works 20 = .ok (.istore 4, 2) := dk_54 4 (dk_at dksX2_works_0 20 rfl rfl)
theorem dX2_works_22 : decode cX2_works 22 = .ok (.iconst 0, 1) := dk_3 (dk_at dksX2_works_0 22 rfl rfl)
theorem dX2_works_23 : decode cX2_works 23 = .ok (.istore 5, 2) := dk_54 5 (dk_at dksX2_works_1 0 rfl rfl)
theorem dX2_works_25 : decode cX2_works 25 = .ok (.iload 5, 2) := dk_21 5 (dk_at dksX2_works_1 2 rfl rfl)
theorem dX2_works_27 : decode cX2_works 27 = .ok (.aload_n 0, 1) := dk_42 (dk_at dksX2_works_1 4 rfl rfl)
theorem dX2_works_28 : decode cX2_works 28 = .ok (.getfield 186, 3) := dk_180 0 186 (dk_at dksX2_works_1 5 rfl rfl)
theorem dX2_works_31 : decode cX2_works 31 = .ok (.iload_n 1, 1) := dk_27 (dk_at dksX2_works_1 8 rfl rfl)
theorem dX2_works_32 : decode cX2_works 32 = .ok (.iaload, 1) := dk_46 (dk_at dksX2_works_1 9 rfl rfl)
theorem dX2_works_33 : decode cX2_works 33 = .ok (.if_icmp .ge 156, 3) := dk_162 0 156 (dk_at dksX2_works_1 10 rfl rfl)
theorem dX2_works_36 : decode cX2_works 36 = .ok (.aload_n 0, 1) := dk_42 (dk_at dksX2_works_1 13 rfl rfl)
theorem dX2_works_37 : decode cX2_works 37 = .ok (.getfield 189, 3) := dk_180 0 189 (dk_at dksX2_works_1 14 rfl rfl)
theorem dX2_works_40 : decode cX2_works 40 = .ok (.bipush 60, 2) := dk_16 60 (dk_at dksX2_works_1 17 rfl rfl)
theorem dX2_works_42 : decode cX2_works 42 = .ok (.iload_n 1, 1) := dk_27 (dk_at dksX2_works_1 19 rfl rfl)
theorem dX2_works_43 : decode cX2_works 43 = .ok (.imul, 1) := dk_104 (dk_at dksX2_works_1 20 rfl rfl)
theorem dX2_works_44 : decode cX2_works 44 = .ok (.iload 5, 2) := dk_21 5 (dk_at dksX2_works_1 21 rfl rfl)
theorem dX2_works_46 : decode cX2_works 46 = .ok (.iadd, 1) := dk_96 (dk_at dksX2_works_1 23 rfl rfl)
theorem dX2_works_47 : decode cX2_works 47 = .ok (.iaload, 1) := dk_46 (dk_at dksX2_works_2 0 rfl rfl)
theorem dX2_works_48 : decode cX2_works 48 = .ok (.istore 6, 2) := dk_54 6 (dk_at dksX2_works_2 1 rfl rfl)
theorem dX2_works_50 : decode cX2_works 50 = .ok (.aload_n 0, 1) := dk_42 (dk_at dksX2_works_2 3 rfl rfl)
theorem dX2_works_51 : decode cX2_works 51 = .ok (.iload_n 1, 1) := dk_27 (dk_at dksX2_works_2 4 rfl rfl)
theorem dX2_works_52 : decode cX2_works 52 = .ok (.iload 6, 2) := dk_21 6 (dk_at dksX2_works_2 5 rfl rfl)
theorem dX2_works_54 : decode cX2_works 54 = .ok (.invokevirtual 405, 3) := dk_182 1 149 (dk_at dksX2_works_2 7 rfl rfl)
theorem dX2_works_57 : decode cX2_works 57 = .ok (.sipush 240, 3) := dk_17 0 240 (dk_at dksX2_works_2 10 rfl rfl)
theorem dX2_works_60 : decode cX2_works 60 = .ok (.iload_n 1, 1) := dk_27 (dk_at dksX2_works_2 13 rfl rfl)
theorem dX2_works_61 : decode cX2_works 61 = .ok (.imul, 1) := dk_104 (dk_at dksX2_works_2 14 rfl rfl)
theorem dX2_works_62 : decode cX2_works 62 = .ok (.isub, 1) := dk_100 (dk_at dksX2_works_2 15 rfl rfl)
theorem dX2_works_63 : decode cX2_works 63 = .ok (.istore 7, 2) := dk_54 7 (dk_at dksX2_works_2 16 rfl rfl)
theorem dX2_works_65 : decode cX2_works 65 = .ok (.aload_n 0, 1) := dk_42 (dk_at dksX2_works_2 18 rfl rfl)
theorem dX2_works_66 : decode cX2_works 66 = .ok (.getfield 52, 3) := dk_180 0 52 (dk_at dksX2_works_2 19 rfl rfl)
theorem dX2_works_69 : decode cX2_works 69 = .ok (.bipush 41, 2) := dk_16 41 (dk_at dksX2_works_2 22 rfl rfl)
theorem dX2_works_71 : decode cX2_works 71 = .ok (.iload_n 1, 1) := dk_27 (dk_at dksX2_works_3 0 rfl rfl)
theorem dX2_works_72 : decode cX2_works 72 = .ok (.imul, 1) := dk_104 (dk_at dksX2_works_3 1 rfl rfl)
theorem dX2_works_73 : decode cX2_works 73 = .ok (.iload 6, 2) := dk_21 6 (dk_at dksX2_works_3 2 rfl rfl)
theorem dX2_works_75 : decode cX2_works 75 = .ok (.iadd, 1) := dk_96 (dk_at dksX2_works_3 4 rfl rfl)
theorem dX2_works_76 : decode cX2_works 76 = .ok (.iaload, 1) := dk_46 (dk_at dksX2_works_3 5 rfl rfl)
theorem dX2_works_77 : decode cX2_works 77 = .ok (.istore 8, 2) := dk_54 8 (dk_at dksX2_works_3 6 rfl rfl)
theorem dX2_works_79 : decode cX2_works 79 = .ok (.iload 8, 2) := dk_21 8 (dk_at dksX2_works_3 8 rfl rfl)
theorem dX2_works_81 : decode cX2_works 81 = .ok (.iload 7, 2) := dk_21 7 (dk_at dksX2_works_3 10 rfl rfl)
theorem dX2_works_83 : decode cX2_works 83 = .ok (.if_icmp .gt 23, 3) := dk_163 0 23 (dk_at dksX2_works_3 12 rfl rfl)
theorem dX2_works_86 : decode cX2_works 86 = .ok (.iload 4, 2) := dk_21 4 (dk_at dksX2_works_3 15 rfl rfl)
theorem dX2_works_88 : decode cX2_works 88 = .ok (.aload_n 0, 1) := dk_42 (dk_at dksX2_works_3 17 rfl rfl)
theorem dX2_works_89 : decode cX2_works 89 = .ok (.iload_n 1, 1) := dk_27 (dk_at dksX2_works_3 18 rfl rfl)
theorem dX2_works_90 : decode cX2_works 90 = .ok (.iload_n 2, 1) := dk_28 (dk_at dksX2_works_3 19 rfl rfl)
theorem dX2_works_91 : decode cX2_works 91 = .ok (.iload_n 3, 1) := dk_29 (dk_at dksX2_works_3 20 rfl rfl)
theorem dX2_works_92 : decode cX2_works 92 = .ok (.iload 8, 2) := dk_21 8 (dk_at dksX2_works_3 21 rfl rfl)
theorem dX2_works_94 : decode cX2_works 94 = .ok (.invokevirtual 412, 3) := dk_182 1 156 (dk_at dksX2_works_4 0 rfl rfl)
theorem dX2_works_97 : decode cX2_works 97 = .ok (.iadd, 1) := dk_96 (dk_at dksX2_works_4 3 rfl rfl)
theorem dX2_works_98 : decode cX2_works 98 = .ok (.istore 4, 2) := dk_54 4 (dk_at dksX2_works_4 4 rfl rfl)
theorem dX2_works_100 : decode cX2_works 100 = .ok (.iinc 8 1, 3) := dk_132 8 1 (dk_at dksX2_works_4 6 rfl rfl)
theorem dX2_works_103 : decode cX2_works 103 = .ok (.goto (-24), 3) := dk_167 255 232 (dk_at dksX2_works_4 9 rfl rfl)
theorem dX2_works_106 : decode cX2_works 106 = .ok (.iload 5, 2) := dk_21 5 (dk_at dksX2_works_4 12 rfl rfl)
theorem dX2_works_108 : decode cX2_works 108 = .ok (.iconst 1, 1) := dk_4 (dk_at dksX2_works_4 14 rfl rfl)
theorem dX2_works_109 : decode cX2_works 109 = .ok (.iadd, 1) := dk_96 (dk_at dksX2_works_4 15 rfl rfl)
theorem dX2_works_110 : decode cX2_works 110 = .ok (.aload_n 0, 1) := dk_42 (dk_at dksX2_works_4 16 rfl rfl)
theorem dX2_works_111 : decode cX2_works 111 = .ok (.getfield 186, 3) := dk_180 0 186 (dk_at dksX2_works_4 17 rfl rfl)
theorem dX2_works_114 : decode cX2_works 114 = .ok (.iload_n 1, 1) := dk_27 (dk_at dksX2_works_4 20 rfl rfl)
theorem dX2_works_115 : decode cX2_works 115 = .ok (.iaload, 1) := dk_46 (dk_at dksX2_works_4 21 rfl rfl)
theorem dX2_works_116 : decode cX2_works 116 = .ok (.if_icmp .ne 6, 3) := dk_160 0 6 (dk_at dksX2_works_5 0 rfl rfl)
theorem dX2_works_119 : decode cX2_works 119 = .ok (.goto 64, 3) := dk_167 0 64 (dk_at dksX2_works_5 3 rfl rfl)
theorem dX2_works_122 : decode cX2_works 122 = .ok (.aload_n 0, 1) := dk_42 (dk_at dksX2_works_5 6 rfl rfl)
theorem dX2_works_123 : decode cX2_works 123 = .ok (.iload_n 1, 1) := dk_27 (dk_at dksX2_works_5 7 rfl rfl)
theorem dX2_works_124 : decode cX2_works 124 = .ok (.sipush 240, 3) := dk_17 0 240 (dk_at dksX2_works_5 8 rfl rfl)
theorem dX2_works_127 : decode cX2_works 127 = .ok (.iload_n 1, 1) := dk_27 (dk_at dksX2_works_5 11 rfl rfl)
theorem dX2_works_128 : decode cX2_works 128 = .ok (.imul, 1) := dk_104 (dk_at dksX2_works_5 12 rfl rfl)
theorem dX2_works_129 : decode cX2_works 129 = .ok (.iload 7, 2) := dk_21 7 (dk_at dksX2_works_5 13 rfl rfl)
theorem dX2_works_131 : decode cX2_works 131 = .ok (.iadd, 1) := dk_96 (dk_at dksX2_works_5 15 rfl rfl)
theorem dX2_works_132 : decode cX2_works 132 = .ok (.aload_n 0, 1) := dk_42 (dk_at dksX2_works_5 16 rfl rfl)
theorem dX2_works_133 : decode cX2_works 133 = .ok (.getfield 189, 3) := dk_180 0 189 (dk_at dksX2_works_5 17 rfl rfl)
theorem dX2_works_136 : decode cX2_works 136 = .ok (.bipush 60, 2) := dk_16 60 (dk_at dksX2_works_5 20 rfl rfl)
theorem dX2_works_138 : decode cX2_works 138 = .ok (.iload_n 1, 1) := dk_27 (dk_at dksX2_works_5 22 rfl rfl)
theorem dX2_works_139 : decode cX2_works 139 = .ok (.imul, 1) := dk_104 (dk_at dksX2_works_5 23 rfl rfl)
theorem dX2_works_140 : decode cX2_works 140 = .ok (.iload 5, 2) := dk_21 5 (dk_at dksX2_works_6 0 rfl rfl)
theorem dX2_works_142 : decode cX2_works 142 = .ok (.iadd, 1) := dk_96 (dk_at dksX2_works_6 2 rfl rfl)
theorem dX2_works_143 : decode cX2_works 143 = .ok (.iconst 1, 1) := dk_4 (dk_at dksX2_works_6 3 rfl rfl)
theorem dX2_works_144 : decode cX2_works 144 = .ok (.iadd, 1) := dk_96 (dk_at dksX2_works_6 4 rfl rfl)
theorem dX2_works_145 : decode cX2_works 145 = .ok (.iaload, 1) := dk_46 (dk_at dksX2_works_6 5 rfl rfl)
theorem dX2_works_146 : decode cX2_works 146 = .ok (.invokevirtual 408, 3) := dk_182 1 152 (dk_at dksX2_works_6 6 rfl rfl)
theorem dX2_works_149 : decode cX2_works 149 = .ok (.istore 8, 2) := dk_54 8 (dk_at dksX2_works_6 9 rfl rfl)
theorem dX2_works_151 : decode cX2_works 151 = .ok (.aload_n 0, 1) := dk_42 (dk_at dksX2_works_6 11 rfl rfl)
theorem dX2_works_152 : decode cX2_works 152 = .ok (.getfield 58, 3) := dk_180 0 58 (dk_at dksX2_works_6 12 rfl rfl)
theorem dX2_works_155 : decode cX2_works 155 = .ok (.sipush 240, 3) := dk_17 0 240 (dk_at dksX2_works_6 15 rfl rfl)
theorem dX2_works_158 : decode cX2_works 158 = .ok (.iload_n 1, 1) := dk_27 (dk_at dksX2_works_6 18 rfl rfl)
theorem dX2_works_159 : decode cX2_works 159 = .ok (.imul, 1) := dk_104 (dk_at dksX2_works_6 19 rfl rfl)
theorem dX2_works_160 : decode cX2_works 160 = .ok (.iload 8, 2) := dk_21 8 (dk_at dksX2_works_6 20 rfl rfl)
theorem dX2_works_162 : decode cX2_works 162 = .ok (.iadd, 1) := dk_96 (dk_at dksX2_works_6 22 rfl rfl)
theorem dX2_works_163 : decode cX2_works 163 = .ok (.iaload, 1) := dk_46 (dk_at dksX2_works_6 23 rfl rfl)
theorem dX2_works_164 : decode cX2_works 164 = .ok (.bipush 7, 2) := dk_16 7 (dk_at dksX2_works_7 0 rfl rfl)
theorem dX2_works_166 : decode cX2_works 166 = .ok (.if_icmp .ne 17, 3) := dk_160 0 17 (dk_at dksX2_works_7 2 rfl rfl)
theorem dX2_works_169 : decode cX2_works 169 = .ok (.iload 4, 2) := dk_21 4 (dk_at dksX2_works_7 5 rfl rfl)
theorem dX2_works_171 : decode cX2_works 171 = .ok (.aload_n 0, 1) := dk_42 (dk_at dksX2_works_7 7 rfl rfl)
theorem dX2_works_172 : decode cX2_works 172 = .ok (.iload_n 1, 1) := dk_27 (dk_at dksX2_works_7 8 rfl rfl)
theorem dX2_works_173 : decode cX2_works 173 = .ok (.iload_n 2, 1) := dk_28 (dk_at dksX2_works_7 9 rfl rfl)
theorem dX2_works_174 : decode cX2_works 174 = .ok (.iload_n 3, 1) := dk_29 (dk_at dksX2_works_7 10 rfl rfl)
theorem dX2_works_175 : decode cX2_works 175 = .ok (.iload 8, 2) := dk_21 8 (dk_at dksX2_works_7 11 rfl rfl)
theorem dX2_works_177 : decode cX2_works 177 = .ok (.invokevirtual 412, 3) := dk_182 1 156 (dk_at dksX2_works_7 13 rfl rfl)
theorem dX2_works_180 : decode cX2_works 180 = .ok (.iadd, 1) := dk_96 (dk_at dksX2_works_7 16 rfl rfl)
theorem dX2_works_181 : decode cX2_works 181 = .ok (.istore 4, 2) := dk_54 4 (dk_at dksX2_works_7 17 rfl rfl)
theorem dX2_works_183 : decode cX2_works 183 = .ok (.iinc 5 1, 3) := dk_132 5 1 (dk_at dksX2_works_7 19 rfl rfl)
theorem dX2_works_186 : decode cX2_works 186 = .ok (.goto (-161), 3) := dk_167 255 95 (dk_at dksX2_works_8 0 rfl rfl)
theorem dX2_works_189 : decode cX2_works 189 = .ok (.iload 4, 2) := dk_21 4 (dk_at dksX2_works_8 3 rfl rfl)
theorem dX2_works_191 : decode cX2_works 191 = .ok (.ireturn, 1) := dk_172 (dk_at dksX2_works_8 5 rfl rfl)
abbrev cX2_worksAt : ByteArray := prog_24_method_83_code
def yX2_worksAt : MethodName := ⟨RX2, "worksAt", "(IIII)I"⟩
def dkwX2_worksAt_2 : List UInt8 := [167, 0, 4, 3, 96, 172]
abbrev dktX2_worksAt_2 : List UInt8 := dkwX2_worksAt_2 ++ []
def dkwX2_worksAt_1 : List UInt8 := [27, 104, 21, 4, 96, 46, 29, 160, 0, 19, 42, 27, 28, 29, 21, 4, 182, 1, 129, 154, 0, 7, 4]
abbrev dktX2_worksAt_1 : List UInt8 := dkwX2_worksAt_1 ++ dktX2_worksAt_2
def dkwX2_worksAt_0 : List UInt8 := [42, 27, 28, 29, 21, 4, 182, 1, 126, 153, 0, 7, 4, 167, 0, 4, 3, 42, 180, 0, 67, 17, 0, 240]
abbrev dktX2_worksAt_0 : List UInt8 := dkwX2_worksAt_0 ++ dktX2_worksAt_1
theorem dksX2_worksAt_0 : cX2_worksAt.data.toList.drop 0 = dktX2_worksAt_0 := by decide +kernel
theorem dksX2_worksAt_1 : cX2_worksAt.data.toList.drop 24 = dktX2_worksAt_1 := dk_seg dksX2_worksAt_0 24 rfl rfl
theorem dksX2_worksAt_2 : cX2_worksAt.data.toList.drop 47 = dktX2_worksAt_2 := dk_seg dksX2_worksAt_1 23 rfl rfl
theorem dX2_worksAt_0 : decode cX2_worksAt 0 = .ok (.aload_n 0, 1) := dk_42 (dk_at dksX2_worksAt_0 0 rfl rfl)
theorem dX2_worksAt_1 : decode cX2_worksAt 1 = .ok (.iload_n 1, 1) := dk_27 (dk_at dksX2_worksAt_0 1 rfl rfl)
theorem dX2_worksAt_2 : decode cX2_worksAt 2 = .ok (.iload_n 2, 1) := dk_28 (dk_at dksX2_worksAt_0 2 rfl rfl)
theorem dX2_worksAt_3 : decode cX2_worksAt 3 = .ok (.iload_n 3, 1) := dk_29 (dk_at dksX2_worksAt_0 3 rfl rfl)
theorem dX2_worksAt_4 : decode cX2_worksAt 4 = .ok (.iload 4, 2) := dk_21 4 (dk_at dksX2_worksAt_0 4 rfl rfl)
theorem dX2_worksAt_6 : decode cX2_worksAt 6 = .ok (.invokevirtual 382, 3) := dk_182 1 126 (dk_at dksX2_worksAt_0 6 rfl rfl)
theorem dX2_worksAt_9 : decode cX2_worksAt 9 = .ok (.ifCond .eq 7, 3) := dk_153 0 7 (dk_at dksX2_worksAt_0 9 rfl rfl)
theorem dX2_worksAt_12 : decode cX2_worksAt 12 = .ok (.iconst 1, 1) := dk_4 (dk_at dksX2_worksAt_0 12 rfl rfl)
theorem dX2_worksAt_13 : decode cX2_worksAt 13 = .ok (.goto 4, 3) := dk_167 0 4 (dk_at dksX2_worksAt_0 13 rfl rfl)
theorem dX2_worksAt_16 : decode cX2_worksAt 16 = .ok (.iconst 0, 1) := dk_3 (dk_at dksX2_worksAt_0 16 rfl rfl)
theorem dX2_worksAt_17 : decode cX2_worksAt 17 = .ok (.aload_n 0, 1) := dk_42 (dk_at dksX2_worksAt_0 17 rfl rfl)
theorem dX2_worksAt_18 : decode cX2_worksAt 18 = .ok (.getfield 67, 3) := dk_180 0 67 (dk_at dksX2_worksAt_0 18 rfl rfl)
theorem dX2_worksAt_21 : decode cX2_worksAt 21 = .ok (.sipush 240, 3) := dk_17 0 240 (dk_at dksX2_worksAt_0 21 rfl rfl)
theorem dX2_worksAt_24 : decode cX2_worksAt 24 = .ok (.iload_n 1, 1) := dk_27 (dk_at dksX2_worksAt_1 0 rfl rfl)
theorem dX2_worksAt_25 : decode cX2_worksAt 25 = .ok (.imul, 1) := dk_104 (dk_at dksX2_worksAt_1 1 rfl rfl)
theorem dX2_worksAt_26 : decode cX2_worksAt 26 = .ok (.iload 4, 2) := dk_21 4 (dk_at dksX2_worksAt_1 2 rfl rfl)
theorem dX2_worksAt_28 : decode cX2_worksAt 28 = .ok (.iadd, 1) := dk_96 (dk_at dksX2_worksAt_1 4 rfl rfl)
theorem dX2_worksAt_29 : decode cX2_worksAt 29 = .ok (.iaload, 1) := dk_46 (dk_at dksX2_worksAt_1 5 rfl rfl)
theorem dX2_worksAt_30 : decode cX2_worksAt 30 = .ok (.iload_n 3, 1) := dk_29 (dk_at dksX2_worksAt_1 6 rfl rfl)
theorem dX2_worksAt_31 : decode cX2_worksAt 31 = .ok (.if_icmp .ne 19, 3) := dk_160 0 19 (dk_at dksX2_worksAt_1 7 rfl rfl)
theorem dX2_worksAt_34 : decode cX2_worksAt 34 = .ok (.aload_n 0, 1) := dk_42 (dk_at dksX2_worksAt_1 10 rfl rfl)
theorem dX2_worksAt_35 : decode cX2_worksAt 35 = .ok (.iload_n 1, 1) := dk_27 (dk_at dksX2_worksAt_1 11 rfl rfl)
theorem dX2_worksAt_36 : decode cX2_worksAt 36 = .ok (.iload_n 2, 1) := dk_28 (dk_at dksX2_worksAt_1 12 rfl rfl)
theorem dX2_worksAt_37 : decode cX2_worksAt 37 = .ok (.iload_n 3, 1) := dk_29 (dk_at dksX2_worksAt_1 13 rfl rfl)
theorem dX2_worksAt_38 : decode cX2_worksAt 38 = .ok (.iload 4, 2) := dk_21 4 (dk_at dksX2_worksAt_1 14 rfl rfl)
theorem dX2_worksAt_40 : decode cX2_worksAt 40 = .ok (.invokevirtual 385, 3) := dk_182 1 129 (dk_at dksX2_worksAt_1 16 rfl rfl)
theorem dX2_worksAt_43 : decode cX2_worksAt 43 = .ok (.ifCond .ne 7, 3) := dk_154 0 7 (dk_at dksX2_worksAt_1 19 rfl rfl)
theorem dX2_worksAt_46 : decode cX2_worksAt 46 = .ok (.iconst 1, 1) := dk_4 (dk_at dksX2_worksAt_1 22 rfl rfl)
theorem dX2_worksAt_47 : decode cX2_worksAt 47 = .ok (.goto 4, 3) := dk_167 0 4 (dk_at dksX2_worksAt_2 0 rfl rfl)
theorem dX2_worksAt_50 : decode cX2_worksAt 50 = .ok (.iconst 0, 1) := dk_3 (dk_at dksX2_worksAt_2 3 rfl rfl)
theorem dX2_worksAt_51 : decode cX2_worksAt 51 = .ok (.iadd, 1) := dk_96 (dk_at dksX2_worksAt_2 4 rfl rfl)
theorem dX2_worksAt_52 : decode cX2_worksAt 52 = .ok (.ireturn, 1) := dk_172 (dk_at dksX2_worksAt_2 5 rfl rfl)
abbrev cX2_write : ByteArray := prog_24_method_102_code
def yX2_write : MethodName := ⟨RX2, "write", "(II)I"⟩
def dkwX2_write_13 : List UInt8 := [167, 255, 230, 42, 42, 180, 0, 196, 181, 0, 13, 42, 180, 0, 196, 172]
abbrev dktX2_write_13 : List UInt8 := dkwX2_write_13 ++ []
def dkwX2_write_12 : List UInt8 := [42, 180, 0, 196, 162, 0, 23, 42, 180, 0, 7, 21, 4, 42, 180, 0, 193, 21, 4, 46, 79, 132, 4, 1]
abbrev dktX2_write_12 : List UInt8 := dkwX2_write_12 ++ dktX2_write_13
def dkwX2_write_11 : List UInt8 := [132, 4, 1, 167, 255, 185, 42, 180, 0, 196, 17, 11, 184, 164, 0, 6, 16, 253, 172, 3, 54, 4, 21, 4]
abbrev dktX2_write_11 : List UInt8 := dkwX2_write_11 ++ dktX2_write_12
def dkwX2_write_10 : List UInt8 := [182, 1, 176, 42, 42, 180, 0, 61, 17, 0, 240, 27, 104, 21, 4, 96, 46, 182, 1, 192, 42, 182, 1, 187]
abbrev dktX2_write_10 : List UInt8 := dkwX2_write_10 ++ dktX2_write_11
def dkwX2_write_9 : List UInt8 := [167, 0, 47, 42, 42, 180, 0, 199, 21, 4, 46, 182, 1, 201, 42, 27, 28, 21, 4, 182, 1, 204, 42]
abbrev dktX2_write_9 : List UInt8 := dkwX2_write_9 ++ dktX2_write_10
def dkwX2_write_8 : List UInt8 := [54, 4, 21, 4, 42, 180, 0, 43, 27, 46, 162, 0, 66, 42, 180, 0, 199, 21, 4, 46, 156, 0, 6]
abbrev dktX2_write_8 : List UInt8 := dkwX2_write_8 ++ dktX2_write_9
def dkwX2_write_7 : List UInt8 := [28, 21, 5, 182, 1, 207, 132, 5, 1, 167, 255, 219, 132, 4, 1, 167, 255, 182, 42, 180, 0, 46, 27, 46]
abbrev dktX2_write_7 : List UInt8 := dkwX2_write_7 ++ dktX2_write_8
def dkwX2_write_6 : List UInt8 := [21, 4, 182, 1, 149, 17, 0, 240, 27, 104, 100, 163, 0, 25, 42, 27, 28, 21, 5, 182, 1, 204, 42, 27]
abbrev dktX2_write_6 : List UInt8 := dkwX2_write_6 ++ dktX2_write_7
def dkwX2_write_5 : List UInt8 := [21, 4, 182, 1, 201, 42, 180, 0, 52, 16, 41, 27, 104, 21, 4, 96, 46, 54, 5, 21, 5, 42, 27]
abbrev dktX2_write_5 : List UInt8 := dkwX2_write_5 ++ dktX2_write_6
def dkwX2_write_4 : List UInt8 := [132, 3, 1, 132, 4, 1, 167, 255, 209, 3, 54, 4, 21, 4, 42, 180, 0, 40, 27, 46, 162, 0, 69, 42]
abbrev dktX2_write_4 : List UInt8 := dkwX2_write_4 ++ dktX2_write_5
def dkwX2_write_3 : List UInt8 := [2, 79, 42, 27, 28, 21, 4, 182, 1, 198, 154, 0, 6, 167, 0, 14, 42, 180, 0, 199, 21, 4, 29, 79]
abbrev dktX2_write_3 : List UInt8 := dkwX2_write_3 ++ dktX2_write_4
def dkwX2_write_2 : List UInt8 := [180, 0, 46, 27, 46, 54, 4, 21, 4, 42, 180, 0, 43, 27, 46, 162, 0, 42, 42, 180, 0, 199, 21, 4]
abbrev dktX2_write_2 : List UInt8 := dkwX2_write_2 ++ dktX2_write_3
def dkwX2_write_1 : List UInt8 := [182, 1, 195, 153, 0, 6, 16, 252, 172, 42, 3, 181, 0, 196, 42, 180, 0, 40, 27, 46, 62, 42]
abbrev dktX2_write_1 : List UInt8 := dkwX2_write_1 ++ dktX2_write_2
def dkwX2_write_0 : List UInt8 := [42, 27, 182, 1, 117, 153, 0, 11, 42, 28, 182, 1, 132, 154, 0, 5, 2, 172, 28, 158, 0, 14, 42, 27]
abbrev dktX2_write_0 : List UInt8 := dkwX2_write_0 ++ dktX2_write_1
theorem dksX2_write_0 : cX2_write.data.toList.drop 0 = dktX2_write_0 := by decide +kernel
theorem dksX2_write_1 : cX2_write.data.toList.drop 24 = dktX2_write_1 := dk_seg dksX2_write_0 24 rfl rfl
theorem dksX2_write_2 : cX2_write.data.toList.drop 46 = dktX2_write_2 := dk_seg dksX2_write_1 22 rfl rfl
theorem dksX2_write_3 : cX2_write.data.toList.drop 70 = dktX2_write_3 := dk_seg dksX2_write_2 24 rfl rfl
theorem dksX2_write_4 : cX2_write.data.toList.drop 94 = dktX2_write_4 := dk_seg dksX2_write_3 24 rfl rfl
theorem dksX2_write_5 : cX2_write.data.toList.drop 118 = dktX2_write_5 := dk_seg dksX2_write_4 24 rfl rfl
theorem dksX2_write_6 : cX2_write.data.toList.drop 141 = dktX2_write_6 := dk_seg dksX2_write_5 23 rfl rfl
theorem dksX2_write_7 : cX2_write.data.toList.drop 165 = dktX2_write_7 := dk_seg dksX2_write_6 24 rfl rfl
theorem dksX2_write_8 : cX2_write.data.toList.drop 189 = dktX2_write_8 := dk_seg dksX2_write_7 24 rfl rfl
theorem dksX2_write_9 : cX2_write.data.toList.drop 212 = dktX2_write_9 := dk_seg dksX2_write_8 23 rfl rfl
theorem dksX2_write_10 : cX2_write.data.toList.drop 235 = dktX2_write_10 := dk_seg dksX2_write_9 23 rfl rfl
theorem dksX2_write_11 : cX2_write.data.toList.drop 259 = dktX2_write_11 := dk_seg dksX2_write_10 24 rfl rfl
theorem dksX2_write_12 : cX2_write.data.toList.drop 283 = dktX2_write_12 := dk_seg dksX2_write_11 24 rfl rfl
theorem dksX2_write_13 : cX2_write.data.toList.drop 307 = dktX2_write_13 := dk_seg dksX2_write_12 24 rfl rfl
theorem dX2_write_0 : decode cX2_write 0 = .ok (.aload_n 0, 1) := dk_42 (dk_at dksX2_write_0 0 rfl rfl)
theorem dX2_write_1 : decode cX2_write 1 = .ok (.iload_n 1, 1) := dk_27 (dk_at dksX2_write_0 1 rfl rfl)
theorem dX2_write_2 : decode cX2_write 2 = .ok (.invokevirtual 373, 3) := dk_182 1 117 (dk_at dksX2_write_0 2 rfl rfl)
theorem dX2_write_5 : decode cX2_write 5 = .ok (.ifCond .eq 11, 3) := dk_153 0 11 (dk_at dksX2_write_0 5 rfl rfl)
theorem dX2_write_8 : decode cX2_write 8 = .ok (.aload_n 0, 1) := dk_42 (dk_at dksX2_write_0 8 rfl rfl)
theorem dX2_write_9 : decode cX2_write 9 = .ok (.iload_n 2, 1) := dk_28 (dk_at dksX2_write_0 9 rfl rfl)
theorem dX2_write_10 : decode cX2_write 10 = .ok (.invokevirtual 388, 3) := dk_182 1 132 (dk_at dksX2_write_0 10 rfl rfl)
theorem dX2_write_13 : decode cX2_write 13 = .ok (.ifCond .ne 5, 3) := dk_154 0 5 (dk_at dksX2_write_0 13 rfl rfl)
theorem dX2_write_16 : decode cX2_write 16 = .ok (.iconst (-1), 1) := dk_2 (dk_at dksX2_write_0 16 rfl rfl)
theorem dX2_write_17 : decode cX2_write 17 = .ok (.ireturn, 1) := dk_172 (dk_at dksX2_write_0 17 rfl rfl)
theorem dX2_write_18 : decode cX2_write 18 = .ok (.iload_n 2, 1) := dk_28 (dk_at dksX2_write_0 18 rfl rfl)
theorem dX2_write_19 : decode cX2_write 19 = .ok (.ifCond .le 14, 3) := dk_158 0 14 (dk_at dksX2_write_0 19 rfl rfl)
theorem dX2_write_22 : decode cX2_write 22 = .ok (.aload_n 0, 1) := dk_42 (dk_at dksX2_write_0 22 rfl rfl)
theorem dX2_write_23 : decode cX2_write 23 = .ok (.iload_n 1, 1) := dk_27 (dk_at dksX2_write_0 23 rfl rfl)
theorem dX2_write_24 : decode cX2_write 24 = .ok (.invokevirtual 451, 3) := dk_182 1 195 (dk_at dksX2_write_1 0 rfl rfl)
theorem dX2_write_27 : decode cX2_write 27 = .ok (.ifCond .eq 6, 3) := dk_153 0 6 (dk_at dksX2_write_1 3 rfl rfl)
theorem dX2_write_30 : decode cX2_write 30 = .ok (.bipush (-4), 2) := dk_16 252 (dk_at dksX2_write_1 6 rfl rfl)
theorem dX2_write_32 : decode cX2_write 32 = .ok (.ireturn, 1) := dk_172 (dk_at dksX2_write_1 8 rfl rfl)
theorem dX2_write_33 : decode cX2_write 33 = .ok (.aload_n 0, 1) := dk_42 (dk_at dksX2_write_1 9 rfl rfl)
theorem dX2_write_34 : decode cX2_write 34 = .ok (.iconst 0, 1) := dk_3 (dk_at dksX2_write_1 10 rfl rfl)
theorem dX2_write_35 : decode cX2_write 35 = .ok (.putfield 196, 3) := dk_181 0 196 (dk_at dksX2_write_1 11 rfl rfl)
theorem dX2_write_38 : decode cX2_write 38 = .ok (.aload_n 0, 1) := dk_42 (dk_at dksX2_write_1 14 rfl rfl)
theorem dX2_write_39 : decode cX2_write 39 = .ok (.getfield 40, 3) := dk_180 0 40 (dk_at dksX2_write_1 15 rfl rfl)
theorem dX2_write_42 : decode cX2_write 42 = .ok (.iload_n 1, 1) := dk_27 (dk_at dksX2_write_1 18 rfl rfl)
theorem dX2_write_43 : decode cX2_write 43 = .ok (.iaload, 1) := dk_46 (dk_at dksX2_write_1 19 rfl rfl)
theorem dX2_write_44 : decode cX2_write 44 = .ok (.istore_n 3, 1) := dk_62 (dk_at dksX2_write_1 20 rfl rfl)
theorem dX2_write_45 : decode cX2_write 45 = .ok (.aload_n 0, 1) := dk_42 (dk_at dksX2_write_1 21 rfl rfl)
theorem dX2_write_46 : decode cX2_write 46 = .ok (.getfield 46, 3) := dk_180 0 46 (dk_at dksX2_write_2 0 rfl rfl)
theorem dX2_write_49 : decode cX2_write 49 = .ok (.iload_n 1, 1) := dk_27 (dk_at dksX2_write_2 3 rfl rfl)
theorem dX2_write_50 : decode cX2_write 50 = .ok (.iaload, 1) := dk_46 (dk_at dksX2_write_2 4 rfl rfl)
theorem dX2_write_51 : decode cX2_write 51 = .ok (.istore 4, 2) := dk_54 4 (dk_at dksX2_write_2 5 rfl rfl)
theorem dX2_write_53 : decode cX2_write 53 = .ok (.iload 4, 2) := dk_21 4 (dk_at dksX2_write_2 7 rfl rfl)
theorem dX2_write_55 : decode cX2_write 55 = .ok (.aload_n 0, 1) := dk_42 (dk_at dksX2_write_2 9 rfl rfl)
theorem dX2_write_56 : decode cX2_write 56 = .ok (.getfield 43, 3) := dk_180 0 43 (dk_at dksX2_write_2 10 rfl rfl)
theorem dX2_write_59 : decode cX2_write 59 = .ok (.iload_n 1, 1) := dk_27 (dk_at dksX2_write_2 13 rfl rfl)
theorem dX2_write_60 : decode cX2_write 60 = .ok (.iaload, 1) := dk_46 (dk_at dksX2_write_2 14 rfl rfl)
theorem dX2_write_61 : decode cX2_write 61 = .ok (.if_icmp .ge 42, 3) := dk_162 0 42 (dk_at dksX2_write_2 15 rfl rfl)
theorem dX2_write_64 : decode cX2_write 64 = .ok (.aload_n 0, 1) := dk_42 (dk_at dksX2_write_2 18 rfl rfl)
theorem dX2_write_65 : decode cX2_write 65 = .ok (.getfield 199, 3) := dk_180 0 199 (dk_at dksX2_write_2 19 rfl rfl)
theorem dX2_write_68 : decode cX2_write 68 = .ok (.iload 4, 2) := dk_21 4 (dk_at dksX2_write_2 22 rfl rfl)
theorem dX2_write_70 : decode cX2_write 70 = .ok (.iconst (-1), 1) := dk_2 (dk_at dksX2_write_3 0 rfl rfl)
theorem dX2_write_71 : decode cX2_write 71 = .ok (.iastore, 1) := dk_79 (dk_at dksX2_write_3 1 rfl rfl)
theorem dX2_write_72 : decode cX2_write 72 = .ok (.aload_n 0, 1) := dk_42 (dk_at dksX2_write_3 2 rfl rfl)
theorem dX2_write_73 : decode cX2_write 73 = .ok (.iload_n 1, 1) := dk_27 (dk_at dksX2_write_3 3 rfl rfl)
theorem dX2_write_74 : decode cX2_write 74 = .ok (.iload_n 2, 1) := dk_28 (dk_at dksX2_write_3 4 rfl rfl)
theorem dX2_write_75 : decode cX2_write 75 = .ok (.iload 4, 2) := dk_21 4 (dk_at dksX2_write_3 5 rfl rfl)
theorem dX2_write_77 : decode cX2_write 77 = .ok (.invokevirtual 454, 3) := dk_182 1 198 (dk_at dksX2_write_3 7 rfl rfl)
theorem dX2_write_80 : decode cX2_write 80 = .ok (.ifCond .ne 6, 3) := dk_154 0 6 (dk_at dksX2_write_3 10 rfl rfl)
theorem dX2_write_83 : decode cX2_write 83 = .ok (.goto 14, 3) := dk_167 0 14 (dk_at dksX2_write_3 13 rfl rfl)
theorem dX2_write_86 : decode cX2_write 86 = .ok (.aload_n 0, 1) := dk_42 (dk_at dksX2_write_3 16 rfl rfl)
theorem dX2_write_87 : decode cX2_write 87 = .ok (.getfield 199, 3) := dk_180 0 199 (dk_at dksX2_write_3 17 rfl rfl)
theorem dX2_write_90 : decode cX2_write 90 = .ok (.iload 4, 2) := dk_21 4 (dk_at dksX2_write_3 20 rfl rfl)
theorem dX2_write_92 : decode cX2_write 92 = .ok (.iload_n 3, 1) := dk_29 (dk_at dksX2_write_3 22 rfl rfl)
theorem dX2_write_93 : decode cX2_write 93 = .ok (.iastore, 1) := dk_79 (dk_at dksX2_write_3 23 rfl rfl)
theorem dX2_write_94 : decode cX2_write 94 = .ok (.iinc 3 1, 3) := dk_132 3 1 (dk_at dksX2_write_4 0 rfl rfl)
theorem dX2_write_97 : decode cX2_write 97 = .ok (.iinc 4 1, 3) := dk_132 4 1 (dk_at dksX2_write_4 3 rfl rfl)
theorem dX2_write_100 : decode cX2_write 100 = .ok (.goto (-47), 3) := dk_167 255 209 (dk_at dksX2_write_4 6 rfl rfl)
theorem dX2_write_103 : decode cX2_write 103 = .ok (.iconst 0, 1) := dk_3 (dk_at dksX2_write_4 9 rfl rfl)
theorem dX2_write_104 : decode cX2_write 104 = .ok (.istore 4, 2) := dk_54 4 (dk_at dksX2_write_4 10 rfl rfl)
theorem dX2_write_106 : decode cX2_write 106 = .ok (.iload 4, 2) := dk_21 4 (dk_at dksX2_write_4 12 rfl rfl)
theorem dX2_write_108 : decode cX2_write 108 = .ok (.aload_n 0, 1) := dk_42 (dk_at dksX2_write_4 14 rfl rfl)
theorem dX2_write_109 : decode cX2_write 109 = .ok (.getfield 40, 3) := dk_180 0 40 (dk_at dksX2_write_4 15 rfl rfl)
theorem dX2_write_112 : decode cX2_write 112 = .ok (.iload_n 1, 1) := dk_27 (dk_at dksX2_write_4 18 rfl rfl)
theorem dX2_write_113 : decode cX2_write 113 = .ok (.iaload, 1) := dk_46 (dk_at dksX2_write_4 19 rfl rfl)
theorem dX2_write_114 : decode cX2_write 114 = .ok (.if_icmp .ge 69, 3) := dk_162 0 69 (dk_at dksX2_write_4 20 rfl rfl)
theorem dX2_write_117 : decode cX2_write 117 = .ok (.aload_n 0, 1) := dk_42 (dk_at dksX2_write_4 23 rfl rfl)
theorem dX2_write_118 : decode cX2_write 118 = .ok (.iload 4, 2) := dk_21 4 (dk_at dksX2_write_5 0 rfl rfl)
theorem dX2_write_120 : decode cX2_write 120 = .ok (.invokevirtual 457, 3) := dk_182 1 201 (dk_at dksX2_write_5 2 rfl rfl)
theorem dX2_write_123 : decode cX2_write 123 = .ok (.aload_n 0, 1) := dk_42 (dk_at dksX2_write_5 5 rfl rfl)
theorem dX2_write_124 : decode cX2_write 124 = .ok (.getfield 52, 3) := dk_180 0 52 (dk_at dksX2_write_5 6 rfl rfl)
theorem dX2_write_127 : decode cX2_write 127 = .ok (.bipush 41, 2) := dk_16 41 (dk_at dksX2_write_5 9 rfl rfl)
theorem dX2_write_129 : decode cX2_write 129 = .ok (.iload_n 1, 1) := dk_27 (dk_at dksX2_write_5 11 rfl rfl)
theorem dX2_write_130 : decode cX2_write 130 = .ok (.imul, 1) := dk_104 (dk_at dksX2_write_5 12 rfl rfl)
theorem dX2_write_131 : decode cX2_write 131 = .ok (.iload 4, 2) := dk_21 4 (dk_at dksX2_write_5 13 rfl rfl)
theorem dX2_write_133 : decode cX2_write 133 = .ok (.iadd, 1) := dk_96 (dk_at dksX2_write_5 15 rfl rfl)
theorem dX2_write_134 : decode cX2_write 134 = .ok (.iaload, 1) := dk_46 (dk_at dksX2_write_5 16 rfl rfl)
theorem dX2_write_135 : decode cX2_write 135 = .ok (.istore 5, 2) := dk_54 5 (dk_at dksX2_write_5 17 rfl rfl)
theorem dX2_write_137 : decode cX2_write 137 = .ok (.iload 5, 2) := dk_21 5 (dk_at dksX2_write_5 19 rfl rfl)
theorem dX2_write_139 : decode cX2_write 139 = .ok (.aload_n 0, 1) := dk_42 (dk_at dksX2_write_5 21 rfl rfl)
theorem dX2_write_140 : decode cX2_write 140 = .ok (.iload_n 1, 1) := dk_27 (dk_at dksX2_write_5 22 rfl rfl)
theorem dX2_write_141 : decode cX2_write 141 = .ok (.iload 4, 2) := dk_21 4 (dk_at dksX2_write_6 0 rfl rfl)
theorem dX2_write_143 : decode cX2_write 143 = .ok (.invokevirtual 405, 3) := dk_182 1 149 (dk_at dksX2_write_6 2 rfl rfl)
theorem dX2_write_146 : decode cX2_write 146 = .ok (.sipush 240, 3) := dk_17 0 240 (dk_at dksX2_write_6 5 rfl rfl)
theorem dX2_write_149 : decode cX2_write 149 = .ok (.iload_n 1, 1) := dk_27 (dk_at dksX2_write_6 8 rfl rfl)
theorem dX2_write_150 : decode cX2_write 150 = .ok (.imul, 1) := dk_104 (dk_at dksX2_write_6 9 rfl rfl)
theorem dX2_write_151 : decode cX2_write 151 = .ok (.isub, 1) := dk_100 (dk_at dksX2_write_6 10 rfl rfl)
theorem dX2_write_152 : decode cX2_write 152 = .ok (.if_icmp .gt 25, 3) := dk_163 0 25 (dk_at dksX2_write_6 11 rfl rfl)
theorem dX2_write_155 : decode cX2_write 155 = .ok (.aload_n 0, 1) := dk_42 (dk_at dksX2_write_6 14 rfl rfl)
theorem dX2_write_156 : decode cX2_write 156 = .ok (.iload_n 1, 1) := dk_27 (dk_at dksX2_write_6 15 rfl rfl)
theorem dX2_write_157 : decode cX2_write 157 = .ok (.iload_n 2, 1) := dk_28 (dk_at dksX2_write_6 16 rfl rfl)
theorem dX2_write_158 : decode cX2_write 158 = .ok (.iload 5, 2) := dk_21 5 (dk_at dksX2_write_6 17 rfl rfl)
theorem dX2_write_160 : decode cX2_write 160 = .ok (.invokevirtual 460, 3) := dk_182 1 204 (dk_at dksX2_write_6 19 rfl rfl)
theorem dX2_write_163 : decode cX2_write 163 = .ok (.aload_n 0, 1) := dk_42 (dk_at dksX2_write_6 22 rfl rfl)
theorem dX2_write_164 : decode cX2_write 164 = .ok (.iload_n 1, 1) := dk_27 (dk_at dksX2_write_6 23 rfl rfl)
theorem dX2_write_165 : decode cX2_write 165 = .ok (.iload_n 2, 1) := dk_28 (dk_at dksX2_write_7 0 rfl rfl)
theorem dX2_write_166 : decode cX2_write 166 = .ok (.iload 5, 2) := dk_21 5 (dk_at dksX2_write_7 1 rfl rfl)
theorem dX2_write_168 : decode cX2_write 168 = .ok (.invokevirtual 463, 3) := dk_182 1 207 (dk_at dksX2_write_7 3 rfl rfl)
theorem dX2_write_171 : decode cX2_write 171 = .ok (.iinc 5 1, 3) := dk_132 5 1 (dk_at dksX2_write_7 6 rfl rfl)
theorem dX2_write_174 : decode cX2_write 174 = .ok (.goto (-37), 3) := dk_167 255 219 (dk_at dksX2_write_7 9 rfl rfl)
theorem dX2_write_177 : decode cX2_write 177 = .ok (.iinc 4 1, 3) := dk_132 4 1 (dk_at dksX2_write_7 12 rfl rfl)
theorem dX2_write_180 : decode cX2_write 180 = .ok (.goto (-74), 3) := dk_167 255 182 (dk_at dksX2_write_7 15 rfl rfl)
theorem dX2_write_183 : decode cX2_write 183 = .ok (.aload_n 0, 1) := dk_42 (dk_at dksX2_write_7 18 rfl rfl)
theorem dX2_write_184 : decode cX2_write 184 = .ok (.getfield 46, 3) := dk_180 0 46 (dk_at dksX2_write_7 19 rfl rfl)
theorem dX2_write_187 : decode cX2_write 187 = .ok (.iload_n 1, 1) := dk_27 (dk_at dksX2_write_7 22 rfl rfl)
theorem dX2_write_188 : decode cX2_write 188 = .ok (.iaload, 1) := dk_46 (dk_at dksX2_write_7 23 rfl rfl)
theorem dX2_write_189 : decode cX2_write 189 = .ok (.istore 4, 2) := dk_54 4 (dk_at dksX2_write_8 0 rfl rfl)
theorem dX2_write_191 : decode cX2_write 191 = .ok (.iload 4, 2) := dk_21 4 (dk_at dksX2_write_8 2 rfl rfl)
theorem dX2_write_193 : decode cX2_write 193 = .ok (.aload_n 0, 1) := dk_42 (dk_at dksX2_write_8 4 rfl rfl)
theorem dX2_write_194 : decode cX2_write 194 = .ok (.getfield 43, 3) := dk_180 0 43 (dk_at dksX2_write_8 5 rfl rfl)
theorem dX2_write_197 : decode cX2_write 197 = .ok (.iload_n 1, 1) := dk_27 (dk_at dksX2_write_8 8 rfl rfl)
theorem dX2_write_198 : decode cX2_write 198 = .ok (.iaload, 1) := dk_46 (dk_at dksX2_write_8 9 rfl rfl)
theorem dX2_write_199 : decode cX2_write 199 = .ok (.if_icmp .ge 66, 3) := dk_162 0 66 (dk_at dksX2_write_8 10 rfl rfl)
theorem dX2_write_202 : decode cX2_write 202 = .ok (.aload_n 0, 1) := dk_42 (dk_at dksX2_write_8 13 rfl rfl)
theorem dX2_write_203 : decode cX2_write 203 = .ok (.getfield 199, 3) := dk_180 0 199 (dk_at dksX2_write_8 14 rfl rfl)
theorem dX2_write_206 : decode cX2_write 206 = .ok (.iload 4, 2) := dk_21 4 (dk_at dksX2_write_8 17 rfl rfl)
theorem dX2_write_208 : decode cX2_write 208 = .ok (.iaload, 1) := dk_46 (dk_at dksX2_write_8 19 rfl rfl)
theorem dX2_write_209 : decode cX2_write 209 = .ok (.ifCond .ge 6, 3) := dk_156 0 6 (dk_at dksX2_write_8 20 rfl rfl)
theorem dX2_write_212 : decode cX2_write 212 = .ok (.goto 47, 3) := dk_167 0 47 (dk_at dksX2_write_9 0 rfl rfl)
theorem dX2_write_215 : decode cX2_write 215 = .ok (.aload_n 0, 1) := dk_42 (dk_at dksX2_write_9 3 rfl rfl)
theorem dX2_write_216 : decode cX2_write 216 = .ok (.aload_n 0, 1) := dk_42 (dk_at dksX2_write_9 4 rfl rfl)
theorem dX2_write_217 : decode cX2_write 217 = .ok (.getfield 199, 3) := dk_180 0 199 (dk_at dksX2_write_9 5 rfl rfl)
theorem dX2_write_220 : decode cX2_write 220 = .ok (.iload 4, 2) := dk_21 4 (dk_at dksX2_write_9 8 rfl rfl)
theorem dX2_write_222 : decode cX2_write 222 = .ok (.iaload, 1) := dk_46 (dk_at dksX2_write_9 10 rfl rfl)
theorem dX2_write_223 : decode cX2_write 223 = .ok (.invokevirtual 457, 3) := dk_182 1 201 (dk_at dksX2_write_9 11 rfl rfl)
theorem dX2_write_226 : decode cX2_write 226 = .ok (.aload_n 0, 1) := dk_42 (dk_at dksX2_write_9 14 rfl rfl)
theorem dX2_write_227 : decode cX2_write 227 = .ok (.iload_n 1, 1) := dk_27 (dk_at dksX2_write_9 15 rfl rfl)
theorem dX2_write_228 : decode cX2_write 228 = .ok (.iload_n 2, 1) := dk_28 (dk_at dksX2_write_9 16 rfl rfl)
theorem dX2_write_229 : decode cX2_write 229 = .ok (.iload 4, 2) := dk_21 4 (dk_at dksX2_write_9 17 rfl rfl)
theorem dX2_write_231 : decode cX2_write 231 = .ok (.invokevirtual 460, 3) := dk_182 1 204 (dk_at dksX2_write_9 19 rfl rfl)
theorem dX2_write_234 : decode cX2_write 234 = .ok (.aload_n 0, 1) := dk_42 (dk_at dksX2_write_9 22 rfl rfl)
theorem dX2_write_235 : decode cX2_write 235 = .ok (.invokevirtual 432, 3) := dk_182 1 176 (dk_at dksX2_write_10 0 rfl rfl)
theorem dX2_write_238 : decode cX2_write 238 = .ok (.aload_n 0, 1) := dk_42 (dk_at dksX2_write_10 3 rfl rfl)
theorem dX2_write_239 : decode cX2_write 239 = .ok (.aload_n 0, 1) := dk_42 (dk_at dksX2_write_10 4 rfl rfl)
theorem dX2_write_240 : decode cX2_write 240 = .ok (.getfield 61, 3) := dk_180 0 61 (dk_at dksX2_write_10 5 rfl rfl)
theorem dX2_write_243 : decode cX2_write 243 = .ok (.sipush 240, 3) := dk_17 0 240 (dk_at dksX2_write_10 8 rfl rfl)
theorem dX2_write_246 : decode cX2_write 246 = .ok (.iload_n 1, 1) := dk_27 (dk_at dksX2_write_10 11 rfl rfl)
theorem dX2_write_247 : decode cX2_write 247 = .ok (.imul, 1) := dk_104 (dk_at dksX2_write_10 12 rfl rfl)
theorem dX2_write_248 : decode cX2_write 248 = .ok (.iload 4, 2) := dk_21 4 (dk_at dksX2_write_10 13 rfl rfl)
theorem dX2_write_250 : decode cX2_write 250 = .ok (.iadd, 1) := dk_96 (dk_at dksX2_write_10 15 rfl rfl)
theorem dX2_write_251 : decode cX2_write 251 = .ok (.iaload, 1) := dk_46 (dk_at dksX2_write_10 16 rfl rfl)
theorem dX2_write_252 : decode cX2_write 252 = .ok (.invokevirtual 448, 3) := dk_182 1 192 (dk_at dksX2_write_10 17 rfl rfl)
theorem dX2_write_255 : decode cX2_write 255 = .ok (.aload_n 0, 1) := dk_42 (dk_at dksX2_write_10 20 rfl rfl)
theorem dX2_write_256 : decode cX2_write 256 = .ok (.invokevirtual 443, 3) := dk_182 1 187 (dk_at dksX2_write_10 21 rfl rfl)
theorem dX2_write_259 : decode cX2_write 259 = .ok (.iinc 4 1, 3) := dk_132 4 1 (dk_at dksX2_write_11 0 rfl rfl)
theorem dX2_write_262 : decode cX2_write 262 = .ok (.goto (-71), 3) := dk_167 255 185 (dk_at dksX2_write_11 3 rfl rfl)
theorem dX2_write_265 : decode cX2_write 265 = .ok (.aload_n 0, 1) := dk_42 (dk_at dksX2_write_11 6 rfl rfl)
theorem dX2_write_266 : decode cX2_write 266 = .ok (.getfield 196, 3) := dk_180 0 196 (dk_at dksX2_write_11 7 rfl rfl)
theorem dX2_write_269 : decode cX2_write 269 = .ok (.sipush 3000, 3) := dk_17 11 184 (dk_at dksX2_write_11 10 rfl rfl)
theorem dX2_write_272 : decode cX2_write 272 = .ok (.if_icmp .le 6, 3) := dk_164 0 6 (dk_at dksX2_write_11 13 rfl rfl)
theorem dX2_write_275 : decode cX2_write 275 = .ok (.bipush (-3), 2) := dk_16 253 (dk_at dksX2_write_11 16 rfl rfl)
theorem dX2_write_277 : decode cX2_write 277 = .ok (.ireturn, 1) := dk_172 (dk_at dksX2_write_11 18 rfl rfl)
theorem dX2_write_278 : decode cX2_write 278 = .ok (.iconst 0, 1) := dk_3 (dk_at dksX2_write_11 19 rfl rfl)
theorem dX2_write_279 : decode cX2_write 279 = .ok (.istore 4, 2) := dk_54 4 (dk_at dksX2_write_11 20 rfl rfl)
theorem dX2_write_281 : decode cX2_write 281 = .ok (.iload 4, 2) := dk_21 4 (dk_at dksX2_write_11 22 rfl rfl)
theorem dX2_write_283 : decode cX2_write 283 = .ok (.aload_n 0, 1) := dk_42 (dk_at dksX2_write_12 0 rfl rfl)
theorem dX2_write_284 : decode cX2_write 284 = .ok (.getfield 196, 3) := dk_180 0 196 (dk_at dksX2_write_12 1 rfl rfl)
theorem dX2_write_287 : decode cX2_write 287 = .ok (.if_icmp .ge 23, 3) := dk_162 0 23 (dk_at dksX2_write_12 4 rfl rfl)
theorem dX2_write_290 : decode cX2_write 290 = .ok (.aload_n 0, 1) := dk_42 (dk_at dksX2_write_12 7 rfl rfl)
theorem dX2_write_291 : decode cX2_write 291 = .ok (.getfield 7, 3) := dk_180 0 7 (dk_at dksX2_write_12 8 rfl rfl)
theorem dX2_write_294 : decode cX2_write 294 = .ok (.iload 4, 2) := dk_21 4 (dk_at dksX2_write_12 11 rfl rfl)
theorem dX2_write_296 : decode cX2_write 296 = .ok (.aload_n 0, 1) := dk_42 (dk_at dksX2_write_12 13 rfl rfl)
theorem dX2_write_297 : decode cX2_write 297 = .ok (.getfield 193, 3) := dk_180 0 193 (dk_at dksX2_write_12 14 rfl rfl)
theorem dX2_write_300 : decode cX2_write 300 = .ok (.iload 4, 2) := dk_21 4 (dk_at dksX2_write_12 17 rfl rfl)
theorem dX2_write_302 : decode cX2_write 302 = .ok (.iaload, 1) := dk_46 (dk_at dksX2_write_12 19 rfl rfl)
theorem dX2_write_303 : decode cX2_write 303 = .ok (.iastore, 1) := dk_79 (dk_at dksX2_write_12 20 rfl rfl)
theorem dX2_write_304 : decode cX2_write 304 = .ok (.iinc 4 1, 3) := dk_132 4 1 (dk_at dksX2_write_12 21 rfl rfl)
theorem dX2_write_307 : decode cX2_write 307 = .ok (.goto (-26), 3) := dk_167 255 230 (dk_at dksX2_write_13 0 rfl rfl)
theorem dX2_write_310 : decode cX2_write 310 = .ok (.aload_n 0, 1) := dk_42 (dk_at dksX2_write_13 3 rfl rfl)
theorem dX2_write_311 : decode cX2_write 311 = .ok (.aload_n 0, 1) := dk_42 (dk_at dksX2_write_13 4 rfl rfl)
theorem dX2_write_312 : decode cX2_write 312 = .ok (.getfield 196, 3) := dk_180 0 196 (dk_at dksX2_write_13 5 rfl rfl)
theorem dX2_write_315 : decode cX2_write 315 = .ok (.putfield 13, 3) := dk_181 0 13 (dk_at dksX2_write_13 8 rfl rfl)
theorem dX2_write_318 : decode cX2_write 318 = .ok (.aload_n 0, 1) := dk_42 (dk_at dksX2_write_13 11 rfl rfl)
theorem dX2_write_319 : decode cX2_write 319 = .ok (.getfield 196, 3) := dk_180 0 196 (dk_at dksX2_write_13 12 rfl rfl)
theorem dX2_write_322 : decode cX2_write 322 = .ok (.ireturn, 1) := dk_172 (dk_at dksX2_write_13 15 rfl rfl)
abbrev cX2_hasT : ByteArray := prog_24_method_101_code
def yX2_hasT : MethodName := ⟨RX2, "hasT", "(I)Z"⟩
def dkwX2_hasT_9 : List UInt8 := [167, 255, 206, 28, 172]
abbrev dktX2_hasT_9 : List UInt8 := dkwX2_hasT_9 ++ []
def dkwX2_hasT_8 : List UInt8 := [162, 0, 14, 42, 180, 0, 100, 29, 46, 16, 16, 161, 0, 7, 4, 167, 0, 4, 3, 61, 132, 3, 1]
abbrev dktX2_hasT_8 : List UInt8 := dkwX2_hasT_8 ++ dktX2_hasT_9
def dkwX2_hasT_7 : List UInt8 := [104, 42, 180, 0, 49, 27, 46, 96, 162, 0, 41, 28, 154, 0, 25, 42, 180, 0, 94, 29, 46, 16, 16]
abbrev dktX2_hasT_7 : List UInt8 := dkwX2_hasT_7 ++ dktX2_hasT_8
def dkwX2_hasT_6 : List UInt8 := [161, 0, 7, 4, 167, 0, 4, 3, 61, 132, 3, 1, 167, 255, 110, 16, 32, 27, 104, 62, 29, 16, 32, 27]
abbrev dktX2_hasT_6 : List UInt8 := dkwX2_hasT_6 ++ dktX2_hasT_7
def dkwX2_hasT_5 : List UInt8 := [180, 0, 76, 29, 46, 16, 16, 162, 0, 19, 21, 5, 153, 0, 18, 42, 180, 0, 82, 29, 46, 16, 16]
abbrev dktX2_hasT_5 : List UInt8 := dkwX2_hasT_5 ++ dktX2_hasT_6
def dkwX2_hasT_4 : List UInt8 := [54, 5, 28, 154, 0, 46, 42, 180, 0, 64, 29, 46, 16, 16, 162, 0, 35, 21, 4, 153, 0, 14, 42]
abbrev dktX2_hasT_4 : List UInt8 := dkwX2_hasT_4 ++ dktX2_hasT_5
def dkwX2_hasT_3 : List UInt8 := [180, 0, 58, 29, 46, 5, 159, 0, 13, 42, 180, 0, 58, 29, 46, 8, 160, 0, 7, 4, 167, 0, 4, 3]
abbrev dktX2_hasT_3 : List UInt8 := dkwX2_hasT_3 ++ dktX2_hasT_4
def dkwX2_hasT_2 : List UInt8 := [29, 46, 6, 159, 0, 13, 42, 180, 0, 58, 29, 46, 8, 160, 0, 7, 4, 167, 0, 4, 3, 54, 4, 42]
abbrev dktX2_hasT_2 : List UInt8 := dkwX2_hasT_2 ++ dktX2_hasT_3
def dkwX2_hasT_1 : List UInt8 := [42, 180, 0, 58, 29, 46, 4, 159, 0, 33, 42, 180, 0, 58, 29, 46, 5, 159, 0, 23, 42, 180, 0, 58]
abbrev dktX2_hasT_1 : List UInt8 := dkwX2_hasT_1 ++ dktX2_hasT_2
def dkwX2_hasT_0 : List UInt8 := [3, 61, 17, 0, 240, 27, 104, 62, 29, 17, 0, 240, 27, 104, 42, 180, 0, 46, 27, 46, 96, 162, 0, 136]
abbrev dktX2_hasT_0 : List UInt8 := dkwX2_hasT_0 ++ dktX2_hasT_1
theorem dksX2_hasT_0 : cX2_hasT.data.toList.drop 0 = dktX2_hasT_0 := by decide +kernel
theorem dksX2_hasT_1 : cX2_hasT.data.toList.drop 24 = dktX2_hasT_1 := dk_seg dksX2_hasT_0 24 rfl rfl
theorem dksX2_hasT_2 : cX2_hasT.data.toList.drop 48 = dktX2_hasT_2 := dk_seg dksX2_hasT_1 24 rfl rfl
theorem dksX2_hasT_3 : cX2_hasT.data.toList.drop 72 = dktX2_hasT_3 := dk_seg dksX2_hasT_2 24 rfl rfl
theorem dksX2_hasT_4 : cX2_hasT.data.toList.drop 96 = dktX2_hasT_4 := dk_seg dksX2_hasT_3 24 rfl rfl
theorem dksX2_hasT_5 : cX2_hasT.data.toList.drop 119 = dktX2_hasT_5 := dk_seg dksX2_hasT_4 23 rfl rfl
theorem dksX2_hasT_6 : cX2_hasT.data.toList.drop 142 = dktX2_hasT_6 := dk_seg dksX2_hasT_5 23 rfl rfl
theorem dksX2_hasT_7 : cX2_hasT.data.toList.drop 166 = dktX2_hasT_7 := dk_seg dksX2_hasT_6 24 rfl rfl
theorem dksX2_hasT_8 : cX2_hasT.data.toList.drop 189 = dktX2_hasT_8 := dk_seg dksX2_hasT_7 23 rfl rfl
theorem dksX2_hasT_9 : cX2_hasT.data.toList.drop 212 = dktX2_hasT_9 := dk_seg dksX2_hasT_8 23 rfl rfl
theorem dX2_hasT_0 : decode cX2_hasT 0 = .ok (.iconst 0, 1) := dk_3 (dk_at dksX2_hasT_0 0 rfl rfl)
theorem dX2_hasT_1 : decode cX2_hasT 1 = .ok (.istore_n 2, 1) := dk_61 (dk_at dksX2_hasT_0 1 rfl rfl)
theorem dX2_hasT_2 : decode cX2_hasT 2 = .ok (.sipush 240, 3) := dk_17 0 240 (dk_at dksX2_hasT_0 2 rfl rfl)
theorem dX2_hasT_5 : decode cX2_hasT 5 = .ok (.iload_n 1, 1) := dk_27 (dk_at dksX2_hasT_0 5 rfl rfl)
theorem dX2_hasT_6 : decode cX2_hasT 6 = .ok (.imul, 1) := dk_104 (dk_at dksX2_hasT_0 6 rfl rfl)
theorem dX2_hasT_7 : decode cX2_hasT 7 = .ok (.istore_n 3, 1) := dk_62 (dk_at dksX2_hasT_0 7 rfl rfl)
theorem dX2_hasT_8 : decode cX2_hasT 8 = .ok (.iload_n 3, 1) := dk_29 (dk_at dksX2_hasT_0 8 rfl rfl)
theorem dX2_hasT_9 : decode cX2_hasT 9 = .ok (.sipush 240, 3) := dk_17 0 240 (dk_at dksX2_hasT_0 9 rfl rfl)
theorem dX2_hasT_12 : decode cX2_hasT 12 = .ok (.iload_n 1, 1) := dk_27 (dk_at dksX2_hasT_0 12 rfl rfl)
theorem dX2_hasT_13 : decode cX2_hasT 13 = .ok (.imul, 1) := dk_104 (dk_at dksX2_hasT_0 13 rfl rfl)
theorem dX2_hasT_14 : decode cX2_hasT 14 = .ok (.aload_n 0, 1) := dk_42 (dk_at dksX2_hasT_0 14 rfl rfl)
theorem dX2_hasT_15 : decode cX2_hasT 15 = .ok (.getfield 46, 3) := dk_180 0 46 (dk_at dksX2_hasT_0 15 rfl rfl)
theorem dX2_hasT_18 : decode cX2_hasT 18 = .ok (.iload_n 1, 1) := dk_27 (dk_at dksX2_hasT_0 18 rfl rfl)
theorem dX2_hasT_19 : decode cX2_hasT 19 = .ok (.iaload, 1) := dk_46 (dk_at dksX2_hasT_0 19 rfl rfl)
theorem dX2_hasT_20 : decode cX2_hasT 20 = .ok (.iadd, 1) := dk_96 (dk_at dksX2_hasT_0 20 rfl rfl)
theorem dX2_hasT_21 : decode cX2_hasT 21 = .ok (.if_icmp .ge 136, 3) := dk_162 0 136 (dk_at dksX2_hasT_0 21 rfl rfl)
theorem dX2_hasT_24 : decode cX2_hasT 24 = .ok (.aload_n 0, 1) := dk_42 (dk_at dksX2_hasT_1 0 rfl rfl)
theorem dX2_hasT_25 : decode cX2_hasT 25 = .ok (.getfield 58, 3) := dk_180 0 58 (dk_at dksX2_hasT_1 1 rfl rfl)
theorem dX2_hasT_28 : decode cX2_hasT 28 = .ok (.iload_n 3, 1) := dk_29 (dk_at dksX2_hasT_1 4 rfl rfl)
theorem dX2_hasT_29 : decode cX2_hasT 29 = .ok (.iaload, 1) := dk_46 (dk_at dksX2_hasT_1 5 rfl rfl)
theorem dX2_hasT_30 : decode cX2_hasT 30 = .ok (.iconst 1, 1) := dk_4 (dk_at dksX2_hasT_1 6 rfl rfl)
theorem dX2_hasT_31 : decode cX2_hasT 31 = .ok (.if_icmp .eq 33, 3) := dk_159 0 33 (dk_at dksX2_hasT_1 7 rfl rfl)
theorem dX2_hasT_34 : decode cX2_hasT 34 = .ok (.aload_n 0, 1) := dk_42 (dk_at dksX2_hasT_1 10 rfl rfl)
theorem dX2_hasT_35 : decode cX2_hasT 35 = .ok (.getfield 58, 3) := dk_180 0 58 (dk_at dksX2_hasT_1 11 rfl rfl)
theorem dX2_hasT_38 : decode cX2_hasT 38 = .ok (.iload_n 3, 1) := dk_29 (dk_at dksX2_hasT_1 14 rfl rfl)
theorem dX2_hasT_39 : decode cX2_hasT 39 = .ok (.iaload, 1) := dk_46 (dk_at dksX2_hasT_1 15 rfl rfl)
theorem dX2_hasT_40 : decode cX2_hasT 40 = .ok (.iconst 2, 1) := dk_5 (dk_at dksX2_hasT_1 16 rfl rfl)
theorem dX2_hasT_41 : decode cX2_hasT 41 = .ok (.if_icmp .eq 23, 3) := dk_159 0 23 (dk_at dksX2_hasT_1 17 rfl rfl)
theorem dX2_hasT_44 : decode cX2_hasT 44 = .ok (.aload_n 0, 1) := dk_42 (dk_at dksX2_hasT_1 20 rfl rfl)
theorem dX2_hasT_45 : decode cX2_hasT 45 = .ok (.getfield 58, 3) := dk_180 0 58 (dk_at dksX2_hasT_1 21 rfl rfl)
theorem dX2_hasT_48 : decode cX2_hasT 48 = .ok (.iload_n 3, 1) := dk_29 (dk_at dksX2_hasT_2 0 rfl rfl)
theorem dX2_hasT_49 : decode cX2_hasT 49 = .ok (.iaload, 1) := dk_46 (dk_at dksX2_hasT_2 1 rfl rfl)
theorem dX2_hasT_50 : decode cX2_hasT 50 = .ok (.iconst 3, 1) := dk_6 (dk_at dksX2_hasT_2 2 rfl rfl)
theorem dX2_hasT_51 : decode cX2_hasT 51 = .ok (.if_icmp .eq 13, 3) := dk_159 0 13 (dk_at dksX2_hasT_2 3 rfl rfl)
theorem dX2_hasT_54 : decode cX2_hasT 54 = .ok (.aload_n 0, 1) := dk_42 (dk_at dksX2_hasT_2 6 rfl rfl)
theorem dX2_hasT_55 : decode cX2_hasT 55 = .ok (.getfield 58, 3) := dk_180 0 58 (dk_at dksX2_hasT_2 7 rfl rfl)
theorem dX2_hasT_58 : decode cX2_hasT 58 = .ok (.iload_n 3, 1) := dk_29 (dk_at dksX2_hasT_2 10 rfl rfl)
theorem dX2_hasT_59 : decode cX2_hasT 59 = .ok (.iaload, 1) := dk_46 (dk_at dksX2_hasT_2 11 rfl rfl)
theorem dX2_hasT_60 : decode cX2_hasT 60 = .ok (.iconst 5, 1) := dk_8 (dk_at dksX2_hasT_2 12 rfl rfl)
theorem dX2_hasT_61 : decode cX2_hasT 61 = .ok (.if_icmp .ne 7, 3) := dk_160 0 7 (dk_at dksX2_hasT_2 13 rfl rfl)
theorem dX2_hasT_64 : decode cX2_hasT 64 = .ok (.iconst 1, 1) := dk_4 (dk_at dksX2_hasT_2 16 rfl rfl)
theorem dX2_hasT_65 : decode cX2_hasT 65 = .ok (.goto 4, 3) := dk_167 0 4 (dk_at dksX2_hasT_2 17 rfl rfl)
theorem dX2_hasT_68 : decode cX2_hasT 68 = .ok (.iconst 0, 1) := dk_3 (dk_at dksX2_hasT_2 20 rfl rfl)
theorem dX2_hasT_69 : decode cX2_hasT 69 = .ok (.istore 4, 2) := dk_54 4 (dk_at dksX2_hasT_2 21 rfl rfl)
theorem dX2_hasT_71 : decode cX2_hasT 71 = .ok (.aload_n 0, 1) := dk_42 (dk_at dksX2_hasT_2 23 rfl rfl)
theorem dX2_hasT_72 : decode cX2_hasT 72 = .ok (.getfield 58, 3) := dk_180 0 58 (dk_at dksX2_hasT_3 0 rfl rfl)
theorem dX2_hasT_75 : decode cX2_hasT 75 = .ok (.iload_n 3, 1) := dk_29 (dk_at dksX2_hasT_3 3 rfl rfl)
theorem dX2_hasT_76 : decode cX2_hasT 76 = .ok (.iaload, 1) := dk_46 (dk_at dksX2_hasT_3 4 rfl rfl)
theorem dX2_hasT_77 : decode cX2_hasT 77 = .ok (.iconst 2, 1) := dk_5 (dk_at dksX2_hasT_3 5 rfl rfl)
theorem dX2_hasT_78 : decode cX2_hasT 78 = .ok (.if_icmp .eq 13, 3) := dk_159 0 13 (dk_at dksX2_hasT_3 6 rfl rfl)
theorem dX2_hasT_81 : decode cX2_hasT 81 = .ok (.aload_n 0, 1) := dk_42 (dk_at dksX2_hasT_3 9 rfl rfl)
theorem dX2_hasT_82 : decode cX2_hasT 82 = .ok (.getfield 58, 3) := dk_180 0 58 (dk_at dksX2_hasT_3 10 rfl rfl)
theorem dX2_hasT_85 : decode cX2_hasT 85 = .ok (.iload_n 3, 1) := dk_29 (dk_at dksX2_hasT_3 13 rfl rfl)
theorem dX2_hasT_86 : decode cX2_hasT 86 = .ok (.iaload, 1) := dk_46 (dk_at dksX2_hasT_3 14 rfl rfl)
theorem dX2_hasT_87 : decode cX2_hasT 87 = .ok (.iconst 5, 1) := dk_8 (dk_at dksX2_hasT_3 15 rfl rfl)
theorem dX2_hasT_88 : decode cX2_hasT 88 = .ok (.if_icmp .ne 7, 3) := dk_160 0 7 (dk_at dksX2_hasT_3 16 rfl rfl)
theorem dX2_hasT_91 : decode cX2_hasT 91 = .ok (.iconst 1, 1) := dk_4 (dk_at dksX2_hasT_3 19 rfl rfl)
theorem dX2_hasT_92 : decode cX2_hasT 92 = .ok (.goto 4, 3) := dk_167 0 4 (dk_at dksX2_hasT_3 20 rfl rfl)
theorem dX2_hasT_95 : decode cX2_hasT 95 = .ok (.iconst 0, 1) := dk_3 (dk_at dksX2_hasT_3 23 rfl rfl)
theorem dX2_hasT_96 : decode cX2_hasT 96 = .ok (.istore 5, 2) := dk_54 5 (dk_at dksX2_hasT_4 0 rfl rfl)
theorem dX2_hasT_98 : decode cX2_hasT 98 = .ok (.iload_n 2, 1) := dk_28 (dk_at dksX2_hasT_4 2 rfl rfl)
theorem dX2_hasT_99 : decode cX2_hasT 99 = .ok (.ifCond .ne 46, 3) := dk_154 0 46 (dk_at dksX2_hasT_4 3 rfl rfl)
theorem dX2_hasT_102 : decode cX2_hasT 102 = .ok (.aload_n 0, 1) := dk_42 (dk_at dksX2_hasT_4 6 rfl rfl)
theorem dX2_hasT_103 : decode cX2_hasT 103 = .ok (.getfield 64, 3) := dk_180 0 64 (dk_at dksX2_hasT_4 7 rfl rfl)
theorem dX2_hasT_106 : decode cX2_hasT 106 = .ok (.iload_n 3, 1) := dk_29 (dk_at dksX2_hasT_4 10 rfl rfl)
theorem dX2_hasT_107 : decode cX2_hasT 107 = .ok (.iaload, 1) := dk_46 (dk_at dksX2_hasT_4 11 rfl rfl)
theorem dX2_hasT_108 : decode cX2_hasT 108 = .ok (.bipush 16, 2) := dk_16 16 (dk_at dksX2_hasT_4 12 rfl rfl)
theorem dX2_hasT_110 : decode cX2_hasT 110 = .ok (.if_icmp .ge 35, 3) := dk_162 0 35 (dk_at dksX2_hasT_4 14 rfl rfl)
theorem dX2_hasT_113 : decode cX2_hasT 113 = .ok (.iload 4, 2) := dk_21 4 (dk_at dksX2_hasT_4 17 rfl rfl)
theorem dX2_hasT_115 : decode cX2_hasT 115 = .ok (.ifCond .eq 14, 3) := dk_153 0 14 (dk_at dksX2_hasT_4 19 rfl rfl)
theorem dX2_hasT_118 : decode cX2_hasT 118 = .ok (.aload_n 0, 1) := dk_42 (dk_at dksX2_hasT_4 22 rfl rfl)
theorem dX2_hasT_119 : decode cX2_hasT 119 = .ok (.getfield 76, 3) := dk_180 0 76 (dk_at dksX2_hasT_5 0 rfl rfl)
theorem dX2_hasT_122 : decode cX2_hasT 122 = .ok (.iload_n 3, 1) := dk_29 (dk_at dksX2_hasT_5 3 rfl rfl)
theorem dX2_hasT_123 : decode cX2_hasT 123 = .ok (.iaload, 1) := dk_46 (dk_at dksX2_hasT_5 4 rfl rfl)
theorem dX2_hasT_124 : decode cX2_hasT 124 = .ok (.bipush 16, 2) := dk_16 16 (dk_at dksX2_hasT_5 5 rfl rfl)
theorem dX2_hasT_126 : decode cX2_hasT 126 = .ok (.if_icmp .ge 19, 3) := dk_162 0 19 (dk_at dksX2_hasT_5 7 rfl rfl)
theorem dX2_hasT_129 : decode cX2_hasT 129 = .ok (.iload 5, 2) := dk_21 5 (dk_at dksX2_hasT_5 10 rfl rfl)
theorem dX2_hasT_131 : decode cX2_hasT 131 = .ok (.ifCond .eq 18, 3) := dk_153 0 18 (dk_at dksX2_hasT_5 12 rfl rfl)
theorem dX2_hasT_134 : decode cX2_hasT 134 = .ok (.aload_n 0, 1) := dk_42 (dk_at dksX2_hasT_5 15 rfl rfl)
theorem dX2_hasT_135 : decode cX2_hasT 135 = .ok (.getfield 82, 3) := dk_180 0 82 (dk_at dksX2_hasT_5 16 rfl rfl)
theorem dX2_hasT_138 : decode cX2_hasT 138 = .ok (.iload_n 3, 1) := dk_29 (dk_at dksX2_hasT_5 19 rfl rfl)
theorem dX2_hasT_139 : decode cX2_hasT 139 = .ok (.iaload, 1) := dk_46 (dk_at dksX2_hasT_5 20 rfl rfl)
theorem dX2_hasT_140 : decode cX2_hasT 140 = .ok (.bipush 16, 2) := dk_16 16 (dk_at dksX2_hasT_5 21 rfl rfl)
theorem dX2_hasT_142 : decode cX2_hasT 142 = .ok (.if_icmp .lt 7, 3) := dk_161 0 7 (dk_at dksX2_hasT_6 0 rfl rfl)
theorem dX2_hasT_145 : decode cX2_hasT 145 = .ok (.iconst 1, 1) := dk_4 (dk_at dksX2_hasT_6 3 rfl rfl)
theorem dX2_hasT_146 : decode cX2_hasT 146 = .ok (.goto 4, 3) := dk_167 0 4 (dk_at dksX2_hasT_6 4 rfl rfl)
theorem dX2_hasT_149 : decode cX2_hasT 149 = .ok (.iconst 0, 1) := dk_3 (dk_at dksX2_hasT_6 7 rfl rfl)
theorem dX2_hasT_150 : decode cX2_hasT 150 = .ok (.istore_n 2, 1) := dk_61 (dk_at dksX2_hasT_6 8 rfl rfl)
theorem dX2_hasT_151 : decode cX2_hasT 151 = .ok (.iinc 3 1, 3) := dk_132 3 1 (dk_at dksX2_hasT_6 9 rfl rfl)
theorem dX2_hasT_154 : decode cX2_hasT 154 = .ok (.goto (-146), 3) := dk_167 255 110 (dk_at dksX2_hasT_6 12 rfl rfl)
theorem dX2_hasT_157 : decode cX2_hasT 157 = .ok (.bipush 32, 2) := dk_16 32 (dk_at dksX2_hasT_6 15 rfl rfl)
theorem dX2_hasT_159 : decode cX2_hasT 159 = .ok (.iload_n 1, 1) := dk_27 (dk_at dksX2_hasT_6 17 rfl rfl)
theorem dX2_hasT_160 : decode cX2_hasT 160 = .ok (.imul, 1) := dk_104 (dk_at dksX2_hasT_6 18 rfl rfl)
theorem dX2_hasT_161 : decode cX2_hasT 161 = .ok (.istore_n 3, 1) := dk_62 (dk_at dksX2_hasT_6 19 rfl rfl)
theorem dX2_hasT_162 : decode cX2_hasT 162 = .ok (.iload_n 3, 1) := dk_29 (dk_at dksX2_hasT_6 20 rfl rfl)
theorem dX2_hasT_163 : decode cX2_hasT 163 = .ok (.bipush 32, 2) := dk_16 32 (dk_at dksX2_hasT_6 21 rfl rfl)
theorem dX2_hasT_165 : decode cX2_hasT 165 = .ok (.iload_n 1, 1) := dk_27 (dk_at dksX2_hasT_6 23 rfl rfl)
theorem dX2_hasT_166 : decode cX2_hasT 166 = .ok (.imul, 1) := dk_104 (dk_at dksX2_hasT_7 0 rfl rfl)
theorem dX2_hasT_167 : decode cX2_hasT 167 = .ok (.aload_n 0, 1) := dk_42 (dk_at dksX2_hasT_7 1 rfl rfl)
theorem dX2_hasT_168 : decode cX2_hasT 168 = .ok (.getfield 49, 3) := dk_180 0 49 (dk_at dksX2_hasT_7 2 rfl rfl)
theorem dX2_hasT_171 : decode cX2_hasT 171 = .ok (.iload_n 1, 1) := dk_27 (dk_at dksX2_hasT_7 5 rfl rfl)
theorem dX2_hasT_172 : decode cX2_hasT 172 = .ok (.iaload, 1) := dk_46 (dk_at dksX2_hasT_7 6 rfl rfl)
theorem dX2_hasT_173 : decode cX2_hasT 173 = .ok (.iadd, 1) := dk_96 (dk_at dksX2_hasT_7 7 rfl rfl)
theorem dX2_hasT_174 : decode cX2_hasT 174 = .ok (.if_icmp .ge 41, 3) := dk_162 0 41 (dk_at dksX2_hasT_7 8 rfl rfl)
theorem dX2_hasT_177 : decode cX2_hasT 177 = .ok (.iload_n 2, 1) := dk_28 (dk_at dksX2_hasT_7 11 rfl rfl)
theorem dX2_hasT_178 : decode cX2_hasT 178 = .ok (.ifCond .ne 25, 3) := dk_154 0 25 (dk_at dksX2_hasT_7 12 rfl rfl)
theorem dX2_hasT_181 : decode cX2_hasT 181 = .ok (.aload_n 0, 1) := dk_42 (dk_at dksX2_hasT_7 15 rfl rfl)
theorem dX2_hasT_182 : decode cX2_hasT 182 = .ok (.getfield 94, 3) := dk_180 0 94 (dk_at dksX2_hasT_7 16 rfl rfl)
theorem dX2_hasT_185 : decode cX2_hasT 185 = .ok (.iload_n 3, 1) := dk_29 (dk_at dksX2_hasT_7 19 rfl rfl)
theorem dX2_hasT_186 : decode cX2_hasT 186 = .ok (.iaload, 1) := dk_46 (dk_at dksX2_hasT_7 20 rfl rfl)
theorem dX2_hasT_187 : decode cX2_hasT 187 = .ok (.bipush 16, 2) := dk_16 16 (dk_at dksX2_hasT_7 21 rfl rfl)
theorem dX2_hasT_189 : decode cX2_hasT 189 = .ok (.if_icmp .ge 14, 3) := dk_162 0 14 (dk_at dksX2_hasT_8 0 rfl rfl)
theorem dX2_hasT_192 : decode cX2_hasT 192 = .ok (.aload_n 0, 1) := dk_42 (dk_at dksX2_hasT_8 3 rfl rfl)
theorem dX2_hasT_193 : decode cX2_hasT 193 = .ok (.getfield 100, 3) := dk_180 0 100 (dk_at dksX2_hasT_8 4 rfl rfl)
theorem dX2_hasT_196 : decode cX2_hasT 196 = .ok (.iload_n 3, 1) := dk_29 (dk_at dksX2_hasT_8 7 rfl rfl)
theorem dX2_hasT_197 : decode cX2_hasT 197 = .ok (.iaload, 1) := dk_46 (dk_at dksX2_hasT_8 8 rfl rfl)
theorem dX2_hasT_198 : decode cX2_hasT 198 = .ok (.bipush 16, 2) := dk_16 16 (dk_at dksX2_hasT_8 9 rfl rfl)
theorem dX2_hasT_200 : decode cX2_hasT 200 = .ok (.if_icmp .lt 7, 3) := dk_161 0 7 (dk_at dksX2_hasT_8 11 rfl rfl)
theorem dX2_hasT_203 : decode cX2_hasT 203 = .ok (.iconst 1, 1) := dk_4 (dk_at dksX2_hasT_8 14 rfl rfl)
theorem dX2_hasT_204 : decode cX2_hasT 204 = .ok (.goto 4, 3) := dk_167 0 4 (dk_at dksX2_hasT_8 15 rfl rfl)
theorem dX2_hasT_207 : decode cX2_hasT 207 = .ok (.iconst 0, 1) := dk_3 (dk_at dksX2_hasT_8 18 rfl rfl)
theorem dX2_hasT_208 : decode cX2_hasT 208 = .ok (.istore_n 2, 1) := dk_61 (dk_at dksX2_hasT_8 19 rfl rfl)
theorem dX2_hasT_209 : decode cX2_hasT 209 = .ok (.iinc 3 1, 3) := dk_132 3 1 (dk_at dksX2_hasT_8 20 rfl rfl)
theorem dX2_hasT_212 : decode cX2_hasT 212 = .ok (.goto (-50), 3) := dk_167 255 206 (dk_at dksX2_hasT_9 0 rfl rfl)
theorem dX2_hasT_215 : decode cX2_hasT 215 = .ok (.iload_n 2, 1) := dk_28 (dk_at dksX2_hasT_9 3 rfl rfl)
theorem dX2_hasT_216 : decode cX2_hasT 216 = .ok (.ireturn, 1) := dk_172 (dk_at dksX2_hasT_9 4 rfl rfl)
abbrev cX2_sets : ByteArray := prog_24_method_96_code
def yX2_sets : MethodName := ⟨RX2, "sets", "(III)Z"⟩
def dkwX2_sets_2 : List UInt8 := [21, 4, 172]
abbrev dktX2_sets_2 : List UInt8 := dkwX2_sets_2 ++ []
def dkwX2_sets_1 : List UInt8 := [28, 21, 5, 29, 182, 1, 126, 153, 0, 7, 4, 167, 0, 4, 3, 54, 4, 132, 5, 1, 167, 255, 218]
abbrev dktX2_sets_1 : List UInt8 := dkwX2_sets_1 ++ dktX2_sets_2
def dkwX2_sets_0 : List UInt8 := [3, 54, 4, 3, 54, 5, 21, 5, 42, 180, 0, 49, 27, 46, 162, 0, 33, 21, 4, 154, 0, 15, 42, 27]
abbrev dktX2_sets_0 : List UInt8 := dkwX2_sets_0 ++ dktX2_sets_1
theorem dksX2_sets_0 : cX2_sets.data.toList.drop 0 = dktX2_sets_0 := by decide +kernel
theorem dksX2_sets_1 : cX2_sets.data.toList.drop 24 = dktX2_sets_1 := dk_seg dksX2_sets_0 24 rfl rfl
theorem dksX2_sets_2 : cX2_sets.data.toList.drop 47 = dktX2_sets_2 := dk_seg dksX2_sets_1 23 rfl rfl
theorem dX2_sets_0 : decode cX2_sets 0 = .ok (.iconst 0, 1) := dk_3 (dk_at dksX2_sets_0 0 rfl rfl)
theorem dX2_sets_1 : decode cX2_sets 1 = .ok (.istore 4, 2) := dk_54 4 (dk_at dksX2_sets_0 1 rfl rfl)
theorem dX2_sets_3 : decode cX2_sets 3 = .ok (.iconst 0, 1) := dk_3 (dk_at dksX2_sets_0 3 rfl rfl)
theorem dX2_sets_4 : decode cX2_sets 4 = .ok (.istore 5, 2) := dk_54 5 (dk_at dksX2_sets_0 4 rfl rfl)
theorem dX2_sets_6 : decode cX2_sets 6 = .ok (.iload 5, 2) := dk_21 5 (dk_at dksX2_sets_0 6 rfl rfl)
theorem dX2_sets_8 : decode cX2_sets 8 = .ok (.aload_n 0, 1) := dk_42 (dk_at dksX2_sets_0 8 rfl rfl)
theorem dX2_sets_9 : decode cX2_sets 9 = .ok (.getfield 49, 3) := dk_180 0 49 (dk_at dksX2_sets_0 9 rfl rfl)
theorem dX2_sets_12 : decode cX2_sets 12 = .ok (.iload_n 1, 1) := dk_27 (dk_at dksX2_sets_0 12 rfl rfl)
theorem dX2_sets_13 : decode cX2_sets 13 = .ok (.iaload, 1) := dk_46 (dk_at dksX2_sets_0 13 rfl rfl)
theorem dX2_sets_14 : decode cX2_sets 14 = .ok (.if_icmp .ge 33, 3) := dk_162 0 33 (dk_at dksX2_sets_0 14 rfl rfl)
theorem dX2_sets_17 : decode cX2_sets 17 = .ok (.iload 4, 2) := dk_21 4 (dk_at dksX2_sets_0 17 rfl rfl)
theorem dX2_sets_19 : decode cX2_sets 19 = .ok (.ifCond .ne 15, 3) := dk_154 0 15 (dk_at dksX2_sets_0 19 rfl rfl)
theorem dX2_sets_22 : decode cX2_sets 22 = .ok (.aload_n 0, 1) := dk_42 (dk_at dksX2_sets_0 22 rfl rfl)
theorem dX2_sets_23 : decode cX2_sets 23 = .ok (.iload_n 1, 1) := dk_27 (dk_at dksX2_sets_0 23 rfl rfl)
theorem dX2_sets_24 : decode cX2_sets 24 = .ok (.iload_n 2, 1) := dk_28 (dk_at dksX2_sets_1 0 rfl rfl)
theorem dX2_sets_25 : decode cX2_sets 25 = .ok (.iload 5, 2) := dk_21 5 (dk_at dksX2_sets_1 1 rfl rfl)
theorem dX2_sets_27 : decode cX2_sets 27 = .ok (.iload_n 3, 1) := dk_29 (dk_at dksX2_sets_1 3 rfl rfl)
theorem dX2_sets_28 : decode cX2_sets 28 = .ok (.invokevirtual 382, 3) := dk_182 1 126 (dk_at dksX2_sets_1 4 rfl rfl)
theorem dX2_sets_31 : decode cX2_sets 31 = .ok (.ifCond .eq 7, 3) := dk_153 0 7 (dk_at dksX2_sets_1 7 rfl rfl)
theorem dX2_sets_34 : decode cX2_sets 34 = .ok (.iconst 1, 1) := dk_4 (dk_at dksX2_sets_1 10 rfl rfl)
theorem dX2_sets_35 : decode cX2_sets 35 = .ok (.goto 4, 3) := dk_167 0 4 (dk_at dksX2_sets_1 11 rfl rfl)
theorem dX2_sets_38 : decode cX2_sets 38 = .ok (.iconst 0, 1) := dk_3 (dk_at dksX2_sets_1 14 rfl rfl)
theorem dX2_sets_39 : decode cX2_sets 39 = .ok (.istore 4, 2) := dk_54 4 (dk_at dksX2_sets_1 15 rfl rfl)
theorem dX2_sets_41 : decode cX2_sets 41 = .ok (.iinc 5 1, 3) := dk_132 5 1 (dk_at dksX2_sets_1 17 rfl rfl)
theorem dX2_sets_44 : decode cX2_sets 44 = .ok (.goto (-38), 3) := dk_167 255 218 (dk_at dksX2_sets_1 20 rfl rfl)
theorem dX2_sets_47 : decode cX2_sets 47 = .ok (.iload 4, 2) := dk_21 4 (dk_at dksX2_sets_2 0 rfl rfl)
theorem dX2_sets_49 : decode cX2_sets 49 = .ok (.ireturn, 1) := dk_172 (dk_at dksX2_sets_2 2 rfl rfl)
abbrev cX2_head : ByteArray := prog_24_method_94_code
def yX2_head : MethodName := ⟨RX2, "head", "(I)V"⟩
def dkwX2_head_0 : List UInt8 := [42, 27, 182, 1, 173, 42, 16, 58, 182, 1, 159, 42, 16, 10, 182, 1, 159, 177]
abbrev dktX2_head_0 : List UInt8 := dkwX2_head_0 ++ []
theorem dksX2_head_0 : cX2_head.data.toList.drop 0 = dktX2_head_0 := by decide +kernel
theorem dX2_head_0 : decode cX2_head 0 = .ok (.aload_n 0, 1) := dk_42 (dk_at dksX2_head_0 0 rfl rfl)
theorem dX2_head_1 : decode cX2_head 1 = .ok (.iload_n 1, 1) := dk_27 (dk_at dksX2_head_0 1 rfl rfl)
theorem dX2_head_2 : decode cX2_head 2 = .ok (.invokevirtual 429, 3) := dk_182 1 173 (dk_at dksX2_head_0 2 rfl rfl)
theorem dX2_head_5 : decode cX2_head 5 = .ok (.aload_n 0, 1) := dk_42 (dk_at dksX2_head_0 5 rfl rfl)
theorem dX2_head_6 : decode cX2_head 6 = .ok (.bipush 58, 2) := dk_16 58 (dk_at dksX2_head_0 6 rfl rfl)
theorem dX2_head_8 : decode cX2_head 8 = .ok (.invokevirtual 415, 3) := dk_182 1 159 (dk_at dksX2_head_0 8 rfl rfl)
theorem dX2_head_11 : decode cX2_head 11 = .ok (.aload_n 0, 1) := dk_42 (dk_at dksX2_head_0 11 rfl rfl)
theorem dX2_head_12 : decode cX2_head 12 = .ok (.bipush 10, 2) := dk_16 10 (dk_at dksX2_head_0 12 rfl rfl)
theorem dX2_head_14 : decode cX2_head 14 = .ok (.invokevirtual 415, 3) := dk_182 1 159 (dk_at dksX2_head_0 14 rfl rfl)
theorem dX2_head_17 : decode cX2_head 17 = .ok (.return_, 1) := dk_177 (dk_at dksX2_head_0 17 rfl rfl)
abbrev cX2_sayBlock : ByteArray := prog_24_method_93_code
def yX2_sayBlock : MethodName := ⟨RX2, "sayBlock", "(I)V"⟩
def dkwX2_sayBlock_0 : List UInt8 := [42, 16, 98, 182, 1, 159, 42, 27, 182, 1, 164, 177]
abbrev dktX2_sayBlock_0 : List UInt8 := dkwX2_sayBlock_0 ++ []
theorem dksX2_sayBlock_0 : cX2_sayBlock.data.toList.drop 0 = dktX2_sayBlock_0 := by decide +kernel
theorem dX2_sayBlock_0 : decode cX2_sayBlock 0 = .ok (.aload_n 0, 1) := dk_42 (dk_at dksX2_sayBlock_0 0 rfl rfl)
theorem dX2_sayBlock_1 : decode cX2_sayBlock 1 = .ok (.bipush 98, 2) := dk_16 98 (dk_at dksX2_sayBlock_0 1 rfl rfl)
theorem dX2_sayBlock_3 : decode cX2_sayBlock 3 = .ok (.invokevirtual 415, 3) := dk_182 1 159 (dk_at dksX2_sayBlock_0 3 rfl rfl)
theorem dX2_sayBlock_6 : decode cX2_sayBlock 6 = .ok (.aload_n 0, 1) := dk_42 (dk_at dksX2_sayBlock_0 6 rfl rfl)
theorem dX2_sayBlock_7 : decode cX2_sayBlock 7 = .ok (.iload_n 1, 1) := dk_27 (dk_at dksX2_sayBlock_0 7 rfl rfl)
theorem dX2_sayBlock_8 : decode cX2_sayBlock 8 = .ok (.invokevirtual 420, 3) := dk_182 1 164 (dk_at dksX2_sayBlock_0 8 rfl rfl)
theorem dX2_sayBlock_11 : decode cX2_sayBlock 11 = .ok (.return_, 1) := dk_177 (dk_at dksX2_sayBlock_0 11 rfl rfl)
abbrev cX2_say : ByteArray := prog_24_method_85_code
def yX2_say : MethodName := ⟨RX2, "say", "(I)V"⟩
def dkwX2_say_0 : List UInt8 := [42, 180, 0, 193, 42, 180, 0, 196, 27, 79, 42, 89, 180, 0, 196, 4, 96, 181, 0, 196, 177]
abbrev dktX2_say_0 : List UInt8 := dkwX2_say_0 ++ []
theorem dksX2_say_0 : cX2_say.data.toList.drop 0 = dktX2_say_0 := by decide +kernel
theorem dX2_say_0 : decode cX2_say 0 = .ok (.aload_n 0, 1) := dk_42 (dk_at dksX2_say_0 0 rfl rfl)
theorem dX2_say_1 : decode cX2_say 1 = .ok (.getfield 193, 3) := dk_180 0 193 (dk_at dksX2_say_0 1 rfl rfl)
theorem dX2_say_4 : decode cX2_say 4 = .ok (.aload_n 0, 1) := dk_42 (dk_at dksX2_say_0 4 rfl rfl)
theorem dX2_say_5 : decode cX2_say 5 = .ok (.getfield 196, 3) := dk_180 0 196 (dk_at dksX2_say_0 5 rfl rfl)
theorem dX2_say_8 : decode cX2_say 8 = .ok (.iload_n 1, 1) := dk_27 (dk_at dksX2_say_0 8 rfl rfl)
theorem dX2_say_9 : decode cX2_say 9 = .ok (.iastore, 1) := dk_79 (dk_at dksX2_say_0 9 rfl rfl)
theorem dX2_say_10 : decode cX2_say 10 = .ok (.aload_n 0, 1) := dk_42 (dk_at dksX2_say_0 10 rfl rfl)
theorem dX2_say_11 : decode cX2_say 11 = .ok (.dup, 1) := dk_89 (dk_at dksX2_say_0 11 rfl rfl)
theorem dX2_say_12 : decode cX2_say 12 = .ok (.getfield 196, 3) := dk_180 0 196 (dk_at dksX2_say_0 12 rfl rfl)
theorem dX2_say_15 : decode cX2_say 15 = .ok (.iconst 1, 1) := dk_4 (dk_at dksX2_say_0 15 rfl rfl)
theorem dX2_say_16 : decode cX2_say 16 = .ok (.iadd, 1) := dk_96 (dk_at dksX2_say_0 16 rfl rfl)
theorem dX2_say_17 : decode cX2_say 17 = .ok (.putfield 196, 3) := dk_181 0 196 (dk_at dksX2_say_0 17 rfl rfl)
theorem dX2_say_20 : decode cX2_say 20 = .ok (.return_, 1) := dk_177 (dk_at dksX2_say_0 20 rfl rfl)
abbrev cX2_sayNumber : ByteArray := prog_24_method_86_code
def yX2_sayNumber : MethodName := ⟨RX2, "sayNumber", "(I)V"⟩
def dkwX2_sayNumber_3 : List UInt8 := [182, 1, 159, 22, 4, 20, 0, 221, 109, 55, 4, 167, 255, 224, 177]
abbrev dktX2_sayNumber_3 : List UInt8 := dkwX2_sayNumber_3 ++ []
def dkwX2_sayNumber_2 : List UInt8 := [167, 255, 237, 22, 4, 9, 148, 158, 0, 31, 42, 20, 0, 223, 32, 22, 4, 109, 20, 0, 221, 113, 97, 136]
abbrev dktX2_sayNumber_2 : List UInt8 := dkwX2_sayNumber_2 ++ dktX2_sayNumber_3
def dkwX2_sayNumber_1 : List UInt8 := [182, 1, 159, 32, 22, 4, 109, 20, 1, 162, 148, 158, 0, 14, 22, 4, 20, 0, 221, 105, 55, 4]
abbrev dktX2_sayNumber_1 : List UInt8 := dkwX2_sayNumber_1 ++ dktX2_sayNumber_2
def dkwX2_sayNumber_0 : List UInt8 := [27, 156, 0, 9, 27, 133, 117, 167, 0, 5, 27, 133, 65, 10, 55, 4, 27, 156, 0, 9, 42, 16, 45]
abbrev dktX2_sayNumber_0 : List UInt8 := dkwX2_sayNumber_0 ++ dktX2_sayNumber_1
theorem dksX2_sayNumber_0 : cX2_sayNumber.data.toList.drop 0 = dktX2_sayNumber_0 := by decide +kernel
theorem dksX2_sayNumber_1 : cX2_sayNumber.data.toList.drop 23 = dktX2_sayNumber_1 := dk_seg dksX2_sayNumber_0 23 rfl rfl
theorem dksX2_sayNumber_2 : cX2_sayNumber.data.toList.drop 45 = dktX2_sayNumber_2 := dk_seg dksX2_sayNumber_1 22 rfl rfl
theorem dksX2_sayNumber_3 : cX2_sayNumber.data.toList.drop 69 = dktX2_sayNumber_3 := dk_seg dksX2_sayNumber_2 24 rfl rfl
theorem dX2_sayNumber_0 : decode cX2_sayNumber 0 = .ok (.iload_n 1, 1) := dk_27 (dk_at dksX2_sayNumber_0 0 rfl rfl)
theorem dX2_sayNumber_1 : decode cX2_sayNumber 1 = .ok (.ifCond .ge 9, 3) := dk_156 0 9 (dk_at dksX2_sayNumber_0 1 rfl rfl)
theorem dX2_sayNumber_4 : decode cX2_sayNumber 4 = .ok (.iload_n 1, 1) := dk_27 (dk_at dksX2_sayNumber_0 4 rfl rfl)
theorem dX2_sayNumber_5 : decode cX2_sayNumber 5 = .ok (.i2l, 1) := dk_133 (dk_at dksX2_sayNumber_0 5 rfl rfl)
theorem dX2_sayNumber_6 : decode cX2_sayNumber 6 = .ok (.lneg, 1) := dk_117 (dk_at dksX2_sayNumber_0 6 rfl rfl)
theorem dX2_sayNumber_7 : decode cX2_sayNumber 7 = .ok (.goto 5, 3) := dk_167 0 5 (dk_at dksX2_sayNumber_0 7 rfl rfl)
theorem dX2_sayNumber_10 : decode cX2_sayNumber 10 = .ok (.iload_n 1, 1) := dk_27 (dk_at dksX2_sayNumber_0 10 rfl rfl)
theorem dX2_sayNumber_11 : decode cX2_sayNumber 11 = .ok (.i2l, 1) := dk_133 (dk_at dksX2_sayNumber_0 11 rfl rfl)
theorem dX2_sayNumber_12 : decode cX2_sayNumber 12 = .ok (.lstore_n 2, 1) := dk_65 (dk_at dksX2_sayNumber_0 12 rfl rfl)
theorem dX2_sayNumber_13 : decode cX2_sayNumber 13 = .ok (.lconst 1, 1) := dk_10 (dk_at dksX2_sayNumber_0 13 rfl rfl)
theorem dX2_sayNumber_14 : decode cX2_sayNumber 14 = .ok (.lstore 4, 2) := dk_55 4 (dk_at dksX2_sayNumber_0 14 rfl rfl)
theorem dX2_sayNumber_16 : decode cX2_sayNumber 16 = .ok (.iload_n 1, 1) := dk_27 (dk_at dksX2_sayNumber_0 16 rfl rfl)
theorem dX2_sayNumber_17 : decode cX2_sayNumber 17 = .ok (.ifCond .ge 9, 3) := dk_156 0 9 (dk_at dksX2_sayNumber_0 17 rfl rfl)
theorem dX2_sayNumber_20 : decode cX2_sayNumber 20 = .ok (.aload_n 0, 1) := dk_42 (dk_at dksX2_sayNumber_0 20 rfl rfl)
theorem dX2_sayNumber_21 : decode cX2_sayNumber 21 = .ok (.bipush 45, 2) := dk_16 45 (dk_at dksX2_sayNumber_0 21 rfl rfl)
theorem dX2_sayNumber_23 : decode cX2_sayNumber 23 = .ok (.invokevirtual 415, 3) := dk_182 1 159 (dk_at dksX2_sayNumber_1 0 rfl rfl)
theorem dX2_sayNumber_26 : decode cX2_sayNumber 26 = .ok (.lload_n 2, 1) := dk_32 (dk_at dksX2_sayNumber_1 3 rfl rfl)
theorem dX2_sayNumber_27 : decode cX2_sayNumber 27 = .ok (.lload 4, 2) := dk_22 4 (dk_at dksX2_sayNumber_1 4 rfl rfl)
theorem dX2_sayNumber_29 : decode cX2_sayNumber 29 = .ok (.ldiv, 1) := dk_109 (dk_at dksX2_sayNumber_1 6 rfl rfl)
theorem dX2_sayNumber_30 : decode cX2_sayNumber 30 = .ok (.ldc2_w 418, 3) := dk_20 1 162 (dk_at dksX2_sayNumber_1 7 rfl rfl)
theorem dX2_sayNumber_33 : decode cX2_sayNumber 33 = .ok (.lcmp, 1) := dk_148 (dk_at dksX2_sayNumber_1 10 rfl rfl)
theorem dX2_sayNumber_34 : decode cX2_sayNumber 34 = .ok (.ifCond .le 14, 3) := dk_158 0 14 (dk_at dksX2_sayNumber_1 11 rfl rfl)
theorem dX2_sayNumber_37 : decode cX2_sayNumber 37 = .ok (.lload 4, 2) := dk_22 4 (dk_at dksX2_sayNumber_1 14 rfl rfl)
theorem dX2_sayNumber_39 : decode cX2_sayNumber 39 = .ok (.ldc2_w 221, 3) := dk_20 0 221 (dk_at dksX2_sayNumber_1 16 rfl rfl)
theorem dX2_sayNumber_42 : decode cX2_sayNumber 42 = .ok (.lmul, 1) := dk_105 (dk_at dksX2_sayNumber_1 19 rfl rfl)
theorem dX2_sayNumber_43 : decode cX2_sayNumber 43 = .ok (.lstore 4, 2) := dk_55 4 (dk_at dksX2_sayNumber_1 20 rfl rfl)
theorem dX2_sayNumber_45 : decode cX2_sayNumber 45 = .ok (.goto (-19), 3) := dk_167 255 237 (dk_at dksX2_sayNumber_2 0 rfl rfl)
theorem dX2_sayNumber_48 : decode cX2_sayNumber 48 = .ok (.lload 4, 2) := dk_22 4 (dk_at dksX2_sayNumber_2 3 rfl rfl)
theorem dX2_sayNumber_50 : decode cX2_sayNumber 50 = .ok (.lconst 0, 1) := dk_9 (dk_at dksX2_sayNumber_2 5 rfl rfl)
theorem dX2_sayNumber_51 : decode cX2_sayNumber 51 = .ok (.lcmp, 1) := dk_148 (dk_at dksX2_sayNumber_2 6 rfl rfl)
theorem dX2_sayNumber_52 : decode cX2_sayNumber 52 = .ok (.ifCond .le 31, 3) := dk_158 0 31 (dk_at dksX2_sayNumber_2 7 rfl rfl)
theorem dX2_sayNumber_55 : decode cX2_sayNumber 55 = .ok (.aload_n 0, 1) := dk_42 (dk_at dksX2_sayNumber_2 10 rfl rfl)
theorem dX2_sayNumber_56 : decode cX2_sayNumber 56 = .ok (.ldc2_w 223, 3) := dk_20 0 223 (dk_at dksX2_sayNumber_2 11 rfl rfl)
theorem dX2_sayNumber_59 : decode cX2_sayNumber 59 = .ok (.lload_n 2, 1) := dk_32 (dk_at dksX2_sayNumber_2 14 rfl rfl)
theorem dX2_sayNumber_60 : decode cX2_sayNumber 60 = .ok (.lload 4, 2) := dk_22 4 (dk_at dksX2_sayNumber_2 15 rfl rfl)
theorem dX2_sayNumber_62 : decode cX2_sayNumber 62 = .ok (.ldiv, 1) := dk_109 (dk_at dksX2_sayNumber_2 17 rfl rfl)
theorem dX2_sayNumber_63 : decode cX2_sayNumber 63 = .ok (.ldc2_w 221, 3) := dk_20 0 221 (dk_at dksX2_sayNumber_2 18 rfl rfl)
theorem dX2_sayNumber_66 : decode cX2_sayNumber 66 = .ok (.lrem, 1) := dk_113 (dk_at dksX2_sayNumber_2 21 rfl rfl)
theorem dX2_sayNumber_67 : decode cX2_sayNumber 67 = .ok (.ladd, 1) := dk_97 (dk_at dksX2_sayNumber_2 22 rfl rfl)
theorem dX2_sayNumber_68 : decode cX2_sayNumber 68 = .ok (.l2i, 1) := dk_136 (dk_at dksX2_sayNumber_2 23 rfl rfl)
theorem dX2_sayNumber_69 : decode cX2_sayNumber 69 = .ok (.invokevirtual 415, 3) := dk_182 1 159 (dk_at dksX2_sayNumber_3 0 rfl rfl)
theorem dX2_sayNumber_72 : decode cX2_sayNumber 72 = .ok (.lload 4, 2) := dk_22 4 (dk_at dksX2_sayNumber_3 3 rfl rfl)
theorem dX2_sayNumber_74 : decode cX2_sayNumber 74 = .ok (.ldc2_w 221, 3) := dk_20 0 221 (dk_at dksX2_sayNumber_3 5 rfl rfl)
theorem dX2_sayNumber_77 : decode cX2_sayNumber 77 = .ok (.ldiv, 1) := dk_109 (dk_at dksX2_sayNumber_3 8 rfl rfl)
theorem dX2_sayNumber_78 : decode cX2_sayNumber 78 = .ok (.lstore 4, 2) := dk_55 4 (dk_at dksX2_sayNumber_3 9 rfl rfl)
theorem dX2_sayNumber_80 : decode cX2_sayNumber 80 = .ok (.goto (-32), 3) := dk_167 255 224 (dk_at dksX2_sayNumber_3 11 rfl rfl)
theorem dX2_sayNumber_83 : decode cX2_sayNumber 83 = .ok (.return_, 1) := dk_177 (dk_at dksX2_sayNumber_3 14 rfl rfl)
abbrev cX2_saySets : ByteArray := prog_24_method_97_code
def yX2_saySets : MethodName := ⟨RX2, "saySets", "(III)V"⟩
def dkwX2_saySets_2 : List UInt8 := [182, 1, 184, 42, 182, 1, 187, 132, 4, 1, 167, 255, 202, 177]
abbrev dktX2_saySets_2 : List UInt8 := dkwX2_saySets_2 ++ []
def dkwX2_saySets_1 : List UInt8 := [154, 0, 6, 167, 0, 28, 42, 182, 1, 176, 42, 21, 4, 182, 1, 179, 42, 182, 1, 182, 42, 27, 21, 4]
abbrev dktX2_saySets_1 : List UInt8 := dkwX2_saySets_1 ++ dktX2_saySets_2
def dkwX2_saySets_0 : List UInt8 := [3, 54, 4, 21, 4, 42, 180, 0, 49, 27, 46, 162, 0, 49, 42, 27, 28, 21, 4, 29, 182, 1, 126]
abbrev dktX2_saySets_0 : List UInt8 := dkwX2_saySets_0 ++ dktX2_saySets_1
theorem dksX2_saySets_0 : cX2_saySets.data.toList.drop 0 = dktX2_saySets_0 := by decide +kernel
theorem dksX2_saySets_1 : cX2_saySets.data.toList.drop 23 = dktX2_saySets_1 := dk_seg dksX2_saySets_0 23 rfl rfl
theorem dksX2_saySets_2 : cX2_saySets.data.toList.drop 47 = dktX2_saySets_2 := dk_seg dksX2_saySets_1 24 rfl rfl
theorem dX2_saySets_0 : decode cX2_saySets 0 = .ok (.iconst 0, 1) := dk_3 (dk_at dksX2_saySets_0 0 rfl rfl)
theorem dX2_saySets_1 : decode cX2_saySets 1 = .ok (.istore 4, 2) := dk_54 4 (dk_at dksX2_saySets_0 1 rfl rfl)
theorem dX2_saySets_3 : decode cX2_saySets 3 = .ok (.iload 4, 2) := dk_21 4 (dk_at dksX2_saySets_0 3 rfl rfl)
theorem dX2_saySets_5 : decode cX2_saySets 5 = .ok (.aload_n 0, 1) := dk_42 (dk_at dksX2_saySets_0 5 rfl rfl)
theorem dX2_saySets_6 : decode cX2_saySets 6 = .ok (.getfield 49, 3) := dk_180 0 49 (dk_at dksX2_saySets_0 6 rfl rfl)
theorem dX2_saySets_9 : decode cX2_saySets 9 = .ok (.iload_n 1, 1) := dk_27 (dk_at dksX2_saySets_0 9 rfl rfl)
theorem dX2_saySets_10 : decode cX2_saySets 10 = .ok (.iaload, 1) := dk_46 (dk_at dksX2_saySets_0 10 rfl rfl)
theorem dX2_saySets_11 : decode cX2_saySets 11 = .ok (.if_icmp .ge 49, 3) := dk_162 0 49 (dk_at dksX2_saySets_0 11 rfl rfl)
theorem dX2_saySets_14 : decode cX2_saySets 14 = .ok (.aload_n 0, 1) := dk_42 (dk_at dksX2_saySets_0 14 rfl rfl)
theorem dX2_saySets_15 : decode cX2_saySets 15 = .ok (.iload_n 1, 1) := dk_27 (dk_at dksX2_saySets_0 15 rfl rfl)
theorem dX2_saySets_16 : decode cX2_saySets 16 = .ok (.iload_n 2, 1) := dk_28 (dk_at dksX2_saySets_0 16 rfl rfl)
theorem dX2_saySets_17 : decode cX2_saySets 17 = .ok (.iload 4, 2) := dk_21 4 (dk_at dksX2_saySets_0 17 rfl rfl)
theorem dX2_saySets_19 : decode cX2_saySets 19 = .ok (.iload_n 3, 1) := dk_29 (dk_at dksX2_saySets_0 19 rfl rfl)
theorem dX2_saySets_20 : decode cX2_saySets 20 = .ok (.invokevirtual 382, 3) := dk_182 1 126 (dk_at dksX2_saySets_0 20 rfl rfl)
theorem dX2_saySets_23 : decode cX2_saySets 23 = .ok (.ifCond .ne 6, 3) := dk_154 0 6 (dk_at dksX2_saySets_1 0 rfl rfl)
theorem dX2_saySets_26 : decode cX2_saySets 26 = .ok (.goto 28, 3) := dk_167 0 28 (dk_at dksX2_saySets_1 3 rfl rfl)
theorem dX2_saySets_29 : decode cX2_saySets 29 = .ok (.aload_n 0, 1) := dk_42 (dk_at dksX2_saySets_1 6 rfl rfl)
theorem dX2_saySets_30 : decode cX2_saySets 30 = .ok (.invokevirtual 432, 3) := dk_182 1 176 (dk_at dksX2_saySets_1 7 rfl rfl)
theorem dX2_saySets_33 : decode cX2_saySets 33 = .ok (.aload_n 0, 1) := dk_42 (dk_at dksX2_saySets_1 10 rfl rfl)
theorem dX2_saySets_34 : decode cX2_saySets 34 = .ok (.iload 4, 2) := dk_21 4 (dk_at dksX2_saySets_1 11 rfl rfl)
theorem dX2_saySets_36 : decode cX2_saySets 36 = .ok (.invokevirtual 435, 3) := dk_182 1 179 (dk_at dksX2_saySets_1 13 rfl rfl)
theorem dX2_saySets_39 : decode cX2_saySets 39 = .ok (.aload_n 0, 1) := dk_42 (dk_at dksX2_saySets_1 16 rfl rfl)
theorem dX2_saySets_40 : decode cX2_saySets 40 = .ok (.invokevirtual 438, 3) := dk_182 1 182 (dk_at dksX2_saySets_1 17 rfl rfl)
theorem dX2_saySets_43 : decode cX2_saySets 43 = .ok (.aload_n 0, 1) := dk_42 (dk_at dksX2_saySets_1 20 rfl rfl)
theorem dX2_saySets_44 : decode cX2_saySets 44 = .ok (.iload_n 1, 1) := dk_27 (dk_at dksX2_saySets_1 21 rfl rfl)
theorem dX2_saySets_45 : decode cX2_saySets 45 = .ok (.iload 4, 2) := dk_21 4 (dk_at dksX2_saySets_1 22 rfl rfl)
theorem dX2_saySets_47 : decode cX2_saySets 47 = .ok (.invokevirtual 440, 3) := dk_182 1 184 (dk_at dksX2_saySets_2 0 rfl rfl)
theorem dX2_saySets_50 : decode cX2_saySets 50 = .ok (.aload_n 0, 1) := dk_42 (dk_at dksX2_saySets_2 3 rfl rfl)
theorem dX2_saySets_51 : decode cX2_saySets 51 = .ok (.invokevirtual 443, 3) := dk_182 1 187 (dk_at dksX2_saySets_2 4 rfl rfl)
theorem dX2_saySets_54 : decode cX2_saySets 54 = .ok (.iinc 4 1, 3) := dk_132 4 1 (dk_at dksX2_saySets_2 7 rfl rfl)
theorem dX2_saySets_57 : decode cX2_saySets 57 = .ok (.goto (-54), 3) := dk_167 255 202 (dk_at dksX2_saySets_2 10 rfl rfl)
theorem dX2_saySets_60 : decode cX2_saySets 60 = .ok (.return_, 1) := dk_177 (dk_at dksX2_saySets_2 13 rfl rfl)
abbrev cX2_begin : ByteArray := prog_24_method_90_code
def yX2_begin : MethodName := ⟨RX2, "begin", "()V"⟩
def dkwX2_begin_0 : List UInt8 := [42, 16, 32, 182, 1, 159, 42, 16, 32, 182, 1, 159, 177]
abbrev dktX2_begin_0 : List UInt8 := dkwX2_begin_0 ++ []
theorem dksX2_begin_0 : cX2_begin.data.toList.drop 0 = dktX2_begin_0 := by decide +kernel
theorem dX2_begin_0 : decode cX2_begin 0 = .ok (.aload_n 0, 1) := dk_42 (dk_at dksX2_begin_0 0 rfl rfl)
theorem dX2_begin_1 : decode cX2_begin 1 = .ok (.bipush 32, 2) := dk_16 32 (dk_at dksX2_begin_0 1 rfl rfl)
theorem dX2_begin_3 : decode cX2_begin 3 = .ok (.invokevirtual 415, 3) := dk_182 1 159 (dk_at dksX2_begin_0 3 rfl rfl)
theorem dX2_begin_6 : decode cX2_begin 6 = .ok (.aload_n 0, 1) := dk_42 (dk_at dksX2_begin_0 6 rfl rfl)
theorem dX2_begin_7 : decode cX2_begin 7 = .ok (.bipush 32, 2) := dk_16 32 (dk_at dksX2_begin_0 7 rfl rfl)
theorem dX2_begin_9 : decode cX2_begin 9 = .ok (.invokevirtual 415, 3) := dk_182 1 159 (dk_at dksX2_begin_0 9 rfl rfl)
theorem dX2_begin_12 : decode cX2_begin 12 = .ok (.return_, 1) := dk_177 (dk_at dksX2_begin_0 12 rfl rfl)
abbrev cX2_sayT : ByteArray := prog_24_method_95_code
def yX2_sayT : MethodName := ⟨RX2, "sayT", "(I)V"⟩
def dkwX2_sayT_0 : List UInt8 := [42, 16, 116, 182, 1, 159, 42, 27, 182, 1, 164, 177]
abbrev dktX2_sayT_0 : List UInt8 := dkwX2_sayT_0 ++ []
theorem dksX2_sayT_0 : cX2_sayT.data.toList.drop 0 = dktX2_sayT_0 := by decide +kernel
theorem dX2_sayT_0 : decode cX2_sayT 0 = .ok (.aload_n 0, 1) := dk_42 (dk_at dksX2_sayT_0 0 rfl rfl)
theorem dX2_sayT_1 : decode cX2_sayT 1 = .ok (.bipush 116, 2) := dk_16 116 (dk_at dksX2_sayT_0 1 rfl rfl)
theorem dX2_sayT_3 : decode cX2_sayT 3 = .ok (.invokevirtual 415, 3) := dk_182 1 159 (dk_at dksX2_sayT_0 3 rfl rfl)
theorem dX2_sayT_6 : decode cX2_sayT 6 = .ok (.aload_n 0, 1) := dk_42 (dk_at dksX2_sayT_0 6 rfl rfl)
theorem dX2_sayT_7 : decode cX2_sayT 7 = .ok (.iload_n 1, 1) := dk_27 (dk_at dksX2_sayT_0 7 rfl rfl)
theorem dX2_sayT_8 : decode cX2_sayT 8 = .ok (.invokevirtual 420, 3) := dk_182 1 164 (dk_at dksX2_sayT_0 8 rfl rfl)
theorem dX2_sayT_11 : decode cX2_sayT 11 = .ok (.return_, 1) := dk_177 (dk_at dksX2_sayT_0 11 rfl rfl)
abbrev cX2_is_2 : ByteArray := prog_24_method_92_code
def yX2_is_2 : MethodName := ⟨RX2, "is", "()V"⟩
def dkwX2_is_2_0 : List UInt8 := [42, 16, 32, 182, 1, 159, 42, 16, 61, 182, 1, 159, 42, 16, 32, 182, 1, 159, 177]
abbrev dktX2_is_2_0 : List UInt8 := dkwX2_is_2_0 ++ []
theorem dksX2_is_2_0 : cX2_is_2.data.toList.drop 0 = dktX2_is_2_0 := by decide +kernel
theorem dX2_is_2_0 : decode cX2_is_2 0 = .ok (.aload_n 0, 1) := dk_42 (dk_at dksX2_is_2_0 0 rfl rfl)
theorem dX2_is_2_1 : decode cX2_is_2 1 = .ok (.bipush 32, 2) := dk_16 32 (dk_at dksX2_is_2_0 1 rfl rfl)
theorem dX2_is_2_3 : decode cX2_is_2 3 = .ok (.invokevirtual 415, 3) := dk_182 1 159 (dk_at dksX2_is_2_0 3 rfl rfl)
theorem dX2_is_2_6 : decode cX2_is_2 6 = .ok (.aload_n 0, 1) := dk_42 (dk_at dksX2_is_2_0 6 rfl rfl)
theorem dX2_is_2_7 : decode cX2_is_2 7 = .ok (.bipush 61, 2) := dk_16 61 (dk_at dksX2_is_2_0 7 rfl rfl)
theorem dX2_is_2_9 : decode cX2_is_2 9 = .ok (.invokevirtual 415, 3) := dk_182 1 159 (dk_at dksX2_is_2_0 9 rfl rfl)
theorem dX2_is_2_12 : decode cX2_is_2 12 = .ok (.aload_n 0, 1) := dk_42 (dk_at dksX2_is_2_0 12 rfl rfl)
theorem dX2_is_2_13 : decode cX2_is_2 13 = .ok (.bipush 32, 2) := dk_16 32 (dk_at dksX2_is_2_0 13 rfl rfl)
theorem dX2_is_2_15 : decode cX2_is_2 15 = .ok (.invokevirtual 415, 3) := dk_182 1 159 (dk_at dksX2_is_2_0 15 rfl rfl)
theorem dX2_is_2_18 : decode cX2_is_2 18 = .ok (.return_, 1) := dk_177 (dk_at dksX2_is_2_0 18 rfl rfl)
abbrev cX2_saySum : ByteArray := prog_24_method_89_code
def yX2_saySum : MethodName := ⟨RX2, "saySum", "(II)V"⟩
def dkwX2_saySum_4 : List UInt8 := [182, 1, 167, 177]
abbrev dktX2_saySum_4 : List UInt8 := dkwX2_saySum_4 ++ []
def dkwX2_saySum_3 : List UInt8 := [182, 1, 159, 42, 16, 32, 182, 1, 159, 42, 42, 180, 0, 100, 29, 46, 42, 180, 0, 103, 29, 46]
abbrev dktX2_saySum_3 : List UInt8 := dkwX2_saySum_3 ++ dktX2_saySum_4
def dkwX2_saySum_2 : List UInt8 := [42, 180, 0, 97, 29, 46, 182, 1, 167, 42, 16, 32, 182, 1, 159, 42, 42, 180, 0, 91, 29, 46]
abbrev dktX2_saySum_2 : List UInt8 := dkwX2_saySum_2 ++ dktX2_saySum_3
def dkwX2_saySum_1 : List UInt8 := [46, 42, 180, 0, 100, 29, 46, 42, 180, 0, 103, 29, 46, 182, 1, 170, 177, 42, 42, 180, 0, 94, 29, 46]
abbrev dktX2_saySum_1 : List UInt8 := dkwX2_saySum_1 ++ dktX2_saySum_2
def dkwX2_saySum_0 : List UInt8 := [16, 32, 27, 104, 28, 96, 62, 42, 180, 0, 91, 29, 46, 16, 114, 160, 0, 26, 42, 42, 180, 0, 97, 29]
abbrev dktX2_saySum_0 : List UInt8 := dkwX2_saySum_0 ++ dktX2_saySum_1
theorem dksX2_saySum_0 : cX2_saySum.data.toList.drop 0 = dktX2_saySum_0 := by decide +kernel
theorem dksX2_saySum_1 : cX2_saySum.data.toList.drop 24 = dktX2_saySum_1 := dk_seg dksX2_saySum_0 24 rfl rfl
theorem dksX2_saySum_2 : cX2_saySum.data.toList.drop 48 = dktX2_saySum_2 := dk_seg dksX2_saySum_1 24 rfl rfl
theorem dksX2_saySum_3 : cX2_saySum.data.toList.drop 70 = dktX2_saySum_3 := dk_seg dksX2_saySum_2 22 rfl rfl
theorem dksX2_saySum_4 : cX2_saySum.data.toList.drop 92 = dktX2_saySum_4 := dk_seg dksX2_saySum_3 22 rfl rfl
theorem dX2_saySum_0 : decode cX2_saySum 0 = .ok (.bipush 32, 2) := dk_16 32 (dk_at dksX2_saySum_0 0 rfl rfl)
theorem dX2_saySum_2 : decode cX2_saySum 2 = .ok (.iload_n 1, 1) := dk_27 (dk_at dksX2_saySum_0 2 rfl rfl)
theorem dX2_saySum_3 : decode cX2_saySum 3 = .ok (.imul, 1) := dk_104 (dk_at dksX2_saySum_0 3 rfl rfl)
theorem dX2_saySum_4 : decode cX2_saySum 4 = .ok (.iload_n 2, 1) := dk_28 (dk_at dksX2_saySum_0 4 rfl rfl)
theorem dX2_saySum_5 : decode cX2_saySum 5 = .ok (.iadd, 1) := dk_96 (dk_at dksX2_saySum_0 5 rfl rfl)
theorem dX2_saySum_6 : decode cX2_saySum 6 = .ok (.istore_n 3, 1) := dk_62 (dk_at dksX2_saySum_0 6 rfl rfl)
theorem dX2_saySum_7 : decode cX2_saySum 7 = .ok (.aload_n 0, 1) := dk_42 (dk_at dksX2_saySum_0 7 rfl rfl)
theorem dX2_saySum_8 : decode cX2_saySum 8 = .ok (.getfield 91, 3) := dk_180 0 91 (dk_at dksX2_saySum_0 8 rfl rfl)
theorem dX2_saySum_11 : decode cX2_saySum 11 = .ok (.iload_n 3, 1) := dk_29 (dk_at dksX2_saySum_0 11 rfl rfl)
theorem dX2_saySum_12 : decode cX2_saySum 12 = .ok (.iaload, 1) := dk_46 (dk_at dksX2_saySum_0 12 rfl rfl)
theorem dX2_saySum_13 : decode cX2_saySum 13 = .ok (.bipush 114, 2) := dk_16 114 (dk_at dksX2_saySum_0 13 rfl rfl)
theorem dX2_saySum_15 : decode cX2_saySum 15 = .ok (.if_icmp .ne 26, 3) := dk_160 0 26 (dk_at dksX2_saySum_0 15 rfl rfl)
theorem dX2_saySum_18 : decode cX2_saySum 18 = .ok (.aload_n 0, 1) := dk_42 (dk_at dksX2_saySum_0 18 rfl rfl)
theorem dX2_saySum_19 : decode cX2_saySum 19 = .ok (.aload_n 0, 1) := dk_42 (dk_at dksX2_saySum_0 19 rfl rfl)
theorem dX2_saySum_20 : decode cX2_saySum 20 = .ok (.getfield 97, 3) := dk_180 0 97 (dk_at dksX2_saySum_0 20 rfl rfl)
theorem dX2_saySum_23 : decode cX2_saySum 23 = .ok (.iload_n 3, 1) := dk_29 (dk_at dksX2_saySum_0 23 rfl rfl)
theorem dX2_saySum_24 : decode cX2_saySum 24 = .ok (.iaload, 1) := dk_46 (dk_at dksX2_saySum_1 0 rfl rfl)
theorem dX2_saySum_25 : decode cX2_saySum 25 = .ok (.aload_n 0, 1) := dk_42 (dk_at dksX2_saySum_1 1 rfl rfl)
theorem dX2_saySum_26 : decode cX2_saySum 26 = .ok (.getfield 100, 3) := dk_180 0 100 (dk_at dksX2_saySum_1 2 rfl rfl)
theorem dX2_saySum_29 : decode cX2_saySum 29 = .ok (.iload_n 3, 1) := dk_29 (dk_at dksX2_saySum_1 5 rfl rfl)
theorem dX2_saySum_30 : decode cX2_saySum 30 = .ok (.iaload, 1) := dk_46 (dk_at dksX2_saySum_1 6 rfl rfl)
theorem dX2_saySum_31 : decode cX2_saySum 31 = .ok (.aload_n 0, 1) := dk_42 (dk_at dksX2_saySum_1 7 rfl rfl)
theorem dX2_saySum_32 : decode cX2_saySum 32 = .ok (.getfield 103, 3) := dk_180 0 103 (dk_at dksX2_saySum_1 8 rfl rfl)
theorem dX2_saySum_35 : decode cX2_saySum 35 = .ok (.iload_n 3, 1) := dk_29 (dk_at dksX2_saySum_1 11 rfl rfl)
theorem dX2_saySum_36 : decode cX2_saySum 36 = .ok (.iaload, 1) := dk_46 (dk_at dksX2_saySum_1 12 rfl rfl)
theorem dX2_saySum_37 : decode cX2_saySum 37 = .ok (.invokevirtual 426, 3) := dk_182 1 170 (dk_at dksX2_saySum_1 13 rfl rfl)
theorem dX2_saySum_40 : decode cX2_saySum 40 = .ok (.return_, 1) := dk_177 (dk_at dksX2_saySum_1 16 rfl rfl)
theorem dX2_saySum_41 : decode cX2_saySum 41 = .ok (.aload_n 0, 1) := dk_42 (dk_at dksX2_saySum_1 17 rfl rfl)
theorem dX2_saySum_42 : decode cX2_saySum 42 = .ok (.aload_n 0, 1) := dk_42 (dk_at dksX2_saySum_1 18 rfl rfl)
theorem dX2_saySum_43 : decode cX2_saySum 43 = .ok (.getfield 94, 3) := dk_180 0 94 (dk_at dksX2_saySum_1 19 rfl rfl)
theorem dX2_saySum_46 : decode cX2_saySum 46 = .ok (.iload_n 3, 1) := dk_29 (dk_at dksX2_saySum_1 22 rfl rfl)
theorem dX2_saySum_47 : decode cX2_saySum 47 = .ok (.iaload, 1) := dk_46 (dk_at dksX2_saySum_1 23 rfl rfl)
theorem dX2_saySum_48 : decode cX2_saySum 48 = .ok (.aload_n 0, 1) := dk_42 (dk_at dksX2_saySum_2 0 rfl rfl)
theorem dX2_saySum_49 : decode cX2_saySum 49 = .ok (.getfield 97, 3) := dk_180 0 97 (dk_at dksX2_saySum_2 1 rfl rfl)
theorem dX2_saySum_52 : decode cX2_saySum 52 = .ok (.iload_n 3, 1) := dk_29 (dk_at dksX2_saySum_2 4 rfl rfl)
theorem dX2_saySum_53 : decode cX2_saySum 53 = .ok (.iaload, 1) := dk_46 (dk_at dksX2_saySum_2 5 rfl rfl)
theorem dX2_saySum_54 : decode cX2_saySum 54 = .ok (.invokevirtual 423, 3) := dk_182 1 167 (dk_at dksX2_saySum_2 6 rfl rfl)
theorem dX2_saySum_57 : decode cX2_saySum 57 = .ok (.aload_n 0, 1) := dk_42 (dk_at dksX2_saySum_2 9 rfl rfl)
theorem dX2_saySum_58 : decode cX2_saySum 58 = .ok (.bipush 32, 2) := dk_16 32 (dk_at dksX2_saySum_2 10 rfl rfl)
theorem dX2_saySum_60 : decode cX2_saySum 60 = .ok (.invokevirtual 415, 3) := dk_182 1 159 (dk_at dksX2_saySum_2 12 rfl rfl)
theorem dX2_saySum_63 : decode cX2_saySum 63 = .ok (.aload_n 0, 1) := dk_42 (dk_at dksX2_saySum_2 15 rfl rfl)
theorem dX2_saySum_64 : decode cX2_saySum 64 = .ok (.aload_n 0, 1) := dk_42 (dk_at dksX2_saySum_2 16 rfl rfl)
theorem dX2_saySum_65 : decode cX2_saySum 65 = .ok (.getfield 91, 3) := dk_180 0 91 (dk_at dksX2_saySum_2 17 rfl rfl)
theorem dX2_saySum_68 : decode cX2_saySum 68 = .ok (.iload_n 3, 1) := dk_29 (dk_at dksX2_saySum_2 20 rfl rfl)
theorem dX2_saySum_69 : decode cX2_saySum 69 = .ok (.iaload, 1) := dk_46 (dk_at dksX2_saySum_2 21 rfl rfl)
theorem dX2_saySum_70 : decode cX2_saySum 70 = .ok (.invokevirtual 415, 3) := dk_182 1 159 (dk_at dksX2_saySum_3 0 rfl rfl)
theorem dX2_saySum_73 : decode cX2_saySum 73 = .ok (.aload_n 0, 1) := dk_42 (dk_at dksX2_saySum_3 3 rfl rfl)
theorem dX2_saySum_74 : decode cX2_saySum 74 = .ok (.bipush 32, 2) := dk_16 32 (dk_at dksX2_saySum_3 4 rfl rfl)
theorem dX2_saySum_76 : decode cX2_saySum 76 = .ok (.invokevirtual 415, 3) := dk_182 1 159 (dk_at dksX2_saySum_3 6 rfl rfl)
theorem dX2_saySum_79 : decode cX2_saySum 79 = .ok (.aload_n 0, 1) := dk_42 (dk_at dksX2_saySum_3 9 rfl rfl)
theorem dX2_saySum_80 : decode cX2_saySum 80 = .ok (.aload_n 0, 1) := dk_42 (dk_at dksX2_saySum_3 10 rfl rfl)
theorem dX2_saySum_81 : decode cX2_saySum 81 = .ok (.getfield 100, 3) := dk_180 0 100 (dk_at dksX2_saySum_3 11 rfl rfl)
theorem dX2_saySum_84 : decode cX2_saySum 84 = .ok (.iload_n 3, 1) := dk_29 (dk_at dksX2_saySum_3 14 rfl rfl)
theorem dX2_saySum_85 : decode cX2_saySum 85 = .ok (.iaload, 1) := dk_46 (dk_at dksX2_saySum_3 15 rfl rfl)
theorem dX2_saySum_86 : decode cX2_saySum 86 = .ok (.aload_n 0, 1) := dk_42 (dk_at dksX2_saySum_3 16 rfl rfl)
theorem dX2_saySum_87 : decode cX2_saySum 87 = .ok (.getfield 103, 3) := dk_180 0 103 (dk_at dksX2_saySum_3 17 rfl rfl)
theorem dX2_saySum_90 : decode cX2_saySum 90 = .ok (.iload_n 3, 1) := dk_29 (dk_at dksX2_saySum_3 20 rfl rfl)
theorem dX2_saySum_91 : decode cX2_saySum 91 = .ok (.iaload, 1) := dk_46 (dk_at dksX2_saySum_3 21 rfl rfl)
theorem dX2_saySum_92 : decode cX2_saySum 92 = .ok (.invokevirtual 423, 3) := dk_182 1 167 (dk_at dksX2_saySum_4 0 rfl rfl)
theorem dX2_saySum_95 : decode cX2_saySum 95 = .ok (.return_, 1) := dk_177 (dk_at dksX2_saySum_4 3 rfl rfl)
abbrev cX2_sayRow : ByteArray := prog_24_method_88_code
def yX2_sayRow : MethodName := ⟨RX2, "sayRow", "(III)V"⟩
def dkwX2_sayRow_1 : List UInt8 := [16, 32, 182, 1, 159, 42, 28, 29, 182, 1, 167, 42, 16, 32, 182, 1, 159, 42, 16, 93, 182, 1, 159, 177]
abbrev dktX2_sayRow_1 : List UInt8 := dkwX2_sayRow_1 ++ []
def dkwX2_sayRow_0 : List UInt8 := [42, 16, 114, 182, 1, 159, 42, 27, 182, 1, 164, 42, 16, 32, 182, 1, 159, 42, 16, 91, 182, 1, 159, 42]
abbrev dktX2_sayRow_0 : List UInt8 := dkwX2_sayRow_0 ++ dktX2_sayRow_1
theorem dksX2_sayRow_0 : cX2_sayRow.data.toList.drop 0 = dktX2_sayRow_0 := by decide +kernel
theorem dksX2_sayRow_1 : cX2_sayRow.data.toList.drop 24 = dktX2_sayRow_1 := dk_seg dksX2_sayRow_0 24 rfl rfl
theorem dX2_sayRow_0 : decode cX2_sayRow 0 = .ok (.aload_n 0, 1) := dk_42 (dk_at dksX2_sayRow_0 0 rfl rfl)
theorem dX2_sayRow_1 : decode cX2_sayRow 1 = .ok (.bipush 114, 2) := dk_16 114 (dk_at dksX2_sayRow_0 1 rfl rfl)
theorem dX2_sayRow_3 : decode cX2_sayRow 3 = .ok (.invokevirtual 415, 3) := dk_182 1 159 (dk_at dksX2_sayRow_0 3 rfl rfl)
theorem dX2_sayRow_6 : decode cX2_sayRow 6 = .ok (.aload_n 0, 1) := dk_42 (dk_at dksX2_sayRow_0 6 rfl rfl)
theorem dX2_sayRow_7 : decode cX2_sayRow 7 = .ok (.iload_n 1, 1) := dk_27 (dk_at dksX2_sayRow_0 7 rfl rfl)
theorem dX2_sayRow_8 : decode cX2_sayRow 8 = .ok (.invokevirtual 420, 3) := dk_182 1 164 (dk_at dksX2_sayRow_0 8 rfl rfl)
theorem dX2_sayRow_11 : decode cX2_sayRow 11 = .ok (.aload_n 0, 1) := dk_42 (dk_at dksX2_sayRow_0 11 rfl rfl)
theorem dX2_sayRow_12 : decode cX2_sayRow 12 = .ok (.bipush 32, 2) := dk_16 32 (dk_at dksX2_sayRow_0 12 rfl rfl)
theorem dX2_sayRow_14 : decode cX2_sayRow 14 = .ok (.invokevirtual 415, 3) := dk_182 1 159 (dk_at dksX2_sayRow_0 14 rfl rfl)
theorem dX2_sayRow_17 : decode cX2_sayRow 17 = .ok (.aload_n 0, 1) := dk_42 (dk_at dksX2_sayRow_0 17 rfl rfl)
theorem dX2_sayRow_18 : decode cX2_sayRow 18 = .ok (.bipush 91, 2) := dk_16 91 (dk_at dksX2_sayRow_0 18 rfl rfl)
theorem dX2_sayRow_20 : decode cX2_sayRow 20 = .ok (.invokevirtual 415, 3) := dk_182 1 159 (dk_at dksX2_sayRow_0 20 rfl rfl)
theorem dX2_sayRow_23 : decode cX2_sayRow 23 = .ok (.aload_n 0, 1) := dk_42 (dk_at dksX2_sayRow_0 23 rfl rfl)
theorem dX2_sayRow_24 : decode cX2_sayRow 24 = .ok (.bipush 32, 2) := dk_16 32 (dk_at dksX2_sayRow_1 0 rfl rfl)
theorem dX2_sayRow_26 : decode cX2_sayRow 26 = .ok (.invokevirtual 415, 3) := dk_182 1 159 (dk_at dksX2_sayRow_1 2 rfl rfl)
theorem dX2_sayRow_29 : decode cX2_sayRow 29 = .ok (.aload_n 0, 1) := dk_42 (dk_at dksX2_sayRow_1 5 rfl rfl)
theorem dX2_sayRow_30 : decode cX2_sayRow 30 = .ok (.iload_n 2, 1) := dk_28 (dk_at dksX2_sayRow_1 6 rfl rfl)
theorem dX2_sayRow_31 : decode cX2_sayRow 31 = .ok (.iload_n 3, 1) := dk_29 (dk_at dksX2_sayRow_1 7 rfl rfl)
theorem dX2_sayRow_32 : decode cX2_sayRow 32 = .ok (.invokevirtual 423, 3) := dk_182 1 167 (dk_at dksX2_sayRow_1 8 rfl rfl)
theorem dX2_sayRow_35 : decode cX2_sayRow 35 = .ok (.aload_n 0, 1) := dk_42 (dk_at dksX2_sayRow_1 11 rfl rfl)
theorem dX2_sayRow_36 : decode cX2_sayRow 36 = .ok (.bipush 32, 2) := dk_16 32 (dk_at dksX2_sayRow_1 12 rfl rfl)
theorem dX2_sayRow_38 : decode cX2_sayRow 38 = .ok (.invokevirtual 415, 3) := dk_182 1 159 (dk_at dksX2_sayRow_1 14 rfl rfl)
theorem dX2_sayRow_41 : decode cX2_sayRow 41 = .ok (.aload_n 0, 1) := dk_42 (dk_at dksX2_sayRow_1 17 rfl rfl)
theorem dX2_sayRow_42 : decode cX2_sayRow 42 = .ok (.bipush 93, 2) := dk_16 93 (dk_at dksX2_sayRow_1 18 rfl rfl)
theorem dX2_sayRow_44 : decode cX2_sayRow 44 = .ok (.invokevirtual 415, 3) := dk_182 1 159 (dk_at dksX2_sayRow_1 20 rfl rfl)
theorem dX2_sayRow_47 : decode cX2_sayRow 47 = .ok (.return_, 1) := dk_177 (dk_at dksX2_sayRow_1 23 rfl rfl)
abbrev cX2_sayOperand : ByteArray := prog_24_method_87_code
def yX2_sayOperand : MethodName := ⟨RX2, "sayOperand", "(II)V"⟩
def dkwX2_sayOperand_1 : List UInt8 := [182, 1, 159, 42, 27, 16, 16, 162, 0, 7, 27, 167, 0, 7, 27, 16, 16, 100, 182, 1, 164, 177]
abbrev dktX2_sayOperand_1 : List UInt8 := dkwX2_sayOperand_1 ++ []
def dkwX2_sayOperand_0 : List UInt8 := [27, 156, 0, 9, 42, 28, 182, 1, 164, 177, 42, 27, 16, 16, 162, 0, 8, 16, 118, 167, 0, 5, 16, 116]
abbrev dktX2_sayOperand_0 : List UInt8 := dkwX2_sayOperand_0 ++ dktX2_sayOperand_1
theorem dksX2_sayOperand_0 : cX2_sayOperand.data.toList.drop 0 = dktX2_sayOperand_0 := by decide +kernel
theorem dksX2_sayOperand_1 : cX2_sayOperand.data.toList.drop 24 = dktX2_sayOperand_1 := dk_seg dksX2_sayOperand_0 24 rfl rfl
theorem dX2_sayOperand_0 : decode cX2_sayOperand 0 = .ok (.iload_n 1, 1) := dk_27 (dk_at dksX2_sayOperand_0 0 rfl rfl)
theorem dX2_sayOperand_1 : decode cX2_sayOperand 1 = .ok (.ifCond .ge 9, 3) := dk_156 0 9 (dk_at dksX2_sayOperand_0 1 rfl rfl)
theorem dX2_sayOperand_4 : decode cX2_sayOperand 4 = .ok (.aload_n 0, 1) := dk_42 (dk_at dksX2_sayOperand_0 4 rfl rfl)
theorem dX2_sayOperand_5 : decode cX2_sayOperand 5 = .ok (.iload_n 2, 1) := dk_28 (dk_at dksX2_sayOperand_0 5 rfl rfl)
theorem dX2_sayOperand_6 : decode cX2_sayOperand 6 = .ok (.invokevirtual 420, 3) := dk_182 1 164 (dk_at dksX2_sayOperand_0 6 rfl rfl)
theorem dX2_sayOperand_9 : decode cX2_sayOperand 9 = .ok (.return_, 1) := dk_177 (dk_at dksX2_sayOperand_0 9 rfl rfl)
theorem dX2_sayOperand_10 : decode cX2_sayOperand 10 = .ok (.aload_n 0, 1) := dk_42 (dk_at dksX2_sayOperand_0 10 rfl rfl)
theorem dX2_sayOperand_11 : decode cX2_sayOperand 11 = .ok (.iload_n 1, 1) := dk_27 (dk_at dksX2_sayOperand_0 11 rfl rfl)
theorem dX2_sayOperand_12 : decode cX2_sayOperand 12 = .ok (.bipush 16, 2) := dk_16 16 (dk_at dksX2_sayOperand_0 12 rfl rfl)
theorem dX2_sayOperand_14 : decode cX2_sayOperand 14 = .ok (.if_icmp .ge 8, 3) := dk_162 0 8 (dk_at dksX2_sayOperand_0 14 rfl rfl)
theorem dX2_sayOperand_17 : decode cX2_sayOperand 17 = .ok (.bipush 118, 2) := dk_16 118 (dk_at dksX2_sayOperand_0 17 rfl rfl)
theorem dX2_sayOperand_19 : decode cX2_sayOperand 19 = .ok (.goto 5, 3) := dk_167 0 5 (dk_at dksX2_sayOperand_0 19 rfl rfl)
theorem dX2_sayOperand_22 : decode cX2_sayOperand 22 = .ok (.bipush 116, 2) := dk_16 116 (dk_at dksX2_sayOperand_0 22 rfl rfl)
theorem dX2_sayOperand_24 : decode cX2_sayOperand 24 = .ok (.invokevirtual 415, 3) := dk_182 1 159 (dk_at dksX2_sayOperand_1 0 rfl rfl)
theorem dX2_sayOperand_27 : decode cX2_sayOperand 27 = .ok (.aload_n 0, 1) := dk_42 (dk_at dksX2_sayOperand_1 3 rfl rfl)
theorem dX2_sayOperand_28 : decode cX2_sayOperand 28 = .ok (.iload_n 1, 1) := dk_27 (dk_at dksX2_sayOperand_1 4 rfl rfl)
theorem dX2_sayOperand_29 : decode cX2_sayOperand 29 = .ok (.bipush 16, 2) := dk_16 16 (dk_at dksX2_sayOperand_1 5 rfl rfl)
theorem dX2_sayOperand_31 : decode cX2_sayOperand 31 = .ok (.if_icmp .ge 7, 3) := dk_162 0 7 (dk_at dksX2_sayOperand_1 7 rfl rfl)
theorem dX2_sayOperand_34 : decode cX2_sayOperand 34 = .ok (.iload_n 1, 1) := dk_27 (dk_at dksX2_sayOperand_1 10 rfl rfl)
theorem dX2_sayOperand_35 : decode cX2_sayOperand 35 = .ok (.goto 7, 3) := dk_167 0 7 (dk_at dksX2_sayOperand_1 11 rfl rfl)
theorem dX2_sayOperand_38 : decode cX2_sayOperand 38 = .ok (.iload_n 1, 1) := dk_27 (dk_at dksX2_sayOperand_1 14 rfl rfl)
theorem dX2_sayOperand_39 : decode cX2_sayOperand 39 = .ok (.bipush 16, 2) := dk_16 16 (dk_at dksX2_sayOperand_1 15 rfl rfl)
theorem dX2_sayOperand_41 : decode cX2_sayOperand 41 = .ok (.isub, 1) := dk_100 (dk_at dksX2_sayOperand_1 17 rfl rfl)
theorem dX2_sayOperand_42 : decode cX2_sayOperand 42 = .ok (.invokevirtual 420, 3) := dk_182 1 164 (dk_at dksX2_sayOperand_1 18 rfl rfl)
theorem dX2_sayOperand_45 : decode cX2_sayOperand 45 = .ok (.return_, 1) := dk_177 (dk_at dksX2_sayOperand_1 21 rfl rfl)
abbrev cX2_close : ByteArray := prog_24_method_91_code
def yX2_close : MethodName := ⟨RX2, "close", "()V"⟩
def dkwX2_close_0 : List UInt8 := [42, 16, 59, 182, 1, 159, 42, 16, 10, 182, 1, 159, 177]
abbrev dktX2_close_0 : List UInt8 := dkwX2_close_0 ++ []
theorem dksX2_close_0 : cX2_close.data.toList.drop 0 = dktX2_close_0 := by decide +kernel
theorem dX2_close_0 : decode cX2_close 0 = .ok (.aload_n 0, 1) := dk_42 (dk_at dksX2_close_0 0 rfl rfl)
theorem dX2_close_1 : decode cX2_close 1 = .ok (.bipush 59, 2) := dk_16 59 (dk_at dksX2_close_0 1 rfl rfl)
theorem dX2_close_3 : decode cX2_close 3 = .ok (.invokevirtual 415, 3) := dk_182 1 159 (dk_at dksX2_close_0 3 rfl rfl)
theorem dX2_close_6 : decode cX2_close 6 = .ok (.aload_n 0, 1) := dk_42 (dk_at dksX2_close_0 6 rfl rfl)
theorem dX2_close_7 : decode cX2_close 7 = .ok (.bipush 10, 2) := dk_16 10 (dk_at dksX2_close_0 7 rfl rfl)
theorem dX2_close_9 : decode cX2_close 9 = .ok (.invokevirtual 415, 3) := dk_182 1 159 (dk_at dksX2_close_0 9 rfl rfl)
theorem dX2_close_12 : decode cX2_close 12 = .ok (.return_, 1) := dk_177 (dk_at dksX2_close_0 12 rfl rfl)
abbrev cX2_sayNode : ByteArray := prog_24_method_99_code
def yX2_sayNode : MethodName := ⟨RX2, "sayNode", "(III)V"⟩
def dkwX2_sayNode_18 : List UInt8 := [182, 1, 187, 177]
abbrev dktX2_sayNode_18 : List UInt8 := dkwX2_sayNode_18 ++ []
def dkwX2_sayNode_17 : List UInt8 := [182, 1, 159, 42, 16, 97, 182, 1, 159, 42, 16, 118, 182, 1, 159, 42, 16, 101, 182, 1, 159, 42]
abbrev dktX2_sayNode_17 : List UInt8 := dkwX2_sayNode_17 ++ dktX2_sayNode_18
def dkwX2_sayNode_16 : List UInt8 := [180, 0, 73, 21, 4, 46, 182, 1, 190, 182, 1, 173, 167, 0, 33, 42, 16, 108, 182, 1, 159, 42, 16, 101]
abbrev dktX2_sayNode_16 : List UInt8 := dkwX2_sayNode_16 ++ dktX2_sayNode_17
def dkwX2_sayNode_15 : List UInt8 := [180, 0, 70, 21, 4, 46, 182, 1, 190, 182, 1, 173, 42, 16, 32, 182, 1, 159, 42, 42, 27, 42]
abbrev dktX2_sayNode_15 : List UInt8 := dkwX2_sayNode_15 ++ dktX2_sayNode_16
def dkwX2_sayNode_14 : List UInt8 := [21, 4, 46, 42, 180, 0, 85, 21, 4, 46, 182, 1, 167, 42, 16, 32, 182, 1, 159, 42, 42, 27, 42]
abbrev dktX2_sayNode_14 : List UInt8 := dkwX2_sayNode_14 ++ dktX2_sayNode_15
def dkwX2_sayNode_13 : List UInt8 := [42, 16, 32, 182, 1, 159, 42, 16, 60, 182, 1, 159, 42, 16, 32, 182, 1, 159, 42, 42, 180, 0, 82]
abbrev dktX2_sayNode_13 : List UInt8 := dkwX2_sayNode_13 ++ dktX2_sayNode_14
def dkwX2_sayNode_12 : List UInt8 := [42, 16, 32, 182, 1, 159, 42, 42, 180, 0, 76, 21, 4, 46, 42, 180, 0, 79, 21, 4, 46, 182, 1, 167]
abbrev dktX2_sayNode_12 : List UInt8 := dkwX2_sayNode_12 ++ dktX2_sayNode_13
def dkwX2_sayNode_11 : List UInt8 := [21, 4, 46, 182, 1, 190, 182, 1, 192, 167, 0, 152, 42, 16, 105, 182, 1, 159, 42, 16, 102, 182, 1, 159]
abbrev dktX2_sayNode_11 : List UInt8 := dkwX2_sayNode_11 ++ dktX2_sayNode_12
def dkwX2_sayNode_10 : List UInt8 := [21, 4, 46, 42, 180, 0, 79, 21, 4, 46, 182, 1, 167, 167, 0, 171, 42, 42, 27, 42, 180, 0, 70]
abbrev dktX2_sayNode_10 : List UInt8 := dkwX2_sayNode_10 ++ dktX2_sayNode_11
def dkwX2_sayNode_9 : List UInt8 := [42, 16, 108, 182, 1, 159, 42, 16, 108, 182, 1, 159, 42, 16, 32, 182, 1, 159, 42, 42, 180, 0, 76]
abbrev dktX2_sayNode_9 : List UInt8 := dkwX2_sayNode_9 ++ dktX2_sayNode_10
def dkwX2_sayNode_8 : List UInt8 := [180, 0, 85, 21, 4, 46, 182, 1, 167, 167, 0, 222, 42, 16, 116, 182, 1, 159, 42, 16, 101, 182, 1, 159]
abbrev dktX2_sayNode_8 : List UInt8 := dkwX2_sayNode_8 ++ dktX2_sayNode_9
def dkwX2_sayNode_7 : List UInt8 := [180, 0, 79, 21, 4, 46, 182, 1, 170, 42, 182, 1, 182, 42, 42, 180, 0, 82, 21, 4, 46, 42]
abbrev dktX2_sayNode_7 : List UInt8 := dkwX2_sayNode_7 ++ dktX2_sayNode_8
def dkwX2_sayNode_6 : List UInt8 := [182, 1, 167, 167, 1, 16, 42, 42, 180, 0, 88, 21, 4, 46, 42, 180, 0, 76, 21, 4, 46, 42]
abbrev dktX2_sayNode_6 : List UInt8 := dkwX2_sayNode_6 ++ dktX2_sayNode_7
def dkwX2_sayNode_5 : List UInt8 := [182, 1, 167, 42, 182, 1, 182, 42, 42, 180, 0, 76, 21, 4, 46, 42, 180, 0, 79, 21, 4, 46]
abbrev dktX2_sayNode_5 : List UInt8 := dkwX2_sayNode_5 ++ dktX2_sayNode_6
def dkwX2_sayNode_4 : List UInt8 := [42, 27, 42, 180, 0, 67, 21, 4, 46, 182, 1, 184, 167, 1, 53, 42, 42, 180, 0, 64, 21, 4, 46, 3]
abbrev dktX2_sayNode_4 : List UInt8 := dkwX2_sayNode_4 ++ dktX2_sayNode_5
def dkwX2_sayNode_3 : List UInt8 := [21, 4, 46, 29, 182, 1, 129, 153, 0, 17, 42, 42, 180, 0, 67, 21, 4, 46, 182, 1, 179, 167, 1, 68]
abbrev dktX2_sayNode_3 : List UInt8 := dkwX2_sayNode_3 ++ dktX2_sayNode_4
def dkwX2_sayNode_2 : List UInt8 := [42, 42, 180, 0, 64, 21, 4, 46, 3, 182, 1, 167, 42, 182, 1, 182, 42, 27, 28, 42, 180, 0, 67]
abbrev dktX2_sayNode_2 : List UInt8 := dkwX2_sayNode_2 ++ dktX2_sayNode_3
def dkwX2_sayNode_1 : List UInt8 := [170, 0, 0, 0, 0, 0, 1, 122, 0, 0, 0, 0, 0, 0, 0, 5, 0, 0, 0, 40, 0, 0, 0, 102, 0, 0, 0, 139, 0, 0, 0, 189, 0, 0, 0, 240, 0, 0, 1, 3]
abbrev dktX2_sayNode_1 : List UInt8 := dkwX2_sayNode_1 ++ dktX2_sayNode_2
def dkwX2_sayNode_0 : List UInt8 := [17, 0, 240, 27, 104, 29, 96, 54, 4, 42, 182, 1, 176, 42, 180, 0, 58, 21, 4, 46]
abbrev dktX2_sayNode_0 : List UInt8 := dkwX2_sayNode_0 ++ dktX2_sayNode_1
theorem dksX2_sayNode_0 : cX2_sayNode.data.toList.drop 0 = dktX2_sayNode_0 := by decide +kernel
theorem dksX2_sayNode_1 : cX2_sayNode.data.toList.drop 20 = dktX2_sayNode_1 := dk_seg dksX2_sayNode_0 20 rfl rfl
theorem dksX2_sayNode_2 : cX2_sayNode.data.toList.drop 60 = dktX2_sayNode_2 := dk_seg dksX2_sayNode_1 40 rfl rfl
theorem dksX2_sayNode_3 : cX2_sayNode.data.toList.drop 83 = dktX2_sayNode_3 := dk_seg dksX2_sayNode_2 23 rfl rfl
theorem dksX2_sayNode_4 : cX2_sayNode.data.toList.drop 107 = dktX2_sayNode_4 := dk_seg dksX2_sayNode_3 24 rfl rfl
theorem dksX2_sayNode_5 : cX2_sayNode.data.toList.drop 131 = dktX2_sayNode_5 := dk_seg dksX2_sayNode_4 24 rfl rfl
theorem dksX2_sayNode_6 : cX2_sayNode.data.toList.drop 153 = dktX2_sayNode_6 := dk_seg dksX2_sayNode_5 22 rfl rfl
theorem dksX2_sayNode_7 : cX2_sayNode.data.toList.drop 175 = dktX2_sayNode_7 := dk_seg dksX2_sayNode_6 22 rfl rfl
theorem dksX2_sayNode_8 : cX2_sayNode.data.toList.drop 197 = dktX2_sayNode_8 := dk_seg dksX2_sayNode_7 22 rfl rfl
theorem dksX2_sayNode_9 : cX2_sayNode.data.toList.drop 221 = dktX2_sayNode_9 := dk_seg dksX2_sayNode_8 24 rfl rfl
theorem dksX2_sayNode_10 : cX2_sayNode.data.toList.drop 244 = dktX2_sayNode_10 := dk_seg dksX2_sayNode_9 23 rfl rfl
theorem dksX2_sayNode_11 : cX2_sayNode.data.toList.drop 267 = dktX2_sayNode_11 := dk_seg dksX2_sayNode_10 23 rfl rfl
theorem dksX2_sayNode_12 : cX2_sayNode.data.toList.drop 291 = dktX2_sayNode_12 := dk_seg dksX2_sayNode_11 24 rfl rfl
theorem dksX2_sayNode_13 : cX2_sayNode.data.toList.drop 315 = dktX2_sayNode_13 := dk_seg dksX2_sayNode_12 24 rfl rfl
theorem dksX2_sayNode_14 : cX2_sayNode.data.toList.drop 338 = dktX2_sayNode_14 := dk_seg dksX2_sayNode_13 23 rfl rfl
theorem dksX2_sayNode_15 : cX2_sayNode.data.toList.drop 361 = dktX2_sayNode_15 := dk_seg dksX2_sayNode_14 23 rfl rfl
theorem dksX2_sayNode_16 : cX2_sayNode.data.toList.drop 383 = dktX2_sayNode_16 := dk_seg dksX2_sayNode_15 22 rfl rfl
theorem dksX2_sayNode_17 : cX2_sayNode.data.toList.drop 407 = dktX2_sayNode_17 := dk_seg dksX2_sayNode_16 24 rfl rfl
theorem dksX2_sayNode_18 : cX2_sayNode.data.toList.drop 429 = dktX2_sayNode_18 := dk_seg dksX2_sayNode_17 22 rfl rfl
theorem dX2_sayNode_0 : decode cX2_sayNode 0 = .ok (.sipush 240, 3) := dk_17 0 240 (dk_at dksX2_sayNode_0 0 rfl rfl)
theorem dX2_sayNode_3 : decode cX2_sayNode 3 = .ok (.iload_n 1, 1) := dk_27 (dk_at dksX2_sayNode_0 3 rfl rfl)
theorem dX2_sayNode_4 : decode cX2_sayNode 4 = .ok (.imul, 1) := dk_104 (dk_at dksX2_sayNode_0 4 rfl rfl)
theorem dX2_sayNode_5 : decode cX2_sayNode 5 = .ok (.iload_n 3, 1) := dk_29 (dk_at dksX2_sayNode_0 5 rfl rfl)
theorem dX2_sayNode_6 : decode cX2_sayNode 6 = .ok (.iadd, 1) := dk_96 (dk_at dksX2_sayNode_0 6 rfl rfl)
theorem dX2_sayNode_7 : decode cX2_sayNode 7 = .ok (.istore 4, 2) := dk_54 4 (dk_at dksX2_sayNode_0 7 rfl rfl)
theorem dX2_sayNode_9 : decode cX2_sayNode 9 = .ok (.aload_n 0, 1) := dk_42 (dk_at dksX2_sayNode_0 9 rfl rfl)
theorem dX2_sayNode_10 : decode cX2_sayNode 10 = .ok (.invokevirtual 432, 3) := dk_182 1 176 (dk_at dksX2_sayNode_0 10 rfl rfl)
theorem dX2_sayNode_13 : decode cX2_sayNode 13 = .ok (.aload_n 0, 1) := dk_42 (dk_at dksX2_sayNode_0 13 rfl rfl)
theorem dX2_sayNode_14 : decode cX2_sayNode 14 = .ok (.getfield 58, 3) := dk_180 0 58 (dk_at dksX2_sayNode_0 14 rfl rfl)
theorem dX2_sayNode_17 : decode cX2_sayNode 17 = .ok (.iload 4, 2) := dk_21 4 (dk_at dksX2_sayNode_0 17 rfl rfl)
theorem dX2_sayNode_19 : decode cX2_sayNode 19 = .ok (.iaload, 1) := dk_46 (dk_at dksX2_sayNode_0 19 rfl rfl)
theorem dX2_sayNode_20 : decode cX2_sayNode 20 = .ok (.tableswitch 378 0 5 #[40, 102, 139, 189, 240, 259], 40) := by decide +kernel
theorem dX2_sayNode_60 : decode cX2_sayNode 60 = .ok (.aload_n 0, 1) := dk_42 (dk_at dksX2_sayNode_2 0 rfl rfl)
theorem dX2_sayNode_61 : decode cX2_sayNode 61 = .ok (.aload_n 0, 1) := dk_42 (dk_at dksX2_sayNode_2 1 rfl rfl)
theorem dX2_sayNode_62 : decode cX2_sayNode 62 = .ok (.getfield 64, 3) := dk_180 0 64 (dk_at dksX2_sayNode_2 2 rfl rfl)
theorem dX2_sayNode_65 : decode cX2_sayNode 65 = .ok (.iload 4, 2) := dk_21 4 (dk_at dksX2_sayNode_2 5 rfl rfl)
theorem dX2_sayNode_67 : decode cX2_sayNode 67 = .ok (.iaload, 1) := dk_46 (dk_at dksX2_sayNode_2 7 rfl rfl)
theorem dX2_sayNode_68 : decode cX2_sayNode 68 = .ok (.iconst 0, 1) := dk_3 (dk_at dksX2_sayNode_2 8 rfl rfl)
theorem dX2_sayNode_69 : decode cX2_sayNode 69 = .ok (.invokevirtual 423, 3) := dk_182 1 167 (dk_at dksX2_sayNode_2 9 rfl rfl)
theorem dX2_sayNode_72 : decode cX2_sayNode 72 = .ok (.aload_n 0, 1) := dk_42 (dk_at dksX2_sayNode_2 12 rfl rfl)
theorem dX2_sayNode_73 : decode cX2_sayNode 73 = .ok (.invokevirtual 438, 3) := dk_182 1 182 (dk_at dksX2_sayNode_2 13 rfl rfl)
theorem dX2_sayNode_76 : decode cX2_sayNode 76 = .ok (.aload_n 0, 1) := dk_42 (dk_at dksX2_sayNode_2 16 rfl rfl)
theorem dX2_sayNode_77 : decode cX2_sayNode 77 = .ok (.iload_n 1, 1) := dk_27 (dk_at dksX2_sayNode_2 17 rfl rfl)
theorem dX2_sayNode_78 : decode cX2_sayNode 78 = .ok (.iload_n 2, 1) := dk_28 (dk_at dksX2_sayNode_2 18 rfl rfl)
theorem dX2_sayNode_79 : decode cX2_sayNode 79 = .ok (.aload_n 0, 1) := dk_42 (dk_at dksX2_sayNode_2 19 rfl rfl)
theorem dX2_sayNode_80 : decode cX2_sayNode 80 = .ok (.getfield 67, 3) := dk_180 0 67 (dk_at dksX2_sayNode_2 20 rfl rfl)
theorem dX2_sayNode_83 : decode cX2_sayNode 83 = .ok (.iload 4, 2) := dk_21 4 (dk_at dksX2_sayNode_3 0 rfl rfl)
theorem dX2_sayNode_85 : decode cX2_sayNode 85 = .ok (.iaload, 1) := dk_46 (dk_at dksX2_sayNode_3 2 rfl rfl)
theorem dX2_sayNode_86 : decode cX2_sayNode 86 = .ok (.iload_n 3, 1) := dk_29 (dk_at dksX2_sayNode_3 3 rfl rfl)
theorem dX2_sayNode_87 : decode cX2_sayNode 87 = .ok (.invokevirtual 385, 3) := dk_182 1 129 (dk_at dksX2_sayNode_3 4 rfl rfl)
theorem dX2_sayNode_90 : decode cX2_sayNode 90 = .ok (.ifCond .eq 17, 3) := dk_153 0 17 (dk_at dksX2_sayNode_3 7 rfl rfl)
theorem dX2_sayNode_93 : decode cX2_sayNode 93 = .ok (.aload_n 0, 1) := dk_42 (dk_at dksX2_sayNode_3 10 rfl rfl)
theorem dX2_sayNode_94 : decode cX2_sayNode 94 = .ok (.aload_n 0, 1) := dk_42 (dk_at dksX2_sayNode_3 11 rfl rfl)
theorem dX2_sayNode_95 : decode cX2_sayNode 95 = .ok (.getfield 67, 3) := dk_180 0 67 (dk_at dksX2_sayNode_3 12 rfl rfl)
theorem dX2_sayNode_98 : decode cX2_sayNode 98 = .ok (.iload 4, 2) := dk_21 4 (dk_at dksX2_sayNode_3 15 rfl rfl)
theorem dX2_sayNode_100 : decode cX2_sayNode 100 = .ok (.iaload, 1) := dk_46 (dk_at dksX2_sayNode_3 17 rfl rfl)
theorem dX2_sayNode_101 : decode cX2_sayNode 101 = .ok (.invokevirtual 435, 3) := dk_182 1 179 (dk_at dksX2_sayNode_3 18 rfl rfl)
theorem dX2_sayNode_104 : decode cX2_sayNode 104 = .ok (.goto 324, 3) := dk_167 1 68 (dk_at dksX2_sayNode_3 21 rfl rfl)
theorem dX2_sayNode_107 : decode cX2_sayNode 107 = .ok (.aload_n 0, 1) := dk_42 (dk_at dksX2_sayNode_4 0 rfl rfl)
theorem dX2_sayNode_108 : decode cX2_sayNode 108 = .ok (.iload_n 1, 1) := dk_27 (dk_at dksX2_sayNode_4 1 rfl rfl)
theorem dX2_sayNode_109 : decode cX2_sayNode 109 = .ok (.aload_n 0, 1) := dk_42 (dk_at dksX2_sayNode_4 2 rfl rfl)
theorem dX2_sayNode_110 : decode cX2_sayNode 110 = .ok (.getfield 67, 3) := dk_180 0 67 (dk_at dksX2_sayNode_4 3 rfl rfl)
theorem dX2_sayNode_113 : decode cX2_sayNode 113 = .ok (.iload 4, 2) := dk_21 4 (dk_at dksX2_sayNode_4 6 rfl rfl)
theorem dX2_sayNode_115 : decode cX2_sayNode 115 = .ok (.iaload, 1) := dk_46 (dk_at dksX2_sayNode_4 8 rfl rfl)
theorem dX2_sayNode_116 : decode cX2_sayNode 116 = .ok (.invokevirtual 440, 3) := dk_182 1 184 (dk_at dksX2_sayNode_4 9 rfl rfl)
theorem dX2_sayNode_119 : decode cX2_sayNode 119 = .ok (.goto 309, 3) := dk_167 1 53 (dk_at dksX2_sayNode_4 12 rfl rfl)
theorem dX2_sayNode_122 : decode cX2_sayNode 122 = .ok (.aload_n 0, 1) := dk_42 (dk_at dksX2_sayNode_4 15 rfl rfl)
theorem dX2_sayNode_123 : decode cX2_sayNode 123 = .ok (.aload_n 0, 1) := dk_42 (dk_at dksX2_sayNode_4 16 rfl rfl)
theorem dX2_sayNode_124 : decode cX2_sayNode 124 = .ok (.getfield 64, 3) := dk_180 0 64 (dk_at dksX2_sayNode_4 17 rfl rfl)
theorem dX2_sayNode_127 : decode cX2_sayNode 127 = .ok (.iload 4, 2) := dk_21 4 (dk_at dksX2_sayNode_4 20 rfl rfl)
theorem dX2_sayNode_129 : decode cX2_sayNode 129 = .ok (.iaload, 1) := dk_46 (dk_at dksX2_sayNode_4 22 rfl rfl)
theorem dX2_sayNode_130 : decode cX2_sayNode 130 = .ok (.iconst 0, 1) := dk_3 (dk_at dksX2_sayNode_4 23 rfl rfl)
theorem dX2_sayNode_131 : decode cX2_sayNode 131 = .ok (.invokevirtual 423, 3) := dk_182 1 167 (dk_at dksX2_sayNode_5 0 rfl rfl)
theorem dX2_sayNode_134 : decode cX2_sayNode 134 = .ok (.aload_n 0, 1) := dk_42 (dk_at dksX2_sayNode_5 3 rfl rfl)
theorem dX2_sayNode_135 : decode cX2_sayNode 135 = .ok (.invokevirtual 438, 3) := dk_182 1 182 (dk_at dksX2_sayNode_5 4 rfl rfl)
theorem dX2_sayNode_138 : decode cX2_sayNode 138 = .ok (.aload_n 0, 1) := dk_42 (dk_at dksX2_sayNode_5 7 rfl rfl)
theorem dX2_sayNode_139 : decode cX2_sayNode 139 = .ok (.aload_n 0, 1) := dk_42 (dk_at dksX2_sayNode_5 8 rfl rfl)
theorem dX2_sayNode_140 : decode cX2_sayNode 140 = .ok (.getfield 76, 3) := dk_180 0 76 (dk_at dksX2_sayNode_5 9 rfl rfl)
theorem dX2_sayNode_143 : decode cX2_sayNode 143 = .ok (.iload 4, 2) := dk_21 4 (dk_at dksX2_sayNode_5 12 rfl rfl)
theorem dX2_sayNode_145 : decode cX2_sayNode 145 = .ok (.iaload, 1) := dk_46 (dk_at dksX2_sayNode_5 14 rfl rfl)
theorem dX2_sayNode_146 : decode cX2_sayNode 146 = .ok (.aload_n 0, 1) := dk_42 (dk_at dksX2_sayNode_5 15 rfl rfl)
theorem dX2_sayNode_147 : decode cX2_sayNode 147 = .ok (.getfield 79, 3) := dk_180 0 79 (dk_at dksX2_sayNode_5 16 rfl rfl)
theorem dX2_sayNode_150 : decode cX2_sayNode 150 = .ok (.iload 4, 2) := dk_21 4 (dk_at dksX2_sayNode_5 19 rfl rfl)
theorem dX2_sayNode_152 : decode cX2_sayNode 152 = .ok (.iaload, 1) := dk_46 (dk_at dksX2_sayNode_5 21 rfl rfl)
theorem dX2_sayNode_153 : decode cX2_sayNode 153 = .ok (.invokevirtual 423, 3) := dk_182 1 167 (dk_at dksX2_sayNode_6 0 rfl rfl)
theorem dX2_sayNode_156 : decode cX2_sayNode 156 = .ok (.goto 272, 3) := dk_167 1 16 (dk_at dksX2_sayNode_6 3 rfl rfl)
theorem dX2_sayNode_159 : decode cX2_sayNode 159 = .ok (.aload_n 0, 1) := dk_42 (dk_at dksX2_sayNode_6 6 rfl rfl)
theorem dX2_sayNode_160 : decode cX2_sayNode 160 = .ok (.aload_n 0, 1) := dk_42 (dk_at dksX2_sayNode_6 7 rfl rfl)
theorem dX2_sayNode_161 : decode cX2_sayNode 161 = .ok (.getfield 88, 3) := dk_180 0 88 (dk_at dksX2_sayNode_6 8 rfl rfl)
theorem dX2_sayNode_164 : decode cX2_sayNode 164 = .ok (.iload 4, 2) := dk_21 4 (dk_at dksX2_sayNode_6 11 rfl rfl)
theorem dX2_sayNode_166 : decode cX2_sayNode 166 = .ok (.iaload, 1) := dk_46 (dk_at dksX2_sayNode_6 13 rfl rfl)
theorem dX2_sayNode_167 : decode cX2_sayNode 167 = .ok (.aload_n 0, 1) := dk_42 (dk_at dksX2_sayNode_6 14 rfl rfl)
theorem dX2_sayNode_168 : decode cX2_sayNode 168 = .ok (.getfield 76, 3) := dk_180 0 76 (dk_at dksX2_sayNode_6 15 rfl rfl)
theorem dX2_sayNode_171 : decode cX2_sayNode 171 = .ok (.iload 4, 2) := dk_21 4 (dk_at dksX2_sayNode_6 18 rfl rfl)
theorem dX2_sayNode_173 : decode cX2_sayNode 173 = .ok (.iaload, 1) := dk_46 (dk_at dksX2_sayNode_6 20 rfl rfl)
theorem dX2_sayNode_174 : decode cX2_sayNode 174 = .ok (.aload_n 0, 1) := dk_42 (dk_at dksX2_sayNode_6 21 rfl rfl)
theorem dX2_sayNode_175 : decode cX2_sayNode 175 = .ok (.getfield 79, 3) := dk_180 0 79 (dk_at dksX2_sayNode_7 0 rfl rfl)
theorem dX2_sayNode_178 : decode cX2_sayNode 178 = .ok (.iload 4, 2) := dk_21 4 (dk_at dksX2_sayNode_7 3 rfl rfl)
theorem dX2_sayNode_180 : decode cX2_sayNode 180 = .ok (.iaload, 1) := dk_46 (dk_at dksX2_sayNode_7 5 rfl rfl)
theorem dX2_sayNode_181 : decode cX2_sayNode 181 = .ok (.invokevirtual 426, 3) := dk_182 1 170 (dk_at dksX2_sayNode_7 6 rfl rfl)
theorem dX2_sayNode_184 : decode cX2_sayNode 184 = .ok (.aload_n 0, 1) := dk_42 (dk_at dksX2_sayNode_7 9 rfl rfl)
theorem dX2_sayNode_185 : decode cX2_sayNode 185 = .ok (.invokevirtual 438, 3) := dk_182 1 182 (dk_at dksX2_sayNode_7 10 rfl rfl)
theorem dX2_sayNode_188 : decode cX2_sayNode 188 = .ok (.aload_n 0, 1) := dk_42 (dk_at dksX2_sayNode_7 13 rfl rfl)
theorem dX2_sayNode_189 : decode cX2_sayNode 189 = .ok (.aload_n 0, 1) := dk_42 (dk_at dksX2_sayNode_7 14 rfl rfl)
theorem dX2_sayNode_190 : decode cX2_sayNode 190 = .ok (.getfield 82, 3) := dk_180 0 82 (dk_at dksX2_sayNode_7 15 rfl rfl)
theorem dX2_sayNode_193 : decode cX2_sayNode 193 = .ok (.iload 4, 2) := dk_21 4 (dk_at dksX2_sayNode_7 18 rfl rfl)
theorem dX2_sayNode_195 : decode cX2_sayNode 195 = .ok (.iaload, 1) := dk_46 (dk_at dksX2_sayNode_7 20 rfl rfl)
theorem dX2_sayNode_196 : decode cX2_sayNode 196 = .ok (.aload_n 0, 1) := dk_42 (dk_at dksX2_sayNode_7 21 rfl rfl)
theorem dX2_sayNode_197 : decode cX2_sayNode 197 = .ok (.getfield 85, 3) := dk_180 0 85 (dk_at dksX2_sayNode_8 0 rfl rfl)
theorem dX2_sayNode_200 : decode cX2_sayNode 200 = .ok (.iload 4, 2) := dk_21 4 (dk_at dksX2_sayNode_8 3 rfl rfl)
theorem dX2_sayNode_202 : decode cX2_sayNode 202 = .ok (.iaload, 1) := dk_46 (dk_at dksX2_sayNode_8 5 rfl rfl)
theorem dX2_sayNode_203 : decode cX2_sayNode 203 = .ok (.invokevirtual 423, 3) := dk_182 1 167 (dk_at dksX2_sayNode_8 6 rfl rfl)
theorem dX2_sayNode_206 : decode cX2_sayNode 206 = .ok (.goto 222, 3) := dk_167 0 222 (dk_at dksX2_sayNode_8 9 rfl rfl)
theorem dX2_sayNode_209 : decode cX2_sayNode 209 = .ok (.aload_n 0, 1) := dk_42 (dk_at dksX2_sayNode_8 12 rfl rfl)
theorem dX2_sayNode_210 : decode cX2_sayNode 210 = .ok (.bipush 116, 2) := dk_16 116 (dk_at dksX2_sayNode_8 13 rfl rfl)
theorem dX2_sayNode_212 : decode cX2_sayNode 212 = .ok (.invokevirtual 415, 3) := dk_182 1 159 (dk_at dksX2_sayNode_8 15 rfl rfl)
theorem dX2_sayNode_215 : decode cX2_sayNode 215 = .ok (.aload_n 0, 1) := dk_42 (dk_at dksX2_sayNode_8 18 rfl rfl)
theorem dX2_sayNode_216 : decode cX2_sayNode 216 = .ok (.bipush 101, 2) := dk_16 101 (dk_at dksX2_sayNode_8 19 rfl rfl)
theorem dX2_sayNode_218 : decode cX2_sayNode 218 = .ok (.invokevirtual 415, 3) := dk_182 1 159 (dk_at dksX2_sayNode_8 21 rfl rfl)
theorem dX2_sayNode_221 : decode cX2_sayNode 221 = .ok (.aload_n 0, 1) := dk_42 (dk_at dksX2_sayNode_9 0 rfl rfl)
theorem dX2_sayNode_222 : decode cX2_sayNode 222 = .ok (.bipush 108, 2) := dk_16 108 (dk_at dksX2_sayNode_9 1 rfl rfl)
theorem dX2_sayNode_224 : decode cX2_sayNode 224 = .ok (.invokevirtual 415, 3) := dk_182 1 159 (dk_at dksX2_sayNode_9 3 rfl rfl)
theorem dX2_sayNode_227 : decode cX2_sayNode 227 = .ok (.aload_n 0, 1) := dk_42 (dk_at dksX2_sayNode_9 6 rfl rfl)
theorem dX2_sayNode_228 : decode cX2_sayNode 228 = .ok (.bipush 108, 2) := dk_16 108 (dk_at dksX2_sayNode_9 7 rfl rfl)
theorem dX2_sayNode_230 : decode cX2_sayNode 230 = .ok (.invokevirtual 415, 3) := dk_182 1 159 (dk_at dksX2_sayNode_9 9 rfl rfl)
theorem dX2_sayNode_233 : decode cX2_sayNode 233 = .ok (.aload_n 0, 1) := dk_42 (dk_at dksX2_sayNode_9 12 rfl rfl)
theorem dX2_sayNode_234 : decode cX2_sayNode 234 = .ok (.bipush 32, 2) := dk_16 32 (dk_at dksX2_sayNode_9 13 rfl rfl)
theorem dX2_sayNode_236 : decode cX2_sayNode 236 = .ok (.invokevirtual 415, 3) := dk_182 1 159 (dk_at dksX2_sayNode_9 15 rfl rfl)
theorem dX2_sayNode_239 : decode cX2_sayNode 239 = .ok (.aload_n 0, 1) := dk_42 (dk_at dksX2_sayNode_9 18 rfl rfl)
theorem dX2_sayNode_240 : decode cX2_sayNode 240 = .ok (.aload_n 0, 1) := dk_42 (dk_at dksX2_sayNode_9 19 rfl rfl)
theorem dX2_sayNode_241 : decode cX2_sayNode 241 = .ok (.getfield 76, 3) := dk_180 0 76 (dk_at dksX2_sayNode_9 20 rfl rfl)
theorem dX2_sayNode_244 : decode cX2_sayNode 244 = .ok (.iload 4, 2) := dk_21 4 (dk_at dksX2_sayNode_10 0 rfl rfl)
theorem dX2_sayNode_246 : decode cX2_sayNode 246 = .ok (.iaload, 1) := dk_46 (dk_at dksX2_sayNode_10 2 rfl rfl)
theorem dX2_sayNode_247 : decode cX2_sayNode 247 = .ok (.aload_n 0, 1) := dk_42 (dk_at dksX2_sayNode_10 3 rfl rfl)
theorem dX2_sayNode_248 : decode cX2_sayNode 248 = .ok (.getfield 79, 3) := dk_180 0 79 (dk_at dksX2_sayNode_10 4 rfl rfl)
theorem dX2_sayNode_251 : decode cX2_sayNode 251 = .ok (.iload 4, 2) := dk_21 4 (dk_at dksX2_sayNode_10 7 rfl rfl)
theorem dX2_sayNode_253 : decode cX2_sayNode 253 = .ok (.iaload, 1) := dk_46 (dk_at dksX2_sayNode_10 9 rfl rfl)
theorem dX2_sayNode_254 : decode cX2_sayNode 254 = .ok (.invokevirtual 423, 3) := dk_182 1 167 (dk_at dksX2_sayNode_10 10 rfl rfl)
theorem dX2_sayNode_257 : decode cX2_sayNode 257 = .ok (.goto 171, 3) := dk_167 0 171 (dk_at dksX2_sayNode_10 13 rfl rfl)
theorem dX2_sayNode_260 : decode cX2_sayNode 260 = .ok (.aload_n 0, 1) := dk_42 (dk_at dksX2_sayNode_10 16 rfl rfl)
theorem dX2_sayNode_261 : decode cX2_sayNode 261 = .ok (.aload_n 0, 1) := dk_42 (dk_at dksX2_sayNode_10 17 rfl rfl)
theorem dX2_sayNode_262 : decode cX2_sayNode 262 = .ok (.iload_n 1, 1) := dk_27 (dk_at dksX2_sayNode_10 18 rfl rfl)
theorem dX2_sayNode_263 : decode cX2_sayNode 263 = .ok (.aload_n 0, 1) := dk_42 (dk_at dksX2_sayNode_10 19 rfl rfl)
theorem dX2_sayNode_264 : decode cX2_sayNode 264 = .ok (.getfield 70, 3) := dk_180 0 70 (dk_at dksX2_sayNode_10 20 rfl rfl)
theorem dX2_sayNode_267 : decode cX2_sayNode 267 = .ok (.iload 4, 2) := dk_21 4 (dk_at dksX2_sayNode_11 0 rfl rfl)
theorem dX2_sayNode_269 : decode cX2_sayNode 269 = .ok (.iaload, 1) := dk_46 (dk_at dksX2_sayNode_11 2 rfl rfl)
theorem dX2_sayNode_270 : decode cX2_sayNode 270 = .ok (.invokevirtual 446, 3) := dk_182 1 190 (dk_at dksX2_sayNode_11 3 rfl rfl)
theorem dX2_sayNode_273 : decode cX2_sayNode 273 = .ok (.invokevirtual 448, 3) := dk_182 1 192 (dk_at dksX2_sayNode_11 6 rfl rfl)
theorem dX2_sayNode_276 : decode cX2_sayNode 276 = .ok (.goto 152, 3) := dk_167 0 152 (dk_at dksX2_sayNode_11 9 rfl rfl)
theorem dX2_sayNode_279 : decode cX2_sayNode 279 = .ok (.aload_n 0, 1) := dk_42 (dk_at dksX2_sayNode_11 12 rfl rfl)
theorem dX2_sayNode_280 : decode cX2_sayNode 280 = .ok (.bipush 105, 2) := dk_16 105 (dk_at dksX2_sayNode_11 13 rfl rfl)
theorem dX2_sayNode_282 : decode cX2_sayNode 282 = .ok (.invokevirtual 415, 3) := dk_182 1 159 (dk_at dksX2_sayNode_11 15 rfl rfl)
theorem dX2_sayNode_285 : decode cX2_sayNode 285 = .ok (.aload_n 0, 1) := dk_42 (dk_at dksX2_sayNode_11 18 rfl rfl)
theorem dX2_sayNode_286 : decode cX2_sayNode 286 = .ok (.bipush 102, 2) := dk_16 102 (dk_at dksX2_sayNode_11 19 rfl rfl)
theorem dX2_sayNode_288 : decode cX2_sayNode 288 = .ok (.invokevirtual 415, 3) := dk_182 1 159 (dk_at dksX2_sayNode_11 21 rfl rfl)
theorem dX2_sayNode_291 : decode cX2_sayNode 291 = .ok (.aload_n 0, 1) := dk_42 (dk_at dksX2_sayNode_12 0 rfl rfl)
theorem dX2_sayNode_292 : decode cX2_sayNode 292 = .ok (.bipush 32, 2) := dk_16 32 (dk_at dksX2_sayNode_12 1 rfl rfl)
theorem dX2_sayNode_294 : decode cX2_sayNode 294 = .ok (.invokevirtual 415, 3) := dk_182 1 159 (dk_at dksX2_sayNode_12 3 rfl rfl)
theorem dX2_sayNode_297 : decode cX2_sayNode 297 = .ok (.aload_n 0, 1) := dk_42 (dk_at dksX2_sayNode_12 6 rfl rfl)
theorem dX2_sayNode_298 : decode cX2_sayNode 298 = .ok (.aload_n 0, 1) := dk_42 (dk_at dksX2_sayNode_12 7 rfl rfl)
theorem dX2_sayNode_299 : decode cX2_sayNode 299 = .ok (.getfield 76, 3) := dk_180 0 76 (dk_at dksX2_sayNode_12 8 rfl rfl)
theorem dX2_sayNode_302 : decode cX2_sayNode 302 = .ok (.iload 4, 2) := dk_21 4 (dk_at dksX2_sayNode_12 11 rfl rfl)
theorem dX2_sayNode_304 : decode cX2_sayNode 304 = .ok (.iaload, 1) := dk_46 (dk_at dksX2_sayNode_12 13 rfl rfl)
theorem dX2_sayNode_305 : decode cX2_sayNode 305 = .ok (.aload_n 0, 1) := dk_42 (dk_at dksX2_sayNode_12 14 rfl rfl)
theorem dX2_sayNode_306 : decode cX2_sayNode 306 = .ok (.getfield 79, 3) := dk_180 0 79 (dk_at dksX2_sayNode_12 15 rfl rfl)
theorem dX2_sayNode_309 : decode cX2_sayNode 309 = .ok (.iload 4, 2) := dk_21 4 (dk_at dksX2_sayNode_12 18 rfl rfl)
theorem dX2_sayNode_311 : decode cX2_sayNode 311 = .ok (.iaload, 1) := dk_46 (dk_at dksX2_sayNode_12 20 rfl rfl)
theorem dX2_sayNode_312 : decode cX2_sayNode 312 = .ok (.invokevirtual 423, 3) := dk_182 1 167 (dk_at dksX2_sayNode_12 21 rfl rfl)
theorem dX2_sayNode_315 : decode cX2_sayNode 315 = .ok (.aload_n 0, 1) := dk_42 (dk_at dksX2_sayNode_13 0 rfl rfl)
theorem dX2_sayNode_316 : decode cX2_sayNode 316 = .ok (.bipush 32, 2) := dk_16 32 (dk_at dksX2_sayNode_13 1 rfl rfl)
theorem dX2_sayNode_318 : decode cX2_sayNode 318 = .ok (.invokevirtual 415, 3) := dk_182 1 159 (dk_at dksX2_sayNode_13 3 rfl rfl)
theorem dX2_sayNode_321 : decode cX2_sayNode 321 = .ok (.aload_n 0, 1) := dk_42 (dk_at dksX2_sayNode_13 6 rfl rfl)
theorem dX2_sayNode_322 : decode cX2_sayNode 322 = .ok (.bipush 60, 2) := dk_16 60 (dk_at dksX2_sayNode_13 7 rfl rfl)
theorem dX2_sayNode_324 : decode cX2_sayNode 324 = .ok (.invokevirtual 415, 3) := dk_182 1 159 (dk_at dksX2_sayNode_13 9 rfl rfl)
theorem dX2_sayNode_327 : decode cX2_sayNode 327 = .ok (.aload_n 0, 1) := dk_42 (dk_at dksX2_sayNode_13 12 rfl rfl)
theorem dX2_sayNode_328 : decode cX2_sayNode 328 = .ok (.bipush 32, 2) := dk_16 32 (dk_at dksX2_sayNode_13 13 rfl rfl)
theorem dX2_sayNode_330 : decode cX2_sayNode 330 = .ok (.invokevirtual 415, 3) := dk_182 1 159 (dk_at dksX2_sayNode_13 15 rfl rfl)
theorem dX2_sayNode_333 : decode cX2_sayNode 333 = .ok (.aload_n 0, 1) := dk_42 (dk_at dksX2_sayNode_13 18 rfl rfl)
theorem dX2_sayNode_334 : decode cX2_sayNode 334 = .ok (.aload_n 0, 1) := dk_42 (dk_at dksX2_sayNode_13 19 rfl rfl)
theorem dX2_sayNode_335 : decode cX2_sayNode 335 = .ok (.getfield 82, 3) := dk_180 0 82 (dk_at dksX2_sayNode_13 20 rfl rfl)
theorem dX2_sayNode_338 : decode cX2_sayNode 338 = .ok (.iload 4, 2) := dk_21 4 (dk_at dksX2_sayNode_14 0 rfl rfl)
theorem dX2_sayNode_340 : decode cX2_sayNode 340 = .ok (.iaload, 1) := dk_46 (dk_at dksX2_sayNode_14 2 rfl rfl)
theorem dX2_sayNode_341 : decode cX2_sayNode 341 = .ok (.aload_n 0, 1) := dk_42 (dk_at dksX2_sayNode_14 3 rfl rfl)
theorem dX2_sayNode_342 : decode cX2_sayNode 342 = .ok (.getfield 85, 3) := dk_180 0 85 (dk_at dksX2_sayNode_14 4 rfl rfl)
theorem dX2_sayNode_345 : decode cX2_sayNode 345 = .ok (.iload 4, 2) := dk_21 4 (dk_at dksX2_sayNode_14 7 rfl rfl)
theorem dX2_sayNode_347 : decode cX2_sayNode 347 = .ok (.iaload, 1) := dk_46 (dk_at dksX2_sayNode_14 9 rfl rfl)
theorem dX2_sayNode_348 : decode cX2_sayNode 348 = .ok (.invokevirtual 423, 3) := dk_182 1 167 (dk_at dksX2_sayNode_14 10 rfl rfl)
theorem dX2_sayNode_351 : decode cX2_sayNode 351 = .ok (.aload_n 0, 1) := dk_42 (dk_at dksX2_sayNode_14 13 rfl rfl)
theorem dX2_sayNode_352 : decode cX2_sayNode 352 = .ok (.bipush 32, 2) := dk_16 32 (dk_at dksX2_sayNode_14 14 rfl rfl)
theorem dX2_sayNode_354 : decode cX2_sayNode 354 = .ok (.invokevirtual 415, 3) := dk_182 1 159 (dk_at dksX2_sayNode_14 16 rfl rfl)
theorem dX2_sayNode_357 : decode cX2_sayNode 357 = .ok (.aload_n 0, 1) := dk_42 (dk_at dksX2_sayNode_14 19 rfl rfl)
theorem dX2_sayNode_358 : decode cX2_sayNode 358 = .ok (.aload_n 0, 1) := dk_42 (dk_at dksX2_sayNode_14 20 rfl rfl)
theorem dX2_sayNode_359 : decode cX2_sayNode 359 = .ok (.iload_n 1, 1) := dk_27 (dk_at dksX2_sayNode_14 21 rfl rfl)
theorem dX2_sayNode_360 : decode cX2_sayNode 360 = .ok (.aload_n 0, 1) := dk_42 (dk_at dksX2_sayNode_14 22 rfl rfl)
theorem dX2_sayNode_361 : decode cX2_sayNode 361 = .ok (.getfield 70, 3) := dk_180 0 70 (dk_at dksX2_sayNode_15 0 rfl rfl)
theorem dX2_sayNode_364 : decode cX2_sayNode 364 = .ok (.iload 4, 2) := dk_21 4 (dk_at dksX2_sayNode_15 3 rfl rfl)
theorem dX2_sayNode_366 : decode cX2_sayNode 366 = .ok (.iaload, 1) := dk_46 (dk_at dksX2_sayNode_15 5 rfl rfl)
theorem dX2_sayNode_367 : decode cX2_sayNode 367 = .ok (.invokevirtual 446, 3) := dk_182 1 190 (dk_at dksX2_sayNode_15 6 rfl rfl)
theorem dX2_sayNode_370 : decode cX2_sayNode 370 = .ok (.invokevirtual 429, 3) := dk_182 1 173 (dk_at dksX2_sayNode_15 9 rfl rfl)
theorem dX2_sayNode_373 : decode cX2_sayNode 373 = .ok (.aload_n 0, 1) := dk_42 (dk_at dksX2_sayNode_15 12 rfl rfl)
theorem dX2_sayNode_374 : decode cX2_sayNode 374 = .ok (.bipush 32, 2) := dk_16 32 (dk_at dksX2_sayNode_15 13 rfl rfl)
theorem dX2_sayNode_376 : decode cX2_sayNode 376 = .ok (.invokevirtual 415, 3) := dk_182 1 159 (dk_at dksX2_sayNode_15 15 rfl rfl)
theorem dX2_sayNode_379 : decode cX2_sayNode 379 = .ok (.aload_n 0, 1) := dk_42 (dk_at dksX2_sayNode_15 18 rfl rfl)
theorem dX2_sayNode_380 : decode cX2_sayNode 380 = .ok (.aload_n 0, 1) := dk_42 (dk_at dksX2_sayNode_15 19 rfl rfl)
theorem dX2_sayNode_381 : decode cX2_sayNode 381 = .ok (.iload_n 1, 1) := dk_27 (dk_at dksX2_sayNode_15 20 rfl rfl)
theorem dX2_sayNode_382 : decode cX2_sayNode 382 = .ok (.aload_n 0, 1) := dk_42 (dk_at dksX2_sayNode_15 21 rfl rfl)
theorem dX2_sayNode_383 : decode cX2_sayNode 383 = .ok (.getfield 73, 3) := dk_180 0 73 (dk_at dksX2_sayNode_16 0 rfl rfl)
theorem dX2_sayNode_386 : decode cX2_sayNode 386 = .ok (.iload 4, 2) := dk_21 4 (dk_at dksX2_sayNode_16 3 rfl rfl)
theorem dX2_sayNode_388 : decode cX2_sayNode 388 = .ok (.iaload, 1) := dk_46 (dk_at dksX2_sayNode_16 5 rfl rfl)
theorem dX2_sayNode_389 : decode cX2_sayNode 389 = .ok (.invokevirtual 446, 3) := dk_182 1 190 (dk_at dksX2_sayNode_16 6 rfl rfl)
theorem dX2_sayNode_392 : decode cX2_sayNode 392 = .ok (.invokevirtual 429, 3) := dk_182 1 173 (dk_at dksX2_sayNode_16 9 rfl rfl)
theorem dX2_sayNode_395 : decode cX2_sayNode 395 = .ok (.goto 33, 3) := dk_167 0 33 (dk_at dksX2_sayNode_16 12 rfl rfl)
theorem dX2_sayNode_398 : decode cX2_sayNode 398 = .ok (.aload_n 0, 1) := dk_42 (dk_at dksX2_sayNode_16 15 rfl rfl)
theorem dX2_sayNode_399 : decode cX2_sayNode 399 = .ok (.bipush 108, 2) := dk_16 108 (dk_at dksX2_sayNode_16 16 rfl rfl)
theorem dX2_sayNode_401 : decode cX2_sayNode 401 = .ok (.invokevirtual 415, 3) := dk_182 1 159 (dk_at dksX2_sayNode_16 18 rfl rfl)
theorem dX2_sayNode_404 : decode cX2_sayNode 404 = .ok (.aload_n 0, 1) := dk_42 (dk_at dksX2_sayNode_16 21 rfl rfl)
theorem dX2_sayNode_405 : decode cX2_sayNode 405 = .ok (.bipush 101, 2) := dk_16 101 (dk_at dksX2_sayNode_16 22 rfl rfl)
theorem dX2_sayNode_407 : decode cX2_sayNode 407 = .ok (.invokevirtual 415, 3) := dk_182 1 159 (dk_at dksX2_sayNode_17 0 rfl rfl)
theorem dX2_sayNode_410 : decode cX2_sayNode 410 = .ok (.aload_n 0, 1) := dk_42 (dk_at dksX2_sayNode_17 3 rfl rfl)
theorem dX2_sayNode_411 : decode cX2_sayNode 411 = .ok (.bipush 97, 2) := dk_16 97 (dk_at dksX2_sayNode_17 4 rfl rfl)
theorem dX2_sayNode_413 : decode cX2_sayNode 413 = .ok (.invokevirtual 415, 3) := dk_182 1 159 (dk_at dksX2_sayNode_17 6 rfl rfl)
theorem dX2_sayNode_416 : decode cX2_sayNode 416 = .ok (.aload_n 0, 1) := dk_42 (dk_at dksX2_sayNode_17 9 rfl rfl)
theorem dX2_sayNode_417 : decode cX2_sayNode 417 = .ok (.bipush 118, 2) := dk_16 118 (dk_at dksX2_sayNode_17 10 rfl rfl)
theorem dX2_sayNode_419 : decode cX2_sayNode 419 = .ok (.invokevirtual 415, 3) := dk_182 1 159 (dk_at dksX2_sayNode_17 12 rfl rfl)
theorem dX2_sayNode_422 : decode cX2_sayNode 422 = .ok (.aload_n 0, 1) := dk_42 (dk_at dksX2_sayNode_17 15 rfl rfl)
theorem dX2_sayNode_423 : decode cX2_sayNode 423 = .ok (.bipush 101, 2) := dk_16 101 (dk_at dksX2_sayNode_17 16 rfl rfl)
theorem dX2_sayNode_425 : decode cX2_sayNode 425 = .ok (.invokevirtual 415, 3) := dk_182 1 159 (dk_at dksX2_sayNode_17 18 rfl rfl)
theorem dX2_sayNode_428 : decode cX2_sayNode 428 = .ok (.aload_n 0, 1) := dk_42 (dk_at dksX2_sayNode_17 21 rfl rfl)
theorem dX2_sayNode_429 : decode cX2_sayNode 429 = .ok (.invokevirtual 443, 3) := dk_182 1 187 (dk_at dksX2_sayNode_18 0 rfl rfl)
theorem dX2_sayNode_432 : decode cX2_sayNode 432 = .ok (.return_, 1) := dk_177 (dk_at dksX2_sayNode_18 3 rfl rfl)
abbrev cX2_asBlock : ByteArray := prog_24_method_98_code
def yX2_asBlock : MethodName := ⟨RX2, "asBlock", "(II)I"⟩
def dkwX2_asBlock_2 : List UInt8 := [167, 0, 15, 42, 180, 0, 61, 17, 0, 240, 27, 104, 28, 96, 46, 172]
abbrev dktX2_asBlock_2 : List UInt8 := dkwX2_asBlock_2 ++ []
def dkwX2_asBlock_1 : List UInt8 := [27, 104, 28, 96, 46, 167, 0, 33, 42, 180, 0, 199, 28, 46, 155, 0, 12, 42, 180, 0, 199, 28, 46]
abbrev dktX2_asBlock_1 : List UInt8 := dkwX2_asBlock_1 ++ dktX2_asBlock_2
def dkwX2_asBlock_0 : List UInt8 := [42, 180, 0, 58, 17, 0, 240, 27, 104, 28, 96, 46, 16, 7, 159, 0, 18, 42, 180, 0, 61, 17, 0, 240]
abbrev dktX2_asBlock_0 : List UInt8 := dkwX2_asBlock_0 ++ dktX2_asBlock_1
theorem dksX2_asBlock_0 : cX2_asBlock.data.toList.drop 0 = dktX2_asBlock_0 := by decide +kernel
theorem dksX2_asBlock_1 : cX2_asBlock.data.toList.drop 24 = dktX2_asBlock_1 := dk_seg dksX2_asBlock_0 24 rfl rfl
theorem dksX2_asBlock_2 : cX2_asBlock.data.toList.drop 47 = dktX2_asBlock_2 := dk_seg dksX2_asBlock_1 23 rfl rfl
theorem dX2_asBlock_0 : decode cX2_asBlock 0 = .ok (.aload_n 0, 1) := dk_42 (dk_at dksX2_asBlock_0 0 rfl rfl)
theorem dX2_asBlock_1 : decode cX2_asBlock 1 = .ok (.getfield 58, 3) := dk_180 0 58 (dk_at dksX2_asBlock_0 1 rfl rfl)
theorem dX2_asBlock_4 : decode cX2_asBlock 4 = .ok (.sipush 240, 3) := dk_17 0 240 (dk_at dksX2_asBlock_0 4 rfl rfl)
theorem dX2_asBlock_7 : decode cX2_asBlock 7 = .ok (.iload_n 1, 1) := dk_27 (dk_at dksX2_asBlock_0 7 rfl rfl)
theorem dX2_asBlock_8 : decode cX2_asBlock 8 = .ok (.imul, 1) := dk_104 (dk_at dksX2_asBlock_0 8 rfl rfl)
theorem dX2_asBlock_9 : decode cX2_asBlock 9 = .ok (.iload_n 2, 1) := dk_28 (dk_at dksX2_asBlock_0 9 rfl rfl)
theorem dX2_asBlock_10 : decode cX2_asBlock 10 = .ok (.iadd, 1) := dk_96 (dk_at dksX2_asBlock_0 10 rfl rfl)
theorem dX2_asBlock_11 : decode cX2_asBlock 11 = .ok (.iaload, 1) := dk_46 (dk_at dksX2_asBlock_0 11 rfl rfl)
theorem dX2_asBlock_12 : decode cX2_asBlock 12 = .ok (.bipush 7, 2) := dk_16 7 (dk_at dksX2_asBlock_0 12 rfl rfl)
theorem dX2_asBlock_14 : decode cX2_asBlock 14 = .ok (.if_icmp .eq 18, 3) := dk_159 0 18 (dk_at dksX2_asBlock_0 14 rfl rfl)
theorem dX2_asBlock_17 : decode cX2_asBlock 17 = .ok (.aload_n 0, 1) := dk_42 (dk_at dksX2_asBlock_0 17 rfl rfl)
theorem dX2_asBlock_18 : decode cX2_asBlock 18 = .ok (.getfield 61, 3) := dk_180 0 61 (dk_at dksX2_asBlock_0 18 rfl rfl)
theorem dX2_asBlock_21 : decode cX2_asBlock 21 = .ok (.sipush 240, 3) := dk_17 0 240 (dk_at dksX2_asBlock_0 21 rfl rfl)
theorem dX2_asBlock_24 : decode cX2_asBlock 24 = .ok (.iload_n 1, 1) := dk_27 (dk_at dksX2_asBlock_1 0 rfl rfl)
theorem dX2_asBlock_25 : decode cX2_asBlock 25 = .ok (.imul, 1) := dk_104 (dk_at dksX2_asBlock_1 1 rfl rfl)
theorem dX2_asBlock_26 : decode cX2_asBlock 26 = .ok (.iload_n 2, 1) := dk_28 (dk_at dksX2_asBlock_1 2 rfl rfl)
theorem dX2_asBlock_27 : decode cX2_asBlock 27 = .ok (.iadd, 1) := dk_96 (dk_at dksX2_asBlock_1 3 rfl rfl)
theorem dX2_asBlock_28 : decode cX2_asBlock 28 = .ok (.iaload, 1) := dk_46 (dk_at dksX2_asBlock_1 4 rfl rfl)
theorem dX2_asBlock_29 : decode cX2_asBlock 29 = .ok (.goto 33, 3) := dk_167 0 33 (dk_at dksX2_asBlock_1 5 rfl rfl)
theorem dX2_asBlock_32 : decode cX2_asBlock 32 = .ok (.aload_n 0, 1) := dk_42 (dk_at dksX2_asBlock_1 8 rfl rfl)
theorem dX2_asBlock_33 : decode cX2_asBlock 33 = .ok (.getfield 199, 3) := dk_180 0 199 (dk_at dksX2_asBlock_1 9 rfl rfl)
theorem dX2_asBlock_36 : decode cX2_asBlock 36 = .ok (.iload_n 2, 1) := dk_28 (dk_at dksX2_asBlock_1 12 rfl rfl)
theorem dX2_asBlock_37 : decode cX2_asBlock 37 = .ok (.iaload, 1) := dk_46 (dk_at dksX2_asBlock_1 13 rfl rfl)
theorem dX2_asBlock_38 : decode cX2_asBlock 38 = .ok (.ifCond .lt 12, 3) := dk_155 0 12 (dk_at dksX2_asBlock_1 14 rfl rfl)
theorem dX2_asBlock_41 : decode cX2_asBlock 41 = .ok (.aload_n 0, 1) := dk_42 (dk_at dksX2_asBlock_1 17 rfl rfl)
theorem dX2_asBlock_42 : decode cX2_asBlock 42 = .ok (.getfield 199, 3) := dk_180 0 199 (dk_at dksX2_asBlock_1 18 rfl rfl)
theorem dX2_asBlock_45 : decode cX2_asBlock 45 = .ok (.iload_n 2, 1) := dk_28 (dk_at dksX2_asBlock_1 21 rfl rfl)
theorem dX2_asBlock_46 : decode cX2_asBlock 46 = .ok (.iaload, 1) := dk_46 (dk_at dksX2_asBlock_1 22 rfl rfl)
theorem dX2_asBlock_47 : decode cX2_asBlock 47 = .ok (.goto 15, 3) := dk_167 0 15 (dk_at dksX2_asBlock_2 0 rfl rfl)
theorem dX2_asBlock_50 : decode cX2_asBlock 50 = .ok (.aload_n 0, 1) := dk_42 (dk_at dksX2_asBlock_2 3 rfl rfl)
theorem dX2_asBlock_51 : decode cX2_asBlock 51 = .ok (.getfield 61, 3) := dk_180 0 61 (dk_at dksX2_asBlock_2 4 rfl rfl)
theorem dX2_asBlock_54 : decode cX2_asBlock 54 = .ok (.sipush 240, 3) := dk_17 0 240 (dk_at dksX2_asBlock_2 7 rfl rfl)
theorem dX2_asBlock_57 : decode cX2_asBlock 57 = .ok (.iload_n 1, 1) := dk_27 (dk_at dksX2_asBlock_2 10 rfl rfl)
theorem dX2_asBlock_58 : decode cX2_asBlock 58 = .ok (.imul, 1) := dk_104 (dk_at dksX2_asBlock_2 11 rfl rfl)
theorem dX2_asBlock_59 : decode cX2_asBlock 59 = .ok (.iload_n 2, 1) := dk_28 (dk_at dksX2_asBlock_2 12 rfl rfl)
theorem dX2_asBlock_60 : decode cX2_asBlock 60 = .ok (.iadd, 1) := dk_96 (dk_at dksX2_asBlock_2 13 rfl rfl)
theorem dX2_asBlock_61 : decode cX2_asBlock 61 = .ok (.iaload, 1) := dk_46 (dk_at dksX2_asBlock_2 14 rfl rfl)
theorem dX2_asBlock_62 : decode cX2_asBlock 62 = .ok (.ireturn, 1) := dk_172 (dk_at dksX2_asBlock_2 15 rfl rfl)
abbrev cX2_sayGo : ByteArray := prog_24_method_100_code
def yX2_sayGo : MethodName := ⟨RX2, "sayGo", "(I)V"⟩
def dkwX2_sayGo_0 : List UInt8 := [42, 16, 103, 182, 1, 159, 42, 16, 111, 182, 1, 159, 42, 16, 32, 182, 1, 159, 42, 27, 182, 1, 173, 177]
abbrev dktX2_sayGo_0 : List UInt8 := dkwX2_sayGo_0 ++ []
theorem dksX2_sayGo_0 : cX2_sayGo.data.toList.drop 0 = dktX2_sayGo_0 := by decide +kernel
theorem dX2_sayGo_0 : decode cX2_sayGo 0 = .ok (.aload_n 0, 1) := dk_42 (dk_at dksX2_sayGo_0 0 rfl rfl)
theorem dX2_sayGo_1 : decode cX2_sayGo 1 = .ok (.bipush 103, 2) := dk_16 103 (dk_at dksX2_sayGo_0 1 rfl rfl)
theorem dX2_sayGo_3 : decode cX2_sayGo 3 = .ok (.invokevirtual 415, 3) := dk_182 1 159 (dk_at dksX2_sayGo_0 3 rfl rfl)
theorem dX2_sayGo_6 : decode cX2_sayGo 6 = .ok (.aload_n 0, 1) := dk_42 (dk_at dksX2_sayGo_0 6 rfl rfl)
theorem dX2_sayGo_7 : decode cX2_sayGo 7 = .ok (.bipush 111, 2) := dk_16 111 (dk_at dksX2_sayGo_0 7 rfl rfl)
theorem dX2_sayGo_9 : decode cX2_sayGo 9 = .ok (.invokevirtual 415, 3) := dk_182 1 159 (dk_at dksX2_sayGo_0 9 rfl rfl)
theorem dX2_sayGo_12 : decode cX2_sayGo 12 = .ok (.aload_n 0, 1) := dk_42 (dk_at dksX2_sayGo_0 12 rfl rfl)
theorem dX2_sayGo_13 : decode cX2_sayGo 13 = .ok (.bipush 32, 2) := dk_16 32 (dk_at dksX2_sayGo_0 13 rfl rfl)
theorem dX2_sayGo_15 : decode cX2_sayGo 15 = .ok (.invokevirtual 415, 3) := dk_182 1 159 (dk_at dksX2_sayGo_0 15 rfl rfl)
theorem dX2_sayGo_18 : decode cX2_sayGo 18 = .ok (.aload_n 0, 1) := dk_42 (dk_at dksX2_sayGo_0 18 rfl rfl)
theorem dX2_sayGo_19 : decode cX2_sayGo 19 = .ok (.iload_n 1, 1) := dk_27 (dk_at dksX2_sayGo_0 19 rfl rfl)
theorem dX2_sayGo_20 : decode cX2_sayGo 20 = .ok (.invokevirtual 429, 3) := dk_182 1 173 (dk_at dksX2_sayGo_0 20 rfl rfl)
theorem dX2_sayGo_23 : decode cX2_sayGo 23 = .ok (.return_, 1) := dk_177 (dk_at dksX2_sayGo_0 23 rfl rfl)
theorem q134 : (Jvm.Cond.initialized "LateAndEarlyModel") ∈ lw_all := lw_g (lw_at lw_m1 3 rfl) rfl
theorem q651 : (Jvm.Cond.selects "LateAndEarlyModel" ({ cls := "java/lang/Object", name := "getClass", desc := "()Ljava/lang/Class;" } : Jvm.MethodName) ({ cls := "java/lang/Object", name := "getClass", desc := "()Ljava/lang/Class;" } : Jvm.MethodName)) ∈ lw_all := lw_g (lw_at lw_m3 40 rfl) rfl
theorem q1652 : (Jvm.Cond.instantiable "LateAndEarlyModel" (62 : Nat)) ∈ lw_all := lw_g (lw_at lw_m7 81 rfl) rfl
theorem q1654 : (Jvm.Cond.instanceMethod ({ cls := "LateAndEarlyModel", name := "<init>", desc := "()V" } : Jvm.MethodName)) ∈ lw_all := lw_g (lw_at lw_m7 83 rfl) rfl
theorem q1655 : (Jvm.Cond.code ({ cls := "LateAndEarlyModel", name := "<init>", desc := "()V" } : Jvm.MethodName) prog_24_method_1_code (1 : Nat) (Option.none : Option Jvm.ClassFile.FieldType)) ∈ lw_all := lw_g (lw_at lw_m7 84 rfl) rfl
theorem q1656 : (Jvm.Cond.methodLink "LateAndEarlyModel" (1 : Nat) ({ cls := "java/lang/Object", name := "<init>", desc := "()V" } : Jvm.MethodName)) ∈ lw_all := lw_g (lw_at lw_m7 85 rfl) rfl
theorem q1657 : (Jvm.Cond.constant "LateAndEarlyModel" (106 : Nat) (38400 : Int32)) ∈ lw_all := lw_g (lw_at lw_m7 86 rfl) rfl
theorem q1658 : (Jvm.Cond.constant "LateAndEarlyModel" (192 : Nat) (60000 : Int32)) ∈ lw_all := lw_g (lw_at lw_m7 87 rfl) rfl
theorem q1659 : (Jvm.Cond.fieldLink "LateAndEarlyModel" (7 : Nat) "LateAndEarlyModel" "tape" "[I") ∈ lw_all := lw_g (lw_at lw_m7 88 rfl) rfl
theorem q1660 : (Jvm.Cond.fieldLink "LateAndEarlyModel" (13 : Nat) "LateAndEarlyModel" "taped" "I") ∈ lw_all := lw_g (lw_at lw_m7 89 rfl) rfl
theorem q1661 : (Jvm.Cond.fieldLink "LateAndEarlyModel" (17 : Nat) "LateAndEarlyModel" "sort" "I") ∈ lw_all := lw_g (lw_at lw_m7 90 rfl) rfl
theorem q1662 : (Jvm.Cond.fieldLink "LateAndEarlyModel" (20 : Nat) "LateAndEarlyModel" "from" "I") ∈ lw_all := lw_g (lw_at lw_m7 91 rfl) rfl
theorem q1663 : (Jvm.Cond.fieldLink "LateAndEarlyModel" (23 : Nat) "LateAndEarlyModel" "to" "I") ∈ lw_all := lw_g (lw_at lw_m7 92 rfl) rfl
theorem q1664 : (Jvm.Cond.fieldLink "LateAndEarlyModel" (26 : Nat) "LateAndEarlyModel" "digits" "I") ∈ lw_all := lw_g (lw_at lw_m7 93 rfl) rfl
theorem q1665 : (Jvm.Cond.fieldLink "LateAndEarlyModel" (29 : Nat) "LateAndEarlyModel" "value" "I") ∈ lw_all := lw_g (lw_at lw_m7 94 rfl) rfl
theorem q1666 : (Jvm.Cond.fieldLink "LateAndEarlyModel" (32 : Nat) "LateAndEarlyModel" "letters" "J") ∈ lw_all := lw_g (lw_at lw_m7 95 rfl) rfl
theorem q1667 : (Jvm.Cond.fieldLink "LateAndEarlyModel" (36 : Nat) "LateAndEarlyModel" "there" "[Z") ∈ lw_all := lw_g (lw_at lw_m7 96 rfl) rfl
theorem q1668 : (Jvm.Cond.fieldLink "LateAndEarlyModel" (40 : Nat) "LateAndEarlyModel" "blocks" "[I") ∈ lw_all := lw_g (lw_at lw_m7 97 rfl) rfl
theorem q1669 : (Jvm.Cond.fieldLink "LateAndEarlyModel" (43 : Nat) "LateAndEarlyModel" "nodes" "[I") ∈ lw_all := lw_g (lw_at lw_m7 98 rfl) rfl
theorem q1670 : (Jvm.Cond.fieldLink "LateAndEarlyModel" (46 : Nat) "LateAndEarlyModel" "told" "[I") ∈ lw_all := lw_g (lw_at lw_m7 99 rfl) rfl
theorem q1671 : (Jvm.Cond.fieldLink "LateAndEarlyModel" (49 : Nat) "LateAndEarlyModel" "sums" "[I") ∈ lw_all := lw_g (lw_at lw_m7 100 rfl) rfl
theorem q1672 : (Jvm.Cond.fieldLink "LateAndEarlyModel" (52 : Nat) "LateAndEarlyModel" "firstNode" "[I") ∈ lw_all := lw_g (lw_at lw_m7 101 rfl) rfl
theorem q1673 : (Jvm.Cond.fieldLink "LateAndEarlyModel" (55 : Nat) "LateAndEarlyModel" "blockAt" "[I") ∈ lw_all := lw_g (lw_at lw_m7 102 rfl) rfl
theorem q1674 : (Jvm.Cond.fieldLink "LateAndEarlyModel" (58 : Nat) "LateAndEarlyModel" "kind" "[I") ∈ lw_all := lw_g (lw_at lw_m7 103 rfl) rfl
theorem q1675 : (Jvm.Cond.fieldLink "LateAndEarlyModel" (61 : Nat) "LateAndEarlyModel" "blockOf" "[I") ∈ lw_all := lw_g (lw_at lw_m7 104 rfl) rfl
theorem q1676 : (Jvm.Cond.fieldLink "LateAndEarlyModel" (64 : Nat) "LateAndEarlyModel" "nameOf" "[I") ∈ lw_all := lw_g (lw_at lw_m7 105 rfl) rfl
theorem q1677 : (Jvm.Cond.fieldLink "LateAndEarlyModel" (67 : Nat) "LateAndEarlyModel" "sumOf" "[I") ∈ lw_all := lw_g (lw_at lw_m7 106 rfl) rfl
theorem q1678 : (Jvm.Cond.fieldLink "LateAndEarlyModel" (70 : Nat) "LateAndEarlyModel" "to1" "[I") ∈ lw_all := lw_g (lw_at lw_m7 107 rfl) rfl
theorem q1679 : (Jvm.Cond.fieldLink "LateAndEarlyModel" (73 : Nat) "LateAndEarlyModel" "to2" "[I") ∈ lw_all := lw_g (lw_at lw_m7 108 rfl) rfl
theorem q1680 : (Jvm.Cond.fieldLink "LateAndEarlyModel" (76 : Nat) "LateAndEarlyModel" "aName" "[I") ∈ lw_all := lw_g (lw_at lw_m7 109 rfl) rfl
theorem q1681 : (Jvm.Cond.fieldLink "LateAndEarlyModel" (79 : Nat) "LateAndEarlyModel" "aValue" "[I") ∈ lw_all := lw_g (lw_at lw_m7 110 rfl) rfl
theorem q1682 : (Jvm.Cond.fieldLink "LateAndEarlyModel" (82 : Nat) "LateAndEarlyModel" "bName" "[I") ∈ lw_all := lw_g (lw_at lw_m7 111 rfl) rfl
theorem q1683 : (Jvm.Cond.fieldLink "LateAndEarlyModel" (85 : Nat) "LateAndEarlyModel" "bValue" "[I") ∈ lw_all := lw_g (lw_at lw_m7 112 rfl) rfl
theorem q1684 : (Jvm.Cond.fieldLink "LateAndEarlyModel" (88 : Nat) "LateAndEarlyModel" "rowOf" "[I") ∈ lw_all := lw_g (lw_at lw_m7 113 rfl) rfl
theorem q1685 : (Jvm.Cond.fieldLink "LateAndEarlyModel" (91 : Nat) "LateAndEarlyModel" "sign" "[I") ∈ lw_all := lw_g (lw_at lw_m7 114 rfl) rfl
theorem q1686 : (Jvm.Cond.fieldLink "LateAndEarlyModel" (94 : Nat) "LateAndEarlyModel" "saName" "[I") ∈ lw_all := lw_g (lw_at lw_m7 115 rfl) rfl
theorem q1687 : (Jvm.Cond.fieldLink "LateAndEarlyModel" (97 : Nat) "LateAndEarlyModel" "saValue" "[I") ∈ lw_all := lw_g (lw_at lw_m7 116 rfl) rfl
theorem q1688 : (Jvm.Cond.fieldLink "LateAndEarlyModel" (100 : Nat) "LateAndEarlyModel" "sbName" "[I") ∈ lw_all := lw_g (lw_at lw_m7 117 rfl) rfl
theorem q1689 : (Jvm.Cond.fieldLink "LateAndEarlyModel" (103 : Nat) "LateAndEarlyModel" "sbValue" "[I") ∈ lw_all := lw_g (lw_at lw_m7 118 rfl) rfl
theorem q1690 : (Jvm.Cond.fieldLink "LateAndEarlyModel" (107 : Nat) "LateAndEarlyModel" "facts" "[I") ∈ lw_all := lw_g (lw_at lw_m7 119 rfl) rfl
theorem q1691 : (Jvm.Cond.fieldLink "LateAndEarlyModel" (110 : Nat) "LateAndEarlyModel" "bad" "I") ∈ lw_all := lw_g (lw_at lw_m7 120 rfl) rfl
theorem q1692 : (Jvm.Cond.fieldLink "LateAndEarlyModel" (113 : Nat) "LateAndEarlyModel" "badAt" "I") ∈ lw_all := lw_g (lw_at lw_m7 121 rfl) rfl
theorem q1693 : (Jvm.Cond.fieldLink "LateAndEarlyModel" (116 : Nat) "LateAndEarlyModel" "wrong" "I") ∈ lw_all := lw_g (lw_at lw_m7 122 rfl) rfl
theorem q1694 : (Jvm.Cond.fieldLink "LateAndEarlyModel" (119 : Nat) "LateAndEarlyModel" "opName" "I") ∈ lw_all := lw_g (lw_at lw_m7 123 rfl) rfl
theorem q1695 : (Jvm.Cond.fieldLink "LateAndEarlyModel" (122 : Nat) "LateAndEarlyModel" "opValue" "I") ∈ lw_all := lw_g (lw_at lw_m7 124 rfl) rfl
theorem q1696 : (Jvm.Cond.fieldLink "LateAndEarlyModel" (125 : Nat) "LateAndEarlyModel" "lostAt" "I") ∈ lw_all := lw_g (lw_at lw_m7 125 rfl) rfl
theorem q1697 : (Jvm.Cond.fieldLink "LateAndEarlyModel" (128 : Nat) "LateAndEarlyModel" "many" "Z") ∈ lw_all := lw_g (lw_at lw_m7 126 rfl) rfl
theorem q1698 : (Jvm.Cond.fieldLink "LateAndEarlyModel" (132 : Nat) "LateAndEarlyModel" "nameAt" "[I") ∈ lw_all := lw_g (lw_at lw_m7 127 rfl) rfl
theorem q1699 : (Jvm.Cond.fieldLink "LateAndEarlyModel" (135 : Nat) "LateAndEarlyModel" "nameBlock" "[I") ∈ lw_all := lw_g (lw_at lw_m7 128 rfl) rfl
theorem q1700 : (Jvm.Cond.fieldLink "LateAndEarlyModel" (138 : Nat) "LateAndEarlyModel" "names" "I") ∈ lw_all := lw_g (lw_at lw_m7 129 rfl) rfl
theorem q1701 : (Jvm.Cond.fieldLink "LateAndEarlyModel" (141 : Nat) "LateAndEarlyModel" "reached" "[Z") ∈ lw_all := lw_g (lw_at lw_m7 130 rfl) rfl
theorem q1702 : (Jvm.Cond.fieldLink "LateAndEarlyModel" (144 : Nat) "LateAndEarlyModel" "waysIn" "[I") ∈ lw_all := lw_g (lw_at lw_m7 131 rfl) rfl
theorem q1703 : (Jvm.Cond.fieldLink "LateAndEarlyModel" (147 : Nat) "LateAndEarlyModel" "alive" "[Z") ∈ lw_all := lw_g (lw_at lw_m7 132 rfl) rfl
theorem q1704 : (Jvm.Cond.fieldLink "LateAndEarlyModel" (150 : Nat) "LateAndEarlyModel" "begins" "[I") ∈ lw_all := lw_g (lw_at lw_m7 133 rfl) rfl
theorem q1705 : (Jvm.Cond.fieldLink "LateAndEarlyModel" (153 : Nat) "LateAndEarlyModel" "now" "[I") ∈ lw_all := lw_g (lw_at lw_m7 134 rfl) rfl
theorem q1706 : (Jvm.Cond.fieldLink "LateAndEarlyModel" (156 : Nat) "LateAndEarlyModel" "rows" "[I") ∈ lw_all := lw_g (lw_at lw_m7 135 rfl) rfl
theorem q1707 : (Jvm.Cond.fieldLink "LateAndEarlyModel" (159 : Nat) "LateAndEarlyModel" "kept" "[I") ∈ lw_all := lw_g (lw_at lw_m7 136 rfl) rfl
theorem q1708 : (Jvm.Cond.fieldLink "LateAndEarlyModel" (162 : Nat) "LateAndEarlyModel" "worked" "[I") ∈ lw_all := lw_g (lw_at lw_m7 137 rfl) rfl
theorem q1709 : (Jvm.Cond.fieldLink "LateAndEarlyModel" (165 : Nat) "LateAndEarlyModel" "tells" "[I") ∈ lw_all := lw_g (lw_at lw_m7 138 rfl) rfl
theorem q1710 : (Jvm.Cond.fieldLink "LateAndEarlyModel" (168 : Nat) "LateAndEarlyModel" "how" "I") ∈ lw_all := lw_g (lw_at lw_m7 139 rfl) rfl
theorem q1711 : (Jvm.Cond.fieldLink "LateAndEarlyModel" (171 : Nat) "LateAndEarlyModel" "came" "I") ∈ lw_all := lw_g (lw_at lw_m7 140 rfl) rfl
theorem q1712 : (Jvm.Cond.fieldLink "LateAndEarlyModel" (174 : Nat) "LateAndEarlyModel" "toldMany" "I") ∈ lw_all := lw_g (lw_at lw_m7 141 rfl) rfl
theorem q1713 : (Jvm.Cond.fieldLink "LateAndEarlyModel" (177 : Nat) "LateAndEarlyModel" "refusedAt" "I") ∈ lw_all := lw_g (lw_at lw_m7 142 rfl) rfl
theorem q1714 : (Jvm.Cond.fieldLink "LateAndEarlyModel" (180 : Nat) "LateAndEarlyModel" "workedAll" "I") ∈ lw_all := lw_g (lw_at lw_m7 143 rfl) rfl
theorem q1715 : (Jvm.Cond.fieldLink "LateAndEarlyModel" (183 : Nat) "LateAndEarlyModel" "refused" "Z") ∈ lw_all := lw_g (lw_at lw_m7 144 rfl) rfl
theorem q1716 : (Jvm.Cond.fieldLink "LateAndEarlyModel" (186 : Nat) "LateAndEarlyModel" "stepped" "[I") ∈ lw_all := lw_g (lw_at lw_m7 145 rfl) rfl
theorem q1717 : (Jvm.Cond.fieldLink "LateAndEarlyModel" (189 : Nat) "LateAndEarlyModel" "way" "[I") ∈ lw_all := lw_g (lw_at lw_m7 146 rfl) rfl
theorem q1718 : (Jvm.Cond.fieldLink "LateAndEarlyModel" (193 : Nat) "LateAndEarlyModel" "text" "[I") ∈ lw_all := lw_g (lw_at lw_m7 147 rfl) rfl
theorem q1719 : (Jvm.Cond.fieldLink "LateAndEarlyModel" (196 : Nat) "LateAndEarlyModel" "written" "I") ∈ lw_all := lw_g (lw_at lw_m7 148 rfl) rfl
theorem q1720 : (Jvm.Cond.fieldLink "LateAndEarlyModel" (199 : Nat) "LateAndEarlyModel" "asBlock" "[I") ∈ lw_all := lw_g (lw_at lw_m7 149 rfl) rfl
theorem q1721 : (Jvm.Cond.laysFinal "LateAndEarlyModel" "LateAndEarlyModel" "tape" "[I") ∈ lw_all := lw_g (lw_at lw_m7 150 rfl) rfl
theorem q1722 : (Jvm.Cond.soleField "LateAndEarlyModel" "tape") ∈ lw_all := lw_g (lw_at lw_m7 151 rfl) rfl
theorem q1723 : (Jvm.Cond.lays "LateAndEarlyModel" "LateAndEarlyModel" "taped" "I") ∈ lw_all := lw_g (lw_at lw_m7 152 rfl) rfl
theorem q1724 : (Jvm.Cond.soleField "LateAndEarlyModel" "taped") ∈ lw_all := lw_g (lw_at lw_m7 153 rfl) rfl
theorem q1725 : (Jvm.Cond.lays "LateAndEarlyModel" "LateAndEarlyModel" "sort" "I") ∈ lw_all := lw_g (lw_at lw_m7 154 rfl) rfl
theorem q1726 : (Jvm.Cond.soleField "LateAndEarlyModel" "sort") ∈ lw_all := lw_g (lw_at lw_m7 155 rfl) rfl
theorem q1727 : (Jvm.Cond.lays "LateAndEarlyModel" "LateAndEarlyModel" "from" "I") ∈ lw_all := lw_g (lw_at lw_m7 156 rfl) rfl
theorem q1728 : (Jvm.Cond.soleField "LateAndEarlyModel" "from") ∈ lw_all := lw_g (lw_at lw_m7 157 rfl) rfl
theorem q1729 : (Jvm.Cond.lays "LateAndEarlyModel" "LateAndEarlyModel" "to" "I") ∈ lw_all := lw_g (lw_at lw_m7 158 rfl) rfl
theorem q1730 : (Jvm.Cond.soleField "LateAndEarlyModel" "to") ∈ lw_all := lw_g (lw_at lw_m7 159 rfl) rfl
theorem q1731 : (Jvm.Cond.lays "LateAndEarlyModel" "LateAndEarlyModel" "digits" "I") ∈ lw_all := lw_g (lw_at lw_m7 160 rfl) rfl
theorem q1732 : (Jvm.Cond.soleField "LateAndEarlyModel" "digits") ∈ lw_all := lw_g (lw_at lw_m7 161 rfl) rfl
theorem q1733 : (Jvm.Cond.lays "LateAndEarlyModel" "LateAndEarlyModel" "value" "I") ∈ lw_all := lw_g (lw_at lw_m7 162 rfl) rfl
theorem q1734 : (Jvm.Cond.soleField "LateAndEarlyModel" "value") ∈ lw_all := lw_g (lw_at lw_m7 163 rfl) rfl
theorem q1735 : (Jvm.Cond.lays "LateAndEarlyModel" "LateAndEarlyModel" "letters" "J") ∈ lw_all := lw_g (lw_at lw_m7 164 rfl) rfl
theorem q1736 : (Jvm.Cond.soleField "LateAndEarlyModel" "letters") ∈ lw_all := lw_g (lw_at lw_m7 165 rfl) rfl
theorem q1737 : (Jvm.Cond.laysFinal "LateAndEarlyModel" "LateAndEarlyModel" "there" "[Z") ∈ lw_all := lw_g (lw_at lw_m7 166 rfl) rfl
theorem q1738 : (Jvm.Cond.soleField "LateAndEarlyModel" "there") ∈ lw_all := lw_g (lw_at lw_m7 167 rfl) rfl
theorem q1739 : (Jvm.Cond.laysFinal "LateAndEarlyModel" "LateAndEarlyModel" "blocks" "[I") ∈ lw_all := lw_g (lw_at lw_m7 168 rfl) rfl
theorem q1740 : (Jvm.Cond.soleField "LateAndEarlyModel" "blocks") ∈ lw_all := lw_g (lw_at lw_m7 169 rfl) rfl
theorem q1741 : (Jvm.Cond.laysFinal "LateAndEarlyModel" "LateAndEarlyModel" "nodes" "[I") ∈ lw_all := lw_g (lw_at lw_m7 170 rfl) rfl
theorem q1742 : (Jvm.Cond.soleField "LateAndEarlyModel" "nodes") ∈ lw_all := lw_g (lw_at lw_m7 171 rfl) rfl
theorem q1743 : (Jvm.Cond.laysFinal "LateAndEarlyModel" "LateAndEarlyModel" "told" "[I") ∈ lw_all := lw_g (lw_at lw_m7 172 rfl) rfl
theorem q1744 : (Jvm.Cond.soleField "LateAndEarlyModel" "told") ∈ lw_all := lw_g (lw_at lw_m7 173 rfl) rfl
theorem q1745 : (Jvm.Cond.laysFinal "LateAndEarlyModel" "LateAndEarlyModel" "sums" "[I") ∈ lw_all := lw_g (lw_at lw_m7 174 rfl) rfl
theorem q1746 : (Jvm.Cond.soleField "LateAndEarlyModel" "sums") ∈ lw_all := lw_g (lw_at lw_m7 175 rfl) rfl
theorem q1747 : (Jvm.Cond.laysFinal "LateAndEarlyModel" "LateAndEarlyModel" "firstNode" "[I") ∈ lw_all := lw_g (lw_at lw_m7 176 rfl) rfl
theorem q1748 : (Jvm.Cond.soleField "LateAndEarlyModel" "firstNode") ∈ lw_all := lw_g (lw_at lw_m7 177 rfl) rfl
theorem q1749 : (Jvm.Cond.laysFinal "LateAndEarlyModel" "LateAndEarlyModel" "blockAt" "[I") ∈ lw_all := lw_g (lw_at lw_m7 178 rfl) rfl
theorem q1750 : (Jvm.Cond.soleField "LateAndEarlyModel" "blockAt") ∈ lw_all := lw_g (lw_at lw_m7 179 rfl) rfl
theorem q1751 : (Jvm.Cond.laysFinal "LateAndEarlyModel" "LateAndEarlyModel" "kind" "[I") ∈ lw_all := lw_g (lw_at lw_m7 180 rfl) rfl
theorem q1752 : (Jvm.Cond.soleField "LateAndEarlyModel" "kind") ∈ lw_all := lw_g (lw_at lw_m7 181 rfl) rfl
theorem q1753 : (Jvm.Cond.laysFinal "LateAndEarlyModel" "LateAndEarlyModel" "blockOf" "[I") ∈ lw_all := lw_g (lw_at lw_m7 182 rfl) rfl
theorem q1754 : (Jvm.Cond.soleField "LateAndEarlyModel" "blockOf") ∈ lw_all := lw_g (lw_at lw_m7 183 rfl) rfl
theorem q1755 : (Jvm.Cond.laysFinal "LateAndEarlyModel" "LateAndEarlyModel" "nameOf" "[I") ∈ lw_all := lw_g (lw_at lw_m7 184 rfl) rfl
theorem q1756 : (Jvm.Cond.soleField "LateAndEarlyModel" "nameOf") ∈ lw_all := lw_g (lw_at lw_m7 185 rfl) rfl
theorem q1757 : (Jvm.Cond.laysFinal "LateAndEarlyModel" "LateAndEarlyModel" "sumOf" "[I") ∈ lw_all := lw_g (lw_at lw_m7 186 rfl) rfl
theorem q1758 : (Jvm.Cond.soleField "LateAndEarlyModel" "sumOf") ∈ lw_all := lw_g (lw_at lw_m7 187 rfl) rfl
theorem q1759 : (Jvm.Cond.laysFinal "LateAndEarlyModel" "LateAndEarlyModel" "to1" "[I") ∈ lw_all := lw_g (lw_at lw_m7 188 rfl) rfl
theorem q1760 : (Jvm.Cond.soleField "LateAndEarlyModel" "to1") ∈ lw_all := lw_g (lw_at lw_m7 189 rfl) rfl
theorem q1761 : (Jvm.Cond.laysFinal "LateAndEarlyModel" "LateAndEarlyModel" "to2" "[I") ∈ lw_all := lw_g (lw_at lw_m7 190 rfl) rfl
theorem q1762 : (Jvm.Cond.soleField "LateAndEarlyModel" "to2") ∈ lw_all := lw_g (lw_at lw_m7 191 rfl) rfl
theorem q1763 : (Jvm.Cond.laysFinal "LateAndEarlyModel" "LateAndEarlyModel" "aName" "[I") ∈ lw_all := lw_g (lw_at lw_m7 192 rfl) rfl
theorem q1764 : (Jvm.Cond.soleField "LateAndEarlyModel" "aName") ∈ lw_all := lw_g (lw_at lw_m7 193 rfl) rfl
theorem q1765 : (Jvm.Cond.laysFinal "LateAndEarlyModel" "LateAndEarlyModel" "aValue" "[I") ∈ lw_all := lw_g (lw_at lw_m7 194 rfl) rfl
theorem q1766 : (Jvm.Cond.soleField "LateAndEarlyModel" "aValue") ∈ lw_all := lw_g (lw_at lw_m7 195 rfl) rfl
theorem q1767 : (Jvm.Cond.laysFinal "LateAndEarlyModel" "LateAndEarlyModel" "bName" "[I") ∈ lw_all := lw_g (lw_at lw_m7 196 rfl) rfl
theorem q1768 : (Jvm.Cond.soleField "LateAndEarlyModel" "bName") ∈ lw_all := lw_g (lw_at lw_m7 197 rfl) rfl
theorem q1769 : (Jvm.Cond.laysFinal "LateAndEarlyModel" "LateAndEarlyModel" "bValue" "[I") ∈ lw_all := lw_g (lw_at lw_m7 198 rfl) rfl
theorem q1770 : (Jvm.Cond.soleField "LateAndEarlyModel" "bValue") ∈ lw_all := lw_g (lw_at lw_m7 199 rfl) rfl
theorem q1771 : (Jvm.Cond.laysFinal "LateAndEarlyModel" "LateAndEarlyModel" "rowOf" "[I") ∈ lw_all := lw_g (lw_at lw_m7 200 rfl) rfl
theorem q1772 : (Jvm.Cond.soleField "LateAndEarlyModel" "rowOf") ∈ lw_all := lw_g (lw_at lw_m7 201 rfl) rfl
theorem q1773 : (Jvm.Cond.laysFinal "LateAndEarlyModel" "LateAndEarlyModel" "sign" "[I") ∈ lw_all := lw_g (lw_at lw_m7 202 rfl) rfl
theorem q1774 : (Jvm.Cond.soleField "LateAndEarlyModel" "sign") ∈ lw_all := lw_g (lw_at lw_m7 203 rfl) rfl
theorem q1775 : (Jvm.Cond.laysFinal "LateAndEarlyModel" "LateAndEarlyModel" "saName" "[I") ∈ lw_all := lw_g (lw_at lw_m7 204 rfl) rfl
theorem q1776 : (Jvm.Cond.soleField "LateAndEarlyModel" "saName") ∈ lw_all := lw_g (lw_at lw_m7 205 rfl) rfl
theorem q1777 : (Jvm.Cond.laysFinal "LateAndEarlyModel" "LateAndEarlyModel" "saValue" "[I") ∈ lw_all := lw_g (lw_at lw_m7 206 rfl) rfl
theorem q1778 : (Jvm.Cond.soleField "LateAndEarlyModel" "saValue") ∈ lw_all := lw_g (lw_at lw_m7 207 rfl) rfl
theorem q1779 : (Jvm.Cond.laysFinal "LateAndEarlyModel" "LateAndEarlyModel" "sbName" "[I") ∈ lw_all := lw_g (lw_at lw_m7 208 rfl) rfl
theorem q1780 : (Jvm.Cond.soleField "LateAndEarlyModel" "sbName") ∈ lw_all := lw_g (lw_at lw_m7 209 rfl) rfl
theorem q1781 : (Jvm.Cond.laysFinal "LateAndEarlyModel" "LateAndEarlyModel" "sbValue" "[I") ∈ lw_all := lw_g (lw_at lw_m7 210 rfl) rfl
theorem q1782 : (Jvm.Cond.soleField "LateAndEarlyModel" "sbValue") ∈ lw_all := lw_g (lw_at lw_m7 211 rfl) rfl
theorem q1783 : (Jvm.Cond.laysFinal "LateAndEarlyModel" "LateAndEarlyModel" "facts" "[I") ∈ lw_all := lw_g (lw_at lw_m7 212 rfl) rfl
theorem q1784 : (Jvm.Cond.soleField "LateAndEarlyModel" "facts") ∈ lw_all := lw_g (lw_at lw_m7 213 rfl) rfl
theorem q1785 : (Jvm.Cond.lays "LateAndEarlyModel" "LateAndEarlyModel" "bad" "I") ∈ lw_all := lw_g (lw_at lw_m7 214 rfl) rfl
theorem q1786 : (Jvm.Cond.soleField "LateAndEarlyModel" "bad") ∈ lw_all := lw_g (lw_at lw_m7 215 rfl) rfl
theorem q1787 : (Jvm.Cond.lays "LateAndEarlyModel" "LateAndEarlyModel" "badAt" "I") ∈ lw_all := lw_g (lw_at lw_m7 216 rfl) rfl
theorem q1788 : (Jvm.Cond.soleField "LateAndEarlyModel" "badAt") ∈ lw_all := lw_g (lw_at lw_m7 217 rfl) rfl
theorem q1789 : (Jvm.Cond.lays "LateAndEarlyModel" "LateAndEarlyModel" "wrong" "I") ∈ lw_all := lw_g (lw_at lw_m7 218 rfl) rfl
theorem q1790 : (Jvm.Cond.soleField "LateAndEarlyModel" "wrong") ∈ lw_all := lw_g (lw_at lw_m7 219 rfl) rfl
theorem q1791 : (Jvm.Cond.lays "LateAndEarlyModel" "LateAndEarlyModel" "opName" "I") ∈ lw_all := lw_g (lw_at lw_m7 220 rfl) rfl
theorem q1792 : (Jvm.Cond.soleField "LateAndEarlyModel" "opName") ∈ lw_all := lw_g (lw_at lw_m7 221 rfl) rfl
theorem q1793 : (Jvm.Cond.lays "LateAndEarlyModel" "LateAndEarlyModel" "opValue" "I") ∈ lw_all := lw_g (lw_at lw_m7 222 rfl) rfl
theorem q1794 : (Jvm.Cond.soleField "LateAndEarlyModel" "opValue") ∈ lw_all := lw_g (lw_at lw_m7 223 rfl) rfl
theorem q1795 : (Jvm.Cond.lays "LateAndEarlyModel" "LateAndEarlyModel" "lostAt" "I") ∈ lw_all := lw_g (lw_at lw_m7 224 rfl) rfl
theorem q1796 : (Jvm.Cond.soleField "LateAndEarlyModel" "lostAt") ∈ lw_all := lw_g (lw_at lw_m7 225 rfl) rfl
theorem q1797 : (Jvm.Cond.lays "LateAndEarlyModel" "LateAndEarlyModel" "many" "Z") ∈ lw_all := lw_g (lw_at lw_m7 226 rfl) rfl
theorem q1798 : (Jvm.Cond.soleField "LateAndEarlyModel" "many") ∈ lw_all := lw_g (lw_at lw_m7 227 rfl) rfl
theorem q1799 : (Jvm.Cond.laysFinal "LateAndEarlyModel" "LateAndEarlyModel" "nameAt" "[I") ∈ lw_all := lw_g (lw_at lw_m7 228 rfl) rfl
theorem q1800 : (Jvm.Cond.soleField "LateAndEarlyModel" "nameAt") ∈ lw_all := lw_g (lw_at lw_m7 229 rfl) rfl
theorem q1801 : (Jvm.Cond.laysFinal "LateAndEarlyModel" "LateAndEarlyModel" "nameBlock" "[I") ∈ lw_all := lw_g (lw_at lw_m7 230 rfl) rfl
theorem q1802 : (Jvm.Cond.soleField "LateAndEarlyModel" "nameBlock") ∈ lw_all := lw_g (lw_at lw_m7 231 rfl) rfl
theorem q1803 : (Jvm.Cond.lays "LateAndEarlyModel" "LateAndEarlyModel" "names" "I") ∈ lw_all := lw_g (lw_at lw_m7 232 rfl) rfl
theorem q1804 : (Jvm.Cond.soleField "LateAndEarlyModel" "names") ∈ lw_all := lw_g (lw_at lw_m7 233 rfl) rfl
theorem q1805 : (Jvm.Cond.laysFinal "LateAndEarlyModel" "LateAndEarlyModel" "reached" "[Z") ∈ lw_all := lw_g (lw_at lw_m7 234 rfl) rfl
theorem q1806 : (Jvm.Cond.soleField "LateAndEarlyModel" "reached") ∈ lw_all := lw_g (lw_at lw_m7 235 rfl) rfl
theorem q1807 : (Jvm.Cond.laysFinal "LateAndEarlyModel" "LateAndEarlyModel" "waysIn" "[I") ∈ lw_all := lw_g (lw_at lw_m7 236 rfl) rfl
theorem q1808 : (Jvm.Cond.soleField "LateAndEarlyModel" "waysIn") ∈ lw_all := lw_g (lw_at lw_m7 237 rfl) rfl
theorem q1809 : (Jvm.Cond.laysFinal "LateAndEarlyModel" "LateAndEarlyModel" "alive" "[Z") ∈ lw_all := lw_g (lw_at lw_m7 238 rfl) rfl
theorem q1810 : (Jvm.Cond.soleField "LateAndEarlyModel" "alive") ∈ lw_all := lw_g (lw_at lw_m7 239 rfl) rfl
theorem q1811 : (Jvm.Cond.laysFinal "LateAndEarlyModel" "LateAndEarlyModel" "begins" "[I") ∈ lw_all := lw_g (lw_at lw_m8 0 rfl) rfl
theorem q1812 : (Jvm.Cond.soleField "LateAndEarlyModel" "begins") ∈ lw_all := lw_g (lw_at lw_m8 1 rfl) rfl
theorem q1813 : (Jvm.Cond.laysFinal "LateAndEarlyModel" "LateAndEarlyModel" "now" "[I") ∈ lw_all := lw_g (lw_at lw_m8 2 rfl) rfl
theorem q1814 : (Jvm.Cond.soleField "LateAndEarlyModel" "now") ∈ lw_all := lw_g (lw_at lw_m8 3 rfl) rfl
theorem q1815 : (Jvm.Cond.laysFinal "LateAndEarlyModel" "LateAndEarlyModel" "rows" "[I") ∈ lw_all := lw_g (lw_at lw_m8 4 rfl) rfl
theorem q1816 : (Jvm.Cond.soleField "LateAndEarlyModel" "rows") ∈ lw_all := lw_g (lw_at lw_m8 5 rfl) rfl
theorem q1817 : (Jvm.Cond.laysFinal "LateAndEarlyModel" "LateAndEarlyModel" "kept" "[I") ∈ lw_all := lw_g (lw_at lw_m8 6 rfl) rfl
theorem q1818 : (Jvm.Cond.soleField "LateAndEarlyModel" "kept") ∈ lw_all := lw_g (lw_at lw_m8 7 rfl) rfl
theorem q1819 : (Jvm.Cond.laysFinal "LateAndEarlyModel" "LateAndEarlyModel" "worked" "[I") ∈ lw_all := lw_g (lw_at lw_m8 8 rfl) rfl
theorem q1820 : (Jvm.Cond.soleField "LateAndEarlyModel" "worked") ∈ lw_all := lw_g (lw_at lw_m8 9 rfl) rfl
theorem q1821 : (Jvm.Cond.laysFinal "LateAndEarlyModel" "LateAndEarlyModel" "tells" "[I") ∈ lw_all := lw_g (lw_at lw_m8 10 rfl) rfl
theorem q1822 : (Jvm.Cond.soleField "LateAndEarlyModel" "tells") ∈ lw_all := lw_g (lw_at lw_m8 11 rfl) rfl
theorem q1823 : (Jvm.Cond.lays "LateAndEarlyModel" "LateAndEarlyModel" "how" "I") ∈ lw_all := lw_g (lw_at lw_m8 12 rfl) rfl
theorem q1824 : (Jvm.Cond.soleField "LateAndEarlyModel" "how") ∈ lw_all := lw_g (lw_at lw_m8 13 rfl) rfl
theorem q1825 : (Jvm.Cond.lays "LateAndEarlyModel" "LateAndEarlyModel" "came" "I") ∈ lw_all := lw_g (lw_at lw_m8 14 rfl) rfl
theorem q1826 : (Jvm.Cond.soleField "LateAndEarlyModel" "came") ∈ lw_all := lw_g (lw_at lw_m8 15 rfl) rfl
theorem q1827 : (Jvm.Cond.lays "LateAndEarlyModel" "LateAndEarlyModel" "toldMany" "I") ∈ lw_all := lw_g (lw_at lw_m8 16 rfl) rfl
theorem q1828 : (Jvm.Cond.soleField "LateAndEarlyModel" "toldMany") ∈ lw_all := lw_g (lw_at lw_m8 17 rfl) rfl
theorem q1829 : (Jvm.Cond.lays "LateAndEarlyModel" "LateAndEarlyModel" "refusedAt" "I") ∈ lw_all := lw_g (lw_at lw_m8 18 rfl) rfl
theorem q1830 : (Jvm.Cond.soleField "LateAndEarlyModel" "refusedAt") ∈ lw_all := lw_g (lw_at lw_m8 19 rfl) rfl
theorem q1831 : (Jvm.Cond.lays "LateAndEarlyModel" "LateAndEarlyModel" "workedAll" "I") ∈ lw_all := lw_g (lw_at lw_m8 20 rfl) rfl
theorem q1832 : (Jvm.Cond.soleField "LateAndEarlyModel" "workedAll") ∈ lw_all := lw_g (lw_at lw_m8 21 rfl) rfl
theorem q1833 : (Jvm.Cond.lays "LateAndEarlyModel" "LateAndEarlyModel" "refused" "Z") ∈ lw_all := lw_g (lw_at lw_m8 22 rfl) rfl
theorem q1834 : (Jvm.Cond.soleField "LateAndEarlyModel" "refused") ∈ lw_all := lw_g (lw_at lw_m8 23 rfl) rfl
theorem q1835 : (Jvm.Cond.laysFinal "LateAndEarlyModel" "LateAndEarlyModel" "stepped" "[I") ∈ lw_all := lw_g (lw_at lw_m8 24 rfl) rfl
theorem q1836 : (Jvm.Cond.soleField "LateAndEarlyModel" "stepped") ∈ lw_all := lw_g (lw_at lw_m8 25 rfl) rfl
theorem q1837 : (Jvm.Cond.laysFinal "LateAndEarlyModel" "LateAndEarlyModel" "way" "[I") ∈ lw_all := lw_g (lw_at lw_m8 26 rfl) rfl
theorem q1838 : (Jvm.Cond.soleField "LateAndEarlyModel" "way") ∈ lw_all := lw_g (lw_at lw_m8 27 rfl) rfl
theorem q1839 : (Jvm.Cond.laysFinal "LateAndEarlyModel" "LateAndEarlyModel" "text" "[I") ∈ lw_all := lw_g (lw_at lw_m8 28 rfl) rfl
theorem q1840 : (Jvm.Cond.soleField "LateAndEarlyModel" "text") ∈ lw_all := lw_g (lw_at lw_m8 29 rfl) rfl
theorem q1841 : (Jvm.Cond.lays "LateAndEarlyModel" "LateAndEarlyModel" "written" "I") ∈ lw_all := lw_g (lw_at lw_m8 30 rfl) rfl
theorem q1842 : (Jvm.Cond.soleField "LateAndEarlyModel" "written") ∈ lw_all := lw_g (lw_at lw_m8 31 rfl) rfl
theorem q1843 : (Jvm.Cond.laysFinal "LateAndEarlyModel" "LateAndEarlyModel" "asBlock" "[I") ∈ lw_all := lw_g (lw_at lw_m8 32 rfl) rfl
theorem q1844 : (Jvm.Cond.soleField "LateAndEarlyModel" "asBlock") ∈ lw_all := lw_g (lw_at lw_m8 33 rfl) rfl
theorem q1845 : (Jvm.Cond.superclass "LateAndEarlyModel" "java/lang/Object") ∈ lw_all := lw_g (lw_at lw_m8 34 rfl) rfl
theorem q1847 : (Jvm.Cond.instanceMethod ({ cls := "LateAndEarlyModel", name := "feed", desc := "(JI)I" } : Jvm.MethodName)) ∈ lw_all := lw_g (lw_at lw_m8 36 rfl) rfl
theorem q1848 : (Jvm.Cond.selects "LateAndEarlyModel" ({ cls := "LateAndEarlyModel", name := "feed", desc := "(JI)I" } : Jvm.MethodName) ({ cls := "LateAndEarlyModel", name := "feed", desc := "(JI)I" } : Jvm.MethodName)) ∈ lw_all := lw_g (lw_at lw_m8 37 rfl) rfl
theorem q1849 : (Jvm.Cond.code ({ cls := "LateAndEarlyModel", name := "feed", desc := "(JI)I" } : Jvm.MethodName) prog_24_method_2_code (5 : Nat) (Option.some Jvm.ClassFile.FieldType.int)) ∈ lw_all := lw_g (lw_at lw_m8 38 rfl) rfl
theorem q1850 : (Jvm.Cond.constantLong "LateAndEarlyModel" (202 : Nat) (255 : Int64)) ∈ lw_all := lw_g (lw_at lw_m8 39 rfl) rfl
theorem q1852 : (Jvm.Cond.instanceMethod ({ cls := "LateAndEarlyModel", name := "cut", desc := "(I)I" } : Jvm.MethodName)) ∈ lw_all := lw_g (lw_at lw_m8 41 rfl) rfl
theorem q1853 : (Jvm.Cond.selects "LateAndEarlyModel" ({ cls := "LateAndEarlyModel", name := "cut", desc := "(I)I" } : Jvm.MethodName) ({ cls := "LateAndEarlyModel", name := "cut", desc := "(I)I" } : Jvm.MethodName)) ∈ lw_all := lw_g (lw_at lw_m8 42 rfl) rfl
theorem q1854 : (Jvm.Cond.code ({ cls := "LateAndEarlyModel", name := "cut", desc := "(I)I" } : Jvm.MethodName) prog_24_method_3_code (2 : Nat) (Option.some Jvm.ClassFile.FieldType.int)) ∈ lw_all := lw_g (lw_at lw_m8 43 rfl) rfl
theorem q1856 : (Jvm.Cond.instanceMethod ({ cls := "LateAndEarlyModel", name := "tape", desc := "(I)I" } : Jvm.MethodName)) ∈ lw_all := lw_g (lw_at lw_m8 45 rfl) rfl
theorem q1857 : (Jvm.Cond.selects "LateAndEarlyModel" ({ cls := "LateAndEarlyModel", name := "tape", desc := "(I)I" } : Jvm.MethodName) ({ cls := "LateAndEarlyModel", name := "tape", desc := "(I)I" } : Jvm.MethodName)) ∈ lw_all := lw_g (lw_at lw_m8 46 rfl) rfl
theorem q1858 : (Jvm.Cond.code ({ cls := "LateAndEarlyModel", name := "tape", desc := "(I)I" } : Jvm.MethodName) prog_24_method_4_code (2 : Nat) (Option.some Jvm.ClassFile.FieldType.int)) ∈ lw_all := lw_g (lw_at lw_m8 47 rfl) rfl
theorem q1860 : (Jvm.Cond.instanceMethod ({ cls := "LateAndEarlyModel", name := "parse", desc := "(I)I" } : Jvm.MethodName)) ∈ lw_all := lw_g (lw_at lw_m8 49 rfl) rfl
theorem q1861 : (Jvm.Cond.selects "LateAndEarlyModel" ({ cls := "LateAndEarlyModel", name := "parse", desc := "(I)I" } : Jvm.MethodName) ({ cls := "LateAndEarlyModel", name := "parse", desc := "(I)I" } : Jvm.MethodName)) ∈ lw_all := lw_g (lw_at lw_m8 50 rfl) rfl
theorem q1862 : (Jvm.Cond.code ({ cls := "LateAndEarlyModel", name := "parse", desc := "(I)I" } : Jvm.MethodName) prog_24_method_32_code (3 : Nat) (Option.some Jvm.ClassFile.FieldType.int)) ∈ lw_all := lw_g (lw_at lw_m8 51 rfl) rfl
theorem q1863 : (Jvm.Cond.methodLink "LateAndEarlyModel" (236 : Nat) ({ cls := "LateAndEarlyModel", name := "next", desc := "()V" } : Jvm.MethodName)) ∈ lw_all := lw_g (lw_at lw_m8 52 rfl) rfl
theorem q1864 : (Jvm.Cond.privateMethod ({ cls := "LateAndEarlyModel", name := "next", desc := "()V" } : Jvm.MethodName)) ∈ lw_tbl := lw_at lw_m8 53 rfl
theorem q1865 : (Jvm.Cond.instanceMethod ({ cls := "LateAndEarlyModel", name := "next", desc := "()V" } : Jvm.MethodName)) ∈ lw_all := lw_g (lw_at lw_m8 54 rfl) rfl
theorem q1866 : (Jvm.Cond.code ({ cls := "LateAndEarlyModel", name := "next", desc := "()V" } : Jvm.MethodName) prog_24_method_8_code (3 : Nat) (Option.none : Option Jvm.ClassFile.FieldType)) ∈ lw_all := lw_g (lw_at lw_m8 55 rfl) rfl
theorem q1867 : (Jvm.Cond.methodLink "LateAndEarlyModel" (204 : Nat) ({ cls := "LateAndEarlyModel", name := "at", desc := "(I)I" } : Jvm.MethodName)) ∈ lw_all := lw_g (lw_at lw_m8 56 rfl) rfl
theorem q1868 : (Jvm.Cond.privateMethod ({ cls := "LateAndEarlyModel", name := "at", desc := "(I)I" } : Jvm.MethodName)) ∈ lw_tbl := lw_at lw_m8 57 rfl
theorem q1869 : (Jvm.Cond.instanceMethod ({ cls := "LateAndEarlyModel", name := "at", desc := "(I)I" } : Jvm.MethodName)) ∈ lw_all := lw_g (lw_at lw_m8 58 rfl) rfl
theorem q1870 : (Jvm.Cond.code ({ cls := "LateAndEarlyModel", name := "at", desc := "(I)I" } : Jvm.MethodName) prog_24_method_5_code (2 : Nat) (Option.some Jvm.ClassFile.FieldType.int)) ∈ lw_all := lw_g (lw_at lw_m8 59 rfl) rfl
theorem q1871 : (Jvm.Cond.methodLink "LateAndEarlyModel" (208 : Nat) ({ cls := "LateAndEarlyModel", name := "isLetter", desc := "(I)Z" } : Jvm.MethodName)) ∈ lw_all := lw_g (lw_at lw_m8 60 rfl) rfl
theorem q1872 : (Jvm.Cond.privateMethod ({ cls := "LateAndEarlyModel", name := "isLetter", desc := "(I)Z" } : Jvm.MethodName)) ∈ lw_tbl := lw_at lw_m8 61 rfl
theorem q1873 : (Jvm.Cond.instanceMethod ({ cls := "LateAndEarlyModel", name := "isLetter", desc := "(I)Z" } : Jvm.MethodName)) ∈ lw_all := lw_g (lw_at lw_m8 62 rfl) rfl
theorem q1874 : (Jvm.Cond.code ({ cls := "LateAndEarlyModel", name := "isLetter", desc := "(I)Z" } : Jvm.MethodName) prog_24_method_6_code (2 : Nat) (Option.some Jvm.ClassFile.FieldType.boolean)) ∈ lw_all := lw_g (lw_at lw_m8 63 rfl) rfl
theorem q1875 : (Jvm.Cond.methodLink "LateAndEarlyModel" (212 : Nat) ({ cls := "LateAndEarlyModel", name := "isDigit", desc := "(I)Z" } : Jvm.MethodName)) ∈ lw_all := lw_g (lw_at lw_m8 64 rfl) rfl
theorem q1876 : (Jvm.Cond.privateMethod ({ cls := "LateAndEarlyModel", name := "isDigit", desc := "(I)Z" } : Jvm.MethodName)) ∈ lw_tbl := lw_at lw_m8 65 rfl
theorem q1877 : (Jvm.Cond.instanceMethod ({ cls := "LateAndEarlyModel", name := "isDigit", desc := "(I)Z" } : Jvm.MethodName)) ∈ lw_all := lw_g (lw_at lw_m8 66 rfl) rfl
theorem q1878 : (Jvm.Cond.code ({ cls := "LateAndEarlyModel", name := "isDigit", desc := "(I)Z" } : Jvm.MethodName) prog_24_method_7_code (2 : Nat) (Option.some Jvm.ClassFile.FieldType.boolean)) ∈ lw_all := lw_g (lw_at lw_m8 67 rfl) rfl
theorem q1879 : (Jvm.Cond.methodLink "LateAndEarlyModel" (215 : Nat) ({ cls := "LateAndEarlyModel", name := "word", desc := "()V" } : Jvm.MethodName)) ∈ lw_all := lw_g (lw_at lw_m8 68 rfl) rfl
theorem q1880 : (Jvm.Cond.privateMethod ({ cls := "LateAndEarlyModel", name := "word", desc := "()V" } : Jvm.MethodName)) ∈ lw_tbl := lw_at lw_m8 69 rfl
theorem q1881 : (Jvm.Cond.instanceMethod ({ cls := "LateAndEarlyModel", name := "word", desc := "()V" } : Jvm.MethodName)) ∈ lw_all := lw_g (lw_at lw_m8 70 rfl) rfl
theorem q1882 : (Jvm.Cond.code ({ cls := "LateAndEarlyModel", name := "word", desc := "()V" } : Jvm.MethodName) prog_24_method_9_code (7 : Nat) (Option.none : Option Jvm.ClassFile.FieldType)) ∈ lw_all := lw_g (lw_at lw_m8 71 rfl) rfl
theorem q1883 : (Jvm.Cond.constantLong "LateAndEarlyModel" (221 : Nat) (10 : Int64)) ∈ lw_all := lw_g (lw_at lw_m8 72 rfl) rfl
theorem q1884 : (Jvm.Cond.constantLong "LateAndEarlyModel" (223 : Nat) (48 : Int64)) ∈ lw_all := lw_g (lw_at lw_m8 73 rfl) rfl
theorem q1885 : (Jvm.Cond.methodLink "LateAndEarlyModel" (218 : Nat) ({ cls := "LateAndEarlyModel", name := "number", desc := "()V" } : Jvm.MethodName)) ∈ lw_all := lw_g (lw_at lw_m8 74 rfl) rfl
theorem q1886 : (Jvm.Cond.privateMethod ({ cls := "LateAndEarlyModel", name := "number", desc := "()V" } : Jvm.MethodName)) ∈ lw_tbl := lw_at lw_m8 75 rfl
theorem q1887 : (Jvm.Cond.instanceMethod ({ cls := "LateAndEarlyModel", name := "number", desc := "()V" } : Jvm.MethodName)) ∈ lw_all := lw_g (lw_at lw_m8 76 rfl) rfl
theorem q1888 : (Jvm.Cond.code ({ cls := "LateAndEarlyModel", name := "number", desc := "()V" } : Jvm.MethodName) prog_24_method_10_code (3 : Nat) (Option.none : Option Jvm.ClassFile.FieldType)) ∈ lw_all := lw_g (lw_at lw_m8 77 rfl) rfl
theorem q1889 : (Jvm.Cond.methodLink "LateAndEarlyModel" (232 : Nat) ({ cls := "LateAndEarlyModel", name := "must", desc := "(ZI)Z" } : Jvm.MethodName)) ∈ lw_all := lw_g (lw_at lw_m8 78 rfl) rfl
theorem q1890 : (Jvm.Cond.privateMethod ({ cls := "LateAndEarlyModel", name := "must", desc := "(ZI)Z" } : Jvm.MethodName)) ∈ lw_tbl := lw_at lw_m8 79 rfl
theorem q1891 : (Jvm.Cond.instanceMethod ({ cls := "LateAndEarlyModel", name := "must", desc := "(ZI)Z" } : Jvm.MethodName)) ∈ lw_all := lw_g (lw_at lw_m8 80 rfl) rfl
theorem q1892 : (Jvm.Cond.code ({ cls := "LateAndEarlyModel", name := "must", desc := "(ZI)Z" } : Jvm.MethodName) prog_24_method_15_code (3 : Nat) (Option.some Jvm.ClassFile.FieldType.boolean)) ∈ lw_all := lw_g (lw_at lw_m8 81 rfl) rfl
theorem q1893 : (Jvm.Cond.methodLink "LateAndEarlyModel" (304 : Nat) ({ cls := "LateAndEarlyModel", name := "readBlock", desc := "()V" } : Jvm.MethodName)) ∈ lw_all := lw_g (lw_at lw_m8 82 rfl) rfl
theorem q1894 : (Jvm.Cond.privateMethod ({ cls := "LateAndEarlyModel", name := "readBlock", desc := "()V" } : Jvm.MethodName)) ∈ lw_tbl := lw_at lw_m8 83 rfl
theorem q1895 : (Jvm.Cond.instanceMethod ({ cls := "LateAndEarlyModel", name := "readBlock", desc := "()V" } : Jvm.MethodName)) ∈ lw_all := lw_g (lw_at lw_m8 84 rfl) rfl
theorem q1896 : (Jvm.Cond.code ({ cls := "LateAndEarlyModel", name := "readBlock", desc := "()V" } : Jvm.MethodName) prog_24_method_31_code (3 : Nat) (Option.none : Option Jvm.ClassFile.FieldType)) ∈ lw_all := lw_g (lw_at lw_m8 85 rfl) rfl
theorem q1897 : (Jvm.Cond.methodLink "LateAndEarlyModel" (225 : Nat) ({ cls := "LateAndEarlyModel", name := "numbered", desc := "(II)I" } : Jvm.MethodName)) ∈ lw_all := lw_g (lw_at lw_m8 86 rfl) rfl
theorem q1898 : (Jvm.Cond.privateMethod ({ cls := "LateAndEarlyModel", name := "numbered", desc := "(II)I" } : Jvm.MethodName)) ∈ lw_tbl := lw_at lw_m8 87 rfl
theorem q1899 : (Jvm.Cond.instanceMethod ({ cls := "LateAndEarlyModel", name := "numbered", desc := "(II)I" } : Jvm.MethodName)) ∈ lw_all := lw_g (lw_at lw_m8 88 rfl) rfl
theorem q1900 : (Jvm.Cond.code ({ cls := "LateAndEarlyModel", name := "numbered", desc := "(II)I" } : Jvm.MethodName) prog_24_method_13_code (3 : Nat) (Option.some Jvm.ClassFile.FieldType.int)) ∈ lw_all := lw_g (lw_at lw_m8 89 rfl) rfl
theorem q1901 : (Jvm.Cond.methodLink "LateAndEarlyModel" (279 : Nat) ({ cls := "LateAndEarlyModel", name := "take", desc := "(I)V" } : Jvm.MethodName)) ∈ lw_all := lw_g (lw_at lw_m8 90 rfl) rfl
theorem q1902 : (Jvm.Cond.privateMethod ({ cls := "LateAndEarlyModel", name := "take", desc := "(I)V" } : Jvm.MethodName)) ∈ lw_tbl := lw_at lw_m8 91 rfl
theorem q1903 : (Jvm.Cond.instanceMethod ({ cls := "LateAndEarlyModel", name := "take", desc := "(I)V" } : Jvm.MethodName)) ∈ lw_all := lw_g (lw_at lw_m8 92 rfl) rfl
theorem q1904 : (Jvm.Cond.code ({ cls := "LateAndEarlyModel", name := "take", desc := "(I)V" } : Jvm.MethodName) prog_24_method_16_code (2 : Nat) (Option.none : Option Jvm.ClassFile.FieldType)) ∈ lw_all := lw_g (lw_at lw_m8 93 rfl) rfl
theorem q1905 : (Jvm.Cond.methodLink "LateAndEarlyModel" (229 : Nat) ({ cls := "LateAndEarlyModel", name := "isSign", desc := "(I)Z" } : Jvm.MethodName)) ∈ lw_all := lw_g (lw_at lw_m8 94 rfl) rfl
theorem q1906 : (Jvm.Cond.privateMethod ({ cls := "LateAndEarlyModel", name := "isSign", desc := "(I)Z" } : Jvm.MethodName)) ∈ lw_tbl := lw_at lw_m8 95 rfl
theorem q1907 : (Jvm.Cond.instanceMethod ({ cls := "LateAndEarlyModel", name := "isSign", desc := "(I)Z" } : Jvm.MethodName)) ∈ lw_all := lw_g (lw_at lw_m8 96 rfl) rfl
theorem q1908 : (Jvm.Cond.code ({ cls := "LateAndEarlyModel", name := "isSign", desc := "(I)Z" } : Jvm.MethodName) prog_24_method_11_code (2 : Nat) (Option.some Jvm.ClassFile.FieldType.boolean)) ∈ lw_all := lw_g (lw_at lw_m8 97 rfl) rfl
theorem q1909 : (Jvm.Cond.methodLink "LateAndEarlyModel" (301 : Nat) ({ cls := "LateAndEarlyModel", name := "statement", desc := "()Z" } : Jvm.MethodName)) ∈ lw_all := lw_g (lw_at lw_m8 98 rfl) rfl
theorem q1910 : (Jvm.Cond.privateMethod ({ cls := "LateAndEarlyModel", name := "statement", desc := "()Z" } : Jvm.MethodName)) ∈ lw_tbl := lw_at lw_m8 99 rfl
theorem q1911 : (Jvm.Cond.instanceMethod ({ cls := "LateAndEarlyModel", name := "statement", desc := "()Z" } : Jvm.MethodName)) ∈ lw_all := lw_g (lw_at lw_m8 100 rfl) rfl
theorem q1912 : (Jvm.Cond.code ({ cls := "LateAndEarlyModel", name := "statement", desc := "()Z" } : Jvm.MethodName) prog_24_method_20_code (5 : Nat) (Option.some Jvm.ClassFile.FieldType.boolean)) ∈ lw_all := lw_g (lw_at lw_m8 101 rfl) rfl
theorem q1913 : (Jvm.Cond.methodLink "LateAndEarlyModel" (255 : Nat) ({ cls := "LateAndEarlyModel", name := "mayBegin", desc := "()Z" } : Jvm.MethodName)) ∈ lw_all := lw_g (lw_at lw_m8 102 rfl) rfl
theorem q1914 : (Jvm.Cond.privateMethod ({ cls := "LateAndEarlyModel", name := "mayBegin", desc := "()Z" } : Jvm.MethodName)) ∈ lw_tbl := lw_at lw_m8 103 rfl
theorem q1915 : (Jvm.Cond.instanceMethod ({ cls := "LateAndEarlyModel", name := "mayBegin", desc := "()Z" } : Jvm.MethodName)) ∈ lw_all := lw_g (lw_at lw_m8 104 rfl) rfl
theorem q1916 : (Jvm.Cond.code ({ cls := "LateAndEarlyModel", name := "mayBegin", desc := "()Z" } : Jvm.MethodName) prog_24_method_19_code (1 : Nat) (Option.some Jvm.ClassFile.FieldType.boolean)) ∈ lw_all := lw_g (lw_at lw_m8 105 rfl) rfl
theorem q1917 : (Jvm.Cond.methodLink "LateAndEarlyModel" (239 : Nat) ({ cls := "LateAndEarlyModel", name := "named", desc := "()I" } : Jvm.MethodName)) ∈ lw_all := lw_g (lw_at lw_m8 106 rfl) rfl
theorem q1918 : (Jvm.Cond.privateMethod ({ cls := "LateAndEarlyModel", name := "named", desc := "()I" } : Jvm.MethodName)) ∈ lw_tbl := lw_at lw_m8 107 rfl
theorem q1919 : (Jvm.Cond.instanceMethod ({ cls := "LateAndEarlyModel", name := "named", desc := "()I" } : Jvm.MethodName)) ∈ lw_all := lw_g (lw_at lw_m8 108 rfl) rfl
theorem q1920 : (Jvm.Cond.code ({ cls := "LateAndEarlyModel", name := "named", desc := "()I" } : Jvm.MethodName) prog_24_method_14_code (3 : Nat) (Option.some Jvm.ClassFile.FieldType.int)) ∈ lw_all := lw_g (lw_at lw_m8 109 rfl) rfl
theorem q1921 : (Jvm.Cond.constantLong "LateAndEarlyModel" (243 : Nat) (1952803948 : Int64)) ∈ lw_all := lw_g (lw_at lw_m8 110 rfl) rfl
theorem q1922 : (Jvm.Cond.methodLink "LateAndEarlyModel" (245 : Nat) ({ cls := "LateAndEarlyModel", name := "isWord", desc := "(J)Z" } : Jvm.MethodName)) ∈ lw_all := lw_g (lw_at lw_m8 111 rfl) rfl
theorem q1923 : (Jvm.Cond.privateMethod ({ cls := "LateAndEarlyModel", name := "isWord", desc := "(J)Z" } : Jvm.MethodName)) ∈ lw_tbl := lw_at lw_m8 112 rfl
theorem q1924 : (Jvm.Cond.instanceMethod ({ cls := "LateAndEarlyModel", name := "isWord", desc := "(J)Z" } : Jvm.MethodName)) ∈ lw_all := lw_g (lw_at lw_m8 113 rfl) rfl
theorem q1925 : (Jvm.Cond.code ({ cls := "LateAndEarlyModel", name := "isWord", desc := "(J)Z" } : Jvm.MethodName) prog_24_method_12_code (3 : Nat) (Option.some Jvm.ClassFile.FieldType.boolean)) ∈ lw_all := lw_g (lw_at lw_m8 114 rfl) rfl
theorem q1926 : (Jvm.Cond.constantLong "LateAndEarlyModel" (249 : Nat) (26479 : Int64)) ∈ lw_all := lw_g (lw_at lw_m8 115 rfl) rfl
theorem q1927 : (Jvm.Cond.constantLong "LateAndEarlyModel" (251 : Nat) (26982 : Int64)) ∈ lw_all := lw_g (lw_at lw_m8 116 rfl) rfl
theorem q1928 : (Jvm.Cond.constantLong "LateAndEarlyModel" (253 : Nat) (465557354085 : Int64)) ∈ lw_all := lw_g (lw_at lw_m8 117 rfl) rfl
theorem q1929 : (Jvm.Cond.methodLink "LateAndEarlyModel" (259 : Nat) ({ cls := "LateAndEarlyModel", name := "assigned", desc := "(II)V" } : Jvm.MethodName)) ∈ lw_all := lw_g (lw_at lw_m8 118 rfl) rfl
theorem q1930 : (Jvm.Cond.privateMethod ({ cls := "LateAndEarlyModel", name := "assigned", desc := "(II)V" } : Jvm.MethodName)) ∈ lw_tbl := lw_at lw_m8 119 rfl
theorem q1931 : (Jvm.Cond.instanceMethod ({ cls := "LateAndEarlyModel", name := "assigned", desc := "(II)V" } : Jvm.MethodName)) ∈ lw_all := lw_g (lw_at lw_m8 120 rfl) rfl
theorem q1932 : (Jvm.Cond.code ({ cls := "LateAndEarlyModel", name := "assigned", desc := "(II)V" } : Jvm.MethodName) prog_24_method_29_code (5 : Nat) (Option.none : Option Jvm.ClassFile.FieldType)) ∈ lw_all := lw_g (lw_at lw_m8 121 rfl) rfl
theorem q1933 : (Jvm.Cond.methodLink "LateAndEarlyModel" (291 : Nat) ({ cls := "LateAndEarlyModel", name := "operand", desc := "()V" } : Jvm.MethodName)) ∈ lw_all := lw_g (lw_at lw_m8 122 rfl) rfl
theorem q1934 : (Jvm.Cond.privateMethod ({ cls := "LateAndEarlyModel", name := "operand", desc := "()V" } : Jvm.MethodName)) ∈ lw_tbl := lw_at lw_m8 123 rfl
theorem q1935 : (Jvm.Cond.instanceMethod ({ cls := "LateAndEarlyModel", name := "operand", desc := "()V" } : Jvm.MethodName)) ∈ lw_all := lw_g (lw_at lw_m8 124 rfl) rfl
theorem q1936 : (Jvm.Cond.code ({ cls := "LateAndEarlyModel", name := "operand", desc := "()V" } : Jvm.MethodName) prog_24_method_17_code (2 : Nat) (Option.none : Option Jvm.ClassFile.FieldType)) ∈ lw_all := lw_g (lw_at lw_m8 125 rfl) rfl
theorem q1937 : (Jvm.Cond.methodLink "LateAndEarlyModel" (294 : Nat) ({ cls := "LateAndEarlyModel", name := "summed", desc := "(IIIIII)V" } : Jvm.MethodName)) ∈ lw_all := lw_g (lw_at lw_m8 126 rfl) rfl
theorem q1938 : (Jvm.Cond.privateMethod ({ cls := "LateAndEarlyModel", name := "summed", desc := "(IIIIII)V" } : Jvm.MethodName)) ∈ lw_tbl := lw_at lw_m8 127 rfl
theorem q1939 : (Jvm.Cond.instanceMethod ({ cls := "LateAndEarlyModel", name := "summed", desc := "(IIIIII)V" } : Jvm.MethodName)) ∈ lw_all := lw_g (lw_at lw_m8 128 rfl) rfl
theorem q1940 : (Jvm.Cond.code ({ cls := "LateAndEarlyModel", name := "summed", desc := "(IIIIII)V" } : Jvm.MethodName) prog_24_method_30_code (9 : Nat) (Option.none : Option Jvm.ClassFile.FieldType)) ∈ lw_all := lw_g (lw_at lw_m8 129 rfl) rfl
theorem q1941 : (Jvm.Cond.methodLink "LateAndEarlyModel" (285 : Nat) ({ cls := "LateAndEarlyModel", name := "first", desc := "(I)V" } : Jvm.MethodName)) ∈ lw_all := lw_g (lw_at lw_m8 130 rfl) rfl
theorem q1942 : (Jvm.Cond.privateMethod ({ cls := "LateAndEarlyModel", name := "first", desc := "(I)V" } : Jvm.MethodName)) ∈ lw_tbl := lw_at lw_m8 131 rfl
theorem q1943 : (Jvm.Cond.instanceMethod ({ cls := "LateAndEarlyModel", name := "first", desc := "(I)V" } : Jvm.MethodName)) ∈ lw_all := lw_g (lw_at lw_m8 132 rfl) rfl
theorem q1944 : (Jvm.Cond.code ({ cls := "LateAndEarlyModel", name := "first", desc := "(I)V" } : Jvm.MethodName) prog_24_method_25_code (2 : Nat) (Option.none : Option Jvm.ClassFile.FieldType)) ∈ lw_all := lw_g (lw_at lw_m8 133 rfl) rfl
theorem q1945 : (Jvm.Cond.methodLink "LateAndEarlyModel" (298 : Nat) ({ cls := "LateAndEarlyModel", name := "isOp", desc := "()Z" } : Jvm.MethodName)) ∈ lw_all := lw_g (lw_at lw_m8 134 rfl) rfl
theorem q1946 : (Jvm.Cond.privateMethod ({ cls := "LateAndEarlyModel", name := "isOp", desc := "()Z" } : Jvm.MethodName)) ∈ lw_tbl := lw_at lw_m8 135 rfl
theorem q1947 : (Jvm.Cond.instanceMethod ({ cls := "LateAndEarlyModel", name := "isOp", desc := "()Z" } : Jvm.MethodName)) ∈ lw_all := lw_g (lw_at lw_m8 136 rfl) rfl
theorem q1948 : (Jvm.Cond.code ({ cls := "LateAndEarlyModel", name := "isOp", desc := "()Z" } : Jvm.MethodName) prog_24_method_28_code (1 : Nat) (Option.some Jvm.ClassFile.FieldType.boolean)) ∈ lw_all := lw_g (lw_at lw_m8 137 rfl) rfl
theorem q1949 : (Jvm.Cond.methodLink "LateAndEarlyModel" (263 : Nat) ({ cls := "LateAndEarlyModel", name := "put", desc := "(II)V" } : Jvm.MethodName)) ∈ lw_all := lw_g (lw_at lw_m8 138 rfl) rfl
theorem q1950 : (Jvm.Cond.privateMethod ({ cls := "LateAndEarlyModel", name := "put", desc := "(II)V" } : Jvm.MethodName)) ∈ lw_tbl := lw_at lw_m8 139 rfl
theorem q1951 : (Jvm.Cond.instanceMethod ({ cls := "LateAndEarlyModel", name := "put", desc := "(II)V" } : Jvm.MethodName)) ∈ lw_all := lw_g (lw_at lw_m8 140 rfl) rfl
theorem q1952 : (Jvm.Cond.code ({ cls := "LateAndEarlyModel", name := "put", desc := "(II)V" } : Jvm.MethodName) prog_24_method_27_code (3 : Nat) (Option.none : Option Jvm.ClassFile.FieldType)) ∈ lw_all := lw_g (lw_at lw_m8 141 rfl) rfl
theorem q1953 : (Jvm.Cond.methodLink "LateAndEarlyModel" (288 : Nat) ({ cls := "LateAndEarlyModel", name := "second", desc := "(I)V" } : Jvm.MethodName)) ∈ lw_all := lw_g (lw_at lw_m8 142 rfl) rfl
theorem q1954 : (Jvm.Cond.privateMethod ({ cls := "LateAndEarlyModel", name := "second", desc := "(I)V" } : Jvm.MethodName)) ∈ lw_tbl := lw_at lw_m8 143 rfl
theorem q1955 : (Jvm.Cond.instanceMethod ({ cls := "LateAndEarlyModel", name := "second", desc := "(I)V" } : Jvm.MethodName)) ∈ lw_all := lw_g (lw_at lw_m8 144 rfl) rfl
theorem q1956 : (Jvm.Cond.code ({ cls := "LateAndEarlyModel", name := "second", desc := "(I)V" } : Jvm.MethodName) prog_24_method_26_code (2 : Nat) (Option.none : Option Jvm.ClassFile.FieldType)) ∈ lw_all := lw_g (lw_at lw_m8 145 rfl) rfl
theorem q1957 : (Jvm.Cond.methodLink "LateAndEarlyModel" (266 : Nat) ({ cls := "LateAndEarlyModel", name := "tell", desc := "(I)V" } : Jvm.MethodName)) ∈ lw_all := lw_g (lw_at lw_m8 146 rfl) rfl
theorem q1958 : (Jvm.Cond.privateMethod ({ cls := "LateAndEarlyModel", name := "tell", desc := "(I)V" } : Jvm.MethodName)) ∈ lw_tbl := lw_at lw_m8 147 rfl
theorem q1959 : (Jvm.Cond.instanceMethod ({ cls := "LateAndEarlyModel", name := "tell", desc := "(I)V" } : Jvm.MethodName)) ∈ lw_all := lw_g (lw_at lw_m8 148 rfl) rfl
theorem q1960 : (Jvm.Cond.code ({ cls := "LateAndEarlyModel", name := "tell", desc := "(I)V" } : Jvm.MethodName) prog_24_method_24_code (2 : Nat) (Option.none : Option Jvm.ClassFile.FieldType)) ∈ lw_all := lw_g (lw_at lw_m8 149 rfl) rfl
theorem q1961 : (Jvm.Cond.methodLink "LateAndEarlyModel" (270 : Nat) ({ cls := "LateAndEarlyModel", name := "go", desc := "(I)V" } : Jvm.MethodName)) ∈ lw_all := lw_g (lw_at lw_m8 150 rfl) rfl
theorem q1962 : (Jvm.Cond.privateMethod ({ cls := "LateAndEarlyModel", name := "go", desc := "(I)V" } : Jvm.MethodName)) ∈ lw_tbl := lw_at lw_m8 151 rfl
theorem q1963 : (Jvm.Cond.instanceMethod ({ cls := "LateAndEarlyModel", name := "go", desc := "(I)V" } : Jvm.MethodName)) ∈ lw_all := lw_g (lw_at lw_m8 152 rfl) rfl
theorem q1964 : (Jvm.Cond.code ({ cls := "LateAndEarlyModel", name := "go", desc := "(I)V" } : Jvm.MethodName) prog_24_method_22_code (2 : Nat) (Option.none : Option Jvm.ClassFile.FieldType)) ∈ lw_all := lw_g (lw_at lw_m8 153 rfl) rfl
theorem q1965 : (Jvm.Cond.methodLink "LateAndEarlyModel" (282 : Nat) ({ cls := "LateAndEarlyModel", name := "block", desc := "()I" } : Jvm.MethodName)) ∈ lw_all := lw_g (lw_at lw_m8 154 rfl) rfl
theorem q1966 : (Jvm.Cond.privateMethod ({ cls := "LateAndEarlyModel", name := "block", desc := "()I" } : Jvm.MethodName)) ∈ lw_tbl := lw_at lw_m8 155 rfl
theorem q1967 : (Jvm.Cond.instanceMethod ({ cls := "LateAndEarlyModel", name := "block", desc := "()I" } : Jvm.MethodName)) ∈ lw_all := lw_g (lw_at lw_m8 156 rfl) rfl
theorem q1968 : (Jvm.Cond.code ({ cls := "LateAndEarlyModel", name := "block", desc := "()I" } : Jvm.MethodName) prog_24_method_18_code (2 : Nat) (Option.some Jvm.ClassFile.FieldType.int)) ∈ lw_all := lw_g (lw_at lw_m8 157 rfl) rfl
theorem q1969 : (Jvm.Cond.methodLink "LateAndEarlyModel" (273 : Nat) ({ cls := "LateAndEarlyModel", name := "test", desc := "(I)V" } : Jvm.MethodName)) ∈ lw_all := lw_g (lw_at lw_m8 158 rfl) rfl
theorem q1970 : (Jvm.Cond.privateMethod ({ cls := "LateAndEarlyModel", name := "test", desc := "(I)V" } : Jvm.MethodName)) ∈ lw_tbl := lw_at lw_m8 159 rfl
theorem q1971 : (Jvm.Cond.instanceMethod ({ cls := "LateAndEarlyModel", name := "test", desc := "(I)V" } : Jvm.MethodName)) ∈ lw_all := lw_g (lw_at lw_m8 160 rfl) rfl
theorem q1972 : (Jvm.Cond.code ({ cls := "LateAndEarlyModel", name := "test", desc := "(I)V" } : Jvm.MethodName) prog_24_method_23_code (2 : Nat) (Option.none : Option Jvm.ClassFile.FieldType)) ∈ lw_all := lw_g (lw_at lw_m8 161 rfl) rfl
theorem q1973 : (Jvm.Cond.methodLink "LateAndEarlyModel" (276 : Nat) ({ cls := "LateAndEarlyModel", name := "leave", desc := "(I)V" } : Jvm.MethodName)) ∈ lw_all := lw_g (lw_at lw_m8 162 rfl) rfl
theorem q1974 : (Jvm.Cond.privateMethod ({ cls := "LateAndEarlyModel", name := "leave", desc := "(I)V" } : Jvm.MethodName)) ∈ lw_tbl := lw_at lw_m8 163 rfl
theorem q1975 : (Jvm.Cond.instanceMethod ({ cls := "LateAndEarlyModel", name := "leave", desc := "(I)V" } : Jvm.MethodName)) ∈ lw_all := lw_g (lw_at lw_m8 164 rfl) rfl
theorem q1976 : (Jvm.Cond.code ({ cls := "LateAndEarlyModel", name := "leave", desc := "(I)V" } : Jvm.MethodName) prog_24_method_21_code (2 : Nat) (Option.none : Option Jvm.ClassFile.FieldType)) ∈ lw_all := lw_g (lw_at lw_m8 165 rfl) rfl
theorem q1977 : (Jvm.Cond.methodLink "LateAndEarlyModel" (307 : Nat) ({ cls := "LateAndEarlyModel", name := "ends", desc := "()V" } : Jvm.MethodName)) ∈ lw_all := lw_g (lw_at lw_m8 166 rfl) rfl
theorem q1978 : (Jvm.Cond.privateMethod ({ cls := "LateAndEarlyModel", name := "ends", desc := "()V" } : Jvm.MethodName)) ∈ lw_tbl := lw_at lw_m8 167 rfl
theorem q1979 : (Jvm.Cond.instanceMethod ({ cls := "LateAndEarlyModel", name := "ends", desc := "()V" } : Jvm.MethodName)) ∈ lw_all := lw_g (lw_at lw_m8 168 rfl) rfl
theorem q1980 : (Jvm.Cond.code ({ cls := "LateAndEarlyModel", name := "ends", desc := "()V" } : Jvm.MethodName) prog_24_method_35_code (5 : Nat) (Option.none : Option Jvm.ClassFile.FieldType)) ∈ lw_all := lw_g (lw_at lw_m8 169 rfl) rfl
theorem q1981 : (Jvm.Cond.methodLink "LateAndEarlyModel" (319 : Nat) ({ cls := "LateAndEarlyModel", name := "fault", desc := "(II)V" } : Jvm.MethodName)) ∈ lw_all := lw_g (lw_at lw_m8 170 rfl) rfl
theorem q1982 : (Jvm.Cond.privateMethod ({ cls := "LateAndEarlyModel", name := "fault", desc := "(II)V" } : Jvm.MethodName)) ∈ lw_tbl := lw_at lw_m8 171 rfl
theorem q1983 : (Jvm.Cond.instanceMethod ({ cls := "LateAndEarlyModel", name := "fault", desc := "(II)V" } : Jvm.MethodName)) ∈ lw_all := lw_g (lw_at lw_m8 172 rfl) rfl
theorem q1984 : (Jvm.Cond.code ({ cls := "LateAndEarlyModel", name := "fault", desc := "(II)V" } : Jvm.MethodName) prog_24_method_34_code (3 : Nat) (Option.none : Option Jvm.ClassFile.FieldType)) ∈ lw_all := lw_g (lw_at lw_m8 173 rfl) rfl
theorem q1985 : (Jvm.Cond.methodLink "LateAndEarlyModel" (322 : Nat) ({ cls := "LateAndEarlyModel", name := "lastNode", desc := "(I)I" } : Jvm.MethodName)) ∈ lw_all := lw_g (lw_at lw_m8 174 rfl) rfl
theorem q1986 : (Jvm.Cond.privateMethod ({ cls := "LateAndEarlyModel", name := "lastNode", desc := "(I)I" } : Jvm.MethodName)) ∈ lw_tbl := lw_at lw_m8 175 rfl
theorem q1987 : (Jvm.Cond.instanceMethod ({ cls := "LateAndEarlyModel", name := "lastNode", desc := "(I)I" } : Jvm.MethodName)) ∈ lw_all := lw_g (lw_at lw_m8 176 rfl) rfl
theorem q1988 : (Jvm.Cond.code ({ cls := "LateAndEarlyModel", name := "lastNode", desc := "(I)I" } : Jvm.MethodName) prog_24_method_33_code (2 : Nat) (Option.some Jvm.ClassFile.FieldType.int)) ∈ lw_all := lw_g (lw_at lw_m8 177 rfl) rfl
theorem q1989 : (Jvm.Cond.methodLink "LateAndEarlyModel" (325 : Nat) ({ cls := "LateAndEarlyModel", name := "mark", desc := "(I)Z" } : Jvm.MethodName)) ∈ lw_all := lw_g (lw_at lw_m8 178 rfl) rfl
theorem q1990 : (Jvm.Cond.privateMethod ({ cls := "LateAndEarlyModel", name := "mark", desc := "(I)Z" } : Jvm.MethodName)) ∈ lw_tbl := lw_at lw_m8 179 rfl
theorem q1991 : (Jvm.Cond.instanceMethod ({ cls := "LateAndEarlyModel", name := "mark", desc := "(I)Z" } : Jvm.MethodName)) ∈ lw_all := lw_g (lw_at lw_m8 180 rfl) rfl
theorem q1992 : (Jvm.Cond.code ({ cls := "LateAndEarlyModel", name := "mark", desc := "(I)Z" } : Jvm.MethodName) prog_24_method_36_code (2 : Nat) (Option.some Jvm.ClassFile.FieldType.boolean)) ∈ lw_all := lw_g (lw_at lw_m8 181 rfl) rfl
theorem q1993 : (Jvm.Cond.methodLink "LateAndEarlyModel" (310 : Nat) ({ cls := "LateAndEarlyModel", name := "lead", desc := "()V" } : Jvm.MethodName)) ∈ lw_all := lw_g (lw_at lw_m8 182 rfl) rfl
theorem q1994 : (Jvm.Cond.privateMethod ({ cls := "LateAndEarlyModel", name := "lead", desc := "()V" } : Jvm.MethodName)) ∈ lw_tbl := lw_at lw_m8 183 rfl
theorem q1995 : (Jvm.Cond.instanceMethod ({ cls := "LateAndEarlyModel", name := "lead", desc := "()V" } : Jvm.MethodName)) ∈ lw_all := lw_g (lw_at lw_m8 184 rfl) rfl
theorem q1996 : (Jvm.Cond.code ({ cls := "LateAndEarlyModel", name := "lead", desc := "()V" } : Jvm.MethodName) prog_24_method_38_code (4 : Nat) (Option.none : Option Jvm.ClassFile.FieldType)) ∈ lw_all := lw_g (lw_at lw_m8 185 rfl) rfl
theorem q1997 : (Jvm.Cond.methodLink "LateAndEarlyModel" (328 : Nat) ({ cls := "LateAndEarlyModel", name := "waysTo", desc := "(I)I" } : Jvm.MethodName)) ∈ lw_all := lw_g (lw_at lw_m8 186 rfl) rfl
theorem q1998 : (Jvm.Cond.privateMethod ({ cls := "LateAndEarlyModel", name := "waysTo", desc := "(I)I" } : Jvm.MethodName)) ∈ lw_tbl := lw_at lw_m8 187 rfl
theorem q1999 : (Jvm.Cond.instanceMethod ({ cls := "LateAndEarlyModel", name := "waysTo", desc := "(I)I" } : Jvm.MethodName)) ∈ lw_all := lw_g (lw_at lw_m8 188 rfl) rfl
theorem q2000 : (Jvm.Cond.code ({ cls := "LateAndEarlyModel", name := "waysTo", desc := "(I)I" } : Jvm.MethodName) prog_24_method_37_code (5 : Nat) (Option.some Jvm.ClassFile.FieldType.int)) ∈ lw_all := lw_g (lw_at lw_m8 189 rfl) rfl
theorem q2001 : (Jvm.Cond.methodLink "LateAndEarlyModel" (331 : Nat) ({ cls := "LateAndEarlyModel", name := "through", desc := "(I)I" } : Jvm.MethodName)) ∈ lw_all := lw_g (lw_at lw_m8 190 rfl) rfl
theorem q2002 : (Jvm.Cond.privateMethod ({ cls := "LateAndEarlyModel", name := "through", desc := "(I)I" } : Jvm.MethodName)) ∈ lw_tbl := lw_at lw_m8 191 rfl
theorem q2003 : (Jvm.Cond.instanceMethod ({ cls := "LateAndEarlyModel", name := "through", desc := "(I)I" } : Jvm.MethodName)) ∈ lw_all := lw_g (lw_at lw_m8 192 rfl) rfl
theorem q2004 : (Jvm.Cond.code ({ cls := "LateAndEarlyModel", name := "through", desc := "(I)I" } : Jvm.MethodName) prog_24_method_39_code (4 : Nat) (Option.some Jvm.ClassFile.FieldType.int)) ∈ lw_all := lw_g (lw_at lw_m8 193 rfl) rfl
theorem q2005 : (Jvm.Cond.methodLink "LateAndEarlyModel" (313 : Nat) ({ cls := "LateAndEarlyModel", name := "settle", desc := "(I)V" } : Jvm.MethodName)) ∈ lw_all := lw_g (lw_at lw_m8 194 rfl) rfl
theorem q2006 : (Jvm.Cond.privateMethod ({ cls := "LateAndEarlyModel", name := "settle", desc := "(I)V" } : Jvm.MethodName)) ∈ lw_tbl := lw_at lw_m8 195 rfl
theorem q2007 : (Jvm.Cond.instanceMethod ({ cls := "LateAndEarlyModel", name := "settle", desc := "(I)V" } : Jvm.MethodName)) ∈ lw_all := lw_g (lw_at lw_m8 196 rfl) rfl
theorem q2008 : (Jvm.Cond.code ({ cls := "LateAndEarlyModel", name := "settle", desc := "(I)V" } : Jvm.MethodName) prog_24_method_45_code (5 : Nat) (Option.none : Option Jvm.ClassFile.FieldType)) ∈ lw_all := lw_g (lw_at lw_m8 197 rfl) rfl
theorem q2009 : (Jvm.Cond.methodLink "LateAndEarlyModel" (338 : Nat) ({ cls := "LateAndEarlyModel", name := "base", desc := "(II)I" } : Jvm.MethodName)) ∈ lw_all := lw_g (lw_at lw_m8 198 rfl) rfl
theorem q2010 : (Jvm.Cond.privateMethod ({ cls := "LateAndEarlyModel", name := "base", desc := "(II)I" } : Jvm.MethodName)) ∈ lw_tbl := lw_at lw_m8 199 rfl
theorem q2011 : (Jvm.Cond.instanceMethod ({ cls := "LateAndEarlyModel", name := "base", desc := "(II)I" } : Jvm.MethodName)) ∈ lw_all := lw_g (lw_at lw_m8 200 rfl) rfl
theorem q2012 : (Jvm.Cond.code ({ cls := "LateAndEarlyModel", name := "base", desc := "(II)I" } : Jvm.MethodName) prog_24_method_43_code (3 : Nat) (Option.some Jvm.ClassFile.FieldType.int)) ∈ lw_all := lw_g (lw_at lw_m8 201 rfl) rfl
theorem q2013 : (Jvm.Cond.methodLink "LateAndEarlyModel" (341 : Nat) ({ cls := "LateAndEarlyModel", name := "kills", desc := "(II)Z" } : Jvm.MethodName)) ∈ lw_all := lw_g (lw_at lw_m8 202 rfl) rfl
theorem q2014 : (Jvm.Cond.privateMethod ({ cls := "LateAndEarlyModel", name := "kills", desc := "(II)Z" } : Jvm.MethodName)) ∈ lw_tbl := lw_at lw_m8 203 rfl
theorem q2015 : (Jvm.Cond.instanceMethod ({ cls := "LateAndEarlyModel", name := "kills", desc := "(II)Z" } : Jvm.MethodName)) ∈ lw_all := lw_g (lw_at lw_m8 204 rfl) rfl
theorem q2016 : (Jvm.Cond.code ({ cls := "LateAndEarlyModel", name := "kills", desc := "(II)Z" } : Jvm.MethodName) prog_24_method_41_code (4 : Nat) (Option.some Jvm.ClassFile.FieldType.boolean)) ∈ lw_all := lw_g (lw_at lw_m8 205 rfl) rfl
theorem q2017 : (Jvm.Cond.methodLink "LateAndEarlyModel" (344 : Nat) ({ cls := "LateAndEarlyModel", name := "narrow", desc := "(II)V" } : Jvm.MethodName)) ∈ lw_all := lw_g (lw_at lw_m8 206 rfl) rfl
theorem q2018 : (Jvm.Cond.privateMethod ({ cls := "LateAndEarlyModel", name := "narrow", desc := "(II)V" } : Jvm.MethodName)) ∈ lw_tbl := lw_at lw_m8 207 rfl
theorem q2019 : (Jvm.Cond.instanceMethod ({ cls := "LateAndEarlyModel", name := "narrow", desc := "(II)V" } : Jvm.MethodName)) ∈ lw_all := lw_g (lw_at lw_m8 208 rfl) rfl
theorem q2020 : (Jvm.Cond.code ({ cls := "LateAndEarlyModel", name := "narrow", desc := "(II)V" } : Jvm.MethodName) prog_24_method_46_code (6 : Nat) (Option.none : Option Jvm.ClassFile.FieldType)) ∈ lw_all := lw_g (lw_at lw_m8 209 rfl) rfl
theorem q2021 : (Jvm.Cond.methodLink "LateAndEarlyModel" (347 : Nat) ({ cls := "LateAndEarlyModel", name := "is", desc := "(III)Z" } : Jvm.MethodName)) ∈ lw_all := lw_g (lw_at lw_m8 210 rfl) rfl
theorem q2022 : (Jvm.Cond.privateMethod ({ cls := "LateAndEarlyModel", name := "is", desc := "(III)Z" } : Jvm.MethodName)) ∈ lw_tbl := lw_at lw_m8 211 rfl
theorem q2023 : (Jvm.Cond.instanceMethod ({ cls := "LateAndEarlyModel", name := "is", desc := "(III)Z" } : Jvm.MethodName)) ∈ lw_all := lw_g (lw_at lw_m8 212 rfl) rfl
theorem q2024 : (Jvm.Cond.code ({ cls := "LateAndEarlyModel", name := "is", desc := "(III)Z" } : Jvm.MethodName) prog_24_method_44_code (4 : Nat) (Option.some Jvm.ClassFile.FieldType.boolean)) ∈ lw_all := lw_g (lw_at lw_m8 213 rfl) rfl
theorem q2025 : (Jvm.Cond.methodLink "LateAndEarlyModel" (357 : Nat) ({ cls := "LateAndEarlyModel", name := "holds", desc := "(IIII)Z" } : Jvm.MethodName)) ∈ lw_all := lw_g (lw_at lw_m8 214 rfl) rfl
theorem q2026 : (Jvm.Cond.privateMethod ({ cls := "LateAndEarlyModel", name := "holds", desc := "(IIII)Z" } : Jvm.MethodName)) ∈ lw_tbl := lw_at lw_m8 215 rfl
theorem q2027 : (Jvm.Cond.instanceMethod ({ cls := "LateAndEarlyModel", name := "holds", desc := "(IIII)Z" } : Jvm.MethodName)) ∈ lw_all := lw_g (lw_at lw_m8 216 rfl) rfl
theorem q2028 : (Jvm.Cond.code ({ cls := "LateAndEarlyModel", name := "holds", desc := "(IIII)Z" } : Jvm.MethodName) prog_24_method_47_code (6 : Nat) (Option.some Jvm.ClassFile.FieldType.boolean)) ∈ lw_all := lw_g (lw_at lw_m8 217 rfl) rfl
theorem q2029 : (Jvm.Cond.methodLink "LateAndEarlyModel" (354 : Nat) ({ cls := "LateAndEarlyModel", name := "allNext", desc := "(III)Z" } : Jvm.MethodName)) ∈ lw_all := lw_g (lw_at lw_m8 218 rfl) rfl
theorem q2030 : (Jvm.Cond.privateMethod ({ cls := "LateAndEarlyModel", name := "allNext", desc := "(III)Z" } : Jvm.MethodName)) ∈ lw_tbl := lw_at lw_m8 219 rfl
theorem q2031 : (Jvm.Cond.instanceMethod ({ cls := "LateAndEarlyModel", name := "allNext", desc := "(III)Z" } : Jvm.MethodName)) ∈ lw_all := lw_g (lw_at lw_m8 220 rfl) rfl
theorem q2032 : (Jvm.Cond.code ({ cls := "LateAndEarlyModel", name := "allNext", desc := "(III)Z" } : Jvm.MethodName) prog_24_method_49_code (5 : Nat) (Option.some Jvm.ClassFile.FieldType.boolean)) ∈ lw_all := lw_g (lw_at lw_m8 221 rfl) rfl
theorem q2033 : (Jvm.Cond.methodLink "LateAndEarlyModel" (334 : Nat) ({ cls := "LateAndEarlyModel", name := "isBold", desc := "(II)Z" } : Jvm.MethodName)) ∈ lw_all := lw_g (lw_at lw_m8 222 rfl) rfl
theorem q2034 : (Jvm.Cond.privateMethod ({ cls := "LateAndEarlyModel", name := "isBold", desc := "(II)Z" } : Jvm.MethodName)) ∈ lw_tbl := lw_at lw_m8 223 rfl
theorem q2035 : (Jvm.Cond.instanceMethod ({ cls := "LateAndEarlyModel", name := "isBold", desc := "(II)Z" } : Jvm.MethodName)) ∈ lw_all := lw_g (lw_at lw_m8 224 rfl) rfl
theorem q2036 : (Jvm.Cond.code ({ cls := "LateAndEarlyModel", name := "isBold", desc := "(II)Z" } : Jvm.MethodName) prog_24_method_40_code (3 : Nat) (Option.some Jvm.ClassFile.FieldType.boolean)) ∈ lw_all := lw_g (lw_at lw_m8 225 rfl) rfl
theorem q2037 : (Jvm.Cond.methodLink "LateAndEarlyModel" (361 : Nat) ({ cls := "LateAndEarlyModel", name := "isSeen", desc := "(I)Z" } : Jvm.MethodName)) ∈ lw_all := lw_g (lw_at lw_m8 226 rfl) rfl
theorem q2038 : (Jvm.Cond.privateMethod ({ cls := "LateAndEarlyModel", name := "isSeen", desc := "(I)Z" } : Jvm.MethodName)) ∈ lw_tbl := lw_at lw_m8 227 rfl
theorem q2039 : (Jvm.Cond.instanceMethod ({ cls := "LateAndEarlyModel", name := "isSeen", desc := "(I)Z" } : Jvm.MethodName)) ∈ lw_all := lw_g (lw_at lw_m8 228 rfl) rfl
theorem q2040 : (Jvm.Cond.code ({ cls := "LateAndEarlyModel", name := "isSeen", desc := "(I)Z" } : Jvm.MethodName) prog_24_method_42_code (2 : Nat) (Option.some Jvm.ClassFile.FieldType.boolean)) ∈ lw_all := lw_g (lw_at lw_m8 229 rfl) rfl
theorem q2041 : (Jvm.Cond.methodLink "LateAndEarlyModel" (364 : Nat) ({ cls := "LateAndEarlyModel", name := "allAhead", desc := "(III)Z" } : Jvm.MethodName)) ∈ lw_all := lw_g (lw_at lw_m8 230 rfl) rfl
theorem q2042 : (Jvm.Cond.privateMethod ({ cls := "LateAndEarlyModel", name := "allAhead", desc := "(III)Z" } : Jvm.MethodName)) ∈ lw_tbl := lw_at lw_m8 231 rfl
theorem q2043 : (Jvm.Cond.instanceMethod ({ cls := "LateAndEarlyModel", name := "allAhead", desc := "(III)Z" } : Jvm.MethodName)) ∈ lw_all := lw_g (lw_at lw_m8 232 rfl) rfl
theorem q2044 : (Jvm.Cond.code ({ cls := "LateAndEarlyModel", name := "allAhead", desc := "(III)Z" } : Jvm.MethodName) prog_24_method_51_code (6 : Nat) (Option.some Jvm.ClassFile.FieldType.boolean)) ∈ lw_all := lw_g (lw_at lw_m8 233 rfl) rfl
theorem q2045 : (Jvm.Cond.methodLink "LateAndEarlyModel" (370 : Nat) ({ cls := "LateAndEarlyModel", name := "leads", desc := "(II)Z" } : Jvm.MethodName)) ∈ lw_all := lw_g (lw_at lw_m8 234 rfl) rfl
theorem q2046 : (Jvm.Cond.privateMethod ({ cls := "LateAndEarlyModel", name := "leads", desc := "(II)Z" } : Jvm.MethodName)) ∈ lw_tbl := lw_at lw_m8 235 rfl
theorem q2047 : (Jvm.Cond.instanceMethod ({ cls := "LateAndEarlyModel", name := "leads", desc := "(II)Z" } : Jvm.MethodName)) ∈ lw_all := lw_g (lw_at lw_m8 236 rfl) rfl
theorem q2048 : (Jvm.Cond.code ({ cls := "LateAndEarlyModel", name := "leads", desc := "(II)Z" } : Jvm.MethodName) prog_24_method_50_code (3 : Nat) (Option.some Jvm.ClassFile.FieldType.boolean)) ∈ lw_all := lw_g (lw_at lw_m8 237 rfl) rfl
theorem q2049 : (Jvm.Cond.methodLink "LateAndEarlyModel" (367 : Nat) ({ cls := "LateAndEarlyModel", name := "isAloneNext", desc := "(II)Z" } : Jvm.MethodName)) ∈ lw_all := lw_g (lw_at lw_m8 238 rfl) rfl
theorem q2050 : (Jvm.Cond.privateMethod ({ cls := "LateAndEarlyModel", name := "isAloneNext", desc := "(II)Z" } : Jvm.MethodName)) ∈ lw_tbl := lw_at lw_m8 239 rfl
theorem q2051 : (Jvm.Cond.instanceMethod ({ cls := "LateAndEarlyModel", name := "isAloneNext", desc := "(II)Z" } : Jvm.MethodName)) ∈ lw_all := lw_g (lw_at lw_m9 0 rfl) rfl
theorem q2052 : (Jvm.Cond.code ({ cls := "LateAndEarlyModel", name := "isAloneNext", desc := "(II)Z" } : Jvm.MethodName) prog_24_method_48_code (3 : Nat) (Option.some Jvm.ClassFile.FieldType.boolean)) ∈ lw_all := lw_g (lw_at lw_m9 1 rfl) rfl
theorem q2053 : (Jvm.Cond.methodLink "LateAndEarlyModel" (351 : Nat) ({ cls := "LateAndEarlyModel", name := "anyAhead", desc := "(II)Z" } : Jvm.MethodName)) ∈ lw_all := lw_g (lw_at lw_m9 2 rfl) rfl
theorem q2054 : (Jvm.Cond.privateMethod ({ cls := "LateAndEarlyModel", name := "anyAhead", desc := "(II)Z" } : Jvm.MethodName)) ∈ lw_tbl := lw_at lw_m9 3 rfl
theorem q2055 : (Jvm.Cond.instanceMethod ({ cls := "LateAndEarlyModel", name := "anyAhead", desc := "(II)Z" } : Jvm.MethodName)) ∈ lw_all := lw_g (lw_at lw_m9 4 rfl) rfl
theorem q2056 : (Jvm.Cond.code ({ cls := "LateAndEarlyModel", name := "anyAhead", desc := "(II)Z" } : Jvm.MethodName) prog_24_method_52_code (4 : Nat) (Option.some Jvm.ClassFile.FieldType.boolean)) ∈ lw_all := lw_g (lw_at lw_m9 5 rfl) rfl
theorem q2057 : (Jvm.Cond.methodLink "LateAndEarlyModel" (316 : Nat) ({ cls := "LateAndEarlyModel", name := "copy", desc := "(I)V" } : Jvm.MethodName)) ∈ lw_all := lw_g (lw_at lw_m9 6 rfl) rfl
theorem q2058 : (Jvm.Cond.privateMethod ({ cls := "LateAndEarlyModel", name := "copy", desc := "(I)V" } : Jvm.MethodName)) ∈ lw_tbl := lw_at lw_m9 7 rfl
theorem q2059 : (Jvm.Cond.instanceMethod ({ cls := "LateAndEarlyModel", name := "copy", desc := "(I)V" } : Jvm.MethodName)) ∈ lw_all := lw_g (lw_at lw_m9 8 rfl) rfl
theorem q2060 : (Jvm.Cond.code ({ cls := "LateAndEarlyModel", name := "copy", desc := "(I)V" } : Jvm.MethodName) prog_24_method_53_code (5 : Nat) (Option.none : Option Jvm.ClassFile.FieldType)) ∈ lw_all := lw_g (lw_at lw_m9 9 rfl) rfl
theorem q2062 : (Jvm.Cond.instanceMethod ({ cls := "LateAndEarlyModel", name := "wrong", desc := "()I" } : Jvm.MethodName)) ∈ lw_all := lw_g (lw_at lw_m9 11 rfl) rfl
theorem q2063 : (Jvm.Cond.selects "LateAndEarlyModel" ({ cls := "LateAndEarlyModel", name := "wrong", desc := "()I" } : Jvm.MethodName) ({ cls := "LateAndEarlyModel", name := "wrong", desc := "()I" } : Jvm.MethodName)) ∈ lw_all := lw_g (lw_at lw_m9 12 rfl) rfl
theorem q2064 : (Jvm.Cond.code ({ cls := "LateAndEarlyModel", name := "wrong", desc := "()I" } : Jvm.MethodName) prog_24_method_54_code (1 : Nat) (Option.some Jvm.ClassFile.FieldType.int)) ∈ lw_all := lw_g (lw_at lw_m9 13 rfl) rfl
theorem q2066 : (Jvm.Cond.instanceMethod ({ cls := "LateAndEarlyModel", name := "about", desc := "(II)I" } : Jvm.MethodName)) ∈ lw_all := lw_g (lw_at lw_m9 15 rfl) rfl
theorem q2067 : (Jvm.Cond.selects "LateAndEarlyModel" ({ cls := "LateAndEarlyModel", name := "about", desc := "(II)I" } : Jvm.MethodName) ({ cls := "LateAndEarlyModel", name := "about", desc := "(II)I" } : Jvm.MethodName)) ∈ lw_all := lw_g (lw_at lw_m9 16 rfl) rfl
theorem q2068 : (Jvm.Cond.code ({ cls := "LateAndEarlyModel", name := "about", desc := "(II)I" } : Jvm.MethodName) prog_24_method_56_code (3 : Nat) (Option.some Jvm.ClassFile.FieldType.int)) ∈ lw_all := lw_g (lw_at lw_m9 17 rfl) rfl
theorem q2069 : (Jvm.Cond.methodLink "LateAndEarlyModel" (373 : Nat) ({ cls := "LateAndEarlyModel", name := "isThere", desc := "(I)Z" } : Jvm.MethodName)) ∈ lw_all := lw_g (lw_at lw_m9 18 rfl) rfl
theorem q2070 : (Jvm.Cond.privateMethod ({ cls := "LateAndEarlyModel", name := "isThere", desc := "(I)Z" } : Jvm.MethodName)) ∈ lw_tbl := lw_at lw_m9 19 rfl
theorem q2071 : (Jvm.Cond.instanceMethod ({ cls := "LateAndEarlyModel", name := "isThere", desc := "(I)Z" } : Jvm.MethodName)) ∈ lw_all := lw_g (lw_at lw_m9 20 rfl) rfl
theorem q2072 : (Jvm.Cond.code ({ cls := "LateAndEarlyModel", name := "isThere", desc := "(I)Z" } : Jvm.MethodName) prog_24_method_55_code (2 : Nat) (Option.some Jvm.ClassFile.FieldType.boolean)) ∈ lw_all := lw_g (lw_at lw_m9 21 rfl) rfl
theorem q2074 : (Jvm.Cond.instanceMethod ({ cls := "LateAndEarlyModel", name := "node", desc := "(III)I" } : Jvm.MethodName)) ∈ lw_all := lw_g (lw_at lw_m9 23 rfl) rfl
theorem q2075 : (Jvm.Cond.selects "LateAndEarlyModel" ({ cls := "LateAndEarlyModel", name := "node", desc := "(III)I" } : Jvm.MethodName) ({ cls := "LateAndEarlyModel", name := "node", desc := "(III)I" } : Jvm.MethodName)) ∈ lw_all := lw_g (lw_at lw_m9 24 rfl) rfl
theorem q2076 : (Jvm.Cond.code ({ cls := "LateAndEarlyModel", name := "node", desc := "(III)I" } : Jvm.MethodName) prog_24_method_57_code (7 : Nat) (Option.some Jvm.ClassFile.FieldType.int)) ∈ lw_all := lw_g (lw_at lw_m9 25 rfl) rfl
theorem q2078 : (Jvm.Cond.instanceMethod ({ cls := "LateAndEarlyModel", name := "sum", desc := "(III)I" } : Jvm.MethodName)) ∈ lw_all := lw_g (lw_at lw_m9 27 rfl) rfl
theorem q2079 : (Jvm.Cond.selects "LateAndEarlyModel" ({ cls := "LateAndEarlyModel", name := "sum", desc := "(III)I" } : Jvm.MethodName) ({ cls := "LateAndEarlyModel", name := "sum", desc := "(III)I" } : Jvm.MethodName)) ∈ lw_all := lw_g (lw_at lw_m9 28 rfl) rfl
theorem q2080 : (Jvm.Cond.code ({ cls := "LateAndEarlyModel", name := "sum", desc := "(III)I" } : Jvm.MethodName) prog_24_method_60_code (7 : Nat) (Option.some Jvm.ClassFile.FieldType.int)) ∈ lw_all := lw_g (lw_at lw_m9 29 rfl) rfl
theorem q2081 : (Jvm.Cond.methodLink "LateAndEarlyModel" (376 : Nat) ({ cls := "LateAndEarlyModel", name := "isSum", desc := "(II)Z" } : Jvm.MethodName)) ∈ lw_all := lw_g (lw_at lw_m9 30 rfl) rfl
theorem q2082 : (Jvm.Cond.privateMethod ({ cls := "LateAndEarlyModel", name := "isSum", desc := "(II)Z" } : Jvm.MethodName)) ∈ lw_tbl := lw_at lw_m9 31 rfl
theorem q2083 : (Jvm.Cond.instanceMethod ({ cls := "LateAndEarlyModel", name := "isSum", desc := "(II)Z" } : Jvm.MethodName)) ∈ lw_all := lw_g (lw_at lw_m9 32 rfl) rfl
theorem q2084 : (Jvm.Cond.code ({ cls := "LateAndEarlyModel", name := "isSum", desc := "(II)Z" } : Jvm.MethodName) prog_24_method_59_code (3 : Nat) (Option.some Jvm.ClassFile.FieldType.boolean)) ∈ lw_all := lw_g (lw_at lw_m9 33 rfl) rfl
theorem q2085 : (Jvm.Cond.methodLink "LateAndEarlyModel" (379 : Nat) ({ cls := "LateAndEarlyModel", name := "coded", desc := "(II)I" } : Jvm.MethodName)) ∈ lw_all := lw_g (lw_at lw_m9 34 rfl) rfl
theorem q2086 : (Jvm.Cond.privateMethod ({ cls := "LateAndEarlyModel", name := "coded", desc := "(II)I" } : Jvm.MethodName)) ∈ lw_tbl := lw_at lw_m9 35 rfl
theorem q2087 : (Jvm.Cond.instanceMethod ({ cls := "LateAndEarlyModel", name := "coded", desc := "(II)I" } : Jvm.MethodName)) ∈ lw_all := lw_g (lw_at lw_m9 36 rfl) rfl
theorem q2088 : (Jvm.Cond.code ({ cls := "LateAndEarlyModel", name := "coded", desc := "(II)I" } : Jvm.MethodName) prog_24_method_58_code (3 : Nat) (Option.some Jvm.ClassFile.FieldType.int)) ∈ lw_all := lw_g (lw_at lw_m9 37 rfl) rfl
theorem q2090 : (Jvm.Cond.instanceMethod ({ cls := "LateAndEarlyModel", name := "at", desc := "(IIII)I" } : Jvm.MethodName)) ∈ lw_all := lw_g (lw_at lw_m9 39 rfl) rfl
theorem q2091 : (Jvm.Cond.selects "LateAndEarlyModel" ({ cls := "LateAndEarlyModel", name := "at", desc := "(IIII)I" } : Jvm.MethodName) ({ cls := "LateAndEarlyModel", name := "at", desc := "(IIII)I" } : Jvm.MethodName)) ∈ lw_all := lw_g (lw_at lw_m9 40 rfl) rfl
theorem q2092 : (Jvm.Cond.code ({ cls := "LateAndEarlyModel", name := "at", desc := "(IIII)I" } : Jvm.MethodName) prog_24_method_61_code (5 : Nat) (Option.some Jvm.ClassFile.FieldType.int)) ∈ lw_all := lw_g (lw_at lw_m9 41 rfl) rfl
theorem q2094 : (Jvm.Cond.instanceMethod ({ cls := "LateAndEarlyModel", name := "placed", desc := "(IIIII)I" } : Jvm.MethodName)) ∈ lw_all := lw_g (lw_at lw_m9 43 rfl) rfl
theorem q2095 : (Jvm.Cond.selects "LateAndEarlyModel" ({ cls := "LateAndEarlyModel", name := "placed", desc := "(IIIII)I" } : Jvm.MethodName) ({ cls := "LateAndEarlyModel", name := "placed", desc := "(IIIII)I" } : Jvm.MethodName)) ∈ lw_all := lw_g (lw_at lw_m9 44 rfl) rfl
theorem q2096 : (Jvm.Cond.code ({ cls := "LateAndEarlyModel", name := "placed", desc := "(IIIII)I" } : Jvm.MethodName) prog_24_method_66_code (6 : Nat) (Option.some Jvm.ClassFile.FieldType.int)) ∈ lw_all := lw_g (lw_at lw_m9 45 rfl) rfl
theorem q2097 : (Jvm.Cond.methodLink "LateAndEarlyModel" (388 : Nat) ({ cls := "LateAndEarlyModel", name := "isPlacing", desc := "(I)Z" } : Jvm.MethodName)) ∈ lw_all := lw_g (lw_at lw_m9 46 rfl) rfl
theorem q2098 : (Jvm.Cond.privateMethod ({ cls := "LateAndEarlyModel", name := "isPlacing", desc := "(I)Z" } : Jvm.MethodName)) ∈ lw_tbl := lw_at lw_m9 47 rfl
theorem q2099 : (Jvm.Cond.instanceMethod ({ cls := "LateAndEarlyModel", name := "isPlacing", desc := "(I)Z" } : Jvm.MethodName)) ∈ lw_all := lw_g (lw_at lw_m9 48 rfl) rfl
theorem q2100 : (Jvm.Cond.code ({ cls := "LateAndEarlyModel", name := "isPlacing", desc := "(I)Z" } : Jvm.MethodName) prog_24_method_65_code (2 : Nat) (Option.some Jvm.ClassFile.FieldType.boolean)) ∈ lw_all := lw_g (lw_at lw_m9 49 rfl) rfl
theorem q2101 : (Jvm.Cond.methodLink "LateAndEarlyModel" (382 : Nat) ({ cls := "LateAndEarlyModel", name := "isSet", desc := "(IIII)Z" } : Jvm.MethodName)) ∈ lw_all := lw_g (lw_at lw_m9 50 rfl) rfl
theorem q2102 : (Jvm.Cond.privateMethod ({ cls := "LateAndEarlyModel", name := "isSet", desc := "(IIII)Z" } : Jvm.MethodName)) ∈ lw_tbl := lw_at lw_m9 51 rfl
theorem q2103 : (Jvm.Cond.instanceMethod ({ cls := "LateAndEarlyModel", name := "isSet", desc := "(IIII)Z" } : Jvm.MethodName)) ∈ lw_all := lw_g (lw_at lw_m9 52 rfl) rfl
theorem q2104 : (Jvm.Cond.code ({ cls := "LateAndEarlyModel", name := "isSet", desc := "(IIII)Z" } : Jvm.MethodName) prog_24_method_62_code (6 : Nat) (Option.some Jvm.ClassFile.FieldType.boolean)) ∈ lw_all := lw_g (lw_at lw_m9 53 rfl) rfl
theorem q2105 : (Jvm.Cond.methodLink "LateAndEarlyModel" (385 : Nat) ({ cls := "LateAndEarlyModel", name := "isTaken", desc := "(IIII)Z" } : Jvm.MethodName)) ∈ lw_all := lw_g (lw_at lw_m9 54 rfl) rfl
theorem q2106 : (Jvm.Cond.privateMethod ({ cls := "LateAndEarlyModel", name := "isTaken", desc := "(IIII)Z" } : Jvm.MethodName)) ∈ lw_tbl := lw_at lw_m9 55 rfl
theorem q2107 : (Jvm.Cond.instanceMethod ({ cls := "LateAndEarlyModel", name := "isTaken", desc := "(IIII)Z" } : Jvm.MethodName)) ∈ lw_all := lw_g (lw_at lw_m9 56 rfl) rfl
theorem q2108 : (Jvm.Cond.code ({ cls := "LateAndEarlyModel", name := "isTaken", desc := "(IIII)Z" } : Jvm.MethodName) prog_24_method_63_code (6 : Nat) (Option.some Jvm.ClassFile.FieldType.boolean)) ∈ lw_all := lw_g (lw_at lw_m9 57 rfl) rfl
theorem q2109 : (Jvm.Cond.methodLink "LateAndEarlyModel" (391 : Nat) ({ cls := "LateAndEarlyModel", name := "live", desc := "(III)V" } : Jvm.MethodName)) ∈ lw_all := lw_g (lw_at lw_m9 58 rfl) rfl
theorem q2110 : (Jvm.Cond.privateMethod ({ cls := "LateAndEarlyModel", name := "live", desc := "(III)V" } : Jvm.MethodName)) ∈ lw_tbl := lw_at lw_m9 59 rfl
theorem q2111 : (Jvm.Cond.instanceMethod ({ cls := "LateAndEarlyModel", name := "live", desc := "(III)V" } : Jvm.MethodName)) ∈ lw_all := lw_g (lw_at lw_m9 60 rfl) rfl
theorem q2112 : (Jvm.Cond.code ({ cls := "LateAndEarlyModel", name := "live", desc := "(III)V" } : Jvm.MethodName) prog_24_method_64_code (8 : Nat) (Option.none : Option Jvm.ClassFile.FieldType)) ∈ lw_all := lw_g (lw_at lw_m9 61 rfl) rfl
theorem q2114 : (Jvm.Cond.instanceMethod ({ cls := "LateAndEarlyModel", name := "life", desc := "(III)I" } : Jvm.MethodName)) ∈ lw_all := lw_g (lw_at lw_m9 63 rfl) rfl
theorem q2115 : (Jvm.Cond.selects "LateAndEarlyModel" ({ cls := "LateAndEarlyModel", name := "life", desc := "(III)I" } : Jvm.MethodName) ({ cls := "LateAndEarlyModel", name := "life", desc := "(III)I" } : Jvm.MethodName)) ∈ lw_all := lw_g (lw_at lw_m9 64 rfl) rfl
theorem q2116 : (Jvm.Cond.code ({ cls := "LateAndEarlyModel", name := "life", desc := "(III)I" } : Jvm.MethodName) prog_24_method_67_code (6 : Nat) (Option.some Jvm.ClassFile.FieldType.int)) ∈ lw_all := lw_g (lw_at lw_m9 65 rfl) rfl
theorem q2118 : (Jvm.Cond.instanceMethod ({ cls := "LateAndEarlyModel", name := "places", desc := "(IIII)I" } : Jvm.MethodName)) ∈ lw_all := lw_g (lw_at lw_m9 67 rfl) rfl
theorem q2119 : (Jvm.Cond.selects "LateAndEarlyModel" ({ cls := "LateAndEarlyModel", name := "places", desc := "(IIII)I" } : Jvm.MethodName) ({ cls := "LateAndEarlyModel", name := "places", desc := "(IIII)I" } : Jvm.MethodName)) ∈ lw_all := lw_g (lw_at lw_m9 68 rfl) rfl
theorem q2120 : (Jvm.Cond.code ({ cls := "LateAndEarlyModel", name := "places", desc := "(IIII)I" } : Jvm.MethodName) prog_24_method_68_code (7 : Nat) (Option.some Jvm.ClassFile.FieldType.int)) ∈ lw_all := lw_g (lw_at lw_m9 69 rfl) rfl
theorem q2122 : (Jvm.Cond.instanceMethod ({ cls := "LateAndEarlyModel", name := "name", desc := "(II)I" } : Jvm.MethodName)) ∈ lw_all := lw_g (lw_at lw_m9 71 rfl) rfl
theorem q2123 : (Jvm.Cond.selects "LateAndEarlyModel" ({ cls := "LateAndEarlyModel", name := "name", desc := "(II)I" } : Jvm.MethodName) ({ cls := "LateAndEarlyModel", name := "name", desc := "(II)I" } : Jvm.MethodName)) ∈ lw_all := lw_g (lw_at lw_m9 72 rfl) rfl
theorem q2124 : (Jvm.Cond.code ({ cls := "LateAndEarlyModel", name := "name", desc := "(II)I" } : Jvm.MethodName) prog_24_method_69_code (4 : Nat) (Option.some Jvm.ClassFile.FieldType.int)) ∈ lw_all := lw_g (lw_at lw_m9 73 rfl) rfl
theorem q2126 : (Jvm.Cond.instanceMethod ({ cls := "LateAndEarlyModel", name := "run", desc := "(II)I" } : Jvm.MethodName)) ∈ lw_all := lw_g (lw_at lw_m9 75 rfl) rfl
theorem q2127 : (Jvm.Cond.selects "LateAndEarlyModel" ({ cls := "LateAndEarlyModel", name := "run", desc := "(II)I" } : Jvm.MethodName) ({ cls := "LateAndEarlyModel", name := "run", desc := "(II)I" } : Jvm.MethodName)) ∈ lw_all := lw_g (lw_at lw_m9 76 rfl) rfl
theorem q2128 : (Jvm.Cond.code ({ cls := "LateAndEarlyModel", name := "run", desc := "(II)I" } : Jvm.MethodName) prog_24_method_72_code (5 : Nat) (Option.some Jvm.ClassFile.FieldType.int)) ∈ lw_all := lw_g (lw_at lw_m9 77 rfl) rfl
theorem q2129 : (Jvm.Cond.methodLink "LateAndEarlyModel" (398 : Nat) ({ cls := "LateAndEarlyModel", name := "step", desc := "(IIII)I" } : Jvm.MethodName)) ∈ lw_all := lw_g (lw_at lw_m9 78 rfl) rfl
theorem q2130 : (Jvm.Cond.privateMethod ({ cls := "LateAndEarlyModel", name := "step", desc := "(IIII)I" } : Jvm.MethodName)) ∈ lw_tbl := lw_at lw_m9 79 rfl
theorem q2131 : (Jvm.Cond.instanceMethod ({ cls := "LateAndEarlyModel", name := "step", desc := "(IIII)I" } : Jvm.MethodName)) ∈ lw_all := lw_g (lw_at lw_m9 80 rfl) rfl
theorem q2132 : (Jvm.Cond.code ({ cls := "LateAndEarlyModel", name := "step", desc := "(IIII)I" } : Jvm.MethodName) prog_24_method_73_code (8 : Nat) (Option.some Jvm.ClassFile.FieldType.int)) ∈ lw_all := lw_g (lw_at lw_m9 81 rfl) rfl
theorem q2133 : (Jvm.Cond.methodLink "LateAndEarlyModel" (402 : Nat) ({ cls := "LateAndEarlyModel", name := "work", desc := "(II)I" } : Jvm.MethodName)) ∈ lw_all := lw_g (lw_at lw_m9 82 rfl) rfl
theorem q2134 : (Jvm.Cond.privateMethod ({ cls := "LateAndEarlyModel", name := "work", desc := "(II)I" } : Jvm.MethodName)) ∈ lw_tbl := lw_at lw_m9 83 rfl
theorem q2135 : (Jvm.Cond.instanceMethod ({ cls := "LateAndEarlyModel", name := "work", desc := "(II)I" } : Jvm.MethodName)) ∈ lw_all := lw_g (lw_at lw_m9 84 rfl) rfl
theorem q2136 : (Jvm.Cond.code ({ cls := "LateAndEarlyModel", name := "work", desc := "(II)I" } : Jvm.MethodName) prog_24_method_71_code (6 : Nat) (Option.some Jvm.ClassFile.FieldType.int)) ∈ lw_all := lw_g (lw_at lw_m9 85 rfl) rfl
theorem q2137 : (Jvm.Cond.methodLink "LateAndEarlyModel" (395 : Nat) ({ cls := "LateAndEarlyModel", name := "of", desc := "(II)I" } : Jvm.MethodName)) ∈ lw_all := lw_g (lw_at lw_m9 86 rfl) rfl
theorem q2138 : (Jvm.Cond.privateMethod ({ cls := "LateAndEarlyModel", name := "of", desc := "(II)I" } : Jvm.MethodName)) ∈ lw_tbl := lw_at lw_m9 87 rfl
theorem q2139 : (Jvm.Cond.instanceMethod ({ cls := "LateAndEarlyModel", name := "of", desc := "(II)I" } : Jvm.MethodName)) ∈ lw_all := lw_g (lw_at lw_m9 88 rfl) rfl
theorem q2140 : (Jvm.Cond.code ({ cls := "LateAndEarlyModel", name := "of", desc := "(II)I" } : Jvm.MethodName) prog_24_method_70_code (3 : Nat) (Option.some Jvm.ClassFile.FieldType.int)) ∈ lw_all := lw_g (lw_at lw_m9 89 rfl) rfl
theorem q2142 : (Jvm.Cond.instanceMethod ({ cls := "LateAndEarlyModel", name := "ran", desc := "(I)I" } : Jvm.MethodName)) ∈ lw_all := lw_g (lw_at lw_m9 91 rfl) rfl
theorem q2143 : (Jvm.Cond.selects "LateAndEarlyModel" ({ cls := "LateAndEarlyModel", name := "ran", desc := "(I)I" } : Jvm.MethodName) ({ cls := "LateAndEarlyModel", name := "ran", desc := "(I)I" } : Jvm.MethodName)) ∈ lw_all := lw_g (lw_at lw_m9 92 rfl) rfl
theorem q2144 : (Jvm.Cond.code ({ cls := "LateAndEarlyModel", name := "ran", desc := "(I)I" } : Jvm.MethodName) prog_24_method_74_code (2 : Nat) (Option.some Jvm.ClassFile.FieldType.int)) ∈ lw_all := lw_g (lw_at lw_m9 93 rfl) rfl
theorem q2146 : (Jvm.Cond.instanceMethod ({ cls := "LateAndEarlyModel", name := "told", desc := "(I)I" } : Jvm.MethodName)) ∈ lw_all := lw_g (lw_at lw_m9 95 rfl) rfl
theorem q2147 : (Jvm.Cond.selects "LateAndEarlyModel" ({ cls := "LateAndEarlyModel", name := "told", desc := "(I)I" } : Jvm.MethodName) ({ cls := "LateAndEarlyModel", name := "told", desc := "(I)I" } : Jvm.MethodName)) ∈ lw_all := lw_g (lw_at lw_m9 96 rfl) rfl
theorem q2148 : (Jvm.Cond.code ({ cls := "LateAndEarlyModel", name := "told", desc := "(I)I" } : Jvm.MethodName) prog_24_method_75_code (2 : Nat) (Option.some Jvm.ClassFile.FieldType.int)) ∈ lw_all := lw_g (lw_at lw_m9 97 rfl) rfl
theorem q2150 : (Jvm.Cond.instanceMethod ({ cls := "LateAndEarlyModel", name := "value", desc := "(I)I" } : Jvm.MethodName)) ∈ lw_all := lw_g (lw_at lw_m9 99 rfl) rfl
theorem q2151 : (Jvm.Cond.selects "LateAndEarlyModel" ({ cls := "LateAndEarlyModel", name := "value", desc := "(I)I" } : Jvm.MethodName) ({ cls := "LateAndEarlyModel", name := "value", desc := "(I)I" } : Jvm.MethodName)) ∈ lw_all := lw_g (lw_at lw_m9 100 rfl) rfl
theorem q2152 : (Jvm.Cond.code ({ cls := "LateAndEarlyModel", name := "value", desc := "(I)I" } : Jvm.MethodName) prog_24_method_76_code (2 : Nat) (Option.some Jvm.ClassFile.FieldType.int)) ∈ lw_all := lw_g (lw_at lw_m9 101 rfl) rfl
theorem q2154 : (Jvm.Cond.instanceMethod ({ cls := "LateAndEarlyModel", name := "row", desc := "(II)I" } : Jvm.MethodName)) ∈ lw_all := lw_g (lw_at lw_m9 103 rfl) rfl
theorem q2155 : (Jvm.Cond.selects "LateAndEarlyModel" ({ cls := "LateAndEarlyModel", name := "row", desc := "(II)I" } : Jvm.MethodName) ({ cls := "LateAndEarlyModel", name := "row", desc := "(II)I" } : Jvm.MethodName)) ∈ lw_all := lw_g (lw_at lw_m9 104 rfl) rfl
theorem q2156 : (Jvm.Cond.code ({ cls := "LateAndEarlyModel", name := "row", desc := "(II)I" } : Jvm.MethodName) prog_24_method_77_code (3 : Nat) (Option.some Jvm.ClassFile.FieldType.int)) ∈ lw_all := lw_g (lw_at lw_m9 105 rfl) rfl
theorem q2158 : (Jvm.Cond.instanceMethod ({ cls := "LateAndEarlyModel", name := "worked", desc := "(I)I" } : Jvm.MethodName)) ∈ lw_all := lw_g (lw_at lw_m9 107 rfl) rfl
theorem q2159 : (Jvm.Cond.selects "LateAndEarlyModel" ({ cls := "LateAndEarlyModel", name := "worked", desc := "(I)I" } : Jvm.MethodName) ({ cls := "LateAndEarlyModel", name := "worked", desc := "(I)I" } : Jvm.MethodName)) ∈ lw_all := lw_g (lw_at lw_m9 108 rfl) rfl
theorem q2160 : (Jvm.Cond.code ({ cls := "LateAndEarlyModel", name := "worked", desc := "(I)I" } : Jvm.MethodName) prog_24_method_78_code (2 : Nat) (Option.some Jvm.ClassFile.FieldType.int)) ∈ lw_all := lw_g (lw_at lw_m9 109 rfl) rfl
theorem q2162 : (Jvm.Cond.instanceMethod ({ cls := "LateAndEarlyModel", name := "step", desc := "(II)I" } : Jvm.MethodName)) ∈ lw_all := lw_g (lw_at lw_m9 111 rfl) rfl
theorem q2163 : (Jvm.Cond.selects "LateAndEarlyModel" ({ cls := "LateAndEarlyModel", name := "step", desc := "(II)I" } : Jvm.MethodName) ({ cls := "LateAndEarlyModel", name := "step", desc := "(II)I" } : Jvm.MethodName)) ∈ lw_all := lw_g (lw_at lw_m9 112 rfl) rfl
theorem q2164 : (Jvm.Cond.code ({ cls := "LateAndEarlyModel", name := "step", desc := "(II)I" } : Jvm.MethodName) prog_24_method_81_code (5 : Nat) (Option.some Jvm.ClassFile.FieldType.int)) ∈ lw_all := lw_g (lw_at lw_m9 113 rfl) rfl
theorem q2165 : (Jvm.Cond.methodLink "LateAndEarlyModel" (405 : Nat) ({ cls := "LateAndEarlyModel", name := "end", desc := "(II)I" } : Jvm.MethodName)) ∈ lw_all := lw_g (lw_at lw_m9 114 rfl) rfl
theorem q2166 : (Jvm.Cond.privateMethod ({ cls := "LateAndEarlyModel", name := "end", desc := "(II)I" } : Jvm.MethodName)) ∈ lw_tbl := lw_at lw_m9 115 rfl
theorem q2167 : (Jvm.Cond.instanceMethod ({ cls := "LateAndEarlyModel", name := "end", desc := "(II)I" } : Jvm.MethodName)) ∈ lw_all := lw_g (lw_at lw_m9 116 rfl) rfl
theorem q2168 : (Jvm.Cond.code ({ cls := "LateAndEarlyModel", name := "end", desc := "(II)I" } : Jvm.MethodName) prog_24_method_79_code (3 : Nat) (Option.some Jvm.ClassFile.FieldType.int)) ∈ lw_all := lw_g (lw_at lw_m9 117 rfl) rfl
theorem q2169 : (Jvm.Cond.methodLink "LateAndEarlyModel" (408 : Nat) ({ cls := "LateAndEarlyModel", name := "passes", desc := "(III)I" } : Jvm.MethodName)) ∈ lw_all := lw_g (lw_at lw_m9 118 rfl) rfl
theorem q2170 : (Jvm.Cond.privateMethod ({ cls := "LateAndEarlyModel", name := "passes", desc := "(III)I" } : Jvm.MethodName)) ∈ lw_tbl := lw_at lw_m9 119 rfl
theorem q2171 : (Jvm.Cond.instanceMethod ({ cls := "LateAndEarlyModel", name := "passes", desc := "(III)I" } : Jvm.MethodName)) ∈ lw_all := lw_g (lw_at lw_m9 120 rfl) rfl
theorem q2172 : (Jvm.Cond.code ({ cls := "LateAndEarlyModel", name := "passes", desc := "(III)I" } : Jvm.MethodName) prog_24_method_80_code (6 : Nat) (Option.some Jvm.ClassFile.FieldType.int)) ∈ lw_all := lw_g (lw_at lw_m9 121 rfl) rfl
theorem q2174 : (Jvm.Cond.instanceMethod ({ cls := "LateAndEarlyModel", name := "home", desc := "(I)I" } : Jvm.MethodName)) ∈ lw_all := lw_g (lw_at lw_m9 123 rfl) rfl
theorem q2175 : (Jvm.Cond.selects "LateAndEarlyModel" ({ cls := "LateAndEarlyModel", name := "home", desc := "(I)I" } : Jvm.MethodName) ({ cls := "LateAndEarlyModel", name := "home", desc := "(I)I" } : Jvm.MethodName)) ∈ lw_all := lw_g (lw_at lw_m9 124 rfl) rfl
theorem q2176 : (Jvm.Cond.code ({ cls := "LateAndEarlyModel", name := "home", desc := "(I)I" } : Jvm.MethodName) prog_24_method_82_code (3 : Nat) (Option.some Jvm.ClassFile.FieldType.int)) ∈ lw_all := lw_g (lw_at lw_m9 125 rfl) rfl
theorem q2178 : (Jvm.Cond.instanceMethod ({ cls := "LateAndEarlyModel", name := "works", desc := "(III)I" } : Jvm.MethodName)) ∈ lw_all := lw_g (lw_at lw_m9 127 rfl) rfl
theorem q2179 : (Jvm.Cond.selects "LateAndEarlyModel" ({ cls := "LateAndEarlyModel", name := "works", desc := "(III)I" } : Jvm.MethodName) ({ cls := "LateAndEarlyModel", name := "works", desc := "(III)I" } : Jvm.MethodName)) ∈ lw_all := lw_g (lw_at lw_m9 128 rfl) rfl
theorem q2180 : (Jvm.Cond.code ({ cls := "LateAndEarlyModel", name := "works", desc := "(III)I" } : Jvm.MethodName) prog_24_method_84_code (9 : Nat) (Option.some Jvm.ClassFile.FieldType.int)) ∈ lw_all := lw_g (lw_at lw_m9 129 rfl) rfl
theorem q2181 : (Jvm.Cond.methodLink "LateAndEarlyModel" (412 : Nat) ({ cls := "LateAndEarlyModel", name := "worksAt", desc := "(IIII)I" } : Jvm.MethodName)) ∈ lw_all := lw_g (lw_at lw_m9 130 rfl) rfl
theorem q2182 : (Jvm.Cond.privateMethod ({ cls := "LateAndEarlyModel", name := "worksAt", desc := "(IIII)I" } : Jvm.MethodName)) ∈ lw_tbl := lw_at lw_m9 131 rfl
theorem q2183 : (Jvm.Cond.instanceMethod ({ cls := "LateAndEarlyModel", name := "worksAt", desc := "(IIII)I" } : Jvm.MethodName)) ∈ lw_all := lw_g (lw_at lw_m9 132 rfl) rfl
theorem q2184 : (Jvm.Cond.code ({ cls := "LateAndEarlyModel", name := "worksAt", desc := "(IIII)I" } : Jvm.MethodName) prog_24_method_83_code (5 : Nat) (Option.some Jvm.ClassFile.FieldType.int)) ∈ lw_all := lw_g (lw_at lw_m9 133 rfl) rfl
theorem q2186 : (Jvm.Cond.instanceMethod ({ cls := "LateAndEarlyModel", name := "write", desc := "(II)I" } : Jvm.MethodName)) ∈ lw_all := lw_g (lw_at lw_m9 135 rfl) rfl
theorem q2187 : (Jvm.Cond.selects "LateAndEarlyModel" ({ cls := "LateAndEarlyModel", name := "write", desc := "(II)I" } : Jvm.MethodName) ({ cls := "LateAndEarlyModel", name := "write", desc := "(II)I" } : Jvm.MethodName)) ∈ lw_all := lw_g (lw_at lw_m9 136 rfl) rfl
theorem q2188 : (Jvm.Cond.code ({ cls := "LateAndEarlyModel", name := "write", desc := "(II)I" } : Jvm.MethodName) prog_24_method_102_code (6 : Nat) (Option.some Jvm.ClassFile.FieldType.int)) ∈ lw_all := lw_g (lw_at lw_m9 137 rfl) rfl
theorem q2189 : (Jvm.Cond.methodLink "LateAndEarlyModel" (451 : Nat) ({ cls := "LateAndEarlyModel", name := "hasT", desc := "(I)Z" } : Jvm.MethodName)) ∈ lw_all := lw_g (lw_at lw_m9 138 rfl) rfl
theorem q2190 : (Jvm.Cond.privateMethod ({ cls := "LateAndEarlyModel", name := "hasT", desc := "(I)Z" } : Jvm.MethodName)) ∈ lw_tbl := lw_at lw_m9 139 rfl
theorem q2191 : (Jvm.Cond.instanceMethod ({ cls := "LateAndEarlyModel", name := "hasT", desc := "(I)Z" } : Jvm.MethodName)) ∈ lw_all := lw_g (lw_at lw_m9 140 rfl) rfl
theorem q2192 : (Jvm.Cond.code ({ cls := "LateAndEarlyModel", name := "hasT", desc := "(I)Z" } : Jvm.MethodName) prog_24_method_101_code (6 : Nat) (Option.some Jvm.ClassFile.FieldType.boolean)) ∈ lw_all := lw_g (lw_at lw_m9 141 rfl) rfl
theorem q2193 : (Jvm.Cond.methodLink "LateAndEarlyModel" (454 : Nat) ({ cls := "LateAndEarlyModel", name := "sets", desc := "(III)Z" } : Jvm.MethodName)) ∈ lw_all := lw_g (lw_at lw_m9 142 rfl) rfl
theorem q2194 : (Jvm.Cond.privateMethod ({ cls := "LateAndEarlyModel", name := "sets", desc := "(III)Z" } : Jvm.MethodName)) ∈ lw_tbl := lw_at lw_m9 143 rfl
theorem q2195 : (Jvm.Cond.instanceMethod ({ cls := "LateAndEarlyModel", name := "sets", desc := "(III)Z" } : Jvm.MethodName)) ∈ lw_all := lw_g (lw_at lw_m9 144 rfl) rfl
theorem q2196 : (Jvm.Cond.code ({ cls := "LateAndEarlyModel", name := "sets", desc := "(III)Z" } : Jvm.MethodName) prog_24_method_96_code (6 : Nat) (Option.some Jvm.ClassFile.FieldType.boolean)) ∈ lw_all := lw_g (lw_at lw_m9 145 rfl) rfl
theorem q2197 : (Jvm.Cond.methodLink "LateAndEarlyModel" (457 : Nat) ({ cls := "LateAndEarlyModel", name := "head", desc := "(I)V" } : Jvm.MethodName)) ∈ lw_all := lw_g (lw_at lw_m9 146 rfl) rfl
theorem q2198 : (Jvm.Cond.privateMethod ({ cls := "LateAndEarlyModel", name := "head", desc := "(I)V" } : Jvm.MethodName)) ∈ lw_tbl := lw_at lw_m9 147 rfl
theorem q2199 : (Jvm.Cond.instanceMethod ({ cls := "LateAndEarlyModel", name := "head", desc := "(I)V" } : Jvm.MethodName)) ∈ lw_all := lw_g (lw_at lw_m9 148 rfl) rfl
theorem q2200 : (Jvm.Cond.code ({ cls := "LateAndEarlyModel", name := "head", desc := "(I)V" } : Jvm.MethodName) prog_24_method_94_code (2 : Nat) (Option.none : Option Jvm.ClassFile.FieldType)) ∈ lw_all := lw_g (lw_at lw_m9 149 rfl) rfl
theorem q2201 : (Jvm.Cond.methodLink "LateAndEarlyModel" (429 : Nat) ({ cls := "LateAndEarlyModel", name := "sayBlock", desc := "(I)V" } : Jvm.MethodName)) ∈ lw_all := lw_g (lw_at lw_m9 150 rfl) rfl
theorem q2202 : (Jvm.Cond.privateMethod ({ cls := "LateAndEarlyModel", name := "sayBlock", desc := "(I)V" } : Jvm.MethodName)) ∈ lw_tbl := lw_at lw_m9 151 rfl
theorem q2203 : (Jvm.Cond.instanceMethod ({ cls := "LateAndEarlyModel", name := "sayBlock", desc := "(I)V" } : Jvm.MethodName)) ∈ lw_all := lw_g (lw_at lw_m9 152 rfl) rfl
theorem q2204 : (Jvm.Cond.code ({ cls := "LateAndEarlyModel", name := "sayBlock", desc := "(I)V" } : Jvm.MethodName) prog_24_method_93_code (2 : Nat) (Option.none : Option Jvm.ClassFile.FieldType)) ∈ lw_all := lw_g (lw_at lw_m9 153 rfl) rfl
theorem q2205 : (Jvm.Cond.methodLink "LateAndEarlyModel" (415 : Nat) ({ cls := "LateAndEarlyModel", name := "say", desc := "(I)V" } : Jvm.MethodName)) ∈ lw_all := lw_g (lw_at lw_m9 154 rfl) rfl
theorem q2206 : (Jvm.Cond.privateMethod ({ cls := "LateAndEarlyModel", name := "say", desc := "(I)V" } : Jvm.MethodName)) ∈ lw_tbl := lw_at lw_m9 155 rfl
theorem q2207 : (Jvm.Cond.instanceMethod ({ cls := "LateAndEarlyModel", name := "say", desc := "(I)V" } : Jvm.MethodName)) ∈ lw_all := lw_g (lw_at lw_m9 156 rfl) rfl
theorem q2208 : (Jvm.Cond.code ({ cls := "LateAndEarlyModel", name := "say", desc := "(I)V" } : Jvm.MethodName) prog_24_method_85_code (2 : Nat) (Option.none : Option Jvm.ClassFile.FieldType)) ∈ lw_all := lw_g (lw_at lw_m9 157 rfl) rfl
theorem q2209 : (Jvm.Cond.methodLink "LateAndEarlyModel" (420 : Nat) ({ cls := "LateAndEarlyModel", name := "sayNumber", desc := "(I)V" } : Jvm.MethodName)) ∈ lw_all := lw_g (lw_at lw_m9 158 rfl) rfl
theorem q2210 : (Jvm.Cond.privateMethod ({ cls := "LateAndEarlyModel", name := "sayNumber", desc := "(I)V" } : Jvm.MethodName)) ∈ lw_tbl := lw_at lw_m9 159 rfl
theorem q2211 : (Jvm.Cond.instanceMethod ({ cls := "LateAndEarlyModel", name := "sayNumber", desc := "(I)V" } : Jvm.MethodName)) ∈ lw_all := lw_g (lw_at lw_m9 160 rfl) rfl
theorem q2212 : (Jvm.Cond.code ({ cls := "LateAndEarlyModel", name := "sayNumber", desc := "(I)V" } : Jvm.MethodName) prog_24_method_86_code (6 : Nat) (Option.none : Option Jvm.ClassFile.FieldType)) ∈ lw_all := lw_g (lw_at lw_m9 161 rfl) rfl
theorem q2213 : (Jvm.Cond.constantLong "LateAndEarlyModel" (418 : Nat) (9 : Int64)) ∈ lw_all := lw_g (lw_at lw_m9 162 rfl) rfl
theorem q2214 : (Jvm.Cond.methodLink "LateAndEarlyModel" (460 : Nat) ({ cls := "LateAndEarlyModel", name := "saySets", desc := "(III)V" } : Jvm.MethodName)) ∈ lw_all := lw_g (lw_at lw_m9 163 rfl) rfl
theorem q2215 : (Jvm.Cond.privateMethod ({ cls := "LateAndEarlyModel", name := "saySets", desc := "(III)V" } : Jvm.MethodName)) ∈ lw_tbl := lw_at lw_m9 164 rfl
theorem q2216 : (Jvm.Cond.instanceMethod ({ cls := "LateAndEarlyModel", name := "saySets", desc := "(III)V" } : Jvm.MethodName)) ∈ lw_all := lw_g (lw_at lw_m9 165 rfl) rfl
theorem q2217 : (Jvm.Cond.code ({ cls := "LateAndEarlyModel", name := "saySets", desc := "(III)V" } : Jvm.MethodName) prog_24_method_97_code (5 : Nat) (Option.none : Option Jvm.ClassFile.FieldType)) ∈ lw_all := lw_g (lw_at lw_m9 166 rfl) rfl
theorem q2218 : (Jvm.Cond.methodLink "LateAndEarlyModel" (432 : Nat) ({ cls := "LateAndEarlyModel", name := "begin", desc := "()V" } : Jvm.MethodName)) ∈ lw_all := lw_g (lw_at lw_m9 167 rfl) rfl
theorem q2219 : (Jvm.Cond.privateMethod ({ cls := "LateAndEarlyModel", name := "begin", desc := "()V" } : Jvm.MethodName)) ∈ lw_tbl := lw_at lw_m9 168 rfl
theorem q2220 : (Jvm.Cond.instanceMethod ({ cls := "LateAndEarlyModel", name := "begin", desc := "()V" } : Jvm.MethodName)) ∈ lw_all := lw_g (lw_at lw_m9 169 rfl) rfl
theorem q2221 : (Jvm.Cond.code ({ cls := "LateAndEarlyModel", name := "begin", desc := "()V" } : Jvm.MethodName) prog_24_method_90_code (1 : Nat) (Option.none : Option Jvm.ClassFile.FieldType)) ∈ lw_all := lw_g (lw_at lw_m9 170 rfl) rfl
theorem q2222 : (Jvm.Cond.methodLink "LateAndEarlyModel" (435 : Nat) ({ cls := "LateAndEarlyModel", name := "sayT", desc := "(I)V" } : Jvm.MethodName)) ∈ lw_all := lw_g (lw_at lw_m9 171 rfl) rfl
theorem q2223 : (Jvm.Cond.privateMethod ({ cls := "LateAndEarlyModel", name := "sayT", desc := "(I)V" } : Jvm.MethodName)) ∈ lw_tbl := lw_at lw_m9 172 rfl
theorem q2224 : (Jvm.Cond.instanceMethod ({ cls := "LateAndEarlyModel", name := "sayT", desc := "(I)V" } : Jvm.MethodName)) ∈ lw_all := lw_g (lw_at lw_m9 173 rfl) rfl
theorem q2225 : (Jvm.Cond.code ({ cls := "LateAndEarlyModel", name := "sayT", desc := "(I)V" } : Jvm.MethodName) prog_24_method_95_code (2 : Nat) (Option.none : Option Jvm.ClassFile.FieldType)) ∈ lw_all := lw_g (lw_at lw_m9 174 rfl) rfl
theorem q2226 : (Jvm.Cond.methodLink "LateAndEarlyModel" (438 : Nat) ({ cls := "LateAndEarlyModel", name := "is", desc := "()V" } : Jvm.MethodName)) ∈ lw_all := lw_g (lw_at lw_m9 175 rfl) rfl
theorem q2227 : (Jvm.Cond.privateMethod ({ cls := "LateAndEarlyModel", name := "is", desc := "()V" } : Jvm.MethodName)) ∈ lw_tbl := lw_at lw_m9 176 rfl
theorem q2228 : (Jvm.Cond.instanceMethod ({ cls := "LateAndEarlyModel", name := "is", desc := "()V" } : Jvm.MethodName)) ∈ lw_all := lw_g (lw_at lw_m9 177 rfl) rfl
theorem q2229 : (Jvm.Cond.code ({ cls := "LateAndEarlyModel", name := "is", desc := "()V" } : Jvm.MethodName) prog_24_method_92_code (1 : Nat) (Option.none : Option Jvm.ClassFile.FieldType)) ∈ lw_all := lw_g (lw_at lw_m9 178 rfl) rfl
theorem q2230 : (Jvm.Cond.methodLink "LateAndEarlyModel" (440 : Nat) ({ cls := "LateAndEarlyModel", name := "saySum", desc := "(II)V" } : Jvm.MethodName)) ∈ lw_all := lw_g (lw_at lw_m9 179 rfl) rfl
theorem q2231 : (Jvm.Cond.privateMethod ({ cls := "LateAndEarlyModel", name := "saySum", desc := "(II)V" } : Jvm.MethodName)) ∈ lw_tbl := lw_at lw_m9 180 rfl
theorem q2232 : (Jvm.Cond.instanceMethod ({ cls := "LateAndEarlyModel", name := "saySum", desc := "(II)V" } : Jvm.MethodName)) ∈ lw_all := lw_g (lw_at lw_m9 181 rfl) rfl
theorem q2233 : (Jvm.Cond.code ({ cls := "LateAndEarlyModel", name := "saySum", desc := "(II)V" } : Jvm.MethodName) prog_24_method_89_code (4 : Nat) (Option.none : Option Jvm.ClassFile.FieldType)) ∈ lw_all := lw_g (lw_at lw_m9 182 rfl) rfl
theorem q2234 : (Jvm.Cond.methodLink "LateAndEarlyModel" (426 : Nat) ({ cls := "LateAndEarlyModel", name := "sayRow", desc := "(III)V" } : Jvm.MethodName)) ∈ lw_all := lw_g (lw_at lw_m9 183 rfl) rfl
theorem q2235 : (Jvm.Cond.privateMethod ({ cls := "LateAndEarlyModel", name := "sayRow", desc := "(III)V" } : Jvm.MethodName)) ∈ lw_tbl := lw_at lw_m9 184 rfl
theorem q2236 : (Jvm.Cond.instanceMethod ({ cls := "LateAndEarlyModel", name := "sayRow", desc := "(III)V" } : Jvm.MethodName)) ∈ lw_all := lw_g (lw_at lw_m9 185 rfl) rfl
theorem q2237 : (Jvm.Cond.code ({ cls := "LateAndEarlyModel", name := "sayRow", desc := "(III)V" } : Jvm.MethodName) prog_24_method_88_code (4 : Nat) (Option.none : Option Jvm.ClassFile.FieldType)) ∈ lw_all := lw_g (lw_at lw_m9 186 rfl) rfl
theorem q2238 : (Jvm.Cond.methodLink "LateAndEarlyModel" (423 : Nat) ({ cls := "LateAndEarlyModel", name := "sayOperand", desc := "(II)V" } : Jvm.MethodName)) ∈ lw_all := lw_g (lw_at lw_m9 187 rfl) rfl
theorem q2239 : (Jvm.Cond.privateMethod ({ cls := "LateAndEarlyModel", name := "sayOperand", desc := "(II)V" } : Jvm.MethodName)) ∈ lw_tbl := lw_at lw_m9 188 rfl
theorem q2240 : (Jvm.Cond.instanceMethod ({ cls := "LateAndEarlyModel", name := "sayOperand", desc := "(II)V" } : Jvm.MethodName)) ∈ lw_all := lw_g (lw_at lw_m9 189 rfl) rfl
theorem q2241 : (Jvm.Cond.code ({ cls := "LateAndEarlyModel", name := "sayOperand", desc := "(II)V" } : Jvm.MethodName) prog_24_method_87_code (3 : Nat) (Option.none : Option Jvm.ClassFile.FieldType)) ∈ lw_all := lw_g (lw_at lw_m9 190 rfl) rfl
theorem q2242 : (Jvm.Cond.methodLink "LateAndEarlyModel" (443 : Nat) ({ cls := "LateAndEarlyModel", name := "close", desc := "()V" } : Jvm.MethodName)) ∈ lw_all := lw_g (lw_at lw_m9 191 rfl) rfl
theorem q2243 : (Jvm.Cond.privateMethod ({ cls := "LateAndEarlyModel", name := "close", desc := "()V" } : Jvm.MethodName)) ∈ lw_tbl := lw_at lw_m9 192 rfl
theorem q2244 : (Jvm.Cond.instanceMethod ({ cls := "LateAndEarlyModel", name := "close", desc := "()V" } : Jvm.MethodName)) ∈ lw_all := lw_g (lw_at lw_m9 193 rfl) rfl
theorem q2245 : (Jvm.Cond.code ({ cls := "LateAndEarlyModel", name := "close", desc := "()V" } : Jvm.MethodName) prog_24_method_91_code (1 : Nat) (Option.none : Option Jvm.ClassFile.FieldType)) ∈ lw_all := lw_g (lw_at lw_m9 194 rfl) rfl
theorem q2246 : (Jvm.Cond.methodLink "LateAndEarlyModel" (463 : Nat) ({ cls := "LateAndEarlyModel", name := "sayNode", desc := "(III)V" } : Jvm.MethodName)) ∈ lw_all := lw_g (lw_at lw_m9 195 rfl) rfl
theorem q2247 : (Jvm.Cond.privateMethod ({ cls := "LateAndEarlyModel", name := "sayNode", desc := "(III)V" } : Jvm.MethodName)) ∈ lw_tbl := lw_at lw_m9 196 rfl
theorem q2248 : (Jvm.Cond.instanceMethod ({ cls := "LateAndEarlyModel", name := "sayNode", desc := "(III)V" } : Jvm.MethodName)) ∈ lw_all := lw_g (lw_at lw_m9 197 rfl) rfl
theorem q2249 : (Jvm.Cond.code ({ cls := "LateAndEarlyModel", name := "sayNode", desc := "(III)V" } : Jvm.MethodName) prog_24_method_99_code (5 : Nat) (Option.none : Option Jvm.ClassFile.FieldType)) ∈ lw_all := lw_g (lw_at lw_m9 198 rfl) rfl
theorem q2250 : (Jvm.Cond.methodLink "LateAndEarlyModel" (446 : Nat) ({ cls := "LateAndEarlyModel", name := "asBlock", desc := "(II)I" } : Jvm.MethodName)) ∈ lw_all := lw_g (lw_at lw_m9 199 rfl) rfl
theorem q2251 : (Jvm.Cond.privateMethod ({ cls := "LateAndEarlyModel", name := "asBlock", desc := "(II)I" } : Jvm.MethodName)) ∈ lw_tbl := lw_at lw_m9 200 rfl
theorem q2252 : (Jvm.Cond.instanceMethod ({ cls := "LateAndEarlyModel", name := "asBlock", desc := "(II)I" } : Jvm.MethodName)) ∈ lw_all := lw_g (lw_at lw_m9 201 rfl) rfl
theorem q2253 : (Jvm.Cond.code ({ cls := "LateAndEarlyModel", name := "asBlock", desc := "(II)I" } : Jvm.MethodName) prog_24_method_98_code (3 : Nat) (Option.some Jvm.ClassFile.FieldType.int)) ∈ lw_all := lw_g (lw_at lw_m9 202 rfl) rfl
theorem q2254 : (Jvm.Cond.methodLink "LateAndEarlyModel" (448 : Nat) ({ cls := "LateAndEarlyModel", name := "sayGo", desc := "(I)V" } : Jvm.MethodName)) ∈ lw_all := lw_g (lw_at lw_m9 203 rfl) rfl
theorem q2255 : (Jvm.Cond.privateMethod ({ cls := "LateAndEarlyModel", name := "sayGo", desc := "(I)V" } : Jvm.MethodName)) ∈ lw_tbl := lw_at lw_m9 204 rfl
theorem q2256 : (Jvm.Cond.instanceMethod ({ cls := "LateAndEarlyModel", name := "sayGo", desc := "(I)V" } : Jvm.MethodName)) ∈ lw_all := lw_g (lw_at lw_m9 205 rfl) rfl
theorem q2257 : (Jvm.Cond.code ({ cls := "LateAndEarlyModel", name := "sayGo", desc := "(I)V" } : Jvm.MethodName) prog_24_method_100_code (2 : Nat) (Option.none : Option Jvm.ClassFile.FieldType)) ∈ lw_all := lw_g (lw_at lw_m9 206 rfl) rfl
theorem q2276 : (Jvm.Cond.castable "LateAndEarlyModel" "java/lang/Object") ∈ lw_tbl := lw_at lw_m9 225 rfl
theorem in_X2 : ∀ w ∈ wsX20, w ∈ lw_all := lw_in wsX20 [1721, 1723, 1725, 1727, 1729, 1731, 1733, 1735, 1737, 1739, 1741, 1743, 1745, 1747, 1749, 1751, 1753, 1755, 1757, 1759, 1761, 1763, 1765, 1767, 1769, 1771, 1773, 1775, 1777, 1779, 1781, 1783, 1785, 1787, 1789, 1791, 1793, 1795, 1797, 1799, 1801, 1803, 1805, 1807, 1809, 1811, 1813, 1815, 1817, 1819, 1821, 1823, 1825, 1827, 1829, 1831, 1833, 1835, 1837, 1839, 1841, 1843] (by decide +kernel) (by decide +kernel)
