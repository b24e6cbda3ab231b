/-! LateAndEarly$Leave -/
set_option maxRecDepth 100000
def RX10 : String := "LateAndEarly$Leave"
def TX10 : u_T := fun k => match k with
  | 0 => ("LateAndEarly$Node", "number", "I", false)
  | 1 => ("LateAndEarly$Node", "block", "I", false)
  | 2 => ("LateAndEarly$Node", "next", "Ljava/util/ArrayList;", true)
  | _ => ("LateAndEarly$Node", "before", "Ljava/util/ArrayList;", true)
def tyX10 : Nat → FieldType := fun k => match k with
  | 0 => .int
  | 1 => .int
  | 2 => .object "java/util/ArrayList"
  | _ => .object "java/util/ArrayList"
abbrev wsX100 : List Cond := u_ws RX10 TX10 4
theorem nmX10 : ∀ a, a < 4 → ∀ b, b < 4 → a ≠ b → (TX10 a).2.1 ≠ (TX10 b).2.1 := by decide +kernel
theorem tyX10_ok : ∀ k, k < 4 → parseFieldDescriptor (TX10 k).2.2.1 = some (tyX10 k) := by decide +kernel
abbrev cX10_init : ByteArray := prog_6_method_1_code
def yX10_init : MethodName := ⟨RX10, "<init>", "()V"⟩
theorem dX10_init_0 : decode cX10_init 0 = .ok (.aload_n 0, 1) := by decide +kernel
theorem dX10_init_1 : decode cX10_init 1 = .ok (.invokespecial 3, 3) := by decide +kernel
theorem dX10_init_4 : decode cX10_init 4 = .ok (.return_, 1) := by decide +kernel
abbrev cX10_ways : ByteArray := prog_6_method_3_code
def yX10_ways : MethodName := ⟨RX10, "ways", "()I"⟩
theorem dX10_ways_0 : decode cX10_ways 0 = .ok (.iconst 0, 1) := by decide +kernel
theorem dX10_ways_1 : decode cX10_ways 1 = .ok (.ireturn, 1) := by decide +kernel
abbrev cX10_way : ByteArray := prog_6_method_4_code
def yX10_way : MethodName := ⟨RX10, "way", "(I)I"⟩
theorem dX10_way_0 : decode cX10_way 0 = .ok (.iconst (-1), 1) := by decide +kernel
theorem dX10_way_1 : decode cX10_way 1 = .ok (.ireturn, 1) := by decide +kernel
abbrev cX10_kind : ByteArray := prog_6_method_2_code
def yX10_kind : MethodName := ⟨RX10, "kind", "()I"⟩
theorem dX10_kind_0 : decode cX10_kind 0 = .ok (.bipush 6, 2) := by decide +kernel
theorem dX10_kind_2 : decode cX10_kind 2 = .ok (.ireturn, 1) := by decide +kernel
theorem q160 : (Jvm.Cond.initialized "LateAndEarly$Leave") ∈ lw_all := lw_g (lw_at lw_m1 29 rfl) rfl
theorem q637 : (Jvm.Cond.selects "LateAndEarly$Leave" ({ cls := "java/lang/Object", name := "getClass", desc := "()Ljava/lang/Class;" } : Jvm.MethodName) ({ cls := "java/lang/Object", name := "getClass", desc := "()Ljava/lang/Class;" } : Jvm.MethodName)) ∈ lw_all := lw_g (lw_at lw_m3 26 rfl) rfl
theorem q780 : (Jvm.Cond.instantiable "LateAndEarly$Leave" (4 : Nat)) ∈ lw_all := lw_g (lw_at lw_m3 169 rfl) rfl
theorem q782 : (Jvm.Cond.instanceMethod ({ cls := "LateAndEarly$Leave", name := "<init>", desc := "()V" } : Jvm.MethodName)) ∈ lw_all := lw_g (lw_at lw_m3 171 rfl) rfl
theorem q783 : (Jvm.Cond.code ({ cls := "LateAndEarly$Leave", name := "<init>", desc := "()V" } : Jvm.MethodName) prog_6_method_1_code (1 : Nat) (Option.none : Option Jvm.ClassFile.FieldType)) ∈ lw_all := lw_g (lw_at lw_m3 172 rfl) rfl
theorem q784 : (Jvm.Cond.methodLinkNest "LateAndEarly$Leave" (3 : Nat) ({ cls := "LateAndEarly$End", name := "<init>", desc := "()V" } : Jvm.MethodName) "LateAndEarly") ∈ lw_tbl := lw_at lw_m3 173 rfl
theorem q788 : (Jvm.Cond.lays "LateAndEarly$Leave" "LateAndEarly$Node" "number" "I") ∈ lw_all := lw_g (lw_at lw_m3 177 rfl) rfl
theorem q789 : (Jvm.Cond.lays "LateAndEarly$Leave" "LateAndEarly$Node" "block" "I") ∈ lw_all := lw_g (lw_at lw_m3 178 rfl) rfl
theorem q790 : (Jvm.Cond.laysFinal "LateAndEarly$Leave" "LateAndEarly$Node" "next" "Ljava/util/ArrayList;") ∈ lw_all := lw_g (lw_at lw_m3 179 rfl) rfl
theorem q791 : (Jvm.Cond.laysFinal "LateAndEarly$Leave" "LateAndEarly$Node" "before" "Ljava/util/ArrayList;") ∈ lw_all := lw_g (lw_at lw_m3 180 rfl) rfl
theorem q792 : (Jvm.Cond.superclass "LateAndEarly$Leave" "LateAndEarly$End") ∈ lw_all := lw_g (lw_at lw_m3 181 rfl) rfl
theorem q1010 : (Jvm.Cond.selects "LateAndEarly$Leave" ({ cls := "LateAndEarly$End", name := "ways", desc := "()I" } : Jvm.MethodName) ({ cls := "LateAndEarly$Leave", name := "ways", desc := "()I" } : Jvm.MethodName)) ∈ lw_all := lw_g (lw_at lw_m4 159 rfl) rfl
theorem q1011 : (Jvm.Cond.instanceMethod ({ cls := "LateAndEarly$Leave", name := "ways", desc := "()I" } : Jvm.MethodName)) ∈ lw_all := lw_g (lw_at lw_m4 160 rfl) rfl
theorem q1012 : (Jvm.Cond.code ({ cls := "LateAndEarly$Leave", name := "ways", desc := "()I" } : Jvm.MethodName) prog_6_method_3_code (1 : Nat) (Option.some Jvm.ClassFile.FieldType.int)) ∈ lw_all := lw_g (lw_at lw_m4 161 rfl) rfl
theorem q1022 : (Jvm.Cond.selects "LateAndEarly$Leave" ({ cls := "LateAndEarly$End", name := "way", desc := "(I)I" } : Jvm.MethodName) ({ cls := "LateAndEarly$Leave", name := "way", desc := "(I)I" } : Jvm.MethodName)) ∈ lw_all := lw_g (lw_at lw_m4 171 rfl) rfl
theorem q1023 : (Jvm.Cond.instanceMethod ({ cls := "LateAndEarly$Leave", name := "way", desc := "(I)I" } : Jvm.MethodName)) ∈ lw_all := lw_g (lw_at lw_m4 172 rfl) rfl
theorem q1024 : (Jvm.Cond.code ({ cls := "LateAndEarly$Leave", name := "way", desc := "(I)I" } : Jvm.MethodName) prog_6_method_4_code (2 : Nat) (Option.some Jvm.ClassFile.FieldType.int)) ∈ lw_all := lw_g (lw_at lw_m4 173 rfl) rfl
theorem q1036 : (Jvm.Cond.selects "LateAndEarly$Leave" ({ cls := "LateAndEarly$Node", name := "leadsTo", desc := "(LLateAndEarly$Node;)V" } : Jvm.MethodName) ({ cls := "LateAndEarly$Node", name := "leadsTo", desc := "(LLateAndEarly$Node;)V" } : Jvm.MethodName)) ∈ lw_all := lw_g (lw_at lw_m4 185 rfl) rfl
theorem q1060 : (Jvm.Cond.selects "LateAndEarly$Leave" ({ cls := "LateAndEarly$End", name := "leadsTo", desc := "(LLateAndEarly$Node;)V" } : Jvm.MethodName) ({ cls := "LateAndEarly$Node", name := "leadsTo", desc := "(LLateAndEarly$Node;)V" } : Jvm.MethodName)) ∈ lw_all := lw_g (lw_at lw_m4 209 rfl) rfl
theorem q1078 : (Jvm.Cond.selects "LateAndEarly$Leave" ({ cls := "LateAndEarly$Node", name := "works", desc := "()LLateAndEarly$Sum;" } : Jvm.MethodName) ({ cls := "LateAndEarly$Node", name := "works", desc := "()LLateAndEarly$Sum;" } : Jvm.MethodName)) ∈ lw_all := lw_g (lw_at lw_m4 227 rfl) rfl
theorem q1119 : (Jvm.Cond.selects "LateAndEarly$Leave" ({ cls := "LateAndEarly$Node", name := "kills", desc := "(LLateAndEarly$Sum;)Z" } : Jvm.MethodName) ({ cls := "LateAndEarly$Node", name := "kills", desc := "(LLateAndEarly$Sum;)Z" } : Jvm.MethodName)) ∈ lw_all := lw_g (lw_at lw_m5 28 rfl) rfl
theorem q1131 : (Jvm.Cond.selects "LateAndEarly$Leave" ({ cls := "LateAndEarly$Node", name := "sets", desc := "()I" } : Jvm.MethodName) ({ cls := "LateAndEarly$Node", name := "sets", desc := "()I" } : Jvm.MethodName)) ∈ lw_all := lw_g (lw_at lw_m5 40 rfl) rfl
theorem q1173 : (Jvm.Cond.selects "LateAndEarly$Leave" ({ cls := "LateAndEarly$Node", name := "writes", desc := "()I" } : Jvm.MethodName) ({ cls := "LateAndEarly$Node", name := "writes", desc := "()I" } : Jvm.MethodName)) ∈ lw_all := lw_g (lw_at lw_m5 82 rfl) rfl
theorem q1207 : (Jvm.Cond.selects "LateAndEarly$Leave" ({ cls := "LateAndEarly$Node", name := "isSeen", desc := "()Z" } : Jvm.MethodName) ({ cls := "LateAndEarly$Node", name := "isSeen", desc := "()Z" } : Jvm.MethodName)) ∈ lw_all := lw_g (lw_at lw_m5 116 rfl) rfl
theorem q1278 : (Jvm.Cond.selects "LateAndEarly$Leave" ({ cls := "LateAndEarly$Node", name := "kind", desc := "()I" } : Jvm.MethodName) ({ cls := "LateAndEarly$Leave", name := "kind", desc := "()I" } : Jvm.MethodName)) ∈ lw_all := lw_g (lw_at lw_m5 187 rfl) rfl
theorem q1279 : (Jvm.Cond.instanceMethod ({ cls := "LateAndEarly$Leave", name := "kind", desc := "()I" } : Jvm.MethodName)) ∈ lw_all := lw_g (lw_at lw_m5 188 rfl) rfl
theorem q1280 : (Jvm.Cond.code ({ cls := "LateAndEarly$Leave", name := "kind", desc := "()I" } : Jvm.MethodName) prog_6_method_2_code (1 : Nat) (Option.some Jvm.ClassFile.FieldType.int)) ∈ lw_all := lw_g (lw_at lw_m5 189 rfl) rfl
theorem q2262 : (Jvm.Cond.castable "LateAndEarly$Leave" "LateAndEarly$End") ∈ lw_tbl := lw_at lw_m9 211 rfl
theorem q2265 : (Jvm.Cond.castable "LateAndEarly$Leave" "LateAndEarly$Node") ∈ lw_tbl := lw_at lw_m9 214 rfl
theorem q2283 : (Jvm.Cond.castable "LateAndEarly$Leave" "java/lang/Object") ∈ lw_tbl := lw_at lw_m9 232 rfl
theorem in_X10 : ∀ w ∈ wsX100, w ∈ lw_all := lw_in wsX100 [788, 789, 790, 791] (by decide +kernel) (by decide +kernel)
/-! LateAndEarly$Go -/
set_option maxRecDepth 100000
def RX11 : String := "LateAndEarly$Go"
def TX11 : u_T := fun k => match k with
  | 0 => ("LateAndEarly$Node", "number", "I", false)
  | 1 => ("LateAndEarly$Node", "block", "I", false)
  | 2 => ("LateAndEarly$Node", "next", "Ljava/util/ArrayList;", true)
  | 3 => ("LateAndEarly$Node", "before", "Ljava/util/ArrayList;", true)
  | _ => ("LateAndEarly$Go", "to", "I", true)
def tyX11 : Nat → FieldType := fun k => match k with
  | 0 => .int
  | 1 => .int
  | 2 => .object "java/util/ArrayList"
  | 3 => .object "java/util/ArrayList"
  | _ => .int
abbrev wsX110 : List Cond := u_ws RX11 TX11 5
theorem nmX11 : ∀ a, a < 5 → ∀ b, b < 5 → a ≠ b → (TX11 a).2.1 ≠ (TX11 b).2.1 := by decide +kernel
theorem tyX11_ok : ∀ k, k < 5 → parseFieldDescriptor (TX11 k).2.2.1 = some (tyX11 k) := by decide +kernel
abbrev cX11_init : ByteArray := prog_4_method_1_code
def yX11_init : MethodName := ⟨RX11, "<init>", "(I)V"⟩
def dkwX11_init_0 : List UInt8 := [42, 183, 0, 1, 42, 27, 181, 0, 7, 177]
abbrev dktX11_init_0 : List UInt8 := dkwX11_init_0 ++ []
theorem dksX11_init_0 : cX11_init.data.toList.drop 0 = dktX11_init_0 := by decide +kernel
theorem dX11_init_0 : decode cX11_init 0 = .ok (.aload_n 0, 1) := dk_42 (dk_at dksX11_init_0 0 rfl rfl)
theorem dX11_init_1 : decode cX11_init 1 = .ok (.invokespecial 1, 3) := dk_183 0 1 (dk_at dksX11_init_0 1 rfl rfl)
theorem dX11_init_4 : decode cX11_init 4 = .ok (.aload_n 0, 1) := dk_42 (dk_at dksX11_init_0 4 rfl rfl)
theorem dX11_init_5 : decode cX11_init 5 = .ok (.iload_n 1, 1) := dk_27 (dk_at dksX11_init_0 5 rfl rfl)
theorem dX11_init_6 : decode cX11_init 6 = .ok (.putfield 7, 3) := dk_181 0 7 (dk_at dksX11_init_0 6 rfl rfl)
theorem dX11_init_9 : decode cX11_init 9 = .ok (.return_, 1) := dk_177 (dk_at dksX11_init_0 9 rfl rfl)
abbrev cX11_ways : ByteArray := prog_4_method_3_code
def yX11_ways : MethodName := ⟨RX11, "ways", "()I"⟩
theorem dX11_ways_0 : decode cX11_ways 0 = .ok (.iconst 1, 1) := by decide +kernel
theorem dX11_ways_1 : decode cX11_ways 1 = .ok (.ireturn, 1) := by decide +kernel
abbrev cX11_way : ByteArray := prog_4_method_4_code
def yX11_way : MethodName := ⟨RX11, "way", "(I)I"⟩
theorem dX11_way_0 : decode cX11_way 0 = .ok (.aload_n 0, 1) := by decide +kernel
theorem dX11_way_1 : decode cX11_way 1 = .ok (.getfield 7, 3) := by decide +kernel
theorem dX11_way_4 : decode cX11_way 4 = .ok (.ireturn, 1) := by decide +kernel
abbrev cX11_kind : ByteArray := prog_4_method_2_code
def yX11_kind : MethodName := ⟨RX11, "kind", "()I"⟩
theorem dX11_kind_0 : decode cX11_kind 0 = .ok (.iconst 4, 1) := by decide +kernel
theorem dX11_kind_1 : decode cX11_kind 1 = .ok (.ireturn, 1) := by decide +kernel
theorem q161 : (Jvm.Cond.initialized "LateAndEarly$Go") ∈ lw_all := lw_g (lw_at lw_m1 30 rfl) rfl
theorem q635 : (Jvm.Cond.selects "LateAndEarly$Go" ({ cls := "java/lang/Object", name := "getClass", desc := "()Ljava/lang/Class;" } : Jvm.MethodName) ({ cls := "java/lang/Object", name := "getClass", desc := "()Ljava/lang/Class;" } : Jvm.MethodName)) ∈ lw_all := lw_g (lw_at lw_m3 24 rfl) rfl
theorem q794 : (Jvm.Cond.instantiable "LateAndEarly$Go" (5 : Nat)) ∈ lw_all := lw_g (lw_at lw_m3 183 rfl) rfl
theorem q800 : (Jvm.Cond.instanceMethod ({ cls := "LateAndEarly$Go", name := "<init>", desc := "(I)V" } : Jvm.MethodName)) ∈ lw_all := lw_g (lw_at lw_m3 189 rfl) rfl
theorem q801 : (Jvm.Cond.code ({ cls := "LateAndEarly$Go", name := "<init>", desc := "(I)V" } : Jvm.MethodName) prog_4_method_1_code (2 : Nat) (Option.none : Option Jvm.ClassFile.FieldType)) ∈ lw_all := lw_g (lw_at lw_m3 190 rfl) rfl
theorem q802 : (Jvm.Cond.methodLinkNest "LateAndEarly$Go" (1 : Nat) ({ cls := "LateAndEarly$End", name := "<init>", desc := "()V" } : Jvm.MethodName) "LateAndEarly") ∈ lw_tbl := lw_at lw_m3 191 rfl
theorem q803 : (Jvm.Cond.fieldLink "LateAndEarly$Go" (7 : Nat) "LateAndEarly$Go" "to" "I") ∈ lw_all := lw_g (lw_at lw_m3 192 rfl) rfl
theorem q804 : (Jvm.Cond.laysFinal "LateAndEarly$Go" "LateAndEarly$Go" "to" "I") ∈ lw_all := lw_g (lw_at lw_m3 193 rfl) rfl
theorem q805 : (Jvm.Cond.soleField "LateAndEarly$Go" "to") ∈ lw_all := lw_g (lw_at lw_m3 194 rfl) rfl
theorem q806 : (Jvm.Cond.lays "LateAndEarly$Go" "LateAndEarly$Node" "number" "I") ∈ lw_all := lw_g (lw_at lw_m3 195 rfl) rfl
theorem q807 : (Jvm.Cond.lays "LateAndEarly$Go" "LateAndEarly$Node" "block" "I") ∈ lw_all := lw_g (lw_at lw_m3 196 rfl) rfl
theorem q808 : (Jvm.Cond.laysFinal "LateAndEarly$Go" "LateAndEarly$Node" "next" "Ljava/util/ArrayList;") ∈ lw_all := lw_g (lw_at lw_m3 197 rfl) rfl
theorem q809 : (Jvm.Cond.laysFinal "LateAndEarly$Go" "LateAndEarly$Node" "before" "Ljava/util/ArrayList;") ∈ lw_all := lw_g (lw_at lw_m3 198 rfl) rfl
theorem q810 : (Jvm.Cond.superclass "LateAndEarly$Go" "LateAndEarly$End") ∈ lw_all := lw_g (lw_at lw_m3 199 rfl) rfl
theorem q1004 : (Jvm.Cond.selects "LateAndEarly$Go" ({ cls := "LateAndEarly$End", name := "ways", desc := "()I" } : Jvm.MethodName) ({ cls := "LateAndEarly$Go", name := "ways", desc := "()I" } : Jvm.MethodName)) ∈ lw_all := lw_g (lw_at lw_m4 153 rfl) rfl
theorem q1005 : (Jvm.Cond.instanceMethod ({ cls := "LateAndEarly$Go", name := "ways", desc := "()I" } : Jvm.MethodName)) ∈ lw_all := lw_g (lw_at lw_m4 154 rfl) rfl
theorem q1006 : (Jvm.Cond.code ({ cls := "LateAndEarly$Go", name := "ways", desc := "()I" } : Jvm.MethodName) prog_4_method_3_code (1 : Nat) (Option.some Jvm.ClassFile.FieldType.int)) ∈ lw_all := lw_g (lw_at lw_m4 155 rfl) rfl
theorem q1016 : (Jvm.Cond.selects "LateAndEarly$Go" ({ cls := "LateAndEarly$End", name := "way", desc := "(I)I" } : Jvm.MethodName) ({ cls := "LateAndEarly$Go", name := "way", desc := "(I)I" } : Jvm.MethodName)) ∈ lw_all := lw_g (lw_at lw_m4 165 rfl) rfl
theorem q1017 : (Jvm.Cond.instanceMethod ({ cls := "LateAndEarly$Go", name := "way", desc := "(I)I" } : Jvm.MethodName)) ∈ lw_all := lw_g (lw_at lw_m4 166 rfl) rfl
theorem q1018 : (Jvm.Cond.code ({ cls := "LateAndEarly$Go", name := "way", desc := "(I)I" } : Jvm.MethodName) prog_4_method_4_code (2 : Nat) (Option.some Jvm.ClassFile.FieldType.int)) ∈ lw_all := lw_g (lw_at lw_m4 167 rfl) rfl
theorem q1034 : (Jvm.Cond.selects "LateAndEarly$Go" ({ cls := "LateAndEarly$Node", name := "leadsTo", desc := "(LLateAndEarly$Node;)V" } : Jvm.MethodName) ({ cls := "LateAndEarly$Node", name := "leadsTo", desc := "(LLateAndEarly$Node;)V" } : Jvm.MethodName)) ∈ lw_all := lw_g (lw_at lw_m4 183 rfl) rfl
theorem q1058 : (Jvm.Cond.selects "LateAndEarly$Go" ({ cls := "LateAndEarly$End", name := "leadsTo", desc := "(LLateAndEarly$Node;)V" } : Jvm.MethodName) ({ cls := "LateAndEarly$Node", name := "leadsTo", desc := "(LLateAndEarly$Node;)V" } : Jvm.MethodName)) ∈ lw_all := lw_g (lw_at lw_m4 207 rfl) rfl
theorem q1076 : (Jvm.Cond.selects "LateAndEarly$Go" ({ cls := "LateAndEarly$Node", name := "works", desc := "()LLateAndEarly$Sum;" } : Jvm.MethodName) ({ cls := "LateAndEarly$Node", name := "works", desc := "()LLateAndEarly$Sum;" } : Jvm.MethodName)) ∈ lw_all := lw_g (lw_at lw_m4 225 rfl) rfl
theorem q1117 : (Jvm.Cond.selects "LateAndEarly$Go" ({ cls := "LateAndEarly$Node", name := "kills", desc := "(LLateAndEarly$Sum;)Z" } : Jvm.MethodName) ({ cls := "LateAndEarly$Node", name := "kills", desc := "(LLateAndEarly$Sum;)Z" } : Jvm.MethodName)) ∈ lw_all := lw_g (lw_at lw_m5 26 rfl) rfl
theorem q1129 : (Jvm.Cond.selects "LateAndEarly$Go" ({ cls := "LateAndEarly$Node", name := "sets", desc := "()I" } : Jvm.MethodName) ({ cls := "LateAndEarly$Node", name := "sets", desc := "()I" } : Jvm.MethodName)) ∈ lw_all := lw_g (lw_at lw_m5 38 rfl) rfl
theorem q1171 : (Jvm.Cond.selects "LateAndEarly$Go" ({ cls := "LateAndEarly$Node", name := "writes", desc := "()I" } : Jvm.MethodName) ({ cls := "LateAndEarly$Node", name := "writes", desc := "()I" } : Jvm.MethodName)) ∈ lw_all := lw_g (lw_at lw_m5 80 rfl) rfl
theorem q1205 : (Jvm.Cond.selects "LateAndEarly$Go" ({ cls := "LateAndEarly$Node", name := "isSeen", desc := "()Z" } : Jvm.MethodName) ({ cls := "LateAndEarly$Node", name := "isSeen", desc := "()Z" } : Jvm.MethodName)) ∈ lw_all := lw_g (lw_at lw_m5 114 rfl) rfl
theorem q1272 : (Jvm.Cond.selects "LateAndEarly$Go" ({ cls := "LateAndEarly$Node", name := "kind", desc := "()I" } : Jvm.MethodName) ({ cls := "LateAndEarly$Go", name := "kind", desc := "()I" } : Jvm.MethodName)) ∈ lw_all := lw_g (lw_at lw_m5 181 rfl) rfl
theorem q1273 : (Jvm.Cond.instanceMethod ({ cls := "LateAndEarly$Go", name := "kind", desc := "()I" } : Jvm.MethodName)) ∈ lw_all := lw_g (lw_at lw_m5 182 rfl) rfl
theorem q1274 : (Jvm.Cond.code ({ cls := "LateAndEarly$Go", name := "kind", desc := "()I" } : Jvm.MethodName) prog_4_method_2_code (1 : Nat) (Option.some Jvm.ClassFile.FieldType.int)) ∈ lw_all := lw_g (lw_at lw_m5 183 rfl) rfl
theorem q2260 : (Jvm.Cond.castable "LateAndEarly$Go" "LateAndEarly$End") ∈ lw_tbl := lw_at lw_m9 209 rfl
theorem q2263 : (Jvm.Cond.castable "LateAndEarly$Go" "LateAndEarly$Node") ∈ lw_tbl := lw_at lw_m9 212 rfl
theorem q2284 : (Jvm.Cond.castable "LateAndEarly$Go" "java/lang/Object") ∈ lw_tbl := lw_at lw_m9 233 rfl
theorem in_X11 : ∀ w ∈ wsX110, w ∈ lw_all := lw_in wsX110 [806, 807, 808, 809, 804] (by decide +kernel) (by decide +kernel)
/-! LateAndEarly$If -/
set_option maxRecDepth 100000
def RX12 : String := "LateAndEarly$If"
def TX12 : u_T := fun k => match k with
  | 0 => ("LateAndEarly$Node", "number", "I", false)
  | 1 => ("LateAndEarly$Node", "block", "I", false)
  | 2 => ("LateAndEarly$Node", "next", "Ljava/util/ArrayList;", true)
  | 3 => ("LateAndEarly$Node", "before", "Ljava/util/ArrayList;", true)
  | 4 => ("LateAndEarly$If", "a", "LLateAndEarly$Operand;", true)
  | 5 => ("LateAndEarly$If", "b", "LLateAndEarly$Operand;", true)
  | 6 => ("LateAndEarly$If", "to", "I", true)
  | _ => ("LateAndEarly$If", "or", "I", true)
def tyX12 : Nat → FieldType := fun k => match k with
  | 0 => .int
  | 1 => .int
  | 2 => .object "java/util/ArrayList"
  | 3 => .object "java/util/ArrayList"
  | 4 => .object "LateAndEarly$Operand"
  | 5 => .object "LateAndEarly$Operand"
  | 6 => .int
  | _ => .int
abbrev wsX120 : List Cond := u_ws RX12 TX12 8
theorem nmX12 : ∀ a, a < 8 → ∀ b, b < 8 → a ≠ b → (TX12 a).2.1 ≠ (TX12 b).2.1 := by decide +kernel
theorem tyX12_ok : ∀ k, k < 8 → parseFieldDescriptor (TX12 k).2.2.1 = some (tyX12 k) := by decide +kernel
abbrev cX12_init : ByteArray := prog_5_method_1_code
def yX12_init : MethodName := ⟨RX12, "<init>", "(LLateAndEarly$Operand;LLateAndEarly$Operand;II)V"⟩
def dkwX12_init_1 : List UInt8 := [181, 0, 20, 177]
abbrev dktX12_init_1 : List UInt8 := dkwX12_init_1 ++ []
def dkwX12_init_0 : List UInt8 := [42, 183, 0, 1, 42, 43, 181, 0, 7, 42, 44, 181, 0, 13, 42, 29, 181, 0, 16, 42, 21, 4]
abbrev dktX12_init_0 : List UInt8 := dkwX12_init_0 ++ dktX12_init_1
theorem dksX12_init_0 : cX12_init.data.toList.drop 0 = dktX12_init_0 := by decide +kernel
theorem dksX12_init_1 : cX12_init.data.toList.drop 22 = dktX12_init_1 := dk_seg dksX12_init_0 22 rfl rfl
theorem dX12_init_0 : decode cX12_init 0 = .ok (.aload_n 0, 1) := dk_42 (dk_at dksX12_init_0 0 rfl rfl)
theorem dX12_init_1 : decode cX12_init 1 = .ok (.invokespecial 1, 3) := dk_183 0 1 (dk_at dksX12_init_0 1 rfl rfl)
theorem dX12_init_4 : decode cX12_init 4 = .ok (.aload_n 0, 1) := dk_42 (dk_at dksX12_init_0 4 rfl rfl)
theorem dX12_init_5 : decode cX12_init 5 = .ok (.aload_n 1, 1) := dk_43 (dk_at dksX12_init_0 5 rfl rfl)
theorem dX12_init_6 : decode cX12_init 6 = .ok (.putfield 7, 3) := dk_181 0 7 (dk_at dksX12_init_0 6 rfl rfl)
theorem dX12_init_9 : decode cX12_init 9 = .ok (.aload_n 0, 1) := dk_42 (dk_at dksX12_init_0 9 rfl rfl)
theorem dX12_init_10 : decode cX12_init 10 = .ok (.aload_n 2, 1) := dk_44 (dk_at dksX12_init_0 10 rfl rfl)
theorem dX12_init_11 : decode cX12_init 11 = .ok (.putfield 13, 3) := dk_181 0 13 (dk_at dksX12_init_0 11 rfl rfl)
theorem dX12_init_14 : decode cX12_init 14 = .ok (.aload_n 0, 1) := dk_42 (dk_at dksX12_init_0 14 rfl rfl)
theorem dX12_init_15 : decode cX12_init 15 = .ok (.iload_n 3, 1) := dk_29 (dk_at dksX12_init_0 15 rfl rfl)
theorem dX12_init_16 : decode cX12_init 16 = .ok (.putfield 16, 3) := dk_181 0 16 (dk_at dksX12_init_0 16 rfl rfl)
theorem dX12_init_19 : decode cX12_init 19 = .ok (.aload_n 0, 1) := dk_42 (dk_at dksX12_init_0 19 rfl rfl)
theorem dX12_init_20 : decode cX12_init 20 = .ok (.iload 4, 2) := dk_21 4 (dk_at dksX12_init_0 20 rfl rfl)
theorem dX12_init_22 : decode cX12_init 22 = .ok (.putfield 20, 3) := dk_181 0 20 (dk_at dksX12_init_1 0 rfl rfl)
theorem dX12_init_25 : decode cX12_init 25 = .ok (.return_, 1) := dk_177 (dk_at dksX12_init_1 3 rfl rfl)
abbrev cX12_ways : ByteArray := prog_5_method_3_code
def yX12_ways : MethodName := ⟨RX12, "ways", "()I"⟩
theorem dX12_ways_0 : decode cX12_ways 0 = .ok (.iconst 2, 1) := by decide +kernel
theorem dX12_ways_1 : decode cX12_ways 1 = .ok (.ireturn, 1) := by decide +kernel
abbrev cX12_way : ByteArray := prog_5_method_4_code
def yX12_way : MethodName := ⟨RX12, "way", "(I)I"⟩
def dkwX12_way_0 : List UInt8 := [27, 154, 0, 10, 42, 180, 0, 16, 167, 0, 7, 42, 180, 0, 20, 172]
abbrev dktX12_way_0 : List UInt8 := dkwX12_way_0 ++ []
theorem dksX12_way_0 : cX12_way.data.toList.drop 0 = dktX12_way_0 := by decide +kernel
theorem dX12_way_0 : decode cX12_way 0 = .ok (.iload_n 1, 1) := dk_27 (dk_at dksX12_way_0 0 rfl rfl)
theorem dX12_way_1 : decode cX12_way 1 = .ok (.ifCond .ne 10, 3) := dk_154 0 10 (dk_at dksX12_way_0 1 rfl rfl)
theorem dX12_way_4 : decode cX12_way 4 = .ok (.aload_n 0, 1) := dk_42 (dk_at dksX12_way_0 4 rfl rfl)
theorem dX12_way_5 : decode cX12_way 5 = .ok (.getfield 16, 3) := dk_180 0 16 (dk_at dksX12_way_0 5 rfl rfl)
theorem dX12_way_8 : decode cX12_way 8 = .ok (.goto 7, 3) := dk_167 0 7 (dk_at dksX12_way_0 8 rfl rfl)
theorem dX12_way_11 : decode cX12_way 11 = .ok (.aload_n 0, 1) := dk_42 (dk_at dksX12_way_0 11 rfl rfl)
theorem dX12_way_12 : decode cX12_way 12 = .ok (.getfield 20, 3) := dk_180 0 20 (dk_at dksX12_way_0 12 rfl rfl)
theorem dX12_way_15 : decode cX12_way 15 = .ok (.ireturn, 1) := dk_172 (dk_at dksX12_way_0 15 rfl rfl)
abbrev cX12_kind : ByteArray := prog_5_method_2_code
def yX12_kind : MethodName := ⟨RX12, "kind", "()I"⟩
theorem dX12_kind_0 : decode cX12_kind 0 = .ok (.iconst 5, 1) := by decide +kernel
theorem dX12_kind_1 : decode cX12_kind 1 = .ok (.ireturn, 1) := by decide +kernel
theorem q162 : (Jvm.Cond.initialized "LateAndEarly$If") ∈ lw_all := lw_g (lw_at lw_m1 31 rfl) rfl
theorem q636 : (Jvm.Cond.selects "LateAndEarly$If" ({ cls := "java/lang/Object", name := "getClass", desc := "()Ljava/lang/Class;" } : Jvm.MethodName) ({ cls := "java/lang/Object", name := "getClass", desc := "()Ljava/lang/Class;" } : Jvm.MethodName)) ∈ lw_all := lw_g (lw_at lw_m3 25 rfl) rfl
theorem q816 : (Jvm.Cond.instantiable "LateAndEarly$If" (8 : Nat)) ∈ lw_all := lw_g (lw_at lw_m3 205 rfl) rfl
theorem q818 : (Jvm.Cond.instanceMethod ({ cls := "LateAndEarly$If", name := "<init>", desc := "(LLateAndEarly$Operand;LLateAndEarly$Operand;II)V" } : Jvm.MethodName)) ∈ lw_all := lw_g (lw_at lw_m3 207 rfl) rfl
theorem q819 : (Jvm.Cond.code ({ cls := "LateAndEarly$If", name := "<init>", desc := "(LLateAndEarly$Operand;LLateAndEarly$Operand;II)V" } : Jvm.MethodName) prog_5_method_1_code (5 : Nat) (Option.none : Option Jvm.ClassFile.FieldType)) ∈ lw_all := lw_g (lw_at lw_m3 208 rfl) rfl
theorem q820 : (Jvm.Cond.methodLinkNest "LateAndEarly$If" (1 : Nat) ({ cls := "LateAndEarly$End", name := "<init>", desc := "()V" } : Jvm.MethodName) "LateAndEarly") ∈ lw_tbl := lw_at lw_m3 209 rfl
theorem q821 : (Jvm.Cond.fieldLink "LateAndEarly$If" (7 : Nat) "LateAndEarly$If" "a" "LLateAndEarly$Operand;") ∈ lw_all := lw_g (lw_at lw_m3 210 rfl) rfl
theorem q825 : (Jvm.Cond.fieldLink "LateAndEarly$If" (13 : Nat) "LateAndEarly$If" "b" "LLateAndEarly$Operand;") ∈ lw_all := lw_g (lw_at lw_m3 214 rfl) rfl
theorem q829 : (Jvm.Cond.fieldLink "LateAndEarly$If" (16 : Nat) "LateAndEarly$If" "to" "I") ∈ lw_all := lw_g (lw_at lw_m3 218 rfl) rfl
theorem q830 : (Jvm.Cond.fieldLink "LateAndEarly$If" (20 : Nat) "LateAndEarly$If" "or" "I") ∈ lw_all := lw_g (lw_at lw_m3 219 rfl) rfl
theorem q831 : (Jvm.Cond.laysFinal "LateAndEarly$If" "LateAndEarly$If" "a" "LLateAndEarly$Operand;") ∈ lw_all := lw_g (lw_at lw_m3 220 rfl) rfl
theorem q832 : (Jvm.Cond.soleField "LateAndEarly$If" "a") ∈ lw_all := lw_g (lw_at lw_m3 221 rfl) rfl
theorem q833 : (Jvm.Cond.laysFinal "LateAndEarly$If" "LateAndEarly$If" "b" "LLateAndEarly$Operand;") ∈ lw_all := lw_g (lw_at lw_m3 222 rfl) rfl
theorem q834 : (Jvm.Cond.soleField "LateAndEarly$If" "b") ∈ lw_all := lw_g (lw_at lw_m3 223 rfl) rfl
theorem q835 : (Jvm.Cond.laysFinal "LateAndEarly$If" "LateAndEarly$If" "to" "I") ∈ lw_all := lw_g (lw_at lw_m3 224 rfl) rfl
theorem q836 : (Jvm.Cond.soleField "LateAndEarly$If" "to") ∈ lw_all := lw_g (lw_at lw_m3 225 rfl) rfl
theorem q837 : (Jvm.Cond.laysFinal "LateAndEarly$If" "LateAndEarly$If" "or" "I") ∈ lw_all := lw_g (lw_at lw_m3 226 rfl) rfl
theorem q838 : (Jvm.Cond.soleField "LateAndEarly$If" "or") ∈ lw_all := lw_g (lw_at lw_m3 227 rfl) rfl
theorem q839 : (Jvm.Cond.lays "LateAndEarly$If" "LateAndEarly$Node" "number" "I") ∈ lw_all := lw_g (lw_at lw_m3 228 rfl) rfl
theorem q840 : (Jvm.Cond.lays "LateAndEarly$If" "LateAndEarly$Node" "block" "I") ∈ lw_all := lw_g (lw_at lw_m3 229 rfl) rfl
theorem q841 : (Jvm.Cond.laysFinal "LateAndEarly$If" "LateAndEarly$Node" "next" "Ljava/util/ArrayList;") ∈ lw_all := lw_g (lw_at lw_m3 230 rfl) rfl
theorem q842 : (Jvm.Cond.laysFinal "LateAndEarly$If" "LateAndEarly$Node" "before" "Ljava/util/ArrayList;") ∈ lw_all := lw_g (lw_at lw_m3 231 rfl) rfl
theorem q843 : (Jvm.Cond.superclass "LateAndEarly$If" "LateAndEarly$End") ∈ lw_all := lw_g (lw_at lw_m3 232 rfl) rfl
theorem q1007 : (Jvm.Cond.selects "LateAndEarly$If" ({ cls := "LateAndEarly$End", name := "ways", desc := "()I" } : Jvm.MethodName) ({ cls := "LateAndEarly$If", name := "ways", desc := "()I" } : Jvm.MethodName)) ∈ lw_all := lw_g (lw_at lw_m4 156 rfl) rfl
theorem q1008 : (Jvm.Cond.instanceMethod ({ cls := "LateAndEarly$If", name := "ways", desc := "()I" } : Jvm.MethodName)) ∈ lw_all := lw_g (lw_at lw_m4 157 rfl) rfl
theorem q1009 : (Jvm.Cond.code ({ cls := "LateAndEarly$If", name := "ways", desc := "()I" } : Jvm.MethodName) prog_5_method_3_code (1 : Nat) (Option.some Jvm.ClassFile.FieldType.int)) ∈ lw_all := lw_g (lw_at lw_m4 158 rfl) rfl
theorem q1019 : (Jvm.Cond.selects "LateAndEarly$If" ({ cls := "LateAndEarly$End", name := "way", desc := "(I)I" } : Jvm.MethodName) ({ cls := "LateAndEarly$If", name := "way", desc := "(I)I" } : Jvm.MethodName)) ∈ lw_all := lw_g (lw_at lw_m4 168 rfl) rfl
theorem q1020 : (Jvm.Cond.instanceMethod ({ cls := "LateAndEarly$If", name := "way", desc := "(I)I" } : Jvm.MethodName)) ∈ lw_all := lw_g (lw_at lw_m4 169 rfl) rfl
theorem q1021 : (Jvm.Cond.code ({ cls := "LateAndEarly$If", name := "way", desc := "(I)I" } : Jvm.MethodName) prog_5_method_4_code (2 : Nat) (Option.some Jvm.ClassFile.FieldType.int)) ∈ lw_all := lw_g (lw_at lw_m4 170 rfl) rfl
theorem q1035 : (Jvm.Cond.selects "LateAndEarly$If" ({ cls := "LateAndEarly$Node", name := "leadsTo", desc := "(LLateAndEarly$Node;)V" } : Jvm.MethodName) ({ cls := "LateAndEarly$Node", name := "leadsTo", desc := "(LLateAndEarly$Node;)V" } : Jvm.MethodName)) ∈ lw_all := lw_g (lw_at lw_m4 184 rfl) rfl
theorem q1059 : (Jvm.Cond.selects "LateAndEarly$If" ({ cls := "LateAndEarly$End", name := "leadsTo", desc := "(LLateAndEarly$Node;)V" } : Jvm.MethodName) ({ cls := "LateAndEarly$Node", name := "leadsTo", desc := "(LLateAndEarly$Node;)V" } : Jvm.MethodName)) ∈ lw_all := lw_g (lw_at lw_m4 208 rfl) rfl
theorem q1077 : (Jvm.Cond.selects "LateAndEarly$If" ({ cls := "LateAndEarly$Node", name := "works", desc := "()LLateAndEarly$Sum;" } : Jvm.MethodName) ({ cls := "LateAndEarly$Node", name := "works", desc := "()LLateAndEarly$Sum;" } : Jvm.MethodName)) ∈ lw_all := lw_g (lw_at lw_m4 226 rfl) rfl
theorem q1118 : (Jvm.Cond.selects "LateAndEarly$If" ({ cls := "LateAndEarly$Node", name := "kills", desc := "(LLateAndEarly$Sum;)Z" } : Jvm.MethodName) ({ cls := "LateAndEarly$Node", name := "kills", desc := "(LLateAndEarly$Sum;)Z" } : Jvm.MethodName)) ∈ lw_all := lw_g (lw_at lw_m5 27 rfl) rfl
theorem q1130 : (Jvm.Cond.selects "LateAndEarly$If" ({ cls := "LateAndEarly$Node", name := "sets", desc := "()I" } : Jvm.MethodName) ({ cls := "LateAndEarly$Node", name := "sets", desc := "()I" } : Jvm.MethodName)) ∈ lw_all := lw_g (lw_at lw_m5 39 rfl) rfl
theorem q1172 : (Jvm.Cond.selects "LateAndEarly$If" ({ cls := "LateAndEarly$Node", name := "writes", desc := "()I" } : Jvm.MethodName) ({ cls := "LateAndEarly$Node", name := "writes", desc := "()I" } : Jvm.MethodName)) ∈ lw_all := lw_g (lw_at lw_m5 81 rfl) rfl
theorem q1206 : (Jvm.Cond.selects "LateAndEarly$If" ({ cls := "LateAndEarly$Node", name := "isSeen", desc := "()Z" } : Jvm.MethodName) ({ cls := "LateAndEarly$Node", name := "isSeen", desc := "()Z" } : Jvm.MethodName)) ∈ lw_all := lw_g (lw_at lw_m5 115 rfl) rfl
theorem q1275 : (Jvm.Cond.selects "LateAndEarly$If" ({ cls := "LateAndEarly$Node", name := "kind", desc := "()I" } : Jvm.MethodName) ({ cls := "LateAndEarly$If", name := "kind", desc := "()I" } : Jvm.MethodName)) ∈ lw_all := lw_g (lw_at lw_m5 184 rfl) rfl
theorem q1276 : (Jvm.Cond.instanceMethod ({ cls := "LateAndEarly$If", name := "kind", desc := "()I" } : Jvm.MethodName)) ∈ lw_all := lw_g (lw_at lw_m5 185 rfl) rfl
theorem q1277 : (Jvm.Cond.code ({ cls := "LateAndEarly$If", name := "kind", desc := "()I" } : Jvm.MethodName) prog_5_method_2_code (1 : Nat) (Option.some Jvm.ClassFile.FieldType.int)) ∈ lw_all := lw_g (lw_at lw_m5 186 rfl) rfl
theorem q2261 : (Jvm.Cond.castable "LateAndEarly$If" "LateAndEarly$End") ∈ lw_tbl := lw_at lw_m9 210 rfl
theorem q2264 : (Jvm.Cond.castable "LateAndEarly$If" "LateAndEarly$Node") ∈ lw_tbl := lw_at lw_m9 213 rfl
theorem q2285 : (Jvm.Cond.castable "LateAndEarly$If" "java/lang/Object") ∈ lw_tbl := lw_at lw_m9 234 rfl
theorem in_X12 : ∀ w ∈ wsX120, w ∈ lw_all := lw_in wsX120 [839, 840, 841, 842, 831, 833, 835, 837] (by decide +kernel) (by decide +kernel)
/-! LateAndEarly$Write -/
set_option maxRecDepth 100000
def RX13 : String := "LateAndEarly$Write"
def TX13 : u_T := fun k => match k with
  | 0 => ("LateAndEarly$Node", "number", "I", false)
  | 1 => ("LateAndEarly$Node", "block", "I", false)
  | 2 => ("LateAndEarly$Node", "next", "Ljava/util/ArrayList;", true)
  | 3 => ("LateAndEarly$Node", "before", "Ljava/util/ArrayList;", true)
  | 4 => ("LateAndEarly$Write", "row", "I", true)
  | 5 => ("LateAndEarly$Write", "at", "LLateAndEarly$Operand;", true)
  | _ => ("LateAndEarly$Write", "what", "LLateAndEarly$Operand;", true)
def tyX13 : Nat → FieldType := fun k => match k with
  | 0 => .int
  | 1 => .int
  | 2 => .object "java/util/ArrayList"
  | 3 => .object "java/util/ArrayList"
  | 4 => .int
  | 5 => .object "LateAndEarly$Operand"
  | _ => .object "LateAndEarly$Operand"
abbrev wsX130 : List Cond := u_ws RX13 TX13 7
theorem nmX13 : ∀ a, a < 7 → ∀ b, b < 7 → a ≠ b → (TX13 a).2.1 ≠ (TX13 b).2.1 := by decide +kernel
theorem tyX13_ok : ∀ k, k < 7 → parseFieldDescriptor (TX13 k).2.2.1 = some (tyX13 k) := by decide +kernel
abbrev cX13_init : ByteArray := prog_22_method_1_code
def yX13_init : MethodName := ⟨RX13, "<init>", "(ILLateAndEarly$Operand;LLateAndEarly$Operand;)V"⟩
def dkwX13_init_0 : List UInt8 := [42, 183, 0, 1, 42, 27, 181, 0, 7, 42, 44, 181, 0, 13, 42, 45, 181, 0, 17, 177]
abbrev dktX13_init_0 : List UInt8 := dkwX13_init_0 ++ []
theorem dksX13_init_0 : cX13_init.data.toList.drop 0 = dktX13_init_0 := by decide +kernel
theorem dX13_init_0 : decode cX13_init 0 = .ok (.aload_n 0, 1) := dk_42 (dk_at dksX13_init_0 0 rfl rfl)
theorem dX13_init_1 : decode cX13_init 1 = .ok (.invokespecial 1, 3) := dk_183 0 1 (dk_at dksX13_init_0 1 rfl rfl)
theorem dX13_init_4 : decode cX13_init 4 = .ok (.aload_n 0, 1) := dk_42 (dk_at dksX13_init_0 4 rfl rfl)
theorem dX13_init_5 : decode cX13_init 5 = .ok (.iload_n 1, 1) := dk_27 (dk_at dksX13_init_0 5 rfl rfl)
theorem dX13_init_6 : decode cX13_init 6 = .ok (.putfield 7, 3) := dk_181 0 7 (dk_at dksX13_init_0 6 rfl rfl)
theorem dX13_init_9 : decode cX13_init 9 = .ok (.aload_n 0, 1) := dk_42 (dk_at dksX13_init_0 9 rfl rfl)
theorem dX13_init_10 : decode cX13_init 10 = .ok (.aload_n 2, 1) := dk_44 (dk_at dksX13_init_0 10 rfl rfl)
theorem dX13_init_11 : decode cX13_init 11 = .ok (.putfield 13, 3) := dk_181 0 13 (dk_at dksX13_init_0 11 rfl rfl)
theorem dX13_init_14 : decode cX13_init 14 = .ok (.aload_n 0, 1) := dk_42 (dk_at dksX13_init_0 14 rfl rfl)
theorem dX13_init_15 : decode cX13_init 15 = .ok (.aload_n 3, 1) := dk_45 (dk_at dksX13_init_0 15 rfl rfl)
theorem dX13_init_16 : decode cX13_init 16 = .ok (.putfield 17, 3) := dk_181 0 17 (dk_at dksX13_init_0 16 rfl rfl)
theorem dX13_init_19 : decode cX13_init 19 = .ok (.return_, 1) := dk_177 (dk_at dksX13_init_0 19 rfl rfl)
abbrev cX13_writes : ByteArray := prog_22_method_3_code
def yX13_writes : MethodName := ⟨RX13, "writes", "()I"⟩
theorem dX13_writes_0 : decode cX13_writes 0 = .ok (.aload_n 0, 1) := by decide +kernel
theorem dX13_writes_1 : decode cX13_writes 1 = .ok (.getfield 7, 3) := by decide +kernel
theorem dX13_writes_4 : decode cX13_writes 4 = .ok (.ireturn, 1) := by decide +kernel
abbrev cX13_isSeen : ByteArray := prog_22_method_4_code
def yX13_isSeen : MethodName := ⟨RX13, "isSeen", "()Z"⟩
theorem dX13_isSeen_0 : decode cX13_isSeen 0 = .ok (.iconst 1, 1) := by decide +kernel
theorem dX13_isSeen_1 : decode cX13_isSeen 1 = .ok (.ireturn, 1) := by decide +kernel
abbrev cX13_kind : ByteArray := prog_22_method_2_code
def yX13_kind : MethodName := ⟨RX13, "kind", "()I"⟩
theorem dX13_kind_0 : decode cX13_kind 0 = .ok (.iconst 2, 1) := by decide +kernel
theorem dX13_kind_1 : decode cX13_kind 1 = .ok (.ireturn, 1) := by decide +kernel
theorem q163 : (Jvm.Cond.initialized "LateAndEarly$Write") ∈ lw_all := lw_g (lw_at lw_m1 32 rfl) rfl
theorem q650 : (Jvm.Cond.selects "LateAndEarly$Write" ({ cls := "java/lang/Object", name := "getClass", desc := "()Ljava/lang/Class;" } : Jvm.MethodName) ({ cls := "java/lang/Object", name := "getClass", desc := "()Ljava/lang/Class;" } : Jvm.MethodName)) ∈ lw_all := lw_g (lw_at lw_m3 39 rfl) rfl
theorem q849 : (Jvm.Cond.instantiable "LateAndEarly$Write" (7 : Nat)) ∈ lw_all := lw_g (lw_at lw_m3 238 rfl) rfl
theorem q851 : (Jvm.Cond.instanceMethod ({ cls := "LateAndEarly$Write", name := "<init>", desc := "(ILLateAndEarly$Operand;LLateAndEarly$Operand;)V" } : Jvm.MethodName)) ∈ lw_all := lw_g (lw_at lw_m4 0 rfl) rfl
theorem q852 : (Jvm.Cond.code ({ cls := "LateAndEarly$Write", name := "<init>", desc := "(ILLateAndEarly$Operand;LLateAndEarly$Operand;)V" } : Jvm.MethodName) prog_22_method_1_code (4 : Nat) (Option.none : Option Jvm.ClassFile.FieldType)) ∈ lw_all := lw_g (lw_at lw_m4 1 rfl) rfl
theorem q853 : (Jvm.Cond.methodLinkNest "LateAndEarly$Write" (1 : Nat) ({ cls := "LateAndEarly$Node", name := "<init>", desc := "()V" } : Jvm.MethodName) "LateAndEarly") ∈ lw_tbl := lw_at lw_m4 2 rfl
theorem q854 : (Jvm.Cond.fieldLink "LateAndEarly$Write" (7 : Nat) "LateAndEarly$Write" "row" "I") ∈ lw_all := lw_g (lw_at lw_m4 3 rfl) rfl
theorem q857 : (Jvm.Cond.fieldLink "LateAndEarly$Write" (13 : Nat) "LateAndEarly$Write" "at" "LLateAndEarly$Operand;") ∈ lw_all := lw_g (lw_at lw_m4 6 rfl) rfl
theorem q861 : (Jvm.Cond.fieldLink "LateAndEarly$Write" (17 : Nat) "LateAndEarly$Write" "what" "LLateAndEarly$Operand;") ∈ lw_all := lw_g (lw_at lw_m4 10 rfl) rfl
theorem q865 : (Jvm.Cond.laysFinal "LateAndEarly$Write" "LateAndEarly$Write" "row" "I") ∈ lw_all := lw_g (lw_at lw_m4 14 rfl) rfl
theorem q866 : (Jvm.Cond.soleField "LateAndEarly$Write" "row") ∈ lw_all := lw_g (lw_at lw_m4 15 rfl) rfl
theorem q867 : (Jvm.Cond.laysFinal "LateAndEarly$Write" "LateAndEarly$Write" "at" "LLateAndEarly$Operand;") ∈ lw_all := lw_g (lw_at lw_m4 16 rfl) rfl
theorem q868 : (Jvm.Cond.soleField "LateAndEarly$Write" "at") ∈ lw_all := lw_g (lw_at lw_m4 17 rfl) rfl
theorem q869 : (Jvm.Cond.laysFinal "LateAndEarly$Write" "LateAndEarly$Write" "what" "LLateAndEarly$Operand;") ∈ lw_all := lw_g (lw_at lw_m4 18 rfl) rfl
theorem q870 : (Jvm.Cond.soleField "LateAndEarly$Write" "what") ∈ lw_all := lw_g (lw_at lw_m4 19 rfl) rfl
theorem q871 : (Jvm.Cond.lays "LateAndEarly$Write" "LateAndEarly$Node" "number" "I") ∈ lw_all := lw_g (lw_at lw_m4 20 rfl) rfl
theorem q872 : (Jvm.Cond.lays "LateAndEarly$Write" "LateAndEarly$Node" "block" "I") ∈ lw_all := lw_g (lw_at lw_m4 21 rfl) rfl
theorem q873 : (Jvm.Cond.laysFinal "LateAndEarly$Write" "LateAndEarly$Node" "next" "Ljava/util/ArrayList;") ∈ lw_all := lw_g (lw_at lw_m4 22 rfl) rfl
theorem q874 : (Jvm.Cond.laysFinal "LateAndEarly$Write" "LateAndEarly$Node" "before" "Ljava/util/ArrayList;") ∈ lw_all := lw_g (lw_at lw_m4 23 rfl) rfl
theorem q875 : (Jvm.Cond.superclass "LateAndEarly$Write" "LateAndEarly$Node") ∈ lw_all := lw_g (lw_at lw_m4 24 rfl) rfl
theorem q1041 : (Jvm.Cond.selects "LateAndEarly$Write" ({ cls := "LateAndEarly$Node", name := "leadsTo", desc := "(LLateAndEarly$Node;)V" } : Jvm.MethodName) ({ cls := "LateAndEarly$Node", name := "leadsTo", desc := "(LLateAndEarly$Node;)V" } : Jvm.MethodName)) ∈ lw_all := lw_g (lw_at lw_m4 190 rfl) rfl
theorem q1085 : (Jvm.Cond.selects "LateAndEarly$Write" ({ cls := "LateAndEarly$Node", name := "works", desc := "()LLateAndEarly$Sum;" } : Jvm.MethodName) ({ cls := "LateAndEarly$Node", name := "works", desc := "()LLateAndEarly$Sum;" } : Jvm.MethodName)) ∈ lw_all := lw_g (lw_at lw_m4 234 rfl) rfl
theorem q1124 : (Jvm.Cond.selects "LateAndEarly$Write" ({ cls := "LateAndEarly$Node", name := "kills", desc := "(LLateAndEarly$Sum;)Z" } : Jvm.MethodName) ({ cls := "LateAndEarly$Node", name := "kills", desc := "(LLateAndEarly$Sum;)Z" } : Jvm.MethodName)) ∈ lw_all := lw_g (lw_at lw_m5 33 rfl) rfl
theorem q1138 : (Jvm.Cond.selects "LateAndEarly$Write" ({ cls := "LateAndEarly$Node", name := "sets", desc := "()I" } : Jvm.MethodName) ({ cls := "LateAndEarly$Node", name := "sets", desc := "()I" } : Jvm.MethodName)) ∈ lw_all := lw_g (lw_at lw_m5 47 rfl) rfl
theorem q1178 : (Jvm.Cond.selects "LateAndEarly$Write" ({ cls := "LateAndEarly$Node", name := "writes", desc := "()I" } : Jvm.MethodName) ({ cls := "LateAndEarly$Write", name := "writes", desc := "()I" } : Jvm.MethodName)) ∈ lw_all := lw_g (lw_at lw_m5 87 rfl) rfl
theorem q1179 : (Jvm.Cond.instanceMethod ({ cls := "LateAndEarly$Write", name := "writes", desc := "()I" } : Jvm.MethodName)) ∈ lw_all := lw_g (lw_at lw_m5 88 rfl) rfl
theorem q1180 : (Jvm.Cond.code ({ cls := "LateAndEarly$Write", name := "writes", desc := "()I" } : Jvm.MethodName) prog_22_method_3_code (1 : Nat) (Option.some Jvm.ClassFile.FieldType.int)) ∈ lw_all := lw_g (lw_at lw_m5 89 rfl) rfl
theorem q1214 : (Jvm.Cond.selects "LateAndEarly$Write" ({ cls := "LateAndEarly$Node", name := "isSeen", desc := "()Z" } : Jvm.MethodName) ({ cls := "LateAndEarly$Write", name := "isSeen", desc := "()Z" } : Jvm.MethodName)) ∈ lw_all := lw_g (lw_at lw_m5 123 rfl) rfl
theorem q1215 : (Jvm.Cond.instanceMethod ({ cls := "LateAndEarly$Write", name := "isSeen", desc := "()Z" } : Jvm.MethodName)) ∈ lw_all := lw_g (lw_at lw_m5 124 rfl) rfl
theorem q1216 : (Jvm.Cond.code ({ cls := "LateAndEarly$Write", name := "isSeen", desc := "()Z" } : Jvm.MethodName) prog_22_method_4_code (1 : Nat) (Option.some Jvm.ClassFile.FieldType.boolean)) ∈ lw_all := lw_g (lw_at lw_m5 125 rfl) rfl
theorem q1293 : (Jvm.Cond.selects "LateAndEarly$Write" ({ cls := "LateAndEarly$Node", name := "kind", desc := "()I" } : Jvm.MethodName) ({ cls := "LateAndEarly$Write", name := "kind", desc := "()I" } : Jvm.MethodName)) ∈ lw_all := lw_g (lw_at lw_m5 202 rfl) rfl
theorem q1294 : (Jvm.Cond.instanceMethod ({ cls := "LateAndEarly$Write", name := "kind", desc := "()I" } : Jvm.MethodName)) ∈ lw_all := lw_g (lw_at lw_m5 203 rfl) rfl
theorem q1295 : (Jvm.Cond.code ({ cls := "LateAndEarly$Write", name := "kind", desc := "()I" } : Jvm.MethodName) prog_22_method_2_code (1 : Nat) (Option.some Jvm.ClassFile.FieldType.int)) ∈ lw_all := lw_g (lw_at lw_m5 204 rfl) rfl
theorem q2270 : (Jvm.Cond.castable "LateAndEarly$Write" "LateAndEarly$Node") ∈ lw_tbl := lw_at lw_m9 219 rfl
theorem q2286 : (Jvm.Cond.castable "LateAndEarly$Write" "java/lang/Object") ∈ lw_tbl := lw_at lw_m9 235 rfl
theorem in_X13 : ∀ w ∈ wsX130, w ∈ lw_all := lw_in wsX130 [871, 872, 873, 874, 865, 867, 869] (by decide +kernel) (by decide +kernel)
/-! LateAndEarly$Setting -/
set_option maxRecDepth 100000
def RX14 : String := "LateAndEarly$Setting"
abbrev cX14_init : ByteArray := prog_18_method_1_code
def yX14_init : MethodName := ⟨RX14, "<init>", "(I)V"⟩
def dkwX14_init_0 : List UInt8 := [42, 183, 0, 1, 42, 27, 181, 0, 7, 177]
abbrev dktX14_init_0 : List UInt8 := dkwX14_init_0 ++ []
theorem dksX14_init_0 : cX14_init.data.toList.drop 0 = dktX14_init_0 := by decide +kernel
theorem dX14_init_0 : decode cX14_init 0 = .ok (.aload_n 0, 1) := dk_42 (dk_at dksX14_init_0 0 rfl rfl)
theorem dX14_init_1 : decode cX14_init 1 = .ok (.invokespecial 1, 3) := dk_183 0 1 (dk_at dksX14_init_0 1 rfl rfl)
theorem dX14_init_4 : decode cX14_init 4 = .ok (.aload_n 0, 1) := dk_42 (dk_at dksX14_init_0 4 rfl rfl)
theorem dX14_init_5 : decode cX14_init 5 = .ok (.iload_n 1, 1) := dk_27 (dk_at dksX14_init_0 5 rfl rfl)
theorem dX14_init_6 : decode cX14_init 6 = .ok (.putfield 7, 3) := dk_181 0 7 (dk_at dksX14_init_0 6 rfl rfl)
theorem dX14_init_9 : decode cX14_init 9 = .ok (.return_, 1) := dk_177 (dk_at dksX14_init_0 9 rfl rfl)
abbrev cX14_sets : ByteArray := prog_18_method_2_code
def yX14_sets : MethodName := ⟨RX14, "sets", "()I"⟩
theorem dX14_sets_0 : decode cX14_sets 0 = .ok (.aload_n 0, 1) := by decide +kernel
theorem dX14_sets_1 : decode cX14_sets 1 = .ok (.getfield 7, 3) := by decide +kernel
theorem dX14_sets_4 : decode cX14_sets 4 = .ok (.ireturn, 1) := by decide +kernel
theorem q164 : (Jvm.Cond.initialized "LateAndEarly$Setting") ∈ lw_all := lw_g (lw_at lw_m1 33 rfl) rfl
theorem q913 : (Jvm.Cond.instanceMethod ({ cls := "LateAndEarly$Setting", name := "<init>", desc := "(I)V" } : Jvm.MethodName)) ∈ lw_all := lw_g (lw_at lw_m4 62 rfl) rfl
theorem q914 : (Jvm.Cond.code ({ cls := "LateAndEarly$Setting", name := "<init>", desc := "(I)V" } : Jvm.MethodName) prog_18_method_1_code (2 : Nat) (Option.none : Option Jvm.ClassFile.FieldType)) ∈ lw_all := lw_g (lw_at lw_m4 63 rfl) rfl
theorem q915 : (Jvm.Cond.methodLinkNest "LateAndEarly$Setting" (1 : Nat) ({ cls := "LateAndEarly$Node", name := "<init>", desc := "()V" } : Jvm.MethodName) "LateAndEarly") ∈ lw_tbl := lw_at lw_m4 64 rfl
theorem q920 : (Jvm.Cond.fieldLink "LateAndEarly$Setting" (7 : Nat) "LateAndEarly$Setting" "name" "I") ∈ lw_all := lw_g (lw_at lw_m4 69 rfl) rfl
theorem q930 : (Jvm.Cond.soleField "LateAndEarly$Setting" "name") ∈ lw_all := lw_g (lw_at lw_m4 79 rfl) rfl
theorem q1134 : (Jvm.Cond.instanceMethod ({ cls := "LateAndEarly$Setting", name := "sets", desc := "()I" } : Jvm.MethodName)) ∈ lw_all := lw_g (lw_at lw_m5 43 rfl) rfl
theorem q1135 : (Jvm.Cond.code ({ cls := "LateAndEarly$Setting", name := "sets", desc := "()I" } : Jvm.MethodName) prog_18_method_2_code (1 : Nat) (Option.some Jvm.ClassFile.FieldType.int)) ∈ lw_all := lw_g (lw_at lw_m5 44 rfl) rfl
/-! LateAndEarly$SetSum -/
set_option maxRecDepth 100000
def RX15 : String := "LateAndEarly$SetSum"
def TX15 : u_T := fun k => match k with
  | 0 => ("LateAndEarly$Setting", "name", "I", true)
  | 1 => ("LateAndEarly$Node", "number", "I", false)
  | 2 => ("LateAndEarly$Node", "block", "I", false)
  | 3 => ("LateAndEarly$Node", "next", "Ljava/util/ArrayList;", true)
  | 4 => ("LateAndEarly$Node", "before", "Ljava/util/ArrayList;", true)
  | _ => ("LateAndEarly$SetSum", "sum", "LLateAndEarly$Sum;", false)
def tyX15 : Nat → FieldType := fun k => match k with
  | 0 => .int
  | 1 => .int
  | 2 => .int
  | 3 => .object "java/util/ArrayList"
  | 4 => .object "java/util/ArrayList"
  | _ => .object "LateAndEarly$Sum"
abbrev wsX150 : List Cond := u_ws RX15 TX15 6
theorem nmX15 : ∀ a, a < 6 → ∀ b, b < 6 → a ≠ b → (TX15 a).2.1 ≠ (TX15 b).2.1 := by decide +kernel
theorem tyX15_ok : ∀ k, k < 6 → parseFieldDescriptor (TX15 k).2.2.1 = some (tyX15 k) := by decide +kernel
abbrev cX15_init : ByteArray := prog_17_method_1_code
def yX15_init : MethodName := ⟨RX15, "<init>", "(ILLateAndEarly$Sum;)V"⟩
def dkwX15_init_0 : List UInt8 := [42, 27, 183, 0, 1, 42, 44, 181, 0, 7, 177]
abbrev dktX15_init_0 : List UInt8 := dkwX15_init_0 ++ []
theorem dksX15_init_0 : cX15_init.data.toList.drop 0 = dktX15_init_0 := by decide +kernel
theorem dX15_init_0 : decode cX15_init 0 = .ok (.aload_n 0, 1) := dk_42 (dk_at dksX15_init_0 0 rfl rfl)
theorem dX15_init_1 : decode cX15_init 1 = .ok (.iload_n 1, 1) := dk_27 (dk_at dksX15_init_0 1 rfl rfl)
theorem dX15_init_2 : decode cX15_init 2 = .ok (.invokespecial 1, 3) := dk_183 0 1 (dk_at dksX15_init_0 2 rfl rfl)
theorem dX15_init_5 : decode cX15_init 5 = .ok (.aload_n 0, 1) := dk_42 (dk_at dksX15_init_0 5 rfl rfl)
theorem dX15_init_6 : decode cX15_init 6 = .ok (.aload_n 2, 1) := dk_44 (dk_at dksX15_init_0 6 rfl rfl)
theorem dX15_init_7 : decode cX15_init 7 = .ok (.putfield 7, 3) := dk_181 0 7 (dk_at dksX15_init_0 7 rfl rfl)
theorem dX15_init_10 : decode cX15_init 10 = .ok (.return_, 1) := dk_177 (dk_at dksX15_init_0 10 rfl rfl)
abbrev cX15_works : ByteArray := prog_17_method_3_code
def yX15_works : MethodName := ⟨RX15, "works", "()LLateAndEarly$Sum;"⟩
theorem dX15_works_0 : decode cX15_works 0 = .ok (.aload_n 0, 1) := by decide +kernel
theorem dX15_works_1 : decode cX15_works 1 = .ok (.getfield 7, 3) := by decide +kernel
theorem dX15_works_4 : decode cX15_works 4 = .ok (.areturn, 1) := by decide +kernel
abbrev cX15_kind : ByteArray := prog_17_method_2_code
def yX15_kind : MethodName := ⟨RX15, "kind", "()I"⟩
theorem dX15_kind_0 : decode cX15_kind 0 = .ok (.iconst 0, 1) := by decide +kernel
theorem dX15_kind_1 : decode cX15_kind 1 = .ok (.ireturn, 1) := by decide +kernel
theorem q165 : (Jvm.Cond.initialized "LateAndEarly$SetSum") ∈ lw_all := lw_g (lw_at lw_m1 34 rfl) rfl
theorem q647 : (Jvm.Cond.selects "LateAndEarly$SetSum" ({ cls := "java/lang/Object", name := "getClass", desc := "()Ljava/lang/Class;" } : Jvm.MethodName) ({ cls := "java/lang/Object", name := "getClass", desc := "()Ljava/lang/Class;" } : Jvm.MethodName)) ∈ lw_all := lw_g (lw_at lw_m3 36 rfl) rfl
theorem q881 : (Jvm.Cond.instantiable "LateAndEarly$SetSum" (6 : Nat)) ∈ lw_all := lw_g (lw_at lw_m4 30 rfl) rfl
theorem q910 : (Jvm.Cond.instanceMethod ({ cls := "LateAndEarly$SetSum", name := "<init>", desc := "(ILLateAndEarly$Sum;)V" } : Jvm.MethodName)) ∈ lw_all := lw_g (lw_at lw_m4 59 rfl) rfl
theorem q911 : (Jvm.Cond.code ({ cls := "LateAndEarly$SetSum", name := "<init>", desc := "(ILLateAndEarly$Sum;)V" } : Jvm.MethodName) prog_17_method_1_code (3 : Nat) (Option.none : Option Jvm.ClassFile.FieldType)) ∈ lw_all := lw_g (lw_at lw_m4 60 rfl) rfl
theorem q912 : (Jvm.Cond.methodLink "LateAndEarly$SetSum" (1 : Nat) ({ cls := "LateAndEarly$Setting", name := "<init>", desc := "(I)V" } : Jvm.MethodName)) ∈ lw_all := lw_g (lw_at lw_m4 61 rfl) rfl
theorem q916 : (Jvm.Cond.fieldLink "LateAndEarly$SetSum" (7 : Nat) "LateAndEarly$SetSum" "sum" "LLateAndEarly$Sum;") ∈ lw_all := lw_g (lw_at lw_m4 65 rfl) rfl
theorem q922 : (Jvm.Cond.sameField "LateAndEarly$SetSum" "LateAndEarly$Setting" "name" "I") ∈ lw_all := lw_g (lw_at lw_m4 71 rfl) rfl
theorem q927 : (Jvm.Cond.lays "LateAndEarly$SetSum" "LateAndEarly$SetSum" "sum" "LLateAndEarly$Sum;") ∈ lw_all := lw_g (lw_at lw_m4 76 rfl) rfl
theorem q928 : (Jvm.Cond.soleField "LateAndEarly$SetSum" "sum") ∈ lw_all := lw_g (lw_at lw_m4 77 rfl) rfl
theorem q929 : (Jvm.Cond.laysFinal "LateAndEarly$SetSum" "LateAndEarly$Setting" "name" "I") ∈ lw_all := lw_g (lw_at lw_m4 78 rfl) rfl
theorem q931 : (Jvm.Cond.lays "LateAndEarly$SetSum" "LateAndEarly$Node" "number" "I") ∈ lw_all := lw_g (lw_at lw_m4 80 rfl) rfl
theorem q932 : (Jvm.Cond.lays "LateAndEarly$SetSum" "LateAndEarly$Node" "block" "I") ∈ lw_all := lw_g (lw_at lw_m4 81 rfl) rfl
theorem q933 : (Jvm.Cond.laysFinal "LateAndEarly$SetSum" "LateAndEarly$Node" "next" "Ljava/util/ArrayList;") ∈ lw_all := lw_g (lw_at lw_m4 82 rfl) rfl
theorem q934 : (Jvm.Cond.laysFinal "LateAndEarly$SetSum" "LateAndEarly$Node" "before" "Ljava/util/ArrayList;") ∈ lw_all := lw_g (lw_at lw_m4 83 rfl) rfl
theorem q935 : (Jvm.Cond.superclass "LateAndEarly$SetSum" "LateAndEarly$Setting") ∈ lw_all := lw_g (lw_at lw_m4 84 rfl) rfl
theorem q1039 : (Jvm.Cond.selects "LateAndEarly$SetSum" ({ cls := "LateAndEarly$Node", name := "leadsTo", desc := "(LLateAndEarly$Node;)V" } : Jvm.MethodName) ({ cls := "LateAndEarly$Node", name := "leadsTo", desc := "(LLateAndEarly$Node;)V" } : Jvm.MethodName)) ∈ lw_all := lw_g (lw_at lw_m4 188 rfl) rfl
theorem q1081 : (Jvm.Cond.selects "LateAndEarly$SetSum" ({ cls := "LateAndEarly$Node", name := "works", desc := "()LLateAndEarly$Sum;" } : Jvm.MethodName) ({ cls := "LateAndEarly$SetSum", name := "works", desc := "()LLateAndEarly$Sum;" } : Jvm.MethodName)) ∈ lw_all := lw_g (lw_at lw_m4 230 rfl) rfl
theorem q1082 : (Jvm.Cond.instanceMethod ({ cls := "LateAndEarly$SetSum", name := "works", desc := "()LLateAndEarly$Sum;" } : Jvm.MethodName)) ∈ lw_all := lw_g (lw_at lw_m4 231 rfl) rfl
theorem q1083 : (Jvm.Cond.code ({ cls := "LateAndEarly$SetSum", name := "works", desc := "()LLateAndEarly$Sum;" } : Jvm.MethodName) prog_17_method_3_code (1 : Nat) (Option.some (Jvm.ClassFile.FieldType.object "LateAndEarly$Sum"))) ∈ lw_all := lw_g (lw_at lw_m4 232 rfl) rfl
theorem q1122 : (Jvm.Cond.selects "LateAndEarly$SetSum" ({ cls := "LateAndEarly$Node", name := "kills", desc := "(LLateAndEarly$Sum;)Z" } : Jvm.MethodName) ({ cls := "LateAndEarly$Node", name := "kills", desc := "(LLateAndEarly$Sum;)Z" } : Jvm.MethodName)) ∈ lw_all := lw_g (lw_at lw_m5 31 rfl) rfl
theorem q1136 : (Jvm.Cond.selects "LateAndEarly$SetSum" ({ cls := "LateAndEarly$Node", name := "sets", desc := "()I" } : Jvm.MethodName) ({ cls := "LateAndEarly$Setting", name := "sets", desc := "()I" } : Jvm.MethodName)) ∈ lw_all := lw_g (lw_at lw_m5 45 rfl) rfl
theorem q1176 : (Jvm.Cond.selects "LateAndEarly$SetSum" ({ cls := "LateAndEarly$Node", name := "writes", desc := "()I" } : Jvm.MethodName) ({ cls := "LateAndEarly$Node", name := "writes", desc := "()I" } : Jvm.MethodName)) ∈ lw_all := lw_g (lw_at lw_m5 85 rfl) rfl
theorem q1210 : (Jvm.Cond.selects "LateAndEarly$SetSum" ({ cls := "LateAndEarly$Node", name := "isSeen", desc := "()Z" } : Jvm.MethodName) ({ cls := "LateAndEarly$Node", name := "isSeen", desc := "()Z" } : Jvm.MethodName)) ∈ lw_all := lw_g (lw_at lw_m5 119 rfl) rfl
theorem q1287 : (Jvm.Cond.selects "LateAndEarly$SetSum" ({ cls := "LateAndEarly$Node", name := "kind", desc := "()I" } : Jvm.MethodName) ({ cls := "LateAndEarly$SetSum", name := "kind", desc := "()I" } : Jvm.MethodName)) ∈ lw_all := lw_g (lw_at lw_m5 196 rfl) rfl
theorem q1288 : (Jvm.Cond.instanceMethod ({ cls := "LateAndEarly$SetSum", name := "kind", desc := "()I" } : Jvm.MethodName)) ∈ lw_all := lw_g (lw_at lw_m5 197 rfl) rfl
theorem q1289 : (Jvm.Cond.code ({ cls := "LateAndEarly$SetSum", name := "kind", desc := "()I" } : Jvm.MethodName) prog_17_method_2_code (1 : Nat) (Option.some Jvm.ClassFile.FieldType.int)) ∈ lw_all := lw_g (lw_at lw_m5 198 rfl) rfl
theorem q2268 : (Jvm.Cond.castable "LateAndEarly$SetSum" "LateAndEarly$Node") ∈ lw_tbl := lw_at lw_m9 217 rfl
theorem q2287 : (Jvm.Cond.castable "LateAndEarly$SetSum" "java/lang/Object") ∈ lw_tbl := lw_at lw_m9 236 rfl
theorem in_X15 : ∀ w ∈ wsX150, w ∈ lw_all := lw_in wsX150 [929, 931, 932, 933, 934, 927] (by decide +kernel) (by decide +kernel)
/-! LateAndEarly$Sum -/
set_option maxRecDepth 100000
def RX16 : String := "LateAndEarly$Sum"
abbrev cX16_init : ByteArray := prog_19_method_1_code
def yX16_init : MethodName := ⟨RX16, "<init>", "()V"⟩
def dkwX16_init_0 : List UInt8 := [42, 183, 0, 3, 42, 2, 181, 0, 9, 177]
abbrev dktX16_init_0 : List UInt8 := dkwX16_init_0 ++ []
theorem dksX16_init_0 : cX16_init.data.toList.drop 0 = dktX16_init_0 := by decide +kernel
theorem dX16_init_0 : decode cX16_init 0 = .ok (.aload_n 0, 1) := dk_42 (dk_at dksX16_init_0 0 rfl rfl)
theorem dX16_init_1 : decode cX16_init 1 = .ok (.invokespecial 3, 3) := dk_183 0 3 (dk_at dksX16_init_0 1 rfl rfl)
theorem dX16_init_4 : decode cX16_init 4 = .ok (.aload_n 0, 1) := dk_42 (dk_at dksX16_init_0 4 rfl rfl)
theorem dX16_init_5 : decode cX16_init 5 = .ok (.iconst (-1), 1) := dk_2 (dk_at dksX16_init_0 5 rfl rfl)
theorem dX16_init_6 : decode cX16_init 6 = .ok (.putfield 9, 3) := dk_181 0 9 (dk_at dksX16_init_0 6 rfl rfl)
theorem dX16_init_9 : decode cX16_init 9 = .ok (.return_, 1) := dk_177 (dk_at dksX16_init_0 9 rfl rfl)
abbrev cX16_has : ByteArray := prog_19_method_8_code
def yX16_has : MethodName := ⟨RX16, "has", "(I)Z"⟩
def dkwX16_has_1 : List UInt8 := [182, 0, 19, 153, 0, 7, 4, 167, 0, 4, 3, 172]
abbrev dktX16_has_1 : List UInt8 := dkwX16_has_1 ++ []
def dkwX16_has_0 : List UInt8 := [42, 182, 0, 15, 198, 0, 14, 42, 182, 0, 15, 27, 182, 0, 19, 154, 0, 14, 42, 182, 0, 25, 27]
abbrev dktX16_has_0 : List UInt8 := dkwX16_has_0 ++ dktX16_has_1
theorem dksX16_has_0 : cX16_has.data.toList.drop 0 = dktX16_has_0 := by decide +kernel
theorem dksX16_has_1 : cX16_has.data.toList.drop 23 = dktX16_has_1 := dk_seg dksX16_has_0 23 rfl rfl
theorem dX16_has_0 : decode cX16_has 0 = .ok (.aload_n 0, 1) := dk_42 (dk_at dksX16_has_0 0 rfl rfl)
theorem dX16_has_1 : decode cX16_has 1 = .ok (.invokevirtual 15, 3) := dk_182 0 15 (dk_at dksX16_has_0 1 rfl rfl)
theorem dX16_has_4 : decode cX16_has 4 = .ok (.ifnull 14, 3) := dk_198 0 14 (dk_at dksX16_has_0 4 rfl rfl)
theorem dX16_has_7 : decode cX16_has 7 = .ok (.aload_n 0, 1) := dk_42 (dk_at dksX16_has_0 7 rfl rfl)
theorem dX16_has_8 : decode cX16_has 8 = .ok (.invokevirtual 15, 3) := dk_182 0 15 (dk_at dksX16_has_0 8 rfl rfl)
theorem dX16_has_11 : decode cX16_has 11 = .ok (.iload_n 1, 1) := dk_27 (dk_at dksX16_has_0 11 rfl rfl)
theorem dX16_has_12 : decode cX16_has 12 = .ok (.invokevirtual 19, 3) := dk_182 0 19 (dk_at dksX16_has_0 12 rfl rfl)
theorem dX16_has_15 : decode cX16_has 15 = .ok (.ifCond .ne 14, 3) := dk_154 0 14 (dk_at dksX16_has_0 15 rfl rfl)
theorem dX16_has_18 : decode cX16_has 18 = .ok (.aload_n 0, 1) := dk_42 (dk_at dksX16_has_0 18 rfl rfl)
theorem dX16_has_19 : decode cX16_has 19 = .ok (.invokevirtual 25, 3) := dk_182 0 25 (dk_at dksX16_has_0 19 rfl rfl)
theorem dX16_has_22 : decode cX16_has 22 = .ok (.iload_n 1, 1) := dk_27 (dk_at dksX16_has_0 22 rfl rfl)
theorem dX16_has_23 : decode cX16_has 23 = .ok (.invokevirtual 19, 3) := dk_182 0 19 (dk_at dksX16_has_1 0 rfl rfl)
theorem dX16_has_26 : decode cX16_has 26 = .ok (.ifCond .eq 7, 3) := dk_153 0 7 (dk_at dksX16_has_1 3 rfl rfl)
theorem dX16_has_29 : decode cX16_has 29 = .ok (.iconst 1, 1) := dk_4 (dk_at dksX16_has_1 6 rfl rfl)
theorem dX16_has_30 : decode cX16_has 30 = .ok (.goto 4, 3) := dk_167 0 4 (dk_at dksX16_has_1 7 rfl rfl)
theorem dX16_has_33 : decode cX16_has 33 = .ok (.iconst 0, 1) := dk_3 (dk_at dksX16_has_1 10 rfl rfl)
theorem dX16_has_34 : decode cX16_has 34 = .ok (.ireturn, 1) := dk_172 (dk_at dksX16_has_1 11 rfl rfl)
abbrev cX16_isOfRow : ByteArray := prog_19_method_7_code
def yX16_isOfRow : MethodName := ⟨RX16, "isOfRow", "(I)Z"⟩
theorem dX16_isOfRow_0 : decode cX16_isOfRow 0 = .ok (.iconst 0, 1) := by decide +kernel
theorem dX16_isOfRow_1 : decode cX16_isOfRow 1 = .ok (.ireturn, 1) := by decide +kernel
abbrev cX16_isBold : ByteArray := prog_19_method_6_code
def yX16_isBold : MethodName := ⟨RX16, "isBold", "()Z"⟩
theorem dX16_isBold_0 : decode cX16_isBold 0 = .ok (.iconst 0, 1) := by decide +kernel
theorem dX16_isBold_1 : decode cX16_isBold 1 = .ok (.ireturn, 1) := by decide +kernel
theorem q166 : (Jvm.Cond.initialized "LateAndEarly$Sum") ∈ lw_all := lw_g (lw_at lw_m1 35 rfl) rfl
theorem q888 : (Jvm.Cond.instanceMethod ({ cls := "LateAndEarly$Sum", name := "<init>", desc := "()V" } : Jvm.MethodName)) ∈ lw_all := lw_g (lw_at lw_m4 37 rfl) rfl
theorem q889 : (Jvm.Cond.code ({ cls := "LateAndEarly$Sum", name := "<init>", desc := "()V" } : Jvm.MethodName) prog_19_method_1_code (1 : Nat) (Option.none : Option Jvm.ClassFile.FieldType)) ∈ lw_all := lw_g (lw_at lw_m4 38 rfl) rfl
theorem q890 : (Jvm.Cond.methodLink "LateAndEarly$Sum" (3 : Nat) ({ cls := "java/lang/Object", name := "<init>", desc := "()V" } : Jvm.MethodName)) ∈ lw_all := lw_g (lw_at lw_m4 39 rfl) rfl
theorem q897 : (Jvm.Cond.fieldLink "LateAndEarly$Sum" (9 : Nat) "LateAndEarly$Sum" "number" "I") ∈ lw_all := lw_g (lw_at lw_m4 46 rfl) rfl
theorem q907 : (Jvm.Cond.soleField "LateAndEarly$Sum" "number") ∈ lw_all := lw_g (lw_at lw_m4 56 rfl) rfl
theorem q1094 : (Jvm.Cond.declares ({ cls := "LateAndEarly$Sum", name := "isLike", desc := "(LLateAndEarly$Sum;)Z" } : Jvm.MethodName)) ∈ lw_tbl := lw_at lw_m5 3 rfl
theorem q1095 : (Jvm.Cond.sameMethod "LateAndEarly$Sum" "LateAndEarly$Sum" "isLike" "(LLateAndEarly$Sum;)Z") ∈ lw_all := lw_g (lw_at lw_m5 4 rfl) rfl
theorem q1141 : (Jvm.Cond.instanceMethod ({ cls := "LateAndEarly$Sum", name := "has", desc := "(I)Z" } : Jvm.MethodName)) ∈ lw_all := lw_g (lw_at lw_m5 50 rfl) rfl
theorem q1142 : (Jvm.Cond.sameMethod "LateAndEarly$Sum" "LateAndEarly$Sum" "has" "(I)Z") ∈ lw_all := lw_g (lw_at lw_m5 51 rfl) rfl
theorem q1145 : (Jvm.Cond.code ({ cls := "LateAndEarly$Sum", name := "has", desc := "(I)Z" } : Jvm.MethodName) prog_19_method_8_code (2 : Nat) (Option.some Jvm.ClassFile.FieldType.boolean)) ∈ lw_all := lw_g (lw_at lw_m5 54 rfl) rfl
theorem q1146 : (Jvm.Cond.methodLink "LateAndEarly$Sum" (15 : Nat) ({ cls := "LateAndEarly$Sum", name := "first", desc := "()LLateAndEarly$Operand;" } : Jvm.MethodName)) ∈ lw_all := lw_g (lw_at lw_m5 55 rfl) rfl
theorem q1147 : (Jvm.Cond.declares ({ cls := "LateAndEarly$Sum", name := "first", desc := "()LLateAndEarly$Operand;" } : Jvm.MethodName)) ∈ lw_tbl := lw_at lw_m5 56 rfl
theorem q1148 : (Jvm.Cond.sameMethod "LateAndEarly$Sum" "LateAndEarly$Sum" "first" "()LLateAndEarly$Operand;") ∈ lw_all := lw_g (lw_at lw_m5 57 rfl) rfl
theorem q1155 : (Jvm.Cond.methodLink "LateAndEarly$Sum" (19 : Nat) ({ cls := "LateAndEarly$Operand", name := "isName", desc := "(I)Z" } : Jvm.MethodName)) ∈ lw_all := lw_g (lw_at lw_m5 64 rfl) rfl
theorem q1159 : (Jvm.Cond.methodLink "LateAndEarly$Sum" (25 : Nat) ({ cls := "LateAndEarly$Sum", name := "second", desc := "()LLateAndEarly$Operand;" } : Jvm.MethodName)) ∈ lw_all := lw_g (lw_at lw_m5 68 rfl) rfl
theorem q1160 : (Jvm.Cond.declares ({ cls := "LateAndEarly$Sum", name := "second", desc := "()LLateAndEarly$Operand;" } : Jvm.MethodName)) ∈ lw_tbl := lw_at lw_m5 69 rfl
theorem q1161 : (Jvm.Cond.sameMethod "LateAndEarly$Sum" "LateAndEarly$Sum" "second" "()LLateAndEarly$Operand;") ∈ lw_all := lw_g (lw_at lw_m5 70 rfl) rfl
theorem q1183 : (Jvm.Cond.instanceMethod ({ cls := "LateAndEarly$Sum", name := "isOfRow", desc := "(I)Z" } : Jvm.MethodName)) ∈ lw_all := lw_g (lw_at lw_m5 92 rfl) rfl
theorem q1184 : (Jvm.Cond.sameMethod "LateAndEarly$Sum" "LateAndEarly$Sum" "isOfRow" "(I)Z") ∈ lw_all := lw_g (lw_at lw_m5 93 rfl) rfl
theorem q1189 : (Jvm.Cond.code ({ cls := "LateAndEarly$Sum", name := "isOfRow", desc := "(I)Z" } : Jvm.MethodName) prog_19_method_7_code (2 : Nat) (Option.some Jvm.ClassFile.FieldType.boolean)) ∈ lw_all := lw_g (lw_at lw_m5 98 rfl) rfl
theorem q1220 : (Jvm.Cond.instanceMethod ({ cls := "LateAndEarly$Sum", name := "isBold", desc := "()Z" } : Jvm.MethodName)) ∈ lw_all := lw_g (lw_at lw_m5 129 rfl) rfl
theorem q1221 : (Jvm.Cond.sameMethod "LateAndEarly$Sum" "LateAndEarly$Sum" "isBold" "()Z") ∈ lw_all := lw_g (lw_at lw_m5 130 rfl) rfl
theorem q1228 : (Jvm.Cond.code ({ cls := "LateAndEarly$Sum", name := "isBold", desc := "()Z" } : Jvm.MethodName) prog_19_method_6_code (1 : Nat) (Option.some Jvm.ClassFile.FieldType.boolean)) ∈ lw_all := lw_g (lw_at lw_m5 137 rfl) rfl
theorem q1307 : (Jvm.Cond.declares ({ cls := "LateAndEarly$Sum", name := "sign", desc := "()I" } : Jvm.MethodName)) ∈ lw_tbl := lw_at lw_m5 216 rfl
theorem q1308 : (Jvm.Cond.sameMethod "LateAndEarly$Sum" "LateAndEarly$Sum" "sign" "()I") ∈ lw_all := lw_g (lw_at lw_m5 217 rfl) rfl
theorem q1316 : (Jvm.Cond.declares ({ cls := "LateAndEarly$Sum", name := "toldFirst", desc := "()I" } : Jvm.MethodName)) ∈ lw_tbl := lw_at lw_m5 225 rfl
theorem q1317 : (Jvm.Cond.sameMethod "LateAndEarly$Sum" "LateAndEarly$Sum" "toldFirst" "()I") ∈ lw_all := lw_g (lw_at lw_m5 226 rfl) rfl
/-! LateAndEarly$Read -/
set_option maxRecDepth 100000
def RX17 : String := "LateAndEarly$Read"
def TX17 : u_T := fun k => match k with
  | 0 => ("LateAndEarly$Sum", "number", "I", false)
  | 1 => ("LateAndEarly$Read", "row", "I", true)
  | _ => ("LateAndEarly$Read", "at", "LLateAndEarly$Operand;", true)
def tyX17 : Nat → FieldType := fun k => match k with
  | 0 => .int
  | 1 => .int
  | _ => .object "LateAndEarly$Operand"
abbrev wsX170 : List Cond := u_ws RX17 TX17 3
theorem nmX17 : ∀ a, a < 3 → ∀ b, b < 3 → a ≠ b → (TX17 a).2.1 ≠ (TX17 b).2.1 := by decide +kernel
theorem tyX17_ok : ∀ k, k < 3 → parseFieldDescriptor (TX17 k).2.2.1 = some (tyX17 k) := by decide +kernel
abbrev cX17_init : ByteArray := prog_11_method_1_code
def yX17_init : MethodName := ⟨RX17, "<init>", "(ILLateAndEarly$Operand;)V"⟩
def dkwX17_init_0 : List UInt8 := [42, 183, 0, 1, 42, 27, 181, 0, 7, 42, 44, 181, 0, 13, 177]
abbrev dktX17_init_0 : List UInt8 := dkwX17_init_0 ++ []
theorem dksX17_init_0 : cX17_init.data.toList.drop 0 = dktX17_init_0 := by decide +kernel
theorem dX17_init_0 : decode cX17_init 0 = .ok (.aload_n 0, 1) := dk_42 (dk_at dksX17_init_0 0 rfl rfl)
theorem dX17_init_1 : decode cX17_init 1 = .ok (.invokespecial 1, 3) := dk_183 0 1 (dk_at dksX17_init_0 1 rfl rfl)
theorem dX17_init_4 : decode cX17_init 4 = .ok (.aload_n 0, 1) := dk_42 (dk_at dksX17_init_0 4 rfl rfl)
theorem dX17_init_5 : decode cX17_init 5 = .ok (.iload_n 1, 1) := dk_27 (dk_at dksX17_init_0 5 rfl rfl)
theorem dX17_init_6 : decode cX17_init 6 = .ok (.putfield 7, 3) := dk_181 0 7 (dk_at dksX17_init_0 6 rfl rfl)
theorem dX17_init_9 : decode cX17_init 9 = .ok (.aload_n 0, 1) := dk_42 (dk_at dksX17_init_0 9 rfl rfl)
theorem dX17_init_10 : decode cX17_init 10 = .ok (.aload_n 2, 1) := dk_44 (dk_at dksX17_init_0 10 rfl rfl)
theorem dX17_init_11 : decode cX17_init 11 = .ok (.putfield 13, 3) := dk_181 0 13 (dk_at dksX17_init_0 11 rfl rfl)
theorem dX17_init_14 : decode cX17_init 14 = .ok (.return_, 1) := dk_177 (dk_at dksX17_init_0 14 rfl rfl)
abbrev cX17_isLike : ByteArray := prog_11_method_5_code
def yX17_isLike : MethodName := ⟨RX17, "isLike", "(LLateAndEarly$Sum;)Z"⟩
def dkwX17_isLike_1 : List UInt8 := [180, 0, 13, 44, 180, 0, 13, 182, 0, 17, 153, 0, 7, 4, 167, 0, 4, 3, 172]
abbrev dktX17_isLike_1 : List UInt8 := dkwX17_isLike_1 ++ []
def dkwX17_isLike_0 : List UInt8 := [43, 193, 0, 8, 153, 0, 37, 43, 192, 0, 8, 77, 44, 180, 0, 7, 42, 180, 0, 7, 160, 0, 21, 42]
abbrev dktX17_isLike_0 : List UInt8 := dkwX17_isLike_0 ++ dktX17_isLike_1
theorem dksX17_isLike_0 : cX17_isLike.data.toList.drop 0 = dktX17_isLike_0 := by decide +kernel
theorem dksX17_isLike_1 : cX17_isLike.data.toList.drop 24 = dktX17_isLike_1 := dk_seg dksX17_isLike_0 24 rfl rfl
theorem dX17_isLike_0 : decode cX17_isLike 0 = .ok (.aload_n 1, 1) := dk_43 (dk_at dksX17_isLike_0 0 rfl rfl)
theorem dX17_isLike_1 : decode cX17_isLike 1 = .ok (.instanceof 8, 3) := dk_193 0 8 (dk_at dksX17_isLike_0 1 rfl rfl)
theorem dX17_isLike_4 : decode cX17_isLike 4 = .ok (.ifCond .eq 37, 3) := dk_153 0 37 (dk_at dksX17_isLike_0 4 rfl rfl)
theorem dX17_isLike_7 : decode cX17_isLike 7 = .ok (.aload_n 1, 1) := dk_43 (dk_at dksX17_isLike_0 7 rfl rfl)
theorem dX17_isLike_8 : decode cX17_isLike 8 = .ok (.checkcast 8, 3) := dk_192 0 8 (dk_at dksX17_isLike_0 8 rfl rfl)
theorem dX17_isLike_11 : decode cX17_isLike 11 = .ok (.astore_n 2, 1) := dk_77 (dk_at dksX17_isLike_0 11 rfl rfl)
theorem dX17_isLike_12 : decode cX17_isLike 12 = .ok (.aload_n 2, 1) := dk_44 (dk_at dksX17_isLike_0 12 rfl rfl)
theorem dX17_isLike_13 : decode cX17_isLike 13 = .ok (.getfield 7, 3) := dk_180 0 7 (dk_at dksX17_isLike_0 13 rfl rfl)
theorem dX17_isLike_16 : decode cX17_isLike 16 = .ok (.aload_n 0, 1) := dk_42 (dk_at dksX17_isLike_0 16 rfl rfl)
theorem dX17_isLike_17 : decode cX17_isLike 17 = .ok (.getfield 7, 3) := dk_180 0 7 (dk_at dksX17_isLike_0 17 rfl rfl)
theorem dX17_isLike_20 : decode cX17_isLike 20 = .ok (.if_icmp .ne 21, 3) := dk_160 0 21 (dk_at dksX17_isLike_0 20 rfl rfl)
theorem dX17_isLike_23 : decode cX17_isLike 23 = .ok (.aload_n 0, 1) := dk_42 (dk_at dksX17_isLike_0 23 rfl rfl)
theorem dX17_isLike_24 : decode cX17_isLike 24 = .ok (.getfield 13, 3) := dk_180 0 13 (dk_at dksX17_isLike_1 0 rfl rfl)
theorem dX17_isLike_27 : decode cX17_isLike 27 = .ok (.aload_n 2, 1) := dk_44 (dk_at dksX17_isLike_1 3 rfl rfl)
theorem dX17_isLike_28 : decode cX17_isLike 28 = .ok (.getfield 13, 3) := dk_180 0 13 (dk_at dksX17_isLike_1 4 rfl rfl)
theorem dX17_isLike_31 : decode cX17_isLike 31 = .ok (.invokevirtual 17, 3) := dk_182 0 17 (dk_at dksX17_isLike_1 7 rfl rfl)
theorem dX17_isLike_34 : decode cX17_isLike 34 = .ok (.ifCond .eq 7, 3) := dk_153 0 7 (dk_at dksX17_isLike_1 10 rfl rfl)
theorem dX17_isLike_37 : decode cX17_isLike 37 = .ok (.iconst 1, 1) := dk_4 (dk_at dksX17_isLike_1 13 rfl rfl)
theorem dX17_isLike_38 : decode cX17_isLike 38 = .ok (.goto 4, 3) := dk_167 0 4 (dk_at dksX17_isLike_1 14 rfl rfl)
theorem dX17_isLike_41 : decode cX17_isLike 41 = .ok (.iconst 0, 1) := dk_3 (dk_at dksX17_isLike_1 17 rfl rfl)
theorem dX17_isLike_42 : decode cX17_isLike 42 = .ok (.ireturn, 1) := dk_172 (dk_at dksX17_isLike_1 18 rfl rfl)
abbrev cX17_first : ByteArray := prog_11_method_3_code
def yX17_first : MethodName := ⟨RX17, "first", "()LLateAndEarly$Operand;"⟩
theorem dX17_first_0 : decode cX17_first 0 = .ok (.aconst_null, 1) := by decide +kernel
theorem dX17_first_1 : decode cX17_first 1 = .ok (.areturn, 1) := by decide +kernel
abbrev cX17_second : ByteArray := prog_11_method_4_code
def yX17_second : MethodName := ⟨RX17, "second", "()LLateAndEarly$Operand;"⟩
theorem dX17_second_0 : decode cX17_second 0 = .ok (.aload_n 0, 1) := by decide +kernel
theorem dX17_second_1 : decode cX17_second 1 = .ok (.getfield 13, 3) := by decide +kernel
theorem dX17_second_4 : decode cX17_second 4 = .ok (.areturn, 1) := by decide +kernel
abbrev cX17_isOfRow : ByteArray := prog_11_method_7_code
def yX17_isOfRow : MethodName := ⟨RX17, "isOfRow", "(I)Z"⟩
def dkwX17_isOfRow_0 : List UInt8 := [27, 42, 180, 0, 7, 160, 0, 7, 4, 167, 0, 4, 3, 172]
abbrev dktX17_isOfRow_0 : List UInt8 := dkwX17_isOfRow_0 ++ []
theorem dksX17_isOfRow_0 : cX17_isOfRow.data.toList.drop 0 = dktX17_isOfRow_0 := by decide +kernel
theorem dX17_isOfRow_0 : decode cX17_isOfRow 0 = .ok (.iload_n 1, 1) := dk_27 (dk_at dksX17_isOfRow_0 0 rfl rfl)
theorem dX17_isOfRow_1 : decode cX17_isOfRow 1 = .ok (.aload_n 0, 1) := dk_42 (dk_at dksX17_isOfRow_0 1 rfl rfl)
theorem dX17_isOfRow_2 : decode cX17_isOfRow 2 = .ok (.getfield 7, 3) := dk_180 0 7 (dk_at dksX17_isOfRow_0 2 rfl rfl)
theorem dX17_isOfRow_5 : decode cX17_isOfRow 5 = .ok (.if_icmp .ne 7, 3) := dk_160 0 7 (dk_at dksX17_isOfRow_0 5 rfl rfl)
theorem dX17_isOfRow_8 : decode cX17_isOfRow 8 = .ok (.iconst 1, 1) := dk_4 (dk_at dksX17_isOfRow_0 8 rfl rfl)
theorem dX17_isOfRow_9 : decode cX17_isOfRow 9 = .ok (.goto 4, 3) := dk_167 0 4 (dk_at dksX17_isOfRow_0 9 rfl rfl)
theorem dX17_isOfRow_12 : decode cX17_isOfRow 12 = .ok (.iconst 0, 1) := dk_3 (dk_at dksX17_isOfRow_0 12 rfl rfl)
theorem dX17_isOfRow_13 : decode cX17_isOfRow 13 = .ok (.ireturn, 1) := dk_172 (dk_at dksX17_isOfRow_0 13 rfl rfl)
abbrev cX17_isBold : ByteArray := prog_11_method_6_code
def yX17_isBold : MethodName := ⟨RX17, "isBold", "()Z"⟩
theorem dX17_isBold_0 : decode cX17_isBold 0 = .ok (.iconst 1, 1) := by decide +kernel
theorem dX17_isBold_1 : decode cX17_isBold 1 = .ok (.ireturn, 1) := by decide +kernel
abbrev cX17_sign : ByteArray := prog_11_method_2_code
def yX17_sign : MethodName := ⟨RX17, "sign", "()I"⟩
theorem dX17_sign_0 : decode cX17_sign 0 = .ok (.bipush 114, 2) := by decide +kernel
theorem dX17_sign_2 : decode cX17_sign 2 = .ok (.ireturn, 1) := by decide +kernel
abbrev cX17_toldFirst : ByteArray := prog_11_method_8_code
def yX17_toldFirst : MethodName := ⟨RX17, "toldFirst", "()I"⟩
theorem dX17_toldFirst_0 : decode cX17_toldFirst 0 = .ok (.aload_n 0, 1) := by decide +kernel
theorem dX17_toldFirst_1 : decode cX17_toldFirst 1 = .ok (.getfield 7, 3) := by decide +kernel
theorem dX17_toldFirst_4 : decode cX17_toldFirst 4 = .ok (.ireturn, 1) := by decide +kernel
theorem q167 : (Jvm.Cond.initialized "LateAndEarly$Read") ∈ lw_all := lw_g (lw_at lw_m1 36 rfl) rfl
theorem q641 : (Jvm.Cond.selects "LateAndEarly$Read" ({ cls := "java/lang/Object", name := "getClass", desc := "()Ljava/lang/Class;" } : Jvm.MethodName) ({ cls := "java/lang/Object", name := "getClass", desc := "()Ljava/lang/Class;" } : Jvm.MethodName)) ∈ lw_all := lw_g (lw_at lw_m3 30 rfl) rfl
theorem q883 : (Jvm.Cond.instantiable "LateAndEarly$Read" (3 : Nat)) ∈ lw_all := lw_g (lw_at lw_m4 32 rfl) rfl
theorem q885 : (Jvm.Cond.instanceMethod ({ cls := "LateAndEarly$Read", name := "<init>", desc := "(ILLateAndEarly$Operand;)V" } : Jvm.MethodName)) ∈ lw_all := lw_g (lw_at lw_m4 34 rfl) rfl
theorem q886 : (Jvm.Cond.code ({ cls := "LateAndEarly$Read", name := "<init>", desc := "(ILLateAndEarly$Operand;)V" } : Jvm.MethodName) prog_11_method_1_code (3 : Nat) (Option.none : Option Jvm.ClassFile.FieldType)) ∈ lw_all := lw_g (lw_at lw_m4 35 rfl) rfl
theorem q887 : (Jvm.Cond.methodLinkNest "LateAndEarly$Read" (1 : Nat) ({ cls := "LateAndEarly$Sum", name := "<init>", desc := "()V" } : Jvm.MethodName) "LateAndEarly") ∈ lw_tbl := lw_at lw_m4 36 rfl
theorem q891 : (Jvm.Cond.fieldLink "LateAndEarly$Read" (7 : Nat) "LateAndEarly$Read" "row" "I") ∈ lw_all := lw_g (lw_at lw_m4 40 rfl) rfl
theorem q894 : (Jvm.Cond.fieldLink "LateAndEarly$Read" (13 : Nat) "LateAndEarly$Read" "at" "LLateAndEarly$Operand;") ∈ lw_all := lw_g (lw_at lw_m4 43 rfl) rfl
theorem q902 : (Jvm.Cond.laysFinal "LateAndEarly$Read" "LateAndEarly$Read" "row" "I") ∈ lw_all := lw_g (lw_at lw_m4 51 rfl) rfl
theorem q903 : (Jvm.Cond.soleField "LateAndEarly$Read" "row") ∈ lw_all := lw_g (lw_at lw_m4 52 rfl) rfl
theorem q904 : (Jvm.Cond.laysFinal "LateAndEarly$Read" "LateAndEarly$Read" "at" "LLateAndEarly$Operand;") ∈ lw_all := lw_g (lw_at lw_m4 53 rfl) rfl
theorem q905 : (Jvm.Cond.soleField "LateAndEarly$Read" "at") ∈ lw_all := lw_g (lw_at lw_m4 54 rfl) rfl
theorem q906 : (Jvm.Cond.lays "LateAndEarly$Read" "LateAndEarly$Sum" "number" "I") ∈ lw_all := lw_g (lw_at lw_m4 55 rfl) rfl
theorem q908 : (Jvm.Cond.superclass "LateAndEarly$Read" "LateAndEarly$Sum") ∈ lw_all := lw_g (lw_at lw_m4 57 rfl) rfl
theorem q1104 : (Jvm.Cond.selects "LateAndEarly$Read" ({ cls := "LateAndEarly$Sum", name := "isLike", desc := "(LLateAndEarly$Sum;)Z" } : Jvm.MethodName) ({ cls := "LateAndEarly$Read", name := "isLike", desc := "(LLateAndEarly$Sum;)Z" } : Jvm.MethodName)) ∈ lw_all := lw_g (lw_at lw_m5 13 rfl) rfl
theorem q1105 : (Jvm.Cond.instanceMethod ({ cls := "LateAndEarly$Read", name := "isLike", desc := "(LLateAndEarly$Sum;)Z" } : Jvm.MethodName)) ∈ lw_all := lw_g (lw_at lw_m5 14 rfl) rfl
theorem q1106 : (Jvm.Cond.code ({ cls := "LateAndEarly$Read", name := "isLike", desc := "(LLateAndEarly$Sum;)Z" } : Jvm.MethodName) prog_11_method_5_code (3 : Nat) (Option.some Jvm.ClassFile.FieldType.boolean)) ∈ lw_all := lw_g (lw_at lw_m5 15 rfl) rfl
theorem q1107 : (Jvm.Cond.classLink "LateAndEarly$Read" (8 : Nat) "LateAndEarly$Read") ∈ lw_all := lw_g (lw_at lw_m5 16 rfl) rfl
theorem q1108 : (Jvm.Cond.methodLink "LateAndEarly$Read" (17 : Nat) ({ cls := "LateAndEarly$Operand", name := "isLike", desc := "(LLateAndEarly$Operand;)Z" } : Jvm.MethodName)) ∈ lw_all := lw_g (lw_at lw_m5 17 rfl) rfl
theorem q1144 : (Jvm.Cond.selects "LateAndEarly$Read" ({ cls := "LateAndEarly$Sum", name := "has", desc := "(I)Z" } : Jvm.MethodName) ({ cls := "LateAndEarly$Sum", name := "has", desc := "(I)Z" } : Jvm.MethodName)) ∈ lw_all := lw_g (lw_at lw_m5 53 rfl) rfl
theorem q1152 : (Jvm.Cond.selects "LateAndEarly$Read" ({ cls := "LateAndEarly$Sum", name := "first", desc := "()LLateAndEarly$Operand;" } : Jvm.MethodName) ({ cls := "LateAndEarly$Read", name := "first", desc := "()LLateAndEarly$Operand;" } : Jvm.MethodName)) ∈ lw_all := lw_g (lw_at lw_m5 61 rfl) rfl
theorem q1153 : (Jvm.Cond.instanceMethod ({ cls := "LateAndEarly$Read", name := "first", desc := "()LLateAndEarly$Operand;" } : Jvm.MethodName)) ∈ lw_all := lw_g (lw_at lw_m5 62 rfl) rfl
theorem q1154 : (Jvm.Cond.code ({ cls := "LateAndEarly$Read", name := "first", desc := "()LLateAndEarly$Operand;" } : Jvm.MethodName) prog_11_method_3_code (1 : Nat) (Option.some (Jvm.ClassFile.FieldType.object "LateAndEarly$Operand"))) ∈ lw_all := lw_g (lw_at lw_m5 63 rfl) rfl
theorem q1165 : (Jvm.Cond.selects "LateAndEarly$Read" ({ cls := "LateAndEarly$Sum", name := "second", desc := "()LLateAndEarly$Operand;" } : Jvm.MethodName) ({ cls := "LateAndEarly$Read", name := "second", desc := "()LLateAndEarly$Operand;" } : Jvm.MethodName)) ∈ lw_all := lw_g (lw_at lw_m5 74 rfl) rfl
theorem q1166 : (Jvm.Cond.instanceMethod ({ cls := "LateAndEarly$Read", name := "second", desc := "()LLateAndEarly$Operand;" } : Jvm.MethodName)) ∈ lw_all := lw_g (lw_at lw_m5 75 rfl) rfl
theorem q1167 : (Jvm.Cond.code ({ cls := "LateAndEarly$Read", name := "second", desc := "()LLateAndEarly$Operand;" } : Jvm.MethodName) prog_11_method_4_code (1 : Nat) (Option.some (Jvm.ClassFile.FieldType.object "LateAndEarly$Operand"))) ∈ lw_all := lw_g (lw_at lw_m5 76 rfl) rfl
theorem q1186 : (Jvm.Cond.selects "LateAndEarly$Read" ({ cls := "LateAndEarly$Sum", name := "isOfRow", desc := "(I)Z" } : Jvm.MethodName) ({ cls := "LateAndEarly$Read", name := "isOfRow", desc := "(I)Z" } : Jvm.MethodName)) ∈ lw_all := lw_g (lw_at lw_m5 95 rfl) rfl
theorem q1187 : (Jvm.Cond.instanceMethod ({ cls := "LateAndEarly$Read", name := "isOfRow", desc := "(I)Z" } : Jvm.MethodName)) ∈ lw_all := lw_g (lw_at lw_m5 96 rfl) rfl
theorem q1188 : (Jvm.Cond.code ({ cls := "LateAndEarly$Read", name := "isOfRow", desc := "(I)Z" } : Jvm.MethodName) prog_11_method_7_code (2 : Nat) (Option.some Jvm.ClassFile.FieldType.boolean)) ∈ lw_all := lw_g (lw_at lw_m5 97 rfl) rfl
theorem q1225 : (Jvm.Cond.selects "LateAndEarly$Read" ({ cls := "LateAndEarly$Sum", name := "isBold", desc := "()Z" } : Jvm.MethodName) ({ cls := "LateAndEarly$Read", name := "isBold", desc := "()Z" } : Jvm.MethodName)) ∈ lw_all := lw_g (lw_at lw_m5 134 rfl) rfl
theorem q1226 : (Jvm.Cond.instanceMethod ({ cls := "LateAndEarly$Read", name := "isBold", desc := "()Z" } : Jvm.MethodName)) ∈ lw_all := lw_g (lw_at lw_m5 135 rfl) rfl
theorem q1227 : (Jvm.Cond.code ({ cls := "LateAndEarly$Read", name := "isBold", desc := "()Z" } : Jvm.MethodName) prog_11_method_6_code (1 : Nat) (Option.some Jvm.ClassFile.FieldType.boolean)) ∈ lw_all := lw_g (lw_at lw_m5 136 rfl) rfl
theorem q1312 : (Jvm.Cond.selects "LateAndEarly$Read" ({ cls := "LateAndEarly$Sum", name := "sign", desc := "()I" } : Jvm.MethodName) ({ cls := "LateAndEarly$Read", name := "sign", desc := "()I" } : Jvm.MethodName)) ∈ lw_all := lw_g (lw_at lw_m5 221 rfl) rfl
theorem q1313 : (Jvm.Cond.instanceMethod ({ cls := "LateAndEarly$Read", name := "sign", desc := "()I" } : Jvm.MethodName)) ∈ lw_all := lw_g (lw_at lw_m5 222 rfl) rfl
theorem q1314 : (Jvm.Cond.code ({ cls := "LateAndEarly$Read", name := "sign", desc := "()I" } : Jvm.MethodName) prog_11_method_2_code (1 : Nat) (Option.some Jvm.ClassFile.FieldType.int)) ∈ lw_all := lw_g (lw_at lw_m5 223 rfl) rfl
theorem q1327 : (Jvm.Cond.selects "LateAndEarly$Read" ({ cls := "LateAndEarly$Sum", name := "toldFirst", desc := "()I" } : Jvm.MethodName) ({ cls := "LateAndEarly$Read", name := "toldFirst", desc := "()I" } : Jvm.MethodName)) ∈ lw_all := lw_g (lw_at lw_m5 236 rfl) rfl
theorem q1328 : (Jvm.Cond.instanceMethod ({ cls := "LateAndEarly$Read", name := "toldFirst", desc := "()I" } : Jvm.MethodName)) ∈ lw_all := lw_g (lw_at lw_m5 237 rfl) rfl
theorem q1329 : (Jvm.Cond.code ({ cls := "LateAndEarly$Read", name := "toldFirst", desc := "()I" } : Jvm.MethodName) prog_11_method_8_code (1 : Nat) (Option.some Jvm.ClassFile.FieldType.int)) ∈ lw_all := lw_g (lw_at lw_m5 238 rfl) rfl
theorem q2272 : (Jvm.Cond.castable "LateAndEarly$Read" "LateAndEarly$Sum") ∈ lw_tbl := lw_at lw_m9 221 rfl
theorem q2288 : (Jvm.Cond.castable "LateAndEarly$Read" "java/lang/Object") ∈ lw_tbl := lw_at lw_m9 237 rfl
theorem in_X17 : ∀ w ∈ wsX170, w ∈ lw_all := lw_in wsX170 [906, 902, 904] (by decide +kernel) (by decide +kernel)
/-! LateAndEarly$SetOperand -/
set_option maxRecDepth 100000
def RX18 : String := "LateAndEarly$SetOperand"
def TX18 : u_T := fun k => match k with
  | 0 => ("LateAndEarly$Setting", "name", "I", true)
  | 1 => ("LateAndEarly$Node", "number", "I", false)
  | 2 => ("LateAndEarly$Node", "block", "I", false)
  | 3 => ("LateAndEarly$Node", "next", "Ljava/util/ArrayList;", true)
  | 4 => ("LateAndEarly$Node", "before", "Ljava/util/ArrayList;", true)
  | _ => ("LateAndEarly$SetOperand", "from", "LLateAndEarly$Operand;", true)
def tyX18 : Nat → FieldType := fun k => match k with
  | 0 => .int
  | 1 => .int
  | 2 => .int
  | 3 => .object "java/util/ArrayList"
  | 4 => .object "java/util/ArrayList"
  | _ => .object "LateAndEarly$Operand"
abbrev wsX180 : List Cond := u_ws RX18 TX18 6
theorem nmX18 : ∀ a, a < 6 → ∀ b, b < 6 → a ≠ b → (TX18 a).2.1 ≠ (TX18 b).2.1 := by decide +kernel
theorem tyX18_ok : ∀ k, k < 6 → parseFieldDescriptor (TX18 k).2.2.1 = some (tyX18 k) := by decide +kernel
abbrev cX18_init : ByteArray := prog_16_method_1_code
def yX18_init : MethodName := ⟨RX18, "<init>", "(ILLateAndEarly$Operand;)V"⟩
def dkwX18_init_0 : List UInt8 := [42, 27, 183, 0, 1, 42, 44, 181, 0, 7, 177]
abbrev dktX18_init_0 : List UInt8 := dkwX18_init_0 ++ []
theorem dksX18_init_0 : cX18_init.data.toList.drop 0 = dktX18_init_0 := by decide +kernel
theorem dX18_init_0 : decode cX18_init 0 = .ok (.aload_n 0, 1) := dk_42 (dk_at dksX18_init_0 0 rfl rfl)
theorem dX18_init_1 : decode cX18_init 1 = .ok (.iload_n 1, 1) := dk_27 (dk_at dksX18_init_0 1 rfl rfl)
theorem dX18_init_2 : decode cX18_init 2 = .ok (.invokespecial 1, 3) := dk_183 0 1 (dk_at dksX18_init_0 2 rfl rfl)
theorem dX18_init_5 : decode cX18_init 5 = .ok (.aload_n 0, 1) := dk_42 (dk_at dksX18_init_0 5 rfl rfl)
theorem dX18_init_6 : decode cX18_init 6 = .ok (.aload_n 2, 1) := dk_44 (dk_at dksX18_init_0 6 rfl rfl)
theorem dX18_init_7 : decode cX18_init 7 = .ok (.putfield 7, 3) := dk_181 0 7 (dk_at dksX18_init_0 7 rfl rfl)
theorem dX18_init_10 : decode cX18_init 10 = .ok (.return_, 1) := dk_177 (dk_at dksX18_init_0 10 rfl rfl)
abbrev cX18_kind : ByteArray := prog_16_method_2_code
def yX18_kind : MethodName := ⟨RX18, "kind", "()I"⟩
theorem dX18_kind_0 : decode cX18_kind 0 = .ok (.iconst 1, 1) := by decide +kernel
theorem dX18_kind_1 : decode cX18_kind 1 = .ok (.ireturn, 1) := by decide +kernel
theorem q168 : (Jvm.Cond.initialized "LateAndEarly$SetOperand") ∈ lw_all := lw_g (lw_at lw_m1 37 rfl) rfl
theorem q646 : (Jvm.Cond.selects "LateAndEarly$SetOperand" ({ cls := "java/lang/Object", name := "getClass", desc := "()Ljava/lang/Class;" } : Jvm.MethodName) ({ cls := "java/lang/Object", name := "getClass", desc := "()Ljava/lang/Class;" } : Jvm.MethodName)) ∈ lw_all := lw_g (lw_at lw_m3 35 rfl) rfl
theorem q924 : (Jvm.Cond.sameField "LateAndEarly$SetOperand" "LateAndEarly$Setting" "name" "I") ∈ lw_all := lw_g (lw_at lw_m4 73 rfl) rfl
theorem q938 : (Jvm.Cond.instantiable "LateAndEarly$SetOperand" (6 : Nat)) ∈ lw_all := lw_g (lw_at lw_m4 87 rfl) rfl
theorem q940 : (Jvm.Cond.instanceMethod ({ cls := "LateAndEarly$SetOperand", name := "<init>", desc := "(ILLateAndEarly$Operand;)V" } : Jvm.MethodName)) ∈ lw_all := lw_g (lw_at lw_m4 89 rfl) rfl
theorem q941 : (Jvm.Cond.code ({ cls := "LateAndEarly$SetOperand", name := "<init>", desc := "(ILLateAndEarly$Operand;)V" } : Jvm.MethodName) prog_16_method_1_code (3 : Nat) (Option.none : Option Jvm.ClassFile.FieldType)) ∈ lw_all := lw_g (lw_at lw_m4 90 rfl) rfl
theorem q942 : (Jvm.Cond.methodLink "LateAndEarly$SetOperand" (1 : Nat) ({ cls := "LateAndEarly$Setting", name := "<init>", desc := "(I)V" } : Jvm.MethodName)) ∈ lw_all := lw_g (lw_at lw_m4 91 rfl) rfl
theorem q943 : (Jvm.Cond.fieldLink "LateAndEarly$SetOperand" (7 : Nat) "LateAndEarly$SetOperand" "from" "LLateAndEarly$Operand;") ∈ lw_all := lw_g (lw_at lw_m4 92 rfl) rfl
theorem q947 : (Jvm.Cond.laysFinal "LateAndEarly$SetOperand" "LateAndEarly$SetOperand" "from" "LLateAndEarly$Operand;") ∈ lw_all := lw_g (lw_at lw_m4 96 rfl) rfl
theorem q948 : (Jvm.Cond.soleField "LateAndEarly$SetOperand" "from") ∈ lw_all := lw_g (lw_at lw_m4 97 rfl) rfl
theorem q949 : (Jvm.Cond.laysFinal "LateAndEarly$SetOperand" "LateAndEarly$Setting" "name" "I") ∈ lw_all := lw_g (lw_at lw_m4 98 rfl) rfl
theorem q950 : (Jvm.Cond.lays "LateAndEarly$SetOperand" "LateAndEarly$Node" "number" "I") ∈ lw_all := lw_g (lw_at lw_m4 99 rfl) rfl
theorem q951 : (Jvm.Cond.lays "LateAndEarly$SetOperand" "LateAndEarly$Node" "block" "I") ∈ lw_all := lw_g (lw_at lw_m4 100 rfl) rfl
theorem q952 : (Jvm.Cond.laysFinal "LateAndEarly$SetOperand" "LateAndEarly$Node" "next" "Ljava/util/ArrayList;") ∈ lw_all := lw_g (lw_at lw_m4 101 rfl) rfl
theorem q953 : (Jvm.Cond.laysFinal "LateAndEarly$SetOperand" "LateAndEarly$Node" "before" "Ljava/util/ArrayList;") ∈ lw_all := lw_g (lw_at lw_m4 102 rfl) rfl
theorem q954 : (Jvm.Cond.superclass "LateAndEarly$SetOperand" "LateAndEarly$Setting") ∈ lw_all := lw_g (lw_at lw_m4 103 rfl) rfl
theorem q1038 : (Jvm.Cond.selects "LateAndEarly$SetOperand" ({ cls := "LateAndEarly$Node", name := "leadsTo", desc := "(LLateAndEarly$Node;)V" } : Jvm.MethodName) ({ cls := "LateAndEarly$Node", name := "leadsTo", desc := "(LLateAndEarly$Node;)V" } : Jvm.MethodName)) ∈ lw_all := lw_g (lw_at lw_m4 187 rfl) rfl
theorem q1080 : (Jvm.Cond.selects "LateAndEarly$SetOperand" ({ cls := "LateAndEarly$Node", name := "works", desc := "()LLateAndEarly$Sum;" } : Jvm.MethodName) ({ cls := "LateAndEarly$Node", name := "works", desc := "()LLateAndEarly$Sum;" } : Jvm.MethodName)) ∈ lw_all := lw_g (lw_at lw_m4 229 rfl) rfl
theorem q1121 : (Jvm.Cond.selects "LateAndEarly$SetOperand" ({ cls := "LateAndEarly$Node", name := "kills", desc := "(LLateAndEarly$Sum;)Z" } : Jvm.MethodName) ({ cls := "LateAndEarly$Node", name := "kills", desc := "(LLateAndEarly$Sum;)Z" } : Jvm.MethodName)) ∈ lw_all := lw_g (lw_at lw_m5 30 rfl) rfl
theorem q1133 : (Jvm.Cond.selects "LateAndEarly$SetOperand" ({ cls := "LateAndEarly$Node", name := "sets", desc := "()I" } : Jvm.MethodName) ({ cls := "LateAndEarly$Setting", name := "sets", desc := "()I" } : Jvm.MethodName)) ∈ lw_all := lw_g (lw_at lw_m5 42 rfl) rfl
theorem q1175 : (Jvm.Cond.selects "LateAndEarly$SetOperand" ({ cls := "LateAndEarly$Node", name := "writes", desc := "()I" } : Jvm.MethodName) ({ cls := "LateAndEarly$Node", name := "writes", desc := "()I" } : Jvm.MethodName)) ∈ lw_all := lw_g (lw_at lw_m5 84 rfl) rfl
theorem q1209 : (Jvm.Cond.selects "LateAndEarly$SetOperand" ({ cls := "LateAndEarly$Node", name := "isSeen", desc := "()Z" } : Jvm.MethodName) ({ cls := "LateAndEarly$Node", name := "isSeen", desc := "()Z" } : Jvm.MethodName)) ∈ lw_all := lw_g (lw_at lw_m5 118 rfl) rfl
theorem q1284 : (Jvm.Cond.selects "LateAndEarly$SetOperand" ({ cls := "LateAndEarly$Node", name := "kind", desc := "()I" } : Jvm.MethodName) ({ cls := "LateAndEarly$SetOperand", name := "kind", desc := "()I" } : Jvm.MethodName)) ∈ lw_all := lw_g (lw_at lw_m5 193 rfl) rfl
theorem q1285 : (Jvm.Cond.instanceMethod ({ cls := "LateAndEarly$SetOperand", name := "kind", desc := "()I" } : Jvm.MethodName)) ∈ lw_all := lw_g (lw_at lw_m5 194 rfl) rfl
theorem q1286 : (Jvm.Cond.code ({ cls := "LateAndEarly$SetOperand", name := "kind", desc := "()I" } : Jvm.MethodName) prog_16_method_2_code (1 : Nat) (Option.some Jvm.ClassFile.FieldType.int)) ∈ lw_all := lw_g (lw_at lw_m5 195 rfl) rfl
theorem q2267 : (Jvm.Cond.castable "LateAndEarly$SetOperand" "LateAndEarly$Node") ∈ lw_tbl := lw_at lw_m9 216 rfl
theorem q2289 : (Jvm.Cond.castable "LateAndEarly$SetOperand" "java/lang/Object") ∈ lw_tbl := lw_at lw_m9 238 rfl
theorem in_X18 : ∀ w ∈ wsX180, w ∈ lw_all := lw_in wsX180 [949, 950, 951, 952, 953, 947] (by decide +kernel) (by decide +kernel)
/-! LateAndEarly$Pair -/
set_option maxRecDepth 100000
def RX19 : String := "LateAndEarly$Pair"
def TX19 : u_T := fun k => match k with
  | 0 => ("LateAndEarly$Sum", "number", "I", false)
  | 1 => ("LateAndEarly$Pair", "sign", "C", true)
  | 2 => ("LateAndEarly$Pair", "a", "LLateAndEarly$Operand;", true)
  | _ => ("LateAndEarly$Pair", "b", "LLateAndEarly$Operand;", true)
def tyX19 : Nat → FieldType := fun k => match k with
  | 0 => .int
  | 1 => .char
  | 2 => .object "LateAndEarly$Operand"
  | _ => .object "LateAndEarly$Operand"
abbrev wsX190 : List Cond := u_ws RX19 TX19 4
theorem nmX19 : ∀ a, a < 4 → ∀ b, b < 4 → a ≠ b → (TX19 a).2.1 ≠ (TX19 b).2.1 := by decide +kernel
theorem tyX19_ok : ∀ k, k < 4 → parseFieldDescriptor (TX19 k).2.2.1 = some (tyX19 k) := by decide +kernel
abbrev cX19_init : ByteArray := prog_10_method_1_code
def yX19_init : MethodName := ⟨RX19, "<init>", "(CLLateAndEarly$Operand;LLateAndEarly$Operand;)V"⟩
def dkwX19_init_0 : List UInt8 := [42, 183, 0, 1, 42, 27, 181, 0, 7, 42, 44, 181, 0, 13, 42, 45, 181, 0, 17, 177]
abbrev dktX19_init_0 : List UInt8 := dkwX19_init_0 ++ []
theorem dksX19_init_0 : cX19_init.data.toList.drop 0 = dktX19_init_0 := by decide +kernel
theorem dX19_init_0 : decode cX19_init 0 = .ok (.aload_n 0, 1) := dk_42 (dk_at dksX19_init_0 0 rfl rfl)
theorem dX19_init_1 : decode cX19_init 1 = .ok (.invokespecial 1, 3) := dk_183 0 1 (dk_at dksX19_init_0 1 rfl rfl)
theorem dX19_init_4 : decode cX19_init 4 = .ok (.aload_n 0, 1) := dk_42 (dk_at dksX19_init_0 4 rfl rfl)
theorem dX19_init_5 : decode cX19_init 5 = .ok (.iload_n 1, 1) := dk_27 (dk_at dksX19_init_0 5 rfl rfl)
theorem dX19_init_6 : decode cX19_init 6 = .ok (.putfield 7, 3) := dk_181 0 7 (dk_at dksX19_init_0 6 rfl rfl)
theorem dX19_init_9 : decode cX19_init 9 = .ok (.aload_n 0, 1) := dk_42 (dk_at dksX19_init_0 9 rfl rfl)
theorem dX19_init_10 : decode cX19_init 10 = .ok (.aload_n 2, 1) := dk_44 (dk_at dksX19_init_0 10 rfl rfl)
theorem dX19_init_11 : decode cX19_init 11 = .ok (.putfield 13, 3) := dk_181 0 13 (dk_at dksX19_init_0 11 rfl rfl)
theorem dX19_init_14 : decode cX19_init 14 = .ok (.aload_n 0, 1) := dk_42 (dk_at dksX19_init_0 14 rfl rfl)
theorem dX19_init_15 : decode cX19_init 15 = .ok (.aload_n 3, 1) := dk_45 (dk_at dksX19_init_0 15 rfl rfl)
theorem dX19_init_16 : decode cX19_init 16 = .ok (.putfield 17, 3) := dk_181 0 17 (dk_at dksX19_init_0 16 rfl rfl)
theorem dX19_init_19 : decode cX19_init 19 = .ok (.return_, 1) := dk_177 (dk_at dksX19_init_0 19 rfl rfl)
abbrev cX19_isLike : ByteArray := prog_10_method_5_code
def yX19_isLike : MethodName := ⟨RX19, "isLike", "(LLateAndEarly$Sum;)Z"⟩
def dkwX19_isLike_2 : List UInt8 := [153, 0, 7, 4, 167, 0, 4, 3, 172]
abbrev dktX19_isLike_2 : List UInt8 := dkwX19_isLike_2 ++ []
def dkwX19_isLike_1 : List UInt8 := [180, 0, 13, 44, 180, 0, 13, 182, 0, 20, 153, 0, 21, 42, 180, 0, 17, 44, 180, 0, 17, 182, 0, 20]
abbrev dktX19_isLike_1 : List UInt8 := dkwX19_isLike_1 ++ dktX19_isLike_2
def dkwX19_isLike_0 : List UInt8 := [43, 193, 0, 8, 153, 0, 51, 43, 192, 0, 8, 77, 44, 180, 0, 7, 42, 180, 0, 7, 160, 0, 35, 42]
abbrev dktX19_isLike_0 : List UInt8 := dkwX19_isLike_0 ++ dktX19_isLike_1
theorem dksX19_isLike_0 : cX19_isLike.data.toList.drop 0 = dktX19_isLike_0 := by decide +kernel
theorem dksX19_isLike_1 : cX19_isLike.data.toList.drop 24 = dktX19_isLike_1 := dk_seg dksX19_isLike_0 24 rfl rfl
theorem dksX19_isLike_2 : cX19_isLike.data.toList.drop 48 = dktX19_isLike_2 := dk_seg dksX19_isLike_1 24 rfl rfl
theorem dX19_isLike_0 : decode cX19_isLike 0 = .ok (.aload_n 1, 1) := dk_43 (dk_at dksX19_isLike_0 0 rfl rfl)
theorem dX19_isLike_1 : decode cX19_isLike 1 = .ok (.instanceof 8, 3) := dk_193 0 8 (dk_at dksX19_isLike_0 1 rfl rfl)
theorem dX19_isLike_4 : decode cX19_isLike 4 = .ok (.ifCond .eq 51, 3) := dk_153 0 51 (dk_at dksX19_isLike_0 4 rfl rfl)
theorem dX19_isLike_7 : decode cX19_isLike 7 = .ok (.aload_n 1, 1) := dk_43 (dk_at dksX19_isLike_0 7 rfl rfl)
theorem dX19_isLike_8 : decode cX19_isLike 8 = .ok (.checkcast 8, 3) := dk_192 0 8 (dk_at dksX19_isLike_0 8 rfl rfl)
theorem dX19_isLike_11 : decode cX19_isLike 11 = .ok (.astore_n 2, 1) := dk_77 (dk_at dksX19_isLike_0 11 rfl rfl)
theorem dX19_isLike_12 : decode cX19_isLike 12 = .ok (.aload_n 2, 1) := dk_44 (dk_at dksX19_isLike_0 12 rfl rfl)
theorem dX19_isLike_13 : decode cX19_isLike 13 = .ok (.getfield 7, 3) := dk_180 0 7 (dk_at dksX19_isLike_0 13 rfl rfl)
theorem dX19_isLike_16 : decode cX19_isLike 16 = .ok (.aload_n 0, 1) := dk_42 (dk_at dksX19_isLike_0 16 rfl rfl)
theorem dX19_isLike_17 : decode cX19_isLike 17 = .ok (.getfield 7, 3) := dk_180 0 7 (dk_at dksX19_isLike_0 17 rfl rfl)
theorem dX19_isLike_20 : decode cX19_isLike 20 = .ok (.if_icmp .ne 35, 3) := dk_160 0 35 (dk_at dksX19_isLike_0 20 rfl rfl)
theorem dX19_isLike_23 : decode cX19_isLike 23 = .ok (.aload_n 0, 1) := dk_42 (dk_at dksX19_isLike_0 23 rfl rfl)
theorem dX19_isLike_24 : decode cX19_isLike 24 = .ok (.getfield 13, 3) := dk_180 0 13 (dk_at dksX19_isLike_1 0 rfl rfl)
theorem dX19_isLike_27 : decode cX19_isLike 27 = .ok (.aload_n 2, 1) := dk_44 (dk_at dksX19_isLike_1 3 rfl rfl)
theorem dX19_isLike_28 : decode cX19_isLike 28 = .ok (.getfield 13, 3) := dk_180 0 13 (dk_at dksX19_isLike_1 4 rfl rfl)
theorem dX19_isLike_31 : decode cX19_isLike 31 = .ok (.invokevirtual 20, 3) := dk_182 0 20 (dk_at dksX19_isLike_1 7 rfl rfl)
theorem dX19_isLike_34 : decode cX19_isLike 34 = .ok (.ifCond .eq 21, 3) := dk_153 0 21 (dk_at dksX19_isLike_1 10 rfl rfl)
theorem dX19_isLike_37 : decode cX19_isLike 37 = .ok (.aload_n 0, 1) := dk_42 (dk_at dksX19_isLike_1 13 rfl rfl)
theorem dX19_isLike_38 : decode cX19_isLike 38 = .ok (.getfield 17, 3) := dk_180 0 17 (dk_at dksX19_isLike_1 14 rfl rfl)
theorem dX19_isLike_41 : decode cX19_isLike 41 = .ok (.aload_n 2, 1) := dk_44 (dk_at dksX19_isLike_1 17 rfl rfl)
theorem dX19_isLike_42 : decode cX19_isLike 42 = .ok (.getfield 17, 3) := dk_180 0 17 (dk_at dksX19_isLike_1 18 rfl rfl)
theorem dX19_isLike_45 : decode cX19_isLike 45 = .ok (.invokevirtual 20, 3) := dk_182 0 20 (dk_at dksX19_isLike_1 21 rfl rfl)
theorem dX19_isLike_48 : decode cX19_isLike 48 = .ok (.ifCond .eq 7, 3) := dk_153 0 7 (dk_at dksX19_isLike_2 0 rfl rfl)
theorem dX19_isLike_51 : decode cX19_isLike 51 = .ok (.iconst 1, 1) := dk_4 (dk_at dksX19_isLike_2 3 rfl rfl)
theorem dX19_isLike_52 : decode cX19_isLike 52 = .ok (.goto 4, 3) := dk_167 0 4 (dk_at dksX19_isLike_2 4 rfl rfl)
theorem dX19_isLike_55 : decode cX19_isLike 55 = .ok (.iconst 0, 1) := dk_3 (dk_at dksX19_isLike_2 7 rfl rfl)
theorem dX19_isLike_56 : decode cX19_isLike 56 = .ok (.ireturn, 1) := dk_172 (dk_at dksX19_isLike_2 8 rfl rfl)
abbrev cX19_first : ByteArray := prog_10_method_3_code
def yX19_first : MethodName := ⟨RX19, "first", "()LLateAndEarly$Operand;"⟩
theorem dX19_first_0 : decode cX19_first 0 = .ok (.aload_n 0, 1) := by decide +kernel
theorem dX19_first_1 : decode cX19_first 1 = .ok (.getfield 13, 3) := by decide +kernel
theorem dX19_first_4 : decode cX19_first 4 = .ok (.areturn, 1) := by decide +kernel
abbrev cX19_second : ByteArray := prog_10_method_4_code
def yX19_second : MethodName := ⟨RX19, "second", "()LLateAndEarly$Operand;"⟩
theorem dX19_second_0 : decode cX19_second 0 = .ok (.aload_n 0, 1) := by decide +kernel
theorem dX19_second_1 : decode cX19_second 1 = .ok (.getfield 17, 3) := by decide +kernel
theorem dX19_second_4 : decode cX19_second 4 = .ok (.areturn, 1) := by decide +kernel
abbrev cX19_isBold : ByteArray := prog_10_method_6_code
def yX19_isBold : MethodName := ⟨RX19, "isBold", "()Z"⟩
def dkwX19_isBold_0 : List UInt8 := [42, 180, 0, 7, 16, 47, 160, 0, 7, 4, 167, 0, 4, 3, 172]
abbrev dktX19_isBold_0 : List UInt8 := dkwX19_isBold_0 ++ []
theorem dksX19_isBold_0 : cX19_isBold.data.toList.drop 0 = dktX19_isBold_0 := by decide +kernel
theorem dX19_isBold_0 : decode cX19_isBold 0 = .ok (.aload_n 0, 1) := dk_42 (dk_at dksX19_isBold_0 0 rfl rfl)
theorem dX19_isBold_1 : decode cX19_isBold 1 = .ok (.getfield 7, 3) := dk_180 0 7 (dk_at dksX19_isBold_0 1 rfl rfl)
theorem dX19_isBold_4 : decode cX19_isBold 4 = .ok (.bipush 47, 2) := dk_16 47 (dk_at dksX19_isBold_0 4 rfl rfl)
theorem dX19_isBold_6 : decode cX19_isBold 6 = .ok (.if_icmp .ne 7, 3) := dk_160 0 7 (dk_at dksX19_isBold_0 6 rfl rfl)
theorem dX19_isBold_9 : decode cX19_isBold 9 = .ok (.iconst 1, 1) := dk_4 (dk_at dksX19_isBold_0 9 rfl rfl)
theorem dX19_isBold_10 : decode cX19_isBold 10 = .ok (.goto 4, 3) := dk_167 0 4 (dk_at dksX19_isBold_0 10 rfl rfl)
theorem dX19_isBold_13 : decode cX19_isBold 13 = .ok (.iconst 0, 1) := dk_3 (dk_at dksX19_isBold_0 13 rfl rfl)
theorem dX19_isBold_14 : decode cX19_isBold 14 = .ok (.ireturn, 1) := dk_172 (dk_at dksX19_isBold_0 14 rfl rfl)
abbrev cX19_sign : ByteArray := prog_10_method_2_code
def yX19_sign : MethodName := ⟨RX19, "sign", "()I"⟩
theorem dX19_sign_0 : decode cX19_sign 0 = .ok (.aload_n 0, 1) := by decide +kernel
theorem dX19_sign_1 : decode cX19_sign 1 = .ok (.getfield 7, 3) := by decide +kernel
theorem dX19_sign_4 : decode cX19_sign 4 = .ok (.ireturn, 1) := by decide +kernel
abbrev cX19_toldFirst : ByteArray := prog_10_method_7_code
def yX19_toldFirst : MethodName := ⟨RX19, "toldFirst", "()I"⟩
def dkwX19_toldFirst_0 : List UInt8 := [42, 180, 0, 13, 182, 0, 26, 172]
abbrev dktX19_toldFirst_0 : List UInt8 := dkwX19_toldFirst_0 ++ []
theorem dksX19_toldFirst_0 : cX19_toldFirst.data.toList.drop 0 = dktX19_toldFirst_0 := by decide +kernel
theorem dX19_toldFirst_0 : decode cX19_toldFirst 0 = .ok (.aload_n 0, 1) := dk_42 (dk_at dksX19_toldFirst_0 0 rfl rfl)
theorem dX19_toldFirst_1 : decode cX19_toldFirst 1 = .ok (.getfield 13, 3) := dk_180 0 13 (dk_at dksX19_toldFirst_0 1 rfl rfl)
theorem dX19_toldFirst_4 : decode cX19_toldFirst 4 = .ok (.invokevirtual 26, 3) := dk_182 0 26 (dk_at dksX19_toldFirst_0 4 rfl rfl)
theorem dX19_toldFirst_7 : decode cX19_toldFirst 7 = .ok (.ireturn, 1) := dk_172 (dk_at dksX19_toldFirst_0 7 rfl rfl)
theorem q169 : (Jvm.Cond.initialized "LateAndEarly$Pair") ∈ lw_all := lw_g (lw_at lw_m1 38 rfl) rfl
theorem q640 : (Jvm.Cond.selects "LateAndEarly$Pair" ({ cls := "java/lang/Object", name := "getClass", desc := "()Ljava/lang/Class;" } : Jvm.MethodName) ({ cls := "java/lang/Object", name := "getClass", desc := "()Ljava/lang/Class;" } : Jvm.MethodName)) ∈ lw_all := lw_g (lw_at lw_m3 29 rfl) rfl
theorem q956 : (Jvm.Cond.instantiable "LateAndEarly$Pair" (4 : Nat)) ∈ lw_all := lw_g (lw_at lw_m4 105 rfl) rfl
theorem q958 : (Jvm.Cond.instanceMethod ({ cls := "LateAndEarly$Pair", name := "<init>", desc := "(CLLateAndEarly$Operand;LLateAndEarly$Operand;)V" } : Jvm.MethodName)) ∈ lw_all := lw_g (lw_at lw_m4 107 rfl) rfl
theorem q959 : (Jvm.Cond.code ({ cls := "LateAndEarly$Pair", name := "<init>", desc := "(CLLateAndEarly$Operand;LLateAndEarly$Operand;)V" } : Jvm.MethodName) prog_10_method_1_code (4 : Nat) (Option.none : Option Jvm.ClassFile.FieldType)) ∈ lw_all := lw_g (lw_at lw_m4 108 rfl) rfl
theorem q960 : (Jvm.Cond.methodLinkNest "LateAndEarly$Pair" (1 : Nat) ({ cls := "LateAndEarly$Sum", name := "<init>", desc := "()V" } : Jvm.MethodName) "LateAndEarly") ∈ lw_tbl := lw_at lw_m4 109 rfl
theorem q961 : (Jvm.Cond.fieldLink "LateAndEarly$Pair" (7 : Nat) "LateAndEarly$Pair" "sign" "C") ∈ lw_all := lw_g (lw_at lw_m4 110 rfl) rfl
theorem q962 : (Jvm.Cond.fieldLink "LateAndEarly$Pair" (13 : Nat) "LateAndEarly$Pair" "a" "LLateAndEarly$Operand;") ∈ lw_all := lw_g (lw_at lw_m4 111 rfl) rfl
theorem q963 : (Jvm.Cond.fieldLink "LateAndEarly$Pair" (17 : Nat) "LateAndEarly$Pair" "b" "LLateAndEarly$Operand;") ∈ lw_all := lw_g (lw_at lw_m4 112 rfl) rfl
theorem q964 : (Jvm.Cond.laysFinal "LateAndEarly$Pair" "LateAndEarly$Pair" "sign" "C") ∈ lw_all := lw_g (lw_at lw_m4 113 rfl) rfl
theorem q965 : (Jvm.Cond.soleField "LateAndEarly$Pair" "sign") ∈ lw_all := lw_g (lw_at lw_m4 114 rfl) rfl
theorem q966 : (Jvm.Cond.laysFinal "LateAndEarly$Pair" "LateAndEarly$Pair" "a" "LLateAndEarly$Operand;") ∈ lw_all := lw_g (lw_at lw_m4 115 rfl) rfl
theorem q967 : (Jvm.Cond.soleField "LateAndEarly$Pair" "a") ∈ lw_all := lw_g (lw_at lw_m4 116 rfl) rfl
theorem q968 : (Jvm.Cond.laysFinal "LateAndEarly$Pair" "LateAndEarly$Pair" "b" "LLateAndEarly$Operand;") ∈ lw_all := lw_g (lw_at lw_m4 117 rfl) rfl
theorem q969 : (Jvm.Cond.soleField "LateAndEarly$Pair" "b") ∈ lw_all := lw_g (lw_at lw_m4 118 rfl) rfl
theorem q970 : (Jvm.Cond.lays "LateAndEarly$Pair" "LateAndEarly$Sum" "number" "I") ∈ lw_all := lw_g (lw_at lw_m4 119 rfl) rfl
theorem q971 : (Jvm.Cond.superclass "LateAndEarly$Pair" "LateAndEarly$Sum") ∈ lw_all := lw_g (lw_at lw_m4 120 rfl) rfl
theorem q1096 : (Jvm.Cond.selects "LateAndEarly$Pair" ({ cls := "LateAndEarly$Sum", name := "isLike", desc := "(LLateAndEarly$Sum;)Z" } : Jvm.MethodName) ({ cls := "LateAndEarly$Pair", name := "isLike", desc := "(LLateAndEarly$Sum;)Z" } : Jvm.MethodName)) ∈ lw_all := lw_g (lw_at lw_m5 5 rfl) rfl
theorem q1097 : (Jvm.Cond.instanceMethod ({ cls := "LateAndEarly$Pair", name := "isLike", desc := "(LLateAndEarly$Sum;)Z" } : Jvm.MethodName)) ∈ lw_all := lw_g (lw_at lw_m5 6 rfl) rfl
theorem q1098 : (Jvm.Cond.code ({ cls := "LateAndEarly$Pair", name := "isLike", desc := "(LLateAndEarly$Sum;)Z" } : Jvm.MethodName) prog_10_method_5_code (3 : Nat) (Option.some Jvm.ClassFile.FieldType.boolean)) ∈ lw_all := lw_g (lw_at lw_m5 7 rfl) rfl
theorem q1099 : (Jvm.Cond.classLink "LateAndEarly$Pair" (8 : Nat) "LateAndEarly$Pair") ∈ lw_all := lw_g (lw_at lw_m5 8 rfl) rfl
theorem q1100 : (Jvm.Cond.methodLink "LateAndEarly$Pair" (20 : Nat) ({ cls := "LateAndEarly$Operand", name := "isLike", desc := "(LLateAndEarly$Operand;)Z" } : Jvm.MethodName)) ∈ lw_all := lw_g (lw_at lw_m5 9 rfl) rfl
theorem q1143 : (Jvm.Cond.selects "LateAndEarly$Pair" ({ cls := "LateAndEarly$Sum", name := "has", desc := "(I)Z" } : Jvm.MethodName) ({ cls := "LateAndEarly$Sum", name := "has", desc := "(I)Z" } : Jvm.MethodName)) ∈ lw_all := lw_g (lw_at lw_m5 52 rfl) rfl
theorem q1149 : (Jvm.Cond.selects "LateAndEarly$Pair" ({ cls := "LateAndEarly$Sum", name := "first", desc := "()LLateAndEarly$Operand;" } : Jvm.MethodName) ({ cls := "LateAndEarly$Pair", name := "first", desc := "()LLateAndEarly$Operand;" } : Jvm.MethodName)) ∈ lw_all := lw_g (lw_at lw_m5 58 rfl) rfl
theorem q1150 : (Jvm.Cond.instanceMethod ({ cls := "LateAndEarly$Pair", name := "first", desc := "()LLateAndEarly$Operand;" } : Jvm.MethodName)) ∈ lw_all := lw_g (lw_at lw_m5 59 rfl) rfl
theorem q1151 : (Jvm.Cond.code ({ cls := "LateAndEarly$Pair", name := "first", desc := "()LLateAndEarly$Operand;" } : Jvm.MethodName) prog_10_method_3_code (1 : Nat) (Option.some (Jvm.ClassFile.FieldType.object "LateAndEarly$Operand"))) ∈ lw_all := lw_g (lw_at lw_m5 60 rfl) rfl
theorem q1162 : (Jvm.Cond.selects "LateAndEarly$Pair" ({ cls := "LateAndEarly$Sum", name := "second", desc := "()LLateAndEarly$Operand;" } : Jvm.MethodName) ({ cls := "LateAndEarly$Pair", name := "second", desc := "()LLateAndEarly$Operand;" } : Jvm.MethodName)) ∈ lw_all := lw_g (lw_at lw_m5 71 rfl) rfl
theorem q1163 : (Jvm.Cond.instanceMethod ({ cls := "LateAndEarly$Pair", name := "second", desc := "()LLateAndEarly$Operand;" } : Jvm.MethodName)) ∈ lw_all := lw_g (lw_at lw_m5 72 rfl) rfl
theorem q1164 : (Jvm.Cond.code ({ cls := "LateAndEarly$Pair", name := "second", desc := "()LLateAndEarly$Operand;" } : Jvm.MethodName) prog_10_method_4_code (1 : Nat) (Option.some (Jvm.ClassFile.FieldType.object "LateAndEarly$Operand"))) ∈ lw_all := lw_g (lw_at lw_m5 73 rfl) rfl
theorem q1185 : (Jvm.Cond.selects "LateAndEarly$Pair" ({ cls := "LateAndEarly$Sum", name := "isOfRow", desc := "(I)Z" } : Jvm.MethodName) ({ cls := "LateAndEarly$Sum", name := "isOfRow", desc := "(I)Z" } : Jvm.MethodName)) ∈ lw_all := lw_g (lw_at lw_m5 94 rfl) rfl
theorem q1222 : (Jvm.Cond.selects "LateAndEarly$Pair" ({ cls := "LateAndEarly$Sum", name := "isBold", desc := "()Z" } : Jvm.MethodName) ({ cls := "LateAndEarly$Pair", name := "isBold", desc := "()Z" } : Jvm.MethodName)) ∈ lw_all := lw_g (lw_at lw_m5 131 rfl) rfl
theorem q1223 : (Jvm.Cond.instanceMethod ({ cls := "LateAndEarly$Pair", name := "isBold", desc := "()Z" } : Jvm.MethodName)) ∈ lw_all := lw_g (lw_at lw_m5 132 rfl) rfl
theorem q1224 : (Jvm.Cond.code ({ cls := "LateAndEarly$Pair", name := "isBold", desc := "()Z" } : Jvm.MethodName) prog_10_method_6_code (1 : Nat) (Option.some Jvm.ClassFile.FieldType.boolean)) ∈ lw_all := lw_g (lw_at lw_m5 133 rfl) rfl
theorem q1309 : (Jvm.Cond.selects "LateAndEarly$Pair" ({ cls := "LateAndEarly$Sum", name := "sign", desc := "()I" } : Jvm.MethodName) ({ cls := "LateAndEarly$Pair", name := "sign", desc := "()I" } : Jvm.MethodName)) ∈ lw_all := lw_g (lw_at lw_m5 218 rfl) rfl
theorem q1310 : (Jvm.Cond.instanceMethod ({ cls := "LateAndEarly$Pair", name := "sign", desc := "()I" } : Jvm.MethodName)) ∈ lw_all := lw_g (lw_at lw_m5 219 rfl) rfl
theorem q1311 : (Jvm.Cond.code ({ cls := "LateAndEarly$Pair", name := "sign", desc := "()I" } : Jvm.MethodName) prog_10_method_2_code (1 : Nat) (Option.some Jvm.ClassFile.FieldType.int)) ∈ lw_all := lw_g (lw_at lw_m5 220 rfl) rfl
theorem q1318 : (Jvm.Cond.selects "LateAndEarly$Pair" ({ cls := "LateAndEarly$Sum", name := "toldFirst", desc := "()I" } : Jvm.MethodName) ({ cls := "LateAndEarly$Pair", name := "toldFirst", desc := "()I" } : Jvm.MethodName)) ∈ lw_all := lw_g (lw_at lw_m5 227 rfl) rfl
theorem q1319 : (Jvm.Cond.instanceMethod ({ cls := "LateAndEarly$Pair", name := "toldFirst", desc := "()I" } : Jvm.MethodName)) ∈ lw_all := lw_g (lw_at lw_m5 228 rfl) rfl
theorem q1320 : (Jvm.Cond.code ({ cls := "LateAndEarly$Pair", name := "toldFirst", desc := "()I" } : Jvm.MethodName) prog_10_method_7_code (1 : Nat) (Option.some Jvm.ClassFile.FieldType.int)) ∈ lw_all := lw_g (lw_at lw_m5 229 rfl) rfl
theorem q1321 : (Jvm.Cond.methodLink "LateAndEarly$Pair" (26 : Nat) ({ cls := "LateAndEarly$Operand", name := "told", desc := "()I" } : Jvm.MethodName)) ∈ lw_all := lw_g (lw_at lw_m5 230 rfl) rfl
theorem q2271 : (Jvm.Cond.castable "LateAndEarly$Pair" "LateAndEarly$Sum") ∈ lw_tbl := lw_at lw_m9 220 rfl
theorem q2290 : (Jvm.Cond.castable "LateAndEarly$Pair" "java/lang/Object") ∈ lw_tbl := lw_at lw_m9 239 rfl
theorem in_X19 : ∀ w ∈ wsX190, w ∈ lw_all := lw_in wsX190 [970, 964, 966, 968] (by decide +kernel) (by decide +kernel)
/-! LateAndEarly$OnWay -/
set_option maxRecDepth 100000
def RX20 : String := "LateAndEarly$OnWay"
def TX20 : u_T := fun k => match k with
  | 0 => ("LateAndEarly$Node", "number", "I", false)
  | 1 => ("LateAndEarly$Node", "block", "I", false)
  | 2 => ("LateAndEarly$Node", "next", "Ljava/util/ArrayList;", true)
  | _ => ("LateAndEarly$Node", "before", "Ljava/util/ArrayList;", true)
def tyX20 : Nat → FieldType := fun k => match k with
  | 0 => .int
  | 1 => .int
  | 2 => .object "java/util/ArrayList"
  | _ => .object "java/util/ArrayList"
abbrev wsX200 : List Cond := u_ws RX20 TX20 4
theorem nmX20 : ∀ a, a < 4 → ∀ b, b < 4 → a ≠ b → (TX20 a).2.1 ≠ (TX20 b).2.1 := by decide +kernel
theorem tyX20_ok : ∀ k, k < 4 → parseFieldDescriptor (TX20 k).2.2.1 = some (tyX20 k) := by decide +kernel
abbrev cX20_init : ByteArray := prog_8_method_1_code
def yX20_init : MethodName := ⟨RX20, "<init>", "()V"⟩
theorem dX20_init_0 : decode cX20_init 0 = .ok (.aload_n 0, 1) := by decide +kernel
theorem dX20_init_1 : decode cX20_init 1 = .ok (.invokespecial 1, 3) := by decide +kernel
theorem dX20_init_4 : decode cX20_init 4 = .ok (.return_, 1) := by decide +kernel
abbrev cX20_kind : ByteArray := prog_8_method_2_code
def yX20_kind : MethodName := ⟨RX20, "kind", "()I"⟩
theorem dX20_kind_0 : decode cX20_kind 0 = .ok (.bipush 7, 2) := by decide +kernel
theorem dX20_kind_2 : decode cX20_kind 2 = .ok (.ireturn, 1) := by decide +kernel
theorem q171 : (Jvm.Cond.initialized "LateAndEarly$OnWay") ∈ lw_all := lw_g (lw_at lw_m1 40 rfl) rfl
theorem q638 : (Jvm.Cond.selects "LateAndEarly$OnWay" ({ cls := "java/lang/Object", name := "getClass", desc := "()Ljava/lang/Class;" } : Jvm.MethodName) ({ cls := "java/lang/Object", name := "getClass", desc := "()Ljava/lang/Class;" } : Jvm.MethodName)) ∈ lw_all := lw_g (lw_at lw_m3 27 rfl) rfl
theorem q1037 : (Jvm.Cond.selects "LateAndEarly$OnWay" ({ cls := "LateAndEarly$Node", name := "leadsTo", desc := "(LLateAndEarly$Node;)V" } : Jvm.MethodName) ({ cls := "LateAndEarly$Node", name := "leadsTo", desc := "(LLateAndEarly$Node;)V" } : Jvm.MethodName)) ∈ lw_all := lw_g (lw_at lw_m4 186 rfl) rfl
theorem q1062 : (Jvm.Cond.instantiable "LateAndEarly$OnWay" (4 : Nat)) ∈ lw_all := lw_g (lw_at lw_m4 211 rfl) rfl
theorem q1064 : (Jvm.Cond.instanceMethod ({ cls := "LateAndEarly$OnWay", name := "<init>", desc := "()V" } : Jvm.MethodName)) ∈ lw_all := lw_g (lw_at lw_m4 213 rfl) rfl
theorem q1065 : (Jvm.Cond.code ({ cls := "LateAndEarly$OnWay", name := "<init>", desc := "()V" } : Jvm.MethodName) prog_8_method_1_code (1 : Nat) (Option.none : Option Jvm.ClassFile.FieldType)) ∈ lw_all := lw_g (lw_at lw_m4 214 rfl) rfl
theorem q1066 : (Jvm.Cond.methodLinkNest "LateAndEarly$OnWay" (1 : Nat) ({ cls := "LateAndEarly$Node", name := "<init>", desc := "()V" } : Jvm.MethodName) "LateAndEarly") ∈ lw_tbl := lw_at lw_m4 215 rfl
theorem q1067 : (Jvm.Cond.lays "LateAndEarly$OnWay" "LateAndEarly$Node" "number" "I") ∈ lw_all := lw_g (lw_at lw_m4 216 rfl) rfl
theorem q1068 : (Jvm.Cond.lays "LateAndEarly$OnWay" "LateAndEarly$Node" "block" "I") ∈ lw_all := lw_g (lw_at lw_m4 217 rfl) rfl
theorem q1069 : (Jvm.Cond.laysFinal "LateAndEarly$OnWay" "LateAndEarly$Node" "next" "Ljava/util/ArrayList;") ∈ lw_all := lw_g (lw_at lw_m4 218 rfl) rfl
theorem q1070 : (Jvm.Cond.laysFinal "LateAndEarly$OnWay" "LateAndEarly$Node" "before" "Ljava/util/ArrayList;") ∈ lw_all := lw_g (lw_at lw_m4 219 rfl) rfl
theorem q1071 : (Jvm.Cond.superclass "LateAndEarly$OnWay" "LateAndEarly$Node") ∈ lw_all := lw_g (lw_at lw_m4 220 rfl) rfl
theorem q1079 : (Jvm.Cond.selects "LateAndEarly$OnWay" ({ cls := "LateAndEarly$Node", name := "works", desc := "()LLateAndEarly$Sum;" } : Jvm.MethodName) ({ cls := "LateAndEarly$Node", name := "works", desc := "()LLateAndEarly$Sum;" } : Jvm.MethodName)) ∈ lw_all := lw_g (lw_at lw_m4 228 rfl) rfl
theorem q1120 : (Jvm.Cond.selects "LateAndEarly$OnWay" ({ cls := "LateAndEarly$Node", name := "kills", desc := "(LLateAndEarly$Sum;)Z" } : Jvm.MethodName) ({ cls := "LateAndEarly$Node", name := "kills", desc := "(LLateAndEarly$Sum;)Z" } : Jvm.MethodName)) ∈ lw_all := lw_g (lw_at lw_m5 29 rfl) rfl
theorem q1132 : (Jvm.Cond.selects "LateAndEarly$OnWay" ({ cls := "LateAndEarly$Node", name := "sets", desc := "()I" } : Jvm.MethodName) ({ cls := "LateAndEarly$Node", name := "sets", desc := "()I" } : Jvm.MethodName)) ∈ lw_all := lw_g (lw_at lw_m5 41 rfl) rfl
theorem q1174 : (Jvm.Cond.selects "LateAndEarly$OnWay" ({ cls := "LateAndEarly$Node", name := "writes", desc := "()I" } : Jvm.MethodName) ({ cls := "LateAndEarly$Node", name := "writes", desc := "()I" } : Jvm.MethodName)) ∈ lw_all := lw_g (lw_at lw_m5 83 rfl) rfl
theorem q1208 : (Jvm.Cond.selects "LateAndEarly$OnWay" ({ cls := "LateAndEarly$Node", name := "isSeen", desc := "()Z" } : Jvm.MethodName) ({ cls := "LateAndEarly$Node", name := "isSeen", desc := "()Z" } : Jvm.MethodName)) ∈ lw_all := lw_g (lw_at lw_m5 117 rfl) rfl
theorem q1281 : (Jvm.Cond.selects "LateAndEarly$OnWay" ({ cls := "LateAndEarly$Node", name := "kind", desc := "()I" } : Jvm.MethodName) ({ cls := "LateAndEarly$OnWay", name := "kind", desc := "()I" } : Jvm.MethodName)) ∈ lw_all := lw_g (lw_at lw_m5 190 rfl) rfl
theorem q1282 : (Jvm.Cond.instanceMethod ({ cls := "LateAndEarly$OnWay", name := "kind", desc := "()I" } : Jvm.MethodName)) ∈ lw_all := lw_g (lw_at lw_m5 191 rfl) rfl
theorem q1283 : (Jvm.Cond.code ({ cls := "LateAndEarly$OnWay", name := "kind", desc := "()I" } : Jvm.MethodName) prog_8_method_2_code (1 : Nat) (Option.some Jvm.ClassFile.FieldType.int)) ∈ lw_all := lw_g (lw_at lw_m5 192 rfl) rfl
theorem q2266 : (Jvm.Cond.castable "LateAndEarly$OnWay" "LateAndEarly$Node") ∈ lw_tbl := lw_at lw_m9 215 rfl
theorem q2291 : (Jvm.Cond.castable "LateAndEarly$OnWay" "java/lang/Object") ∈ lw_tbl := lw_at lw_m10 0 rfl
theorem in_X20 : ∀ w ∈ wsX200, w ∈ lw_all := lw_in wsX200 [1067, 1068, 1069, 1070] (by decide +kernel) (by decide +kernel)
/-! LateAndEarly$Run -/
set_option maxRecDepth 100000
def RX21 : String := "LateAndEarly$Run"
def TX21 : u_T := fun k => match k with
  | 0 => ("LateAndEarly$Run", "\x72", "LLateAndEarly$Routine;", true)
  | 1 => ("LateAndEarly$Run", "placing", "I", true)
  | 2 => ("LateAndEarly$Run", "names", "[I", true)
  | 3 => ("LateAndEarly$Run", "kept", "[I", true)
  | 4 => ("LateAndEarly$Run", "worked", "[I", true)
  | 5 => ("LateAndEarly$Run", "told", "[I", true)
  | 6 => ("LateAndEarly$Run", "rows", "[[I", true)
  | 7 => ("LateAndEarly$Run", "how", "I", false)
  | 8 => ("LateAndEarly$Run", "steps", "I", false)
  | 9 => ("LateAndEarly$Run", "tolds", "I", false)
  | 10 => ("LateAndEarly$Run", "block", "I", false)
  | _ => ("LateAndEarly$Run", "this$0", "LLateAndEarly;", true)
def tyX21 : Nat → FieldType := fun k => match k with
  | 0 => .object "LateAndEarly$Routine"
  | 1 => .int
  | 2 => .array .int
  | 3 => .array .int
  | 4 => .array .int
  | 5 => .array .int
  | 6 => .array (.array .int)
  | 7 => .int
  | 8 => .int
  | 9 => .int
  | 10 => .int
  | _ => .object "LateAndEarly"
abbrev wsX210 : List Cond := u_ws RX21 TX21 12
theorem nmX21 : ∀ a, a < 12 → ∀ b, b < 12 → a ≠ b → (TX21 a).2.1 ≠ (TX21 b).2.1 := by decide +kernel
theorem tyX21_ok : ∀ k, k < 12 → parseFieldDescriptor (TX21 k).2.2.1 = some (tyX21 k) := by decide +kernel
abbrev cX21_init : ByteArray := prog_15_method_1_code
def yX21_init : MethodName := ⟨RX21, "<init>", "(LLateAndEarly;LLateAndEarly$Routine;I)V"⟩
def dkwX21_init_4 : List UInt8 := [132, 4, 1, 167, 255, 232, 177]
abbrev dktX21_init_4 : List UInt8 := dkwX21_init_4 ++ []
def dkwX21_init_3 : List UInt8 := [54, 4, 21, 4, 16, 48, 162, 0, 23, 42, 180, 0, 15, 21, 4, 43, 180, 0, 44, 21, 4, 46, 79]
abbrev dktX21_init_3 : List UInt8 := dkwX21_init_3 ++ dktX21_init_4
def dkwX21_init_2 : List UInt8 := [197, 0, 28, 2, 181, 0, 30, 42, 2, 181, 0, 33, 42, 44, 181, 0, 37, 42, 29, 181, 0, 41, 3]
abbrev dktX21_init_2 : List UInt8 := dkwX21_init_2 ++ dktX21_init_3
def dkwX21_init_1 : List UInt8 := [181, 0, 19, 42, 16, 32, 188, 10, 181, 0, 22, 42, 16, 100, 188, 10, 181, 0, 25, 42, 5, 16, 8]
abbrev dktX21_init_1 : List UInt8 := dkwX21_init_1 ++ dktX21_init_2
def dkwX21_init_0 : List UInt8 := [42, 43, 181, 0, 3, 42, 183, 0, 9, 42, 16, 48, 188, 10, 181, 0, 15, 42, 16, 32, 188, 10]
abbrev dktX21_init_0 : List UInt8 := dkwX21_init_0 ++ dktX21_init_1
theorem dksX21_init_0 : cX21_init.data.toList.drop 0 = dktX21_init_0 := by decide +kernel
theorem dksX21_init_1 : cX21_init.data.toList.drop 22 = dktX21_init_1 := dk_seg dksX21_init_0 22 rfl rfl
theorem dksX21_init_2 : cX21_init.data.toList.drop 45 = dktX21_init_2 := dk_seg dksX21_init_1 23 rfl rfl
theorem dksX21_init_3 : cX21_init.data.toList.drop 68 = dktX21_init_3 := dk_seg dksX21_init_2 23 rfl rfl
theorem dksX21_init_4 : cX21_init.data.toList.drop 91 = dktX21_init_4 := dk_seg dksX21_init_3 23 rfl rfl
theorem dX21_init_0 : decode cX21_init 0 = .ok (.aload_n 0, 1) := dk_42 (dk_at dksX21_init_0 0 rfl rfl)
theorem dX21_init_1 : decode cX21_init 1 = .ok (.aload_n 1, 1) := dk_43 (dk_at dksX21_init_0 1 rfl rfl)
theorem dX21_init_2 : decode cX21_init 2 = .ok (.putfield 3, 3) := dk_181 0 3 (dk_at dksX21_init_0 2 rfl rfl)
theorem dX21_init_5 : decode cX21_init 5 = .ok (.aload_n 0, 1) := dk_42 (dk_at dksX21_init_0 5 rfl rfl)
theorem dX21_init_6 : decode cX21_init 6 = .ok (.invokespecial 9, 3) := dk_183 0 9 (dk_at dksX21_init_0 6 rfl rfl)
theorem dX21_init_9 : decode cX21_init 9 = .ok (.aload_n 0, 1) := dk_42 (dk_at dksX21_init_0 9 rfl rfl)
theorem dX21_init_10 : decode cX21_init 10 = .ok (.bipush 48, 2) := dk_16 48 (dk_at dksX21_init_0 10 rfl rfl)
theorem dX21_init_12 : decode cX21_init 12 = .ok (.newarray .int, 2) := dk_188_10 (dk_at dksX21_init_0 12 rfl rfl)
theorem dX21_init_14 : decode cX21_init 14 = .ok (.putfield 15, 3) := dk_181 0 15 (dk_at dksX21_init_0 14 rfl rfl)
theorem dX21_init_17 : decode cX21_init 17 = .ok (.aload_n 0, 1) := dk_42 (dk_at dksX21_init_0 17 rfl rfl)
theorem dX21_init_18 : decode cX21_init 18 = .ok (.bipush 32, 2) := dk_16 32 (dk_at dksX21_init_0 18 rfl rfl)
theorem dX21_init_20 : decode cX21_init 20 = .ok (.newarray .int, 2) := dk_188_10 (dk_at dksX21_init_0 20 rfl rfl)
theorem dX21_init_22 : decode cX21_init 22 = .ok (.putfield 19, 3) := dk_181 0 19 (dk_at dksX21_init_1 0 rfl rfl)
theorem dX21_init_25 : decode cX21_init 25 = .ok (.aload_n 0, 1) := dk_42 (dk_at dksX21_init_1 3 rfl rfl)
theorem dX21_init_26 : decode cX21_init 26 = .ok (.bipush 32, 2) := dk_16 32 (dk_at dksX21_init_1 4 rfl rfl)
theorem dX21_init_28 : decode cX21_init 28 = .ok (.newarray .int, 2) := dk_188_10 (dk_at dksX21_init_1 6 rfl rfl)
theorem dX21_init_30 : decode cX21_init 30 = .ok (.putfield 22, 3) := dk_181 0 22 (dk_at dksX21_init_1 8 rfl rfl)
theorem dX21_init_33 : decode cX21_init 33 = .ok (.aload_n 0, 1) := dk_42 (dk_at dksX21_init_1 11 rfl rfl)
theorem dX21_init_34 : decode cX21_init 34 = .ok (.bipush 100, 2) := dk_16 100 (dk_at dksX21_init_1 12 rfl rfl)
theorem dX21_init_36 : decode cX21_init 36 = .ok (.newarray .int, 2) := dk_188_10 (dk_at dksX21_init_1 14 rfl rfl)
theorem dX21_init_38 : decode cX21_init 38 = .ok (.putfield 25, 3) := dk_181 0 25 (dk_at dksX21_init_1 16 rfl rfl)
theorem dX21_init_41 : decode cX21_init 41 = .ok (.aload_n 0, 1) := dk_42 (dk_at dksX21_init_1 19 rfl rfl)
theorem dX21_init_42 : decode cX21_init 42 = .ok (.iconst 2, 1) := dk_5 (dk_at dksX21_init_1 20 rfl rfl)
theorem dX21_init_43 : decode cX21_init 43 = .ok (.bipush 8, 2) := dk_16 8 (dk_at dksX21_init_1 21 rfl rfl)
theorem dX21_init_45 : decode cX21_init 45 = .ok (.multianewarray 28 2, 4) := by decide +kernel
theorem dX21_init_49 : decode cX21_init 49 = .ok (.putfield 30, 3) := dk_181 0 30 (dk_at dksX21_init_2 4 rfl rfl)
theorem dX21_init_52 : decode cX21_init 52 = .ok (.aload_n 0, 1) := dk_42 (dk_at dksX21_init_2 7 rfl rfl)
theorem dX21_init_53 : decode cX21_init 53 = .ok (.iconst (-1), 1) := dk_2 (dk_at dksX21_init_2 8 rfl rfl)
theorem dX21_init_54 : decode cX21_init 54 = .ok (.putfield 33, 3) := dk_181 0 33 (dk_at dksX21_init_2 9 rfl rfl)
theorem dX21_init_57 : decode cX21_init 57 = .ok (.aload_n 0, 1) := dk_42 (dk_at dksX21_init_2 12 rfl rfl)
theorem dX21_init_58 : decode cX21_init 58 = .ok (.aload_n 2, 1) := dk_44 (dk_at dksX21_init_2 13 rfl rfl)
theorem dX21_init_59 : decode cX21_init 59 = .ok (.putfield 37, 3) := dk_181 0 37 (dk_at dksX21_init_2 14 rfl rfl)
theorem dX21_init_62 : decode cX21_init 62 = .ok (.aload_n 0, 1) := dk_42 (dk_at dksX21_init_2 17 rfl rfl)
theorem dX21_init_63 : decode cX21_init 63 = .ok (.iload_n 3, 1) := dk_29 (dk_at dksX21_init_2 18 rfl rfl)
theorem dX21_init_64 : decode cX21_init 64 = .ok (.putfield 41, 3) := dk_181 0 41 (dk_at dksX21_init_2 19 rfl rfl)
theorem dX21_init_67 : decode cX21_init 67 = .ok (.iconst 0, 1) := dk_3 (dk_at dksX21_init_2 22 rfl rfl)
theorem dX21_init_68 : decode cX21_init 68 = .ok (.istore 4, 2) := dk_54 4 (dk_at dksX21_init_3 0 rfl rfl)
theorem dX21_init_70 : decode cX21_init 70 = .ok (.iload 4, 2) := dk_21 4 (dk_at dksX21_init_3 2 rfl rfl)
theorem dX21_init_72 : decode cX21_init 72 = .ok (.bipush 48, 2) := dk_16 48 (dk_at dksX21_init_3 4 rfl rfl)
theorem dX21_init_74 : decode cX21_init 74 = .ok (.if_icmp .ge 23, 3) := dk_162 0 23 (dk_at dksX21_init_3 6 rfl rfl)
theorem dX21_init_77 : decode cX21_init 77 = .ok (.aload_n 0, 1) := dk_42 (dk_at dksX21_init_3 9 rfl rfl)
theorem dX21_init_78 : decode cX21_init 78 = .ok (.getfield 15, 3) := dk_180 0 15 (dk_at dksX21_init_3 10 rfl rfl)
theorem dX21_init_81 : decode cX21_init 81 = .ok (.iload 4, 2) := dk_21 4 (dk_at dksX21_init_3 13 rfl rfl)
theorem dX21_init_83 : decode cX21_init 83 = .ok (.aload_n 1, 1) := dk_43 (dk_at dksX21_init_3 15 rfl rfl)
theorem dX21_init_84 : decode cX21_init 84 = .ok (.getfield 44, 3) := dk_180 0 44 (dk_at dksX21_init_3 16 rfl rfl)
theorem dX21_init_87 : decode cX21_init 87 = .ok (.iload 4, 2) := dk_21 4 (dk_at dksX21_init_3 19 rfl rfl)
theorem dX21_init_89 : decode cX21_init 89 = .ok (.iaload, 1) := dk_46 (dk_at dksX21_init_3 21 rfl rfl)
theorem dX21_init_90 : decode cX21_init 90 = .ok (.iastore, 1) := dk_79 (dk_at dksX21_init_3 22 rfl rfl)
theorem dX21_init_91 : decode cX21_init 91 = .ok (.iinc 4 1, 3) := dk_132 4 1 (dk_at dksX21_init_4 0 rfl rfl)
theorem dX21_init_94 : decode cX21_init 94 = .ok (.goto (-24), 3) := dk_167 255 232 (dk_at dksX21_init_4 3 rfl rfl)
theorem dX21_init_97 : decode cX21_init 97 = .ok (.return_, 1) := dk_177 (dk_at dksX21_init_4 6 rfl rfl)
abbrev cX21_go : ByteArray := prog_15_method_5_code
def yX21_go : MethodName := ⟨RX21, "go", "()V"⟩
def dkwX21_go_7 : List UInt8 := [181, 0, 116, 42, 43, 180, 0, 138, 181, 0, 33, 177]
abbrev dktX21_go_7 : List UInt8 := dkwX21_go_7 ++ []
def dkwX21_go_6 : List UInt8 := [167, 255, 191, 42, 43, 182, 0, 134, 76, 167, 255, 124, 42, 3, 181, 0, 116, 167, 0, 17, 77, 42, 4]
abbrev dktX21_go_6 : List UInt8 := dkwX21_go_6 ++ dktX21_go_7
def dkwX21_go_5 : List UInt8 := [154, 0, 19, 42, 180, 0, 19, 25, 5, 180, 0, 63, 42, 25, 5, 182, 0, 130, 79, 132, 4, 1]
abbrev dktX21_go_5 : List UInt8 := dkwX21_go_5 ++ dktX21_go_6
def dkwX21_go_4 : List UInt8 := [180, 0, 124, 21, 4, 182, 0, 102, 192, 0, 64, 58, 5, 32, 25, 5, 180, 0, 63, 123, 10, 127, 10, 148]
abbrev dktX21_go_4 : List UInt8 := dkwX21_go_4 ++ dktX21_go_5
def dkwX21_go_3 : List UInt8 := [3, 54, 4, 21, 4, 42, 180, 0, 37, 180, 0, 124, 182, 0, 127, 162, 0, 56, 42, 180, 0, 37]
abbrev dktX21_go_3 : List UInt8 := dkwX21_go_3 ++ dktX21_go_4
def dkwX21_go_2 : List UInt8 := [180, 0, 113, 4, 96, 181, 0, 113, 42, 180, 0, 37, 42, 180, 0, 41, 43, 180, 0, 119, 182, 0, 120, 65]
abbrev dktX21_go_2 : List UInt8 := dkwX21_go_2 ++ dktX21_go_3
def dkwX21_go_1 : List UInt8 := [16, 7, 159, 0, 29, 42, 180, 0, 113, 17, 3, 232, 160, 0, 9, 42, 5, 181, 0, 116, 177, 42, 89]
abbrev dktX21_go_1 : List UInt8 := dkwX21_go_1 ++ dktX21_go_2
def dkwX21_go_0 : List UInt8 := [42, 180, 0, 37, 180, 0, 96, 3, 182, 0, 102, 192, 0, 108, 76, 43, 198, 0, 134, 43, 182, 0, 110]
abbrev dktX21_go_0 : List UInt8 := dkwX21_go_0 ++ dktX21_go_1
theorem dksX21_go_0 : cX21_go.data.toList.drop 0 = dktX21_go_0 := by decide +kernel
theorem dksX21_go_1 : cX21_go.data.toList.drop 23 = dktX21_go_1 := dk_seg dksX21_go_0 23 rfl rfl
theorem dksX21_go_2 : cX21_go.data.toList.drop 46 = dktX21_go_2 := dk_seg dksX21_go_1 23 rfl rfl
theorem dksX21_go_3 : cX21_go.data.toList.drop 70 = dktX21_go_3 := dk_seg dksX21_go_2 24 rfl rfl
theorem dksX21_go_4 : cX21_go.data.toList.drop 92 = dktX21_go_4 := dk_seg dksX21_go_3 22 rfl rfl
theorem dksX21_go_5 : cX21_go.data.toList.drop 116 = dktX21_go_5 := dk_seg dksX21_go_4 24 rfl rfl
theorem dksX21_go_6 : cX21_go.data.toList.drop 138 = dktX21_go_6 := dk_seg dksX21_go_5 22 rfl rfl
theorem dksX21_go_7 : cX21_go.data.toList.drop 161 = dktX21_go_7 := dk_seg dksX21_go_6 23 rfl rfl
theorem dX21_go_0 : decode cX21_go 0 = .ok (.aload_n 0, 1) := dk_42 (dk_at dksX21_go_0 0 rfl rfl)
theorem dX21_go_1 : decode cX21_go 1 = .ok (.getfield 37, 3) := dk_180 0 37 (dk_at dksX21_go_0 1 rfl rfl)
theorem dX21_go_4 : decode cX21_go 4 = .ok (.getfield 96, 3) := dk_180 0 96 (dk_at dksX21_go_0 4 rfl rfl)
theorem dX21_go_7 : decode cX21_go 7 = .ok (.iconst 0, 1) := dk_3 (dk_at dksX21_go_0 7 rfl rfl)
theorem dX21_go_8 : decode cX21_go 8 = .ok (.invokevirtual 102, 3) := dk_182 0 102 (dk_at dksX21_go_0 8 rfl rfl)
theorem dX21_go_11 : decode cX21_go 11 = .ok (.checkcast 108, 3) := dk_192 0 108 (dk_at dksX21_go_0 11 rfl rfl)
theorem dX21_go_14 : decode cX21_go 14 = .ok (.astore_n 1, 1) := dk_76 (dk_at dksX21_go_0 14 rfl rfl)
theorem dX21_go_15 : decode cX21_go 15 = .ok (.aload_n 1, 1) := dk_43 (dk_at dksX21_go_0 15 rfl rfl)
theorem dX21_go_16 : decode cX21_go 16 = .ok (.ifnull 134, 3) := dk_198 0 134 (dk_at dksX21_go_0 16 rfl rfl)
theorem dX21_go_19 : decode cX21_go 19 = .ok (.aload_n 1, 1) := dk_43 (dk_at dksX21_go_0 19 rfl rfl)
theorem dX21_go_20 : decode cX21_go 20 = .ok (.invokevirtual 110, 3) := dk_182 0 110 (dk_at dksX21_go_0 20 rfl rfl)
theorem dX21_go_23 : decode cX21_go 23 = .ok (.bipush 7, 2) := dk_16 7 (dk_at dksX21_go_1 0 rfl rfl)
theorem dX21_go_25 : decode cX21_go 25 = .ok (.if_icmp .eq 29, 3) := dk_159 0 29 (dk_at dksX21_go_1 2 rfl rfl)
theorem dX21_go_28 : decode cX21_go 28 = .ok (.aload_n 0, 1) := dk_42 (dk_at dksX21_go_1 5 rfl rfl)
theorem dX21_go_29 : decode cX21_go 29 = .ok (.getfield 113, 3) := dk_180 0 113 (dk_at dksX21_go_1 6 rfl rfl)
theorem dX21_go_32 : decode cX21_go 32 = .ok (.sipush 1000, 3) := dk_17 3 232 (dk_at dksX21_go_1 9 rfl rfl)
theorem dX21_go_35 : decode cX21_go 35 = .ok (.if_icmp .ne 9, 3) := dk_160 0 9 (dk_at dksX21_go_1 12 rfl rfl)
theorem dX21_go_38 : decode cX21_go 38 = .ok (.aload_n 0, 1) := dk_42 (dk_at dksX21_go_1 15 rfl rfl)
theorem dX21_go_39 : decode cX21_go 39 = .ok (.iconst 2, 1) := dk_5 (dk_at dksX21_go_1 16 rfl rfl)
theorem dX21_go_40 : decode cX21_go 40 = .ok (.putfield 116, 3) := dk_181 0 116 (dk_at dksX21_go_1 17 rfl rfl)
theorem dX21_go_43 : decode cX21_go 43 = .ok (.return_, 1) := dk_177 (dk_at dksX21_go_1 20 rfl rfl)
theorem dX21_go_44 : decode cX21_go 44 = .ok (.aload_n 0, 1) := dk_42 (dk_at dksX21_go_1 21 rfl rfl)
theorem dX21_go_45 : decode cX21_go 45 = .ok (.dup, 1) := dk_89 (dk_at dksX21_go_1 22 rfl rfl)
theorem dX21_go_46 : decode cX21_go 46 = .ok (.getfield 113, 3) := dk_180 0 113 (dk_at dksX21_go_2 0 rfl rfl)
theorem dX21_go_49 : decode cX21_go 49 = .ok (.iconst 1, 1) := dk_4 (dk_at dksX21_go_2 3 rfl rfl)
theorem dX21_go_50 : decode cX21_go 50 = .ok (.iadd, 1) := dk_96 (dk_at dksX21_go_2 4 rfl rfl)
theorem dX21_go_51 : decode cX21_go 51 = .ok (.putfield 113, 3) := dk_181 0 113 (dk_at dksX21_go_2 5 rfl rfl)
theorem dX21_go_54 : decode cX21_go 54 = .ok (.aload_n 0, 1) := dk_42 (dk_at dksX21_go_2 8 rfl rfl)
theorem dX21_go_55 : decode cX21_go 55 = .ok (.getfield 37, 3) := dk_180 0 37 (dk_at dksX21_go_2 9 rfl rfl)
theorem dX21_go_58 : decode cX21_go 58 = .ok (.aload_n 0, 1) := dk_42 (dk_at dksX21_go_2 12 rfl rfl)
theorem dX21_go_59 : decode cX21_go 59 = .ok (.getfield 41, 3) := dk_180 0 41 (dk_at dksX21_go_2 13 rfl rfl)
theorem dX21_go_62 : decode cX21_go 62 = .ok (.aload_n 1, 1) := dk_43 (dk_at dksX21_go_2 16 rfl rfl)
theorem dX21_go_63 : decode cX21_go 63 = .ok (.getfield 119, 3) := dk_180 0 119 (dk_at dksX21_go_2 17 rfl rfl)
theorem dX21_go_66 : decode cX21_go 66 = .ok (.invokevirtual 120, 3) := dk_182 0 120 (dk_at dksX21_go_2 20 rfl rfl)
theorem dX21_go_69 : decode cX21_go 69 = .ok (.lstore_n 2, 1) := dk_65 (dk_at dksX21_go_2 23 rfl rfl)
theorem dX21_go_70 : decode cX21_go 70 = .ok (.iconst 0, 1) := dk_3 (dk_at dksX21_go_3 0 rfl rfl)
theorem dX21_go_71 : decode cX21_go 71 = .ok (.istore 4, 2) := dk_54 4 (dk_at dksX21_go_3 1 rfl rfl)
theorem dX21_go_73 : decode cX21_go 73 = .ok (.iload 4, 2) := dk_21 4 (dk_at dksX21_go_3 3 rfl rfl)
theorem dX21_go_75 : decode cX21_go 75 = .ok (.aload_n 0, 1) := dk_42 (dk_at dksX21_go_3 5 rfl rfl)
theorem dX21_go_76 : decode cX21_go 76 = .ok (.getfield 37, 3) := dk_180 0 37 (dk_at dksX21_go_3 6 rfl rfl)
theorem dX21_go_79 : decode cX21_go 79 = .ok (.getfield 124, 3) := dk_180 0 124 (dk_at dksX21_go_3 9 rfl rfl)
theorem dX21_go_82 : decode cX21_go 82 = .ok (.invokevirtual 127, 3) := dk_182 0 127 (dk_at dksX21_go_3 12 rfl rfl)
theorem dX21_go_85 : decode cX21_go 85 = .ok (.if_icmp .ge 56, 3) := dk_162 0 56 (dk_at dksX21_go_3 15 rfl rfl)
theorem dX21_go_88 : decode cX21_go 88 = .ok (.aload_n 0, 1) := dk_42 (dk_at dksX21_go_3 18 rfl rfl)
theorem dX21_go_89 : decode cX21_go 89 = .ok (.getfield 37, 3) := dk_180 0 37 (dk_at dksX21_go_3 19 rfl rfl)
theorem dX21_go_92 : decode cX21_go 92 = .ok (.getfield 124, 3) := dk_180 0 124 (dk_at dksX21_go_4 0 rfl rfl)
theorem dX21_go_95 : decode cX21_go 95 = .ok (.iload 4, 2) := dk_21 4 (dk_at dksX21_go_4 3 rfl rfl)
theorem dX21_go_97 : decode cX21_go 97 = .ok (.invokevirtual 102, 3) := dk_182 0 102 (dk_at dksX21_go_4 5 rfl rfl)
theorem dX21_go_100 : decode cX21_go 100 = .ok (.checkcast 64, 3) := dk_192 0 64 (dk_at dksX21_go_4 8 rfl rfl)
theorem dX21_go_103 : decode cX21_go 103 = .ok (.astore 5, 2) := dk_58 5 (dk_at dksX21_go_4 11 rfl rfl)
theorem dX21_go_105 : decode cX21_go 105 = .ok (.lload_n 2, 1) := dk_32 (dk_at dksX21_go_4 13 rfl rfl)
theorem dX21_go_106 : decode cX21_go 106 = .ok (.aload 5, 2) := dk_25 5 (dk_at dksX21_go_4 14 rfl rfl)
theorem dX21_go_108 : decode cX21_go 108 = .ok (.getfield 63, 3) := dk_180 0 63 (dk_at dksX21_go_4 16 rfl rfl)
theorem dX21_go_111 : decode cX21_go 111 = .ok (.lshr, 1) := dk_123 (dk_at dksX21_go_4 19 rfl rfl)
theorem dX21_go_112 : decode cX21_go 112 = .ok (.lconst 1, 1) := dk_10 (dk_at dksX21_go_4 20 rfl rfl)
theorem dX21_go_113 : decode cX21_go 113 = .ok (.land, 1) := dk_127 (dk_at dksX21_go_4 21 rfl rfl)
theorem dX21_go_114 : decode cX21_go 114 = .ok (.lconst 1, 1) := dk_10 (dk_at dksX21_go_4 22 rfl rfl)
theorem dX21_go_115 : decode cX21_go 115 = .ok (.lcmp, 1) := dk_148 (dk_at dksX21_go_4 23 rfl rfl)
theorem dX21_go_116 : decode cX21_go 116 = .ok (.ifCond .ne 19, 3) := dk_154 0 19 (dk_at dksX21_go_5 0 rfl rfl)
theorem dX21_go_119 : decode cX21_go 119 = .ok (.aload_n 0, 1) := dk_42 (dk_at dksX21_go_5 3 rfl rfl)
theorem dX21_go_120 : decode cX21_go 120 = .ok (.getfield 19, 3) := dk_180 0 19 (dk_at dksX21_go_5 4 rfl rfl)
theorem dX21_go_123 : decode cX21_go 123 = .ok (.aload 5, 2) := dk_25 5 (dk_at dksX21_go_5 7 rfl rfl)
theorem dX21_go_125 : decode cX21_go 125 = .ok (.getfield 63, 3) := dk_180 0 63 (dk_at dksX21_go_5 9 rfl rfl)
theorem dX21_go_128 : decode cX21_go 128 = .ok (.aload_n 0, 1) := dk_42 (dk_at dksX21_go_5 12 rfl rfl)
theorem dX21_go_129 : decode cX21_go 129 = .ok (.aload 5, 2) := dk_25 5 (dk_at dksX21_go_5 13 rfl rfl)
theorem dX21_go_131 : decode cX21_go 131 = .ok (.invokevirtual 130, 3) := dk_182 0 130 (dk_at dksX21_go_5 15 rfl rfl)
theorem dX21_go_134 : decode cX21_go 134 = .ok (.iastore, 1) := dk_79 (dk_at dksX21_go_5 18 rfl rfl)
theorem dX21_go_135 : decode cX21_go 135 = .ok (.iinc 4 1, 3) := dk_132 4 1 (dk_at dksX21_go_5 19 rfl rfl)
theorem dX21_go_138 : decode cX21_go 138 = .ok (.goto (-65), 3) := dk_167 255 191 (dk_at dksX21_go_6 0 rfl rfl)
theorem dX21_go_141 : decode cX21_go 141 = .ok (.aload_n 0, 1) := dk_42 (dk_at dksX21_go_6 3 rfl rfl)
theorem dX21_go_142 : decode cX21_go 142 = .ok (.aload_n 1, 1) := dk_43 (dk_at dksX21_go_6 4 rfl rfl)
theorem dX21_go_143 : decode cX21_go 143 = .ok (.invokevirtual 134, 3) := dk_182 0 134 (dk_at dksX21_go_6 5 rfl rfl)
theorem dX21_go_146 : decode cX21_go 146 = .ok (.astore_n 1, 1) := dk_76 (dk_at dksX21_go_6 8 rfl rfl)
theorem dX21_go_147 : decode cX21_go 147 = .ok (.goto (-132), 3) := dk_167 255 124 (dk_at dksX21_go_6 9 rfl rfl)
theorem dX21_go_150 : decode cX21_go 150 = .ok (.aload_n 0, 1) := dk_42 (dk_at dksX21_go_6 12 rfl rfl)
theorem dX21_go_151 : decode cX21_go 151 = .ok (.iconst 0, 1) := dk_3 (dk_at dksX21_go_6 13 rfl rfl)
theorem dX21_go_152 : decode cX21_go 152 = .ok (.putfield 116, 3) := dk_181 0 116 (dk_at dksX21_go_6 14 rfl rfl)
theorem dX21_go_155 : decode cX21_go 155 = .ok (.goto 17, 3) := dk_167 0 17 (dk_at dksX21_go_6 17 rfl rfl)
theorem dX21_go_158 : decode cX21_go 158 = .ok (.astore_n 2, 1) := dk_77 (dk_at dksX21_go_6 20 rfl rfl)
theorem dX21_go_159 : decode cX21_go 159 = .ok (.aload_n 0, 1) := dk_42 (dk_at dksX21_go_6 21 rfl rfl)
theorem dX21_go_160 : decode cX21_go 160 = .ok (.iconst 1, 1) := dk_4 (dk_at dksX21_go_6 22 rfl rfl)
theorem dX21_go_161 : decode cX21_go 161 = .ok (.putfield 116, 3) := dk_181 0 116 (dk_at dksX21_go_7 0 rfl rfl)
theorem dX21_go_164 : decode cX21_go 164 = .ok (.aload_n 0, 1) := dk_42 (dk_at dksX21_go_7 3 rfl rfl)
theorem dX21_go_165 : decode cX21_go 165 = .ok (.aload_n 1, 1) := dk_43 (dk_at dksX21_go_7 4 rfl rfl)
theorem dX21_go_166 : decode cX21_go 166 = .ok (.getfield 138, 3) := dk_180 0 138 (dk_at dksX21_go_7 5 rfl rfl)
theorem dX21_go_169 : decode cX21_go 169 = .ok (.putfield 33, 3) := dk_181 0 33 (dk_at dksX21_go_7 8 rfl rfl)
theorem dX21_go_172 : decode cX21_go 172 = .ok (.return_, 1) := dk_177 (dk_at dksX21_go_7 11 rfl rfl)
abbrev cX21_work : ByteArray := prog_15_method_4_code
def yX21_work : MethodName := ⟨RX21, "work", "(LLateAndEarly$Sum;)I"⟩
def dkwX21_work_5 : List UInt8 := [187, 0, 60, 89, 183, 0, 62, 191, 29, 2, 160, 0, 8, 28, 116, 167, 0, 6, 28, 29, 108, 172]
abbrev dktX21_work_5 : List UInt8 := dkwX21_work_5 ++ []
def dkwX21_work_4 : List UInt8 := [28, 29, 96, 172, 28, 29, 100, 172, 28, 29, 104, 172, 28, 29, 126, 172, 28, 29, 130, 172, 29, 154, 0, 11]
abbrev dktX21_work_4 : List UInt8 := dkwX21_work_4 ++ dktX21_work_5
def dkwX21_work_3 : List UInt8 := [171, 0, 0, 0, 0, 70, 0, 0, 0, 5, 0, 0, 0, 38, 0, 0, 0, 62, 0, 0, 0, 42, 0, 0, 0, 58, 0, 0, 0, 43, 0, 0, 0, 50, 0, 0, 0, 45, 0, 0, 0, 54, 0, 0, 0, 94, 0, 0, 0, 66]
abbrev dktX21_work_3 : List UInt8 := dkwX21_work_3 ++ dktX21_work_4
def dkwX21_work_2 : List UInt8 := [42, 43, 182, 0, 85, 182, 0, 77, 61, 42, 43, 182, 0, 89, 182, 0, 77, 62, 43, 182, 0, 92]
abbrev dktX21_work_2 : List UInt8 := dkwX21_work_2 ++ dktX21_work_3
def dkwX21_work_1 : List UInt8 := [77, 42, 180, 0, 30, 44, 180, 0, 70, 50, 42, 42, 44, 180, 0, 73, 182, 0, 77, 182, 0, 81, 46, 172]
abbrev dktX21_work_1 : List UInt8 := dkwX21_work_1 ++ dktX21_work_2
def dkwX21_work_0 : List UInt8 := [42, 180, 0, 22, 43, 180, 0, 63, 92, 46, 4, 96, 79, 43, 193, 0, 68, 153, 0, 31, 43, 192, 0, 68]
abbrev dktX21_work_0 : List UInt8 := dkwX21_work_0 ++ dktX21_work_1
theorem dksX21_work_0 : cX21_work.data.toList.drop 0 = dktX21_work_0 := by decide +kernel
theorem dksX21_work_1 : cX21_work.data.toList.drop 24 = dktX21_work_1 := dk_seg dksX21_work_0 24 rfl rfl
theorem dksX21_work_2 : cX21_work.data.toList.drop 48 = dktX21_work_2 := dk_seg dksX21_work_1 24 rfl rfl
theorem dksX21_work_3 : cX21_work.data.toList.drop 70 = dktX21_work_3 := dk_seg dksX21_work_2 22 rfl rfl
theorem dksX21_work_4 : cX21_work.data.toList.drop 120 = dktX21_work_4 := dk_seg dksX21_work_3 50 rfl rfl
theorem dksX21_work_5 : cX21_work.data.toList.drop 144 = dktX21_work_5 := dk_seg dksX21_work_4 24 rfl rfl
theorem dX21_work_0 : decode cX21_work 0 = .ok (.aload_n 0, 1) := dk_42 (dk_at dksX21_work_0 0 rfl rfl)
theorem dX21_work_1 : decode cX21_work 1 = .ok (.getfield 22, 3) := dk_180 0 22 (dk_at dksX21_work_0 1 rfl rfl)
theorem dX21_work_4 : decode cX21_work 4 = .ok (.aload_n 1, 1) := dk_43 (dk_at dksX21_work_0 4 rfl rfl)
theorem dX21_work_5 : decode cX21_work 5 = .ok (.getfield 63, 3) := dk_180 0 63 (dk_at dksX21_work_0 5 rfl rfl)
theorem dX21_work_8 : decode cX21_work 8 = .ok (.dup2, 1) := dk_92 (dk_at dksX21_work_0 8 rfl rfl)
theorem dX21_work_9 : decode cX21_work 9 = .ok (.iaload, 1) := dk_46 (dk_at dksX21_work_0 9 rfl rfl)
theorem dX21_work_10 : decode cX21_work 10 = .ok (.iconst 1, 1) := dk_4 (dk_at dksX21_work_0 10 rfl rfl)
theorem dX21_work_11 : decode cX21_work 11 = .ok (.iadd, 1) := dk_96 (dk_at dksX21_work_0 11 rfl rfl)
theorem dX21_work_12 : decode cX21_work 12 = .ok (.iastore, 1) := dk_79 (dk_at dksX21_work_0 12 rfl rfl)
theorem dX21_work_13 : decode cX21_work 13 = .ok (.aload_n 1, 1) := dk_43 (dk_at dksX21_work_0 13 rfl rfl)
theorem dX21_work_14 : decode cX21_work 14 = .ok (.instanceof 68, 3) := dk_193 0 68 (dk_at dksX21_work_0 14 rfl rfl)
theorem dX21_work_17 : decode cX21_work 17 = .ok (.ifCond .eq 31, 3) := dk_153 0 31 (dk_at dksX21_work_0 17 rfl rfl)
theorem dX21_work_20 : decode cX21_work 20 = .ok (.aload_n 1, 1) := dk_43 (dk_at dksX21_work_0 20 rfl rfl)
theorem dX21_work_21 : decode cX21_work 21 = .ok (.checkcast 68, 3) := dk_192 0 68 (dk_at dksX21_work_0 21 rfl rfl)
theorem dX21_work_24 : decode cX21_work 24 = .ok (.astore_n 2, 1) := dk_77 (dk_at dksX21_work_1 0 rfl rfl)
theorem dX21_work_25 : decode cX21_work 25 = .ok (.aload_n 0, 1) := dk_42 (dk_at dksX21_work_1 1 rfl rfl)
theorem dX21_work_26 : decode cX21_work 26 = .ok (.getfield 30, 3) := dk_180 0 30 (dk_at dksX21_work_1 2 rfl rfl)
theorem dX21_work_29 : decode cX21_work 29 = .ok (.aload_n 2, 1) := dk_44 (dk_at dksX21_work_1 5 rfl rfl)
theorem dX21_work_30 : decode cX21_work 30 = .ok (.getfield 70, 3) := dk_180 0 70 (dk_at dksX21_work_1 6 rfl rfl)
theorem dX21_work_33 : decode cX21_work 33 = .ok (.aaload, 1) := dk_50 (dk_at dksX21_work_1 9 rfl rfl)
theorem dX21_work_34 : decode cX21_work 34 = .ok (.aload_n 0, 1) := dk_42 (dk_at dksX21_work_1 10 rfl rfl)
theorem dX21_work_35 : decode cX21_work 35 = .ok (.aload_n 0, 1) := dk_42 (dk_at dksX21_work_1 11 rfl rfl)
theorem dX21_work_36 : decode cX21_work 36 = .ok (.aload_n 2, 1) := dk_44 (dk_at dksX21_work_1 12 rfl rfl)
theorem dX21_work_37 : decode cX21_work 37 = .ok (.getfield 73, 3) := dk_180 0 73 (dk_at dksX21_work_1 13 rfl rfl)
theorem dX21_work_40 : decode cX21_work 40 = .ok (.invokevirtual 77, 3) := dk_182 0 77 (dk_at dksX21_work_1 16 rfl rfl)
theorem dX21_work_43 : decode cX21_work 43 = .ok (.invokevirtual 81, 3) := dk_182 0 81 (dk_at dksX21_work_1 19 rfl rfl)
theorem dX21_work_46 : decode cX21_work 46 = .ok (.iaload, 1) := dk_46 (dk_at dksX21_work_1 22 rfl rfl)
theorem dX21_work_47 : decode cX21_work 47 = .ok (.ireturn, 1) := dk_172 (dk_at dksX21_work_1 23 rfl rfl)
theorem dX21_work_48 : decode cX21_work 48 = .ok (.aload_n 0, 1) := dk_42 (dk_at dksX21_work_2 0 rfl rfl)
theorem dX21_work_49 : decode cX21_work 49 = .ok (.aload_n 1, 1) := dk_43 (dk_at dksX21_work_2 1 rfl rfl)
theorem dX21_work_50 : decode cX21_work 50 = .ok (.invokevirtual 85, 3) := dk_182 0 85 (dk_at dksX21_work_2 2 rfl rfl)
theorem dX21_work_53 : decode cX21_work 53 = .ok (.invokevirtual 77, 3) := dk_182 0 77 (dk_at dksX21_work_2 5 rfl rfl)
theorem dX21_work_56 : decode cX21_work 56 = .ok (.istore_n 2, 1) := dk_61 (dk_at dksX21_work_2 8 rfl rfl)
theorem dX21_work_57 : decode cX21_work 57 = .ok (.aload_n 0, 1) := dk_42 (dk_at dksX21_work_2 9 rfl rfl)
theorem dX21_work_58 : decode cX21_work 58 = .ok (.aload_n 1, 1) := dk_43 (dk_at dksX21_work_2 10 rfl rfl)
theorem dX21_work_59 : decode cX21_work 59 = .ok (.invokevirtual 89, 3) := dk_182 0 89 (dk_at dksX21_work_2 11 rfl rfl)
theorem dX21_work_62 : decode cX21_work 62 = .ok (.invokevirtual 77, 3) := dk_182 0 77 (dk_at dksX21_work_2 14 rfl rfl)
theorem dX21_work_65 : decode cX21_work 65 = .ok (.istore_n 3, 1) := dk_62 (dk_at dksX21_work_2 17 rfl rfl)
theorem dX21_work_66 : decode cX21_work 66 = .ok (.aload_n 1, 1) := dk_43 (dk_at dksX21_work_2 18 rfl rfl)
theorem dX21_work_67 : decode cX21_work 67 = .ok (.invokevirtual 92, 3) := dk_182 0 92 (dk_at dksX21_work_2 19 rfl rfl)
theorem dX21_work_70 : decode cX21_work 70 = .ok (.lookupswitch 70 #[(38, 62), (42, 58), (43, 50), (45, 54), (94, 66)], 50) := by decide +kernel
theorem dX21_work_120 : decode cX21_work 120 = .ok (.iload_n 2, 1) := dk_28 (dk_at dksX21_work_4 0 rfl rfl)
theorem dX21_work_121 : decode cX21_work 121 = .ok (.iload_n 3, 1) := dk_29 (dk_at dksX21_work_4 1 rfl rfl)
theorem dX21_work_122 : decode cX21_work 122 = .ok (.iadd, 1) := dk_96 (dk_at dksX21_work_4 2 rfl rfl)
theorem dX21_work_123 : decode cX21_work 123 = .ok (.ireturn, 1) := dk_172 (dk_at dksX21_work_4 3 rfl rfl)
theorem dX21_work_124 : decode cX21_work 124 = .ok (.iload_n 2, 1) := dk_28 (dk_at dksX21_work_4 4 rfl rfl)
theorem dX21_work_125 : decode cX21_work 125 = .ok (.iload_n 3, 1) := dk_29 (dk_at dksX21_work_4 5 rfl rfl)
theorem dX21_work_126 : decode cX21_work 126 = .ok (.isub, 1) := dk_100 (dk_at dksX21_work_4 6 rfl rfl)
theorem dX21_work_127 : decode cX21_work 127 = .ok (.ireturn, 1) := dk_172 (dk_at dksX21_work_4 7 rfl rfl)
theorem dX21_work_128 : decode cX21_work 128 = .ok (.iload_n 2, 1) := dk_28 (dk_at dksX21_work_4 8 rfl rfl)
theorem dX21_work_129 : decode cX21_work 129 = .ok (.iload_n 3, 1) := dk_29 (dk_at dksX21_work_4 9 rfl rfl)
theorem dX21_work_130 : decode cX21_work 130 = .ok (.imul, 1) := dk_104 (dk_at dksX21_work_4 10 rfl rfl)
theorem dX21_work_131 : decode cX21_work 131 = .ok (.ireturn, 1) := dk_172 (dk_at dksX21_work_4 11 rfl rfl)
theorem dX21_work_132 : decode cX21_work 132 = .ok (.iload_n 2, 1) := dk_28 (dk_at dksX21_work_4 12 rfl rfl)
theorem dX21_work_133 : decode cX21_work 133 = .ok (.iload_n 3, 1) := dk_29 (dk_at dksX21_work_4 13 rfl rfl)
theorem dX21_work_134 : decode cX21_work 134 = .ok (.iand, 1) := dk_126 (dk_at dksX21_work_4 14 rfl rfl)
theorem dX21_work_135 : decode cX21_work 135 = .ok (.ireturn, 1) := dk_172 (dk_at dksX21_work_4 15 rfl rfl)
theorem dX21_work_136 : decode cX21_work 136 = .ok (.iload_n 2, 1) := dk_28 (dk_at dksX21_work_4 16 rfl rfl)
theorem dX21_work_137 : decode cX21_work 137 = .ok (.iload_n 3, 1) := dk_29 (dk_at dksX21_work_4 17 rfl rfl)
theorem dX21_work_138 : decode cX21_work 138 = .ok (.ixor, 1) := dk_130 (dk_at dksX21_work_4 18 rfl rfl)
theorem dX21_work_139 : decode cX21_work 139 = .ok (.ireturn, 1) := dk_172 (dk_at dksX21_work_4 19 rfl rfl)
theorem dX21_work_140 : decode cX21_work 140 = .ok (.iload_n 3, 1) := dk_29 (dk_at dksX21_work_4 20 rfl rfl)
theorem dX21_work_141 : decode cX21_work 141 = .ok (.ifCond .ne 11, 3) := dk_154 0 11 (dk_at dksX21_work_4 21 rfl rfl)
theorem dX21_work_144 : decode cX21_work 144 = .ok (.new 60, 3) := dk_187 0 60 (dk_at dksX21_work_5 0 rfl rfl)
theorem dX21_work_147 : decode cX21_work 147 = .ok (.dup, 1) := dk_89 (dk_at dksX21_work_5 3 rfl rfl)
theorem dX21_work_148 : decode cX21_work 148 = .ok (.invokespecial 62, 3) := dk_183 0 62 (dk_at dksX21_work_5 4 rfl rfl)
theorem dX21_work_151 : decode cX21_work 151 = .ok (.athrow, 1) := dk_191 (dk_at dksX21_work_5 7 rfl rfl)
theorem dX21_work_152 : decode cX21_work 152 = .ok (.iload_n 3, 1) := dk_29 (dk_at dksX21_work_5 8 rfl rfl)
theorem dX21_work_153 : decode cX21_work 153 = .ok (.iconst (-1), 1) := dk_2 (dk_at dksX21_work_5 9 rfl rfl)
theorem dX21_work_154 : decode cX21_work 154 = .ok (.if_icmp .ne 8, 3) := dk_160 0 8 (dk_at dksX21_work_5 10 rfl rfl)
theorem dX21_work_157 : decode cX21_work 157 = .ok (.iload_n 2, 1) := dk_28 (dk_at dksX21_work_5 13 rfl rfl)
theorem dX21_work_158 : decode cX21_work 158 = .ok (.ineg, 1) := dk_116 (dk_at dksX21_work_5 14 rfl rfl)
theorem dX21_work_159 : decode cX21_work 159 = .ok (.goto 6, 3) := dk_167 0 6 (dk_at dksX21_work_5 15 rfl rfl)
theorem dX21_work_162 : decode cX21_work 162 = .ok (.iload_n 2, 1) := dk_28 (dk_at dksX21_work_5 18 rfl rfl)
theorem dX21_work_163 : decode cX21_work 163 = .ok (.iload_n 3, 1) := dk_29 (dk_at dksX21_work_5 19 rfl rfl)
theorem dX21_work_164 : decode cX21_work 164 = .ok (.idiv, 1) := dk_108 (dk_at dksX21_work_5 20 rfl rfl)
theorem dX21_work_165 : decode cX21_work 165 = .ok (.ireturn, 1) := dk_172 (dk_at dksX21_work_5 21 rfl rfl)
abbrev cX21_worth : ByteArray := prog_15_method_2_code
def yX21_worth : MethodName := ⟨RX21, "worth", "(LLateAndEarly$Operand;)I"⟩
def dkwX21_worth_0 : List UInt8 := [43, 180, 0, 47, 153, 0, 15, 42, 180, 0, 15, 43, 180, 0, 53, 46, 167, 0, 7, 43, 180, 0, 53, 172]
abbrev dktX21_worth_0 : List UInt8 := dkwX21_worth_0 ++ []
theorem dksX21_worth_0 : cX21_worth.data.toList.drop 0 = dktX21_worth_0 := by decide +kernel
theorem dX21_worth_0 : decode cX21_worth 0 = .ok (.aload_n 1, 1) := dk_43 (dk_at dksX21_worth_0 0 rfl rfl)
theorem dX21_worth_1 : decode cX21_worth 1 = .ok (.getfield 47, 3) := dk_180 0 47 (dk_at dksX21_worth_0 1 rfl rfl)
theorem dX21_worth_4 : decode cX21_worth 4 = .ok (.ifCond .eq 15, 3) := dk_153 0 15 (dk_at dksX21_worth_0 4 rfl rfl)
theorem dX21_worth_7 : decode cX21_worth 7 = .ok (.aload_n 0, 1) := dk_42 (dk_at dksX21_worth_0 7 rfl rfl)
theorem dX21_worth_8 : decode cX21_worth 8 = .ok (.getfield 15, 3) := dk_180 0 15 (dk_at dksX21_worth_0 8 rfl rfl)
theorem dX21_worth_11 : decode cX21_worth 11 = .ok (.aload_n 1, 1) := dk_43 (dk_at dksX21_worth_0 11 rfl rfl)
theorem dX21_worth_12 : decode cX21_worth 12 = .ok (.getfield 53, 3) := dk_180 0 53 (dk_at dksX21_worth_0 12 rfl rfl)
theorem dX21_worth_15 : decode cX21_worth 15 = .ok (.iaload, 1) := dk_46 (dk_at dksX21_worth_0 15 rfl rfl)
theorem dX21_worth_16 : decode cX21_worth 16 = .ok (.goto 7, 3) := dk_167 0 7 (dk_at dksX21_worth_0 16 rfl rfl)
theorem dX21_worth_19 : decode cX21_worth 19 = .ok (.aload_n 1, 1) := dk_43 (dk_at dksX21_worth_0 19 rfl rfl)
theorem dX21_worth_20 : decode cX21_worth 20 = .ok (.getfield 53, 3) := dk_180 0 53 (dk_at dksX21_worth_0 20 rfl rfl)
theorem dX21_worth_23 : decode cX21_worth 23 = .ok (.ireturn, 1) := dk_172 (dk_at dksX21_worth_0 23 rfl rfl)
abbrev cX21_place : ByteArray := prog_15_method_3_code
def yX21_place : MethodName := ⟨RX21, "place", "(I)I"⟩
def dkwX21_place_0 : List UInt8 := [27, 3, 16, 7, 184, 0, 56, 154, 0, 11, 187, 0, 60, 89, 183, 0, 62, 191, 27, 172]
abbrev dktX21_place_0 : List UInt8 := dkwX21_place_0 ++ []
theorem dksX21_place_0 : cX21_place.data.toList.drop 0 = dktX21_place_0 := by decide +kernel
theorem dX21_place_0 : decode cX21_place 0 = .ok (.iload_n 1, 1) := dk_27 (dk_at dksX21_place_0 0 rfl rfl)
theorem dX21_place_1 : decode cX21_place 1 = .ok (.iconst 0, 1) := dk_3 (dk_at dksX21_place_0 1 rfl rfl)
theorem dX21_place_2 : decode cX21_place 2 = .ok (.bipush 7, 2) := dk_16 7 (dk_at dksX21_place_0 2 rfl rfl)
theorem dX21_place_4 : decode cX21_place 4 = .ok (.invokestatic 56, 3) := dk_184 0 56 (dk_at dksX21_place_0 4 rfl rfl)
theorem dX21_place_7 : decode cX21_place 7 = .ok (.ifCond .ne 11, 3) := dk_154 0 11 (dk_at dksX21_place_0 7 rfl rfl)
theorem dX21_place_10 : decode cX21_place 10 = .ok (.new 60, 3) := dk_187 0 60 (dk_at dksX21_place_0 10 rfl rfl)
theorem dX21_place_13 : decode cX21_place 13 = .ok (.dup, 1) := dk_89 (dk_at dksX21_place_0 13 rfl rfl)
theorem dX21_place_14 : decode cX21_place 14 = .ok (.invokespecial 62, 3) := dk_183 0 62 (dk_at dksX21_place_0 14 rfl rfl)
theorem dX21_place_17 : decode cX21_place 17 = .ok (.athrow, 1) := dk_191 (dk_at dksX21_place_0 17 rfl rfl)
theorem dX21_place_18 : decode cX21_place 18 = .ok (.iload_n 1, 1) := dk_27 (dk_at dksX21_place_0 18 rfl rfl)
theorem dX21_place_19 : decode cX21_place 19 = .ok (.ireturn, 1) := dk_172 (dk_at dksX21_place_0 19 rfl rfl)
abbrev cX21_does : ByteArray := prog_15_method_6_code
def yX21_does : MethodName := ⟨RX21, "does", "(LLateAndEarly$Node;)LLateAndEarly$Node;"⟩
def dkwX21_does_12 : List UInt8 := [154, 0, 7, 1, 167, 0, 14, 43, 180, 0, 172, 3, 182, 0, 102, 192, 0, 108, 176]
abbrev dktX21_does_12 : List UInt8 := dkwX21_does_12 ++ []
def dkwX21_does_11 : List UInt8 := [162, 0, 7, 3, 167, 0, 4, 4, 182, 0, 102, 192, 0, 108, 176, 43, 180, 0, 172, 182, 0, 127]
abbrev dktX21_does_11 : List UInt8 := dkwX21_does_11 ++ dktX21_does_12
def dkwX21_does_10 : List UInt8 := [58, 6, 43, 180, 0, 172, 42, 25, 6, 180, 0, 175, 182, 0, 77, 42, 25, 6, 180, 0, 178, 182, 0, 77]
abbrev dktX21_does_10 : List UInt8 := dkwX21_does_10 ++ dktX21_does_11
def dkwX21_does_9 : List UInt8 := [89, 180, 0, 166, 4, 96, 181, 0, 166, 167, 0, 53, 43, 193, 0, 170, 153, 0, 46, 43, 192, 0, 170]
abbrev dktX21_does_9 : List UInt8 := dkwX21_does_9 ++ dktX21_does_10
def dkwX21_does_8 : List UInt8 := [16, 100, 162, 0, 21, 42, 180, 0, 25, 42, 180, 0, 166, 42, 25, 5, 180, 0, 169, 182, 0, 77, 79, 42]
abbrev dktX21_does_8 : List UInt8 := dkwX21_does_8 ++ dktX21_does_9
def dkwX21_does_7 : List UInt8 := [182, 0, 77, 79, 167, 0, 106, 43, 193, 0, 164, 153, 0, 49, 43, 192, 0, 164, 58, 5, 42, 180, 0, 166]
abbrev dktX21_does_7 : List UInt8 := dkwX21_does_7 ++ dktX21_does_8
def dkwX21_does_6 : List UInt8 := [180, 0, 159, 50, 42, 42, 25, 4, 180, 0, 160, 182, 0, 77, 182, 0, 81, 42, 25, 4, 180, 0, 161]
abbrev dktX21_does_6 : List UInt8 := dkwX21_does_6 ++ dktX21_does_7
def dkwX21_does_5 : List UInt8 := [79, 167, 0, 155, 43, 193, 0, 157, 153, 0, 45, 43, 192, 0, 157, 58, 4, 42, 180, 0, 30, 25, 4]
abbrev dktX21_does_5 : List UInt8 := dkwX21_does_5 ++ dktX21_does_6
def dkwX21_does_4 : List UInt8 := [153, 0, 28, 43, 192, 0, 151, 78, 42, 180, 0, 15, 45, 180, 0, 153, 42, 45, 180, 0, 154, 182, 0, 77]
abbrev dktX21_does_4 : List UInt8 := dkwX21_does_4 ++ dktX21_does_5
def dkwX21_does_3 : List UInt8 := [180, 0, 63, 46, 167, 0, 11, 42, 44, 180, 0, 144, 182, 0, 130, 79, 167, 0, 187, 43, 193, 0, 151]
abbrev dktX21_does_3 : List UInt8 := dkwX21_does_3 ++ dktX21_does_4
def dkwX21_does_2 : List UInt8 := [54, 7, 42, 180, 0, 15, 44, 180, 0, 148, 21, 7, 153, 0, 18, 42, 180, 0, 19, 44, 180, 0, 144]
abbrev dktX21_does_2 : List UInt8 := dkwX21_does_2 ++ dktX21_does_3
def dkwX21_does_1 : List UInt8 := [182, 0, 141, 44, 180, 0, 144, 180, 0, 63, 123, 10, 127, 10, 148, 154, 0, 7, 4, 167, 0, 4, 3]
abbrev dktX21_does_1 : List UInt8 := dkwX21_does_1 ++ dktX21_does_2
def dkwX21_does_0 : List UInt8 := [43, 193, 0, 139, 153, 0, 85, 43, 192, 0, 139, 77, 42, 180, 0, 37, 42, 180, 0, 41, 43, 180, 0, 119]
abbrev dktX21_does_0 : List UInt8 := dkwX21_does_0 ++ dktX21_does_1
theorem dksX21_does_0 : cX21_does.data.toList.drop 0 = dktX21_does_0 := by decide +kernel
theorem dksX21_does_1 : cX21_does.data.toList.drop 24 = dktX21_does_1 := dk_seg dksX21_does_0 24 rfl rfl
theorem dksX21_does_2 : cX21_does.data.toList.drop 47 = dktX21_does_2 := dk_seg dksX21_does_1 23 rfl rfl
theorem dksX21_does_3 : cX21_does.data.toList.drop 70 = dktX21_does_3 := dk_seg dksX21_does_2 23 rfl rfl
theorem dksX21_does_4 : cX21_does.data.toList.drop 93 = dktX21_does_4 := dk_seg dksX21_does_3 23 rfl rfl
theorem dksX21_does_5 : cX21_does.data.toList.drop 117 = dktX21_does_5 := dk_seg dksX21_does_4 24 rfl rfl
theorem dksX21_does_6 : cX21_does.data.toList.drop 140 = dktX21_does_6 := dk_seg dksX21_does_5 23 rfl rfl
theorem dksX21_does_7 : cX21_does.data.toList.drop 163 = dktX21_does_7 := dk_seg dksX21_does_6 23 rfl rfl
theorem dksX21_does_8 : cX21_does.data.toList.drop 187 = dktX21_does_8 := dk_seg dksX21_does_7 24 rfl rfl
theorem dksX21_does_9 : cX21_does.data.toList.drop 211 = dktX21_does_9 := dk_seg dksX21_does_8 24 rfl rfl
theorem dksX21_does_10 : cX21_does.data.toList.drop 234 = dktX21_does_10 := dk_seg dksX21_does_9 23 rfl rfl
theorem dksX21_does_11 : cX21_does.data.toList.drop 258 = dktX21_does_11 := dk_seg dksX21_does_10 24 rfl rfl
theorem dksX21_does_12 : cX21_does.data.toList.drop 280 = dktX21_does_12 := dk_seg dksX21_does_11 22 rfl rfl
theorem dX21_does_0 : decode cX21_does 0 = .ok (.aload_n 1, 1) := dk_43 (dk_at dksX21_does_0 0 rfl rfl)
theorem dX21_does_1 : decode cX21_does 1 = .ok (.instanceof 139, 3) := dk_193 0 139 (dk_at dksX21_does_0 1 rfl rfl)
theorem dX21_does_4 : decode cX21_does 4 = .ok (.ifCond .eq 85, 3) := dk_153 0 85 (dk_at dksX21_does_0 4 rfl rfl)
theorem dX21_does_7 : decode cX21_does 7 = .ok (.aload_n 1, 1) := dk_43 (dk_at dksX21_does_0 7 rfl rfl)
theorem dX21_does_8 : decode cX21_does 8 = .ok (.checkcast 139, 3) := dk_192 0 139 (dk_at dksX21_does_0 8 rfl rfl)
theorem dX21_does_11 : decode cX21_does 11 = .ok (.astore_n 2, 1) := dk_77 (dk_at dksX21_does_0 11 rfl rfl)
theorem dX21_does_12 : decode cX21_does 12 = .ok (.aload_n 0, 1) := dk_42 (dk_at dksX21_does_0 12 rfl rfl)
theorem dX21_does_13 : decode cX21_does 13 = .ok (.getfield 37, 3) := dk_180 0 37 (dk_at dksX21_does_0 13 rfl rfl)
theorem dX21_does_16 : decode cX21_does 16 = .ok (.aload_n 0, 1) := dk_42 (dk_at dksX21_does_0 16 rfl rfl)
theorem dX21_does_17 : decode cX21_does 17 = .ok (.getfield 41, 3) := dk_180 0 41 (dk_at dksX21_does_0 17 rfl rfl)
theorem dX21_does_20 : decode cX21_does 20 = .ok (.aload_n 1, 1) := dk_43 (dk_at dksX21_does_0 20 rfl rfl)
theorem dX21_does_21 : decode cX21_does 21 = .ok (.getfield 119, 3) := dk_180 0 119 (dk_at dksX21_does_0 21 rfl rfl)
theorem dX21_does_24 : decode cX21_does 24 = .ok (.invokevirtual 141, 3) := dk_182 0 141 (dk_at dksX21_does_1 0 rfl rfl)
theorem dX21_does_27 : decode cX21_does 27 = .ok (.aload_n 2, 1) := dk_44 (dk_at dksX21_does_1 3 rfl rfl)
theorem dX21_does_28 : decode cX21_does 28 = .ok (.getfield 144, 3) := dk_180 0 144 (dk_at dksX21_does_1 4 rfl rfl)
theorem dX21_does_31 : decode cX21_does 31 = .ok (.getfield 63, 3) := dk_180 0 63 (dk_at dksX21_does_1 7 rfl rfl)
theorem dX21_does_34 : decode cX21_does 34 = .ok (.lshr, 1) := dk_123 (dk_at dksX21_does_1 10 rfl rfl)
theorem dX21_does_35 : decode cX21_does 35 = .ok (.lconst 1, 1) := dk_10 (dk_at dksX21_does_1 11 rfl rfl)
theorem dX21_does_36 : decode cX21_does 36 = .ok (.land, 1) := dk_127 (dk_at dksX21_does_1 12 rfl rfl)
theorem dX21_does_37 : decode cX21_does 37 = .ok (.lconst 1, 1) := dk_10 (dk_at dksX21_does_1 13 rfl rfl)
theorem dX21_does_38 : decode cX21_does 38 = .ok (.lcmp, 1) := dk_148 (dk_at dksX21_does_1 14 rfl rfl)
theorem dX21_does_39 : decode cX21_does 39 = .ok (.ifCond .ne 7, 3) := dk_154 0 7 (dk_at dksX21_does_1 15 rfl rfl)
theorem dX21_does_42 : decode cX21_does 42 = .ok (.iconst 1, 1) := dk_4 (dk_at dksX21_does_1 18 rfl rfl)
theorem dX21_does_43 : decode cX21_does 43 = .ok (.goto 4, 3) := dk_167 0 4 (dk_at dksX21_does_1 19 rfl rfl)
theorem dX21_does_46 : decode cX21_does 46 = .ok (.iconst 0, 1) := dk_3 (dk_at dksX21_does_1 22 rfl rfl)
theorem dX21_does_47 : decode cX21_does 47 = .ok (.istore 7, 2) := dk_54 7 (dk_at dksX21_does_2 0 rfl rfl)
theorem dX21_does_49 : decode cX21_does 49 = .ok (.aload_n 0, 1) := dk_42 (dk_at dksX21_does_2 2 rfl rfl)
theorem dX21_does_50 : decode cX21_does 50 = .ok (.getfield 15, 3) := dk_180 0 15 (dk_at dksX21_does_2 3 rfl rfl)
theorem dX21_does_53 : decode cX21_does 53 = .ok (.aload_n 2, 1) := dk_44 (dk_at dksX21_does_2 6 rfl rfl)
theorem dX21_does_54 : decode cX21_does 54 = .ok (.getfield 148, 3) := dk_180 0 148 (dk_at dksX21_does_2 7 rfl rfl)
theorem dX21_does_57 : decode cX21_does 57 = .ok (.iload 7, 2) := dk_21 7 (dk_at dksX21_does_2 10 rfl rfl)
theorem dX21_does_59 : decode cX21_does 59 = .ok (.ifCond .eq 18, 3) := dk_153 0 18 (dk_at dksX21_does_2 12 rfl rfl)
theorem dX21_does_62 : decode cX21_does 62 = .ok (.aload_n 0, 1) := dk_42 (dk_at dksX21_does_2 15 rfl rfl)
theorem dX21_does_63 : decode cX21_does 63 = .ok (.getfield 19, 3) := dk_180 0 19 (dk_at dksX21_does_2 16 rfl rfl)
theorem dX21_does_66 : decode cX21_does 66 = .ok (.aload_n 2, 1) := dk_44 (dk_at dksX21_does_2 19 rfl rfl)
theorem dX21_does_67 : decode cX21_does 67 = .ok (.getfield 144, 3) := dk_180 0 144 (dk_at dksX21_does_2 20 rfl rfl)
theorem dX21_does_70 : decode cX21_does 70 = .ok (.getfield 63, 3) := dk_180 0 63 (dk_at dksX21_does_3 0 rfl rfl)
theorem dX21_does_73 : decode cX21_does 73 = .ok (.iaload, 1) := dk_46 (dk_at dksX21_does_3 3 rfl rfl)
theorem dX21_does_74 : decode cX21_does 74 = .ok (.goto 11, 3) := dk_167 0 11 (dk_at dksX21_does_3 4 rfl rfl)
theorem dX21_does_77 : decode cX21_does 77 = .ok (.aload_n 0, 1) := dk_42 (dk_at dksX21_does_3 7 rfl rfl)
theorem dX21_does_78 : decode cX21_does 78 = .ok (.aload_n 2, 1) := dk_44 (dk_at dksX21_does_3 8 rfl rfl)
theorem dX21_does_79 : decode cX21_does 79 = .ok (.getfield 144, 3) := dk_180 0 144 (dk_at dksX21_does_3 9 rfl rfl)
theorem dX21_does_82 : decode cX21_does 82 = .ok (.invokevirtual 130, 3) := dk_182 0 130 (dk_at dksX21_does_3 12 rfl rfl)
theorem dX21_does_85 : decode cX21_does 85 = .ok (.iastore, 1) := dk_79 (dk_at dksX21_does_3 15 rfl rfl)
theorem dX21_does_86 : decode cX21_does 86 = .ok (.goto 187, 3) := dk_167 0 187 (dk_at dksX21_does_3 16 rfl rfl)
theorem dX21_does_89 : decode cX21_does 89 = .ok (.aload_n 1, 1) := dk_43 (dk_at dksX21_does_3 19 rfl rfl)
theorem dX21_does_90 : decode cX21_does 90 = .ok (.instanceof 151, 3) := dk_193 0 151 (dk_at dksX21_does_3 20 rfl rfl)
theorem dX21_does_93 : decode cX21_does 93 = .ok (.ifCond .eq 28, 3) := dk_153 0 28 (dk_at dksX21_does_4 0 rfl rfl)
theorem dX21_does_96 : decode cX21_does 96 = .ok (.aload_n 1, 1) := dk_43 (dk_at dksX21_does_4 3 rfl rfl)
theorem dX21_does_97 : decode cX21_does 97 = .ok (.checkcast 151, 3) := dk_192 0 151 (dk_at dksX21_does_4 4 rfl rfl)
theorem dX21_does_100 : decode cX21_does 100 = .ok (.astore_n 3, 1) := dk_78 (dk_at dksX21_does_4 7 rfl rfl)
theorem dX21_does_101 : decode cX21_does 101 = .ok (.aload_n 0, 1) := dk_42 (dk_at dksX21_does_4 8 rfl rfl)
theorem dX21_does_102 : decode cX21_does 102 = .ok (.getfield 15, 3) := dk_180 0 15 (dk_at dksX21_does_4 9 rfl rfl)
theorem dX21_does_105 : decode cX21_does 105 = .ok (.aload_n 3, 1) := dk_45 (dk_at dksX21_does_4 12 rfl rfl)
theorem dX21_does_106 : decode cX21_does 106 = .ok (.getfield 153, 3) := dk_180 0 153 (dk_at dksX21_does_4 13 rfl rfl)
theorem dX21_does_109 : decode cX21_does 109 = .ok (.aload_n 0, 1) := dk_42 (dk_at dksX21_does_4 16 rfl rfl)
theorem dX21_does_110 : decode cX21_does 110 = .ok (.aload_n 3, 1) := dk_45 (dk_at dksX21_does_4 17 rfl rfl)
theorem dX21_does_111 : decode cX21_does 111 = .ok (.getfield 154, 3) := dk_180 0 154 (dk_at dksX21_does_4 18 rfl rfl)
theorem dX21_does_114 : decode cX21_does 114 = .ok (.invokevirtual 77, 3) := dk_182 0 77 (dk_at dksX21_does_4 21 rfl rfl)
theorem dX21_does_117 : decode cX21_does 117 = .ok (.iastore, 1) := dk_79 (dk_at dksX21_does_5 0 rfl rfl)
theorem dX21_does_118 : decode cX21_does 118 = .ok (.goto 155, 3) := dk_167 0 155 (dk_at dksX21_does_5 1 rfl rfl)
theorem dX21_does_121 : decode cX21_does 121 = .ok (.aload_n 1, 1) := dk_43 (dk_at dksX21_does_5 4 rfl rfl)
theorem dX21_does_122 : decode cX21_does 122 = .ok (.instanceof 157, 3) := dk_193 0 157 (dk_at dksX21_does_5 5 rfl rfl)
theorem dX21_does_125 : decode cX21_does 125 = .ok (.ifCond .eq 45, 3) := dk_153 0 45 (dk_at dksX21_does_5 8 rfl rfl)
theorem dX21_does_128 : decode cX21_does 128 = .ok (.aload_n 1, 1) := dk_43 (dk_at dksX21_does_5 11 rfl rfl)
theorem dX21_does_129 : decode cX21_does 129 = .ok (.checkcast 157, 3) := dk_192 0 157 (dk_at dksX21_does_5 12 rfl rfl)
theorem dX21_does_132 : decode cX21_does 132 = .ok (.astore 4, 2) := dk_58 4 (dk_at dksX21_does_5 15 rfl rfl)
theorem dX21_does_134 : decode cX21_does 134 = .ok (.aload_n 0, 1) := dk_42 (dk_at dksX21_does_5 17 rfl rfl)
theorem dX21_does_135 : decode cX21_does 135 = .ok (.getfield 30, 3) := dk_180 0 30 (dk_at dksX21_does_5 18 rfl rfl)
theorem dX21_does_138 : decode cX21_does 138 = .ok (.aload 4, 2) := dk_25 4 (dk_at dksX21_does_5 21 rfl rfl)
theorem dX21_does_140 : decode cX21_does 140 = .ok (.getfield 159, 3) := dk_180 0 159 (dk_at dksX21_does_6 0 rfl rfl)
theorem dX21_does_143 : decode cX21_does 143 = .ok (.aaload, 1) := dk_50 (dk_at dksX21_does_6 3 rfl rfl)
theorem dX21_does_144 : decode cX21_does 144 = .ok (.aload_n 0, 1) := dk_42 (dk_at dksX21_does_6 4 rfl rfl)
theorem dX21_does_145 : decode cX21_does 145 = .ok (.aload_n 0, 1) := dk_42 (dk_at dksX21_does_6 5 rfl rfl)
theorem dX21_does_146 : decode cX21_does 146 = .ok (.aload 4, 2) := dk_25 4 (dk_at dksX21_does_6 6 rfl rfl)
theorem dX21_does_148 : decode cX21_does 148 = .ok (.getfield 160, 3) := dk_180 0 160 (dk_at dksX21_does_6 8 rfl rfl)
theorem dX21_does_151 : decode cX21_does 151 = .ok (.invokevirtual 77, 3) := dk_182 0 77 (dk_at dksX21_does_6 11 rfl rfl)
theorem dX21_does_154 : decode cX21_does 154 = .ok (.invokevirtual 81, 3) := dk_182 0 81 (dk_at dksX21_does_6 14 rfl rfl)
theorem dX21_does_157 : decode cX21_does 157 = .ok (.aload_n 0, 1) := dk_42 (dk_at dksX21_does_6 17 rfl rfl)
theorem dX21_does_158 : decode cX21_does 158 = .ok (.aload 4, 2) := dk_25 4 (dk_at dksX21_does_6 18 rfl rfl)
theorem dX21_does_160 : decode cX21_does 160 = .ok (.getfield 161, 3) := dk_180 0 161 (dk_at dksX21_does_6 20 rfl rfl)
theorem dX21_does_163 : decode cX21_does 163 = .ok (.invokevirtual 77, 3) := dk_182 0 77 (dk_at dksX21_does_7 0 rfl rfl)
theorem dX21_does_166 : decode cX21_does 166 = .ok (.iastore, 1) := dk_79 (dk_at dksX21_does_7 3 rfl rfl)
theorem dX21_does_167 : decode cX21_does 167 = .ok (.goto 106, 3) := dk_167 0 106 (dk_at dksX21_does_7 4 rfl rfl)
theorem dX21_does_170 : decode cX21_does 170 = .ok (.aload_n 1, 1) := dk_43 (dk_at dksX21_does_7 7 rfl rfl)
theorem dX21_does_171 : decode cX21_does 171 = .ok (.instanceof 164, 3) := dk_193 0 164 (dk_at dksX21_does_7 8 rfl rfl)
theorem dX21_does_174 : decode cX21_does 174 = .ok (.ifCond .eq 49, 3) := dk_153 0 49 (dk_at dksX21_does_7 11 rfl rfl)
theorem dX21_does_177 : decode cX21_does 177 = .ok (.aload_n 1, 1) := dk_43 (dk_at dksX21_does_7 14 rfl rfl)
theorem dX21_does_178 : decode cX21_does 178 = .ok (.checkcast 164, 3) := dk_192 0 164 (dk_at dksX21_does_7 15 rfl rfl)
theorem dX21_does_181 : decode cX21_does 181 = .ok (.astore 5, 2) := dk_58 5 (dk_at dksX21_does_7 18 rfl rfl)
theorem dX21_does_183 : decode cX21_does 183 = .ok (.aload_n 0, 1) := dk_42 (dk_at dksX21_does_7 20 rfl rfl)
theorem dX21_does_184 : decode cX21_does 184 = .ok (.getfield 166, 3) := dk_180 0 166 (dk_at dksX21_does_7 21 rfl rfl)
theorem dX21_does_187 : decode cX21_does 187 = .ok (.bipush 100, 2) := dk_16 100 (dk_at dksX21_does_8 0 rfl rfl)
theorem dX21_does_189 : decode cX21_does 189 = .ok (.if_icmp .ge 21, 3) := dk_162 0 21 (dk_at dksX21_does_8 2 rfl rfl)
theorem dX21_does_192 : decode cX21_does 192 = .ok (.aload_n 0, 1) := dk_42 (dk_at dksX21_does_8 5 rfl rfl)
theorem dX21_does_193 : decode cX21_does 193 = .ok (.getfield 25, 3) := dk_180 0 25 (dk_at dksX21_does_8 6 rfl rfl)
theorem dX21_does_196 : decode cX21_does 196 = .ok (.aload_n 0, 1) := dk_42 (dk_at dksX21_does_8 9 rfl rfl)
theorem dX21_does_197 : decode cX21_does 197 = .ok (.getfield 166, 3) := dk_180 0 166 (dk_at dksX21_does_8 10 rfl rfl)
theorem dX21_does_200 : decode cX21_does 200 = .ok (.aload_n 0, 1) := dk_42 (dk_at dksX21_does_8 13 rfl rfl)
theorem dX21_does_201 : decode cX21_does 201 = .ok (.aload 5, 2) := dk_25 5 (dk_at dksX21_does_8 14 rfl rfl)
theorem dX21_does_203 : decode cX21_does 203 = .ok (.getfield 169, 3) := dk_180 0 169 (dk_at dksX21_does_8 16 rfl rfl)
theorem dX21_does_206 : decode cX21_does 206 = .ok (.invokevirtual 77, 3) := dk_182 0 77 (dk_at dksX21_does_8 19 rfl rfl)
theorem dX21_does_209 : decode cX21_does 209 = .ok (.iastore, 1) := dk_79 (dk_at dksX21_does_8 22 rfl rfl)
theorem dX21_does_210 : decode cX21_does 210 = .ok (.aload_n 0, 1) := dk_42 (dk_at dksX21_does_8 23 rfl rfl)
theorem dX21_does_211 : decode cX21_does 211 = .ok (.dup, 1) := dk_89 (dk_at dksX21_does_9 0 rfl rfl)
theorem dX21_does_212 : decode cX21_does 212 = .ok (.getfield 166, 3) := dk_180 0 166 (dk_at dksX21_does_9 1 rfl rfl)
theorem dX21_does_215 : decode cX21_does 215 = .ok (.iconst 1, 1) := dk_4 (dk_at dksX21_does_9 4 rfl rfl)
theorem dX21_does_216 : decode cX21_does 216 = .ok (.iadd, 1) := dk_96 (dk_at dksX21_does_9 5 rfl rfl)
theorem dX21_does_217 : decode cX21_does 217 = .ok (.putfield 166, 3) := dk_181 0 166 (dk_at dksX21_does_9 6 rfl rfl)
theorem dX21_does_220 : decode cX21_does 220 = .ok (.goto 53, 3) := dk_167 0 53 (dk_at dksX21_does_9 9 rfl rfl)
theorem dX21_does_223 : decode cX21_does 223 = .ok (.aload_n 1, 1) := dk_43 (dk_at dksX21_does_9 12 rfl rfl)
theorem dX21_does_224 : decode cX21_does 224 = .ok (.instanceof 170, 3) := dk_193 0 170 (dk_at dksX21_does_9 13 rfl rfl)
theorem dX21_does_227 : decode cX21_does 227 = .ok (.ifCond .eq 46, 3) := dk_153 0 46 (dk_at dksX21_does_9 16 rfl rfl)
theorem dX21_does_230 : decode cX21_does 230 = .ok (.aload_n 1, 1) := dk_43 (dk_at dksX21_does_9 19 rfl rfl)
theorem dX21_does_231 : decode cX21_does 231 = .ok (.checkcast 170, 3) := dk_192 0 170 (dk_at dksX21_does_9 20 rfl rfl)
theorem dX21_does_234 : decode cX21_does 234 = .ok (.astore 6, 2) := dk_58 6 (dk_at dksX21_does_10 0 rfl rfl)
theorem dX21_does_236 : decode cX21_does 236 = .ok (.aload_n 1, 1) := dk_43 (dk_at dksX21_does_10 2 rfl rfl)
theorem dX21_does_237 : decode cX21_does 237 = .ok (.getfield 172, 3) := dk_180 0 172 (dk_at dksX21_does_10 3 rfl rfl)
theorem dX21_does_240 : decode cX21_does 240 = .ok (.aload_n 0, 1) := dk_42 (dk_at dksX21_does_10 6 rfl rfl)
theorem dX21_does_241 : decode cX21_does 241 = .ok (.aload 6, 2) := dk_25 6 (dk_at dksX21_does_10 7 rfl rfl)
theorem dX21_does_243 : decode cX21_does 243 = .ok (.getfield 175, 3) := dk_180 0 175 (dk_at dksX21_does_10 9 rfl rfl)
theorem dX21_does_246 : decode cX21_does 246 = .ok (.invokevirtual 77, 3) := dk_182 0 77 (dk_at dksX21_does_10 12 rfl rfl)
theorem dX21_does_249 : decode cX21_does 249 = .ok (.aload_n 0, 1) := dk_42 (dk_at dksX21_does_10 15 rfl rfl)
theorem dX21_does_250 : decode cX21_does 250 = .ok (.aload 6, 2) := dk_25 6 (dk_at dksX21_does_10 16 rfl rfl)
theorem dX21_does_252 : decode cX21_does 252 = .ok (.getfield 178, 3) := dk_180 0 178 (dk_at dksX21_does_10 18 rfl rfl)
theorem dX21_does_255 : decode cX21_does 255 = .ok (.invokevirtual 77, 3) := dk_182 0 77 (dk_at dksX21_does_10 21 rfl rfl)
theorem dX21_does_258 : decode cX21_does 258 = .ok (.if_icmp .ge 7, 3) := dk_162 0 7 (dk_at dksX21_does_11 0 rfl rfl)
theorem dX21_does_261 : decode cX21_does 261 = .ok (.iconst 0, 1) := dk_3 (dk_at dksX21_does_11 3 rfl rfl)
theorem dX21_does_262 : decode cX21_does 262 = .ok (.goto 4, 3) := dk_167 0 4 (dk_at dksX21_does_11 4 rfl rfl)
theorem dX21_does_265 : decode cX21_does 265 = .ok (.iconst 1, 1) := dk_4 (dk_at dksX21_does_11 7 rfl rfl)
theorem dX21_does_266 : decode cX21_does 266 = .ok (.invokevirtual 102, 3) := dk_182 0 102 (dk_at dksX21_does_11 8 rfl rfl)
theorem dX21_does_269 : decode cX21_does 269 = .ok (.checkcast 108, 3) := dk_192 0 108 (dk_at dksX21_does_11 11 rfl rfl)
theorem dX21_does_272 : decode cX21_does 272 = .ok (.areturn, 1) := dk_176 (dk_at dksX21_does_11 14 rfl rfl)
theorem dX21_does_273 : decode cX21_does 273 = .ok (.aload_n 1, 1) := dk_43 (dk_at dksX21_does_11 15 rfl rfl)
theorem dX21_does_274 : decode cX21_does 274 = .ok (.getfield 172, 3) := dk_180 0 172 (dk_at dksX21_does_11 16 rfl rfl)
theorem dX21_does_277 : decode cX21_does 277 = .ok (.invokevirtual 127, 3) := dk_182 0 127 (dk_at dksX21_does_11 19 rfl rfl)
theorem dX21_does_280 : decode cX21_does 280 = .ok (.ifCond .ne 7, 3) := dk_154 0 7 (dk_at dksX21_does_12 0 rfl rfl)
theorem dX21_does_283 : decode cX21_does 283 = .ok (.aconst_null, 1) := dk_1 (dk_at dksX21_does_12 3 rfl rfl)
theorem dX21_does_284 : decode cX21_does 284 = .ok (.goto 14, 3) := dk_167 0 14 (dk_at dksX21_does_12 4 rfl rfl)
theorem dX21_does_287 : decode cX21_does 287 = .ok (.aload_n 1, 1) := dk_43 (dk_at dksX21_does_12 7 rfl rfl)
theorem dX21_does_288 : decode cX21_does 288 = .ok (.getfield 172, 3) := dk_180 0 172 (dk_at dksX21_does_12 8 rfl rfl)
theorem dX21_does_291 : decode cX21_does 291 = .ok (.iconst 0, 1) := dk_3 (dk_at dksX21_does_12 11 rfl rfl)
theorem dX21_does_292 : decode cX21_does 292 = .ok (.invokevirtual 102, 3) := dk_182 0 102 (dk_at dksX21_does_12 12 rfl rfl)
theorem dX21_does_295 : decode cX21_does 295 = .ok (.checkcast 108, 3) := dk_192 0 108 (dk_at dksX21_does_12 15 rfl rfl)
theorem dX21_does_298 : decode cX21_does 298 = .ok (.areturn, 1) := dk_176 (dk_at dksX21_does_12 18 rfl rfl)
theorem q172 : (Jvm.Cond.initialized "LateAndEarly$Run") ∈ lw_all := lw_g (lw_at lw_m1 41 rfl) rfl
theorem q210 : (Jvm.Cond.fieldLinkNest "LateAndEarly$Run" (44 : Nat) "LateAndEarly" "begins" "[I" "LateAndEarly") ∈ lw_tbl := lw_at lw_m1 79 rfl
theorem q294 : (Jvm.Cond.fieldLinkNest "LateAndEarly$Run" (96 : Nat) "LateAndEarly$Routine" "nodes" "Ljava/util/ArrayList;" "LateAndEarly") ∈ lw_tbl := lw_at lw_m1 163 rfl
theorem q298 : (Jvm.Cond.fieldLinkNest "LateAndEarly$Run" (124 : Nat) "LateAndEarly$Routine" "sums" "Ljava/util/ArrayList;" "LateAndEarly") ∈ lw_tbl := lw_at lw_m1 167 rfl
theorem q645 : (Jvm.Cond.selects "LateAndEarly$Run" ({ cls := "java/lang/Object", name := "getClass", desc := "()Ljava/lang/Class;" } : Jvm.MethodName) ({ cls := "java/lang/Object", name := "getClass", desc := "()Ljava/lang/Class;" } : Jvm.MethodName)) ∈ lw_all := lw_g (lw_at lw_m3 34 rfl) rfl
theorem q725 : (Jvm.Cond.fieldLinkNest "LateAndEarly$Run" (47 : Nat) "LateAndEarly$Operand" "isName" "Z" "LateAndEarly") ∈ lw_tbl := lw_at lw_m3 114 rfl
theorem q729 : (Jvm.Cond.fieldLinkNest "LateAndEarly$Run" (53 : Nat) "LateAndEarly$Operand" "v" "I" "LateAndEarly") ∈ lw_tbl := lw_at lw_m3 118 rfl
theorem q747 : (Jvm.Cond.fieldLinkNest "LateAndEarly$Run" (169 : Nat) "LateAndEarly$Tell" "what" "LLateAndEarly$Operand;" "LateAndEarly") ∈ lw_tbl := lw_at lw_m3 136 rfl
theorem q751 : (Jvm.Cond.fieldLinkNest "LateAndEarly$Run" (119 : Nat) "LateAndEarly$Node" "number" "I" "LateAndEarly") ∈ lw_tbl := lw_at lw_m3 140 rfl
theorem q755 : (Jvm.Cond.fieldLinkNest "LateAndEarly$Run" (138 : Nat) "LateAndEarly$Node" "block" "I" "LateAndEarly") ∈ lw_tbl := lw_at lw_m3 144 rfl
theorem q759 : (Jvm.Cond.fieldLink "LateAndEarly$Run" (172 : Nat) "LateAndEarly$Node" "next" "Ljava/util/ArrayList;") ∈ lw_all := lw_g (lw_at lw_m3 148 rfl) rfl
theorem q822 : (Jvm.Cond.fieldLinkNest "LateAndEarly$Run" (175 : Nat) "LateAndEarly$If" "a" "LLateAndEarly$Operand;" "LateAndEarly") ∈ lw_tbl := lw_at lw_m3 211 rfl
theorem q826 : (Jvm.Cond.fieldLinkNest "LateAndEarly$Run" (178 : Nat) "LateAndEarly$If" "b" "LLateAndEarly$Operand;" "LateAndEarly") ∈ lw_tbl := lw_at lw_m3 215 rfl
theorem q855 : (Jvm.Cond.fieldLinkNest "LateAndEarly$Run" (159 : Nat) "LateAndEarly$Write" "row" "I" "LateAndEarly") ∈ lw_tbl := lw_at lw_m4 4 rfl
theorem q858 : (Jvm.Cond.fieldLinkNest "LateAndEarly$Run" (160 : Nat) "LateAndEarly$Write" "at" "LLateAndEarly$Operand;" "LateAndEarly") ∈ lw_tbl := lw_at lw_m4 7 rfl
theorem q862 : (Jvm.Cond.fieldLinkNest "LateAndEarly$Run" (161 : Nat) "LateAndEarly$Write" "what" "LLateAndEarly$Operand;" "LateAndEarly") ∈ lw_tbl := lw_at lw_m4 11 rfl
theorem q892 : (Jvm.Cond.fieldLinkNest "LateAndEarly$Run" (70 : Nat) "LateAndEarly$Read" "row" "I" "LateAndEarly") ∈ lw_tbl := lw_at lw_m4 41 rfl
theorem q895 : (Jvm.Cond.fieldLinkNest "LateAndEarly$Run" (73 : Nat) "LateAndEarly$Read" "at" "LLateAndEarly$Operand;" "LateAndEarly") ∈ lw_tbl := lw_at lw_m4 44 rfl
theorem q898 : (Jvm.Cond.fieldLinkNest "LateAndEarly$Run" (63 : Nat) "LateAndEarly$Sum" "number" "I" "LateAndEarly") ∈ lw_tbl := lw_at lw_m4 47 rfl
theorem q918 : (Jvm.Cond.fieldLinkNest "LateAndEarly$Run" (144 : Nat) "LateAndEarly$SetSum" "sum" "LLateAndEarly$Sum;" "LateAndEarly") ∈ lw_tbl := lw_at lw_m4 67 rfl
theorem q921 : (Jvm.Cond.fieldLink "LateAndEarly$Run" (148 : Nat) "LateAndEarly$SetSum" "name" "I") ∈ lw_all := lw_g (lw_at lw_m4 70 rfl) rfl
theorem q923 : (Jvm.Cond.fieldLink "LateAndEarly$Run" (153 : Nat) "LateAndEarly$SetOperand" "name" "I") ∈ lw_all := lw_g (lw_at lw_m4 72 rfl) rfl
theorem q944 : (Jvm.Cond.fieldLinkNest "LateAndEarly$Run" (154 : Nat) "LateAndEarly$SetOperand" "from" "LLateAndEarly$Operand;" "LateAndEarly") ∈ lw_tbl := lw_at lw_m4 93 rfl
theorem q1378 : (Jvm.Cond.instantiable "LateAndEarly$Run" (12 : Nat)) ∈ lw_all := lw_g (lw_at lw_m6 47 rfl) rfl
theorem q1380 : (Jvm.Cond.instanceMethod ({ cls := "LateAndEarly$Run", name := "<init>", desc := "(LLateAndEarly;LLateAndEarly$Routine;I)V" } : Jvm.MethodName)) ∈ lw_all := lw_g (lw_at lw_m6 49 rfl) rfl
theorem q1381 : (Jvm.Cond.code ({ cls := "LateAndEarly$Run", name := "<init>", desc := "(LLateAndEarly;LLateAndEarly$Routine;I)V" } : Jvm.MethodName) prog_15_method_1_code (5 : Nat) (Option.none : Option Jvm.ClassFile.FieldType)) ∈ lw_all := lw_g (lw_at lw_m6 50 rfl) rfl
theorem q1382 : (Jvm.Cond.methodLink "LateAndEarly$Run" (9 : Nat) ({ cls := "java/lang/Object", name := "<init>", desc := "()V" } : Jvm.MethodName)) ∈ lw_all := lw_g (lw_at lw_m6 51 rfl) rfl
theorem q1383 : (Jvm.Cond.classLink "LateAndEarly$Run" (28 : Nat) "[[I") ∈ lw_all := lw_g (lw_at lw_m6 52 rfl) rfl
theorem q1385 : (Jvm.Cond.fieldLink "LateAndEarly$Run" (37 : Nat) "LateAndEarly$Run" "\x72" "LLateAndEarly$Routine;") ∈ lw_all := lw_g (lw_at lw_m6 54 rfl) rfl
theorem q1386 : (Jvm.Cond.fieldLink "LateAndEarly$Run" (41 : Nat) "LateAndEarly$Run" "placing" "I") ∈ lw_all := lw_g (lw_at lw_m6 55 rfl) rfl
theorem q1387 : (Jvm.Cond.fieldLink "LateAndEarly$Run" (15 : Nat) "LateAndEarly$Run" "names" "[I") ∈ lw_all := lw_g (lw_at lw_m6 56 rfl) rfl
theorem q1389 : (Jvm.Cond.fieldLink "LateAndEarly$Run" (19 : Nat) "LateAndEarly$Run" "kept" "[I") ∈ lw_all := lw_g (lw_at lw_m6 58 rfl) rfl
theorem q1390 : (Jvm.Cond.fieldLink "LateAndEarly$Run" (22 : Nat) "LateAndEarly$Run" "worked" "[I") ∈ lw_all := lw_g (lw_at lw_m6 59 rfl) rfl
theorem q1392 : (Jvm.Cond.fieldLink "LateAndEarly$Run" (25 : Nat) "LateAndEarly$Run" "told" "[I") ∈ lw_all := lw_g (lw_at lw_m6 61 rfl) rfl
theorem q1394 : (Jvm.Cond.fieldLink "LateAndEarly$Run" (30 : Nat) "LateAndEarly$Run" "rows" "[[I") ∈ lw_all := lw_g (lw_at lw_m6 63 rfl) rfl
theorem q1396 : (Jvm.Cond.fieldLink "LateAndEarly$Run" (116 : Nat) "LateAndEarly$Run" "how" "I") ∈ lw_all := lw_g (lw_at lw_m6 65 rfl) rfl
theorem q1398 : (Jvm.Cond.fieldLink "LateAndEarly$Run" (113 : Nat) "LateAndEarly$Run" "steps" "I") ∈ lw_all := lw_g (lw_at lw_m6 67 rfl) rfl
theorem q1400 : (Jvm.Cond.fieldLink "LateAndEarly$Run" (166 : Nat) "LateAndEarly$Run" "tolds" "I") ∈ lw_all := lw_g (lw_at lw_m6 69 rfl) rfl
theorem q1402 : (Jvm.Cond.fieldLink "LateAndEarly$Run" (33 : Nat) "LateAndEarly$Run" "block" "I") ∈ lw_all := lw_g (lw_at lw_m6 71 rfl) rfl
theorem q1404 : (Jvm.Cond.fieldLink "LateAndEarly$Run" (3 : Nat) "LateAndEarly$Run" "this$0" "LLateAndEarly;") ∈ lw_all := lw_g (lw_at lw_m6 73 rfl) rfl
theorem q1405 : (Jvm.Cond.laysFinal "LateAndEarly$Run" "LateAndEarly$Run" "\x72" "LLateAndEarly$Routine;") ∈ lw_all := lw_g (lw_at lw_m6 74 rfl) rfl
theorem q1406 : (Jvm.Cond.soleField "LateAndEarly$Run" "\x72") ∈ lw_all := lw_g (lw_at lw_m6 75 rfl) rfl
theorem q1407 : (Jvm.Cond.laysFinal "LateAndEarly$Run" "LateAndEarly$Run" "placing" "I") ∈ lw_all := lw_g (lw_at lw_m6 76 rfl) rfl
theorem q1408 : (Jvm.Cond.soleField "LateAndEarly$Run" "placing") ∈ lw_all := lw_g (lw_at lw_m6 77 rfl) rfl
theorem q1409 : (Jvm.Cond.laysFinal "LateAndEarly$Run" "LateAndEarly$Run" "names" "[I") ∈ lw_all := lw_g (lw_at lw_m6 78 rfl) rfl
theorem q1410 : (Jvm.Cond.soleField "LateAndEarly$Run" "names") ∈ lw_all := lw_g (lw_at lw_m6 79 rfl) rfl
theorem q1411 : (Jvm.Cond.laysFinal "LateAndEarly$Run" "LateAndEarly$Run" "kept" "[I") ∈ lw_all := lw_g (lw_at lw_m6 80 rfl) rfl
theorem q1412 : (Jvm.Cond.soleField "LateAndEarly$Run" "kept") ∈ lw_all := lw_g (lw_at lw_m6 81 rfl) rfl
theorem q1413 : (Jvm.Cond.laysFinal "LateAndEarly$Run" "LateAndEarly$Run" "worked" "[I") ∈ lw_all := lw_g (lw_at lw_m6 82 rfl) rfl
theorem q1414 : (Jvm.Cond.soleField "LateAndEarly$Run" "worked") ∈ lw_all := lw_g (lw_at lw_m6 83 rfl) rfl
theorem q1415 : (Jvm.Cond.laysFinal "LateAndEarly$Run" "LateAndEarly$Run" "told" "[I") ∈ lw_all := lw_g (lw_at lw_m6 84 rfl) rfl
theorem q1416 : (Jvm.Cond.soleField "LateAndEarly$Run" "told") ∈ lw_all := lw_g (lw_at lw_m6 85 rfl) rfl
theorem q1417 : (Jvm.Cond.laysFinal "LateAndEarly$Run" "LateAndEarly$Run" "rows" "[[I") ∈ lw_all := lw_g (lw_at lw_m6 86 rfl) rfl
theorem q1418 : (Jvm.Cond.soleField "LateAndEarly$Run" "rows") ∈ lw_all := lw_g (lw_at lw_m6 87 rfl) rfl
theorem q1419 : (Jvm.Cond.lays "LateAndEarly$Run" "LateAndEarly$Run" "how" "I") ∈ lw_all := lw_g (lw_at lw_m6 88 rfl) rfl
theorem q1420 : (Jvm.Cond.soleField "LateAndEarly$Run" "how") ∈ lw_all := lw_g (lw_at lw_m6 89 rfl) rfl
theorem q1421 : (Jvm.Cond.lays "LateAndEarly$Run" "LateAndEarly$Run" "steps" "I") ∈ lw_all := lw_g (lw_at lw_m6 90 rfl) rfl
theorem q1422 : (Jvm.Cond.soleField "LateAndEarly$Run" "steps") ∈ lw_all := lw_g (lw_at lw_m6 91 rfl) rfl
theorem q1423 : (Jvm.Cond.lays "LateAndEarly$Run" "LateAndEarly$Run" "tolds" "I") ∈ lw_all := lw_g (lw_at lw_m6 92 rfl) rfl
theorem q1424 : (Jvm.Cond.soleField "LateAndEarly$Run" "tolds") ∈ lw_all := lw_g (lw_at lw_m6 93 rfl) rfl
theorem q1425 : (Jvm.Cond.lays "LateAndEarly$Run" "LateAndEarly$Run" "block" "I") ∈ lw_all := lw_g (lw_at lw_m6 94 rfl) rfl
theorem q1426 : (Jvm.Cond.soleField "LateAndEarly$Run" "block") ∈ lw_all := lw_g (lw_at lw_m6 95 rfl) rfl
theorem q1427 : (Jvm.Cond.laysFinal "LateAndEarly$Run" "LateAndEarly$Run" "this$0" "LLateAndEarly;") ∈ lw_all := lw_g (lw_at lw_m6 96 rfl) rfl
theorem q1428 : (Jvm.Cond.soleField "LateAndEarly$Run" "this$0") ∈ lw_all := lw_g (lw_at lw_m6 97 rfl) rfl
theorem q1429 : (Jvm.Cond.superclass "LateAndEarly$Run" "java/lang/Object") ∈ lw_all := lw_g (lw_at lw_m6 98 rfl) rfl
theorem q1431 : (Jvm.Cond.instanceMethod ({ cls := "LateAndEarly$Run", name := "go", desc := "()V" } : Jvm.MethodName)) ∈ lw_all := lw_g (lw_at lw_m6 100 rfl) rfl
theorem q1432 : (Jvm.Cond.selects "LateAndEarly$Run" ({ cls := "LateAndEarly$Run", name := "go", desc := "()V" } : Jvm.MethodName) ({ cls := "LateAndEarly$Run", name := "go", desc := "()V" } : Jvm.MethodName)) ∈ lw_all := lw_g (lw_at lw_m6 101 rfl) rfl
theorem q1433 : (Jvm.Cond.codeWith ({ cls := "LateAndEarly$Run", name := "go", desc := "()V" } : Jvm.MethodName) prog_15_method_5_code (6 : Nat) (Option.none : Option Jvm.ClassFile.FieldType) [((15 : Nat), (43 : Nat), (158 : Nat), (60 : Nat)), ((44 : Nat), (155 : Nat), (158 : Nat), (60 : Nat))]) ∈ lw_all := lw_g (lw_at lw_m6 102 rfl) rfl
theorem q1434 : (Jvm.Cond.classLink "LateAndEarly$Run" (60 : Nat) "LateAndEarly$Refusal") ∈ lw_all := lw_g (lw_at lw_m6 103 rfl) rfl
theorem q1435 : (Jvm.Cond.methodLink "LateAndEarly$Run" (102 : Nat) ({ cls := "java/util/ArrayList", name := "get", desc := "(I)Ljava/lang/Object;" } : Jvm.MethodName)) ∈ lw_all := lw_g (lw_at lw_m6 104 rfl) rfl
theorem q1436 : (Jvm.Cond.classLink "LateAndEarly$Run" (108 : Nat) "LateAndEarly$Node") ∈ lw_all := lw_g (lw_at lw_m6 105 rfl) rfl
theorem q1437 : (Jvm.Cond.methodLink "LateAndEarly$Run" (110 : Nat) ({ cls := "LateAndEarly$Node", name := "kind", desc := "()I" } : Jvm.MethodName)) ∈ lw_all := lw_g (lw_at lw_m6 106 rfl) rfl
theorem q1438 : (Jvm.Cond.methodLink "LateAndEarly$Run" (120 : Nat) ({ cls := "LateAndEarly$Routine", name := "setAt", desc := "(II)J" } : Jvm.MethodName)) ∈ lw_all := lw_g (lw_at lw_m6 107 rfl) rfl
theorem q1439 : (Jvm.Cond.methodLink "LateAndEarly$Run" (127 : Nat) ({ cls := "java/util/ArrayList", name := "size", desc := "()I" } : Jvm.MethodName)) ∈ lw_all := lw_g (lw_at lw_m6 108 rfl) rfl
theorem q1440 : (Jvm.Cond.classLink "LateAndEarly$Run" (64 : Nat) "LateAndEarly$Sum") ∈ lw_all := lw_g (lw_at lw_m6 109 rfl) rfl
theorem q1441 : (Jvm.Cond.methodLink "LateAndEarly$Run" (130 : Nat) ({ cls := "LateAndEarly$Run", name := "work", desc := "(LLateAndEarly$Sum;)I" } : Jvm.MethodName)) ∈ lw_all := lw_g (lw_at lw_m6 110 rfl) rfl
theorem q1442 : (Jvm.Cond.privateMethod ({ cls := "LateAndEarly$Run", name := "work", desc := "(LLateAndEarly$Sum;)I" } : Jvm.MethodName)) ∈ lw_tbl := lw_at lw_m6 111 rfl
theorem q1443 : (Jvm.Cond.instanceMethod ({ cls := "LateAndEarly$Run", name := "work", desc := "(LLateAndEarly$Sum;)I" } : Jvm.MethodName)) ∈ lw_all := lw_g (lw_at lw_m6 112 rfl) rfl
theorem q1444 : (Jvm.Cond.code ({ cls := "LateAndEarly$Run", name := "work", desc := "(LLateAndEarly$Sum;)I" } : Jvm.MethodName) prog_15_method_4_code (4 : Nat) (Option.some Jvm.ClassFile.FieldType.int)) ∈ lw_all := lw_g (lw_at lw_m6 113 rfl) rfl
theorem q1445 : (Jvm.Cond.classLink "LateAndEarly$Run" (68 : Nat) "LateAndEarly$Read") ∈ lw_all := lw_g (lw_at lw_m6 114 rfl) rfl
theorem q1446 : (Jvm.Cond.methodLink "LateAndEarly$Run" (77 : Nat) ({ cls := "LateAndEarly$Run", name := "worth", desc := "(LLateAndEarly$Operand;)I" } : Jvm.MethodName)) ∈ lw_all := lw_g (lw_at lw_m6 115 rfl) rfl
theorem q1447 : (Jvm.Cond.privateMethod ({ cls := "LateAndEarly$Run", name := "worth", desc := "(LLateAndEarly$Operand;)I" } : Jvm.MethodName)) ∈ lw_tbl := lw_at lw_m6 116 rfl
theorem q1448 : (Jvm.Cond.instanceMethod ({ cls := "LateAndEarly$Run", name := "worth", desc := "(LLateAndEarly$Operand;)I" } : Jvm.MethodName)) ∈ lw_all := lw_g (lw_at lw_m6 117 rfl) rfl
theorem q1449 : (Jvm.Cond.code ({ cls := "LateAndEarly$Run", name := "worth", desc := "(LLateAndEarly$Operand;)I" } : Jvm.MethodName) prog_15_method_2_code (2 : Nat) (Option.some Jvm.ClassFile.FieldType.int)) ∈ lw_all := lw_g (lw_at lw_m6 118 rfl) rfl
theorem q1450 : (Jvm.Cond.methodLink "LateAndEarly$Run" (81 : Nat) ({ cls := "LateAndEarly$Run", name := "place", desc := "(I)I" } : Jvm.MethodName)) ∈ lw_all := lw_g (lw_at lw_m6 119 rfl) rfl
theorem q1451 : (Jvm.Cond.privateMethod ({ cls := "LateAndEarly$Run", name := "place", desc := "(I)I" } : Jvm.MethodName)) ∈ lw_tbl := lw_at lw_m6 120 rfl
theorem q1452 : (Jvm.Cond.instanceMethod ({ cls := "LateAndEarly$Run", name := "place", desc := "(I)I" } : Jvm.MethodName)) ∈ lw_all := lw_g (lw_at lw_m6 121 rfl) rfl
theorem q1453 : (Jvm.Cond.code ({ cls := "LateAndEarly$Run", name := "place", desc := "(I)I" } : Jvm.MethodName) prog_15_method_3_code (2 : Nat) (Option.some Jvm.ClassFile.FieldType.int)) ∈ lw_all := lw_g (lw_at lw_m6 122 rfl) rfl
theorem q1454 : (Jvm.Cond.methodLinkNest "LateAndEarly$Run" (56 : Nat) ({ cls := "LateAndEarly", name := "in", desc := "(III)Z" } : Jvm.MethodName) "LateAndEarly") ∈ lw_tbl := lw_at lw_m6 123 rfl
theorem q1463 : (Jvm.Cond.methodLink "LateAndEarly$Run" (62 : Nat) ({ cls := "LateAndEarly$Refusal", name := "<init>", desc := "()V" } : Jvm.MethodName)) ∈ lw_all := lw_g (lw_at lw_m6 132 rfl) rfl
theorem q1469 : (Jvm.Cond.methodLink "LateAndEarly$Run" (85 : Nat) ({ cls := "LateAndEarly$Sum", name := "first", desc := "()LLateAndEarly$Operand;" } : Jvm.MethodName)) ∈ lw_all := lw_g (lw_at lw_m6 138 rfl) rfl
theorem q1470 : (Jvm.Cond.methodLink "LateAndEarly$Run" (89 : Nat) ({ cls := "LateAndEarly$Sum", name := "second", desc := "()LLateAndEarly$Operand;" } : Jvm.MethodName)) ∈ lw_all := lw_g (lw_at lw_m6 139 rfl) rfl
theorem q1471 : (Jvm.Cond.methodLink "LateAndEarly$Run" (92 : Nat) ({ cls := "LateAndEarly$Sum", name := "sign", desc := "()I" } : Jvm.MethodName)) ∈ lw_all := lw_g (lw_at lw_m6 140 rfl) rfl
theorem q1472 : (Jvm.Cond.methodLink "LateAndEarly$Run" (134 : Nat) ({ cls := "LateAndEarly$Run", name := "does", desc := "(LLateAndEarly$Node;)LLateAndEarly$Node;" } : Jvm.MethodName)) ∈ lw_all := lw_g (lw_at lw_m6 141 rfl) rfl
theorem q1473 : (Jvm.Cond.privateMethod ({ cls := "LateAndEarly$Run", name := "does", desc := "(LLateAndEarly$Node;)LLateAndEarly$Node;" } : Jvm.MethodName)) ∈ lw_tbl := lw_at lw_m6 142 rfl
theorem q1474 : (Jvm.Cond.instanceMethod ({ cls := "LateAndEarly$Run", name := "does", desc := "(LLateAndEarly$Node;)LLateAndEarly$Node;" } : Jvm.MethodName)) ∈ lw_all := lw_g (lw_at lw_m6 143 rfl) rfl
theorem q1475 : (Jvm.Cond.code ({ cls := "LateAndEarly$Run", name := "does", desc := "(LLateAndEarly$Node;)LLateAndEarly$Node;" } : Jvm.MethodName) prog_15_method_6_code (8 : Nat) (Option.some (Jvm.ClassFile.FieldType.object "LateAndEarly$Node"))) ∈ lw_all := lw_g (lw_at lw_m6 144 rfl) rfl
theorem q1476 : (Jvm.Cond.classLink "LateAndEarly$Run" (139 : Nat) "LateAndEarly$SetSum") ∈ lw_all := lw_g (lw_at lw_m6 145 rfl) rfl
theorem q1477 : (Jvm.Cond.methodLink "LateAndEarly$Run" (141 : Nat) ({ cls := "LateAndEarly$Routine", name := "takenAt", desc := "(II)J" } : Jvm.MethodName)) ∈ lw_all := lw_g (lw_at lw_m6 146 rfl) rfl
theorem q1478 : (Jvm.Cond.classLink "LateAndEarly$Run" (151 : Nat) "LateAndEarly$SetOperand") ∈ lw_all := lw_g (lw_at lw_m6 147 rfl) rfl
theorem q1479 : (Jvm.Cond.classLink "LateAndEarly$Run" (157 : Nat) "LateAndEarly$Write") ∈ lw_all := lw_g (lw_at lw_m6 148 rfl) rfl
theorem q1480 : (Jvm.Cond.classLink "LateAndEarly$Run" (164 : Nat) "LateAndEarly$Tell") ∈ lw_all := lw_g (lw_at lw_m6 149 rfl) rfl
theorem q1481 : (Jvm.Cond.classLink "LateAndEarly$Run" (170 : Nat) "LateAndEarly$If") ∈ lw_all := lw_g (lw_at lw_m6 150 rfl) rfl
theorem q2292 : (Jvm.Cond.castable "LateAndEarly$Run" "java/lang/Object") ∈ lw_tbl := lw_at lw_m10 1 rfl
theorem in_X21 : ∀ w ∈ wsX210, w ∈ lw_all := lw_in wsX210 [1405, 1407, 1409, 1411, 1413, 1415, 1417, 1419, 1421, 1423, 1425, 1427] (by decide +kernel) (by decide +kernel)
/-! LateAndEarly$Refusal -/
set_option maxRecDepth 100000
def RX22 : String := "LateAndEarly$Refusal"
def TX22 : u_T := fun k => match k with
  | 0 => ("java/lang/Throwable", "cause", "Ljava/lang/Throwable;", false)
  | 1 => ("java/lang/Throwable", "stackTrace", "[Ljava/lang/StackTraceElement;", false)
  | 2 => ("java/lang/Throwable", "suppressedExceptions", "Ljava/util/List;", false)
  | 3 => ("java/lang/Throwable", "detailMessage", "Ljava/lang/String;", false)
  | 4 => ("java/lang/Throwable", "backtrace", "Ljava/lang/Object;", false)
  | _ => ("java/lang/Throwable", "depth", "I", false)
def tyX22 : Nat → FieldType := fun k => match k with
  | 0 => .object "java/lang/Throwable"
  | 1 => .array (.object "java/lang/StackTraceElement")
  | 2 => .object "java/util/List"
  | 3 => .object "java/lang/String"
  | 4 => .object "java/lang/Object"
  | _ => .int
abbrev wsX220 : List Cond := u_ws RX22 TX22 6
theorem nmX22 : ∀ a, a < 6 → ∀ b, b < 6 → a ≠ b → (TX22 a).2.1 ≠ (TX22 b).2.1 := by decide +kernel
theorem tyX22_ok : ∀ k, k < 6 → parseFieldDescriptor (TX22 k).2.2.1 = some (tyX22 k) := by decide +kernel
abbrev cX22_init : ByteArray := prog_13_method_1_code
def yX22_init : MethodName := ⟨RX22, "<init>", "()V"⟩
def dkwX22_init_0 : List UInt8 := [42, 1, 1, 3, 3, 183, 0, 1, 177]
abbrev dktX22_init_0 : List UInt8 := dkwX22_init_0 ++ []
theorem dksX22_init_0 : cX22_init.data.toList.drop 0 = dktX22_init_0 := by decide +kernel
theorem dX22_init_0 : decode cX22_init 0 = .ok (.aload_n 0, 1) := dk_42 (dk_at dksX22_init_0 0 rfl rfl)
theorem dX22_init_1 : decode cX22_init 1 = .ok (.aconst_null, 1) := dk_1 (dk_at dksX22_init_0 1 rfl rfl)
theorem dX22_init_2 : decode cX22_init 2 = .ok (.aconst_null, 1) := dk_1 (dk_at dksX22_init_0 2 rfl rfl)
theorem dX22_init_3 : decode cX22_init 3 = .ok (.iconst 0, 1) := dk_3 (dk_at dksX22_init_0 3 rfl rfl)
theorem dX22_init_4 : decode cX22_init 4 = .ok (.iconst 0, 1) := dk_3 (dk_at dksX22_init_0 4 rfl rfl)
theorem dX22_init_5 : decode cX22_init 5 = .ok (.invokespecial 1, 3) := dk_183 0 1 (dk_at dksX22_init_0 5 rfl rfl)
theorem dX22_init_8 : decode cX22_init 8 = .ok (.return_, 1) := dk_177 (dk_at dksX22_init_0 8 rfl rfl)
theorem q173 : (Jvm.Cond.initialized "LateAndEarly$Refusal") ∈ lw_all := lw_g (lw_at lw_m1 42 rfl) rfl
theorem q539 : (Jvm.Cond.selects "LateAndEarly$Refusal" ({ cls := "java/lang/Throwable", name := "fillInStackTrace", desc := "()Ljava/lang/Throwable;" } : Jvm.MethodName) ({ cls := "java/lang/Throwable", name := "fillInStackTrace", desc := "()Ljava/lang/Throwable;" } : Jvm.MethodName)) ∈ lw_all := lw_g (lw_at lw_m2 168 rfl) rfl
theorem q643 : (Jvm.Cond.selects "LateAndEarly$Refusal" ({ cls := "java/lang/Object", name := "getClass", desc := "()Ljava/lang/Class;" } : Jvm.MethodName) ({ cls := "java/lang/Object", name := "getClass", desc := "()Ljava/lang/Class;" } : Jvm.MethodName)) ∈ lw_all := lw_g (lw_at lw_m3 32 rfl) rfl
theorem q1455 : (Jvm.Cond.instantiable "LateAndEarly$Refusal" (6 : Nat)) ∈ lw_all := lw_g (lw_at lw_m6 124 rfl) rfl
theorem q1456 : (Jvm.Cond.castable "LateAndEarly$Refusal" "LateAndEarly$Refusal") ∈ lw_tbl := lw_at lw_m6 125 rfl
theorem q1457 : (Jvm.Cond.selects "LateAndEarly$Refusal" ({ cls := "java/lang/Throwable", name := "fillInStackTrace", desc := "(I)Ljava/lang/Throwable;" } : Jvm.MethodName) ({ cls := "java/lang/Throwable", name := "fillInStackTrace", desc := "(I)Ljava/lang/Throwable;" } : Jvm.MethodName)) ∈ lw_all := lw_g (lw_at lw_m6 126 rfl) rfl
theorem q1458 : (Jvm.Cond.lays "LateAndEarly$Refusal" "java/lang/Throwable" "cause" "Ljava/lang/Throwable;") ∈ lw_all := lw_g (lw_at lw_m6 127 rfl) rfl
theorem q1459 : (Jvm.Cond.lays "LateAndEarly$Refusal" "java/lang/Throwable" "stackTrace" "[Ljava/lang/StackTraceElement;") ∈ lw_all := lw_g (lw_at lw_m6 128 rfl) rfl
theorem q1460 : (Jvm.Cond.lays "LateAndEarly$Refusal" "java/lang/Throwable" "suppressedExceptions" "Ljava/util/List;") ∈ lw_all := lw_g (lw_at lw_m6 129 rfl) rfl
theorem q1461 : (Jvm.Cond.lays "LateAndEarly$Refusal" "java/lang/Throwable" "detailMessage" "Ljava/lang/String;") ∈ lw_all := lw_g (lw_at lw_m6 130 rfl) rfl
theorem q1462 : (Jvm.Cond.lays "LateAndEarly$Refusal" "java/lang/Throwable" "backtrace" "Ljava/lang/Object;") ∈ lw_all := lw_g (lw_at lw_m6 131 rfl) rfl
theorem q1464 : (Jvm.Cond.instanceMethod ({ cls := "LateAndEarly$Refusal", name := "<init>", desc := "()V" } : Jvm.MethodName)) ∈ lw_all := lw_g (lw_at lw_m6 133 rfl) rfl
theorem q1465 : (Jvm.Cond.code ({ cls := "LateAndEarly$Refusal", name := "<init>", desc := "()V" } : Jvm.MethodName) prog_13_method_1_code (1 : Nat) (Option.none : Option Jvm.ClassFile.FieldType)) ∈ lw_all := lw_g (lw_at lw_m6 134 rfl) rfl
theorem q1466 : (Jvm.Cond.methodLink "LateAndEarly$Refusal" (1 : Nat) ({ cls := "java/lang/RuntimeException", name := "<init>", desc := "(Ljava/lang/String;Ljava/lang/Throwable;ZZ)V" } : Jvm.MethodName)) ∈ lw_all := lw_g (lw_at lw_m6 135 rfl) rfl
theorem q1467 : (Jvm.Cond.lays "LateAndEarly$Refusal" "java/lang/Throwable" "depth" "I") ∈ lw_all := lw_g (lw_at lw_m6 136 rfl) rfl
theorem q1468 : (Jvm.Cond.superclass "LateAndEarly$Refusal" "java/lang/RuntimeException") ∈ lw_all := lw_g (lw_at lw_m6 137 rfl) rfl
theorem q2293 : (Jvm.Cond.castable "LateAndEarly$Refusal" "java/lang/Object") ∈ lw_tbl := lw_at lw_m10 2 rfl
theorem in_X22 : ∀ w ∈ wsX220, w ∈ lw_all := lw_in wsX220 [1458, 1459, 1460, 1461, 1462, 1467] (by decide +kernel) (by decide +kernel)
/-! LateAndEarly$Fault -/
set_option maxRecDepth 100000
def RX5 : String := "LateAndEarly$Fault"
def TX5 : u_T := fun k => match k with
  | 0 => ("java/lang/Throwable", "cause", "Ljava/lang/Throwable;", false)
  | 1 => ("java/lang/Throwable", "stackTrace", "[Ljava/lang/StackTraceElement;", false)
  | 2 => ("java/lang/Throwable", "suppressedExceptions", "Ljava/util/List;", false)
  | 3 => ("java/lang/Throwable", "detailMessage", "Ljava/lang/String;", false)
  | 4 => ("java/lang/Throwable", "backtrace", "Ljava/lang/Object;", false)
  | 5 => ("java/lang/Throwable", "depth", "I", false)
  | 6 => ("LateAndEarly$Fault", "kind", "I", true)
  | _ => ("LateAndEarly$Fault", "place", "I", true)
def tyX5 : Nat → FieldType := fun k => match k with
  | 0 => .object "java/lang/Throwable"
  | 1 => .array (.object "java/lang/StackTraceElement")
  | 2 => .object "java/util/List"
  | 3 => .object "java/lang/String"
  | 4 => .object "java/lang/Object"
  | 5 => .int
  | 6 => .int
  | _ => .int
abbrev wsX50 : List Cond := u_ws RX5 TX5 8
theorem nmX5 : ∀ a, a < 8 → ∀ b, b < 8 → a ≠ b → (TX5 a).2.1 ≠ (TX5 b).2.1 := by decide +kernel
theorem tyX5_ok : ∀ k, k < 8 → parseFieldDescriptor (TX5 k).2.2.1 = some (tyX5 k) := by decide +kernel
abbrev cX5_init : ByteArray := prog_3_method_1_code
def yX5_init : MethodName := ⟨RX5, "<init>", "(II)V"⟩
def dkwX5_init_0 : List UInt8 := [42, 1, 1, 3, 3, 183, 0, 1, 42, 27, 181, 0, 7, 42, 28, 181, 0, 13, 177]
abbrev dktX5_init_0 : List UInt8 := dkwX5_init_0 ++ []
theorem dksX5_init_0 : cX5_init.data.toList.drop 0 = dktX5_init_0 := by decide +kernel
theorem dX5_init_0 : decode cX5_init 0 = .ok (.aload_n 0, 1) := dk_42 (dk_at dksX5_init_0 0 rfl rfl)
theorem dX5_init_1 : decode cX5_init 1 = .ok (.aconst_null, 1) := dk_1 (dk_at dksX5_init_0 1 rfl rfl)
theorem dX5_init_2 : decode cX5_init 2 = .ok (.aconst_null, 1) := dk_1 (dk_at dksX5_init_0 2 rfl rfl)
theorem dX5_init_3 : decode cX5_init 3 = .ok (.iconst 0, 1) := dk_3 (dk_at dksX5_init_0 3 rfl rfl)
theorem dX5_init_4 : decode cX5_init 4 = .ok (.iconst 0, 1) := dk_3 (dk_at dksX5_init_0 4 rfl rfl)
theorem dX5_init_5 : decode cX5_init 5 = .ok (.invokespecial 1, 3) := dk_183 0 1 (dk_at dksX5_init_0 5 rfl rfl)
theorem dX5_init_8 : decode cX5_init 8 = .ok (.aload_n 0, 1) := dk_42 (dk_at dksX5_init_0 8 rfl rfl)
theorem dX5_init_9 : decode cX5_init 9 = .ok (.iload_n 1, 1) := dk_27 (dk_at dksX5_init_0 9 rfl rfl)
theorem dX5_init_10 : decode cX5_init 10 = .ok (.putfield 7, 3) := dk_181 0 7 (dk_at dksX5_init_0 10 rfl rfl)
theorem dX5_init_13 : decode cX5_init 13 = .ok (.aload_n 0, 1) := dk_42 (dk_at dksX5_init_0 13 rfl rfl)
theorem dX5_init_14 : decode cX5_init 14 = .ok (.iload_n 2, 1) := dk_28 (dk_at dksX5_init_0 14 rfl rfl)
theorem dX5_init_15 : decode cX5_init 15 = .ok (.putfield 13, 3) := dk_181 0 13 (dk_at dksX5_init_0 15 rfl rfl)
theorem dX5_init_18 : decode cX5_init 18 = .ok (.return_, 1) := dk_177 (dk_at dksX5_init_0 18 rfl rfl)
theorem q149 : (Jvm.Cond.initialized "LateAndEarly$Fault") ∈ lw_all := lw_g (lw_at lw_m1 18 rfl) rfl
theorem q507 : (Jvm.Cond.instantiable "LateAndEarly$Fault" (8 : Nat)) ∈ lw_all := lw_g (lw_at lw_m2 136 rfl) rfl
theorem q508 : (Jvm.Cond.castable "LateAndEarly$Fault" "LateAndEarly$Fault") ∈ lw_tbl := lw_at lw_m2 137 rfl
theorem q515 : (Jvm.Cond.selects "LateAndEarly$Fault" ({ cls := "java/lang/Throwable", name := "fillInStackTrace", desc := "(I)Ljava/lang/Throwable;" } : Jvm.MethodName) ({ cls := "java/lang/Throwable", name := "fillInStackTrace", desc := "(I)Ljava/lang/Throwable;" } : Jvm.MethodName)) ∈ lw_all := lw_g (lw_at lw_m2 144 rfl) rfl
theorem q516 : (Jvm.Cond.selects "LateAndEarly$Fault" ({ cls := "java/lang/Throwable", name := "fillInStackTrace", desc := "()Ljava/lang/Throwable;" } : Jvm.MethodName) ({ cls := "java/lang/Throwable", name := "fillInStackTrace", desc := "()Ljava/lang/Throwable;" } : Jvm.MethodName)) ∈ lw_all := lw_g (lw_at lw_m2 145 rfl) rfl
theorem q517 : (Jvm.Cond.lays "LateAndEarly$Fault" "java/lang/Throwable" "cause" "Ljava/lang/Throwable;") ∈ lw_all := lw_g (lw_at lw_m2 146 rfl) rfl
theorem q519 : (Jvm.Cond.lays "LateAndEarly$Fault" "java/lang/Throwable" "stackTrace" "[Ljava/lang/StackTraceElement;") ∈ lw_all := lw_g (lw_at lw_m2 148 rfl) rfl
theorem q521 : (Jvm.Cond.lays "LateAndEarly$Fault" "java/lang/Throwable" "suppressedExceptions" "Ljava/util/List;") ∈ lw_all := lw_g (lw_at lw_m2 150 rfl) rfl
theorem q523 : (Jvm.Cond.lays "LateAndEarly$Fault" "java/lang/Throwable" "detailMessage" "Ljava/lang/String;") ∈ lw_all := lw_g (lw_at lw_m2 152 rfl) rfl
theorem q525 : (Jvm.Cond.lays "LateAndEarly$Fault" "java/lang/Throwable" "backtrace" "Ljava/lang/Object;") ∈ lw_all := lw_g (lw_at lw_m2 154 rfl) rfl
theorem q547 : (Jvm.Cond.instanceMethod ({ cls := "LateAndEarly$Fault", name := "<init>", desc := "(II)V" } : Jvm.MethodName)) ∈ lw_all := lw_g (lw_at lw_m2 176 rfl) rfl
theorem q548 : (Jvm.Cond.code ({ cls := "LateAndEarly$Fault", name := "<init>", desc := "(II)V" } : Jvm.MethodName) prog_3_method_1_code (3 : Nat) (Option.none : Option Jvm.ClassFile.FieldType)) ∈ lw_all := lw_g (lw_at lw_m2 177 rfl) rfl
theorem q549 : (Jvm.Cond.methodLink "LateAndEarly$Fault" (1 : Nat) ({ cls := "java/lang/RuntimeException", name := "<init>", desc := "(Ljava/lang/String;Ljava/lang/Throwable;ZZ)V" } : Jvm.MethodName)) ∈ lw_all := lw_g (lw_at lw_m2 178 rfl) rfl
theorem q558 : (Jvm.Cond.fieldLink "LateAndEarly$Fault" (7 : Nat) "LateAndEarly$Fault" "kind" "I") ∈ lw_all := lw_g (lw_at lw_m2 187 rfl) rfl
theorem q560 : (Jvm.Cond.fieldLink "LateAndEarly$Fault" (13 : Nat) "LateAndEarly$Fault" "place" "I") ∈ lw_all := lw_g (lw_at lw_m2 189 rfl) rfl
theorem q567 : (Jvm.Cond.laysFinal "LateAndEarly$Fault" "LateAndEarly$Fault" "kind" "I") ∈ lw_all := lw_g (lw_at lw_m2 196 rfl) rfl
theorem q568 : (Jvm.Cond.soleField "LateAndEarly$Fault" "kind") ∈ lw_all := lw_g (lw_at lw_m2 197 rfl) rfl
theorem q569 : (Jvm.Cond.laysFinal "LateAndEarly$Fault" "LateAndEarly$Fault" "place" "I") ∈ lw_all := lw_g (lw_at lw_m2 198 rfl) rfl
theorem q570 : (Jvm.Cond.soleField "LateAndEarly$Fault" "place") ∈ lw_all := lw_g (lw_at lw_m2 199 rfl) rfl
theorem q575 : (Jvm.Cond.lays "LateAndEarly$Fault" "java/lang/Throwable" "depth" "I") ∈ lw_all := lw_g (lw_at lw_m2 204 rfl) rfl
theorem q578 : (Jvm.Cond.superclass "LateAndEarly$Fault" "java/lang/RuntimeException") ∈ lw_all := lw_g (lw_at lw_m2 207 rfl) rfl
theorem q634 : (Jvm.Cond.selects "LateAndEarly$Fault" ({ cls := "java/lang/Object", name := "getClass", desc := "()Ljava/lang/Class;" } : Jvm.MethodName) ({ cls := "java/lang/Object", name := "getClass", desc := "()Ljava/lang/Class;" } : Jvm.MethodName)) ∈ lw_all := lw_g (lw_at lw_m3 23 rfl) rfl
theorem q2279 : (Jvm.Cond.castable "LateAndEarly$Fault" "java/lang/Object") ∈ lw_tbl := lw_at lw_m9 228 rfl
theorem in_X5 : ∀ w ∈ wsX50, w ∈ lw_all := lw_in wsX50 [517, 519, 521, 523, 525, 575, 567, 569] (by decide +kernel) (by decide +kernel)
/-! LateAndEarly$Node -/
set_option maxRecDepth 100000
def RX6 : String := "LateAndEarly$Node"
abbrev cX6_init : ByteArray := prog_7_method_1_code
def yX6_init : MethodName := ⟨RX6, "<init>", "()V"⟩
def dkwX6_init_1 : List UInt8 := [181, 0, 18, 177]
abbrev dktX6_init_1 : List UInt8 := dkwX6_init_1 ++ []
def dkwX6_init_0 : List UInt8 := [42, 183, 0, 3, 42, 187, 0, 9, 89, 183, 0, 11, 181, 0, 12, 42, 187, 0, 9, 89, 183, 0, 11]
abbrev dktX6_init_0 : List UInt8 := dkwX6_init_0 ++ dktX6_init_1
theorem dksX6_init_0 : cX6_init.data.toList.drop 0 = dktX6_init_0 := by decide +kernel
theorem dksX6_init_1 : cX6_init.data.toList.drop 23 = dktX6_init_1 := dk_seg dksX6_init_0 23 rfl rfl
theorem dX6_init_0 : decode cX6_init 0 = .ok (.aload_n 0, 1) := dk_42 (dk_at dksX6_init_0 0 rfl rfl)
theorem dX6_init_1 : decode cX6_init 1 = .ok (.invokespecial 3, 3) := dk_183 0 3 (dk_at dksX6_init_0 1 rfl rfl)
theorem dX6_init_4 : decode cX6_init 4 = .ok (.aload_n 0, 1) := dk_42 (dk_at dksX6_init_0 4 rfl rfl)
theorem dX6_init_5 : decode cX6_init 5 = .ok (.new 9, 3) := dk_187 0 9 (dk_at dksX6_init_0 5 rfl rfl)
theorem dX6_init_8 : decode cX6_init 8 = .ok (.dup, 1) := dk_89 (dk_at dksX6_init_0 8 rfl rfl)
theorem dX6_init_9 : decode cX6_init 9 = .ok (.invokespecial 11, 3) := dk_183 0 11 (dk_at dksX6_init_0 9 rfl rfl)
theorem dX6_init_12 : decode cX6_init 12 = .ok (.putfield 12, 3) := dk_181 0 12 (dk_at dksX6_init_0 12 rfl rfl)
theorem dX6_init_15 : decode cX6_init 15 = .ok (.aload_n 0, 1) := dk_42 (dk_at dksX6_init_0 15 rfl rfl)
theorem dX6_init_16 : decode cX6_init 16 = .ok (.new 9, 3) := dk_187 0 9 (dk_at dksX6_init_0 16 rfl rfl)
theorem dX6_init_19 : decode cX6_init 19 = .ok (.dup, 1) := dk_89 (dk_at dksX6_init_0 19 rfl rfl)
theorem dX6_init_20 : decode cX6_init 20 = .ok (.invokespecial 11, 3) := dk_183 0 11 (dk_at dksX6_init_0 20 rfl rfl)
theorem dX6_init_23 : decode cX6_init 23 = .ok (.putfield 18, 3) := dk_181 0 18 (dk_at dksX6_init_1 0 rfl rfl)
theorem dX6_init_26 : decode cX6_init 26 = .ok (.return_, 1) := dk_177 (dk_at dksX6_init_1 3 rfl rfl)
abbrev cX6_leadsTo : ByteArray := prog_7_method_8_code
def yX6_leadsTo : MethodName := ⟨RX6, "leadsTo", "(LLateAndEarly$Node;)V"⟩
def dkwX6_leadsTo_0 : List UInt8 := [42, 180, 0, 12, 43, 182, 0, 45, 87, 43, 180, 0, 18, 42, 182, 0, 45, 87, 177]
abbrev dktX6_leadsTo_0 : List UInt8 := dkwX6_leadsTo_0 ++ []
theorem dksX6_leadsTo_0 : cX6_leadsTo.data.toList.drop 0 = dktX6_leadsTo_0 := by decide +kernel
theorem dX6_leadsTo_0 : decode cX6_leadsTo 0 = .ok (.aload_n 0, 1) := dk_42 (dk_at dksX6_leadsTo_0 0 rfl rfl)
theorem dX6_leadsTo_1 : decode cX6_leadsTo 1 = .ok (.getfield 12, 3) := dk_180 0 12 (dk_at dksX6_leadsTo_0 1 rfl rfl)
theorem dX6_leadsTo_4 : decode cX6_leadsTo 4 = .ok (.aload_n 1, 1) := dk_43 (dk_at dksX6_leadsTo_0 4 rfl rfl)
theorem dX6_leadsTo_5 : decode cX6_leadsTo 5 = .ok (.invokevirtual 45, 3) := dk_182 0 45 (dk_at dksX6_leadsTo_0 5 rfl rfl)
theorem dX6_leadsTo_8 : decode cX6_leadsTo 8 = .ok (.pop, 1) := dk_87 (dk_at dksX6_leadsTo_0 8 rfl rfl)
theorem dX6_leadsTo_9 : decode cX6_leadsTo 9 = .ok (.aload_n 1, 1) := dk_43 (dk_at dksX6_leadsTo_0 9 rfl rfl)
theorem dX6_leadsTo_10 : decode cX6_leadsTo 10 = .ok (.getfield 18, 3) := dk_180 0 18 (dk_at dksX6_leadsTo_0 10 rfl rfl)
theorem dX6_leadsTo_13 : decode cX6_leadsTo 13 = .ok (.aload_n 0, 1) := dk_42 (dk_at dksX6_leadsTo_0 13 rfl rfl)
theorem dX6_leadsTo_14 : decode cX6_leadsTo 14 = .ok (.invokevirtual 45, 3) := dk_182 0 45 (dk_at dksX6_leadsTo_0 14 rfl rfl)
theorem dX6_leadsTo_17 : decode cX6_leadsTo 17 = .ok (.pop, 1) := dk_87 (dk_at dksX6_leadsTo_0 17 rfl rfl)
theorem dX6_leadsTo_18 : decode cX6_leadsTo 18 = .ok (.return_, 1) := dk_177 (dk_at dksX6_leadsTo_0 18 rfl rfl)
abbrev cX6_works : ByteArray := prog_7_method_3_code
def yX6_works : MethodName := ⟨RX6, "works", "()LLateAndEarly$Sum;"⟩
theorem dX6_works_0 : decode cX6_works 0 = .ok (.aconst_null, 1) := by decide +kernel
theorem dX6_works_1 : decode cX6_works 1 = .ok (.areturn, 1) := by decide +kernel
abbrev cX6_kills : ByteArray := prog_7_method_7_code
def yX6_kills : MethodName := ⟨RX6, "kills", "(LLateAndEarly$Sum;)Z"⟩
def dkwX6_kills_1 : List UInt8 := [159, 0, 18, 43, 42, 182, 0, 39, 182, 0, 42, 153, 0, 7, 4, 167, 0, 4, 3, 172]
abbrev dktX6_kills_1 : List UInt8 := dkwX6_kills_1 ++ []
def dkwX6_kills_0 : List UInt8 := [42, 182, 0, 31, 2, 159, 0, 14, 43, 42, 182, 0, 31, 182, 0, 35, 154, 0, 22, 42, 182, 0, 39, 2]
abbrev dktX6_kills_0 : List UInt8 := dkwX6_kills_0 ++ dktX6_kills_1
theorem dksX6_kills_0 : cX6_kills.data.toList.drop 0 = dktX6_kills_0 := by decide +kernel
theorem dksX6_kills_1 : cX6_kills.data.toList.drop 24 = dktX6_kills_1 := dk_seg dksX6_kills_0 24 rfl rfl
theorem dX6_kills_0 : decode cX6_kills 0 = .ok (.aload_n 0, 1) := dk_42 (dk_at dksX6_kills_0 0 rfl rfl)
theorem dX6_kills_1 : decode cX6_kills 1 = .ok (.invokevirtual 31, 3) := dk_182 0 31 (dk_at dksX6_kills_0 1 rfl rfl)
theorem dX6_kills_4 : decode cX6_kills 4 = .ok (.iconst (-1), 1) := dk_2 (dk_at dksX6_kills_0 4 rfl rfl)
theorem dX6_kills_5 : decode cX6_kills 5 = .ok (.if_icmp .eq 14, 3) := dk_159 0 14 (dk_at dksX6_kills_0 5 rfl rfl)
theorem dX6_kills_8 : decode cX6_kills 8 = .ok (.aload_n 1, 1) := dk_43 (dk_at dksX6_kills_0 8 rfl rfl)
theorem dX6_kills_9 : decode cX6_kills 9 = .ok (.aload_n 0, 1) := dk_42 (dk_at dksX6_kills_0 9 rfl rfl)
theorem dX6_kills_10 : decode cX6_kills 10 = .ok (.invokevirtual 31, 3) := dk_182 0 31 (dk_at dksX6_kills_0 10 rfl rfl)
theorem dX6_kills_13 : decode cX6_kills 13 = .ok (.invokevirtual 35, 3) := dk_182 0 35 (dk_at dksX6_kills_0 13 rfl rfl)
theorem dX6_kills_16 : decode cX6_kills 16 = .ok (.ifCond .ne 22, 3) := dk_154 0 22 (dk_at dksX6_kills_0 16 rfl rfl)
theorem dX6_kills_19 : decode cX6_kills 19 = .ok (.aload_n 0, 1) := dk_42 (dk_at dksX6_kills_0 19 rfl rfl)
theorem dX6_kills_20 : decode cX6_kills 20 = .ok (.invokevirtual 39, 3) := dk_182 0 39 (dk_at dksX6_kills_0 20 rfl rfl)
theorem dX6_kills_23 : decode cX6_kills 23 = .ok (.iconst (-1), 1) := dk_2 (dk_at dksX6_kills_0 23 rfl rfl)
theorem dX6_kills_24 : decode cX6_kills 24 = .ok (.if_icmp .eq 18, 3) := dk_159 0 18 (dk_at dksX6_kills_1 0 rfl rfl)
theorem dX6_kills_27 : decode cX6_kills 27 = .ok (.aload_n 1, 1) := dk_43 (dk_at dksX6_kills_1 3 rfl rfl)
theorem dX6_kills_28 : decode cX6_kills 28 = .ok (.aload_n 0, 1) := dk_42 (dk_at dksX6_kills_1 4 rfl rfl)
theorem dX6_kills_29 : decode cX6_kills 29 = .ok (.invokevirtual 39, 3) := dk_182 0 39 (dk_at dksX6_kills_1 5 rfl rfl)
theorem dX6_kills_32 : decode cX6_kills 32 = .ok (.invokevirtual 42, 3) := dk_182 0 42 (dk_at dksX6_kills_1 8 rfl rfl)
theorem dX6_kills_35 : decode cX6_kills 35 = .ok (.ifCond .eq 7, 3) := dk_153 0 7 (dk_at dksX6_kills_1 11 rfl rfl)
theorem dX6_kills_38 : decode cX6_kills 38 = .ok (.iconst 1, 1) := dk_4 (dk_at dksX6_kills_1 14 rfl rfl)
theorem dX6_kills_39 : decode cX6_kills 39 = .ok (.goto 4, 3) := dk_167 0 4 (dk_at dksX6_kills_1 15 rfl rfl)
theorem dX6_kills_42 : decode cX6_kills 42 = .ok (.iconst 0, 1) := dk_3 (dk_at dksX6_kills_1 18 rfl rfl)
theorem dX6_kills_43 : decode cX6_kills 43 = .ok (.ireturn, 1) := dk_172 (dk_at dksX6_kills_1 19 rfl rfl)
abbrev cX6_sets : ByteArray := prog_7_method_4_code
def yX6_sets : MethodName := ⟨RX6, "sets", "()I"⟩
theorem dX6_sets_0 : decode cX6_sets 0 = .ok (.iconst (-1), 1) := by decide +kernel
theorem dX6_sets_1 : decode cX6_sets 1 = .ok (.ireturn, 1) := by decide +kernel
abbrev cX6_writes : ByteArray := prog_7_method_5_code
def yX6_writes : MethodName := ⟨RX6, "writes", "()I"⟩
theorem dX6_writes_0 : decode cX6_writes 0 = .ok (.iconst (-1), 1) := by decide +kernel
theorem dX6_writes_1 : decode cX6_writes 1 = .ok (.ireturn, 1) := by decide +kernel
abbrev cX6_isSeen : ByteArray := prog_7_method_6_code
def yX6_isSeen : MethodName := ⟨RX6, "isSeen", "()Z"⟩
def dkwX6_isSeen_0 : List UInt8 := [42, 182, 0, 21, 198, 0, 17, 42, 182, 0, 21, 182, 0, 25, 153, 0, 7, 4, 167, 0, 4, 3, 172]
abbrev dktX6_isSeen_0 : List UInt8 := dkwX6_isSeen_0 ++ []
theorem dksX6_isSeen_0 : cX6_isSeen.data.toList.drop 0 = dktX6_isSeen_0 := by decide +kernel
theorem dX6_isSeen_0 : decode cX6_isSeen 0 = .ok (.aload_n 0, 1) := dk_42 (dk_at dksX6_isSeen_0 0 rfl rfl)
theorem dX6_isSeen_1 : decode cX6_isSeen 1 = .ok (.invokevirtual 21, 3) := dk_182 0 21 (dk_at dksX6_isSeen_0 1 rfl rfl)
theorem dX6_isSeen_4 : decode cX6_isSeen 4 = .ok (.ifnull 17, 3) := dk_198 0 17 (dk_at dksX6_isSeen_0 4 rfl rfl)
theorem dX6_isSeen_7 : decode cX6_isSeen 7 = .ok (.aload_n 0, 1) := dk_42 (dk_at dksX6_isSeen_0 7 rfl rfl)
theorem dX6_isSeen_8 : decode cX6_isSeen 8 = .ok (.invokevirtual 21, 3) := dk_182 0 21 (dk_at dksX6_isSeen_0 8 rfl rfl)
theorem dX6_isSeen_11 : decode cX6_isSeen 11 = .ok (.invokevirtual 25, 3) := dk_182 0 25 (dk_at dksX6_isSeen_0 11 rfl rfl)
theorem dX6_isSeen_14 : decode cX6_isSeen 14 = .ok (.ifCond .eq 7, 3) := dk_153 0 7 (dk_at dksX6_isSeen_0 14 rfl rfl)
theorem dX6_isSeen_17 : decode cX6_isSeen 17 = .ok (.iconst 1, 1) := dk_4 (dk_at dksX6_isSeen_0 17 rfl rfl)
theorem dX6_isSeen_18 : decode cX6_isSeen 18 = .ok (.goto 4, 3) := dk_167 0 4 (dk_at dksX6_isSeen_0 18 rfl rfl)
theorem dX6_isSeen_21 : decode cX6_isSeen 21 = .ok (.iconst 0, 1) := dk_3 (dk_at dksX6_isSeen_0 21 rfl rfl)
theorem dX6_isSeen_22 : decode cX6_isSeen 22 = .ok (.ireturn, 1) := dk_172 (dk_at dksX6_isSeen_0 22 rfl rfl)
theorem q156 : (Jvm.Cond.initialized "LateAndEarly$Node") ∈ lw_all := lw_g (lw_at lw_m1 25 rfl) rfl
theorem q741 : (Jvm.Cond.instanceMethod ({ cls := "LateAndEarly$Node", name := "<init>", desc := "()V" } : Jvm.MethodName)) ∈ lw_all := lw_g (lw_at lw_m3 130 rfl) rfl
theorem q742 : (Jvm.Cond.code ({ cls := "LateAndEarly$Node", name := "<init>", desc := "()V" } : Jvm.MethodName) prog_7_method_1_code (1 : Nat) (Option.none : Option Jvm.ClassFile.FieldType)) ∈ lw_all := lw_g (lw_at lw_m3 131 rfl) rfl
theorem q743 : (Jvm.Cond.methodLink "LateAndEarly$Node" (3 : Nat) ({ cls := "java/lang/Object", name := "<init>", desc := "()V" } : Jvm.MethodName)) ∈ lw_all := lw_g (lw_at lw_m3 132 rfl) rfl
theorem q744 : (Jvm.Cond.classLink "LateAndEarly$Node" (9 : Nat) "java/util/ArrayList") ∈ lw_all := lw_g (lw_at lw_m3 133 rfl) rfl
theorem q745 : (Jvm.Cond.methodLink "LateAndEarly$Node" (11 : Nat) ({ cls := "java/util/ArrayList", name := "<init>", desc := "()V" } : Jvm.MethodName)) ∈ lw_all := lw_g (lw_at lw_m3 134 rfl) rfl
theorem q758 : (Jvm.Cond.fieldLink "LateAndEarly$Node" (12 : Nat) "LateAndEarly$Node" "next" "Ljava/util/ArrayList;") ∈ lw_all := lw_g (lw_at lw_m3 147 rfl) rfl
theorem q765 : (Jvm.Cond.fieldLink "LateAndEarly$Node" (18 : Nat) "LateAndEarly$Node" "before" "Ljava/util/ArrayList;") ∈ lw_all := lw_g (lw_at lw_m3 154 rfl) rfl
theorem q771 : (Jvm.Cond.soleField "LateAndEarly$Node" "number") ∈ lw_all := lw_g (lw_at lw_m3 160 rfl) rfl
theorem q773 : (Jvm.Cond.soleField "LateAndEarly$Node" "block") ∈ lw_all := lw_g (lw_at lw_m3 162 rfl) rfl
theorem q775 : (Jvm.Cond.soleField "LateAndEarly$Node" "next") ∈ lw_all := lw_g (lw_at lw_m3 164 rfl) rfl
theorem q777 : (Jvm.Cond.soleField "LateAndEarly$Node" "before") ∈ lw_all := lw_g (lw_at lw_m3 166 rfl) rfl
theorem q1032 : (Jvm.Cond.instanceMethod ({ cls := "LateAndEarly$Node", name := "leadsTo", desc := "(LLateAndEarly$Node;)V" } : Jvm.MethodName)) ∈ lw_all := lw_g (lw_at lw_m4 181 rfl) rfl
theorem q1033 : (Jvm.Cond.sameMethod "LateAndEarly$Node" "LateAndEarly$Node" "leadsTo" "(LLateAndEarly$Node;)V") ∈ lw_all := lw_g (lw_at lw_m4 182 rfl) rfl
theorem q1042 : (Jvm.Cond.code ({ cls := "LateAndEarly$Node", name := "leadsTo", desc := "(LLateAndEarly$Node;)V" } : Jvm.MethodName) prog_7_method_8_code (2 : Nat) (Option.none : Option Jvm.ClassFile.FieldType)) ∈ lw_all := lw_g (lw_at lw_m4 191 rfl) rfl
theorem q1043 : (Jvm.Cond.methodLink "LateAndEarly$Node" (45 : Nat) ({ cls := "java/util/ArrayList", name := "add", desc := "(Ljava/lang/Object;)Z" } : Jvm.MethodName)) ∈ lw_all := lw_g (lw_at lw_m4 192 rfl) rfl
theorem q1057 : (Jvm.Cond.declares ({ cls := "LateAndEarly$Node", name := "leadsTo", desc := "(LLateAndEarly$Node;)V" } : Jvm.MethodName)) ∈ lw_tbl := lw_at lw_m4 206 rfl
theorem q1074 : (Jvm.Cond.instanceMethod ({ cls := "LateAndEarly$Node", name := "works", desc := "()LLateAndEarly$Sum;" } : Jvm.MethodName)) ∈ lw_all := lw_g (lw_at lw_m4 223 rfl) rfl
theorem q1075 : (Jvm.Cond.sameMethod "LateAndEarly$Node" "LateAndEarly$Node" "works" "()LLateAndEarly$Sum;") ∈ lw_all := lw_g (lw_at lw_m4 224 rfl) rfl
theorem q1086 : (Jvm.Cond.code ({ cls := "LateAndEarly$Node", name := "works", desc := "()LLateAndEarly$Sum;" } : Jvm.MethodName) prog_7_method_3_code (1 : Nat) (Option.some (Jvm.ClassFile.FieldType.object "LateAndEarly$Sum"))) ∈ lw_all := lw_g (lw_at lw_m4 235 rfl) rfl
theorem q1115 : (Jvm.Cond.instanceMethod ({ cls := "LateAndEarly$Node", name := "kills", desc := "(LLateAndEarly$Sum;)Z" } : Jvm.MethodName)) ∈ lw_all := lw_g (lw_at lw_m5 24 rfl) rfl
theorem q1116 : (Jvm.Cond.sameMethod "LateAndEarly$Node" "LateAndEarly$Node" "kills" "(LLateAndEarly$Sum;)Z") ∈ lw_all := lw_g (lw_at lw_m5 25 rfl) rfl
theorem q1125 : (Jvm.Cond.code ({ cls := "LateAndEarly$Node", name := "kills", desc := "(LLateAndEarly$Sum;)Z" } : Jvm.MethodName) prog_7_method_7_code (2 : Nat) (Option.some Jvm.ClassFile.FieldType.boolean)) ∈ lw_all := lw_g (lw_at lw_m5 34 rfl) rfl
theorem q1126 : (Jvm.Cond.methodLink "LateAndEarly$Node" (31 : Nat) ({ cls := "LateAndEarly$Node", name := "sets", desc := "()I" } : Jvm.MethodName)) ∈ lw_all := lw_g (lw_at lw_m5 35 rfl) rfl
theorem q1127 : (Jvm.Cond.instanceMethod ({ cls := "LateAndEarly$Node", name := "sets", desc := "()I" } : Jvm.MethodName)) ∈ lw_all := lw_g (lw_at lw_m5 36 rfl) rfl
theorem q1128 : (Jvm.Cond.sameMethod "LateAndEarly$Node" "LateAndEarly$Node" "sets" "()I") ∈ lw_all := lw_g (lw_at lw_m5 37 rfl) rfl
theorem q1139 : (Jvm.Cond.code ({ cls := "LateAndEarly$Node", name := "sets", desc := "()I" } : Jvm.MethodName) prog_7_method_4_code (1 : Nat) (Option.some Jvm.ClassFile.FieldType.int)) ∈ lw_all := lw_g (lw_at lw_m5 48 rfl) rfl
theorem q1140 : (Jvm.Cond.methodLink "LateAndEarly$Node" (35 : Nat) ({ cls := "LateAndEarly$Sum", name := "has", desc := "(I)Z" } : Jvm.MethodName)) ∈ lw_all := lw_g (lw_at lw_m5 49 rfl) rfl
theorem q1168 : (Jvm.Cond.methodLink "LateAndEarly$Node" (39 : Nat) ({ cls := "LateAndEarly$Node", name := "writes", desc := "()I" } : Jvm.MethodName)) ∈ lw_all := lw_g (lw_at lw_m5 77 rfl) rfl
theorem q1169 : (Jvm.Cond.instanceMethod ({ cls := "LateAndEarly$Node", name := "writes", desc := "()I" } : Jvm.MethodName)) ∈ lw_all := lw_g (lw_at lw_m5 78 rfl) rfl
theorem q1170 : (Jvm.Cond.sameMethod "LateAndEarly$Node" "LateAndEarly$Node" "writes" "()I") ∈ lw_all := lw_g (lw_at lw_m5 79 rfl) rfl
theorem q1181 : (Jvm.Cond.code ({ cls := "LateAndEarly$Node", name := "writes", desc := "()I" } : Jvm.MethodName) prog_7_method_5_code (1 : Nat) (Option.some Jvm.ClassFile.FieldType.int)) ∈ lw_all := lw_g (lw_at lw_m5 90 rfl) rfl
theorem q1182 : (Jvm.Cond.methodLink "LateAndEarly$Node" (42 : Nat) ({ cls := "LateAndEarly$Sum", name := "isOfRow", desc := "(I)Z" } : Jvm.MethodName)) ∈ lw_all := lw_g (lw_at lw_m5 91 rfl) rfl
theorem q1203 : (Jvm.Cond.instanceMethod ({ cls := "LateAndEarly$Node", name := "isSeen", desc := "()Z" } : Jvm.MethodName)) ∈ lw_all := lw_g (lw_at lw_m5 112 rfl) rfl
theorem q1204 : (Jvm.Cond.sameMethod "LateAndEarly$Node" "LateAndEarly$Node" "isSeen" "()Z") ∈ lw_all := lw_g (lw_at lw_m5 113 rfl) rfl
theorem q1217 : (Jvm.Cond.code ({ cls := "LateAndEarly$Node", name := "isSeen", desc := "()Z" } : Jvm.MethodName) prog_7_method_6_code (1 : Nat) (Option.some Jvm.ClassFile.FieldType.boolean)) ∈ lw_all := lw_g (lw_at lw_m5 126 rfl) rfl
theorem q1218 : (Jvm.Cond.methodLink "LateAndEarly$Node" (21 : Nat) ({ cls := "LateAndEarly$Node", name := "works", desc := "()LLateAndEarly$Sum;" } : Jvm.MethodName)) ∈ lw_all := lw_g (lw_at lw_m5 127 rfl) rfl
theorem q1219 : (Jvm.Cond.methodLink "LateAndEarly$Node" (25 : Nat) ({ cls := "LateAndEarly$Sum", name := "isBold", desc := "()Z" } : Jvm.MethodName)) ∈ lw_all := lw_g (lw_at lw_m5 128 rfl) rfl
theorem q1270 : (Jvm.Cond.declares ({ cls := "LateAndEarly$Node", name := "kind", desc := "()I" } : Jvm.MethodName)) ∈ lw_tbl := lw_at lw_m5 179 rfl
theorem q1271 : (Jvm.Cond.sameMethod "LateAndEarly$Node" "LateAndEarly$Node" "kind" "()I") ∈ lw_all := lw_g (lw_at lw_m5 180 rfl) rfl
/-! LateAndEarly$Tell -/
set_option maxRecDepth 100000
def RX7 : String := "LateAndEarly$Tell"
def TX7 : u_T := fun k => match k with
  | 0 => ("LateAndEarly$Node", "number", "I", false)
  | 1 => ("LateAndEarly$Node", "block", "I", false)
  | 2 => ("LateAndEarly$Node", "next", "Ljava/util/ArrayList;", true)
  | 3 => ("LateAndEarly$Node", "before", "Ljava/util/ArrayList;", true)
  | _ => ("LateAndEarly$Tell", "what", "LLateAndEarly$Operand;", true)
def tyX7 : Nat → FieldType := fun k => match k with
  | 0 => .int
  | 1 => .int
  | 2 => .object "java/util/ArrayList"
  | 3 => .object "java/util/ArrayList"
  | _ => .object "LateAndEarly$Operand"
abbrev wsX70 : List Cond := u_ws RX7 TX7 5
theorem nmX7 : ∀ a, a < 5 → ∀ b, b < 5 → a ≠ b → (TX7 a).2.1 ≠ (TX7 b).2.1 := by decide +kernel
theorem tyX7_ok : ∀ k, k < 5 → parseFieldDescriptor (TX7 k).2.2.1 = some (tyX7 k) := by decide +kernel
abbrev cX7_init : ByteArray := prog_20_method_1_code
def yX7_init : MethodName := ⟨RX7, "<init>", "(LLateAndEarly$Operand;)V"⟩
def dkwX7_init_0 : List UInt8 := [42, 183, 0, 1, 42, 43, 181, 0, 7, 177]
abbrev dktX7_init_0 : List UInt8 := dkwX7_init_0 ++ []
theorem dksX7_init_0 : cX7_init.data.toList.drop 0 = dktX7_init_0 := by decide +kernel
theorem dX7_init_0 : decode cX7_init 0 = .ok (.aload_n 0, 1) := dk_42 (dk_at dksX7_init_0 0 rfl rfl)
theorem dX7_init_1 : decode cX7_init 1 = .ok (.invokespecial 1, 3) := dk_183 0 1 (dk_at dksX7_init_0 1 rfl rfl)
theorem dX7_init_4 : decode cX7_init 4 = .ok (.aload_n 0, 1) := dk_42 (dk_at dksX7_init_0 4 rfl rfl)
theorem dX7_init_5 : decode cX7_init 5 = .ok (.aload_n 1, 1) := dk_43 (dk_at dksX7_init_0 5 rfl rfl)
theorem dX7_init_6 : decode cX7_init 6 = .ok (.putfield 7, 3) := dk_181 0 7 (dk_at dksX7_init_0 6 rfl rfl)
theorem dX7_init_9 : decode cX7_init 9 = .ok (.return_, 1) := dk_177 (dk_at dksX7_init_0 9 rfl rfl)
abbrev cX7_isSeen : ByteArray := prog_20_method_3_code
def yX7_isSeen : MethodName := ⟨RX7, "isSeen", "()Z"⟩
theorem dX7_isSeen_0 : decode cX7_isSeen 0 = .ok (.iconst 1, 1) := by decide +kernel
theorem dX7_isSeen_1 : decode cX7_isSeen 1 = .ok (.ireturn, 1) := by decide +kernel
abbrev cX7_kind : ByteArray := prog_20_method_2_code
def yX7_kind : MethodName := ⟨RX7, "kind", "()I"⟩
theorem dX7_kind_0 : decode cX7_kind 0 = .ok (.iconst 3, 1) := by decide +kernel
theorem dX7_kind_1 : decode cX7_kind 1 = .ok (.ireturn, 1) := by decide +kernel
theorem q157 : (Jvm.Cond.initialized "LateAndEarly$Tell") ∈ lw_all := lw_g (lw_at lw_m1 26 rfl) rfl
theorem q648 : (Jvm.Cond.selects "LateAndEarly$Tell" ({ cls := "java/lang/Object", name := "getClass", desc := "()Ljava/lang/Class;" } : Jvm.MethodName) ({ cls := "java/lang/Object", name := "getClass", desc := "()Ljava/lang/Class;" } : Jvm.MethodName)) ∈ lw_all := lw_g (lw_at lw_m3 37 rfl) rfl
theorem q713 : (Jvm.Cond.instantiable "LateAndEarly$Tell" (5 : Nat)) ∈ lw_all := lw_g (lw_at lw_m3 102 rfl) rfl
theorem q738 : (Jvm.Cond.instanceMethod ({ cls := "LateAndEarly$Tell", name := "<init>", desc := "(LLateAndEarly$Operand;)V" } : Jvm.MethodName)) ∈ lw_all := lw_g (lw_at lw_m3 127 rfl) rfl
theorem q739 : (Jvm.Cond.code ({ cls := "LateAndEarly$Tell", name := "<init>", desc := "(LLateAndEarly$Operand;)V" } : Jvm.MethodName) prog_20_method_1_code (2 : Nat) (Option.none : Option Jvm.ClassFile.FieldType)) ∈ lw_all := lw_g (lw_at lw_m3 128 rfl) rfl
theorem q740 : (Jvm.Cond.methodLinkNest "LateAndEarly$Tell" (1 : Nat) ({ cls := "LateAndEarly$Node", name := "<init>", desc := "()V" } : Jvm.MethodName) "LateAndEarly") ∈ lw_tbl := lw_at lw_m3 129 rfl
theorem q746 : (Jvm.Cond.fieldLink "LateAndEarly$Tell" (7 : Nat) "LateAndEarly$Tell" "what" "LLateAndEarly$Operand;") ∈ lw_all := lw_g (lw_at lw_m3 135 rfl) rfl
theorem q768 : (Jvm.Cond.laysFinal "LateAndEarly$Tell" "LateAndEarly$Tell" "what" "LLateAndEarly$Operand;") ∈ lw_all := lw_g (lw_at lw_m3 157 rfl) rfl
theorem q769 : (Jvm.Cond.soleField "LateAndEarly$Tell" "what") ∈ lw_all := lw_g (lw_at lw_m3 158 rfl) rfl
theorem q770 : (Jvm.Cond.lays "LateAndEarly$Tell" "LateAndEarly$Node" "number" "I") ∈ lw_all := lw_g (lw_at lw_m3 159 rfl) rfl
theorem q772 : (Jvm.Cond.lays "LateAndEarly$Tell" "LateAndEarly$Node" "block" "I") ∈ lw_all := lw_g (lw_at lw_m3 161 rfl) rfl
theorem q774 : (Jvm.Cond.laysFinal "LateAndEarly$Tell" "LateAndEarly$Node" "next" "Ljava/util/ArrayList;") ∈ lw_all := lw_g (lw_at lw_m3 163 rfl) rfl
theorem q776 : (Jvm.Cond.laysFinal "LateAndEarly$Tell" "LateAndEarly$Node" "before" "Ljava/util/ArrayList;") ∈ lw_all := lw_g (lw_at lw_m3 165 rfl) rfl
theorem q778 : (Jvm.Cond.superclass "LateAndEarly$Tell" "LateAndEarly$Node") ∈ lw_all := lw_g (lw_at lw_m3 167 rfl) rfl
theorem q1040 : (Jvm.Cond.selects "LateAndEarly$Tell" ({ cls := "LateAndEarly$Node", name := "leadsTo", desc := "(LLateAndEarly$Node;)V" } : Jvm.MethodName) ({ cls := "LateAndEarly$Node", name := "leadsTo", desc := "(LLateAndEarly$Node;)V" } : Jvm.MethodName)) ∈ lw_all := lw_g (lw_at lw_m4 189 rfl) rfl
theorem q1084 : (Jvm.Cond.selects "LateAndEarly$Tell" ({ cls := "LateAndEarly$Node", name := "works", desc := "()LLateAndEarly$Sum;" } : Jvm.MethodName) ({ cls := "LateAndEarly$Node", name := "works", desc := "()LLateAndEarly$Sum;" } : Jvm.MethodName)) ∈ lw_all := lw_g (lw_at lw_m4 233 rfl) rfl
theorem q1123 : (Jvm.Cond.selects "LateAndEarly$Tell" ({ cls := "LateAndEarly$Node", name := "kills", desc := "(LLateAndEarly$Sum;)Z" } : Jvm.MethodName) ({ cls := "LateAndEarly$Node", name := "kills", desc := "(LLateAndEarly$Sum;)Z" } : Jvm.MethodName)) ∈ lw_all := lw_g (lw_at lw_m5 32 rfl) rfl
theorem q1137 : (Jvm.Cond.selects "LateAndEarly$Tell" ({ cls := "LateAndEarly$Node", name := "sets", desc := "()I" } : Jvm.MethodName) ({ cls := "LateAndEarly$Node", name := "sets", desc := "()I" } : Jvm.MethodName)) ∈ lw_all := lw_g (lw_at lw_m5 46 rfl) rfl
theorem q1177 : (Jvm.Cond.selects "LateAndEarly$Tell" ({ cls := "LateAndEarly$Node", name := "writes", desc := "()I" } : Jvm.MethodName) ({ cls := "LateAndEarly$Node", name := "writes", desc := "()I" } : Jvm.MethodName)) ∈ lw_all := lw_g (lw_at lw_m5 86 rfl) rfl
theorem q1211 : (Jvm.Cond.selects "LateAndEarly$Tell" ({ cls := "LateAndEarly$Node", name := "isSeen", desc := "()Z" } : Jvm.MethodName) ({ cls := "LateAndEarly$Tell", name := "isSeen", desc := "()Z" } : Jvm.MethodName)) ∈ lw_all := lw_g (lw_at lw_m5 120 rfl) rfl
theorem q1212 : (Jvm.Cond.instanceMethod ({ cls := "LateAndEarly$Tell", name := "isSeen", desc := "()Z" } : Jvm.MethodName)) ∈ lw_all := lw_g (lw_at lw_m5 121 rfl) rfl
theorem q1213 : (Jvm.Cond.code ({ cls := "LateAndEarly$Tell", name := "isSeen", desc := "()Z" } : Jvm.MethodName) prog_20_method_3_code (1 : Nat) (Option.some Jvm.ClassFile.FieldType.boolean)) ∈ lw_all := lw_g (lw_at lw_m5 122 rfl) rfl
theorem q1290 : (Jvm.Cond.selects "LateAndEarly$Tell" ({ cls := "LateAndEarly$Node", name := "kind", desc := "()I" } : Jvm.MethodName) ({ cls := "LateAndEarly$Tell", name := "kind", desc := "()I" } : Jvm.MethodName)) ∈ lw_all := lw_g (lw_at lw_m5 199 rfl) rfl
theorem q1291 : (Jvm.Cond.instanceMethod ({ cls := "LateAndEarly$Tell", name := "kind", desc := "()I" } : Jvm.MethodName)) ∈ lw_all := lw_g (lw_at lw_m5 200 rfl) rfl
theorem q1292 : (Jvm.Cond.code ({ cls := "LateAndEarly$Tell", name := "kind", desc := "()I" } : Jvm.MethodName) prog_20_method_2_code (1 : Nat) (Option.some Jvm.ClassFile.FieldType.int)) ∈ lw_all := lw_g (lw_at lw_m5 201 rfl) rfl
theorem q2269 : (Jvm.Cond.castable "LateAndEarly$Tell" "LateAndEarly$Node") ∈ lw_tbl := lw_at lw_m9 218 rfl
theorem q2281 : (Jvm.Cond.castable "LateAndEarly$Tell" "java/lang/Object") ∈ lw_tbl := lw_at lw_m9 230 rfl
theorem in_X7 : ∀ w ∈ wsX70, w ∈ lw_all := lw_in wsX70 [770, 772, 774, 776, 768] (by decide +kernel) (by decide +kernel)
/-! LateAndEarly$Operand -/
set_option maxRecDepth 100000
def RX8 : String := "LateAndEarly$Operand"
def TX8 : u_T := fun k => match k with
  | 0 => ("LateAndEarly$Operand", "isName", "Z", true)
  | _ => ("LateAndEarly$Operand", "v", "I", true)
def tyX8 : Nat → FieldType := fun k => match k with
  | 0 => .boolean
  | _ => .int
abbrev wsX80 : List Cond := u_ws RX8 TX8 2
theorem nmX8 : ∀ a, a < 2 → ∀ b, b < 2 → a ≠ b → (TX8 a).2.1 ≠ (TX8 b).2.1 := by decide +kernel
theorem tyX8_ok : ∀ k, k < 2 → parseFieldDescriptor (TX8 k).2.2.1 = some (tyX8 k) := by decide +kernel
abbrev cX8_init : ByteArray := prog_9_method_1_code
def yX8_init : MethodName := ⟨RX8, "<init>", "(ZI)V"⟩
def dkwX8_init_0 : List UInt8 := [42, 183, 0, 1, 42, 27, 181, 0, 7, 42, 28, 181, 0, 13, 177]
abbrev dktX8_init_0 : List UInt8 := dkwX8_init_0 ++ []
theorem dksX8_init_0 : cX8_init.data.toList.drop 0 = dktX8_init_0 := by decide +kernel
theorem dX8_init_0 : decode cX8_init 0 = .ok (.aload_n 0, 1) := dk_42 (dk_at dksX8_init_0 0 rfl rfl)
theorem dX8_init_1 : decode cX8_init 1 = .ok (.invokespecial 1, 3) := dk_183 0 1 (dk_at dksX8_init_0 1 rfl rfl)
theorem dX8_init_4 : decode cX8_init 4 = .ok (.aload_n 0, 1) := dk_42 (dk_at dksX8_init_0 4 rfl rfl)
theorem dX8_init_5 : decode cX8_init 5 = .ok (.iload_n 1, 1) := dk_27 (dk_at dksX8_init_0 5 rfl rfl)
theorem dX8_init_6 : decode cX8_init 6 = .ok (.putfield 7, 3) := dk_181 0 7 (dk_at dksX8_init_0 6 rfl rfl)
theorem dX8_init_9 : decode cX8_init 9 = .ok (.aload_n 0, 1) := dk_42 (dk_at dksX8_init_0 9 rfl rfl)
theorem dX8_init_10 : decode cX8_init 10 = .ok (.iload_n 2, 1) := dk_28 (dk_at dksX8_init_0 10 rfl rfl)
theorem dX8_init_11 : decode cX8_init 11 = .ok (.putfield 13, 3) := dk_181 0 13 (dk_at dksX8_init_0 11 rfl rfl)
theorem dX8_init_14 : decode cX8_init 14 = .ok (.return_, 1) := dk_177 (dk_at dksX8_init_0 14 rfl rfl)
abbrev cX8_isLike : ByteArray := prog_9_method_2_code
def yX8_isLike : MethodName := ⟨RX8, "isLike", "(LLateAndEarly$Operand;)Z"⟩
def dkwX8_isLike_1 : List UInt8 := [167, 0, 4, 3, 172]
abbrev dktX8_isLike_1 : List UInt8 := dkwX8_isLike_1 ++ []
def dkwX8_isLike_0 : List UInt8 := [42, 180, 0, 7, 43, 180, 0, 7, 160, 0, 18, 42, 180, 0, 13, 43, 180, 0, 13, 160, 0, 7, 4]
abbrev dktX8_isLike_0 : List UInt8 := dkwX8_isLike_0 ++ dktX8_isLike_1
theorem dksX8_isLike_0 : cX8_isLike.data.toList.drop 0 = dktX8_isLike_0 := by decide +kernel
theorem dksX8_isLike_1 : cX8_isLike.data.toList.drop 23 = dktX8_isLike_1 := dk_seg dksX8_isLike_0 23 rfl rfl
theorem dX8_isLike_0 : decode cX8_isLike 0 = .ok (.aload_n 0, 1) := dk_42 (dk_at dksX8_isLike_0 0 rfl rfl)
theorem dX8_isLike_1 : decode cX8_isLike 1 = .ok (.getfield 7, 3) := dk_180 0 7 (dk_at dksX8_isLike_0 1 rfl rfl)
theorem dX8_isLike_4 : decode cX8_isLike 4 = .ok (.aload_n 1, 1) := dk_43 (dk_at dksX8_isLike_0 4 rfl rfl)
theorem dX8_isLike_5 : decode cX8_isLike 5 = .ok (.getfield 7, 3) := dk_180 0 7 (dk_at dksX8_isLike_0 5 rfl rfl)
theorem dX8_isLike_8 : decode cX8_isLike 8 = .ok (.if_icmp .ne 18, 3) := dk_160 0 18 (dk_at dksX8_isLike_0 8 rfl rfl)
theorem dX8_isLike_11 : decode cX8_isLike 11 = .ok (.aload_n 0, 1) := dk_42 (dk_at dksX8_isLike_0 11 rfl rfl)
theorem dX8_isLike_12 : decode cX8_isLike 12 = .ok (.getfield 13, 3) := dk_180 0 13 (dk_at dksX8_isLike_0 12 rfl rfl)
theorem dX8_isLike_15 : decode cX8_isLike 15 = .ok (.aload_n 1, 1) := dk_43 (dk_at dksX8_isLike_0 15 rfl rfl)
theorem dX8_isLike_16 : decode cX8_isLike 16 = .ok (.getfield 13, 3) := dk_180 0 13 (dk_at dksX8_isLike_0 16 rfl rfl)
theorem dX8_isLike_19 : decode cX8_isLike 19 = .ok (.if_icmp .ne 7, 3) := dk_160 0 7 (dk_at dksX8_isLike_0 19 rfl rfl)
theorem dX8_isLike_22 : decode cX8_isLike 22 = .ok (.iconst 1, 1) := dk_4 (dk_at dksX8_isLike_0 22 rfl rfl)
theorem dX8_isLike_23 : decode cX8_isLike 23 = .ok (.goto 4, 3) := dk_167 0 4 (dk_at dksX8_isLike_1 0 rfl rfl)
theorem dX8_isLike_26 : decode cX8_isLike 26 = .ok (.iconst 0, 1) := dk_3 (dk_at dksX8_isLike_1 3 rfl rfl)
theorem dX8_isLike_27 : decode cX8_isLike 27 = .ok (.ireturn, 1) := dk_172 (dk_at dksX8_isLike_1 4 rfl rfl)
abbrev cX8_isName : ByteArray := prog_9_method_3_code
def yX8_isName : MethodName := ⟨RX8, "isName", "(I)Z"⟩
def dkwX8_isName_0 : List UInt8 := [42, 180, 0, 7, 153, 0, 15, 42, 180, 0, 13, 27, 160, 0, 7, 4, 167, 0, 4, 3, 172]
abbrev dktX8_isName_0 : List UInt8 := dkwX8_isName_0 ++ []
theorem dksX8_isName_0 : cX8_isName.data.toList.drop 0 = dktX8_isName_0 := by decide +kernel
theorem dX8_isName_0 : decode cX8_isName 0 = .ok (.aload_n 0, 1) := dk_42 (dk_at dksX8_isName_0 0 rfl rfl)
theorem dX8_isName_1 : decode cX8_isName 1 = .ok (.getfield 7, 3) := dk_180 0 7 (dk_at dksX8_isName_0 1 rfl rfl)
theorem dX8_isName_4 : decode cX8_isName 4 = .ok (.ifCond .eq 15, 3) := dk_153 0 15 (dk_at dksX8_isName_0 4 rfl rfl)
theorem dX8_isName_7 : decode cX8_isName 7 = .ok (.aload_n 0, 1) := dk_42 (dk_at dksX8_isName_0 7 rfl rfl)
theorem dX8_isName_8 : decode cX8_isName 8 = .ok (.getfield 13, 3) := dk_180 0 13 (dk_at dksX8_isName_0 8 rfl rfl)
theorem dX8_isName_11 : decode cX8_isName 11 = .ok (.iload_n 1, 1) := dk_27 (dk_at dksX8_isName_0 11 rfl rfl)
theorem dX8_isName_12 : decode cX8_isName 12 = .ok (.if_icmp .ne 7, 3) := dk_160 0 7 (dk_at dksX8_isName_0 12 rfl rfl)
theorem dX8_isName_15 : decode cX8_isName 15 = .ok (.iconst 1, 1) := dk_4 (dk_at dksX8_isName_0 15 rfl rfl)
theorem dX8_isName_16 : decode cX8_isName 16 = .ok (.goto 4, 3) := dk_167 0 4 (dk_at dksX8_isName_0 16 rfl rfl)
theorem dX8_isName_19 : decode cX8_isName 19 = .ok (.iconst 0, 1) := dk_3 (dk_at dksX8_isName_0 19 rfl rfl)
theorem dX8_isName_20 : decode cX8_isName 20 = .ok (.ireturn, 1) := dk_172 (dk_at dksX8_isName_0 20 rfl rfl)
abbrev cX8_told : ByteArray := prog_9_method_4_code
def yX8_told : MethodName := ⟨RX8, "told", "()I"⟩
def dkwX8_told_2 : List UInt8 := [180, 0, 13, 184, 0, 17, 184, 0, 23, 172]
abbrev dktX8_told_2 : List UInt8 := dkwX8_told_2 ++ []
def dkwX8_told_1 : List UInt8 := [167, 0, 14, 17, 7, 208, 42, 180, 0, 13, 96, 16, 16, 100, 172, 17, 252, 25, 17, 3, 231, 42]
abbrev dktX8_told_1 : List UInt8 := dkwX8_told_1 ++ dktX8_told_2
def dkwX8_told_0 : List UInt8 := [42, 180, 0, 7, 153, 0, 35, 42, 180, 0, 13, 16, 16, 162, 0, 14, 17, 3, 232, 42, 180, 0, 13, 96]
abbrev dktX8_told_0 : List UInt8 := dkwX8_told_0 ++ dktX8_told_1
theorem dksX8_told_0 : cX8_told.data.toList.drop 0 = dktX8_told_0 := by decide +kernel
theorem dksX8_told_1 : cX8_told.data.toList.drop 24 = dktX8_told_1 := dk_seg dksX8_told_0 24 rfl rfl
theorem dksX8_told_2 : cX8_told.data.toList.drop 46 = dktX8_told_2 := dk_seg dksX8_told_1 22 rfl rfl
theorem dX8_told_0 : decode cX8_told 0 = .ok (.aload_n 0, 1) := dk_42 (dk_at dksX8_told_0 0 rfl rfl)
theorem dX8_told_1 : decode cX8_told 1 = .ok (.getfield 7, 3) := dk_180 0 7 (dk_at dksX8_told_0 1 rfl rfl)
theorem dX8_told_4 : decode cX8_told 4 = .ok (.ifCond .eq 35, 3) := dk_153 0 35 (dk_at dksX8_told_0 4 rfl rfl)
theorem dX8_told_7 : decode cX8_told 7 = .ok (.aload_n 0, 1) := dk_42 (dk_at dksX8_told_0 7 rfl rfl)
theorem dX8_told_8 : decode cX8_told 8 = .ok (.getfield 13, 3) := dk_180 0 13 (dk_at dksX8_told_0 8 rfl rfl)
theorem dX8_told_11 : decode cX8_told 11 = .ok (.bipush 16, 2) := dk_16 16 (dk_at dksX8_told_0 11 rfl rfl)
theorem dX8_told_13 : decode cX8_told 13 = .ok (.if_icmp .ge 14, 3) := dk_162 0 14 (dk_at dksX8_told_0 13 rfl rfl)
theorem dX8_told_16 : decode cX8_told 16 = .ok (.sipush 1000, 3) := dk_17 3 232 (dk_at dksX8_told_0 16 rfl rfl)
theorem dX8_told_19 : decode cX8_told 19 = .ok (.aload_n 0, 1) := dk_42 (dk_at dksX8_told_0 19 rfl rfl)
theorem dX8_told_20 : decode cX8_told 20 = .ok (.getfield 13, 3) := dk_180 0 13 (dk_at dksX8_told_0 20 rfl rfl)
theorem dX8_told_23 : decode cX8_told 23 = .ok (.iadd, 1) := dk_96 (dk_at dksX8_told_0 23 rfl rfl)
theorem dX8_told_24 : decode cX8_told 24 = .ok (.goto 14, 3) := dk_167 0 14 (dk_at dksX8_told_1 0 rfl rfl)
theorem dX8_told_27 : decode cX8_told 27 = .ok (.sipush 2000, 3) := dk_17 7 208 (dk_at dksX8_told_1 3 rfl rfl)
theorem dX8_told_30 : decode cX8_told 30 = .ok (.aload_n 0, 1) := dk_42 (dk_at dksX8_told_1 6 rfl rfl)
theorem dX8_told_31 : decode cX8_told 31 = .ok (.getfield 13, 3) := dk_180 0 13 (dk_at dksX8_told_1 7 rfl rfl)
theorem dX8_told_34 : decode cX8_told 34 = .ok (.iadd, 1) := dk_96 (dk_at dksX8_told_1 10 rfl rfl)
theorem dX8_told_35 : decode cX8_told 35 = .ok (.bipush 16, 2) := dk_16 16 (dk_at dksX8_told_1 11 rfl rfl)
theorem dX8_told_37 : decode cX8_told 37 = .ok (.isub, 1) := dk_100 (dk_at dksX8_told_1 13 rfl rfl)
theorem dX8_told_38 : decode cX8_told 38 = .ok (.ireturn, 1) := dk_172 (dk_at dksX8_told_1 14 rfl rfl)
theorem dX8_told_39 : decode cX8_told 39 = .ok (.sipush (-999), 3) := dk_17 252 25 (dk_at dksX8_told_1 15 rfl rfl)
theorem dX8_told_42 : decode cX8_told 42 = .ok (.sipush 999, 3) := dk_17 3 231 (dk_at dksX8_told_1 18 rfl rfl)
theorem dX8_told_45 : decode cX8_told 45 = .ok (.aload_n 0, 1) := dk_42 (dk_at dksX8_told_1 21 rfl rfl)
theorem dX8_told_46 : decode cX8_told 46 = .ok (.getfield 13, 3) := dk_180 0 13 (dk_at dksX8_told_2 0 rfl rfl)
theorem dX8_told_49 : decode cX8_told 49 = .ok (.invokestatic 17, 3) := dk_184 0 17 (dk_at dksX8_told_2 3 rfl rfl)
theorem dX8_told_52 : decode cX8_told 52 = .ok (.invokestatic 23, 3) := dk_184 0 23 (dk_at dksX8_told_2 6 rfl rfl)
theorem dX8_told_55 : decode cX8_told 55 = .ok (.ireturn, 1) := dk_172 (dk_at dksX8_told_2 9 rfl rfl)
theorem q158 : (Jvm.Cond.initialized "LateAndEarly$Operand") ∈ lw_all := lw_g (lw_at lw_m1 27 rfl) rfl
theorem q639 : (Jvm.Cond.selects "LateAndEarly$Operand" ({ cls := "java/lang/Object", name := "getClass", desc := "()Ljava/lang/Class;" } : Jvm.MethodName) ({ cls := "java/lang/Object", name := "getClass", desc := "()Ljava/lang/Class;" } : Jvm.MethodName)) ∈ lw_all := lw_g (lw_at lw_m3 28 rfl) rfl
theorem q719 : (Jvm.Cond.instantiable "LateAndEarly$Operand" (2 : Nat)) ∈ lw_all := lw_g (lw_at lw_m3 108 rfl) rfl
theorem q721 : (Jvm.Cond.instanceMethod ({ cls := "LateAndEarly$Operand", name := "<init>", desc := "(ZI)V" } : Jvm.MethodName)) ∈ lw_all := lw_g (lw_at lw_m3 110 rfl) rfl
theorem q722 : (Jvm.Cond.code ({ cls := "LateAndEarly$Operand", name := "<init>", desc := "(ZI)V" } : Jvm.MethodName) prog_9_method_1_code (3 : Nat) (Option.none : Option Jvm.ClassFile.FieldType)) ∈ lw_all := lw_g (lw_at lw_m3 111 rfl) rfl
theorem q723 : (Jvm.Cond.methodLink "LateAndEarly$Operand" (1 : Nat) ({ cls := "java/lang/Object", name := "<init>", desc := "()V" } : Jvm.MethodName)) ∈ lw_all := lw_g (lw_at lw_m3 112 rfl) rfl
theorem q724 : (Jvm.Cond.fieldLink "LateAndEarly$Operand" (7 : Nat) "LateAndEarly$Operand" "isName" "Z") ∈ lw_all := lw_g (lw_at lw_m3 113 rfl) rfl
theorem q728 : (Jvm.Cond.fieldLink "LateAndEarly$Operand" (13 : Nat) "LateAndEarly$Operand" "v" "I") ∈ lw_all := lw_g (lw_at lw_m3 117 rfl) rfl
theorem q732 : (Jvm.Cond.laysFinal "LateAndEarly$Operand" "LateAndEarly$Operand" "isName" "Z") ∈ lw_all := lw_g (lw_at lw_m3 121 rfl) rfl
theorem q733 : (Jvm.Cond.soleField "LateAndEarly$Operand" "isName") ∈ lw_all := lw_g (lw_at lw_m3 122 rfl) rfl
theorem q734 : (Jvm.Cond.laysFinal "LateAndEarly$Operand" "LateAndEarly$Operand" "v" "I") ∈ lw_all := lw_g (lw_at lw_m3 123 rfl) rfl
theorem q735 : (Jvm.Cond.soleField "LateAndEarly$Operand" "v") ∈ lw_all := lw_g (lw_at lw_m3 124 rfl) rfl
theorem q736 : (Jvm.Cond.superclass "LateAndEarly$Operand" "java/lang/Object") ∈ lw_all := lw_g (lw_at lw_m3 125 rfl) rfl
theorem q1101 : (Jvm.Cond.instanceMethod ({ cls := "LateAndEarly$Operand", name := "isLike", desc := "(LLateAndEarly$Operand;)Z" } : Jvm.MethodName)) ∈ lw_all := lw_g (lw_at lw_m5 10 rfl) rfl
theorem q1102 : (Jvm.Cond.selects "LateAndEarly$Operand" ({ cls := "LateAndEarly$Operand", name := "isLike", desc := "(LLateAndEarly$Operand;)Z" } : Jvm.MethodName) ({ cls := "LateAndEarly$Operand", name := "isLike", desc := "(LLateAndEarly$Operand;)Z" } : Jvm.MethodName)) ∈ lw_all := lw_g (lw_at lw_m5 11 rfl) rfl
theorem q1103 : (Jvm.Cond.code ({ cls := "LateAndEarly$Operand", name := "isLike", desc := "(LLateAndEarly$Operand;)Z" } : Jvm.MethodName) prog_9_method_2_code (2 : Nat) (Option.some Jvm.ClassFile.FieldType.boolean)) ∈ lw_all := lw_g (lw_at lw_m5 12 rfl) rfl
theorem q1156 : (Jvm.Cond.instanceMethod ({ cls := "LateAndEarly$Operand", name := "isName", desc := "(I)Z" } : Jvm.MethodName)) ∈ lw_all := lw_g (lw_at lw_m5 65 rfl) rfl
theorem q1157 : (Jvm.Cond.selects "LateAndEarly$Operand" ({ cls := "LateAndEarly$Operand", name := "isName", desc := "(I)Z" } : Jvm.MethodName) ({ cls := "LateAndEarly$Operand", name := "isName", desc := "(I)Z" } : Jvm.MethodName)) ∈ lw_all := lw_g (lw_at lw_m5 66 rfl) rfl
theorem q1158 : (Jvm.Cond.code ({ cls := "LateAndEarly$Operand", name := "isName", desc := "(I)Z" } : Jvm.MethodName) prog_9_method_3_code (2 : Nat) (Option.some Jvm.ClassFile.FieldType.boolean)) ∈ lw_all := lw_g (lw_at lw_m5 67 rfl) rfl
theorem q1322 : (Jvm.Cond.instanceMethod ({ cls := "LateAndEarly$Operand", name := "told", desc := "()I" } : Jvm.MethodName)) ∈ lw_all := lw_g (lw_at lw_m5 231 rfl) rfl
theorem q1323 : (Jvm.Cond.selects "LateAndEarly$Operand" ({ cls := "LateAndEarly$Operand", name := "told", desc := "()I" } : Jvm.MethodName) ({ cls := "LateAndEarly$Operand", name := "told", desc := "()I" } : Jvm.MethodName)) ∈ lw_all := lw_g (lw_at lw_m5 232 rfl) rfl
theorem q1324 : (Jvm.Cond.code ({ cls := "LateAndEarly$Operand", name := "told", desc := "()I" } : Jvm.MethodName) prog_9_method_4_code (1 : Nat) (Option.some Jvm.ClassFile.FieldType.int)) ∈ lw_all := lw_g (lw_at lw_m5 233 rfl) rfl
theorem q1325 : (Jvm.Cond.methodLink "LateAndEarly$Operand" (17 : Nat) ({ cls := "java/lang/Math", name := "min", desc := "(II)I" } : Jvm.MethodName)) ∈ lw_all := lw_g (lw_at lw_m5 234 rfl) rfl
theorem q1326 : (Jvm.Cond.methodLink "LateAndEarly$Operand" (23 : Nat) ({ cls := "java/lang/Math", name := "max", desc := "(II)I" } : Jvm.MethodName)) ∈ lw_all := lw_g (lw_at lw_m5 235 rfl) rfl
theorem q2282 : (Jvm.Cond.castable "LateAndEarly$Operand" "java/lang/Object") ∈ lw_tbl := lw_at lw_m9 231 rfl
theorem in_X8 : ∀ w ∈ wsX80, w ∈ lw_all := lw_in wsX80 [732, 734] (by decide +kernel) (by decide +kernel)
/-! LateAndEarly$End -/
set_option maxRecDepth 100000
def RX9 : String := "LateAndEarly$End"
abbrev cX9_init : ByteArray := prog_2_method_1_code
def yX9_init : MethodName := ⟨RX9, "<init>", "()V"⟩
theorem dX9_init_0 : decode cX9_init 0 = .ok (.aload_n 0, 1) := by decide +kernel
theorem dX9_init_1 : decode cX9_init 1 = .ok (.invokespecial 1, 3) := by decide +kernel
theorem dX9_init_4 : decode cX9_init 4 = .ok (.return_, 1) := by decide +kernel
theorem q159 : (Jvm.Cond.initialized "LateAndEarly$End") ∈ lw_all := lw_g (lw_at lw_m1 28 rfl) rfl
theorem q761 : (Jvm.Cond.sameField "LateAndEarly$End" "LateAndEarly$Node" "next" "Ljava/util/ArrayList;") ∈ lw_all := lw_g (lw_at lw_m3 150 rfl) rfl
theorem q785 : (Jvm.Cond.instanceMethod ({ cls := "LateAndEarly$End", name := "<init>", desc := "()V" } : Jvm.MethodName)) ∈ lw_all := lw_g (lw_at lw_m3 174 rfl) rfl
theorem q786 : (Jvm.Cond.code ({ cls := "LateAndEarly$End", name := "<init>", desc := "()V" } : Jvm.MethodName) prog_2_method_1_code (1 : Nat) (Option.none : Option Jvm.ClassFile.FieldType)) ∈ lw_all := lw_g (lw_at lw_m3 175 rfl) rfl
theorem q787 : (Jvm.Cond.methodLinkNest "LateAndEarly$End" (1 : Nat) ({ cls := "LateAndEarly$Node", name := "<init>", desc := "()V" } : Jvm.MethodName) "LateAndEarly") ∈ lw_tbl := lw_at lw_m3 176 rfl
theorem q1002 : (Jvm.Cond.declares ({ cls := "LateAndEarly$End", name := "ways", desc := "()I" } : Jvm.MethodName)) ∈ lw_tbl := lw_at lw_m4 151 rfl
theorem q1003 : (Jvm.Cond.sameMethod "LateAndEarly$End" "LateAndEarly$End" "ways" "()I") ∈ lw_all := lw_g (lw_at lw_m4 152 rfl) rfl
theorem q1014 : (Jvm.Cond.declares ({ cls := "LateAndEarly$End", name := "way", desc := "(I)I" } : Jvm.MethodName)) ∈ lw_tbl := lw_at lw_m4 163 rfl
theorem q1015 : (Jvm.Cond.sameMethod "LateAndEarly$End" "LateAndEarly$End" "way" "(I)I") ∈ lw_all := lw_g (lw_at lw_m4 164 rfl) rfl
theorem q1056 : (Jvm.Cond.sameMethod "LateAndEarly$End" "LateAndEarly$Node" "leadsTo" "(LLateAndEarly$Node;)V") ∈ lw_all := lw_g (lw_at lw_m4 205 rfl) rfl
