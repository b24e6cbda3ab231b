/-! lemmas on fields and casts (gen/cdecomp.py) -/
set_option maxRecDepth 100000
theorem df_0 : ∀ k, k < 7 → defaultValue (kY0 k) = cV 0 (fun _ => 0) (fun _ => 0) (fun _ => none) k := by
  intro k hk
  match k, hk with
  | 0, _ => rfl
  | 1, _ => rfl
  | 2, _ => rfl
  | 3, _ => rfl
  | 4, _ => rfl
  | 5, _ => rfl
  | 6, _ => rfl
  | k + 7, hk => omega
theorem df_1 : ∀ k, k < 4 → defaultValue (kY1 k) = cV 1 (fun _ => 0) (fun _ => 0) (fun _ => none) k := by
  intro k hk
  match k, hk with
  | 0, _ => rfl
  | 1, _ => rfl
  | 2, _ => rfl
  | 3, _ => rfl
  | k + 4, hk => omega
theorem df_2 : ∀ k, k < 9 → defaultValue (kY2 k) = cV 2 (fun _ => 0) (fun _ => 0) (fun _ => none) k := by
  intro k hk
  match k, hk with
  | 0, _ => rfl
  | 1, _ => rfl
  | 2, _ => rfl
  | 3, _ => rfl
  | 4, _ => rfl
  | 5, _ => rfl
  | 6, _ => rfl
  | 7, _ => rfl
  | 8, _ => rfl
  | k + 9, hk => omega
theorem df_3 : ∀ k, k < 14 → defaultValue (kY3 k) = cV 3 (fun _ => 0) (fun _ => 0) (fun _ => none) k := by
  intro k hk
  match k, hk with
  | 0, _ => rfl
  | 1, _ => rfl
  | 2, _ => rfl
  | 3, _ => rfl
  | 4, _ => rfl
  | 5, _ => rfl
  | 6, _ => rfl
  | 7, _ => rfl
  | 8, _ => rfl
  | 9, _ => rfl
  | 10, _ => rfl
  | 11, _ => rfl
  | 12, _ => rfl
  | 13, _ => rfl
  | k + 14, hk => omega
theorem df_4 : ∀ k, k < 8 → defaultValue (kY4 k) = cV 4 (fun _ => 0) (fun _ => 0) (fun _ => none) k := by
  intro k hk
  match k, hk with
  | 0, _ => rfl
  | 1, _ => rfl
  | 2, _ => rfl
  | 3, _ => rfl
  | 4, _ => rfl
  | 5, _ => rfl
  | 6, _ => rfl
  | 7, _ => rfl
  | k + 8, hk => omega
theorem df_5 : ∀ k, k < 6 → defaultValue (kY5 k) = cV 5 (fun _ => 0) (fun _ => 0) (fun _ => none) k := by
  intro k hk
  match k, hk with
  | 0, _ => rfl
  | 1, _ => rfl
  | 2, _ => rfl
  | 3, _ => rfl
  | 4, _ => rfl
  | 5, _ => rfl
  | k + 6, hk => omega
theorem df_6 : ∀ k, k < 6 → defaultValue (kY6 k) = cV 6 (fun _ => 0) (fun _ => 0) (fun _ => none) k := by
  intro k hk
  match k, hk with
  | 0, _ => rfl
  | 1, _ => rfl
  | 2, _ => rfl
  | 3, _ => rfl
  | 4, _ => rfl
  | 5, _ => rfl
  | k + 6, hk => omega
theorem df_7 : ∀ k, k < 6 → defaultValue (kY7 k) = cV 7 (fun _ => 0) (fun _ => 0) (fun _ => none) k := by
  intro k hk
  match k, hk with
  | 0, _ => rfl
  | 1, _ => rfl
  | 2, _ => rfl
  | 3, _ => rfl
  | 4, _ => rfl
  | 5, _ => rfl
  | k + 6, hk => omega
theorem df_8 : ∀ k, k < 7 → defaultValue (kY8 k) = cV 8 (fun _ => 0) (fun _ => 0) (fun _ => none) k := by
  intro k hk
  match k, hk with
  | 0, _ => rfl
  | 1, _ => rfl
  | 2, _ => rfl
  | 3, _ => rfl
  | 4, _ => rfl
  | 5, _ => rfl
  | 6, _ => rfl
  | k + 7, hk => omega
theorem df_9 : ∀ k, k < 5 → defaultValue (kY9 k) = cV 9 (fun _ => 0) (fun _ => 0) (fun _ => none) k := by
  intro k hk
  match k, hk with
  | 0, _ => rfl
  | 1, _ => rfl
  | 2, _ => rfl
  | 3, _ => rfl
  | 4, _ => rfl
  | k + 5, hk => omega
theorem df_10 : ∀ k, k < 5 → defaultValue (kY10 k) = cV 10 (fun _ => 0) (fun _ => 0) (fun _ => none) k := by
  intro k hk
  match k, hk with
  | 0, _ => rfl
  | 1, _ => rfl
  | 2, _ => rfl
  | 3, _ => rfl
  | 4, _ => rfl
  | k + 5, hk => omega
theorem df_11 : ∀ k, k < 8 → defaultValue (kY11 k) = cV 11 (fun _ => 0) (fun _ => 0) (fun _ => none) k := by
  intro k hk
  match k, hk with
  | 0, _ => rfl
  | 1, _ => rfl
  | 2, _ => rfl
  | 3, _ => rfl
  | 4, _ => rfl
  | 5, _ => rfl
  | 6, _ => rfl
  | 7, _ => rfl
  | k + 8, hk => omega
theorem df_12 : ∀ k, k < 4 → defaultValue (kY12 k) = cV 12 (fun _ => 0) (fun _ => 0) (fun _ => none) k := by
  intro k hk
  match k, hk with
  | 0, _ => rfl
  | 1, _ => rfl
  | 2, _ => rfl
  | 3, _ => rfl
  | k + 4, hk => omega
theorem df_13 : ∀ k, k < 4 → defaultValue (kY13 k) = cV 13 (fun _ => 0) (fun _ => 0) (fun _ => none) k := by
  intro k hk
  match k, hk with
  | 0, _ => rfl
  | 1, _ => rfl
  | 2, _ => rfl
  | 3, _ => rfl
  | k + 4, hk => omega
theorem df_14 : ∀ k, k < 4 → defaultValue (kY14 k) = cV 14 (fun _ => 0) (fun _ => 0) (fun _ => none) k := by
  intro k hk
  match k, hk with
  | 0, _ => rfl
  | 1, _ => rfl
  | 2, _ => rfl
  | 3, _ => rfl
  | k + 4, hk => omega
theorem df_15 : ∀ k, k < 3 → defaultValue (kY15 k) = cV 15 (fun _ => 0) (fun _ => 0) (fun _ => none) k := by
  intro k hk
  match k, hk with
  | 0, _ => rfl
  | 1, _ => rfl
  | 2, _ => rfl
  | k + 3, hk => omega
theorem df_16 : ∀ k, k < 2 → defaultValue (kY16 k) = cV 16 (fun _ => 0) (fun _ => 0) (fun _ => none) k := by
  intro k hk
  match k, hk with
  | 0, _ => rfl
  | 1, _ => rfl
  | k + 2, hk => omega
theorem df_17 : ∀ k, k < 12 → defaultValue (kY17 k) = cV 17 (fun _ => 0) (fun _ => 0) (fun _ => none) k := by
  intro k hk
  match k, hk with
  | 0, _ => rfl
  | 1, _ => rfl
  | 2, _ => rfl
  | 3, _ => rfl
  | 4, _ => rfl
  | 5, _ => rfl
  | 6, _ => rfl
  | 7, _ => rfl
  | 8, _ => rfl
  | 9, _ => rfl
  | 10, _ => rfl
  | 11, _ => rfl
  | k + 12, hk => omega
theorem df_18 : ∀ k, k < 3 → defaultValue (kY18 k) = cV 18 (fun _ => 0) (fun _ => 0) (fun _ => none) k := by
  intro k hk
  match k, hk with
  | 0, _ => rfl
  | 1, _ => rfl
  | 2, _ => rfl
  | k + 3, hk => omega
theorem df_19 : ∀ k, k < 1 → defaultValue (kY19 k) = cV 19 (fun _ => 0) (fun _ => 0) (fun _ => none) k := by
  intro k hk
  match k, hk with
  | 0, _ => rfl
  | k + 1, hk => omega
theorem df_21 : ∀ k, k < 62 → defaultValue (tyX2 k) = cV 21 (fun _ => 0) (fun _ => 0) (fun _ => none) k := by
  intro k hk
  match k, hk with
  | 0, _ => rfl
  | 1, _ => rfl
  | 2, _ => rfl
  | 3, _ => rfl
  | 4, _ => rfl
  | 5, _ => rfl
  | 6, _ => rfl
  | 7, _ => rfl
  | 8, _ => rfl
  | 9, _ => rfl
  | 10, _ => rfl
  | 11, _ => rfl
  | 12, _ => rfl
  | 13, _ => rfl
  | 14, _ => rfl
  | 15, _ => rfl
  | 16, _ => rfl
  | 17, _ => rfl
  | 18, _ => rfl
  | 19, _ => rfl
  | 20, _ => rfl
  | 21, _ => rfl
  | 22, _ => rfl
  | 23, _ => rfl
  | 24, _ => rfl
  | 25, _ => rfl
  | 26, _ => rfl
  | 27, _ => rfl
  | 28, _ => rfl
  | 29, _ => rfl
  | 30, _ => rfl
  | 31, _ => rfl
  | 32, _ => rfl
  | 33, _ => rfl
  | 34, _ => rfl
  | 35, _ => rfl
  | 36, _ => rfl
  | 37, _ => rfl
  | 38, _ => rfl
  | 39, _ => rfl
  | 40, _ => rfl
  | 41, _ => rfl
  | 42, _ => rfl
  | 43, _ => rfl
  | 44, _ => rfl
  | 45, _ => rfl
  | 46, _ => rfl
  | 47, _ => rfl
  | 48, _ => rfl
  | 49, _ => rfl
  | 50, _ => rfl
  | 51, _ => rfl
  | 52, _ => rfl
  | 53, _ => rfl
  | 54, _ => rfl
  | 55, _ => rfl
  | 56, _ => rfl
  | 57, _ => rfl
  | 58, _ => rfl
  | 59, _ => rfl
  | 60, _ => rfl
  | 61, _ => rfl
  | k + 62, hk => omega
theorem zfo_0 : FO [19] 0 0 "java/util/AbstractList" "modCount" "I" false (.int) := by
  intro t ht
  simp only [List.mem_cons, List.not_mem_nil, or_false] at ht
  rcases ht with rfl
  · exact ⟨18, _, _, _, _, rfl, cls18, by decide, rfl, rfl, rfl, rfl, rfl, Or.inl rfl⟩
theorem zfo_1 : FO [5, 6] 3 2 "java/lang/Throwable" "detailMessage" "Ljava/lang/String;" false (.object "java/lang/String") := by
  intro t ht
  simp only [List.mem_cons, List.not_mem_nil, or_false] at ht
  rcases ht with rfl | rfl
  · exact ⟨4, _, _, _, _, rfl, cls4, by decide, rfl, rfl, rfl, rfl, rfl, Or.inl rfl⟩
  · exact ⟨5, _, _, _, _, rfl, cls5, by decide, rfl, rfl, rfl, rfl, rfl, Or.inl rfl⟩
theorem zfo_2 : FO [5, 6] 0 2 "java/lang/Throwable" "cause" "Ljava/lang/Throwable;" false (.object "java/lang/Throwable") := by
  intro t ht
  simp only [List.mem_cons, List.not_mem_nil, or_false] at ht
  rcases ht with rfl | rfl
  · exact ⟨4, _, _, _, _, rfl, cls4, by decide, rfl, rfl, rfl, rfl, rfl, Or.inl rfl⟩
  · exact ⟨5, _, _, _, _, rfl, cls5, by decide, rfl, rfl, rfl, rfl, rfl, Or.inl rfl⟩
theorem zfo_3 : FO [5, 6] 2 2 "java/lang/Throwable" "suppressedExceptions" "Ljava/util/List;" false (.object "java/util/List") := by
  intro t ht
  simp only [List.mem_cons, List.not_mem_nil, or_false] at ht
  rcases ht with rfl | rfl
  · exact ⟨4, _, _, _, _, rfl, cls4, by decide, rfl, rfl, rfl, rfl, rfl, Or.inl rfl⟩
  · exact ⟨5, _, _, _, _, rfl, cls5, by decide, rfl, rfl, rfl, rfl, rfl, Or.inl rfl⟩
theorem zfo_4 : FO [5, 6] 1 2 "java/lang/Throwable" "stackTrace" "[Ljava/lang/StackTraceElement;" false (.array (.object "java/lang/StackTraceElement")) := by
  intro t ht
  simp only [List.mem_cons, List.not_mem_nil, or_false] at ht
  rcases ht with rfl | rfl
  · exact ⟨4, _, _, _, _, rfl, cls4, by decide, rfl, rfl, rfl, rfl, rfl, Or.inl rfl⟩
  · exact ⟨5, _, _, _, _, rfl, cls5, by decide, rfl, rfl, rfl, rfl, rfl, Or.inl rfl⟩
theorem zfo_5 : FO [20] 0 0 "java/lang/Integer" "value" "I" true (.int) := by
  intro t ht
  simp only [List.mem_cons, List.not_mem_nil, or_false] at ht
  rcases ht with rfl
  · exact ⟨19, _, _, _, _, rfl, cls19, by decide, rfl, rfl, rfl, rfl, rfl, Or.inl rfl⟩
theorem zfs_0 : ∀ t ∈ ([20] : List Nat), ∃ (c : Nat) (C : String) (T : u_T) (N : Nat) (ty : Nat → FieldType), t = c + 1 ∧ ClsOK c C T N ty ∧ 0 < N ∧ (T 0).1 = "java/lang/Integer" := by
  intro t ht
  simp only [List.mem_cons, List.not_mem_nil, or_false] at ht
  rcases ht with rfl
  · exact ⟨19, _, _, _, _, rfl, cls19, by decide, rfl⟩
theorem zfo_6 : FO [19] 1 2 "java/util/ArrayList" "elementData" "[Ljava/lang/Object;" false (.array (.object "java/lang/Object")) := by
  intro t ht
  simp only [List.mem_cons, List.not_mem_nil, or_false] at ht
  rcases ht with rfl
  · exact ⟨18, _, _, _, _, rfl, cls18, by decide, rfl, rfl, rfl, rfl, rfl, Or.inl rfl⟩
theorem zfo_7 : FO [19] 2 0 "java/util/ArrayList" "size" "I" false (.int) := by
  intro t ht
  simp only [List.mem_cons, List.not_mem_nil, or_false] at ht
  rcases ht with rfl
  · exact ⟨18, _, _, _, _, rfl, cls18, by decide, rfl, rfl, rfl, rfl, rfl, Or.inl rfl⟩
theorem zfo_8 : FO [19] 0 0 "java/util/ArrayList" "modCount" "I" false (.int) := by
  intro t ht
  simp only [List.mem_cons, List.not_mem_nil, or_false] at ht
  rcases ht with rfl
  · exact ⟨18, _, _, _, _, rfl, cls18, by decide, rfl, rfl, rfl, rfl, rfl, Or.inr q281⟩
theorem zfo_9 : FO [2] 3 2 "LateAndEarly$Text" "this$0" "LLateAndEarly;" true (.object "LateAndEarly") := by
  intro t ht
  simp only [List.mem_cons, List.not_mem_nil, or_false] at ht
  rcases ht with rfl
  · exact ⟨1, _, _, _, _, rfl, cls1, by decide, rfl, rfl, rfl, rfl, rfl, Or.inl rfl⟩
theorem zfs_1 : ∀ t ∈ ([2] : List Nat), ∃ (c : Nat) (C : String) (T : u_T) (N : Nat) (ty : Nat → FieldType), t = c + 1 ∧ ClsOK c C T N ty ∧ 3 < N ∧ (T 3).1 = "LateAndEarly$Text" := by
  intro t ht
  simp only [List.mem_cons, List.not_mem_nil, or_false] at ht
  rcases ht with rfl
  · exact ⟨1, _, _, _, _, rfl, cls1, by decide, rfl⟩
theorem zfo_10 : FO [2] 0 2 "LateAndEarly$Text" "row" "[B" true (.array (.byte)) := by
  intro t ht
  simp only [List.mem_cons, List.not_mem_nil, or_false] at ht
  rcases ht with rfl
  · exact ⟨1, _, _, _, _, rfl, cls1, by decide, rfl, rfl, rfl, rfl, rfl, Or.inl rfl⟩
theorem zfs_2 : ∀ t ∈ ([2] : List Nat), ∃ (c : Nat) (C : String) (T : u_T) (N : Nat) (ty : Nat → FieldType), t = c + 1 ∧ ClsOK c C T N ty ∧ 0 < N ∧ (T 0).1 = "LateAndEarly$Text" := by
  intro t ht
  simp only [List.mem_cons, List.not_mem_nil, or_false] at ht
  rcases ht with rfl
  · exact ⟨1, _, _, _, _, rfl, cls1, by decide, rfl⟩
theorem zfo_11 : FO [2] 1 2 "LateAndEarly$Text" "blockOf" "[I" true (.array (.int)) := by
  intro t ht
  simp only [List.mem_cons, List.not_mem_nil, or_false] at ht
  rcases ht with rfl
  · exact ⟨1, _, _, _, _, rfl, cls1, by decide, rfl, rfl, rfl, rfl, rfl, Or.inl rfl⟩
theorem zfs_3 : ∀ t ∈ ([2] : List Nat), ∃ (c : Nat) (C : String) (T : u_T) (N : Nat) (ty : Nat → FieldType), t = c + 1 ∧ ClsOK c C T N ty ∧ 1 < N ∧ (T 1).1 = "LateAndEarly$Text" := by
  intro t ht
  simp only [List.mem_cons, List.not_mem_nil, or_false] at ht
  rcases ht with rfl
  · exact ⟨1, _, _, _, _, rfl, cls1, by decide, rfl⟩
theorem zfo_12 : FO [1] 0 2 "LateAndEarly" "tape" "[B" true (.array (.byte)) := by
  intro t ht
  simp only [List.mem_cons, List.not_mem_nil, or_false] at ht
  rcases ht with rfl
  · exact ⟨0, _, _, _, _, rfl, cls0, by decide, rfl, rfl, rfl, rfl, rfl, Or.inl rfl⟩
theorem zfs_4 : ∀ t ∈ ([1] : List Nat), ∃ (c : Nat) (C : String) (T : u_T) (N : Nat) (ty : Nat → FieldType), t = c + 1 ∧ ClsOK c C T N ty ∧ 0 < N ∧ (T 0).1 = "LateAndEarly" := by
  intro t ht
  simp only [List.mem_cons, List.not_mem_nil, or_false] at ht
  rcases ht with rfl
  · exact ⟨0, _, _, _, _, rfl, cls0, by decide, rfl⟩
theorem zfo_13 : FO [1] 2 2 "LateAndEarly" "begins" "[I" true (.array (.int)) := by
  intro t ht
  simp only [List.mem_cons, List.not_mem_nil, or_false] at ht
  rcases ht with rfl
  · exact ⟨0, _, _, _, _, rfl, cls0, by decide, rfl, rfl, rfl, rfl, rfl, Or.inl rfl⟩
theorem zfs_5 : ∀ t ∈ ([1] : List Nat), ∃ (c : Nat) (C : String) (T : u_T) (N : Nat) (ty : Nat → FieldType), t = c + 1 ∧ ClsOK c C T N ty ∧ 2 < N ∧ (T 2).1 = "LateAndEarly" := by
  intro t ht
  simp only [List.mem_cons, List.not_mem_nil, or_false] at ht
  rcases ht with rfl
  · exact ⟨0, _, _, _, _, rfl, cls0, by decide, rfl⟩
theorem zfo_14 : FO [1] 3 2 "LateAndEarly" "places" "[LLateAndEarly$Routine;" true (.array (.object "LateAndEarly$Routine")) := by
  intro t ht
  simp only [List.mem_cons, List.not_mem_nil, or_false] at ht
  rcases ht with rfl
  · exact ⟨0, _, _, _, _, rfl, cls0, by decide, rfl, rfl, rfl, rfl, rfl, Or.inl rfl⟩
theorem zfs_6 : ∀ t ∈ ([1] : List Nat), ∃ (c : Nat) (C : String) (T : u_T) (N : Nat) (ty : Nat → FieldType), t = c + 1 ∧ ClsOK c C T N ty ∧ 3 < N ∧ (T 3).1 = "LateAndEarly" := by
  intro t ht
  simp only [List.mem_cons, List.not_mem_nil, or_false] at ht
  rcases ht with rfl
  · exact ⟨0, _, _, _, _, rfl, cls0, by decide, rfl⟩
theorem zfo_15 : FO [1] 6 2 "LateAndEarly" "text" "LLateAndEarly$Text;" true (.object "LateAndEarly$Text") := by
  intro t ht
  simp only [List.mem_cons, List.not_mem_nil, or_false] at ht
  rcases ht with rfl
  · exact ⟨0, _, _, _, _, rfl, cls0, by decide, rfl, rfl, rfl, rfl, rfl, Or.inl rfl⟩
theorem zfs_7 : ∀ t ∈ ([1] : List Nat), ∃ (c : Nat) (C : String) (T : u_T) (N : Nat) (ty : Nat → FieldType), t = c + 1 ∧ ClsOK c C T N ty ∧ 6 < N ∧ (T 6).1 = "LateAndEarly" := by
  intro t ht
  simp only [List.mem_cons, List.not_mem_nil, or_false] at ht
  rcases ht with rfl
  · exact ⟨0, _, _, _, _, rfl, cls0, by decide, rfl⟩
theorem zfo_16 : FO [1] 1 0 "LateAndEarly" "taped" "I" false (.int) := by
  intro t ht
  simp only [List.mem_cons, List.not_mem_nil, or_false] at ht
  rcases ht with rfl
  · exact ⟨0, _, _, _, _, rfl, cls0, by decide, rfl, rfl, rfl, rfl, rfl, Or.inl rfl⟩
theorem zfo_17 : FO [4] 0 2 "LateAndEarly$Routine" "blocks" "Ljava/util/ArrayList;" true (.object "java/util/ArrayList") := by
  intro t ht
  simp only [List.mem_cons, List.not_mem_nil, or_false] at ht
  rcases ht with rfl
  · exact ⟨3, _, _, _, _, rfl, cls3, by decide, rfl, rfl, rfl, rfl, rfl, Or.inl rfl⟩
theorem zfs_8 : ∀ t ∈ ([4] : List Nat), ∃ (c : Nat) (C : String) (T : u_T) (N : Nat) (ty : Nat → FieldType), t = c + 1 ∧ ClsOK c C T N ty ∧ 0 < N ∧ (T 0).1 = "LateAndEarly$Routine" := by
  intro t ht
  simp only [List.mem_cons, List.not_mem_nil, or_false] at ht
  rcases ht with rfl
  · exact ⟨3, _, _, _, _, rfl, cls3, by decide, rfl⟩
theorem zfo_18 : FO [4] 1 2 "LateAndEarly$Routine" "nodes" "Ljava/util/ArrayList;" true (.object "java/util/ArrayList") := by
  intro t ht
  simp only [List.mem_cons, List.not_mem_nil, or_false] at ht
  rcases ht with rfl
  · exact ⟨3, _, _, _, _, rfl, cls3, by decide, rfl, rfl, rfl, rfl, rfl, Or.inl rfl⟩
theorem zfs_9 : ∀ t ∈ ([4] : List Nat), ∃ (c : Nat) (C : String) (T : u_T) (N : Nat) (ty : Nat → FieldType), t = c + 1 ∧ ClsOK c C T N ty ∧ 1 < N ∧ (T 1).1 = "LateAndEarly$Routine" := by
  intro t ht
  simp only [List.mem_cons, List.not_mem_nil, or_false] at ht
  rcases ht with rfl
  · exact ⟨3, _, _, _, _, rfl, cls3, by decide, rfl⟩
theorem zfo_19 : FO [4] 2 2 "LateAndEarly$Routine" "sums" "Ljava/util/ArrayList;" true (.object "java/util/ArrayList") := by
  intro t ht
  simp only [List.mem_cons, List.not_mem_nil, or_false] at ht
  rcases ht with rfl
  · exact ⟨3, _, _, _, _, rfl, cls3, by decide, rfl, rfl, rfl, rfl, rfl, Or.inl rfl⟩
theorem zfs_10 : ∀ t ∈ ([4] : List Nat), ∃ (c : Nat) (C : String) (T : u_T) (N : Nat) (ty : Nat → FieldType), t = c + 1 ∧ ClsOK c C T N ty ∧ 2 < N ∧ (T 2).1 = "LateAndEarly$Routine" := by
  intro t ht
  simp only [List.mem_cons, List.not_mem_nil, or_false] at ht
  rcases ht with rfl
  · exact ⟨3, _, _, _, _, rfl, cls3, by decide, rfl⟩
theorem zfo_20 : FO [4] 3 2 "LateAndEarly$Routine" "way" "Ljava/util/ArrayList;" true (.object "java/util/ArrayList") := by
  intro t ht
  simp only [List.mem_cons, List.not_mem_nil, or_false] at ht
  rcases ht with rfl
  · exact ⟨3, _, _, _, _, rfl, cls3, by decide, rfl, rfl, rfl, rfl, rfl, Or.inl rfl⟩
theorem zfs_11 : ∀ t ∈ ([4] : List Nat), ∃ (c : Nat) (C : String) (T : u_T) (N : Nat) (ty : Nat → FieldType), t = c + 1 ∧ ClsOK c C T N ty ∧ 3 < N ∧ (T 3).1 = "LateAndEarly$Routine" := by
  intro t ht
  simp only [List.mem_cons, List.not_mem_nil, or_false] at ht
  rcases ht with rfl
  · exact ⟨3, _, _, _, _, rfl, cls3, by decide, rfl⟩
theorem zfo_21 : FO [3] 8 2 "LateAndEarly$Reader" "this$0" "LLateAndEarly;" true (.object "LateAndEarly") := by
  intro t ht
  simp only [List.mem_cons, List.not_mem_nil, or_false] at ht
  rcases ht with rfl
  · exact ⟨2, _, _, _, _, rfl, cls2, by decide, rfl, rfl, rfl, rfl, rfl, Or.inl rfl⟩
theorem zfs_12 : ∀ t ∈ ([3] : List Nat), ∃ (c : Nat) (C : String) (T : u_T) (N : Nat) (ty : Nat → FieldType), t = c + 1 ∧ ClsOK c C T N ty ∧ 8 < N ∧ (T 8).1 = "LateAndEarly$Reader" := by
  intro t ht
  simp only [List.mem_cons, List.not_mem_nil, or_false] at ht
  rcases ht with rfl
  · exact ⟨2, _, _, _, _, rfl, cls2, by decide, rfl⟩
theorem zfo_22 : FO [3] 0 2 "LateAndEarly$Reader" "\x72" "LLateAndEarly$Routine;" true (.object "LateAndEarly$Routine") := by
  intro t ht
  simp only [List.mem_cons, List.not_mem_nil, or_false] at ht
  rcases ht with rfl
  · exact ⟨2, _, _, _, _, rfl, cls2, by decide, rfl, rfl, rfl, rfl, rfl, Or.inl rfl⟩
theorem zfs_13 : ∀ t ∈ ([3] : List Nat), ∃ (c : Nat) (C : String) (T : u_T) (N : Nat) (ty : Nat → FieldType), t = c + 1 ∧ ClsOK c C T N ty ∧ 0 < N ∧ (T 0).1 = "LateAndEarly$Reader" := by
  intro t ht
  simp only [List.mem_cons, List.not_mem_nil, or_false] at ht
  rcases ht with rfl
  · exact ⟨2, _, _, _, _, rfl, cls2, by decide, rfl⟩
theorem zfo_23 : FO [3] 5 2 "LateAndEarly$Reader" "named" "Ljava/util/ArrayList;" true (.object "java/util/ArrayList") := by
  intro t ht
  simp only [List.mem_cons, List.not_mem_nil, or_false] at ht
  rcases ht with rfl
  · exact ⟨2, _, _, _, _, rfl, cls2, by decide, rfl, rfl, rfl, rfl, rfl, Or.inl rfl⟩
theorem zfs_14 : ∀ t ∈ ([3] : List Nat), ∃ (c : Nat) (C : String) (T : u_T) (N : Nat) (ty : Nat → FieldType), t = c + 1 ∧ ClsOK c C T N ty ∧ 5 < N ∧ (T 5).1 = "LateAndEarly$Reader" := by
  intro t ht
  simp only [List.mem_cons, List.not_mem_nil, or_false] at ht
  rcases ht with rfl
  · exact ⟨2, _, _, _, _, rfl, cls2, by decide, rfl⟩
theorem zfo_24 : FO [3] 6 2 "LateAndEarly$Reader" "namedAt" "Ljava/util/ArrayList;" true (.object "java/util/ArrayList") := by
  intro t ht
  simp only [List.mem_cons, List.not_mem_nil, or_false] at ht
  rcases ht with rfl
  · exact ⟨2, _, _, _, _, rfl, cls2, by decide, rfl, rfl, rfl, rfl, rfl, Or.inl rfl⟩
theorem zfs_15 : ∀ t ∈ ([3] : List Nat), ∃ (c : Nat) (C : String) (T : u_T) (N : Nat) (ty : Nat → FieldType), t = c + 1 ∧ ClsOK c C T N ty ∧ 6 < N ∧ (T 6).1 = "LateAndEarly$Reader" := by
  intro t ht
  simp only [List.mem_cons, List.not_mem_nil, or_false] at ht
  rcases ht with rfl
  · exact ⟨2, _, _, _, _, rfl, cls2, by decide, rfl⟩
theorem zfo_25 : FO [3] 7 2 "LateAndEarly$Reader" "headAt" "Ljava/util/ArrayList;" true (.object "java/util/ArrayList") := by
  intro t ht
  simp only [List.mem_cons, List.not_mem_nil, or_false] at ht
  rcases ht with rfl
  · exact ⟨2, _, _, _, _, rfl, cls2, by decide, rfl, rfl, rfl, rfl, rfl, Or.inl rfl⟩
theorem zfs_16 : ∀ t ∈ ([3] : List Nat), ∃ (c : Nat) (C : String) (T : u_T) (N : Nat) (ty : Nat → FieldType), t = c + 1 ∧ ClsOK c C T N ty ∧ 7 < N ∧ (T 7).1 = "LateAndEarly$Reader" := by
  intro t ht
  simp only [List.mem_cons, List.not_mem_nil, or_false] at ht
  rcases ht with rfl
  · exact ⟨2, _, _, _, _, rfl, cls2, by decide, rfl⟩
theorem zfo_26 : FO [3] 3 0 "LateAndEarly$Reader" "behind" "I" false (.int) := by
  intro t ht
  simp only [List.mem_cons, List.not_mem_nil, or_false] at ht
  rcases ht with rfl
  · exact ⟨2, _, _, _, _, rfl, cls2, by decide, rfl, rfl, rfl, rfl, rfl, Or.inl rfl⟩
theorem zfo_27 : FO [3] 4 0 "LateAndEarly$Reader" "number" "I" false (.int) := by
  intro t ht
  simp only [List.mem_cons, List.not_mem_nil, or_false] at ht
  rcases ht with rfl
  · exact ⟨2, _, _, _, _, rfl, cls2, by decide, rfl, rfl, rfl, rfl, rfl, Or.inl rfl⟩
theorem zfo_28 : FO [3] 1 0 "LateAndEarly$Reader" "kind" "I" false (.int) := by
  intro t ht
  simp only [List.mem_cons, List.not_mem_nil, or_false] at ht
  rcases ht with rfl
  · exact ⟨2, _, _, _, _, rfl, cls2, by decide, rfl, rfl, rfl, rfl, rfl, Or.inl rfl⟩
theorem zfo_29 : FO [3] 2 0 "LateAndEarly$Reader" "from" "I" false (.int) := by
  intro t ht
  simp only [List.mem_cons, List.not_mem_nil, or_false] at ht
  rcases ht with rfl
  · exact ⟨2, _, _, _, _, rfl, cls2, by decide, rfl, rfl, rfl, rfl, rfl, Or.inl rfl⟩
theorem zfo_30 : FO [5] 6 0 "LateAndEarly$Fault" "kind" "I" true (.int) := by
  intro t ht
  simp only [List.mem_cons, List.not_mem_nil, or_false] at ht
  rcases ht with rfl
  · exact ⟨4, _, _, _, _, rfl, cls4, by decide, rfl, rfl, rfl, rfl, rfl, Or.inl rfl⟩
theorem zfs_17 : ∀ t ∈ ([5] : List Nat), ∃ (c : Nat) (C : String) (T : u_T) (N : Nat) (ty : Nat → FieldType), t = c + 1 ∧ ClsOK c C T N ty ∧ 6 < N ∧ (T 6).1 = "LateAndEarly$Fault" := by
  intro t ht
  simp only [List.mem_cons, List.not_mem_nil, or_false] at ht
  rcases ht with rfl
  · exact ⟨4, _, _, _, _, rfl, cls4, by decide, rfl⟩
theorem zfo_31 : FO [5] 7 0 "LateAndEarly$Fault" "place" "I" true (.int) := by
  intro t ht
  simp only [List.mem_cons, List.not_mem_nil, or_false] at ht
  rcases ht with rfl
  · exact ⟨4, _, _, _, _, rfl, cls4, by decide, rfl, rfl, rfl, rfl, rfl, Or.inl rfl⟩
theorem zfs_18 : ∀ t ∈ ([5] : List Nat), ∃ (c : Nat) (C : String) (T : u_T) (N : Nat) (ty : Nat → FieldType), t = c + 1 ∧ ClsOK c C T N ty ∧ 7 < N ∧ (T 7).1 = "LateAndEarly$Fault" := by
  intro t ht
  simp only [List.mem_cons, List.not_mem_nil, or_false] at ht
  rcases ht with rfl
  · exact ⟨4, _, _, _, _, rfl, cls4, by decide, rfl⟩
theorem zfo_32 : FO [17] 0 0 "LateAndEarly$Operand" "isName" "Z" true (.boolean) := by
  intro t ht
  simp only [List.mem_cons, List.not_mem_nil, or_false] at ht
  rcases ht with rfl
  · exact ⟨16, _, _, _, _, rfl, cls16, by decide, rfl, rfl, rfl, rfl, rfl, Or.inl rfl⟩
theorem zfs_19 : ∀ t ∈ ([17] : List Nat), ∃ (c : Nat) (C : String) (T : u_T) (N : Nat) (ty : Nat → FieldType), t = c + 1 ∧ ClsOK c C T N ty ∧ 0 < N ∧ (T 0).1 = "LateAndEarly$Operand" := by
  intro t ht
  simp only [List.mem_cons, List.not_mem_nil, or_false] at ht
  rcases ht with rfl
  · exact ⟨16, _, _, _, _, rfl, cls16, by decide, rfl⟩
theorem zfo_33 : FO [17] 1 0 "LateAndEarly$Operand" "v" "I" true (.int) := by
  intro t ht
  simp only [List.mem_cons, List.not_mem_nil, or_false] at ht
  rcases ht with rfl
  · exact ⟨16, _, _, _, _, rfl, cls16, by decide, rfl, rfl, rfl, rfl, rfl, Or.inl rfl⟩
theorem zfs_20 : ∀ t ∈ ([17] : List Nat), ∃ (c : Nat) (C : String) (T : u_T) (N : Nat) (ty : Nat → FieldType), t = c + 1 ∧ ClsOK c C T N ty ∧ 1 < N ∧ (T 1).1 = "LateAndEarly$Operand" := by
  intro t ht
  simp only [List.mem_cons, List.not_mem_nil, or_false] at ht
  rcases ht with rfl
  · exact ⟨16, _, _, _, _, rfl, cls16, by decide, rfl⟩
theorem zfo_34 : FO [7, 8, 9, 10, 11, 12, 13, 14] 2 2 "LateAndEarly$Node" "next" "Ljava/util/ArrayList;" true (.object "java/util/ArrayList") := by
  intro t ht
  simp only [List.mem_cons, List.not_mem_nil, or_false] at ht
  rcases ht with rfl | rfl | rfl | rfl | rfl | rfl | rfl | rfl
  · exact ⟨6, _, _, _, _, rfl, cls6, by decide, rfl, rfl, rfl, rfl, rfl, Or.inl rfl⟩
  · exact ⟨7, _, _, _, _, rfl, cls7, by decide, rfl, rfl, rfl, rfl, rfl, Or.inl rfl⟩
  · exact ⟨8, _, _, _, _, rfl, cls8, by decide, rfl, rfl, rfl, rfl, rfl, Or.inl rfl⟩
  · exact ⟨9, _, _, _, _, rfl, cls9, by decide, rfl, rfl, rfl, rfl, rfl, Or.inl rfl⟩
  · exact ⟨10, _, _, _, _, rfl, cls10, by decide, rfl, rfl, rfl, rfl, rfl, Or.inl rfl⟩
  · exact ⟨11, _, _, _, _, rfl, cls11, by decide, rfl, rfl, rfl, rfl, rfl, Or.inl rfl⟩
  · exact ⟨12, _, _, _, _, rfl, cls12, by decide, rfl, rfl, rfl, rfl, rfl, Or.inl rfl⟩
  · exact ⟨13, _, _, _, _, rfl, cls13, by decide, rfl, rfl, rfl, rfl, rfl, Or.inl rfl⟩
theorem zfs_21 : ∀ t ∈ ([7, 8, 9, 10, 11, 12, 13, 14] : List Nat), ∃ (c : Nat) (C : String) (T : u_T) (N : Nat) (ty : Nat → FieldType), t = c + 1 ∧ ClsOK c C T N ty ∧ 2 < N ∧ (T 2).1 = "LateAndEarly$Node" := by
  intro t ht
  simp only [List.mem_cons, List.not_mem_nil, or_false] at ht
  rcases ht with rfl | rfl | rfl | rfl | rfl | rfl | rfl | rfl
  · exact ⟨6, _, _, _, _, rfl, cls6, by decide, rfl⟩
  · exact ⟨7, _, _, _, _, rfl, cls7, by decide, rfl⟩
  · exact ⟨8, _, _, _, _, rfl, cls8, by decide, rfl⟩
  · exact ⟨9, _, _, _, _, rfl, cls9, by decide, rfl⟩
  · exact ⟨10, _, _, _, _, rfl, cls10, by decide, rfl⟩
  · exact ⟨11, _, _, _, _, rfl, cls11, by decide, rfl⟩
  · exact ⟨12, _, _, _, _, rfl, cls12, by decide, rfl⟩
  · exact ⟨13, _, _, _, _, rfl, cls13, by decide, rfl⟩
theorem zfo_35 : FO [7, 8, 9, 10, 11, 12, 13, 14] 3 2 "LateAndEarly$Node" "before" "Ljava/util/ArrayList;" true (.object "java/util/ArrayList") := by
  intro t ht
  simp only [List.mem_cons, List.not_mem_nil, or_false] at ht
  rcases ht with rfl | rfl | rfl | rfl | rfl | rfl | rfl | rfl
  · exact ⟨6, _, _, _, _, rfl, cls6, by decide, rfl, rfl, rfl, rfl, rfl, Or.inl rfl⟩
  · exact ⟨7, _, _, _, _, rfl, cls7, by decide, rfl, rfl, rfl, rfl, rfl, Or.inl rfl⟩
  · exact ⟨8, _, _, _, _, rfl, cls8, by decide, rfl, rfl, rfl, rfl, rfl, Or.inl rfl⟩
  · exact ⟨9, _, _, _, _, rfl, cls9, by decide, rfl, rfl, rfl, rfl, rfl, Or.inl rfl⟩
  · exact ⟨10, _, _, _, _, rfl, cls10, by decide, rfl, rfl, rfl, rfl, rfl, Or.inl rfl⟩
  · exact ⟨11, _, _, _, _, rfl, cls11, by decide, rfl, rfl, rfl, rfl, rfl, Or.inl rfl⟩
  · exact ⟨12, _, _, _, _, rfl, cls12, by decide, rfl, rfl, rfl, rfl, rfl, Or.inl rfl⟩
  · exact ⟨13, _, _, _, _, rfl, cls13, by decide, rfl, rfl, rfl, rfl, rfl, Or.inl rfl⟩
theorem zfs_22 : ∀ t ∈ ([7, 8, 9, 10, 11, 12, 13, 14] : List Nat), ∃ (c : Nat) (C : String) (T : u_T) (N : Nat) (ty : Nat → FieldType), t = c + 1 ∧ ClsOK c C T N ty ∧ 3 < N ∧ (T 3).1 = "LateAndEarly$Node" := by
  intro t ht
  simp only [List.mem_cons, List.not_mem_nil, or_false] at ht
  rcases ht with rfl | rfl | rfl | rfl | rfl | rfl | rfl | rfl
  · exact ⟨6, _, _, _, _, rfl, cls6, by decide, rfl⟩
  · exact ⟨7, _, _, _, _, rfl, cls7, by decide, rfl⟩
  · exact ⟨8, _, _, _, _, rfl, cls8, by decide, rfl⟩
  · exact ⟨9, _, _, _, _, rfl, cls9, by decide, rfl⟩
  · exact ⟨10, _, _, _, _, rfl, cls10, by decide, rfl⟩
  · exact ⟨11, _, _, _, _, rfl, cls11, by decide, rfl⟩
  · exact ⟨12, _, _, _, _, rfl, cls12, by decide, rfl⟩
  · exact ⟨13, _, _, _, _, rfl, cls13, by decide, rfl⟩
theorem zfo_36 : FO [10] 4 2 "LateAndEarly$Tell" "what" "LLateAndEarly$Operand;" true (.object "LateAndEarly$Operand") := by
  intro t ht
  simp only [List.mem_cons, List.not_mem_nil, or_false] at ht
  rcases ht with rfl
  · exact ⟨9, _, _, _, _, rfl, cls9, by decide, rfl, rfl, rfl, rfl, rfl, Or.inl rfl⟩
theorem zfs_23 : ∀ t ∈ ([10] : List Nat), ∃ (c : Nat) (C : String) (T : u_T) (N : Nat) (ty : Nat → FieldType), t = c + 1 ∧ ClsOK c C T N ty ∧ 4 < N ∧ (T 4).1 = "LateAndEarly$Tell" := by
  intro t ht
  simp only [List.mem_cons, List.not_mem_nil, or_false] at ht
  rcases ht with rfl
  · exact ⟨9, _, _, _, _, rfl, cls9, by decide, rfl⟩
theorem zfo_37 : FO [11] 4 0 "LateAndEarly$Go" "to" "I" true (.int) := by
  intro t ht
  simp only [List.mem_cons, List.not_mem_nil, or_false] at ht
  rcases ht with rfl
  · exact ⟨10, _, _, _, _, rfl, cls10, by decide, rfl, rfl, rfl, rfl, rfl, Or.inl rfl⟩
theorem zfs_24 : ∀ t ∈ ([11] : List Nat), ∃ (c : Nat) (C : String) (T : u_T) (N : Nat) (ty : Nat → FieldType), t = c + 1 ∧ ClsOK c C T N ty ∧ 4 < N ∧ (T 4).1 = "LateAndEarly$Go" := by
  intro t ht
  simp only [List.mem_cons, List.not_mem_nil, or_false] at ht
  rcases ht with rfl
  · exact ⟨10, _, _, _, _, rfl, cls10, by decide, rfl⟩
theorem zfo_38 : FO [12] 4 2 "LateAndEarly$If" "a" "LLateAndEarly$Operand;" true (.object "LateAndEarly$Operand") := by
  intro t ht
  simp only [List.mem_cons, List.not_mem_nil, or_false] at ht
  rcases ht with rfl
  · exact ⟨11, _, _, _, _, rfl, cls11, by decide, rfl, rfl, rfl, rfl, rfl, Or.inl rfl⟩
theorem zfs_25 : ∀ t ∈ ([12] : List Nat), ∃ (c : Nat) (C : String) (T : u_T) (N : Nat) (ty : Nat → FieldType), t = c + 1 ∧ ClsOK c C T N ty ∧ 4 < N ∧ (T 4).1 = "LateAndEarly$If" := by
  intro t ht
  simp only [List.mem_cons, List.not_mem_nil, or_false] at ht
  rcases ht with rfl
  · exact ⟨11, _, _, _, _, rfl, cls11, by decide, rfl⟩
theorem zfo_39 : FO [12] 5 2 "LateAndEarly$If" "b" "LLateAndEarly$Operand;" true (.object "LateAndEarly$Operand") := by
  intro t ht
  simp only [List.mem_cons, List.not_mem_nil, or_false] at ht
  rcases ht with rfl
  · exact ⟨11, _, _, _, _, rfl, cls11, by decide, rfl, rfl, rfl, rfl, rfl, Or.inl rfl⟩
theorem zfs_26 : ∀ t ∈ ([12] : List Nat), ∃ (c : Nat) (C : String) (T : u_T) (N : Nat) (ty : Nat → FieldType), t = c + 1 ∧ ClsOK c C T N ty ∧ 5 < N ∧ (T 5).1 = "LateAndEarly$If" := by
  intro t ht
  simp only [List.mem_cons, List.not_mem_nil, or_false] at ht
  rcases ht with rfl
  · exact ⟨11, _, _, _, _, rfl, cls11, by decide, rfl⟩
theorem zfo_40 : FO [12] 6 0 "LateAndEarly$If" "to" "I" true (.int) := by
  intro t ht
  simp only [List.mem_cons, List.not_mem_nil, or_false] at ht
  rcases ht with rfl
  · exact ⟨11, _, _, _, _, rfl, cls11, by decide, rfl, rfl, rfl, rfl, rfl, Or.inl rfl⟩
theorem zfs_27 : ∀ t ∈ ([12] : List Nat), ∃ (c : Nat) (C : String) (T : u_T) (N : Nat) (ty : Nat → FieldType), t = c + 1 ∧ ClsOK c C T N ty ∧ 6 < N ∧ (T 6).1 = "LateAndEarly$If" := by
  intro t ht
  simp only [List.mem_cons, List.not_mem_nil, or_false] at ht
  rcases ht with rfl
  · exact ⟨11, _, _, _, _, rfl, cls11, by decide, rfl⟩
theorem zfo_41 : FO [12] 7 0 "LateAndEarly$If" "or" "I" true (.int) := by
  intro t ht
  simp only [List.mem_cons, List.not_mem_nil, or_false] at ht
  rcases ht with rfl
  · exact ⟨11, _, _, _, _, rfl, cls11, by decide, rfl, rfl, rfl, rfl, rfl, Or.inl rfl⟩
theorem zfs_28 : ∀ t ∈ ([12] : List Nat), ∃ (c : Nat) (C : String) (T : u_T) (N : Nat) (ty : Nat → FieldType), t = c + 1 ∧ ClsOK c C T N ty ∧ 7 < N ∧ (T 7).1 = "LateAndEarly$If" := by
  intro t ht
  simp only [List.mem_cons, List.not_mem_nil, or_false] at ht
  rcases ht with rfl
  · exact ⟨11, _, _, _, _, rfl, cls11, by decide, rfl⟩
theorem zfo_42 : FO [9] 4 0 "LateAndEarly$Write" "row" "I" true (.int) := by
  intro t ht
  simp only [List.mem_cons, List.not_mem_nil, or_false] at ht
  rcases ht with rfl
  · exact ⟨8, _, _, _, _, rfl, cls8, by decide, rfl, rfl, rfl, rfl, rfl, Or.inl rfl⟩
theorem zfs_29 : ∀ t ∈ ([9] : List Nat), ∃ (c : Nat) (C : String) (T : u_T) (N : Nat) (ty : Nat → FieldType), t = c + 1 ∧ ClsOK c C T N ty ∧ 4 < N ∧ (T 4).1 = "LateAndEarly$Write" := by
  intro t ht
  simp only [List.mem_cons, List.not_mem_nil, or_false] at ht
  rcases ht with rfl
  · exact ⟨8, _, _, _, _, rfl, cls8, by decide, rfl⟩
theorem zfo_43 : FO [9] 5 2 "LateAndEarly$Write" "at" "LLateAndEarly$Operand;" true (.object "LateAndEarly$Operand") := by
  intro t ht
  simp only [List.mem_cons, List.not_mem_nil, or_false] at ht
  rcases ht with rfl
  · exact ⟨8, _, _, _, _, rfl, cls8, by decide, rfl, rfl, rfl, rfl, rfl, Or.inl rfl⟩
theorem zfs_30 : ∀ t ∈ ([9] : List Nat), ∃ (c : Nat) (C : String) (T : u_T) (N : Nat) (ty : Nat → FieldType), t = c + 1 ∧ ClsOK c C T N ty ∧ 5 < N ∧ (T 5).1 = "LateAndEarly$Write" := by
  intro t ht
  simp only [List.mem_cons, List.not_mem_nil, or_false] at ht
  rcases ht with rfl
  · exact ⟨8, _, _, _, _, rfl, cls8, by decide, rfl⟩
theorem zfo_44 : FO [9] 6 2 "LateAndEarly$Write" "what" "LLateAndEarly$Operand;" true (.object "LateAndEarly$Operand") := by
  intro t ht
  simp only [List.mem_cons, List.not_mem_nil, or_false] at ht
  rcases ht with rfl
  · exact ⟨8, _, _, _, _, rfl, cls8, by decide, rfl, rfl, rfl, rfl, rfl, Or.inl rfl⟩
theorem zfs_31 : ∀ t ∈ ([9] : List Nat), ∃ (c : Nat) (C : String) (T : u_T) (N : Nat) (ty : Nat → FieldType), t = c + 1 ∧ ClsOK c C T N ty ∧ 6 < N ∧ (T 6).1 = "LateAndEarly$Write" := by
  intro t ht
  simp only [List.mem_cons, List.not_mem_nil, or_false] at ht
  rcases ht with rfl
  · exact ⟨8, _, _, _, _, rfl, cls8, by decide, rfl⟩
theorem zfo_45 : FO [15, 16] 0 0 "LateAndEarly$Sum" "number" "I" false (.int) := by
  intro t ht
  simp only [List.mem_cons, List.not_mem_nil, or_false] at ht
  rcases ht with rfl | rfl
  · exact ⟨14, _, _, _, _, rfl, cls14, by decide, rfl, rfl, rfl, rfl, rfl, Or.inl rfl⟩
  · exact ⟨15, _, _, _, _, rfl, cls15, by decide, rfl, rfl, rfl, rfl, rfl, Or.inl rfl⟩
theorem zfo_46 : FO [16] 1 0 "LateAndEarly$Read" "row" "I" true (.int) := by
  intro t ht
  simp only [List.mem_cons, List.not_mem_nil, or_false] at ht
  rcases ht with rfl
  · exact ⟨15, _, _, _, _, rfl, cls15, by decide, rfl, rfl, rfl, rfl, rfl, Or.inl rfl⟩
theorem zfs_32 : ∀ t ∈ ([16] : List Nat), ∃ (c : Nat) (C : String) (T : u_T) (N : Nat) (ty : Nat → FieldType), t = c + 1 ∧ ClsOK c C T N ty ∧ 1 < N ∧ (T 1).1 = "LateAndEarly$Read" := by
  intro t ht
  simp only [List.mem_cons, List.not_mem_nil, or_false] at ht
  rcases ht with rfl
  · exact ⟨15, _, _, _, _, rfl, cls15, by decide, rfl⟩
theorem zfo_47 : FO [16] 2 2 "LateAndEarly$Read" "at" "LLateAndEarly$Operand;" true (.object "LateAndEarly$Operand") := by
  intro t ht
  simp only [List.mem_cons, List.not_mem_nil, or_false] at ht
  rcases ht with rfl
  · exact ⟨15, _, _, _, _, rfl, cls15, by decide, rfl, rfl, rfl, rfl, rfl, Or.inl rfl⟩
theorem zfs_33 : ∀ t ∈ ([16] : List Nat), ∃ (c : Nat) (C : String) (T : u_T) (N : Nat) (ty : Nat → FieldType), t = c + 1 ∧ ClsOK c C T N ty ∧ 2 < N ∧ (T 2).1 = "LateAndEarly$Read" := by
  intro t ht
  simp only [List.mem_cons, List.not_mem_nil, or_false] at ht
  rcases ht with rfl
  · exact ⟨15, _, _, _, _, rfl, cls15, by decide, rfl⟩
theorem zfo_48 : FO [7, 8] 4 0 "LateAndEarly$Setting" "name" "I" true (.int) := by
  intro t ht
  simp only [List.mem_cons, List.not_mem_nil, or_false] at ht
  rcases ht with rfl | rfl
  · exact ⟨6, _, _, _, _, rfl, cls6, by decide, rfl, rfl, rfl, rfl, rfl, Or.inl rfl⟩
  · exact ⟨7, _, _, _, _, rfl, cls7, by decide, rfl, rfl, rfl, rfl, rfl, Or.inl rfl⟩
theorem zfs_34 : ∀ t ∈ ([7, 8] : List Nat), ∃ (c : Nat) (C : String) (T : u_T) (N : Nat) (ty : Nat → FieldType), t = c + 1 ∧ ClsOK c C T N ty ∧ 4 < N ∧ (T 4).1 = "LateAndEarly$Setting" := by
  intro t ht
  simp only [List.mem_cons, List.not_mem_nil, or_false] at ht
  rcases ht with rfl | rfl
  · exact ⟨6, _, _, _, _, rfl, cls6, by decide, rfl⟩
  · exact ⟨7, _, _, _, _, rfl, cls7, by decide, rfl⟩
theorem zfo_49 : FO [7] 5 2 "LateAndEarly$SetSum" "sum" "LLateAndEarly$Sum;" false (.object "LateAndEarly$Sum") := by
  intro t ht
  simp only [List.mem_cons, List.not_mem_nil, or_false] at ht
  rcases ht with rfl
  · exact ⟨6, _, _, _, _, rfl, cls6, by decide, rfl, rfl, rfl, rfl, rfl, Or.inl rfl⟩
theorem zfo_50 : FO [8] 5 2 "LateAndEarly$SetOperand" "from" "LLateAndEarly$Operand;" true (.object "LateAndEarly$Operand") := by
  intro t ht
  simp only [List.mem_cons, List.not_mem_nil, or_false] at ht
  rcases ht with rfl
  · exact ⟨7, _, _, _, _, rfl, cls7, by decide, rfl, rfl, rfl, rfl, rfl, Or.inl rfl⟩
theorem zfs_35 : ∀ t ∈ ([8] : List Nat), ∃ (c : Nat) (C : String) (T : u_T) (N : Nat) (ty : Nat → FieldType), t = c + 1 ∧ ClsOK c C T N ty ∧ 5 < N ∧ (T 5).1 = "LateAndEarly$SetOperand" := by
  intro t ht
  simp only [List.mem_cons, List.not_mem_nil, or_false] at ht
  rcases ht with rfl
  · exact ⟨7, _, _, _, _, rfl, cls7, by decide, rfl⟩
theorem zfo_51 : FO [15] 1 0 "LateAndEarly$Pair" "sign" "C" true (.char) := by
  intro t ht
  simp only [List.mem_cons, List.not_mem_nil, or_false] at ht
  rcases ht with rfl
  · exact ⟨14, _, _, _, _, rfl, cls14, by decide, rfl, rfl, rfl, rfl, rfl, Or.inl rfl⟩
theorem zfs_36 : ∀ t ∈ ([15] : List Nat), ∃ (c : Nat) (C : String) (T : u_T) (N : Nat) (ty : Nat → FieldType), t = c + 1 ∧ ClsOK c C T N ty ∧ 1 < N ∧ (T 1).1 = "LateAndEarly$Pair" := by
  intro t ht
  simp only [List.mem_cons, List.not_mem_nil, or_false] at ht
  rcases ht with rfl
  · exact ⟨14, _, _, _, _, rfl, cls14, by decide, rfl⟩
theorem zfo_52 : FO [15] 2 2 "LateAndEarly$Pair" "a" "LLateAndEarly$Operand;" true (.object "LateAndEarly$Operand") := by
  intro t ht
  simp only [List.mem_cons, List.not_mem_nil, or_false] at ht
  rcases ht with rfl
  · exact ⟨14, _, _, _, _, rfl, cls14, by decide, rfl, rfl, rfl, rfl, rfl, Or.inl rfl⟩
theorem zfs_37 : ∀ t ∈ ([15] : List Nat), ∃ (c : Nat) (C : String) (T : u_T) (N : Nat) (ty : Nat → FieldType), t = c + 1 ∧ ClsOK c C T N ty ∧ 2 < N ∧ (T 2).1 = "LateAndEarly$Pair" := by
  intro t ht
  simp only [List.mem_cons, List.not_mem_nil, or_false] at ht
  rcases ht with rfl
  · exact ⟨14, _, _, _, _, rfl, cls14, by decide, rfl⟩
theorem zfo_53 : FO [15] 3 2 "LateAndEarly$Pair" "b" "LLateAndEarly$Operand;" true (.object "LateAndEarly$Operand") := by
  intro t ht
  simp only [List.mem_cons, List.not_mem_nil, or_false] at ht
  rcases ht with rfl
  · exact ⟨14, _, _, _, _, rfl, cls14, by decide, rfl, rfl, rfl, rfl, rfl, Or.inl rfl⟩
theorem zfs_38 : ∀ t ∈ ([15] : List Nat), ∃ (c : Nat) (C : String) (T : u_T) (N : Nat) (ty : Nat → FieldType), t = c + 1 ∧ ClsOK c C T N ty ∧ 3 < N ∧ (T 3).1 = "LateAndEarly$Pair" := by
  intro t ht
  simp only [List.mem_cons, List.not_mem_nil, or_false] at ht
  rcases ht with rfl
  · exact ⟨14, _, _, _, _, rfl, cls14, by decide, rfl⟩
theorem zfo_54 : FO [4] 4 0 "LateAndEarly$Routine" "lines" "I" false (.int) := by
  intro t ht
  simp only [List.mem_cons, List.not_mem_nil, or_false] at ht
  rcases ht with rfl
  · exact ⟨3, _, _, _, _, rfl, cls3, by decide, rfl, rfl, rfl, rfl, rfl, Or.inl rfl⟩
theorem zco_0 : CastOK [11, 12, 13] "LateAndEarly$End" := by
  intro t ht
  simp only [List.mem_cons, List.not_mem_nil, or_false] at ht
  rcases ht with rfl | rfl | rfl
  · exact ⟨10, _, _, _, _, rfl, cls10, Or.inr q2260⟩
  · exact ⟨11, _, _, _, _, rfl, cls11, Or.inr q2261⟩
  · exact ⟨12, _, _, _, _, rfl, cls12, Or.inr q2262⟩
theorem zno_0 : NoCast [7, 8, 9, 10, 14] "LateAndEarly$End" := by
  intro t ht
  simp only [List.mem_cons, List.not_mem_nil, or_false] at ht
  rcases ht with rfl | rfl | rfl | rfl | rfl
  · exact ⟨6, _, _, _, _, rfl, cls6, by decide +kernel⟩
  · exact ⟨7, _, _, _, _, rfl, cls7, by decide +kernel⟩
  · exact ⟨8, _, _, _, _, rfl, cls8, by decide +kernel⟩
  · exact ⟨9, _, _, _, _, rfl, cls9, by decide +kernel⟩
  · exact ⟨13, _, _, _, _, rfl, cls13, by decide +kernel⟩
theorem zco_1 : CastOK [19] "java/util/ArrayList" := by
  intro t ht
  simp only [List.mem_cons, List.not_mem_nil, or_false] at ht
  rcases ht with rfl
  · exact ⟨18, _, _, _, _, rfl, cls18, Or.inl rfl⟩
def xm_0 : MethodName := ⟨"LateAndEarly$End", "ways", "()I"⟩
theorem xp_0 : parN xm_0 0 := by unfold parN; decide +kernel
def xm_1 : MethodName := ⟨"LateAndEarly$End", "way", "(I)I"⟩
theorem xp_1 : parN xm_1 1 := by unfold parN; decide +kernel
def xm_2 : MethodName := ⟨"LateAndEarly$End", "leadsTo", "(LLateAndEarly$Node;)V"⟩
theorem xp_2 : parN xm_2 1 := by unfold parN; decide +kernel
theorem zfo_55 : FO [7, 8, 9, 10, 11, 12, 13, 14] 0 0 "LateAndEarly$Node" "number" "I" false (.int) := by
  intro t ht
  simp only [List.mem_cons, List.not_mem_nil, or_false] at ht
  rcases ht with rfl | rfl | rfl | rfl | rfl | rfl | rfl | rfl
  · exact ⟨6, _, _, _, _, rfl, cls6, by decide, rfl, rfl, rfl, rfl, rfl, Or.inl rfl⟩
  · exact ⟨7, _, _, _, _, rfl, cls7, by decide, rfl, rfl, rfl, rfl, rfl, Or.inl rfl⟩
  · exact ⟨8, _, _, _, _, rfl, cls8, by decide, rfl, rfl, rfl, rfl, rfl, Or.inl rfl⟩
  · exact ⟨9, _, _, _, _, rfl, cls9, by decide, rfl, rfl, rfl, rfl, rfl, Or.inl rfl⟩
  · exact ⟨10, _, _, _, _, rfl, cls10, by decide, rfl, rfl, rfl, rfl, rfl, Or.inl rfl⟩
  · exact ⟨11, _, _, _, _, rfl, cls11, by decide, rfl, rfl, rfl, rfl, rfl, Or.inl rfl⟩
  · exact ⟨12, _, _, _, _, rfl, cls12, by decide, rfl, rfl, rfl, rfl, rfl, Or.inl rfl⟩
  · exact ⟨13, _, _, _, _, rfl, cls13, by decide, rfl, rfl, rfl, rfl, rfl, Or.inl rfl⟩
theorem zfo_56 : FO [7, 8, 9, 10, 11, 12, 13, 14] 1 0 "LateAndEarly$Node" "block" "I" false (.int) := by
  intro t ht
  simp only [List.mem_cons, List.not_mem_nil, or_false] at ht
  rcases ht with rfl | rfl | rfl | rfl | rfl | rfl | rfl | rfl
  · exact ⟨6, _, _, _, _, rfl, cls6, by decide, rfl, rfl, rfl, rfl, rfl, Or.inl rfl⟩
  · exact ⟨7, _, _, _, _, rfl, cls7, by decide, rfl, rfl, rfl, rfl, rfl, Or.inl rfl⟩
  · exact ⟨8, _, _, _, _, rfl, cls8, by decide, rfl, rfl, rfl, rfl, rfl, Or.inl rfl⟩
  · exact ⟨9, _, _, _, _, rfl, cls9, by decide, rfl, rfl, rfl, rfl, rfl, Or.inl rfl⟩
  · exact ⟨10, _, _, _, _, rfl, cls10, by decide, rfl, rfl, rfl, rfl, rfl, Or.inl rfl⟩
  · exact ⟨11, _, _, _, _, rfl, cls11, by decide, rfl, rfl, rfl, rfl, rfl, Or.inl rfl⟩
  · exact ⟨12, _, _, _, _, rfl, cls12, by decide, rfl, rfl, rfl, rfl, rfl, Or.inl rfl⟩
  · exact ⟨13, _, _, _, _, rfl, cls13, by decide, rfl, rfl, rfl, rfl, rfl, Or.inl rfl⟩
theorem zfo_57 : FO [4] 5 0 "LateAndEarly$Routine" "onWays" "I" false (.int) := by
  intro t ht
  simp only [List.mem_cons, List.not_mem_nil, or_false] at ht
  rcases ht with rfl
  · exact ⟨3, _, _, _, _, rfl, cls3, by decide, rfl, rfl, rfl, rfl, rfl, Or.inl rfl⟩
theorem zco_2 : CastOK [7, 8, 9, 10, 11, 12, 13, 14] "LateAndEarly$Node" := by
  intro t ht
  simp only [List.mem_cons, List.not_mem_nil, or_false] at ht
  rcases ht with rfl | rfl | rfl | rfl | rfl | rfl | rfl | rfl
  · exact ⟨6, _, _, _, _, rfl, cls6, Or.inr q2268⟩
  · exact ⟨7, _, _, _, _, rfl, cls7, Or.inr q2267⟩
  · exact ⟨8, _, _, _, _, rfl, cls8, Or.inr q2270⟩
  · exact ⟨9, _, _, _, _, rfl, cls9, Or.inr q2269⟩
  · exact ⟨10, _, _, _, _, rfl, cls10, Or.inr q2263⟩
  · exact ⟨11, _, _, _, _, rfl, cls11, Or.inr q2264⟩
  · exact ⟨12, _, _, _, _, rfl, cls12, Or.inr q2265⟩
  · exact ⟨13, _, _, _, _, rfl, cls13, Or.inr q2266⟩
theorem zco_3 : CastOK [15] "LateAndEarly$Pair" := by
  intro t ht
  simp only [List.mem_cons, List.not_mem_nil, or_false] at ht
  rcases ht with rfl
  · exact ⟨14, _, _, _, _, rfl, cls14, Or.inl rfl⟩
theorem zno_1 : NoCast [16] "LateAndEarly$Pair" := by
  intro t ht
  simp only [List.mem_cons, List.not_mem_nil, or_false] at ht
  rcases ht with rfl
  · exact ⟨15, _, _, _, _, rfl, cls15, by decide +kernel⟩
theorem zco_4 : CastOK [16] "LateAndEarly$Read" := by
  intro t ht
  simp only [List.mem_cons, List.not_mem_nil, or_false] at ht
  rcases ht with rfl
  · exact ⟨15, _, _, _, _, rfl, cls15, Or.inl rfl⟩
theorem zno_2 : NoCast [15] "LateAndEarly$Read" := by
  intro t ht
  simp only [List.mem_cons, List.not_mem_nil, or_false] at ht
  rcases ht with rfl
  · exact ⟨14, _, _, _, _, rfl, cls14, by decide +kernel⟩
theorem zco_5 : CastOK [15, 16] "LateAndEarly$Sum" := by
  intro t ht
  simp only [List.mem_cons, List.not_mem_nil, or_false] at ht
  rcases ht with rfl | rfl
  · exact ⟨14, _, _, _, _, rfl, cls14, Or.inr q2271⟩
  · exact ⟨15, _, _, _, _, rfl, cls15, Or.inr q2272⟩
def xm_3 : MethodName := ⟨"LateAndEarly$Sum", "isLike", "(LLateAndEarly$Sum;)Z"⟩
theorem xp_3 : parN xm_3 1 := by unfold parN; decide +kernel
def xm_4 : MethodName := ⟨"LateAndEarly$Node", "works", "()LLateAndEarly$Sum;"⟩
theorem xp_4 : parN xm_4 0 := by unfold parN; decide +kernel
theorem zco_6 : CastOK [7] "LateAndEarly$SetSum" := by
  intro t ht
  simp only [List.mem_cons, List.not_mem_nil, or_false] at ht
  rcases ht with rfl
  · exact ⟨6, _, _, _, _, rfl, cls6, Or.inl rfl⟩
def xm_5 : MethodName := ⟨"LateAndEarly$Sum", "second", "()LLateAndEarly$Operand;"⟩
theorem xp_5 : parN xm_5 0 := by unfold parN; decide +kernel
def xm_6 : MethodName := ⟨"LateAndEarly$Sum", "first", "()LLateAndEarly$Operand;"⟩
theorem xp_6 : parN xm_6 0 := by unfold parN; decide +kernel
def xm_7 : MethodName := ⟨"LateAndEarly$Node", "writes", "()I"⟩
theorem xp_7 : parN xm_7 0 := by unfold parN; decide +kernel
def xm_8 : MethodName := ⟨"LateAndEarly$Sum", "isOfRow", "(I)Z"⟩
theorem xp_8 : parN xm_8 1 := by unfold parN; decide +kernel
def xm_9 : MethodName := ⟨"LateAndEarly$Node", "sets", "()I"⟩
theorem xp_9 : parN xm_9 0 := by unfold parN; decide +kernel
def xm_10 : MethodName := ⟨"LateAndEarly$Sum", "isBold", "()Z"⟩
theorem xp_10 : parN xm_10 0 := by unfold parN; decide +kernel
theorem zfo_58 : FO [4] 8 2 "LateAndEarly$Routine" "wanted" "[J" false (.array (.long)) := by
  intro t ht
  simp only [List.mem_cons, List.not_mem_nil, or_false] at ht
  rcases ht with rfl
  · exact ⟨3, _, _, _, _, rfl, cls3, by decide, rfl, rfl, rfl, rfl, rfl, Or.inl rfl⟩
theorem zfo_59 : FO [4] 6 2 "LateAndEarly$Routine" "works" "[J" false (.array (.long)) := by
  intro t ht
  simp only [List.mem_cons, List.not_mem_nil, or_false] at ht
  rcases ht with rfl
  · exact ⟨3, _, _, _, _, rfl, cls3, by decide, rfl, rfl, rfl, rfl, rfl, Or.inl rfl⟩
def xm_11 : MethodName := ⟨"LateAndEarly$Node", "isSeen", "()Z"⟩
theorem xp_11 : parN xm_11 0 := by unfold parN; decide +kernel
theorem zfo_60 : FO [4] 7 2 "LateAndEarly$Routine" "kills" "[J" false (.array (.long)) := by
  intro t ht
  simp only [List.mem_cons, List.not_mem_nil, or_false] at ht
  rcases ht with rfl
  · exact ⟨3, _, _, _, _, rfl, cls3, by decide, rfl, rfl, rfl, rfl, rfl, Or.inl rfl⟩
theorem zfo_61 : FO [4] 9 2 "LateAndEarly$Routine" "there" "[J" false (.array (.long)) := by
  intro t ht
  simp only [List.mem_cons, List.not_mem_nil, or_false] at ht
  rcases ht with rfl
  · exact ⟨3, _, _, _, _, rfl, cls3, by decide, rfl, rfl, rfl, rfl, rfl, Or.inl rfl⟩
theorem zfo_62 : FO [4] 11 2 "LateAndEarly$Routine" "delayed" "[J" false (.array (.long)) := by
  intro t ht
  simp only [List.mem_cons, List.not_mem_nil, or_false] at ht
  rcases ht with rfl
  · exact ⟨3, _, _, _, _, rfl, cls3, by decide, rfl, rfl, rfl, rfl, rfl, Or.inl rfl⟩
theorem zfo_63 : FO [4] 10 2 "LateAndEarly$Routine" "early" "[J" false (.array (.long)) := by
  intro t ht
  simp only [List.mem_cons, List.not_mem_nil, or_false] at ht
  rcases ht with rfl
  · exact ⟨3, _, _, _, _, rfl, cls3, by decide, rfl, rfl, rfl, rfl, rfl, Or.inl rfl⟩
theorem zfo_64 : FO [4] 13 2 "LateAndEarly$Routine" "alone" "[J" false (.array (.long)) := by
  intro t ht
  simp only [List.mem_cons, List.not_mem_nil, or_false] at ht
  rcases ht with rfl
  · exact ⟨3, _, _, _, _, rfl, cls3, by decide, rfl, rfl, rfl, rfl, rfl, Or.inl rfl⟩
theorem zfo_65 : FO [4] 12 2 "LateAndEarly$Routine" "latest" "[J" false (.array (.long)) := by
  intro t ht
  simp only [List.mem_cons, List.not_mem_nil, or_false] at ht
  rcases ht with rfl
  · exact ⟨3, _, _, _, _, rfl, cls3, by decide, rfl, rfl, rfl, rfl, rfl, Or.inl rfl⟩
theorem zfo_66 : FO [1] 4 0 "LateAndEarly" "wrong" "I" false (.int) := by
  intro t ht
  simp only [List.mem_cons, List.not_mem_nil, or_false] at ht
  rcases ht with rfl
  · exact ⟨0, _, _, _, _, rfl, cls0, by decide, rfl, rfl, rfl, rfl, rfl, Or.inl rfl⟩
theorem zco_7 : CastOK [4] "LateAndEarly$Routine" := by
  intro t ht
  simp only [List.mem_cons, List.not_mem_nil, or_false] at ht
  rcases ht with rfl
  · exact ⟨3, _, _, _, _, rfl, cls3, Or.inl rfl⟩
def xm_12 : MethodName := ⟨"LateAndEarly$Node", "kind", "()I"⟩
theorem xp_12 : parN xm_12 0 := by unfold parN; decide +kernel
def xm_13 : MethodName := ⟨"LateAndEarly$Sum", "sign", "()I"⟩
theorem xp_13 : parN xm_13 0 := by unfold parN; decide +kernel
def xm_14 : MethodName := ⟨"LateAndEarly$Sum", "toldFirst", "()I"⟩
theorem xp_14 : parN xm_14 0 := by unfold parN; decide +kernel
theorem zfo_67 : FO [18] 2 2 "LateAndEarly$Run" "names" "[I" true (.array (.int)) := by
  intro t ht
  simp only [List.mem_cons, List.not_mem_nil, or_false] at ht
  rcases ht with rfl
  · exact ⟨17, _, _, _, _, rfl, cls17, by decide, rfl, rfl, rfl, rfl, rfl, Or.inl rfl⟩
theorem zfo_68 : FO [18] 11 2 "LateAndEarly$Run" "this$0" "LLateAndEarly;" true (.object "LateAndEarly") := by
  intro t ht
  simp only [List.mem_cons, List.not_mem_nil, or_false] at ht
  rcases ht with rfl
  · exact ⟨17, _, _, _, _, rfl, cls17, by decide, rfl, rfl, rfl, rfl, rfl, Or.inl rfl⟩
theorem zfs_39 : ∀ t ∈ ([18] : List Nat), ∃ (c : Nat) (C : String) (T : u_T) (N : Nat) (ty : Nat → FieldType), t = c + 1 ∧ ClsOK c C T N ty ∧ 11 < N ∧ (T 11).1 = "LateAndEarly$Run" := by
  intro t ht
  simp only [List.mem_cons, List.not_mem_nil, or_false] at ht
  rcases ht with rfl
  · exact ⟨17, _, _, _, _, rfl, cls17, by decide, rfl⟩
theorem zfs_40 : ∀ t ∈ ([18] : List Nat), ∃ (c : Nat) (C : String) (T : u_T) (N : Nat) (ty : Nat → FieldType), t = c + 1 ∧ ClsOK c C T N ty ∧ 2 < N ∧ (T 2).1 = "LateAndEarly$Run" := by
  intro t ht
  simp only [List.mem_cons, List.not_mem_nil, or_false] at ht
  rcases ht with rfl
  · exact ⟨17, _, _, _, _, rfl, cls17, by decide, rfl⟩
theorem zfo_69 : FO [18] 3 2 "LateAndEarly$Run" "kept" "[I" true (.array (.int)) := by
  intro t ht
  simp only [List.mem_cons, List.not_mem_nil, or_false] at ht
  rcases ht with rfl
  · exact ⟨17, _, _, _, _, rfl, cls17, by decide, rfl, rfl, rfl, rfl, rfl, Or.inl rfl⟩
theorem zfs_41 : ∀ t ∈ ([18] : List Nat), ∃ (c : Nat) (C : String) (T : u_T) (N : Nat) (ty : Nat → FieldType), t = c + 1 ∧ ClsOK c C T N ty ∧ 3 < N ∧ (T 3).1 = "LateAndEarly$Run" := by
  intro t ht
  simp only [List.mem_cons, List.not_mem_nil, or_false] at ht
  rcases ht with rfl
  · exact ⟨17, _, _, _, _, rfl, cls17, by decide, rfl⟩
theorem zfo_70 : FO [18] 4 2 "LateAndEarly$Run" "worked" "[I" true (.array (.int)) := by
  intro t ht
  simp only [List.mem_cons, List.not_mem_nil, or_false] at ht
  rcases ht with rfl
  · exact ⟨17, _, _, _, _, rfl, cls17, by decide, rfl, rfl, rfl, rfl, rfl, Or.inl rfl⟩
theorem zfs_42 : ∀ t ∈ ([18] : List Nat), ∃ (c : Nat) (C : String) (T : u_T) (N : Nat) (ty : Nat → FieldType), t = c + 1 ∧ ClsOK c C T N ty ∧ 4 < N ∧ (T 4).1 = "LateAndEarly$Run" := by
  intro t ht
  simp only [List.mem_cons, List.not_mem_nil, or_false] at ht
  rcases ht with rfl
  · exact ⟨17, _, _, _, _, rfl, cls17, by decide, rfl⟩
theorem zfo_71 : FO [18] 5 2 "LateAndEarly$Run" "told" "[I" true (.array (.int)) := by
  intro t ht
  simp only [List.mem_cons, List.not_mem_nil, or_false] at ht
  rcases ht with rfl
  · exact ⟨17, _, _, _, _, rfl, cls17, by decide, rfl, rfl, rfl, rfl, rfl, Or.inl rfl⟩
theorem zfs_43 : ∀ t ∈ ([18] : List Nat), ∃ (c : Nat) (C : String) (T : u_T) (N : Nat) (ty : Nat → FieldType), t = c + 1 ∧ ClsOK c C T N ty ∧ 5 < N ∧ (T 5).1 = "LateAndEarly$Run" := by
  intro t ht
  simp only [List.mem_cons, List.not_mem_nil, or_false] at ht
  rcases ht with rfl
  · exact ⟨17, _, _, _, _, rfl, cls17, by decide, rfl⟩
theorem zfo_72 : FO [18] 6 2 "LateAndEarly$Run" "rows" "[[I" true (.array (.array (.int))) := by
  intro t ht
  simp only [List.mem_cons, List.not_mem_nil, or_false] at ht
  rcases ht with rfl
  · exact ⟨17, _, _, _, _, rfl, cls17, by decide, rfl, rfl, rfl, rfl, rfl, Or.inl rfl⟩
theorem zfs_44 : ∀ t ∈ ([18] : List Nat), ∃ (c : Nat) (C : String) (T : u_T) (N : Nat) (ty : Nat → FieldType), t = c + 1 ∧ ClsOK c C T N ty ∧ 6 < N ∧ (T 6).1 = "LateAndEarly$Run" := by
  intro t ht
  simp only [List.mem_cons, List.not_mem_nil, or_false] at ht
  rcases ht with rfl
  · exact ⟨17, _, _, _, _, rfl, cls17, by decide, rfl⟩
theorem zfo_73 : FO [18] 10 0 "LateAndEarly$Run" "block" "I" false (.int) := by
  intro t ht
  simp only [List.mem_cons, List.not_mem_nil, or_false] at ht
  rcases ht with rfl
  · exact ⟨17, _, _, _, _, rfl, cls17, by decide, rfl, rfl, rfl, rfl, rfl, Or.inl rfl⟩
theorem zfo_74 : FO [18] 0 2 "LateAndEarly$Run" "\x72" "LLateAndEarly$Routine;" true (.object "LateAndEarly$Routine") := by
  intro t ht
  simp only [List.mem_cons, List.not_mem_nil, or_false] at ht
  rcases ht with rfl
  · exact ⟨17, _, _, _, _, rfl, cls17, by decide, rfl, rfl, rfl, rfl, rfl, Or.inl rfl⟩
theorem zfs_45 : ∀ t ∈ ([18] : List Nat), ∃ (c : Nat) (C : String) (T : u_T) (N : Nat) (ty : Nat → FieldType), t = c + 1 ∧ ClsOK c C T N ty ∧ 0 < N ∧ (T 0).1 = "LateAndEarly$Run" := by
  intro t ht
  simp only [List.mem_cons, List.not_mem_nil, or_false] at ht
  rcases ht with rfl
  · exact ⟨17, _, _, _, _, rfl, cls17, by decide, rfl⟩
theorem zfo_75 : FO [18] 1 0 "LateAndEarly$Run" "placing" "I" true (.int) := by
  intro t ht
  simp only [List.mem_cons, List.not_mem_nil, or_false] at ht
  rcases ht with rfl
  · exact ⟨17, _, _, _, _, rfl, cls17, by decide, rfl, rfl, rfl, rfl, rfl, Or.inl rfl⟩
theorem zfs_46 : ∀ t ∈ ([18] : List Nat), ∃ (c : Nat) (C : String) (T : u_T) (N : Nat) (ty : Nat → FieldType), t = c + 1 ∧ ClsOK c C T N ty ∧ 1 < N ∧ (T 1).1 = "LateAndEarly$Run" := by
  intro t ht
  simp only [List.mem_cons, List.not_mem_nil, or_false] at ht
  rcases ht with rfl
  · exact ⟨17, _, _, _, _, rfl, cls17, by decide, rfl⟩
theorem zco_8 : CastOK [12] "LateAndEarly$If" := by
  intro t ht
  simp only [List.mem_cons, List.not_mem_nil, or_false] at ht
  rcases ht with rfl
  · exact ⟨11, _, _, _, _, rfl, cls11, Or.inl rfl⟩
theorem zno_3 : NoCast [7, 8, 9, 10, 11, 13, 14] "LateAndEarly$If" := by
  intro t ht
  simp only [List.mem_cons, List.not_mem_nil, or_false] at ht
  rcases ht with rfl | rfl | rfl | rfl | rfl | rfl | rfl
  · exact ⟨6, _, _, _, _, rfl, cls6, by decide +kernel⟩
  · exact ⟨7, _, _, _, _, rfl, cls7, by decide +kernel⟩
  · exact ⟨8, _, _, _, _, rfl, cls8, by decide +kernel⟩
  · exact ⟨9, _, _, _, _, rfl, cls9, by decide +kernel⟩
  · exact ⟨10, _, _, _, _, rfl, cls10, by decide +kernel⟩
  · exact ⟨12, _, _, _, _, rfl, cls12, by decide +kernel⟩
  · exact ⟨13, _, _, _, _, rfl, cls13, by decide +kernel⟩
theorem zfo_76 : FO [18] 9 0 "LateAndEarly$Run" "tolds" "I" false (.int) := by
  intro t ht
  simp only [List.mem_cons, List.not_mem_nil, or_false] at ht
  rcases ht with rfl
  · exact ⟨17, _, _, _, _, rfl, cls17, by decide, rfl, rfl, rfl, rfl, rfl, Or.inl rfl⟩
theorem zco_9 : CastOK [10] "LateAndEarly$Tell" := by
  intro t ht
  simp only [List.mem_cons, List.not_mem_nil, or_false] at ht
  rcases ht with rfl
  · exact ⟨9, _, _, _, _, rfl, cls9, Or.inl rfl⟩
theorem zno_4 : NoCast [7, 8, 9, 11, 12, 13, 14] "LateAndEarly$Tell" := by
  intro t ht
  simp only [List.mem_cons, List.not_mem_nil, or_false] at ht
  rcases ht with rfl | rfl | rfl | rfl | rfl | rfl | rfl
  · exact ⟨6, _, _, _, _, rfl, cls6, by decide +kernel⟩
  · exact ⟨7, _, _, _, _, rfl, cls7, by decide +kernel⟩
  · exact ⟨8, _, _, _, _, rfl, cls8, by decide +kernel⟩
  · exact ⟨10, _, _, _, _, rfl, cls10, by decide +kernel⟩
  · exact ⟨11, _, _, _, _, rfl, cls11, by decide +kernel⟩
  · exact ⟨12, _, _, _, _, rfl, cls12, by decide +kernel⟩
  · exact ⟨13, _, _, _, _, rfl, cls13, by decide +kernel⟩
theorem zco_10 : CastOK [9] "LateAndEarly$Write" := by
  intro t ht
  simp only [List.mem_cons, List.not_mem_nil, or_false] at ht
  rcases ht with rfl
  · exact ⟨8, _, _, _, _, rfl, cls8, Or.inl rfl⟩
theorem zno_5 : NoCast [7, 8, 10, 11, 12, 13, 14] "LateAndEarly$Write" := by
  intro t ht
  simp only [List.mem_cons, List.not_mem_nil, or_false] at ht
  rcases ht with rfl | rfl | rfl | rfl | rfl | rfl | rfl
  · exact ⟨6, _, _, _, _, rfl, cls6, by decide +kernel⟩
  · exact ⟨7, _, _, _, _, rfl, cls7, by decide +kernel⟩
  · exact ⟨9, _, _, _, _, rfl, cls9, by decide +kernel⟩
  · exact ⟨10, _, _, _, _, rfl, cls10, by decide +kernel⟩
  · exact ⟨11, _, _, _, _, rfl, cls11, by decide +kernel⟩
  · exact ⟨12, _, _, _, _, rfl, cls12, by decide +kernel⟩
  · exact ⟨13, _, _, _, _, rfl, cls13, by decide +kernel⟩
theorem zco_11 : CastOK [8] "LateAndEarly$SetOperand" := by
  intro t ht
  simp only [List.mem_cons, List.not_mem_nil, or_false] at ht
  rcases ht with rfl
  · exact ⟨7, _, _, _, _, rfl, cls7, Or.inl rfl⟩
theorem zno_6 : NoCast [7, 9, 10, 11, 12, 13, 14] "LateAndEarly$SetOperand" := by
  intro t ht
  simp only [List.mem_cons, List.not_mem_nil, or_false] at ht
  rcases ht with rfl | rfl | rfl | rfl | rfl | rfl | rfl
  · exact ⟨6, _, _, _, _, rfl, cls6, by decide +kernel⟩
  · exact ⟨8, _, _, _, _, rfl, cls8, by decide +kernel⟩
  · exact ⟨9, _, _, _, _, rfl, cls9, by decide +kernel⟩
  · exact ⟨10, _, _, _, _, rfl, cls10, by decide +kernel⟩
  · exact ⟨11, _, _, _, _, rfl, cls11, by decide +kernel⟩
  · exact ⟨12, _, _, _, _, rfl, cls12, by decide +kernel⟩
  · exact ⟨13, _, _, _, _, rfl, cls13, by decide +kernel⟩
theorem zfo_77 : FO [8] 4 0 "LateAndEarly$SetOperand" "name" "I" true (.int) := by
  intro t ht
  simp only [List.mem_cons, List.not_mem_nil, or_false] at ht
  rcases ht with rfl
  · exact ⟨7, _, _, _, _, rfl, cls7, by decide, rfl, rfl, rfl, rfl, rfl, Or.inr q924⟩
theorem zfo_78 : FO [7] 4 0 "LateAndEarly$SetSum" "name" "I" true (.int) := by
  intro t ht
  simp only [List.mem_cons, List.not_mem_nil, or_false] at ht
  rcases ht with rfl
  · exact ⟨6, _, _, _, _, rfl, cls6, by decide, rfl, rfl, rfl, rfl, rfl, Or.inr q922⟩
theorem zno_7 : NoCast [8, 9, 10, 11, 12, 13, 14] "LateAndEarly$SetSum" := by
  intro t ht
  simp only [List.mem_cons, List.not_mem_nil, or_false] at ht
  rcases ht with rfl | rfl | rfl | rfl | rfl | rfl | rfl
  · exact ⟨7, _, _, _, _, rfl, cls7, by decide +kernel⟩
  · exact ⟨8, _, _, _, _, rfl, cls8, by decide +kernel⟩
  · exact ⟨9, _, _, _, _, rfl, cls9, by decide +kernel⟩
  · exact ⟨10, _, _, _, _, rfl, cls10, by decide +kernel⟩
  · exact ⟨11, _, _, _, _, rfl, cls11, by decide +kernel⟩
  · exact ⟨12, _, _, _, _, rfl, cls12, by decide +kernel⟩
  · exact ⟨13, _, _, _, _, rfl, cls13, by decide +kernel⟩
theorem zfo_79 : FO [18] 7 0 "LateAndEarly$Run" "how" "I" false (.int) := by
  intro t ht
  simp only [List.mem_cons, List.not_mem_nil, or_false] at ht
  rcases ht with rfl
  · exact ⟨17, _, _, _, _, rfl, cls17, by decide, rfl, rfl, rfl, rfl, rfl, Or.inl rfl⟩
theorem zfo_80 : FO [18] 8 0 "LateAndEarly$Run" "steps" "I" false (.int) := by
  intro t ht
  simp only [List.mem_cons, List.not_mem_nil, or_false] at ht
  rcases ht with rfl
  · exact ⟨17, _, _, _, _, rfl, cls17, by decide, rfl, rfl, rfl, rfl, rfl, Or.inl rfl⟩
theorem zfo_81 : FO [1] 5 2 "LateAndEarly" "ran" "LLateAndEarly$Run;" false (.object "LateAndEarly$Run") := by
  intro t ht
  simp only [List.mem_cons, List.not_mem_nil, or_false] at ht
  rcases ht with rfl
  · exact ⟨0, _, _, _, _, rfl, cls0, by decide, rfl, rfl, rfl, rfl, rfl, Or.inl rfl⟩
theorem zfo_82 : FO [11, 12, 13] 2 2 "LateAndEarly$End" "next" "Ljava/util/ArrayList;" true (.object "java/util/ArrayList") := by
  intro t ht
  simp only [List.mem_cons, List.not_mem_nil, or_false] at ht
  rcases ht with rfl | rfl | rfl
  · exact ⟨10, _, _, _, _, rfl, cls10, by decide, rfl, rfl, rfl, rfl, rfl, Or.inr q761⟩
  · exact ⟨11, _, _, _, _, rfl, cls11, by decide, rfl, rfl, rfl, rfl, rfl, Or.inr q761⟩
  · exact ⟨12, _, _, _, _, rfl, cls12, by decide, rfl, rfl, rfl, rfl, rfl, Or.inr q761⟩
theorem zfo_83 : FO [2] 2 0 "LateAndEarly$Text" "size" "I" false (.int) := by
  intro t ht
  simp only [List.mem_cons, List.not_mem_nil, or_false] at ht
  rcases ht with rfl
  · exact ⟨1, _, _, _, _, rfl, cls1, by decide, rfl, rfl, rfl, rfl, rfl, Or.inl rfl⟩
theorem zco_12 : CastOK [11] "LateAndEarly$Go" := by
  intro t ht
  simp only [List.mem_cons, List.not_mem_nil, or_false] at ht
  rcases ht with rfl
  · exact ⟨10, _, _, _, _, rfl, cls10, Or.inl rfl⟩
theorem zno_8 : NoCast [7, 8, 9, 10, 12, 13, 14] "LateAndEarly$Go" := by
  intro t ht
  simp only [List.mem_cons, List.not_mem_nil, or_false] at ht
  rcases ht with rfl | rfl | rfl | rfl | rfl | rfl | rfl
  · exact ⟨6, _, _, _, _, rfl, cls6, by decide +kernel⟩
  · exact ⟨7, _, _, _, _, rfl, cls7, by decide +kernel⟩
  · exact ⟨8, _, _, _, _, rfl, cls8, by decide +kernel⟩
  · exact ⟨9, _, _, _, _, rfl, cls9, by decide +kernel⟩
  · exact ⟨11, _, _, _, _, rfl, cls11, by decide +kernel⟩
  · exact ⟨12, _, _, _, _, rfl, cls12, by decide +kernel⟩
  · exact ⟨13, _, _, _, _, rfl, cls13, by decide +kernel⟩
theorem zco_13 : CastOK [1, 2, 3, 4, 5, 6, 7, 8, 9, 10, 11, 12, 13, 14, 15, 16, 17, 18, 19, 20] "java/lang/Object" := by
  intro t ht
  simp only [List.mem_cons, List.not_mem_nil, or_false] at ht
  rcases ht with rfl | rfl | rfl | rfl | rfl | rfl | rfl | rfl | rfl | rfl | rfl | rfl | rfl | rfl | rfl | rfl | rfl | rfl | rfl | rfl
  · exact ⟨0, _, _, _, _, rfl, cls0, Or.inr q2274⟩
  · exact ⟨1, _, _, _, _, rfl, cls1, Or.inr q2275⟩
  · exact ⟨2, _, _, _, _, rfl, cls2, Or.inr q2277⟩
  · exact ⟨3, _, _, _, _, rfl, cls3, Or.inr q2273⟩
  · exact ⟨4, _, _, _, _, rfl, cls4, Or.inr q2279⟩
  · exact ⟨5, _, _, _, _, rfl, cls5, Or.inr q2293⟩
  · exact ⟨6, _, _, _, _, rfl, cls6, Or.inr q2287⟩
  · exact ⟨7, _, _, _, _, rfl, cls7, Or.inr q2289⟩
  · exact ⟨8, _, _, _, _, rfl, cls8, Or.inr q2286⟩
  · exact ⟨9, _, _, _, _, rfl, cls9, Or.inr q2281⟩
  · exact ⟨10, _, _, _, _, rfl, cls10, Or.inr q2284⟩
  · exact ⟨11, _, _, _, _, rfl, cls11, Or.inr q2285⟩
  · exact ⟨12, _, _, _, _, rfl, cls12, Or.inr q2283⟩
  · exact ⟨13, _, _, _, _, rfl, cls13, Or.inr q2291⟩
  · exact ⟨14, _, _, _, _, rfl, cls14, Or.inr q2290⟩
  · exact ⟨15, _, _, _, _, rfl, cls15, Or.inr q2288⟩
  · exact ⟨16, _, _, _, _, rfl, cls16, Or.inr q2282⟩
  · exact ⟨17, _, _, _, _, rfl, cls17, Or.inr q2292⟩
  · exact ⟨18, _, _, _, _, rfl, cls18, Or.inr q2278⟩
  · exact ⟨19, _, _, _, _, rfl, cls19, Or.inr q2280⟩
theorem anyObj {g : GC} : AnyOK g (objTs ++ [60]) "java/lang/Object" := anyOK_app (anyOK_of zco_13) (anyOK_60 q2280)
