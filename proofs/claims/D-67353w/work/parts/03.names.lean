def R_R : String := "RunSorter"
def F_R : u_T := fun k => match k with
  | 0 => ("RunSorter", "orders", "[LRunSorter$Order;", true)
  | 1 => ("RunSorter", "sorter", "LRunSorter$Sorter;", true)
  | 2 => ("RunSorter", "numbers", "[I", true)
  | 3 => ("RunSorter", "tags", "[I", true)
  | 4 => ("RunSorter", "old", "[I", true)
  | 5 => ("RunSorter", "oldTags", "[I", true)
  | _ => ("RunSorter", "size", "I", false)
def t_R : Nat → FieldType := fun k => match k with
  | 0 => .array (.object "RunSorter$Order")
  | 1 => .object "RunSorter$Sorter"
  | 2 => .array .int
  | 3 => .array .int
  | 4 => .array .int
  | 5 => .array .int
  | _ => .int
theorem n_R : ∀ a, a < 7 → ∀ b, b < 7 → a ≠ b → (F_R a).2.1 ≠ (F_R b).2.1 := by decide +kernel
theorem t_R_ok : ∀ k, k < 7 → parseFieldDescriptor (F_R k).2.2.1 = some (t_R k) := by decide +kernel
set_option maxRecDepth 20000 in
theorem in_R : ∀ w ∈ u_ws R_R F_R 7, w ∈ am_l := by decide +kernel
def R_S : String := "RunSorter$Sorter"
def F_S : u_T := fun k => match k with
  | 0 => ("RunSorter$Sorter", "cells", "[I", true)
  | 1 => ("RunSorter$Sorter", "spare", "[I", true)
  | 2 => ("RunSorter$Sorter", "from", "[I", true)
  | 3 => ("RunSorter$Sorter", "length", "[I", true)
  | 4 => ("RunSorter$Sorter", "runs", "I", false)
  | 5 => ("RunSorter$Sorter", "gallop", "I", false)
  | _ => ("RunSorter$Sorter", "order", "LRunSorter$Order;", false)
def t_S : Nat → FieldType := fun k => match k with
  | 0 => .array .int
  | 1 => .array .int
  | 2 => .array .int
  | 3 => .array .int
  | 4 => .int
  | 5 => .int
  | _ => .object "RunSorter$Order"
theorem n_S : ∀ a, a < 7 → ∀ b, b < 7 → a ≠ b → (F_S a).2.1 ≠ (F_S b).2.1 := by decide +kernel
theorem t_S_ok : ∀ k, k < 7 → parseFieldDescriptor (F_S k).2.2.1 = some (t_S k) := by decide +kernel
set_option maxRecDepth 20000 in
theorem in_S : ∀ w ∈ u_ws R_S F_S 7, w ∈ am_l := by decide +kernel
def R_B : String := "RunSorter$ByNumber"
def F_B : u_T := fun k => match k with
  | 0 => ("RunSorter$ByNumber", "order", "LRunSorter$Order;", true)
  | _ => ("RunSorter$ByNumber", "numbers", "[I", true)
def t_B : Nat → FieldType := fun k => match k with
  | 0 => .object "RunSorter$Order"
  | _ => .array .int
theorem n_B : ∀ a, a < 2 → ∀ b, b < 2 → a ≠ b → (F_B a).2.1 ≠ (F_B b).2.1 := by decide +kernel
theorem t_B_ok : ∀ k, k < 2 → parseFieldDescriptor (F_B k).2.2.1 = some (t_B k) := by decide +kernel
set_option maxRecDepth 20000 in
theorem in_B : ∀ w ∈ u_ws R_B F_B 2, w ∈ am_l := by decide +kernel
def R_O0 : String := "RunSorter$Rising"
def F_O0 : u_T := fun k => match k with
  | _ => ("", "", "", false)
def t_O0 : Nat → FieldType := fun k => match k with
  | _ => .int
theorem n_O0 : ∀ a, a < 0 → ∀ b, b < 0 → a ≠ b → (F_O0 a).2.1 ≠ (F_O0 b).2.1 := by decide +kernel
theorem t_O0_ok : ∀ k, k < 0 → parseFieldDescriptor (F_O0 k).2.2.1 = some (t_O0 k) := by decide +kernel
set_option maxRecDepth 20000 in
theorem in_O0 : ∀ w ∈ u_ws R_O0 F_O0 0, w ∈ am_l := by decide +kernel
def R_O1 : String := "RunSorter$Falling"
def F_O1 : u_T := fun k => match k with
  | _ => ("", "", "", false)
def t_O1 : Nat → FieldType := fun k => match k with
  | _ => .int
theorem n_O1 : ∀ a, a < 0 → ∀ b, b < 0 → a ≠ b → (F_O1 a).2.1 ≠ (F_O1 b).2.1 := by decide +kernel
theorem t_O1_ok : ∀ k, k < 0 → parseFieldDescriptor (F_O1 k).2.2.1 = some (t_O1 k) := by decide +kernel
set_option maxRecDepth 20000 in
theorem in_O1 : ∀ w ∈ u_ws R_O1 F_O1 0, w ∈ am_l := by decide +kernel
def R_O2 : String := "RunSorter$LowBits"
def F_O2 : u_T := fun k => match k with
  | _ => ("", "", "", false)
def t_O2 : Nat → FieldType := fun k => match k with
  | _ => .int
theorem n_O2 : ∀ a, a < 0 → ∀ b, b < 0 → a ≠ b → (F_O2 a).2.1 ≠ (F_O2 b).2.1 := by decide +kernel
theorem t_O2_ok : ∀ k, k < 0 → parseFieldDescriptor (F_O2 k).2.2.1 = some (t_O2 k) := by decide +kernel
set_option maxRecDepth 20000 in
theorem in_O2 : ∀ w ∈ u_ws R_O2 F_O2 0, w ∈ am_l := by decide +kernel
def R_O3 : String := "RunSorter$Unsigned"
def F_O3 : u_T := fun k => match k with
  | _ => ("", "", "", false)
def t_O3 : Nat → FieldType := fun k => match k with
  | _ => .int
theorem n_O3 : ∀ a, a < 0 → ∀ b, b < 0 → a ≠ b → (F_O3 a).2.1 ≠ (F_O3 b).2.1 := by decide +kernel
theorem t_O3_ok : ∀ k, k < 0 → parseFieldDescriptor (F_O3 k).2.2.1 = some (t_O3 k) := by decide +kernel
set_option maxRecDepth 20000 in
theorem in_O3 : ∀ w ∈ u_ws R_O3 F_O3 0, w ∈ am_l := by decide +kernel
def R_M : String := "RunSorterModel"
def F_M : u_T := fun k => match k with
  | 0 => ("RunSorterModel", "failed", "I", false)
  | 1 => ("RunSorterModel", "size", "I", false)
  | 2 => ("RunSorterModel", "row", "[I", true)
  | _ => ("RunSorterModel", "tags", "[I", true)
def t_M : Nat → FieldType := fun k => match k with
  | 0 => .int
  | 1 => .int
  | 2 => .array .int
  | _ => .array .int
theorem n_M : ∀ a, a < 4 → ∀ b, b < 4 → a ≠ b → (F_M a).2.1 ≠ (F_M b).2.1 := by decide +kernel
theorem t_M_ok : ∀ k, k < 4 → parseFieldDescriptor (F_M k).2.2.1 = some (t_M k) := by decide +kernel
set_option maxRecDepth 20000 in
theorem in_M : ∀ w ∈ u_ws R_M F_M 4, w ∈ am_l := by decide +kernel
def R_L : String := "RunSorterLaw"
abbrev vCL : List vw_C := [(R_R, F_R, 7), (R_S, F_S, 7), (R_B, F_B, 2), (R_O0, F_O0, 0), (R_O1, F_O1, 0), (R_O2, F_O2, 0), (R_O3, F_O3, 0), (R_M, F_M, 4)]
theorem dk {b : ByteArray} {l : List (Nat × Instr × Nat)} (h : (l.all fun q => decide (decode b q.1 = .ok q.2)) = true) (i : Nat) {pc : Nat} {x : Instr × Nat} (hi : l[i]? = some (pc, x)) : decode b pc = .ok x := by
  have := List.all_eq_true.mp h _ (List.mem_of_getElem? hi)
  exact of_decide_eq_true this
abbrev b_R_init : ByteArray := prog_1_method_1_code
def y_R_init : MethodName := ⟨R_R, "<init>", "()V"⟩
abbrev b_R_in : ByteArray := prog_1_method_2_code
def y_R_in : MethodName := ⟨R_R, "in", "(III)V"⟩
abbrev b_R_within : ByteArray := prog_1_method_3_code
def y_R_within : MethodName := ⟨R_R, "within", "(Z)V"⟩
abbrev b_R_add : ByteArray := prog_1_method_4_code
def y_R_add : MethodName := ⟨R_R, "add", "(I)V"⟩
abbrev b_R_fill : ByteArray := prog_1_method_5_code
def y_R_fill : MethodName := ⟨R_R, "fill", "(III)I"⟩
abbrev b_R_scatter : ByteArray := prog_1_method_6_code
def y_R_scatter : MethodName := ⟨R_R, "scatter", "(III)I"⟩
abbrev b_R_sort : ByteArray := prog_1_method_7_code
def y_R_sort : MethodName := ⟨R_R, "sort", "(III)I"⟩
abbrev b_R_get : ByteArray := prog_1_method_8_code
def y_R_get : MethodName := ⟨R_R, "get", "(I)I"⟩
abbrev b_R_tag : ByteArray := prog_1_method_9_code
def y_R_tag : MethodName := ⟨R_R, "tag", "(I)I"⟩
abbrev b_R_set : ByteArray := prog_1_method_10_code
def y_R_set : MethodName := ⟨R_R, "set", "(II)I"⟩
abbrev b_R_turn : ByteArray := prog_1_method_11_code
def y_R_turn : MethodName := ⟨R_R, "turn", "(II)I"⟩
abbrev b_R_upTo : ByteArray := prog_1_method_12_code
def y_R_upTo : MethodName := ⟨R_R, "upTo", "(IIZ)I"⟩
abbrev b_R_clear : ByteArray := prog_1_method_13_code
def y_R_clear : MethodName := ⟨R_R, "clear", "()I"⟩
abbrev b_R_hash : ByteArray := prog_1_method_14_code
def y_R_hash : MethodName := ⟨R_R, "hash", "()I"⟩
abbrev b_M_init : ByteArray := prog_10_method_1_code
def y_M_init : MethodName := ⟨R_M, "<init>", "()V"⟩
abbrev b_M_thrown : ByteArray := prog_10_method_2_code
def y_M_thrown : MethodName := ⟨R_M, "thrown", "()I"⟩
abbrev b_M_fail : ByteArray := prog_10_method_3_code
def y_M_fail : MethodName := ⟨R_M, "fail", "(I)I"⟩
abbrev b_M_rank : ByteArray := prog_10_method_4_code
def y_M_rank : MethodName := ⟨R_M, "rank", "(II)I"⟩
abbrev b_M_append : ByteArray := prog_10_method_5_code
def y_M_append : MethodName := ⟨R_M, "append", "(I)V"⟩
abbrev b_M_fill : ByteArray := prog_10_method_6_code
def y_M_fill : MethodName := ⟨R_M, "fill", "(III)I"⟩
abbrev b_M_scatter : ByteArray := prog_10_method_7_code
def y_M_scatter : MethodName := ⟨R_M, "scatter", "(III)I"⟩
abbrev b_M_bad : ByteArray := prog_10_method_8_code
def y_M_bad : MethodName := ⟨R_M, "bad", "(II)Z"⟩
abbrev b_M_sort : ByteArray := prog_10_method_9_code
def y_M_sort : MethodName := ⟨R_M, "sort", "(III)I"⟩
abbrev b_M_get : ByteArray := prog_10_method_10_code
def y_M_get : MethodName := ⟨R_M, "get", "(I)I"⟩
abbrev b_M_tag : ByteArray := prog_10_method_11_code
def y_M_tag : MethodName := ⟨R_M, "tag", "(I)I"⟩
abbrev b_M_set : ByteArray := prog_10_method_12_code
def y_M_set : MethodName := ⟨R_M, "set", "(II)I"⟩
abbrev b_M_turn : ByteArray := prog_10_method_13_code
def y_M_turn : MethodName := ⟨R_M, "turn", "(II)I"⟩
abbrev b_M_upTo : ByteArray := prog_10_method_14_code
def y_M_upTo : MethodName := ⟨R_M, "upTo", "(IIZ)I"⟩
abbrev b_M_clear : ByteArray := prog_10_method_15_code
def y_M_clear : MethodName := ⟨R_M, "clear", "()I"⟩
abbrev b_M_hash : ByteArray := prog_10_method_16_code
def y_M_hash : MethodName := ⟨R_M, "hash", "()I"⟩
abbrev b_B_init : ByteArray := prog_2_method_1_code
def y_B_init : MethodName := ⟨R_B, "<init>", "(LRunSorter$Order;[I)V"⟩
abbrev b_B_compare : ByteArray := prog_2_method_2_code
def y_B_compare : MethodName := ⟨R_B, "compare", "(II)I"⟩
abbrev b_O1_init : ByteArray := prog_3_method_1_code
def y_O1_init : MethodName := ⟨R_O1, "<init>", "()V"⟩
abbrev b_O1_compare : ByteArray := prog_3_method_2_code
def y_O1_compare : MethodName := ⟨R_O1, "compare", "(II)I"⟩
abbrev b_O2_init : ByteArray := prog_4_method_1_code
def y_O2_init : MethodName := ⟨R_O2, "<init>", "()V"⟩
abbrev b_O2_compare : ByteArray := prog_4_method_2_code
def y_O2_compare : MethodName := ⟨R_O2, "compare", "(II)I"⟩
abbrev b_O0_init : ByteArray := prog_6_method_1_code
def y_O0_init : MethodName := ⟨R_O0, "<init>", "()V"⟩
abbrev b_O0_compare : ByteArray := prog_6_method_2_code
def y_O0_compare : MethodName := ⟨R_O0, "compare", "(II)I"⟩
abbrev b_S_init : ByteArray := prog_7_method_1_code
def y_S_init : MethodName := ⟨R_S, "<init>", "()V"⟩
abbrev b_S_cells : ByteArray := prog_7_method_2_code
def y_S_cells : MethodName := ⟨R_S, "cells", "()[I"⟩
abbrev b_S_sort : ByteArray := prog_7_method_3_code
def y_S_sort : MethodName := ⟨R_S, "sort", "(ILRunSorter$Order;)V"⟩
abbrev b_S_shortest : ByteArray := prog_7_method_4_code
def y_S_shortest : MethodName := ⟨R_S, "shortest", "(I)I"⟩
abbrev b_S_run : ByteArray := prog_7_method_5_code
def y_S_run : MethodName := ⟨R_S, "run", "(II)I"⟩
abbrev b_S_insertion : ByteArray := prog_7_method_6_code
def y_S_insertion : MethodName := ⟨R_S, "insertion", "(III)V"⟩
abbrev b_S_settle : ByteArray := prog_7_method_7_code
def y_S_settle : MethodName := ⟨R_S, "settle", "()V"⟩
abbrev b_S_merge : ByteArray := prog_7_method_8_code
def y_S_merge : MethodName := ⟨R_S, "merge", "(I)V"⟩
abbrev b_S_behind : ByteArray := prog_7_method_9_code
def y_S_behind : MethodName := ⟨R_S, "behind", "(III)I"⟩
abbrev b_S_notBefore : ByteArray := prog_7_method_10_code
def y_S_notBefore : MethodName := ⟨R_S, "notBefore", "(III)I"⟩
abbrev b_S_mergeUp : ByteArray := prog_7_method_11_code
def y_S_mergeUp : MethodName := ⟨R_S, "mergeUp", "(IIII)V"⟩
abbrev b_S_waiting : ByteArray := prog_7_method_12_code
def y_S_waiting : MethodName := ⟨R_S, "waiting", "(III)I"⟩
abbrev b_S_mergeDown : ByteArray := prog_7_method_13_code
def y_S_mergeDown : MethodName := ⟨R_S, "mergeDown", "(IIII)V"⟩
abbrev b_O3_init : ByteArray := prog_8_method_1_code
def y_O3_init : MethodName := ⟨R_O3, "<init>", "()V"⟩
abbrev b_O3_compare : ByteArray := prog_8_method_2_code
def y_O3_compare : MethodName := ⟨R_O3, "compare", "(II)I"⟩
abbrev b_L_fill : ByteArray := method_3_code
def y_L_fill : MethodName := ⟨R_L, "fill", "(LRunSorter;III[J)I"⟩
abbrev b_L_scatter : ByteArray := method_4_code
def y_L_scatter : MethodName := ⟨R_L, "scatter", "(LRunSorter;III[J)I"⟩
abbrev b_L_sort : ByteArray := method_5_code
def y_L_sort : MethodName := ⟨R_L, "sort", "(LRunSorter;III[J)I"⟩
abbrev b_L_get : ByteArray := method_6_code
def y_L_get : MethodName := ⟨R_L, "get", "(LRunSorter;I[J)I"⟩
abbrev b_L_tag : ByteArray := method_7_code
def y_L_tag : MethodName := ⟨R_L, "tag", "(LRunSorter;I[J)I"⟩
abbrev b_L_set : ByteArray := method_8_code
def y_L_set : MethodName := ⟨R_L, "set", "(LRunSorter;II[J)I"⟩
abbrev b_L_turn : ByteArray := method_9_code
def y_L_turn : MethodName := ⟨R_L, "turn", "(LRunSorter;II[J)I"⟩
abbrev b_L_upTo : ByteArray := method_10_code
def y_L_upTo : MethodName := ⟨R_L, "upTo", "(LRunSorter;IIZ[J)I"⟩
