/-! the tables' words as one fact of a state that warmer tables keep -/
def am_ok (w : Cond) : Bool := match w with
  | .arrayClass _ => true
  | .arrayOver (.object _) => true
  | .methodLinkNest _ _ _ _ => true
  | w => w.onTables && w.keepsFace
def am_l : List Cond := lw_tbl.filter am_ok
theorem am_mem {w : Cond} (i : Nat) (h : lw_tbl[i]? = some w) (ok : am_ok w = true) : w ∈ am_l := List.mem_filter.mpr ⟨List.mem_of_getElem? h, ok⟩
theorem am_any {w : Cond} (ok : am_ok w = true) {A A' : Array Value} {U : State} (h : w.before A U = true) : w.before A' U = true := by
  unfold am_ok at ok
  split at ok
  · exact h
  · exact h
  · exact va_any rfl h
  · rename_i w _ _ _
    simp only [Bool.and_eq_true] at ok
    exact va_any ok.1 h
theorem am_warm {w : Cond} (ok : am_ok w = true) {A : Array Value} {s U : State} (hW : s.WarmedH U.vm) (h : w.before A s = true) : w.before A U = true := by
  unfold am_ok at ok
  split at ok
  · exact word_at hW (Or.inr ⟨_, rfl⟩) h
  · exact va_AO.use (va_AO.moved hW.alike (va_AO.of h))
  · exact (va_Nw.warmM hW (va_Nw.of rfl h)).use rfl
  · rename_i w _ _ _
    simp only [Bool.and_eq_true] at ok
    exact va_tabs ok.1 (rfl : (s.setVm U.vm).vm = U.vm) (Cond.before_shiftedFace (args := A) (State.Shifted.of_warmed hW) _ ok.2 h)
def AM (U : State) : Prop := ∀ w ∈ am_l, w.before #[] U = true
theorem AM.of {args : Array Value} {s : State} (h : ∀ w ∈ lw_tbl, w.before args s = true) : AM s := fun w hw => am_any (List.mem_filter.mp hw).2 (h w (List.mem_filter.mp hw).1)
theorem AM.use {s : State} (h : AM s) (args : Array Value) : ∀ w ∈ am_l, w.before args s = true := fun w hw => am_any (List.mem_filter.mp hw).2 (h w hw)
theorem AM.warm {s U : State} (hW : s.WarmedH U.vm) (h : AM s) : AM U := fun w hw => am_warm (List.mem_filter.mp hw).2 hW (h w hw)
theorem AM.blind {U : State} {g : JFrame} {mk : MethodId} {a : Array Value} (h : AM U) : AM (U.calling g mk a) := AM.warm (s := U) (U := U.calling g mk a) (State.WarmedH.refl U) h

theorem q_s0 : Cond.selects "java/lang/Throwable" (⟨"java/lang/Throwable", "fillInStackTrace", "(I)Ljava/lang/Throwable;"⟩ : MethodName) (⟨"java/lang/Throwable", "fillInStackTrace", "(I)Ljava/lang/Throwable;"⟩ : MethodName) ∈ am_l := am_mem 0 (by decide +kernel) rfl
theorem q_s1 : Cond.selects "RunSorter" (⟨"RunSorter", "add", "(I)V"⟩ : MethodName) (⟨"RunSorter", "add", "(I)V"⟩ : MethodName) ∈ am_l := am_mem 1 (by decide +kernel) rfl
theorem q_s2 : Cond.selects "RunSorter$Sorter" (⟨"RunSorter$Sorter", "run", "(II)I"⟩ : MethodName) (⟨"RunSorter$Sorter", "run", "(II)I"⟩ : MethodName) ∈ am_l := am_mem 2 (by decide +kernel) rfl
theorem q_s3 : Cond.selects "RunSorter$Sorter" (⟨"RunSorter$Sorter", "insertion", "(III)V"⟩ : MethodName) (⟨"RunSorter$Sorter", "insertion", "(III)V"⟩ : MethodName) ∈ am_l := am_mem 3 (by decide +kernel) rfl
theorem q_s4 : Cond.selects "RunSorter$Sorter" (⟨"RunSorter$Sorter", "settle", "()V"⟩ : MethodName) (⟨"RunSorter$Sorter", "settle", "()V"⟩ : MethodName) ∈ am_l := am_mem 4 (by decide +kernel) rfl
theorem q_s5 : Cond.selects "RunSorter$Sorter" (⟨"RunSorter$Sorter", "merge", "(I)V"⟩ : MethodName) (⟨"RunSorter$Sorter", "merge", "(I)V"⟩ : MethodName) ∈ am_l := am_mem 5 (by decide +kernel) rfl
theorem q_s6 : Cond.selects "RunSorter$Sorter" (⟨"RunSorter$Sorter", "behind", "(III)I"⟩ : MethodName) (⟨"RunSorter$Sorter", "behind", "(III)I"⟩ : MethodName) ∈ am_l := am_mem 6 (by decide +kernel) rfl
theorem q_s7 : Cond.selects "RunSorter$Sorter" (⟨"RunSorter$Sorter", "notBefore", "(III)I"⟩ : MethodName) (⟨"RunSorter$Sorter", "notBefore", "(III)I"⟩ : MethodName) ∈ am_l := am_mem 7 (by decide +kernel) rfl
theorem q_s8 : Cond.selects "RunSorter$Sorter" (⟨"RunSorter$Sorter", "mergeUp", "(IIII)V"⟩ : MethodName) (⟨"RunSorter$Sorter", "mergeUp", "(IIII)V"⟩ : MethodName) ∈ am_l := am_mem 8 (by decide +kernel) rfl
theorem q_s9 : Cond.selects "RunSorter$Sorter" (⟨"RunSorter$Sorter", "waiting", "(III)I"⟩ : MethodName) (⟨"RunSorter$Sorter", "waiting", "(III)I"⟩ : MethodName) ∈ am_l := am_mem 9 (by decide +kernel) rfl
theorem q_s10 : Cond.selects "RunSorter$Sorter" (⟨"RunSorter$Sorter", "mergeDown", "(IIII)V"⟩ : MethodName) (⟨"RunSorter$Sorter", "mergeDown", "(IIII)V"⟩ : MethodName) ∈ am_l := am_mem 10 (by decide +kernel) rfl
theorem q_s11 : Cond.selects "RunSorterModel" (⟨"RunSorterModel", "fail", "(I)I"⟩ : MethodName) (⟨"RunSorterModel", "fail", "(I)I"⟩ : MethodName) ∈ am_l := am_mem 11 (by decide +kernel) rfl
theorem q_s12 : Cond.selects "RunSorterModel" (⟨"RunSorterModel", "append", "(I)V"⟩ : MethodName) (⟨"RunSorterModel", "append", "(I)V"⟩ : MethodName) ∈ am_l := am_mem 12 (by decide +kernel) rfl
theorem q_s13 : Cond.selects "RunSorterModel" (⟨"RunSorterModel", "bad", "(II)Z"⟩ : MethodName) (⟨"RunSorterModel", "bad", "(II)Z"⟩ : MethodName) ∈ am_l := am_mem 13 (by decide +kernel) rfl
theorem q_s14 : Cond.selects "RunSorterModel" (⟨"RunSorterModel", "rank", "(II)I"⟩ : MethodName) (⟨"RunSorterModel", "rank", "(II)I"⟩ : MethodName) ∈ am_l := am_mem 14 (by decide +kernel) rfl
theorem q_0 : (Jvm.Cond.initialized "RunSorterLaw") ∈ am_l := am_mem 15 (by decide +kernel) rfl
theorem q_1 : (Jvm.Cond.initialized "RunSorter") ∈ am_l := am_mem 16 (by decide +kernel) rfl
theorem q_2 : (Jvm.Cond.initialized "RunSorter$Rising") ∈ am_l := am_mem 17 (by decide +kernel) rfl
theorem q_3 : (Jvm.Cond.initialized "RunSorter$Falling") ∈ am_l := am_mem 18 (by decide +kernel) rfl
theorem q_4 : (Jvm.Cond.initialized "RunSorter$LowBits") ∈ am_l := am_mem 19 (by decide +kernel) rfl
theorem q_5 : (Jvm.Cond.initialized "RunSorter$Unsigned") ∈ am_l := am_mem 20 (by decide +kernel) rfl
theorem q_6 : (Jvm.Cond.initialized "RunSorter$Sorter") ∈ am_l := am_mem 21 (by decide +kernel) rfl
theorem q_7 : (Jvm.Cond.initialized "RunSorterModel") ∈ am_l := am_mem 22 (by decide +kernel) rfl
theorem q_8 : (Jvm.Cond.initialized "java/lang/Throwable") ∈ am_l := am_mem 23 (by decide +kernel) rfl
theorem q_9 : (Jvm.Cond.initialized "java/lang/Exception") ∈ am_l := am_mem 24 (by decide +kernel) rfl
theorem q_10 : (Jvm.Cond.initialized "java/lang/RuntimeException") ∈ am_l := am_mem 25 (by decide +kernel) rfl
theorem q_11 : (Jvm.Cond.initialized "java/lang/IllegalArgumentException") ∈ am_l := am_mem 26 (by decide +kernel) rfl
theorem q_12 : (Jvm.Cond.initialized "java/lang/IndexOutOfBoundsException") ∈ am_l := am_mem 27 (by decide +kernel) rfl
theorem q_13 : (Jvm.Cond.initialized "RunSorter$ByNumber") ∈ am_l := am_mem 28 (by decide +kernel) rfl
theorem q_14 : (Jvm.Cond.classLink "RunSorterLaw" (8 : Nat) "RunSorter") ∈ am_l := am_mem 29 (by decide +kernel) rfl
theorem q_15 : (Jvm.Cond.instantiable "RunSorter" (7 : Nat)) ∈ am_l := am_mem 30 (by decide +kernel) rfl
theorem q_16 : (Jvm.Cond.methodLink "RunSorterLaw" (41 : Nat) ({ cls := "RunSorter", name := "<init>", desc := "()V" } : Jvm.MethodName)) ∈ am_l := am_mem 31 (by decide +kernel) rfl
theorem q_17 : (Jvm.Cond.instanceMethod ({ cls := "RunSorter", name := "<init>", desc := "()V" } : Jvm.MethodName)) ∈ am_l := am_mem 32 (by decide +kernel) rfl
theorem q_18 : (Jvm.Cond.code ({ cls := "RunSorter", name := "<init>", desc := "()V" } : Jvm.MethodName) prog_1_method_1_code (1 : Nat) (Option.none : Option Jvm.ClassFile.FieldType)) ∈ am_l := am_mem 33 (by decide +kernel) rfl
theorem q_19 : (Jvm.Cond.methodLink "RunSorter" (1 : Nat) ({ cls := "java/lang/Object", name := "<init>", desc := "()V" } : Jvm.MethodName)) ∈ am_l := am_mem 34 (by decide +kernel) rfl
theorem q_20 : (Jvm.Cond.instanceMethod ({ cls := "java/lang/Object", name := "<init>", desc := "()V" } : Jvm.MethodName)) ∈ am_l := am_mem 35 (by decide +kernel) rfl
theorem q_21 : (Jvm.Cond.code ({ cls := "java/lang/Object", name := "<init>", desc := "()V" } : Jvm.MethodName) object_method_1_code (1 : Nat) (Option.none : Option Jvm.ClassFile.FieldType)) ∈ am_l := am_mem 36 (by decide +kernel) rfl
theorem q_22 : (Jvm.Cond.classLink "RunSorter" (7 : Nat) "RunSorter$Order") ∈ am_l := am_mem 37 (by decide +kernel) rfl
theorem q_23 : (Jvm.Cond.arrayOver (Jvm.ClassFile.FieldType.object "RunSorter$Order")) ∈ am_l := am_mem 38 (by decide +kernel) rfl
theorem q_24 : (Jvm.Cond.classLink "RunSorter" (9 : Nat) "RunSorter$Rising") ∈ am_l := am_mem 39 (by decide +kernel) rfl
theorem q_25 : (Jvm.Cond.instantiable "RunSorter$Rising" (0 : Nat)) ∈ am_l := am_mem 40 (by decide +kernel) rfl
theorem q_26 : (Jvm.Cond.methodLinkNest "RunSorter" (11 : Nat) ({ cls := "RunSorter$Rising", name := "<init>", desc := "()V" } : Jvm.MethodName) "RunSorter") ∈ am_l := am_mem 41 (by decide +kernel) rfl
theorem q_27 : (Jvm.Cond.instanceMethod ({ cls := "RunSorter$Rising", name := "<init>", desc := "()V" } : Jvm.MethodName)) ∈ am_l := am_mem 42 (by decide +kernel) rfl
theorem q_28 : (Jvm.Cond.code ({ cls := "RunSorter$Rising", name := "<init>", desc := "()V" } : Jvm.MethodName) prog_6_method_1_code (1 : Nat) (Option.none : Option Jvm.ClassFile.FieldType)) ∈ am_l := am_mem 43 (by decide +kernel) rfl
theorem q_29 : (Jvm.Cond.methodLink "RunSorter$Rising" (1 : Nat) ({ cls := "java/lang/Object", name := "<init>", desc := "()V" } : Jvm.MethodName)) ∈ am_l := am_mem 44 (by decide +kernel) rfl
theorem q_30 : (Jvm.Cond.superclass "RunSorter$Rising" "java/lang/Object") ∈ am_l := am_mem 45 (by decide +kernel) rfl
theorem q_31 : (Jvm.Cond.classLink "RunSorter" (12 : Nat) "RunSorter$Falling") ∈ am_l := am_mem 46 (by decide +kernel) rfl
theorem q_32 : (Jvm.Cond.instantiable "RunSorter$Falling" (0 : Nat)) ∈ am_l := am_mem 47 (by decide +kernel) rfl
theorem q_33 : (Jvm.Cond.methodLinkNest "RunSorter" (14 : Nat) ({ cls := "RunSorter$Falling", name := "<init>", desc := "()V" } : Jvm.MethodName) "RunSorter") ∈ am_l := am_mem 48 (by decide +kernel) rfl
theorem q_34 : (Jvm.Cond.instanceMethod ({ cls := "RunSorter$Falling", name := "<init>", desc := "()V" } : Jvm.MethodName)) ∈ am_l := am_mem 49 (by decide +kernel) rfl
theorem q_35 : (Jvm.Cond.code ({ cls := "RunSorter$Falling", name := "<init>", desc := "()V" } : Jvm.MethodName) prog_3_method_1_code (1 : Nat) (Option.none : Option Jvm.ClassFile.FieldType)) ∈ am_l := am_mem 50 (by decide +kernel) rfl
theorem q_36 : (Jvm.Cond.methodLink "RunSorter$Falling" (1 : Nat) ({ cls := "java/lang/Object", name := "<init>", desc := "()V" } : Jvm.MethodName)) ∈ am_l := am_mem 51 (by decide +kernel) rfl
theorem q_37 : (Jvm.Cond.superclass "RunSorter$Falling" "java/lang/Object") ∈ am_l := am_mem 52 (by decide +kernel) rfl
theorem q_38 : (Jvm.Cond.classLink "RunSorter" (15 : Nat) "RunSorter$LowBits") ∈ am_l := am_mem 53 (by decide +kernel) rfl
theorem q_39 : (Jvm.Cond.instantiable "RunSorter$LowBits" (0 : Nat)) ∈ am_l := am_mem 54 (by decide +kernel) rfl
theorem q_40 : (Jvm.Cond.methodLinkNest "RunSorter" (17 : Nat) ({ cls := "RunSorter$LowBits", name := "<init>", desc := "()V" } : Jvm.MethodName) "RunSorter") ∈ am_l := am_mem 55 (by decide +kernel) rfl
theorem q_41 : (Jvm.Cond.instanceMethod ({ cls := "RunSorter$LowBits", name := "<init>", desc := "()V" } : Jvm.MethodName)) ∈ am_l := am_mem 56 (by decide +kernel) rfl
theorem q_42 : (Jvm.Cond.code ({ cls := "RunSorter$LowBits", name := "<init>", desc := "()V" } : Jvm.MethodName) prog_4_method_1_code (1 : Nat) (Option.none : Option Jvm.ClassFile.FieldType)) ∈ am_l := am_mem 57 (by decide +kernel) rfl
theorem q_43 : (Jvm.Cond.methodLink "RunSorter$LowBits" (1 : Nat) ({ cls := "java/lang/Object", name := "<init>", desc := "()V" } : Jvm.MethodName)) ∈ am_l := am_mem 58 (by decide +kernel) rfl
theorem q_44 : (Jvm.Cond.superclass "RunSorter$LowBits" "java/lang/Object") ∈ am_l := am_mem 59 (by decide +kernel) rfl
theorem q_45 : (Jvm.Cond.classLink "RunSorter" (18 : Nat) "RunSorter$Unsigned") ∈ am_l := am_mem 60 (by decide +kernel) rfl
theorem q_46 : (Jvm.Cond.instantiable "RunSorter$Unsigned" (0 : Nat)) ∈ am_l := am_mem 61 (by decide +kernel) rfl
theorem q_47 : (Jvm.Cond.methodLinkNest "RunSorter" (20 : Nat) ({ cls := "RunSorter$Unsigned", name := "<init>", desc := "()V" } : Jvm.MethodName) "RunSorter") ∈ am_l := am_mem 62 (by decide +kernel) rfl
theorem q_48 : (Jvm.Cond.instanceMethod ({ cls := "RunSorter$Unsigned", name := "<init>", desc := "()V" } : Jvm.MethodName)) ∈ am_l := am_mem 63 (by decide +kernel) rfl
theorem q_49 : (Jvm.Cond.code ({ cls := "RunSorter$Unsigned", name := "<init>", desc := "()V" } : Jvm.MethodName) prog_8_method_1_code (1 : Nat) (Option.none : Option Jvm.ClassFile.FieldType)) ∈ am_l := am_mem 64 (by decide +kernel) rfl
theorem q_50 : (Jvm.Cond.methodLink "RunSorter$Unsigned" (1 : Nat) ({ cls := "java/lang/Object", name := "<init>", desc := "()V" } : Jvm.MethodName)) ∈ am_l := am_mem 65 (by decide +kernel) rfl
theorem q_51 : (Jvm.Cond.superclass "RunSorter$Unsigned" "java/lang/Object") ∈ am_l := am_mem 66 (by decide +kernel) rfl
theorem q_52 : (Jvm.Cond.classLink "RunSorter" (27 : Nat) "RunSorter$Sorter") ∈ am_l := am_mem 67 (by decide +kernel) rfl
theorem q_53 : (Jvm.Cond.instantiable "RunSorter$Sorter" (7 : Nat)) ∈ am_l := am_mem 68 (by decide +kernel) rfl
theorem q_54 : (Jvm.Cond.methodLinkNest "RunSorter" (29 : Nat) ({ cls := "RunSorter$Sorter", name := "<init>", desc := "()V" } : Jvm.MethodName) "RunSorter") ∈ am_l := am_mem 69 (by decide +kernel) rfl
theorem q_55 : (Jvm.Cond.instanceMethod ({ cls := "RunSorter$Sorter", name := "<init>", desc := "()V" } : Jvm.MethodName)) ∈ am_l := am_mem 70 (by decide +kernel) rfl
theorem q_56 : (Jvm.Cond.code ({ cls := "RunSorter$Sorter", name := "<init>", desc := "()V" } : Jvm.MethodName) prog_7_method_1_code (1 : Nat) (Option.none : Option Jvm.ClassFile.FieldType)) ∈ am_l := am_mem 71 (by decide +kernel) rfl
theorem q_57 : (Jvm.Cond.methodLink "RunSorter$Sorter" (3 : Nat) ({ cls := "java/lang/Object", name := "<init>", desc := "()V" } : Jvm.MethodName)) ∈ am_l := am_mem 72 (by decide +kernel) rfl
theorem q_58 : (Jvm.Cond.fieldLink "RunSorter$Sorter" (9 : Nat) "RunSorter$Sorter" "cells" "[I") ∈ am_l := am_mem 73 (by decide +kernel) rfl
theorem q_59 : (Jvm.Cond.fieldLink "RunSorter$Sorter" (15 : Nat) "RunSorter$Sorter" "spare" "[I") ∈ am_l := am_mem 74 (by decide +kernel) rfl
theorem q_60 : (Jvm.Cond.fieldLink "RunSorter$Sorter" (18 : Nat) "RunSorter$Sorter" "from" "[I") ∈ am_l := am_mem 75 (by decide +kernel) rfl
theorem q_61 : (Jvm.Cond.fieldLink "RunSorter$Sorter" (21 : Nat) "RunSorter$Sorter" "length" "[I") ∈ am_l := am_mem 76 (by decide +kernel) rfl
theorem q_62 : (Jvm.Cond.fieldLink "RunSorter$Sorter" (28 : Nat) "RunSorter$Sorter" "runs" "I") ∈ am_l := am_mem 77 (by decide +kernel) rfl
theorem q_63 : (Jvm.Cond.fieldLink "RunSorter$Sorter" (32 : Nat) "RunSorter$Sorter" "gallop" "I") ∈ am_l := am_mem 78 (by decide +kernel) rfl
theorem q_64 : (Jvm.Cond.fieldLink "RunSorter$Sorter" (24 : Nat) "RunSorter$Sorter" "order" "LRunSorter$Order;") ∈ am_l := am_mem 79 (by decide +kernel) rfl
theorem q_65 : (Jvm.Cond.laysFinal "RunSorter$Sorter" "RunSorter$Sorter" "cells" "[I") ∈ am_l := am_mem 80 (by decide +kernel) rfl
theorem q_66 : (Jvm.Cond.soleField "RunSorter$Sorter" "cells") ∈ am_l := am_mem 81 (by decide +kernel) rfl
theorem q_67 : (Jvm.Cond.laysFinal "RunSorter$Sorter" "RunSorter$Sorter" "spare" "[I") ∈ am_l := am_mem 82 (by decide +kernel) rfl
theorem q_68 : (Jvm.Cond.soleField "RunSorter$Sorter" "spare") ∈ am_l := am_mem 83 (by decide +kernel) rfl
theorem q_69 : (Jvm.Cond.laysFinal "RunSorter$Sorter" "RunSorter$Sorter" "from" "[I") ∈ am_l := am_mem 84 (by decide +kernel) rfl
theorem q_70 : (Jvm.Cond.soleField "RunSorter$Sorter" "from") ∈ am_l := am_mem 85 (by decide +kernel) rfl
theorem q_71 : (Jvm.Cond.laysFinal "RunSorter$Sorter" "RunSorter$Sorter" "length" "[I") ∈ am_l := am_mem 86 (by decide +kernel) rfl
theorem q_72 : (Jvm.Cond.soleField "RunSorter$Sorter" "length") ∈ am_l := am_mem 87 (by decide +kernel) rfl
theorem q_73 : (Jvm.Cond.lays "RunSorter$Sorter" "RunSorter$Sorter" "runs" "I") ∈ am_l := am_mem 88 (by decide +kernel) rfl
theorem q_74 : (Jvm.Cond.soleField "RunSorter$Sorter" "runs") ∈ am_l := am_mem 89 (by decide +kernel) rfl
theorem q_75 : (Jvm.Cond.lays "RunSorter$Sorter" "RunSorter$Sorter" "gallop" "I") ∈ am_l := am_mem 90 (by decide +kernel) rfl
theorem q_76 : (Jvm.Cond.soleField "RunSorter$Sorter" "gallop") ∈ am_l := am_mem 91 (by decide +kernel) rfl
theorem q_77 : (Jvm.Cond.lays "RunSorter$Sorter" "RunSorter$Sorter" "order" "LRunSorter$Order;") ∈ am_l := am_mem 92 (by decide +kernel) rfl
theorem q_78 : (Jvm.Cond.soleField "RunSorter$Sorter" "order") ∈ am_l := am_mem 93 (by decide +kernel) rfl
theorem q_79 : (Jvm.Cond.superclass "RunSorter$Sorter" "java/lang/Object") ∈ am_l := am_mem 94 (by decide +kernel) rfl
theorem q_80 : (Jvm.Cond.arrayClass Jvm.ClassFile.FieldType.int) ∈ am_l := am_mem 95 (by decide +kernel) rfl
theorem q_81 : (Jvm.Cond.fieldLink "RunSorter" (21 : Nat) "RunSorter" "orders" "[LRunSorter$Order;") ∈ am_l := am_mem 96 (by decide +kernel) rfl
theorem q_82 : (Jvm.Cond.fieldLink "RunSorter" (30 : Nat) "RunSorter" "sorter" "LRunSorter$Sorter;") ∈ am_l := am_mem 97 (by decide +kernel) rfl
theorem q_83 : (Jvm.Cond.fieldLink "RunSorter" (34 : Nat) "RunSorter" "numbers" "[I") ∈ am_l := am_mem 98 (by decide +kernel) rfl
theorem q_84 : (Jvm.Cond.fieldLink "RunSorter" (38 : Nat) "RunSorter" "tags" "[I") ∈ am_l := am_mem 99 (by decide +kernel) rfl
theorem q_85 : (Jvm.Cond.fieldLink "RunSorter" (41 : Nat) "RunSorter" "old" "[I") ∈ am_l := am_mem 100 (by decide +kernel) rfl
theorem q_86 : (Jvm.Cond.fieldLink "RunSorter" (44 : Nat) "RunSorter" "oldTags" "[I") ∈ am_l := am_mem 101 (by decide +kernel) rfl
theorem q_87 : (Jvm.Cond.fieldLink "RunSorter" (53 : Nat) "RunSorter" "size" "I") ∈ am_l := am_mem 102 (by decide +kernel) rfl
theorem q_88 : (Jvm.Cond.laysFinal "RunSorter" "RunSorter" "orders" "[LRunSorter$Order;") ∈ am_l := am_mem 103 (by decide +kernel) rfl
theorem q_89 : (Jvm.Cond.soleField "RunSorter" "orders") ∈ am_l := am_mem 104 (by decide +kernel) rfl
theorem q_90 : (Jvm.Cond.laysFinal "RunSorter" "RunSorter" "sorter" "LRunSorter$Sorter;") ∈ am_l := am_mem 105 (by decide +kernel) rfl
theorem q_91 : (Jvm.Cond.soleField "RunSorter" "sorter") ∈ am_l := am_mem 106 (by decide +kernel) rfl
theorem q_92 : (Jvm.Cond.laysFinal "RunSorter" "RunSorter" "numbers" "[I") ∈ am_l := am_mem 107 (by decide +kernel) rfl
theorem q_93 : (Jvm.Cond.soleField "RunSorter" "numbers") ∈ am_l := am_mem 108 (by decide +kernel) rfl
theorem q_94 : (Jvm.Cond.laysFinal "RunSorter" "RunSorter" "tags" "[I") ∈ am_l := am_mem 109 (by decide +kernel) rfl
theorem q_95 : (Jvm.Cond.soleField "RunSorter" "tags") ∈ am_l := am_mem 110 (by decide +kernel) rfl
theorem q_96 : (Jvm.Cond.laysFinal "RunSorter" "RunSorter" "old" "[I") ∈ am_l := am_mem 111 (by decide +kernel) rfl
theorem q_97 : (Jvm.Cond.soleField "RunSorter" "old") ∈ am_l := am_mem 112 (by decide +kernel) rfl
theorem q_98 : (Jvm.Cond.laysFinal "RunSorter" "RunSorter" "oldTags" "[I") ∈ am_l := am_mem 113 (by decide +kernel) rfl
theorem q_99 : (Jvm.Cond.soleField "RunSorter" "oldTags") ∈ am_l := am_mem 114 (by decide +kernel) rfl
theorem q_100 : (Jvm.Cond.lays "RunSorter" "RunSorter" "size" "I") ∈ am_l := am_mem 115 (by decide +kernel) rfl
theorem q_101 : (Jvm.Cond.soleField "RunSorter" "size") ∈ am_l := am_mem 116 (by decide +kernel) rfl
theorem q_102 : (Jvm.Cond.superclass "RunSorter" "java/lang/Object") ∈ am_l := am_mem 117 (by decide +kernel) rfl
theorem q_103 : (Jvm.Cond.methodLink "RunSorterLaw" (79 : Nat) ({ cls := "RunSorter", name := "clear", desc := "()I" } : Jvm.MethodName)) ∈ am_l := am_mem 118 (by decide +kernel) rfl
theorem q_104 : (Jvm.Cond.instanceMethod ({ cls := "RunSorter", name := "clear", desc := "()I" } : Jvm.MethodName)) ∈ am_l := am_mem 119 (by decide +kernel) rfl
theorem q_105 : (Jvm.Cond.selects "RunSorter" ({ cls := "RunSorter", name := "clear", desc := "()I" } : Jvm.MethodName) ({ cls := "RunSorter", name := "clear", desc := "()I" } : Jvm.MethodName)) ∈ am_l := am_mem 120 (by decide +kernel) rfl
theorem q_106 : (Jvm.Cond.code ({ cls := "RunSorter", name := "clear", desc := "()I" } : Jvm.MethodName) prog_1_method_13_code (2 : Nat) (Option.some Jvm.ClassFile.FieldType.int)) ∈ am_l := am_mem 121 (by decide +kernel) rfl
theorem q_107 : (Jvm.Cond.methodLink "RunSorterLaw" (83 : Nat) ({ cls := "RunSorter", name := "hash", desc := "()I" } : Jvm.MethodName)) ∈ am_l := am_mem 122 (by decide +kernel) rfl
theorem q_108 : (Jvm.Cond.instanceMethod ({ cls := "RunSorter", name := "hash", desc := "()I" } : Jvm.MethodName)) ∈ am_l := am_mem 123 (by decide +kernel) rfl
theorem q_109 : (Jvm.Cond.selects "RunSorter" ({ cls := "RunSorter", name := "hash", desc := "()I" } : Jvm.MethodName) ({ cls := "RunSorter", name := "hash", desc := "()I" } : Jvm.MethodName)) ∈ am_l := am_mem 124 (by decide +kernel) rfl
theorem q_110 : (Jvm.Cond.code ({ cls := "RunSorter", name := "hash", desc := "()I" } : Jvm.MethodName) prog_1_method_14_code (3 : Nat) (Option.some Jvm.ClassFile.FieldType.int)) ∈ am_l := am_mem 125 (by decide +kernel) rfl
theorem q_111 : (Jvm.Cond.methodLink "RunSorterLaw" (45 : Nat) ({ cls := "RunSorterLaw", name := "fill", desc := "(LRunSorter;III[J)I" } : Jvm.MethodName)) ∈ am_l := am_mem 126 (by decide +kernel) rfl
theorem q_112 : (Jvm.Cond.static ({ cls := "RunSorterLaw", name := "fill", desc := "(LRunSorter;III[J)I" } : Jvm.MethodName)) ∈ am_l := am_mem 127 (by decide +kernel) rfl
theorem q_113 : (Jvm.Cond.codeWith ({ cls := "RunSorterLaw", name := "fill", desc := "(LRunSorter;III[J)I" } : Jvm.MethodName) method_3_code (6 : Nat) (Option.some Jvm.ClassFile.FieldType.int) [((0 : Nat), (12 : Nat), (15 : Nat), (13 : Nat)), ((0 : Nat), (12 : Nat), (19 : Nat), (15 : Nat))]) ∈ am_l := am_mem 128 (by decide +kernel) rfl
theorem q_114 : (Jvm.Cond.classLink "RunSorterLaw" (13 : Nat) "java/lang/IllegalArgumentException") ∈ am_l := am_mem 129 (by decide +kernel) rfl
theorem q_115 : (Jvm.Cond.classLink "RunSorterLaw" (15 : Nat) "java/lang/IndexOutOfBoundsException") ∈ am_l := am_mem 130 (by decide +kernel) rfl
theorem q_116 : (Jvm.Cond.methodLink "RunSorterLaw" (7 : Nat) ({ cls := "RunSorter", name := "fill", desc := "(III)I" } : Jvm.MethodName)) ∈ am_l := am_mem 131 (by decide +kernel) rfl
theorem q_117 : (Jvm.Cond.instanceMethod ({ cls := "RunSorter", name := "fill", desc := "(III)I" } : Jvm.MethodName)) ∈ am_l := am_mem 132 (by decide +kernel) rfl
theorem q_118 : (Jvm.Cond.selects "RunSorter" ({ cls := "RunSorter", name := "fill", desc := "(III)I" } : Jvm.MethodName) ({ cls := "RunSorter", name := "fill", desc := "(III)I" } : Jvm.MethodName)) ∈ am_l := am_mem 133 (by decide +kernel) rfl
theorem q_119 : (Jvm.Cond.code ({ cls := "RunSorter", name := "fill", desc := "(III)I" } : Jvm.MethodName) prog_1_method_5_code (5 : Nat) (Option.some Jvm.ClassFile.FieldType.int)) ∈ am_l := am_mem 134 (by decide +kernel) rfl
theorem q_120 : (Jvm.Cond.methodLink "RunSorter" (57 : Nat) ({ cls := "RunSorter", name := "in", desc := "(III)V" } : Jvm.MethodName)) ∈ am_l := am_mem 135 (by decide +kernel) rfl
theorem q_121 : (Jvm.Cond.static ({ cls := "RunSorter", name := "in", desc := "(III)V" } : Jvm.MethodName)) ∈ am_l := am_mem 136 (by decide +kernel) rfl
theorem q_122 : (Jvm.Cond.code ({ cls := "RunSorter", name := "in", desc := "(III)V" } : Jvm.MethodName) prog_1_method_2_code (3 : Nat) (Option.none : Option Jvm.ClassFile.FieldType)) ∈ am_l := am_mem 137 (by decide +kernel) rfl
theorem q_123 : (Jvm.Cond.classLink "RunSorter" (47 : Nat) "java/lang/IllegalArgumentException") ∈ am_l := am_mem 138 (by decide +kernel) rfl
theorem q_124 : (Jvm.Cond.instantiable "java/lang/IllegalArgumentException" (6 : Nat)) ∈ am_l := am_mem 139 (by decide +kernel) rfl
theorem q_125 : (Jvm.Cond.castable "java/lang/IllegalArgumentException" "java/lang/IllegalArgumentException") ∈ am_l := am_mem 140 (by decide +kernel) rfl
theorem q_126 : (Jvm.Cond.declares ({ cls := "java/lang/RuntimeException", name := "<init>", desc := "()V" } : Jvm.MethodName)) ∈ am_l := am_mem 141 (by decide +kernel) rfl
theorem q_127 : (Jvm.Cond.declares ({ cls := "java/lang/RuntimeException", name := "<init>", desc := "(Ljava/lang/String;)V" } : Jvm.MethodName)) ∈ am_l := am_mem 142 (by decide +kernel) rfl
theorem q_128 : (Jvm.Cond.declares ({ cls := "java/lang/Exception", name := "<init>", desc := "()V" } : Jvm.MethodName)) ∈ am_l := am_mem 143 (by decide +kernel) rfl
theorem q_129 : (Jvm.Cond.declares ({ cls := "java/lang/Exception", name := "<init>", desc := "(Ljava/lang/String;)V" } : Jvm.MethodName)) ∈ am_l := am_mem 144 (by decide +kernel) rfl
theorem q_130 : (Jvm.Cond.declares ({ cls := "java/lang/Throwable", name := "<init>", desc := "()V" } : Jvm.MethodName)) ∈ am_l := am_mem 145 (by decide +kernel) rfl
theorem q_131 : (Jvm.Cond.declares ({ cls := "java/lang/Throwable", name := "<init>", desc := "(Ljava/lang/String;)V" } : Jvm.MethodName)) ∈ am_l := am_mem 146 (by decide +kernel) rfl
theorem q_132 : (Jvm.Cond.selects "java/lang/IllegalArgumentException" ({ cls := "java/lang/Throwable", name := "fillInStackTrace", desc := "(I)Ljava/lang/Throwable;" } : Jvm.MethodName) ({ cls := "java/lang/Throwable", name := "fillInStackTrace", desc := "(I)Ljava/lang/Throwable;" } : Jvm.MethodName)) ∈ am_l := am_mem 147 (by decide +kernel) rfl
theorem q_133 : (Jvm.Cond.selects "java/lang/IllegalArgumentException" ({ cls := "java/lang/Throwable", name := "fillInStackTrace", desc := "()Ljava/lang/Throwable;" } : Jvm.MethodName) ({ cls := "java/lang/Throwable", name := "fillInStackTrace", desc := "()Ljava/lang/Throwable;" } : Jvm.MethodName)) ∈ am_l := am_mem 148 (by decide +kernel) rfl
theorem q_134 : (Jvm.Cond.lays "java/lang/IllegalArgumentException" "java/lang/Throwable" "cause" "Ljava/lang/Throwable;") ∈ am_l := am_mem 149 (by decide +kernel) rfl
theorem q_135 : (Jvm.Cond.lays "java/lang/Throwable" "java/lang/Throwable" "cause" "Ljava/lang/Throwable;") ∈ am_l := am_mem 150 (by decide +kernel) rfl
theorem q_136 : (Jvm.Cond.lays "java/lang/IllegalArgumentException" "java/lang/Throwable" "stackTrace" "[Ljava/lang/StackTraceElement;") ∈ am_l := am_mem 151 (by decide +kernel) rfl
theorem q_137 : (Jvm.Cond.lays "java/lang/Throwable" "java/lang/Throwable" "stackTrace" "[Ljava/lang/StackTraceElement;") ∈ am_l := am_mem 152 (by decide +kernel) rfl
theorem q_138 : (Jvm.Cond.lays "java/lang/IllegalArgumentException" "java/lang/Throwable" "suppressedExceptions" "Ljava/util/List;") ∈ am_l := am_mem 153 (by decide +kernel) rfl
theorem q_139 : (Jvm.Cond.lays "java/lang/Throwable" "java/lang/Throwable" "suppressedExceptions" "Ljava/util/List;") ∈ am_l := am_mem 154 (by decide +kernel) rfl
theorem q_140 : (Jvm.Cond.lays "java/lang/IllegalArgumentException" "java/lang/Throwable" "detailMessage" "Ljava/lang/String;") ∈ am_l := am_mem 155 (by decide +kernel) rfl
theorem q_141 : (Jvm.Cond.lays "java/lang/Throwable" "java/lang/Throwable" "detailMessage" "Ljava/lang/String;") ∈ am_l := am_mem 156 (by decide +kernel) rfl
theorem q_142 : (Jvm.Cond.lays "java/lang/IllegalArgumentException" "java/lang/Throwable" "backtrace" "Ljava/lang/Object;") ∈ am_l := am_mem 157 (by decide +kernel) rfl
theorem q_143 : (Jvm.Cond.lays "java/lang/Throwable" "java/lang/Throwable" "backtrace" "Ljava/lang/Object;") ∈ am_l := am_mem 158 (by decide +kernel) rfl
theorem q_144 : (Jvm.Cond.fieldLink "java/lang/Throwable" (198 : Nat) "java/lang/Throwable" "backtrace" "Ljava/lang/Object;") ∈ am_l := am_mem 159 (by decide +kernel) rfl
theorem q_145 : (Jvm.Cond.superclass "java/lang/Throwable" "java/lang/Object") ∈ am_l := am_mem 160 (by decide +kernel) rfl
theorem q_146 : (Jvm.Cond.instanceMethod ({ cls := "java/lang/Throwable", name := "<init>", desc := "()V" } : Jvm.MethodName)) ∈ am_l := am_mem 161 (by decide +kernel) rfl
theorem q_147 : (Jvm.Cond.code ({ cls := "java/lang/Throwable", name := "<init>", desc := "()V" } : Jvm.MethodName) prog_15_method_1_code (1 : Nat) (Option.none : Option Jvm.ClassFile.FieldType)) ∈ am_l := am_mem 162 (by decide +kernel) rfl
theorem q_148 : (Jvm.Cond.methodLink "java/lang/Throwable" (1 : Nat) ({ cls := "java/lang/Object", name := "<init>", desc := "()V" } : Jvm.MethodName)) ∈ am_l := am_mem 163 (by decide +kernel) rfl
theorem q_149 : (Jvm.Cond.fieldLink "java/lang/Throwable" (13 : Nat) "java/lang/Throwable" "UNASSIGNED_STACK" "[Ljava/lang/StackTraceElement;") ∈ am_l := am_mem 164 (by decide +kernel) rfl
theorem q_151 : (Jvm.Cond.fieldLink "java/lang/Throwable" (20 : Nat) "java/lang/Throwable" "SUPPRESSED_SENTINEL" "Ljava/util/List;") ∈ am_l := am_mem 166 (by decide +kernel) rfl
theorem q_153 : (Jvm.Cond.methodLink "java/lang/Throwable" (27 : Nat) ({ cls := "java/lang/Throwable", name := "fillInStackTrace", desc := "()Ljava/lang/Throwable;" } : Jvm.MethodName)) ∈ am_l := am_mem 168 (by decide +kernel) rfl
theorem q_154 : (Jvm.Cond.instanceMethod ({ cls := "java/lang/Throwable", name := "fillInStackTrace", desc := "()Ljava/lang/Throwable;" } : Jvm.MethodName)) ∈ am_l := am_mem 169 (by decide +kernel) rfl
theorem q_155 : (Jvm.Cond.sameMethod "java/lang/Throwable" "java/lang/Throwable" "fillInStackTrace" "()Ljava/lang/Throwable;") ∈ am_l := am_mem 170 (by decide +kernel) rfl
theorem q_156 : (Jvm.Cond.selects "java/lang/IndexOutOfBoundsException" ({ cls := "java/lang/Throwable", name := "fillInStackTrace", desc := "()Ljava/lang/Throwable;" } : Jvm.MethodName) ({ cls := "java/lang/Throwable", name := "fillInStackTrace", desc := "()Ljava/lang/Throwable;" } : Jvm.MethodName)) ∈ am_l := am_mem 171 (by decide +kernel) rfl
theorem q_157 : (Jvm.Cond.codeSync ({ cls := "java/lang/Throwable", name := "fillInStackTrace", desc := "()Ljava/lang/Throwable;" } : Jvm.MethodName) prog_15_method_18_code (1 : Nat) (Option.some (Jvm.ClassFile.FieldType.object "java/lang/Throwable"))) ∈ am_l := am_mem 172 (by decide +kernel) rfl
theorem q_158 : (Jvm.Cond.methodLink "java/lang/Throwable" (202 : Nat) ({ cls := "java/lang/Throwable", name := "fillInStackTrace", desc := "(I)Ljava/lang/Throwable;" } : Jvm.MethodName)) ∈ am_l := am_mem 173 (by decide +kernel) rfl
theorem q_159 : (Jvm.Cond.privateMethod ({ cls := "java/lang/Throwable", name := "fillInStackTrace", desc := "(I)Ljava/lang/Throwable;" } : Jvm.MethodName)) ∈ am_l := am_mem 174 (by decide +kernel) rfl
theorem q_160 : (Jvm.Cond.instanceMethod ({ cls := "java/lang/Throwable", name := "fillInStackTrace", desc := "(I)Ljava/lang/Throwable;" } : Jvm.MethodName)) ∈ am_l := am_mem 175 (by decide +kernel) rfl
theorem q_161 : (Jvm.Cond.instantiable "java/lang/Throwable" (6 : Nat)) ∈ am_l := am_mem 176 (by decide +kernel) rfl
theorem q_162 : (Jvm.Cond.native ({ cls := "java/lang/Throwable", name := "fillInStackTrace", desc := "(I)Ljava/lang/Throwable;" } : Jvm.MethodName)) ∈ am_l := am_mem 177 (by decide +kernel) rfl
theorem q_163 : (Jvm.Cond.methodLink "RunSorter" (49 : Nat) ({ cls := "java/lang/IllegalArgumentException", name := "<init>", desc := "()V" } : Jvm.MethodName)) ∈ am_l := am_mem 178 (by decide +kernel) rfl
theorem q_164 : (Jvm.Cond.instanceMethod ({ cls := "java/lang/IllegalArgumentException", name := "<init>", desc := "()V" } : Jvm.MethodName)) ∈ am_l := am_mem 179 (by decide +kernel) rfl
theorem q_165 : (Jvm.Cond.code ({ cls := "java/lang/IllegalArgumentException", name := "<init>", desc := "()V" } : Jvm.MethodName) prog_12_method_1_code (1 : Nat) (Option.none : Option Jvm.ClassFile.FieldType)) ∈ am_l := am_mem 180 (by decide +kernel) rfl
theorem q_166 : (Jvm.Cond.methodLink "java/lang/IllegalArgumentException" (1 : Nat) ({ cls := "java/lang/RuntimeException", name := "<init>", desc := "()V" } : Jvm.MethodName)) ∈ am_l := am_mem 181 (by decide +kernel) rfl
theorem q_167 : (Jvm.Cond.instanceMethod ({ cls := "java/lang/RuntimeException", name := "<init>", desc := "()V" } : Jvm.MethodName)) ∈ am_l := am_mem 182 (by decide +kernel) rfl
theorem q_168 : (Jvm.Cond.code ({ cls := "java/lang/RuntimeException", name := "<init>", desc := "()V" } : Jvm.MethodName) prog_14_method_1_code (1 : Nat) (Option.none : Option Jvm.ClassFile.FieldType)) ∈ am_l := am_mem 183 (by decide +kernel) rfl
theorem q_169 : (Jvm.Cond.methodLink "java/lang/RuntimeException" (1 : Nat) ({ cls := "java/lang/Exception", name := "<init>", desc := "()V" } : Jvm.MethodName)) ∈ am_l := am_mem 184 (by decide +kernel) rfl
theorem q_170 : (Jvm.Cond.instanceMethod ({ cls := "java/lang/Exception", name := "<init>", desc := "()V" } : Jvm.MethodName)) ∈ am_l := am_mem 185 (by decide +kernel) rfl
theorem q_171 : (Jvm.Cond.code ({ cls := "java/lang/Exception", name := "<init>", desc := "()V" } : Jvm.MethodName) prog_11_method_1_code (1 : Nat) (Option.none : Option Jvm.ClassFile.FieldType)) ∈ am_l := am_mem 186 (by decide +kernel) rfl
theorem q_172 : (Jvm.Cond.methodLink "java/lang/Exception" (1 : Nat) ({ cls := "java/lang/Throwable", name := "<init>", desc := "()V" } : Jvm.MethodName)) ∈ am_l := am_mem 187 (by decide +kernel) rfl
theorem q_173 : (Jvm.Cond.fieldLink "java/lang/Throwable" (198 : Nat) "java/lang/Throwable" "backtrace" "Ljava/lang/Object;") ∈ am_l := am_mem 188 (by decide +kernel) rfl
theorem q_174 : (Jvm.Cond.fieldLink "java/lang/Throwable" (7 : Nat) "java/lang/Throwable" "cause" "Ljava/lang/Throwable;") ∈ am_l := am_mem 189 (by decide +kernel) rfl
theorem q_175 : (Jvm.Cond.fieldLink "java/lang/Throwable" (17 : Nat) "java/lang/Throwable" "stackTrace" "[Ljava/lang/StackTraceElement;") ∈ am_l := am_mem 190 (by decide +kernel) rfl
theorem q_176 : (Jvm.Cond.fieldLink "java/lang/Throwable" (24 : Nat) "java/lang/Throwable" "suppressedExceptions" "Ljava/util/List;") ∈ am_l := am_mem 191 (by decide +kernel) rfl
theorem q_177 : (Jvm.Cond.soleField "java/lang/Throwable" "backtrace") ∈ am_l := am_mem 192 (by decide +kernel) rfl
theorem q_178 : (Jvm.Cond.soleField "java/lang/Throwable" "detailMessage") ∈ am_l := am_mem 193 (by decide +kernel) rfl
theorem q_179 : (Jvm.Cond.soleField "java/lang/Throwable" "cause") ∈ am_l := am_mem 194 (by decide +kernel) rfl
theorem q_180 : (Jvm.Cond.soleField "java/lang/Throwable" "stackTrace") ∈ am_l := am_mem 195 (by decide +kernel) rfl
theorem q_181 : (Jvm.Cond.lays "java/lang/IllegalArgumentException" "java/lang/Throwable" "depth" "I") ∈ am_l := am_mem 196 (by decide +kernel) rfl
theorem q_182 : (Jvm.Cond.soleField "java/lang/Throwable" "depth") ∈ am_l := am_mem 197 (by decide +kernel) rfl
theorem q_183 : (Jvm.Cond.soleField "java/lang/Throwable" "suppressedExceptions") ∈ am_l := am_mem 198 (by decide +kernel) rfl
theorem q_184 : (Jvm.Cond.superclass "java/lang/IllegalArgumentException" "java/lang/RuntimeException") ∈ am_l := am_mem 199 (by decide +kernel) rfl
theorem q_185 : (Jvm.Cond.methodLink "RunSorter" (61 : Nat) ({ cls := "RunSorter", name := "within", desc := "(Z)V" } : Jvm.MethodName)) ∈ am_l := am_mem 200 (by decide +kernel) rfl
theorem q_186 : (Jvm.Cond.static ({ cls := "RunSorter", name := "within", desc := "(Z)V" } : Jvm.MethodName)) ∈ am_l := am_mem 201 (by decide +kernel) rfl
theorem q_187 : (Jvm.Cond.code ({ cls := "RunSorter", name := "within", desc := "(Z)V" } : Jvm.MethodName) prog_1_method_3_code (1 : Nat) (Option.none : Option Jvm.ClassFile.FieldType)) ∈ am_l := am_mem 202 (by decide +kernel) rfl
theorem q_188 : (Jvm.Cond.classLink "RunSorter" (50 : Nat) "java/lang/IndexOutOfBoundsException") ∈ am_l := am_mem 203 (by decide +kernel) rfl
theorem q_189 : (Jvm.Cond.instantiable "java/lang/IndexOutOfBoundsException" (6 : Nat)) ∈ am_l := am_mem 204 (by decide +kernel) rfl
theorem q_190 : (Jvm.Cond.castable "java/lang/IndexOutOfBoundsException" "java/lang/IndexOutOfBoundsException") ∈ am_l := am_mem 205 (by decide +kernel) rfl
theorem q_191 : (Jvm.Cond.selects "java/lang/IndexOutOfBoundsException" ({ cls := "java/lang/Throwable", name := "fillInStackTrace", desc := "(I)Ljava/lang/Throwable;" } : Jvm.MethodName) ({ cls := "java/lang/Throwable", name := "fillInStackTrace", desc := "(I)Ljava/lang/Throwable;" } : Jvm.MethodName)) ∈ am_l := am_mem 206 (by decide +kernel) rfl
theorem q_192 : (Jvm.Cond.lays "java/lang/IndexOutOfBoundsException" "java/lang/Throwable" "cause" "Ljava/lang/Throwable;") ∈ am_l := am_mem 207 (by decide +kernel) rfl
theorem q_193 : (Jvm.Cond.lays "java/lang/IndexOutOfBoundsException" "java/lang/Throwable" "stackTrace" "[Ljava/lang/StackTraceElement;") ∈ am_l := am_mem 208 (by decide +kernel) rfl
theorem q_194 : (Jvm.Cond.lays "java/lang/IndexOutOfBoundsException" "java/lang/Throwable" "suppressedExceptions" "Ljava/util/List;") ∈ am_l := am_mem 209 (by decide +kernel) rfl
theorem q_195 : (Jvm.Cond.lays "java/lang/IndexOutOfBoundsException" "java/lang/Throwable" "detailMessage" "Ljava/lang/String;") ∈ am_l := am_mem 210 (by decide +kernel) rfl
theorem q_196 : (Jvm.Cond.lays "java/lang/IndexOutOfBoundsException" "java/lang/Throwable" "backtrace" "Ljava/lang/Object;") ∈ am_l := am_mem 211 (by decide +kernel) rfl
theorem q_197 : (Jvm.Cond.methodLink "RunSorter" (52 : Nat) ({ cls := "java/lang/IndexOutOfBoundsException", name := "<init>", desc := "()V" } : Jvm.MethodName)) ∈ am_l := am_mem 212 (by decide +kernel) rfl
theorem q_198 : (Jvm.Cond.instanceMethod ({ cls := "java/lang/IndexOutOfBoundsException", name := "<init>", desc := "()V" } : Jvm.MethodName)) ∈ am_l := am_mem 213 (by decide +kernel) rfl
theorem q_199 : (Jvm.Cond.code ({ cls := "java/lang/IndexOutOfBoundsException", name := "<init>", desc := "()V" } : Jvm.MethodName) prog_13_method_1_code (1 : Nat) (Option.none : Option Jvm.ClassFile.FieldType)) ∈ am_l := am_mem 214 (by decide +kernel) rfl
theorem q_200 : (Jvm.Cond.methodLink "java/lang/IndexOutOfBoundsException" (1 : Nat) ({ cls := "java/lang/RuntimeException", name := "<init>", desc := "()V" } : Jvm.MethodName)) ∈ am_l := am_mem 215 (by decide +kernel) rfl
theorem q_201 : (Jvm.Cond.lays "java/lang/IndexOutOfBoundsException" "java/lang/Throwable" "depth" "I") ∈ am_l := am_mem 216 (by decide +kernel) rfl
theorem q_202 : (Jvm.Cond.superclass "java/lang/IndexOutOfBoundsException" "java/lang/RuntimeException") ∈ am_l := am_mem 217 (by decide +kernel) rfl
theorem q_203 : (Jvm.Cond.methodLink "RunSorter" (65 : Nat) ({ cls := "RunSorter", name := "add", desc := "(I)V" } : Jvm.MethodName)) ∈ am_l := am_mem 218 (by decide +kernel) rfl
theorem q_204 : (Jvm.Cond.privateMethod ({ cls := "RunSorter", name := "add", desc := "(I)V" } : Jvm.MethodName)) ∈ am_l := am_mem 219 (by decide +kernel) rfl
theorem q_205 : (Jvm.Cond.instanceMethod ({ cls := "RunSorter", name := "add", desc := "(I)V" } : Jvm.MethodName)) ∈ am_l := am_mem 220 (by decide +kernel) rfl
theorem q_206 : (Jvm.Cond.code ({ cls := "RunSorter", name := "add", desc := "(I)V" } : Jvm.MethodName) prog_1_method_4_code (2 : Nat) (Option.none : Option Jvm.ClassFile.FieldType)) ∈ am_l := am_mem 221 (by decide +kernel) rfl
theorem q_207 : (Jvm.Cond.methodLink "RunSorterLaw" (55 : Nat) ({ cls := "RunSorterLaw", name := "scatter", desc := "(LRunSorter;III[J)I" } : Jvm.MethodName)) ∈ am_l := am_mem 222 (by decide +kernel) rfl
theorem q_208 : (Jvm.Cond.static ({ cls := "RunSorterLaw", name := "scatter", desc := "(LRunSorter;III[J)I" } : Jvm.MethodName)) ∈ am_l := am_mem 223 (by decide +kernel) rfl
theorem q_209 : (Jvm.Cond.codeWith ({ cls := "RunSorterLaw", name := "scatter", desc := "(LRunSorter;III[J)I" } : Jvm.MethodName) method_4_code (6 : Nat) (Option.some Jvm.ClassFile.FieldType.int) [((0 : Nat), (12 : Nat), (15 : Nat), (13 : Nat)), ((0 : Nat), (12 : Nat), (19 : Nat), (15 : Nat))]) ∈ am_l := am_mem 224 (by decide +kernel) rfl
theorem q_210 : (Jvm.Cond.methodLink "RunSorterLaw" (17 : Nat) ({ cls := "RunSorter", name := "scatter", desc := "(III)I" } : Jvm.MethodName)) ∈ am_l := am_mem 225 (by decide +kernel) rfl
theorem q_211 : (Jvm.Cond.instanceMethod ({ cls := "RunSorter", name := "scatter", desc := "(III)I" } : Jvm.MethodName)) ∈ am_l := am_mem 226 (by decide +kernel) rfl
theorem q_212 : (Jvm.Cond.selects "RunSorter" ({ cls := "RunSorter", name := "scatter", desc := "(III)I" } : Jvm.MethodName) ({ cls := "RunSorter", name := "scatter", desc := "(III)I" } : Jvm.MethodName)) ∈ am_l := am_mem 227 (by decide +kernel) rfl
theorem q_213 : (Jvm.Cond.code ({ cls := "RunSorter", name := "scatter", desc := "(III)I" } : Jvm.MethodName) prog_1_method_6_code (6 : Nat) (Option.some Jvm.ClassFile.FieldType.int)) ∈ am_l := am_mem 228 (by decide +kernel) rfl
theorem q_214 : (Jvm.Cond.constant "RunSorter" (69 : Nat) (1664525 : Int32)) ∈ am_l := am_mem 229 (by decide +kernel) rfl
theorem q_215 : (Jvm.Cond.constant "RunSorter" (70 : Nat) (1013904223 : Int32)) ∈ am_l := am_mem 230 (by decide +kernel) rfl
theorem q_216 : (Jvm.Cond.methodLink "RunSorterLaw" (58 : Nat) ({ cls := "RunSorterLaw", name := "sort", desc := "(LRunSorter;III[J)I" } : Jvm.MethodName)) ∈ am_l := am_mem 231 (by decide +kernel) rfl
theorem q_217 : (Jvm.Cond.static ({ cls := "RunSorterLaw", name := "sort", desc := "(LRunSorter;III[J)I" } : Jvm.MethodName)) ∈ am_l := am_mem 232 (by decide +kernel) rfl
theorem q_218 : (Jvm.Cond.codeWith ({ cls := "RunSorterLaw", name := "sort", desc := "(LRunSorter;III[J)I" } : Jvm.MethodName) method_5_code (6 : Nat) (Option.some Jvm.ClassFile.FieldType.int) [((0 : Nat), (12 : Nat), (15 : Nat), (13 : Nat))]) ∈ am_l := am_mem 233 (by decide +kernel) rfl
theorem q_219 : (Jvm.Cond.methodLink "RunSorterLaw" (20 : Nat) ({ cls := "RunSorter", name := "sort", desc := "(III)I" } : Jvm.MethodName)) ∈ am_l := am_mem 234 (by decide +kernel) rfl
theorem q_220 : (Jvm.Cond.instanceMethod ({ cls := "RunSorter", name := "sort", desc := "(III)I" } : Jvm.MethodName)) ∈ am_l := am_mem 235 (by decide +kernel) rfl
theorem q_221 : (Jvm.Cond.selects "RunSorter" ({ cls := "RunSorter", name := "sort", desc := "(III)I" } : Jvm.MethodName) ({ cls := "RunSorter", name := "sort", desc := "(III)I" } : Jvm.MethodName)) ∈ am_l := am_mem 236 (by decide +kernel) rfl
theorem q_222 : (Jvm.Cond.code ({ cls := "RunSorter", name := "sort", desc := "(III)I" } : Jvm.MethodName) prog_1_method_7_code (7 : Nat) (Option.some Jvm.ClassFile.FieldType.int)) ∈ am_l := am_mem 237 (by decide +kernel) rfl
theorem q_223 : (Jvm.Cond.methodLink "RunSorter" (71 : Nat) ({ cls := "RunSorter$Sorter", name := "cells", desc := "()[I" } : Jvm.MethodName)) ∈ am_l := am_mem 238 (by decide +kernel) rfl
theorem q_224 : (Jvm.Cond.instanceMethod ({ cls := "RunSorter$Sorter", name := "cells", desc := "()[I" } : Jvm.MethodName)) ∈ am_l := am_mem 239 (by decide +kernel) rfl
theorem q_225 : (Jvm.Cond.selects "RunSorter$Sorter" ({ cls := "RunSorter$Sorter", name := "cells", desc := "()[I" } : Jvm.MethodName) ({ cls := "RunSorter$Sorter", name := "cells", desc := "()[I" } : Jvm.MethodName)) ∈ am_l := am_mem 240 (by decide +kernel) rfl
theorem q_226 : (Jvm.Cond.code ({ cls := "RunSorter$Sorter", name := "cells", desc := "()[I" } : Jvm.MethodName) prog_7_method_2_code (1 : Nat) (Option.some (Jvm.ClassFile.FieldType.array Jvm.ClassFile.FieldType.int))) ∈ am_l := am_mem 241 (by decide +kernel) rfl
theorem q_227 : (Jvm.Cond.classLink "RunSorter" (75 : Nat) "RunSorter$ByNumber") ∈ am_l := am_mem 242 (by decide +kernel) rfl
theorem q_228 : (Jvm.Cond.instantiable "RunSorter$ByNumber" (2 : Nat)) ∈ am_l := am_mem 243 (by decide +kernel) rfl
theorem q_229 : (Jvm.Cond.methodLink "RunSorter" (77 : Nat) ({ cls := "RunSorter$ByNumber", name := "<init>", desc := "(LRunSorter$Order;[I)V" } : Jvm.MethodName)) ∈ am_l := am_mem 244 (by decide +kernel) rfl
theorem q_230 : (Jvm.Cond.instanceMethod ({ cls := "RunSorter$ByNumber", name := "<init>", desc := "(LRunSorter$Order;[I)V" } : Jvm.MethodName)) ∈ am_l := am_mem 245 (by decide +kernel) rfl
theorem q_231 : (Jvm.Cond.code ({ cls := "RunSorter$ByNumber", name := "<init>", desc := "(LRunSorter$Order;[I)V" } : Jvm.MethodName) prog_2_method_1_code (3 : Nat) (Option.none : Option Jvm.ClassFile.FieldType)) ∈ am_l := am_mem 246 (by decide +kernel) rfl
theorem q_232 : (Jvm.Cond.methodLink "RunSorter$ByNumber" (1 : Nat) ({ cls := "java/lang/Object", name := "<init>", desc := "()V" } : Jvm.MethodName)) ∈ am_l := am_mem 247 (by decide +kernel) rfl
theorem q_233 : (Jvm.Cond.fieldLink "RunSorter$ByNumber" (7 : Nat) "RunSorter$ByNumber" "order" "LRunSorter$Order;") ∈ am_l := am_mem 248 (by decide +kernel) rfl
theorem q_234 : (Jvm.Cond.fieldLink "RunSorter$ByNumber" (13 : Nat) "RunSorter$ByNumber" "numbers" "[I") ∈ am_l := am_mem 249 (by decide +kernel) rfl
theorem q_235 : (Jvm.Cond.laysFinal "RunSorter$ByNumber" "RunSorter$ByNumber" "order" "LRunSorter$Order;") ∈ am_l := am_mem 250 (by decide +kernel) rfl
theorem q_236 : (Jvm.Cond.soleField "RunSorter$ByNumber" "order") ∈ am_l := am_mem 251 (by decide +kernel) rfl
theorem q_237 : (Jvm.Cond.laysFinal "RunSorter$ByNumber" "RunSorter$ByNumber" "numbers" "[I") ∈ am_l := am_mem 252 (by decide +kernel) rfl
theorem q_238 : (Jvm.Cond.soleField "RunSorter$ByNumber" "numbers") ∈ am_l := am_mem 253 (by decide +kernel) rfl
theorem q_239 : (Jvm.Cond.superclass "RunSorter$ByNumber" "java/lang/Object") ∈ am_l := am_mem 254 (by decide +kernel) rfl
theorem q_240 : (Jvm.Cond.methodLink "RunSorter" (80 : Nat) ({ cls := "RunSorter$Sorter", name := "sort", desc := "(ILRunSorter$Order;)V" } : Jvm.MethodName)) ∈ am_l := am_mem 255 (by decide +kernel) rfl
theorem q_241 : (Jvm.Cond.instanceMethod ({ cls := "RunSorter$Sorter", name := "sort", desc := "(ILRunSorter$Order;)V" } : Jvm.MethodName)) ∈ am_l := am_mem 256 (by decide +kernel) rfl
theorem q_242 : (Jvm.Cond.selects "RunSorter$Sorter" ({ cls := "RunSorter$Sorter", name := "sort", desc := "(ILRunSorter$Order;)V" } : Jvm.MethodName) ({ cls := "RunSorter$Sorter", name := "sort", desc := "(ILRunSorter$Order;)V" } : Jvm.MethodName)) ∈ am_l := am_mem 257 (by decide +kernel) rfl
theorem q_243 : (Jvm.Cond.code ({ cls := "RunSorter$Sorter", name := "sort", desc := "(ILRunSorter$Order;)V" } : Jvm.MethodName) prog_7_method_3_code (7 : Nat) (Option.none : Option Jvm.ClassFile.FieldType)) ∈ am_l := am_mem 258 (by decide +kernel) rfl
theorem q_244 : (Jvm.Cond.methodLink "RunSorter$Sorter" (35 : Nat) ({ cls := "RunSorter$Sorter", name := "shortest", desc := "(I)I" } : Jvm.MethodName)) ∈ am_l := am_mem 259 (by decide +kernel) rfl
theorem q_245 : (Jvm.Cond.static ({ cls := "RunSorter$Sorter", name := "shortest", desc := "(I)I" } : Jvm.MethodName)) ∈ am_l := am_mem 260 (by decide +kernel) rfl
theorem q_246 : (Jvm.Cond.code ({ cls := "RunSorter$Sorter", name := "shortest", desc := "(I)I" } : Jvm.MethodName) prog_7_method_4_code (3 : Nat) (Option.some Jvm.ClassFile.FieldType.int)) ∈ am_l := am_mem 261 (by decide +kernel) rfl
theorem q_247 : (Jvm.Cond.methodLink "RunSorter$Sorter" (39 : Nat) ({ cls := "RunSorter$Sorter", name := "run", desc := "(II)I" } : Jvm.MethodName)) ∈ am_l := am_mem 262 (by decide +kernel) rfl
theorem q_248 : (Jvm.Cond.privateMethod ({ cls := "RunSorter$Sorter", name := "run", desc := "(II)I" } : Jvm.MethodName)) ∈ am_l := am_mem 263 (by decide +kernel) rfl
theorem q_249 : (Jvm.Cond.instanceMethod ({ cls := "RunSorter$Sorter", name := "run", desc := "(II)I" } : Jvm.MethodName)) ∈ am_l := am_mem 264 (by decide +kernel) rfl
theorem q_250 : (Jvm.Cond.code ({ cls := "RunSorter$Sorter", name := "run", desc := "(II)I" } : Jvm.MethodName) prog_7_method_5_code (8 : Nat) (Option.some Jvm.ClassFile.FieldType.int)) ∈ am_l := am_mem 265 (by decide +kernel) rfl
theorem q_252 : (Jvm.Cond.methodLink "RunSorter$Sorter" (54 : Nat) ({ cls := "RunSorter$Order", name := "compare", desc := "(II)I" } : Jvm.MethodName)) ∈ am_l := am_mem 267 (by decide +kernel) rfl
theorem q_253 : (Jvm.Cond.interfaceMethod "RunSorter$Order" "RunSorter$Order" "compare" "(II)I") ∈ am_l := am_mem 268 (by decide +kernel) rfl
theorem q_254 : (Jvm.Cond.declares ({ cls := "RunSorter$Order", name := "compare", desc := "(II)I" } : Jvm.MethodName)) ∈ am_l := am_mem 269 (by decide +kernel) rfl
theorem q_255 : (Jvm.Cond.castable "RunSorter$ByNumber" "RunSorter$Order") ∈ am_l := am_mem 270 (by decide +kernel) rfl
theorem q_256 : (Jvm.Cond.selects "RunSorter$ByNumber" ({ cls := "RunSorter$Order", name := "compare", desc := "(II)I" } : Jvm.MethodName) ({ cls := "RunSorter$ByNumber", name := "compare", desc := "(II)I" } : Jvm.MethodName)) ∈ am_l := am_mem 271 (by decide +kernel) rfl
theorem q_257 : (Jvm.Cond.unhidden "RunSorter$ByNumber" "compare" "(II)I") ∈ am_l := am_mem 272 (by decide +kernel) rfl
theorem q_258 : (Jvm.Cond.instanceMethod ({ cls := "RunSorter$ByNumber", name := "compare", desc := "(II)I" } : Jvm.MethodName)) ∈ am_l := am_mem 273 (by decide +kernel) rfl
theorem q_259 : (Jvm.Cond.publicMethod ({ cls := "RunSorter$ByNumber", name := "compare", desc := "(II)I" } : Jvm.MethodName)) ∈ am_l := am_mem 274 (by decide +kernel) rfl
theorem q_260 : (Jvm.Cond.code ({ cls := "RunSorter$ByNumber", name := "compare", desc := "(II)I" } : Jvm.MethodName) prog_2_method_2_code (3 : Nat) (Option.some Jvm.ClassFile.FieldType.int)) ∈ am_l := am_mem 275 (by decide +kernel) rfl
theorem q_262 : (Jvm.Cond.methodLink "RunSorter$ByNumber" (17 : Nat) ({ cls := "RunSorter$Order", name := "compare", desc := "(II)I" } : Jvm.MethodName)) ∈ am_l := am_mem 277 (by decide +kernel) rfl
theorem q_263 : (Jvm.Cond.castable "RunSorter$Falling" "RunSorter$Order") ∈ am_l := am_mem 278 (by decide +kernel) rfl
theorem q_264 : (Jvm.Cond.selects "RunSorter$Falling" ({ cls := "RunSorter$Order", name := "compare", desc := "(II)I" } : Jvm.MethodName) ({ cls := "RunSorter$Falling", name := "compare", desc := "(II)I" } : Jvm.MethodName)) ∈ am_l := am_mem 279 (by decide +kernel) rfl
theorem q_265 : (Jvm.Cond.unhidden "RunSorter$Falling" "compare" "(II)I") ∈ am_l := am_mem 280 (by decide +kernel) rfl
theorem q_266 : (Jvm.Cond.instanceMethod ({ cls := "RunSorter$Falling", name := "compare", desc := "(II)I" } : Jvm.MethodName)) ∈ am_l := am_mem 281 (by decide +kernel) rfl
theorem q_267 : (Jvm.Cond.publicMethod ({ cls := "RunSorter$Falling", name := "compare", desc := "(II)I" } : Jvm.MethodName)) ∈ am_l := am_mem 282 (by decide +kernel) rfl
theorem q_268 : (Jvm.Cond.code ({ cls := "RunSorter$Falling", name := "compare", desc := "(II)I" } : Jvm.MethodName) prog_3_method_2_code (3 : Nat) (Option.some Jvm.ClassFile.FieldType.int)) ∈ am_l := am_mem 283 (by decide +kernel) rfl
theorem q_269 : (Jvm.Cond.castable "RunSorter$LowBits" "RunSorter$Order") ∈ am_l := am_mem 284 (by decide +kernel) rfl
theorem q_270 : (Jvm.Cond.selects "RunSorter$LowBits" ({ cls := "RunSorter$Order", name := "compare", desc := "(II)I" } : Jvm.MethodName) ({ cls := "RunSorter$LowBits", name := "compare", desc := "(II)I" } : Jvm.MethodName)) ∈ am_l := am_mem 285 (by decide +kernel) rfl
theorem q_271 : (Jvm.Cond.unhidden "RunSorter$LowBits" "compare" "(II)I") ∈ am_l := am_mem 286 (by decide +kernel) rfl
theorem q_272 : (Jvm.Cond.instanceMethod ({ cls := "RunSorter$LowBits", name := "compare", desc := "(II)I" } : Jvm.MethodName)) ∈ am_l := am_mem 287 (by decide +kernel) rfl
theorem q_273 : (Jvm.Cond.publicMethod ({ cls := "RunSorter$LowBits", name := "compare", desc := "(II)I" } : Jvm.MethodName)) ∈ am_l := am_mem 288 (by decide +kernel) rfl
theorem q_274 : (Jvm.Cond.code ({ cls := "RunSorter$LowBits", name := "compare", desc := "(II)I" } : Jvm.MethodName) prog_4_method_2_code (3 : Nat) (Option.some Jvm.ClassFile.FieldType.int)) ∈ am_l := am_mem 289 (by decide +kernel) rfl
theorem q_275 : (Jvm.Cond.castable "RunSorter$Rising" "RunSorter$Order") ∈ am_l := am_mem 290 (by decide +kernel) rfl
theorem q_276 : (Jvm.Cond.selects "RunSorter$Rising" ({ cls := "RunSorter$Order", name := "compare", desc := "(II)I" } : Jvm.MethodName) ({ cls := "RunSorter$Rising", name := "compare", desc := "(II)I" } : Jvm.MethodName)) ∈ am_l := am_mem 291 (by decide +kernel) rfl
theorem q_277 : (Jvm.Cond.unhidden "RunSorter$Rising" "compare" "(II)I") ∈ am_l := am_mem 292 (by decide +kernel) rfl
theorem q_278 : (Jvm.Cond.instanceMethod ({ cls := "RunSorter$Rising", name := "compare", desc := "(II)I" } : Jvm.MethodName)) ∈ am_l := am_mem 293 (by decide +kernel) rfl
theorem q_279 : (Jvm.Cond.publicMethod ({ cls := "RunSorter$Rising", name := "compare", desc := "(II)I" } : Jvm.MethodName)) ∈ am_l := am_mem 294 (by decide +kernel) rfl
theorem q_280 : (Jvm.Cond.code ({ cls := "RunSorter$Rising", name := "compare", desc := "(II)I" } : Jvm.MethodName) prog_6_method_2_code (3 : Nat) (Option.some Jvm.ClassFile.FieldType.int)) ∈ am_l := am_mem 295 (by decide +kernel) rfl
theorem q_281 : (Jvm.Cond.castable "RunSorter$Unsigned" "RunSorter$Order") ∈ am_l := am_mem 296 (by decide +kernel) rfl
theorem q_282 : (Jvm.Cond.selects "RunSorter$Unsigned" ({ cls := "RunSorter$Order", name := "compare", desc := "(II)I" } : Jvm.MethodName) ({ cls := "RunSorter$Unsigned", name := "compare", desc := "(II)I" } : Jvm.MethodName)) ∈ am_l := am_mem 297 (by decide +kernel) rfl
theorem q_283 : (Jvm.Cond.unhidden "RunSorter$Unsigned" "compare" "(II)I") ∈ am_l := am_mem 298 (by decide +kernel) rfl
theorem q_284 : (Jvm.Cond.instanceMethod ({ cls := "RunSorter$Unsigned", name := "compare", desc := "(II)I" } : Jvm.MethodName)) ∈ am_l := am_mem 299 (by decide +kernel) rfl
theorem q_285 : (Jvm.Cond.publicMethod ({ cls := "RunSorter$Unsigned", name := "compare", desc := "(II)I" } : Jvm.MethodName)) ∈ am_l := am_mem 300 (by decide +kernel) rfl
theorem q_286 : (Jvm.Cond.code ({ cls := "RunSorter$Unsigned", name := "compare", desc := "(II)I" } : Jvm.MethodName) prog_8_method_2_code (3 : Nat) (Option.some Jvm.ClassFile.FieldType.int)) ∈ am_l := am_mem 301 (by decide +kernel) rfl
theorem q_287 : (Jvm.Cond.constant "RunSorter$Unsigned" (9 : Nat) (-2147483648 : Int32)) ∈ am_l := am_mem 302 (by decide +kernel) rfl
theorem q_288 : (Jvm.Cond.methodLink "RunSorter$Sorter" (43 : Nat) ({ cls := "RunSorter$Sorter", name := "insertion", desc := "(III)V" } : Jvm.MethodName)) ∈ am_l := am_mem 303 (by decide +kernel) rfl
theorem q_289 : (Jvm.Cond.privateMethod ({ cls := "RunSorter$Sorter", name := "insertion", desc := "(III)V" } : Jvm.MethodName)) ∈ am_l := am_mem 304 (by decide +kernel) rfl
theorem q_290 : (Jvm.Cond.instanceMethod ({ cls := "RunSorter$Sorter", name := "insertion", desc := "(III)V" } : Jvm.MethodName)) ∈ am_l := am_mem 305 (by decide +kernel) rfl
theorem q_291 : (Jvm.Cond.code ({ cls := "RunSorter$Sorter", name := "insertion", desc := "(III)V" } : Jvm.MethodName) prog_7_method_6_code (9 : Nat) (Option.none : Option Jvm.ClassFile.FieldType)) ∈ am_l := am_mem 306 (by decide +kernel) rfl
theorem q_292 : (Jvm.Cond.methodLink "RunSorter$Sorter" (47 : Nat) ({ cls := "RunSorter$Sorter", name := "settle", desc := "()V" } : Jvm.MethodName)) ∈ am_l := am_mem 307 (by decide +kernel) rfl
theorem q_293 : (Jvm.Cond.privateMethod ({ cls := "RunSorter$Sorter", name := "settle", desc := "()V" } : Jvm.MethodName)) ∈ am_l := am_mem 308 (by decide +kernel) rfl
theorem q_294 : (Jvm.Cond.instanceMethod ({ cls := "RunSorter$Sorter", name := "settle", desc := "()V" } : Jvm.MethodName)) ∈ am_l := am_mem 309 (by decide +kernel) rfl
theorem q_295 : (Jvm.Cond.code ({ cls := "RunSorter$Sorter", name := "settle", desc := "()V" } : Jvm.MethodName) prog_7_method_7_code (3 : Nat) (Option.none : Option Jvm.ClassFile.FieldType)) ∈ am_l := am_mem 310 (by decide +kernel) rfl
theorem q_296 : (Jvm.Cond.methodLink "RunSorter$Sorter" (50 : Nat) ({ cls := "RunSorter$Sorter", name := "merge", desc := "(I)V" } : Jvm.MethodName)) ∈ am_l := am_mem 311 (by decide +kernel) rfl
theorem q_297 : (Jvm.Cond.privateMethod ({ cls := "RunSorter$Sorter", name := "merge", desc := "(I)V" } : Jvm.MethodName)) ∈ am_l := am_mem 312 (by decide +kernel) rfl
theorem q_298 : (Jvm.Cond.instanceMethod ({ cls := "RunSorter$Sorter", name := "merge", desc := "(I)V" } : Jvm.MethodName)) ∈ am_l := am_mem 313 (by decide +kernel) rfl
theorem q_299 : (Jvm.Cond.code ({ cls := "RunSorter$Sorter", name := "merge", desc := "(I)V" } : Jvm.MethodName) prog_7_method_8_code (7 : Nat) (Option.none : Option Jvm.ClassFile.FieldType)) ∈ am_l := am_mem 314 (by decide +kernel) rfl
theorem q_300 : (Jvm.Cond.methodLink "RunSorter$Sorter" (59 : Nat) ({ cls := "RunSorter$Sorter", name := "behind", desc := "(III)I" } : Jvm.MethodName)) ∈ am_l := am_mem 315 (by decide +kernel) rfl
theorem q_301 : (Jvm.Cond.privateMethod ({ cls := "RunSorter$Sorter", name := "behind", desc := "(III)I" } : Jvm.MethodName)) ∈ am_l := am_mem 316 (by decide +kernel) rfl
theorem q_302 : (Jvm.Cond.instanceMethod ({ cls := "RunSorter$Sorter", name := "behind", desc := "(III)I" } : Jvm.MethodName)) ∈ am_l := am_mem 317 (by decide +kernel) rfl
theorem q_303 : (Jvm.Cond.code ({ cls := "RunSorter$Sorter", name := "behind", desc := "(III)I" } : Jvm.MethodName) prog_7_method_9_code (8 : Nat) (Option.some Jvm.ClassFile.FieldType.int)) ∈ am_l := am_mem 318 (by decide +kernel) rfl
theorem q_304 : (Jvm.Cond.methodLink "RunSorter$Sorter" (63 : Nat) ({ cls := "RunSorter$Sorter", name := "notBefore", desc := "(III)I" } : Jvm.MethodName)) ∈ am_l := am_mem 319 (by decide +kernel) rfl
theorem q_305 : (Jvm.Cond.privateMethod ({ cls := "RunSorter$Sorter", name := "notBefore", desc := "(III)I" } : Jvm.MethodName)) ∈ am_l := am_mem 320 (by decide +kernel) rfl
theorem q_306 : (Jvm.Cond.instanceMethod ({ cls := "RunSorter$Sorter", name := "notBefore", desc := "(III)I" } : Jvm.MethodName)) ∈ am_l := am_mem 321 (by decide +kernel) rfl
theorem q_307 : (Jvm.Cond.code ({ cls := "RunSorter$Sorter", name := "notBefore", desc := "(III)I" } : Jvm.MethodName) prog_7_method_10_code (8 : Nat) (Option.some Jvm.ClassFile.FieldType.int)) ∈ am_l := am_mem 322 (by decide +kernel) rfl
theorem q_308 : (Jvm.Cond.methodLink "RunSorter$Sorter" (66 : Nat) ({ cls := "RunSorter$Sorter", name := "mergeUp", desc := "(IIII)V" } : Jvm.MethodName)) ∈ am_l := am_mem 323 (by decide +kernel) rfl
theorem q_309 : (Jvm.Cond.privateMethod ({ cls := "RunSorter$Sorter", name := "mergeUp", desc := "(IIII)V" } : Jvm.MethodName)) ∈ am_l := am_mem 324 (by decide +kernel) rfl
theorem q_310 : (Jvm.Cond.instanceMethod ({ cls := "RunSorter$Sorter", name := "mergeUp", desc := "(IIII)V" } : Jvm.MethodName)) ∈ am_l := am_mem 325 (by decide +kernel) rfl
theorem q_311 : (Jvm.Cond.code ({ cls := "RunSorter$Sorter", name := "mergeUp", desc := "(IIII)V" } : Jvm.MethodName) prog_7_method_11_code (14 : Nat) (Option.none : Option Jvm.ClassFile.FieldType)) ∈ am_l := am_mem 326 (by decide +kernel) rfl
theorem q_312 : (Jvm.Cond.methodLink "RunSorter$Sorter" (73 : Nat) ({ cls := "RunSorter$Sorter", name := "waiting", desc := "(III)I" } : Jvm.MethodName)) ∈ am_l := am_mem 327 (by decide +kernel) rfl
theorem q_313 : (Jvm.Cond.privateMethod ({ cls := "RunSorter$Sorter", name := "waiting", desc := "(III)I" } : Jvm.MethodName)) ∈ am_l := am_mem 328 (by decide +kernel) rfl
theorem q_314 : (Jvm.Cond.instanceMethod ({ cls := "RunSorter$Sorter", name := "waiting", desc := "(III)I" } : Jvm.MethodName)) ∈ am_l := am_mem 329 (by decide +kernel) rfl
theorem q_315 : (Jvm.Cond.code ({ cls := "RunSorter$Sorter", name := "waiting", desc := "(III)I" } : Jvm.MethodName) prog_7_method_12_code (7 : Nat) (Option.some Jvm.ClassFile.FieldType.int)) ∈ am_l := am_mem 330 (by decide +kernel) rfl
theorem q_316 : (Jvm.Cond.methodLink "RunSorter$Sorter" (70 : Nat) ({ cls := "RunSorter$Sorter", name := "mergeDown", desc := "(IIII)V" } : Jvm.MethodName)) ∈ am_l := am_mem 331 (by decide +kernel) rfl
theorem q_317 : (Jvm.Cond.privateMethod ({ cls := "RunSorter$Sorter", name := "mergeDown", desc := "(IIII)V" } : Jvm.MethodName)) ∈ am_l := am_mem 332 (by decide +kernel) rfl
theorem q_318 : (Jvm.Cond.instanceMethod ({ cls := "RunSorter$Sorter", name := "mergeDown", desc := "(IIII)V" } : Jvm.MethodName)) ∈ am_l := am_mem 333 (by decide +kernel) rfl
theorem q_319 : (Jvm.Cond.code ({ cls := "RunSorter$Sorter", name := "mergeDown", desc := "(IIII)V" } : Jvm.MethodName) prog_7_method_13_code (9 : Nat) (Option.none : Option Jvm.ClassFile.FieldType)) ∈ am_l := am_mem 334 (by decide +kernel) rfl
theorem q_320 : (Jvm.Cond.methodLink "RunSorterLaw" (61 : Nat) ({ cls := "RunSorterLaw", name := "get", desc := "(LRunSorter;I[J)I" } : Jvm.MethodName)) ∈ am_l := am_mem 335 (by decide +kernel) rfl
theorem q_321 : (Jvm.Cond.static ({ cls := "RunSorterLaw", name := "get", desc := "(LRunSorter;I[J)I" } : Jvm.MethodName)) ∈ am_l := am_mem 336 (by decide +kernel) rfl
theorem q_322 : (Jvm.Cond.codeWith ({ cls := "RunSorterLaw", name := "get", desc := "(LRunSorter;I[J)I" } : Jvm.MethodName) method_6_code (4 : Nat) (Option.some Jvm.ClassFile.FieldType.int) [((0 : Nat), (9 : Nat), (12 : Nat), (15 : Nat))]) ∈ am_l := am_mem 337 (by decide +kernel) rfl
theorem q_323 : (Jvm.Cond.methodLink "RunSorterLaw" (23 : Nat) ({ cls := "RunSorter", name := "get", desc := "(I)I" } : Jvm.MethodName)) ∈ am_l := am_mem 338 (by decide +kernel) rfl
theorem q_324 : (Jvm.Cond.instanceMethod ({ cls := "RunSorter", name := "get", desc := "(I)I" } : Jvm.MethodName)) ∈ am_l := am_mem 339 (by decide +kernel) rfl
theorem q_325 : (Jvm.Cond.selects "RunSorter" ({ cls := "RunSorter", name := "get", desc := "(I)I" } : Jvm.MethodName) ({ cls := "RunSorter", name := "get", desc := "(I)I" } : Jvm.MethodName)) ∈ am_l := am_mem 340 (by decide +kernel) rfl
theorem q_326 : (Jvm.Cond.code ({ cls := "RunSorter", name := "get", desc := "(I)I" } : Jvm.MethodName) prog_1_method_8_code (2 : Nat) (Option.some Jvm.ClassFile.FieldType.int)) ∈ am_l := am_mem 341 (by decide +kernel) rfl
theorem q_327 : (Jvm.Cond.methodLink "RunSorterLaw" (65 : Nat) ({ cls := "RunSorterLaw", name := "tag", desc := "(LRunSorter;I[J)I" } : Jvm.MethodName)) ∈ am_l := am_mem 342 (by decide +kernel) rfl
theorem q_328 : (Jvm.Cond.static ({ cls := "RunSorterLaw", name := "tag", desc := "(LRunSorter;I[J)I" } : Jvm.MethodName)) ∈ am_l := am_mem 343 (by decide +kernel) rfl
theorem q_329 : (Jvm.Cond.codeWith ({ cls := "RunSorterLaw", name := "tag", desc := "(LRunSorter;I[J)I" } : Jvm.MethodName) method_7_code (4 : Nat) (Option.some Jvm.ClassFile.FieldType.int) [((0 : Nat), (9 : Nat), (12 : Nat), (15 : Nat))]) ∈ am_l := am_mem 344 (by decide +kernel) rfl
theorem q_330 : (Jvm.Cond.methodLink "RunSorterLaw" (27 : Nat) ({ cls := "RunSorter", name := "tag", desc := "(I)I" } : Jvm.MethodName)) ∈ am_l := am_mem 345 (by decide +kernel) rfl
theorem q_331 : (Jvm.Cond.instanceMethod ({ cls := "RunSorter", name := "tag", desc := "(I)I" } : Jvm.MethodName)) ∈ am_l := am_mem 346 (by decide +kernel) rfl
theorem q_332 : (Jvm.Cond.selects "RunSorter" ({ cls := "RunSorter", name := "tag", desc := "(I)I" } : Jvm.MethodName) ({ cls := "RunSorter", name := "tag", desc := "(I)I" } : Jvm.MethodName)) ∈ am_l := am_mem 347 (by decide +kernel) rfl
theorem q_333 : (Jvm.Cond.code ({ cls := "RunSorter", name := "tag", desc := "(I)I" } : Jvm.MethodName) prog_1_method_9_code (2 : Nat) (Option.some Jvm.ClassFile.FieldType.int)) ∈ am_l := am_mem 348 (by decide +kernel) rfl
theorem q_334 : (Jvm.Cond.methodLink "RunSorterLaw" (68 : Nat) ({ cls := "RunSorterLaw", name := "set", desc := "(LRunSorter;II[J)I" } : Jvm.MethodName)) ∈ am_l := am_mem 349 (by decide +kernel) rfl
theorem q_335 : (Jvm.Cond.static ({ cls := "RunSorterLaw", name := "set", desc := "(LRunSorter;II[J)I" } : Jvm.MethodName)) ∈ am_l := am_mem 350 (by decide +kernel) rfl
theorem q_336 : (Jvm.Cond.codeWith ({ cls := "RunSorterLaw", name := "set", desc := "(LRunSorter;II[J)I" } : Jvm.MethodName) method_8_code (5 : Nat) (Option.some Jvm.ClassFile.FieldType.int) [((0 : Nat), (10 : Nat), (13 : Nat), (15 : Nat))]) ∈ am_l := am_mem 351 (by decide +kernel) rfl
theorem q_337 : (Jvm.Cond.methodLink "RunSorterLaw" (30 : Nat) ({ cls := "RunSorter", name := "set", desc := "(II)I" } : Jvm.MethodName)) ∈ am_l := am_mem 352 (by decide +kernel) rfl
theorem q_338 : (Jvm.Cond.instanceMethod ({ cls := "RunSorter", name := "set", desc := "(II)I" } : Jvm.MethodName)) ∈ am_l := am_mem 353 (by decide +kernel) rfl
theorem q_339 : (Jvm.Cond.selects "RunSorter" ({ cls := "RunSorter", name := "set", desc := "(II)I" } : Jvm.MethodName) ({ cls := "RunSorter", name := "set", desc := "(II)I" } : Jvm.MethodName)) ∈ am_l := am_mem 354 (by decide +kernel) rfl
theorem q_340 : (Jvm.Cond.code ({ cls := "RunSorter", name := "set", desc := "(II)I" } : Jvm.MethodName) prog_1_method_10_code (4 : Nat) (Option.some Jvm.ClassFile.FieldType.int)) ∈ am_l := am_mem 355 (by decide +kernel) rfl
theorem q_341 : (Jvm.Cond.methodLink "RunSorterLaw" (72 : Nat) ({ cls := "RunSorterLaw", name := "turn", desc := "(LRunSorter;II[J)I" } : Jvm.MethodName)) ∈ am_l := am_mem 356 (by decide +kernel) rfl
theorem q_342 : (Jvm.Cond.static ({ cls := "RunSorterLaw", name := "turn", desc := "(LRunSorter;II[J)I" } : Jvm.MethodName)) ∈ am_l := am_mem 357 (by decide +kernel) rfl
theorem q_343 : (Jvm.Cond.codeWith ({ cls := "RunSorterLaw", name := "turn", desc := "(LRunSorter;II[J)I" } : Jvm.MethodName) method_9_code (5 : Nat) (Option.some Jvm.ClassFile.FieldType.int) [((0 : Nat), (10 : Nat), (13 : Nat), (13 : Nat))]) ∈ am_l := am_mem 358 (by decide +kernel) rfl
theorem q_344 : (Jvm.Cond.methodLink "RunSorterLaw" (34 : Nat) ({ cls := "RunSorter", name := "turn", desc := "(II)I" } : Jvm.MethodName)) ∈ am_l := am_mem 359 (by decide +kernel) rfl
theorem q_345 : (Jvm.Cond.instanceMethod ({ cls := "RunSorter", name := "turn", desc := "(II)I" } : Jvm.MethodName)) ∈ am_l := am_mem 360 (by decide +kernel) rfl
theorem q_346 : (Jvm.Cond.selects "RunSorter" ({ cls := "RunSorter", name := "turn", desc := "(II)I" } : Jvm.MethodName) ({ cls := "RunSorter", name := "turn", desc := "(II)I" } : Jvm.MethodName)) ∈ am_l := am_mem 361 (by decide +kernel) rfl
theorem q_347 : (Jvm.Cond.code ({ cls := "RunSorter", name := "turn", desc := "(II)I" } : Jvm.MethodName) prog_1_method_11_code (7 : Nat) (Option.some Jvm.ClassFile.FieldType.int)) ∈ am_l := am_mem 362 (by decide +kernel) rfl
theorem q_348 : (Jvm.Cond.methodLink "RunSorterLaw" (75 : Nat) ({ cls := "RunSorterLaw", name := "upTo", desc := "(LRunSorter;IIZ[J)I" } : Jvm.MethodName)) ∈ am_l := am_mem 363 (by decide +kernel) rfl
theorem q_349 : (Jvm.Cond.static ({ cls := "RunSorterLaw", name := "upTo", desc := "(LRunSorter;IIZ[J)I" } : Jvm.MethodName)) ∈ am_l := am_mem 364 (by decide +kernel) rfl
theorem q_350 : (Jvm.Cond.codeWith ({ cls := "RunSorterLaw", name := "upTo", desc := "(LRunSorter;IIZ[J)I" } : Jvm.MethodName) method_10_code (6 : Nat) (Option.some Jvm.ClassFile.FieldType.int) [((0 : Nat), (12 : Nat), (15 : Nat), (13 : Nat))]) ∈ am_l := am_mem 365 (by decide +kernel) rfl
theorem q_351 : (Jvm.Cond.methodLink "RunSorterLaw" (37 : Nat) ({ cls := "RunSorter", name := "upTo", desc := "(IIZ)I" } : Jvm.MethodName)) ∈ am_l := am_mem 366 (by decide +kernel) rfl
theorem q_352 : (Jvm.Cond.instanceMethod ({ cls := "RunSorter", name := "upTo", desc := "(IIZ)I" } : Jvm.MethodName)) ∈ am_l := am_mem 367 (by decide +kernel) rfl
theorem q_353 : (Jvm.Cond.selects "RunSorter" ({ cls := "RunSorter", name := "upTo", desc := "(IIZ)I" } : Jvm.MethodName) ({ cls := "RunSorter", name := "upTo", desc := "(IIZ)I" } : Jvm.MethodName)) ∈ am_l := am_mem 368 (by decide +kernel) rfl
theorem q_354 : (Jvm.Cond.code ({ cls := "RunSorter", name := "upTo", desc := "(IIZ)I" } : Jvm.MethodName) prog_1_method_12_code (6 : Nat) (Option.some Jvm.ClassFile.FieldType.int)) ∈ am_l := am_mem 369 (by decide +kernel) rfl
theorem q_356 : (Jvm.Cond.methodLink "RunSorter" (84 : Nat) ({ cls := "RunSorter$Order", name := "compare", desc := "(II)I" } : Jvm.MethodName)) ∈ am_l := am_mem 371 (by decide +kernel) rfl
theorem q_357 : (Jvm.Cond.classLink "RunSorterLaw" (42 : Nat) "RunSorterModel") ∈ am_l := am_mem 372 (by decide +kernel) rfl
theorem q_358 : (Jvm.Cond.instantiable "RunSorterModel" (4 : Nat)) ∈ am_l := am_mem 373 (by decide +kernel) rfl
theorem q_359 : (Jvm.Cond.methodLink "RunSorterLaw" (44 : Nat) ({ cls := "RunSorterModel", name := "<init>", desc := "()V" } : Jvm.MethodName)) ∈ am_l := am_mem 374 (by decide +kernel) rfl
theorem q_360 : (Jvm.Cond.instanceMethod ({ cls := "RunSorterModel", name := "<init>", desc := "()V" } : Jvm.MethodName)) ∈ am_l := am_mem 375 (by decide +kernel) rfl
theorem q_361 : (Jvm.Cond.code ({ cls := "RunSorterModel", name := "<init>", desc := "()V" } : Jvm.MethodName) prog_10_method_1_code (1 : Nat) (Option.none : Option Jvm.ClassFile.FieldType)) ∈ am_l := am_mem 376 (by decide +kernel) rfl
theorem q_362 : (Jvm.Cond.methodLink "RunSorterModel" (1 : Nat) ({ cls := "java/lang/Object", name := "<init>", desc := "()V" } : Jvm.MethodName)) ∈ am_l := am_mem 377 (by decide +kernel) rfl
theorem q_363 : (Jvm.Cond.fieldLink "RunSorterModel" (16 : Nat) "RunSorterModel" "failed" "I") ∈ am_l := am_mem 378 (by decide +kernel) rfl
theorem q_364 : (Jvm.Cond.fieldLink "RunSorterModel" (21 : Nat) "RunSorterModel" "size" "I") ∈ am_l := am_mem 379 (by decide +kernel) rfl
theorem q_365 : (Jvm.Cond.fieldLink "RunSorterModel" (7 : Nat) "RunSorterModel" "row" "[I") ∈ am_l := am_mem 380 (by decide +kernel) rfl
theorem q_366 : (Jvm.Cond.fieldLink "RunSorterModel" (13 : Nat) "RunSorterModel" "tags" "[I") ∈ am_l := am_mem 381 (by decide +kernel) rfl
theorem q_367 : (Jvm.Cond.lays "RunSorterModel" "RunSorterModel" "failed" "I") ∈ am_l := am_mem 382 (by decide +kernel) rfl
theorem q_368 : (Jvm.Cond.soleField "RunSorterModel" "failed") ∈ am_l := am_mem 383 (by decide +kernel) rfl
theorem q_369 : (Jvm.Cond.lays "RunSorterModel" "RunSorterModel" "size" "I") ∈ am_l := am_mem 384 (by decide +kernel) rfl
theorem q_370 : (Jvm.Cond.soleField "RunSorterModel" "size") ∈ am_l := am_mem 385 (by decide +kernel) rfl
theorem q_371 : (Jvm.Cond.laysFinal "RunSorterModel" "RunSorterModel" "row" "[I") ∈ am_l := am_mem 386 (by decide +kernel) rfl
theorem q_372 : (Jvm.Cond.soleField "RunSorterModel" "row") ∈ am_l := am_mem 387 (by decide +kernel) rfl
theorem q_373 : (Jvm.Cond.laysFinal "RunSorterModel" "RunSorterModel" "tags" "[I") ∈ am_l := am_mem 388 (by decide +kernel) rfl
theorem q_374 : (Jvm.Cond.soleField "RunSorterModel" "tags") ∈ am_l := am_mem 389 (by decide +kernel) rfl
theorem q_375 : (Jvm.Cond.superclass "RunSorterModel" "java/lang/Object") ∈ am_l := am_mem 390 (by decide +kernel) rfl
theorem q_376 : (Jvm.Cond.methodLink "RunSorterLaw" (51 : Nat) ({ cls := "RunSorterModel", name := "thrown", desc := "()I" } : Jvm.MethodName)) ∈ am_l := am_mem 391 (by decide +kernel) rfl
theorem q_377 : (Jvm.Cond.instanceMethod ({ cls := "RunSorterModel", name := "thrown", desc := "()I" } : Jvm.MethodName)) ∈ am_l := am_mem 392 (by decide +kernel) rfl
theorem q_378 : (Jvm.Cond.selects "RunSorterModel" ({ cls := "RunSorterModel", name := "thrown", desc := "()I" } : Jvm.MethodName) ({ cls := "RunSorterModel", name := "thrown", desc := "()I" } : Jvm.MethodName)) ∈ am_l := am_mem 393 (by decide +kernel) rfl
theorem q_379 : (Jvm.Cond.code ({ cls := "RunSorterModel", name := "thrown", desc := "()I" } : Jvm.MethodName) prog_10_method_2_code (1 : Nat) (Option.some Jvm.ClassFile.FieldType.int)) ∈ am_l := am_mem 394 (by decide +kernel) rfl
theorem q_380 : (Jvm.Cond.methodLink "RunSorterLaw" (50 : Nat) ({ cls := "RunSorterModel", name := "fill", desc := "(III)I" } : Jvm.MethodName)) ∈ am_l := am_mem 395 (by decide +kernel) rfl
theorem q_381 : (Jvm.Cond.instanceMethod ({ cls := "RunSorterModel", name := "fill", desc := "(III)I" } : Jvm.MethodName)) ∈ am_l := am_mem 396 (by decide +kernel) rfl
theorem q_382 : (Jvm.Cond.selects "RunSorterModel" ({ cls := "RunSorterModel", name := "fill", desc := "(III)I" } : Jvm.MethodName) ({ cls := "RunSorterModel", name := "fill", desc := "(III)I" } : Jvm.MethodName)) ∈ am_l := am_mem 397 (by decide +kernel) rfl
theorem q_383 : (Jvm.Cond.code ({ cls := "RunSorterModel", name := "fill", desc := "(III)I" } : Jvm.MethodName) prog_10_method_6_code (5 : Nat) (Option.some Jvm.ClassFile.FieldType.int)) ∈ am_l := am_mem 398 (by decide +kernel) rfl
theorem q_384 : (Jvm.Cond.methodLink "RunSorterModel" (24 : Nat) ({ cls := "RunSorterModel", name := "fail", desc := "(I)I" } : Jvm.MethodName)) ∈ am_l := am_mem 399 (by decide +kernel) rfl
theorem q_385 : (Jvm.Cond.privateMethod ({ cls := "RunSorterModel", name := "fail", desc := "(I)I" } : Jvm.MethodName)) ∈ am_l := am_mem 400 (by decide +kernel) rfl
theorem q_386 : (Jvm.Cond.instanceMethod ({ cls := "RunSorterModel", name := "fail", desc := "(I)I" } : Jvm.MethodName)) ∈ am_l := am_mem 401 (by decide +kernel) rfl
theorem q_387 : (Jvm.Cond.code ({ cls := "RunSorterModel", name := "fail", desc := "(I)I" } : Jvm.MethodName) prog_10_method_3_code (2 : Nat) (Option.some Jvm.ClassFile.FieldType.int)) ∈ am_l := am_mem 402 (by decide +kernel) rfl
theorem q_388 : (Jvm.Cond.methodLink "RunSorterModel" (28 : Nat) ({ cls := "RunSorterModel", name := "append", desc := "(I)V" } : Jvm.MethodName)) ∈ am_l := am_mem 403 (by decide +kernel) rfl
theorem q_389 : (Jvm.Cond.privateMethod ({ cls := "RunSorterModel", name := "append", desc := "(I)V" } : Jvm.MethodName)) ∈ am_l := am_mem 404 (by decide +kernel) rfl
theorem q_390 : (Jvm.Cond.instanceMethod ({ cls := "RunSorterModel", name := "append", desc := "(I)V" } : Jvm.MethodName)) ∈ am_l := am_mem 405 (by decide +kernel) rfl
theorem q_391 : (Jvm.Cond.code ({ cls := "RunSorterModel", name := "append", desc := "(I)V" } : Jvm.MethodName) prog_10_method_5_code (2 : Nat) (Option.none : Option Jvm.ClassFile.FieldType)) ∈ am_l := am_mem 406 (by decide +kernel) rfl
theorem q_392 : (Jvm.Cond.methodLink "RunSorterLaw" (57 : Nat) ({ cls := "RunSorterModel", name := "scatter", desc := "(III)I" } : Jvm.MethodName)) ∈ am_l := am_mem 407 (by decide +kernel) rfl
theorem q_393 : (Jvm.Cond.instanceMethod ({ cls := "RunSorterModel", name := "scatter", desc := "(III)I" } : Jvm.MethodName)) ∈ am_l := am_mem 408 (by decide +kernel) rfl
theorem q_394 : (Jvm.Cond.selects "RunSorterModel" ({ cls := "RunSorterModel", name := "scatter", desc := "(III)I" } : Jvm.MethodName) ({ cls := "RunSorterModel", name := "scatter", desc := "(III)I" } : Jvm.MethodName)) ∈ am_l := am_mem 409 (by decide +kernel) rfl
theorem q_395 : (Jvm.Cond.code ({ cls := "RunSorterModel", name := "scatter", desc := "(III)I" } : Jvm.MethodName) prog_10_method_7_code (6 : Nat) (Option.some Jvm.ClassFile.FieldType.int)) ∈ am_l := am_mem 410 (by decide +kernel) rfl
theorem q_396 : (Jvm.Cond.constant "RunSorterModel" (32 : Nat) (1664525 : Int32)) ∈ am_l := am_mem 411 (by decide +kernel) rfl
theorem q_397 : (Jvm.Cond.constant "RunSorterModel" (33 : Nat) (1013904223 : Int32)) ∈ am_l := am_mem 412 (by decide +kernel) rfl
theorem q_398 : (Jvm.Cond.methodLink "RunSorterLaw" (60 : Nat) ({ cls := "RunSorterModel", name := "sort", desc := "(III)I" } : Jvm.MethodName)) ∈ am_l := am_mem 413 (by decide +kernel) rfl
theorem q_399 : (Jvm.Cond.instanceMethod ({ cls := "RunSorterModel", name := "sort", desc := "(III)I" } : Jvm.MethodName)) ∈ am_l := am_mem 414 (by decide +kernel) rfl
theorem q_400 : (Jvm.Cond.selects "RunSorterModel" ({ cls := "RunSorterModel", name := "sort", desc := "(III)I" } : Jvm.MethodName) ({ cls := "RunSorterModel", name := "sort", desc := "(III)I" } : Jvm.MethodName)) ∈ am_l := am_mem 415 (by decide +kernel) rfl
theorem q_401 : (Jvm.Cond.code ({ cls := "RunSorterModel", name := "sort", desc := "(III)I" } : Jvm.MethodName) prog_10_method_9_code (8 : Nat) (Option.some Jvm.ClassFile.FieldType.int)) ∈ am_l := am_mem 416 (by decide +kernel) rfl
theorem q_402 : (Jvm.Cond.methodLink "RunSorterModel" (34 : Nat) ({ cls := "RunSorterModel", name := "bad", desc := "(II)Z" } : Jvm.MethodName)) ∈ am_l := am_mem 417 (by decide +kernel) rfl
theorem q_403 : (Jvm.Cond.privateMethod ({ cls := "RunSorterModel", name := "bad", desc := "(II)Z" } : Jvm.MethodName)) ∈ am_l := am_mem 418 (by decide +kernel) rfl
theorem q_404 : (Jvm.Cond.instanceMethod ({ cls := "RunSorterModel", name := "bad", desc := "(II)Z" } : Jvm.MethodName)) ∈ am_l := am_mem 419 (by decide +kernel) rfl
theorem q_405 : (Jvm.Cond.code ({ cls := "RunSorterModel", name := "bad", desc := "(II)Z" } : Jvm.MethodName) prog_10_method_8_code (3 : Nat) (Option.some Jvm.ClassFile.FieldType.boolean)) ∈ am_l := am_mem 420 (by decide +kernel) rfl
theorem q_406 : (Jvm.Cond.methodLink "RunSorterModel" (38 : Nat) ({ cls := "RunSorterModel", name := "rank", desc := "(II)I" } : Jvm.MethodName)) ∈ am_l := am_mem 421 (by decide +kernel) rfl
theorem q_407 : (Jvm.Cond.privateMethod ({ cls := "RunSorterModel", name := "rank", desc := "(II)I" } : Jvm.MethodName)) ∈ am_l := am_mem 422 (by decide +kernel) rfl
theorem q_408 : (Jvm.Cond.instanceMethod ({ cls := "RunSorterModel", name := "rank", desc := "(II)I" } : Jvm.MethodName)) ∈ am_l := am_mem 423 (by decide +kernel) rfl
theorem q_409 : (Jvm.Cond.code ({ cls := "RunSorterModel", name := "rank", desc := "(II)I" } : Jvm.MethodName) prog_10_method_4_code (3 : Nat) (Option.some Jvm.ClassFile.FieldType.int)) ∈ am_l := am_mem 424 (by decide +kernel) rfl
theorem q_410 : (Jvm.Cond.constant "RunSorterModel" (20 : Nat) (-2147483648 : Int32)) ∈ am_l := am_mem 425 (by decide +kernel) rfl
theorem q_411 : (Jvm.Cond.methodLink "RunSorterLaw" (64 : Nat) ({ cls := "RunSorterModel", name := "get", desc := "(I)I" } : Jvm.MethodName)) ∈ am_l := am_mem 426 (by decide +kernel) rfl
theorem q_412 : (Jvm.Cond.instanceMethod ({ cls := "RunSorterModel", name := "get", desc := "(I)I" } : Jvm.MethodName)) ∈ am_l := am_mem 427 (by decide +kernel) rfl
theorem q_413 : (Jvm.Cond.selects "RunSorterModel" ({ cls := "RunSorterModel", name := "get", desc := "(I)I" } : Jvm.MethodName) ({ cls := "RunSorterModel", name := "get", desc := "(I)I" } : Jvm.MethodName)) ∈ am_l := am_mem 428 (by decide +kernel) rfl
theorem q_414 : (Jvm.Cond.code ({ cls := "RunSorterModel", name := "get", desc := "(I)I" } : Jvm.MethodName) prog_10_method_10_code (2 : Nat) (Option.some Jvm.ClassFile.FieldType.int)) ∈ am_l := am_mem 429 (by decide +kernel) rfl
theorem q_415 : (Jvm.Cond.methodLink "RunSorterLaw" (67 : Nat) ({ cls := "RunSorterModel", name := "tag", desc := "(I)I" } : Jvm.MethodName)) ∈ am_l := am_mem 430 (by decide +kernel) rfl
theorem q_416 : (Jvm.Cond.instanceMethod ({ cls := "RunSorterModel", name := "tag", desc := "(I)I" } : Jvm.MethodName)) ∈ am_l := am_mem 431 (by decide +kernel) rfl
theorem q_417 : (Jvm.Cond.selects "RunSorterModel" ({ cls := "RunSorterModel", name := "tag", desc := "(I)I" } : Jvm.MethodName) ({ cls := "RunSorterModel", name := "tag", desc := "(I)I" } : Jvm.MethodName)) ∈ am_l := am_mem 432 (by decide +kernel) rfl
theorem q_418 : (Jvm.Cond.code ({ cls := "RunSorterModel", name := "tag", desc := "(I)I" } : Jvm.MethodName) prog_10_method_11_code (2 : Nat) (Option.some Jvm.ClassFile.FieldType.int)) ∈ am_l := am_mem 433 (by decide +kernel) rfl
theorem q_419 : (Jvm.Cond.methodLink "RunSorterLaw" (71 : Nat) ({ cls := "RunSorterModel", name := "set", desc := "(II)I" } : Jvm.MethodName)) ∈ am_l := am_mem 434 (by decide +kernel) rfl
theorem q_420 : (Jvm.Cond.instanceMethod ({ cls := "RunSorterModel", name := "set", desc := "(II)I" } : Jvm.MethodName)) ∈ am_l := am_mem 435 (by decide +kernel) rfl
theorem q_421 : (Jvm.Cond.selects "RunSorterModel" ({ cls := "RunSorterModel", name := "set", desc := "(II)I" } : Jvm.MethodName) ({ cls := "RunSorterModel", name := "set", desc := "(II)I" } : Jvm.MethodName)) ∈ am_l := am_mem 436 (by decide +kernel) rfl
theorem q_422 : (Jvm.Cond.code ({ cls := "RunSorterModel", name := "set", desc := "(II)I" } : Jvm.MethodName) prog_10_method_12_code (4 : Nat) (Option.some Jvm.ClassFile.FieldType.int)) ∈ am_l := am_mem 437 (by decide +kernel) rfl
theorem q_423 : (Jvm.Cond.methodLink "RunSorterLaw" (74 : Nat) ({ cls := "RunSorterModel", name := "turn", desc := "(II)I" } : Jvm.MethodName)) ∈ am_l := am_mem 438 (by decide +kernel) rfl
theorem q_424 : (Jvm.Cond.instanceMethod ({ cls := "RunSorterModel", name := "turn", desc := "(II)I" } : Jvm.MethodName)) ∈ am_l := am_mem 439 (by decide +kernel) rfl
theorem q_425 : (Jvm.Cond.selects "RunSorterModel" ({ cls := "RunSorterModel", name := "turn", desc := "(II)I" } : Jvm.MethodName) ({ cls := "RunSorterModel", name := "turn", desc := "(II)I" } : Jvm.MethodName)) ∈ am_l := am_mem 440 (by decide +kernel) rfl
theorem q_426 : (Jvm.Cond.code ({ cls := "RunSorterModel", name := "turn", desc := "(II)I" } : Jvm.MethodName) prog_10_method_13_code (7 : Nat) (Option.some Jvm.ClassFile.FieldType.int)) ∈ am_l := am_mem 441 (by decide +kernel) rfl
theorem q_427 : (Jvm.Cond.methodLink "RunSorterLaw" (78 : Nat) ({ cls := "RunSorterModel", name := "upTo", desc := "(IIZ)I" } : Jvm.MethodName)) ∈ am_l := am_mem 442 (by decide +kernel) rfl
theorem q_428 : (Jvm.Cond.instanceMethod ({ cls := "RunSorterModel", name := "upTo", desc := "(IIZ)I" } : Jvm.MethodName)) ∈ am_l := am_mem 443 (by decide +kernel) rfl
theorem q_429 : (Jvm.Cond.selects "RunSorterModel" ({ cls := "RunSorterModel", name := "upTo", desc := "(IIZ)I" } : Jvm.MethodName) ({ cls := "RunSorterModel", name := "upTo", desc := "(IIZ)I" } : Jvm.MethodName)) ∈ am_l := am_mem 444 (by decide +kernel) rfl
theorem q_430 : (Jvm.Cond.code ({ cls := "RunSorterModel", name := "upTo", desc := "(IIZ)I" } : Jvm.MethodName) prog_10_method_14_code (5 : Nat) (Option.some Jvm.ClassFile.FieldType.int)) ∈ am_l := am_mem 445 (by decide +kernel) rfl
theorem q_431 : (Jvm.Cond.methodLink "RunSorterLaw" (82 : Nat) ({ cls := "RunSorterModel", name := "clear", desc := "()I" } : Jvm.MethodName)) ∈ am_l := am_mem 446 (by decide +kernel) rfl
theorem q_432 : (Jvm.Cond.instanceMethod ({ cls := "RunSorterModel", name := "clear", desc := "()I" } : Jvm.MethodName)) ∈ am_l := am_mem 447 (by decide +kernel) rfl
theorem q_433 : (Jvm.Cond.selects "RunSorterModel" ({ cls := "RunSorterModel", name := "clear", desc := "()I" } : Jvm.MethodName) ({ cls := "RunSorterModel", name := "clear", desc := "()I" } : Jvm.MethodName)) ∈ am_l := am_mem 448 (by decide +kernel) rfl
theorem q_434 : (Jvm.Cond.code ({ cls := "RunSorterModel", name := "clear", desc := "()I" } : Jvm.MethodName) prog_10_method_15_code (2 : Nat) (Option.some Jvm.ClassFile.FieldType.int)) ∈ am_l := am_mem 449 (by decide +kernel) rfl
theorem q_435 : (Jvm.Cond.methodLink "RunSorterLaw" (86 : Nat) ({ cls := "RunSorterModel", name := "hash", desc := "()I" } : Jvm.MethodName)) ∈ am_l := am_mem 450 (by decide +kernel) rfl
theorem q_436 : (Jvm.Cond.instanceMethod ({ cls := "RunSorterModel", name := "hash", desc := "()I" } : Jvm.MethodName)) ∈ am_l := am_mem 451 (by decide +kernel) rfl
theorem q_437 : (Jvm.Cond.selects "RunSorterModel" ({ cls := "RunSorterModel", name := "hash", desc := "()I" } : Jvm.MethodName) ({ cls := "RunSorterModel", name := "hash", desc := "()I" } : Jvm.MethodName)) ∈ am_l := am_mem 452 (by decide +kernel) rfl
theorem q_438 : (Jvm.Cond.code ({ cls := "RunSorterModel", name := "hash", desc := "()I" } : Jvm.MethodName) prog_10_method_16_code (3 : Nat) (Option.some Jvm.ClassFile.FieldType.int)) ∈ am_l := am_mem 453 (by decide +kernel) rfl
theorem q_439 : (Jvm.Cond.arrayClass Jvm.ClassFile.FieldType.long) ∈ am_l := am_mem 454 (by decide +kernel) rfl
theorem q_440 : (Jvm.Cond.sameMethod "java/lang/Throwable" "java/lang/Throwable" "fillInStackTrace" "(I)Ljava/lang/Throwable;") ∈ am_l := am_mem 455 (by decide +kernel) rfl
