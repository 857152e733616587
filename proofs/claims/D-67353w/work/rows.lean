section
-- ===== PART A: goes FIRST, ahead of the names: the tables' words, and 'selects' of the private methods out of them =====
/-- a private method of a class that the tables say can be made, by its rows of tables_1 -/
def lw_okq (q : MethodName × Nat) : Prop := (q.1.cls ≠ "java/lang/invoke/MethodHandle" ∧ q.1.cls ≠ "java/lang/invoke/VarHandle") ∧ Cond.instantiable q.1.cls q.2 ∈ tables_1 ∧ Cond.privateMethod q.1 ∈ tables_1 ∧ Cond.instanceMethod q.1 ∈ tables_1
theorem lw_p0 : lw_okq (⟨"java/lang/Throwable", "fillInStackTrace", "(I)Ljava/lang/Throwable;"⟩, 6) := ⟨⟨by decide +kernel, by decide +kernel⟩, List.mem_of_getElem? (i := 161) (by decide +kernel), List.mem_of_getElem? (i := 159) (by decide +kernel), List.mem_of_getElem? (i := 160) (by decide +kernel)⟩
theorem lw_p1 : lw_okq (⟨"RunSorter", "add", "(I)V"⟩, 7) := ⟨⟨by decide +kernel, by decide +kernel⟩, List.mem_of_getElem? (i := 15) (by decide +kernel), List.mem_of_getElem? (i := 204) (by decide +kernel), List.mem_of_getElem? (i := 205) (by decide +kernel)⟩
theorem lw_p2 : lw_okq (⟨"RunSorter$Sorter", "run", "(II)I"⟩, 7) := ⟨⟨by decide +kernel, by decide +kernel⟩, List.mem_of_getElem? (i := 53) (by decide +kernel), List.mem_of_getElem? (i := 248) (by decide +kernel), List.mem_of_getElem? (i := 249) (by decide +kernel)⟩
theorem lw_p3 : lw_okq (⟨"RunSorter$Sorter", "insertion", "(III)V"⟩, 7) := ⟨⟨by decide +kernel, by decide +kernel⟩, List.mem_of_getElem? (i := 53) (by decide +kernel), List.mem_of_getElem? (i := 289) (by decide +kernel), List.mem_of_getElem? (i := 290) (by decide +kernel)⟩
theorem lw_p4 : lw_okq (⟨"RunSorter$Sorter", "settle", "()V"⟩, 7) := ⟨⟨by decide +kernel, by decide +kernel⟩, List.mem_of_getElem? (i := 53) (by decide +kernel), List.mem_of_getElem? (i := 293) (by decide +kernel), List.mem_of_getElem? (i := 294) (by decide +kernel)⟩
theorem lw_p5 : lw_okq (⟨"RunSorter$Sorter", "merge", "(I)V"⟩, 7) := ⟨⟨by decide +kernel, by decide +kernel⟩, List.mem_of_getElem? (i := 53) (by decide +kernel), List.mem_of_getElem? (i := 297) (by decide +kernel), List.mem_of_getElem? (i := 298) (by decide +kernel)⟩
theorem lw_p6 : lw_okq (⟨"RunSorter$Sorter", "behind", "(III)I"⟩, 7) := ⟨⟨by decide +kernel, by decide +kernel⟩, List.mem_of_getElem? (i := 53) (by decide +kernel), List.mem_of_getElem? (i := 301) (by decide +kernel), List.mem_of_getElem? (i := 302) (by decide +kernel)⟩
theorem lw_p7 : lw_okq (⟨"RunSorter$Sorter", "notBefore", "(III)I"⟩, 7) := ⟨⟨by decide +kernel, by decide +kernel⟩, List.mem_of_getElem? (i := 53) (by decide +kernel), List.mem_of_getElem? (i := 305) (by decide +kernel), List.mem_of_getElem? (i := 306) (by decide +kernel)⟩
theorem lw_p8 : lw_okq (⟨"RunSorter$Sorter", "mergeUp", "(IIII)V"⟩, 7) := ⟨⟨by decide +kernel, by decide +kernel⟩, List.mem_of_getElem? (i := 53) (by decide +kernel), List.mem_of_getElem? (i := 309) (by decide +kernel), List.mem_of_getElem? (i := 310) (by decide +kernel)⟩
theorem lw_p9 : lw_okq (⟨"RunSorter$Sorter", "waiting", "(III)I"⟩, 7) := ⟨⟨by decide +kernel, by decide +kernel⟩, List.mem_of_getElem? (i := 53) (by decide +kernel), List.mem_of_getElem? (i := 313) (by decide +kernel), List.mem_of_getElem? (i := 314) (by decide +kernel)⟩
theorem lw_p10 : lw_okq (⟨"RunSorter$Sorter", "mergeDown", "(IIII)V"⟩, 7) := ⟨⟨by decide +kernel, by decide +kernel⟩, List.mem_of_getElem? (i := 53) (by decide +kernel), List.mem_of_getElem? (i := 317) (by decide +kernel), List.mem_of_getElem? (i := 318) (by decide +kernel)⟩
theorem lw_p11 : lw_okq (⟨"RunSorterModel", "fail", "(I)I"⟩, 4) := ⟨⟨by decide +kernel, by decide +kernel⟩, List.mem_of_getElem? (i := 358) (by decide +kernel), List.mem_of_getElem? (i := 385) (by decide +kernel), List.mem_of_getElem? (i := 386) (by decide +kernel)⟩
theorem lw_p12 : lw_okq (⟨"RunSorterModel", "append", "(I)V"⟩, 4) := ⟨⟨by decide +kernel, by decide +kernel⟩, List.mem_of_getElem? (i := 358) (by decide +kernel), List.mem_of_getElem? (i := 389) (by decide +kernel), List.mem_of_getElem? (i := 390) (by decide +kernel)⟩
theorem lw_p13 : lw_okq (⟨"RunSorterModel", "bad", "(II)Z"⟩, 4) := ⟨⟨by decide +kernel, by decide +kernel⟩, List.mem_of_getElem? (i := 358) (by decide +kernel), List.mem_of_getElem? (i := 403) (by decide +kernel), List.mem_of_getElem? (i := 404) (by decide +kernel)⟩
theorem lw_p14 : lw_okq (⟨"RunSorterModel", "rank", "(II)I"⟩, 4) := ⟨⟨by decide +kernel, by decide +kernel⟩, List.mem_of_getElem? (i := 358) (by decide +kernel), List.mem_of_getElem? (i := 407) (by decide +kernel), List.mem_of_getElem? (i := 408) (by decide +kernel)⟩
def lw_privs_1 : List (MethodName × Nat) := [(⟨"java/lang/Throwable", "fillInStackTrace", "(I)Ljava/lang/Throwable;"⟩, 6), (⟨"RunSorter", "add", "(I)V"⟩, 7), (⟨"RunSorter$Sorter", "run", "(II)I"⟩, 7), (⟨"RunSorter$Sorter", "insertion", "(III)V"⟩, 7), (⟨"RunSorter$Sorter", "settle", "()V"⟩, 7), (⟨"RunSorter$Sorter", "merge", "(I)V"⟩, 7), (⟨"RunSorter$Sorter", "behind", "(III)I"⟩, 7), (⟨"RunSorter$Sorter", "notBefore", "(III)I"⟩, 7), (⟨"RunSorter$Sorter", "mergeUp", "(IIII)V"⟩, 7), (⟨"RunSorter$Sorter", "waiting", "(III)I"⟩, 7), (⟨"RunSorter$Sorter", "mergeDown", "(IIII)V"⟩, 7), (⟨"RunSorterModel", "fail", "(I)I"⟩, 4), (⟨"RunSorterModel", "append", "(I)V"⟩, 4), (⟨"RunSorterModel", "bad", "(II)Z"⟩, 4), (⟨"RunSorterModel", "rank", "(II)I"⟩, 4)]
theorem lw_r1 : ∀ q ∈ lw_privs_1, lw_okq q := List.forall_mem_cons.mpr ⟨lw_p0, List.forall_mem_cons.mpr ⟨lw_p1, List.forall_mem_cons.mpr ⟨lw_p2, List.forall_mem_cons.mpr ⟨lw_p3, List.forall_mem_cons.mpr ⟨lw_p4, List.forall_mem_cons.mpr ⟨lw_p5, List.forall_mem_cons.mpr ⟨lw_p6, List.forall_mem_cons.mpr ⟨lw_p7, List.forall_mem_cons.mpr ⟨lw_p8, List.forall_mem_cons.mpr ⟨lw_p9, List.forall_mem_cons.mpr ⟨lw_p10, List.forall_mem_cons.mpr ⟨lw_p11, List.forall_mem_cons.mpr ⟨lw_p12, List.forall_mem_cons.mpr ⟨lw_p13, List.forall_mem_cons.mpr ⟨lw_p14, fun _ h => absurd h List.not_mem_nil⟩⟩⟩⟩⟩⟩⟩⟩⟩⟩⟩⟩⟩⟩⟩
def lw_privs : List (MethodName × Nat) := lw_privs_1
def lw_tbl : List Cond := k2_sels lw_privs ++ tables_1
theorem lw_privs_ok : ∀ q ∈ lw_privs, lw_okq q := lw_r1
end
section
/-! the tables' words as one fact of a state that warmer tables keep -/
def am_ok (w : Cond) : Bool := match w with
  | .arrayClass _ => true
  | .arrayOver (.object _) => true
  | .methodLinkNest _ _ _ _ => true
  | w => w.onTables && w.keepsFace
def am_l : List Cond := lw_tbl.filter am_ok
theorem am_mem {w : Cond} (i : Nat) (h : lw_tbl[i]? = some w) (ok : am_ok w = true) : w ∈ am_l := List.mem_filter.mpr ⟨List.mem_of_getElem? h, ok⟩
theorem am_any {w : Cond} (ok : am_ok w = true) {A A' : Array Value} {U : State} (h : w.before A U = true) : w.before A' U = true := by
  unfold am_ok at ok
  split at ok
  · exact h
  · exact h
  · exact va_any rfl h
  · rename_i w _ _ _
    simp only [Bool.and_eq_true] at ok
    exact va_any ok.1 h
theorem am_warm {w : Cond} (ok : am_ok w = true) {A : Array Value} {s U : State} (hW : s.WarmedH U.vm) (h : w.before A s = true) : w.before A U = true := by
  unfold am_ok at ok
  split at ok
  · exact word_at hW (Or.inr ⟨_, rfl⟩) h
  · exact va_AO.use (va_AO.moved hW.alike (va_AO.of h))
  · exact (va_Nw.warmM hW (va_Nw.of rfl h)).use rfl
  · rename_i w _ _ _
    simp only [Bool.and_eq_true] at ok
    exact va_tabs ok.1 (rfl : (s.setVm U.vm).vm = U.vm) (Cond.before_shiftedFace (args := A) (State.Shifted.of_warmed hW) _ ok.2 h)
def AM (U : State) : Prop := ∀ w ∈ am_l, w.before #[] U = true
theorem AM.of {args : Array Value} {s : State} (h : ∀ w ∈ lw_tbl, w.before args s = true) : AM s := fun w hw => am_any (List.mem_filter.mp hw).2 (h w (List.mem_filter.mp hw).1)
theorem AM.use {s : State} (h : AM s) (args : Array Value) : ∀ w ∈ am_l, w.before args s = true := fun w hw => am_any (List.mem_filter.mp hw).2 (h w hw)
theorem AM.warm {s U : State} (hW : s.WarmedH U.vm) (h : AM s) : AM U := fun w hw => am_warm (List.mem_filter.mp hw).2 hW (h w hw)
theorem AM.blind {U : State} {g : JFrame} {mk : MethodId} {a : Array Value} (h : AM U) : AM (U.calling g mk a) := AM.warm (s := U) (U := U.calling g mk a) (State.WarmedH.refl U) h

theorem q_s0 : Cond.selects "java/lang/Throwable" (⟨"java/lang/Throwable", "fillInStackTrace", "(I)Ljava/lang/Throwable;"⟩ : MethodName) (⟨"java/lang/Throwable", "fillInStackTrace", "(I)Ljava/lang/Throwable;"⟩ : MethodName) ∈ am_l := am_mem 0 (by decide +kernel) rfl
theorem q_s1 : Cond.selects "RunSorter" (⟨"RunSorter", "add", "(I)V"⟩ : MethodName) (⟨"RunSorter", "add", "(I)V"⟩ : MethodName) ∈ am_l := am_mem 1 (by decide +kernel) rfl
theorem q_s2 : Cond.selects "RunSorter$Sorter" (⟨"RunSorter$Sorter", "run", "(II)I"⟩ : MethodName) (⟨"RunSorter$Sorter", "run", "(II)I"⟩ : MethodName) ∈ am_l := am_mem 2 (by decide +kernel) rfl
theorem q_s3 : Cond.selects "RunSorter$Sorter" (⟨"RunSorter$Sorter", "insertion", "(III)V"⟩ : MethodName) (⟨"RunSorter$Sorter", "insertion", "(III)V"⟩ : MethodName) ∈ am_l := am_mem 3 (by decide +kernel) rfl
theorem q_s4 : Cond.selects "RunSorter$Sorter" (⟨"RunSorter$Sorter", "settle", "()V"⟩ : MethodName) (⟨"RunSorter$Sorter", "settle", "()V"⟩ : MethodName) ∈ am_l := am_mem 4 (by decide +kernel) rfl
theorem q_s5 : Cond.selects "RunSorter$Sorter" (⟨"RunSorter$Sorter", "merge", "(I)V"⟩ : MethodName) (⟨"RunSorter$Sorter", "merge", "(I)V"⟩ : MethodName) ∈ am_l := am_mem 5 (by decide +kernel) rfl
theorem q_s6 : Cond.selects "RunSorter$Sorter" (⟨"RunSorter$Sorter", "behind", "(III)I"⟩ : MethodName) (⟨"RunSorter$Sorter", "behind", "(III)I"⟩ : MethodName) ∈ am_l := am_mem 6 (by decide +kernel) rfl
theorem q_s7 : Cond.selects "RunSorter$Sorter" (⟨"RunSorter$Sorter", "notBefore", "(III)I"⟩ : MethodName) (⟨"RunSorter$Sorter", "notBefore", "(III)I"⟩ : MethodName) ∈ am_l := am_mem 7 (by decide +kernel) rfl
theorem q_s8 : Cond.selects "RunSorter$Sorter" (⟨"RunSorter$Sorter", "mergeUp", "(IIII)V"⟩ : MethodName) (⟨"RunSorter$Sorter", "mergeUp", "(IIII)V"⟩ : MethodName) ∈ am_l := am_mem 8 (by decide +kernel) rfl
theorem q_s9 : Cond.selects "RunSorter$Sorter" (⟨"RunSorter$Sorter", "waiting", "(III)I"⟩ : MethodName) (⟨"RunSorter$Sorter", "waiting", "(III)I"⟩ : MethodName) ∈ am_l := am_mem 9 (by decide +kernel) rfl
theorem q_s10 : Cond.selects "RunSorter$Sorter" (⟨"RunSorter$Sorter", "mergeDown", "(IIII)V"⟩ : MethodName) (⟨"RunSorter$Sorter", "mergeDown", "(IIII)V"⟩ : MethodName) ∈ am_l := am_mem 10 (by decide +kernel) rfl
theorem q_s11 : Cond.selects "RunSorterModel" (⟨"RunSorterModel", "fail", "(I)I"⟩ : MethodName) (⟨"RunSorterModel", "fail", "(I)I"⟩ : MethodName) ∈ am_l := am_mem 11 (by decide +kernel) rfl
theorem q_s12 : Cond.selects "RunSorterModel" (⟨"RunSorterModel", "append", "(I)V"⟩ : MethodName) (⟨"RunSorterModel", "append", "(I)V"⟩ : MethodName) ∈ am_l := am_mem 12 (by decide +kernel) rfl
theorem q_s13 : Cond.selects "RunSorterModel" (⟨"RunSorterModel", "bad", "(II)Z"⟩ : MethodName) (⟨"RunSorterModel", "bad", "(II)Z"⟩ : MethodName) ∈ am_l := am_mem 13 (by decide +kernel) rfl
theorem q_s14 : Cond.selects "RunSorterModel" (⟨"RunSorterModel", "rank", "(II)I"⟩ : MethodName) (⟨"RunSorterModel", "rank", "(II)I"⟩ : MethodName) ∈ am_l := am_mem 14 (by decide +kernel) rfl
theorem q_0 : (Jvm.Cond.initialized "RunSorterLaw") ∈ am_l := am_mem 15 (by decide +kernel) rfl
theorem q_1 : (Jvm.Cond.initialized "RunSorter") ∈ am_l := am_mem 16 (by decide +kernel) rfl
theorem q_2 : (Jvm.Cond.initialized "RunSorter$Rising") ∈ am_l := am_mem 17 (by decide +kernel) rfl
theorem q_3 : (Jvm.Cond.initialized "RunSorter$Falling") ∈ am_l := am_mem 18 (by decide +kernel) rfl
theorem q_4 : (Jvm.Cond.initialized "RunSorter$LowBits") ∈ am_l := am_mem 19 (by decide +kernel) rfl
theorem q_5 : (Jvm.Cond.initialized "RunSorter$Unsigned") ∈ am_l := am_mem 20 (by decide +kernel) rfl
theorem q_6 : (Jvm.Cond.initialized "RunSorter$Sorter") ∈ am_l := am_mem 21 (by decide +kernel) rfl
theorem q_7 : (Jvm.Cond.initialized "RunSorterModel") ∈ am_l := am_mem 22 (by decide +kernel) rfl
theorem q_8 : (Jvm.Cond.initialized "java/lang/Throwable") ∈ am_l := am_mem 23 (by decide +kernel) rfl
theorem q_9 : (Jvm.Cond.initialized "java/lang/Exception") ∈ am_l := am_mem 24 (by decide +kernel) rfl
theorem q_10 : (Jvm.Cond.initialized "java/lang/RuntimeException") ∈ am_l := am_mem 25 (by decide +kernel) rfl
theorem q_11 : (Jvm.Cond.initialized "java/lang/IllegalArgumentException") ∈ am_l := am_mem 26 (by decide +kernel) rfl
theorem q_12 : (Jvm.Cond.initialized "java/lang/IndexOutOfBoundsException") ∈ am_l := am_mem 27 (by decide +kernel) rfl
theorem q_13 : (Jvm.Cond.initialized "RunSorter$ByNumber") ∈ am_l := am_mem 28 (by decide +kernel) rfl
theorem q_14 : (Jvm.Cond.classLink "RunSorterLaw" (8 : Nat) "RunSorter") ∈ am_l := am_mem 29 (by decide +kernel) rfl
theorem q_15 : (Jvm.Cond.instantiable "RunSorter" (7 : Nat)) ∈ am_l := am_mem 30 (by decide +kernel) rfl
theorem q_16 : (Jvm.Cond.methodLink "RunSorterLaw" (41 : Nat) ({ cls := "RunSorter", name := "<init>", desc := "()V" } : Jvm.MethodName)) ∈ am_l := am_mem 31 (by decide +kernel) rfl
theorem q_17 : (Jvm.Cond.instanceMethod ({ cls := "RunSorter", name := "<init>", desc := "()V" } : Jvm.MethodName)) ∈ am_l := am_mem 32 (by decide +kernel) rfl
theorem q_18 : (Jvm.Cond.code ({ cls := "RunSorter", name := "<init>", desc := "()V" } : Jvm.MethodName) prog_1_method_1_code (1 : Nat) (Option.none : Option Jvm.ClassFile.FieldType)) ∈ am_l := am_mem 33 (by decide +kernel) rfl
theorem q_19 : (Jvm.Cond.methodLink "RunSorter" (1 : Nat) ({ cls := "java/lang/Object", name := "<init>", desc := "()V" } : Jvm.MethodName)) ∈ am_l := am_mem 34 (by decide +kernel) rfl
theorem q_20 : (Jvm.Cond.instanceMethod ({ cls := "java/lang/Object", name := "<init>", desc := "()V" } : Jvm.MethodName)) ∈ am_l := am_mem 35 (by decide +kernel) rfl
theorem q_21 : (Jvm.Cond.code ({ cls := "java/lang/Object", name := "<init>", desc := "()V" } : Jvm.MethodName) object_method_1_code (1 : Nat) (Option.none : Option Jvm.ClassFile.FieldType)) ∈ am_l := am_mem 36 (by decide +kernel) rfl
theorem q_22 : (Jvm.Cond.classLink "RunSorter" (7 : Nat) "RunSorter$Order") ∈ am_l := am_mem 37 (by decide +kernel) rfl
theorem q_23 : (Jvm.Cond.arrayOver (Jvm.ClassFile.FieldType.object "RunSorter$Order")) ∈ am_l := am_mem 38 (by decide +kernel) rfl
theorem q_24 : (Jvm.Cond.classLink "RunSorter" (9 : Nat) "RunSorter$Rising") ∈ am_l := am_mem 39 (by decide +kernel) rfl
theorem q_25 : (Jvm.Cond.instantiable "RunSorter$Rising" (0 : Nat)) ∈ am_l := am_mem 40 (by decide +kernel) rfl
theorem q_26 : (Jvm.Cond.methodLinkNest "RunSorter" (11 : Nat) ({ cls := "RunSorter$Rising", name := "<init>", desc := "()V" } : Jvm.MethodName) "RunSorter") ∈ am_l := am_mem 41 (by decide +kernel) rfl
theorem q_27 : (Jvm.Cond.instanceMethod ({ cls := "RunSorter$Rising", name := "<init>", desc := "()V" } : Jvm.MethodName)) ∈ am_l := am_mem 42 (by decide +kernel) rfl
theorem q_28 : (Jvm.Cond.code ({ cls := "RunSorter$Rising", name := "<init>", desc := "()V" } : Jvm.MethodName) prog_6_method_1_code (1 : Nat) (Option.none : Option Jvm.ClassFile.FieldType)) ∈ am_l := am_mem 43 (by decide +kernel) rfl
theorem q_29 : (Jvm.Cond.methodLink "RunSorter$Rising" (1 : Nat) ({ cls := "java/lang/Object", name := "<init>", desc := "()V" } : Jvm.MethodName)) ∈ am_l := am_mem 44 (by decide +kernel) rfl
theorem q_30 : (Jvm.Cond.superclass "RunSorter$Rising" "java/lang/Object") ∈ am_l := am_mem 45 (by decide +kernel) rfl
theorem q_31 : (Jvm.Cond.classLink "RunSorter" (12 : Nat) "RunSorter$Falling") ∈ am_l := am_mem 46 (by decide +kernel) rfl
theorem q_32 : (Jvm.Cond.instantiable "RunSorter$Falling" (0 : Nat)) ∈ am_l := am_mem 47 (by decide +kernel) rfl
theorem q_33 : (Jvm.Cond.methodLinkNest "RunSorter" (14 : Nat) ({ cls := "RunSorter$Falling", name := "<init>", desc := "()V" } : Jvm.MethodName) "RunSorter") ∈ am_l := am_mem 48 (by decide +kernel) rfl
theorem q_34 : (Jvm.Cond.instanceMethod ({ cls := "RunSorter$Falling", name := "<init>", desc := "()V" } : Jvm.MethodName)) ∈ am_l := am_mem 49 (by decide +kernel) rfl
theorem q_35 : (Jvm.Cond.code ({ cls := "RunSorter$Falling", name := "<init>", desc := "()V" } : Jvm.MethodName) prog_3_method_1_code (1 : Nat) (Option.none : Option Jvm.ClassFile.FieldType)) ∈ am_l := am_mem 50 (by decide +kernel) rfl
theorem q_36 : (Jvm.Cond.methodLink "RunSorter$Falling" (1 : Nat) ({ cls := "java/lang/Object", name := "<init>", desc := "()V" } : Jvm.MethodName)) ∈ am_l := am_mem 51 (by decide +kernel) rfl
theorem q_37 : (Jvm.Cond.superclass "RunSorter$Falling" "java/lang/Object") ∈ am_l := am_mem 52 (by decide +kernel) rfl
theorem q_38 : (Jvm.Cond.classLink "RunSorter" (15 : Nat) "RunSorter$LowBits") ∈ am_l := am_mem 53 (by decide +kernel) rfl
theorem q_39 : (Jvm.Cond.instantiable "RunSorter$LowBits" (0 : Nat)) ∈ am_l := am_mem 54 (by decide +kernel) rfl
theorem q_40 : (Jvm.Cond.methodLinkNest "RunSorter" (17 : Nat) ({ cls := "RunSorter$LowBits", name := "<init>", desc := "()V" } : Jvm.MethodName) "RunSorter") ∈ am_l := am_mem 55 (by decide +kernel) rfl
theorem q_41 : (Jvm.Cond.instanceMethod ({ cls := "RunSorter$LowBits", name := "<init>", desc := "()V" } : Jvm.MethodName)) ∈ am_l := am_mem 56 (by decide +kernel) rfl
theorem q_42 : (Jvm.Cond.code ({ cls := "RunSorter$LowBits", name := "<init>", desc := "()V" } : Jvm.MethodName) prog_4_method_1_code (1 : Nat) (Option.none : Option Jvm.ClassFile.FieldType)) ∈ am_l := am_mem 57 (by decide +kernel) rfl
theorem q_43 : (Jvm.Cond.methodLink "RunSorter$LowBits" (1 : Nat) ({ cls := "java/lang/Object", name := "<init>", desc := "()V" } : Jvm.MethodName)) ∈ am_l := am_mem 58 (by decide +kernel) rfl
theorem q_44 : (Jvm.Cond.superclass "RunSorter$LowBits" "java/lang/Object") ∈ am_l := am_mem 59 (by decide +kernel) rfl
theorem q_45 : (Jvm.Cond.classLink "RunSorter" (18 : Nat) "RunSorter$Unsigned") ∈ am_l := am_mem 60 (by decide +kernel) rfl
theorem q_46 : (Jvm.Cond.instantiable "RunSorter$Unsigned" (0 : Nat)) ∈ am_l := am_mem 61 (by decide +kernel) rfl
theorem q_47 : (Jvm.Cond.methodLinkNest "RunSorter" (20 : Nat) ({ cls := "RunSorter$Unsigned", name := "<init>", desc := "()V" } : Jvm.MethodName) "RunSorter") ∈ am_l := am_mem 62 (by decide +kernel) rfl
theorem q_48 : (Jvm.Cond.instanceMethod ({ cls := "RunSorter$Unsigned", name := "<init>", desc := "()V" } : Jvm.MethodName)) ∈ am_l := am_mem 63 (by decide +kernel) rfl
theorem q_49 : (Jvm.Cond.code ({ cls := "RunSorter$Unsigned", name := "<init>", desc := "()V" } : Jvm.MethodName) prog_8_method_1_code (1 : Nat) (Option.none : Option Jvm.ClassFile.FieldType)) ∈ am_l := am_mem 64 (by decide +kernel) rfl
theorem q_50 : (Jvm.Cond.methodLink "RunSorter$Unsigned" (1 : Nat) ({ cls := "java/lang/Object", name := "<init>", desc := "()V" } : Jvm.MethodName)) ∈ am_l := am_mem 65 (by decide +kernel) rfl
theorem q_51 : (Jvm.Cond.superclass "RunSorter$Unsigned" "java/lang/Object") ∈ am_l := am_mem 66 (by decide +kernel) rfl
theorem q_52 : (Jvm.Cond.classLink "RunSorter" (27 : Nat) "RunSorter$Sorter") ∈ am_l := am_mem 67 (by decide +kernel) rfl
theorem q_53 : (Jvm.Cond.instantiable "RunSorter$Sorter" (7 : Nat)) ∈ am_l := am_mem 68 (by decide +kernel) rfl
theorem q_54 : (Jvm.Cond.methodLinkNest "RunSorter" (29 : Nat) ({ cls := "RunSorter$Sorter", name := "<init>", desc := "()V" } : Jvm.MethodName) "RunSorter") ∈ am_l := am_mem 69 (by decide +kernel) rfl
theorem q_55 : (Jvm.Cond.instanceMethod ({ cls := "RunSorter$Sorter", name := "<init>", desc := "()V" } : Jvm.MethodName)) ∈ am_l := am_mem 70 (by decide +kernel) rfl
theorem q_56 : (Jvm.Cond.code ({ cls := "RunSorter$Sorter", name := "<init>", desc := "()V" } : Jvm.MethodName) prog_7_method_1_code (1 : Nat) (Option.none : Option Jvm.ClassFile.FieldType)) ∈ am_l := am_mem 71 (by decide +kernel) rfl
theorem q_57 : (Jvm.Cond.methodLink "RunSorter$Sorter" (3 : Nat) ({ cls := "java/lang/Object", name := "<init>", desc := "()V" } : Jvm.MethodName)) ∈ am_l := am_mem 72 (by decide +kernel) rfl
theorem q_58 : (Jvm.Cond.fieldLink "RunSorter$Sorter" (9 : Nat) "RunSorter$Sorter" "cells" "[I") ∈ am_l := am_mem 73 (by decide +kernel) rfl
theorem q_59 : (Jvm.Cond.fieldLink "RunSorter$Sorter" (15 : Nat) "RunSorter$Sorter" "spare" "[I") ∈ am_l := am_mem 74 (by decide +kernel) rfl
theorem q_60 : (Jvm.Cond.fieldLink "RunSorter$Sorter" (18 : Nat) "RunSorter$Sorter" "from" "[I") ∈ am_l := am_mem 75 (by decide +kernel) rfl
theorem q_61 : (Jvm.Cond.fieldLink "RunSorter$Sorter" (21 : Nat) "RunSorter$Sorter" "length" "[I") ∈ am_l := am_mem 76 (by decide +kernel) rfl
theorem q_62 : (Jvm.Cond.fieldLink "RunSorter$Sorter" (28 : Nat) "RunSorter$Sorter" "runs" "I") ∈ am_l := am_mem 77 (by decide +kernel) rfl
theorem q_63 : (Jvm.Cond.fieldLink "RunSorter$Sorter" (32 : Nat) "RunSorter$Sorter" "gallop" "I") ∈ am_l := am_mem 78 (by decide +kernel) rfl
theorem q_64 : (Jvm.Cond.fieldLink "RunSorter$Sorter" (24 : Nat) "RunSorter$Sorter" "order" "LRunSorter$Order;") ∈ am_l := am_mem 79 (by decide +kernel) rfl
theorem q_65 : (Jvm.Cond.laysFinal "RunSorter$Sorter" "RunSorter$Sorter" "cells" "[I") ∈ am_l := am_mem 80 (by decide +kernel) rfl
theorem q_66 : (Jvm.Cond.soleField "RunSorter$Sorter" "cells") ∈ am_l := am_mem 81 (by decide +kernel) rfl
theorem q_67 : (Jvm.Cond.laysFinal "RunSorter$Sorter" "RunSorter$Sorter" "spare" "[I") ∈ am_l := am_mem 82 (by decide +kernel) rfl
theorem q_68 : (Jvm.Cond.soleField "RunSorter$Sorter" "spare") ∈ am_l := am_mem 83 (by decide +kernel) rfl
theorem q_69 : (Jvm.Cond.laysFinal "RunSorter$Sorter" "RunSorter$Sorter" "from" "[I") ∈ am_l := am_mem 84 (by decide +kernel) rfl
theorem q_70 : (Jvm.Cond.soleField "RunSorter$Sorter" "from") ∈ am_l := am_mem 85 (by decide +kernel) rfl
theorem q_71 : (Jvm.Cond.laysFinal "RunSorter$Sorter" "RunSorter$Sorter" "length" "[I") ∈ am_l := am_mem 86 (by decide +kernel) rfl
theorem q_72 : (Jvm.Cond.soleField "RunSorter$Sorter" "length") ∈ am_l := am_mem 87 (by decide +kernel) rfl
theorem q_73 : (Jvm.Cond.lays "RunSorter$Sorter" "RunSorter$Sorter" "runs" "I") ∈ am_l := am_mem 88 (by decide +kernel) rfl
theorem q_74 : (Jvm.Cond.soleField "RunSorter$Sorter" "runs") ∈ am_l := am_mem 89 (by decide +kernel) rfl
theorem q_75 : (Jvm.Cond.lays "RunSorter$Sorter" "RunSorter$Sorter" "gallop" "I") ∈ am_l := am_mem 90 (by decide +kernel) rfl
theorem q_76 : (Jvm.Cond.soleField "RunSorter$Sorter" "gallop") ∈ am_l := am_mem 91 (by decide +kernel) rfl
theorem q_77 : (Jvm.Cond.lays "RunSorter$Sorter" "RunSorter$Sorter" "order" "LRunSorter$Order;") ∈ am_l := am_mem 92 (by decide +kernel) rfl
theorem q_78 : (Jvm.Cond.soleField "RunSorter$Sorter" "order") ∈ am_l := am_mem 93 (by decide +kernel) rfl
theorem q_79 : (Jvm.Cond.superclass "RunSorter$Sorter" "java/lang/Object") ∈ am_l := am_mem 94 (by decide +kernel) rfl
theorem q_80 : (Jvm.Cond.arrayClass Jvm.ClassFile.FieldType.int) ∈ am_l := am_mem 95 (by decide +kernel) rfl
theorem q_81 : (Jvm.Cond.fieldLink "RunSorter" (21 : Nat) "RunSorter" "orders" "[LRunSorter$Order;") ∈ am_l := am_mem 96 (by decide +kernel) rfl
theorem q_82 : (Jvm.Cond.fieldLink "RunSorter" (30 : Nat) "RunSorter" "sorter" "LRunSorter$Sorter;") ∈ am_l := am_mem 97 (by decide +kernel) rfl
theorem q_83 : (Jvm.Cond.fieldLink "RunSorter" (34 : Nat) "RunSorter" "numbers" "[I") ∈ am_l := am_mem 98 (by decide +kernel) rfl
theorem q_84 : (Jvm.Cond.fieldLink "RunSorter" (38 : Nat) "RunSorter" "tags" "[I") ∈ am_l := am_mem 99 (by decide +kernel) rfl
theorem q_85 : (Jvm.Cond.fieldLink "RunSorter" (41 : Nat) "RunSorter" "old" "[I") ∈ am_l := am_mem 100 (by decide +kernel) rfl
theorem q_86 : (Jvm.Cond.fieldLink "RunSorter" (44 : Nat) "RunSorter" "oldTags" "[I") ∈ am_l := am_mem 101 (by decide +kernel) rfl
theorem q_87 : (Jvm.Cond.fieldLink "RunSorter" (53 : Nat) "RunSorter" "size" "I") ∈ am_l := am_mem 102 (by decide +kernel) rfl
theorem q_88 : (Jvm.Cond.laysFinal "RunSorter" "RunSorter" "orders" "[LRunSorter$Order;") ∈ am_l := am_mem 103 (by decide +kernel) rfl
theorem q_89 : (Jvm.Cond.soleField "RunSorter" "orders") ∈ am_l := am_mem 104 (by decide +kernel) rfl
theorem q_90 : (Jvm.Cond.laysFinal "RunSorter" "RunSorter" "sorter" "LRunSorter$Sorter;") ∈ am_l := am_mem 105 (by decide +kernel) rfl
theorem q_91 : (Jvm.Cond.soleField "RunSorter" "sorter") ∈ am_l := am_mem 106 (by decide +kernel) rfl
theorem q_92 : (Jvm.Cond.laysFinal "RunSorter" "RunSorter" "numbers" "[I") ∈ am_l := am_mem 107 (by decide +kernel) rfl
theorem q_93 : (Jvm.Cond.soleField "RunSorter" "numbers") ∈ am_l := am_mem 108 (by decide +kernel) rfl
theorem q_94 : (Jvm.Cond.laysFinal "RunSorter" "RunSorter" "tags" "[I") ∈ am_l := am_mem 109 (by decide +kernel) rfl
theorem q_95 : (Jvm.Cond.soleField "RunSorter" "tags") ∈ am_l := am_mem 110 (by decide +kernel) rfl
theorem q_96 : (Jvm.Cond.laysFinal "RunSorter" "RunSorter" "old" "[I") ∈ am_l := am_mem 111 (by decide +kernel) rfl
theorem q_97 : (Jvm.Cond.soleField "RunSorter" "old") ∈ am_l := am_mem 112 (by decide +kernel) rfl
theorem q_98 : (Jvm.Cond.laysFinal "RunSorter" "RunSorter" "oldTags" "[I") ∈ am_l := am_mem 113 (by decide +kernel) rfl
theorem q_99 : (Jvm.Cond.soleField "RunSorter" "oldTags") ∈ am_l := am_mem 114 (by decide +kernel) rfl
theorem q_100 : (Jvm.Cond.lays "RunSorter" "RunSorter" "size" "I") ∈ am_l := am_mem 115 (by decide +kernel) rfl
theorem q_101 : (Jvm.Cond.soleField "RunSorter" "size") ∈ am_l := am_mem 116 (by decide +kernel) rfl
theorem q_102 : (Jvm.Cond.superclass "RunSorter" "java/lang/Object") ∈ am_l := am_mem 117 (by decide +kernel) rfl
theorem q_103 : (Jvm.Cond.methodLink "RunSorterLaw" (79 : Nat) ({ cls := "RunSorter", name := "clear", desc := "()I" } : Jvm.MethodName)) ∈ am_l := am_mem 118 (by decide +kernel) rfl
theorem q_104 : (Jvm.Cond.instanceMethod ({ cls := "RunSorter", name := "clear", desc := "()I" } : Jvm.MethodName)) ∈ am_l := am_mem 119 (by decide +kernel) rfl
theorem q_105 : (Jvm.Cond.selects "RunSorter" ({ cls := "RunSorter", name := "clear", desc := "()I" } : Jvm.MethodName) ({ cls := "RunSorter", name := "clear", desc := "()I" } : Jvm.MethodName)) ∈ am_l := am_mem 120 (by decide +kernel) rfl
theorem q_106 : (Jvm.Cond.code ({ cls := "RunSorter", name := "clear", desc := "()I" } : Jvm.MethodName) prog_1_method_13_code (2 : Nat) (Option.some Jvm.ClassFile.FieldType.int)) ∈ am_l := am_mem 121 (by decide +kernel) rfl
theorem q_107 : (Jvm.Cond.methodLink "RunSorterLaw" (83 : Nat) ({ cls := "RunSorter", name := "hash", desc := "()I" } : Jvm.MethodName)) ∈ am_l := am_mem 122 (by decide +kernel) rfl
theorem q_108 : (Jvm.Cond.instanceMethod ({ cls := "RunSorter", name := "hash", desc := "()I" } : Jvm.MethodName)) ∈ am_l := am_mem 123 (by decide +kernel) rfl
theorem q_109 : (Jvm.Cond.selects "RunSorter" ({ cls := "RunSorter", name := "hash", desc := "()I" } : Jvm.MethodName) ({ cls := "RunSorter", name := "hash", desc := "()I" } : Jvm.MethodName)) ∈ am_l := am_mem 124 (by decide +kernel) rfl
theorem q_110 : (Jvm.Cond.code ({ cls := "RunSorter", name := "hash", desc := "()I" } : Jvm.MethodName) prog_1_method_14_code (3 : Nat) (Option.some Jvm.ClassFile.FieldType.int)) ∈ am_l := am_mem 125 (by decide +kernel) rfl
theorem q_111 : (Jvm.Cond.methodLink "RunSorterLaw" (45 : Nat) ({ cls := "RunSorterLaw", name := "fill", desc := "(LRunSorter;III[J)I" } : Jvm.MethodName)) ∈ am_l := am_mem 126 (by decide +kernel) rfl
theorem q_112 : (Jvm.Cond.static ({ cls := "RunSorterLaw", name := "fill", desc := "(LRunSorter;III[J)I" } : Jvm.MethodName)) ∈ am_l := am_mem 127 (by decide +kernel) rfl
theorem q_113 : (Jvm.Cond.codeWith ({ cls := "RunSorterLaw", name := "fill", desc := "(LRunSorter;III[J)I" } : Jvm.MethodName) method_3_code (6 : Nat) (Option.some Jvm.ClassFile.FieldType.int) [((0 : Nat), (12 : Nat), (15 : Nat), (13 : Nat)), ((0 : Nat), (12 : Nat), (19 : Nat), (15 : Nat))]) ∈ am_l := am_mem 128 (by decide +kernel) rfl
theorem q_114 : (Jvm.Cond.classLink "RunSorterLaw" (13 : Nat) "java/lang/IllegalArgumentException") ∈ am_l := am_mem 129 (by decide +kernel) rfl
theorem q_115 : (Jvm.Cond.classLink "RunSorterLaw" (15 : Nat) "java/lang/IndexOutOfBoundsException") ∈ am_l := am_mem 130 (by decide +kernel) rfl
theorem q_116 : (Jvm.Cond.methodLink "RunSorterLaw" (7 : Nat) ({ cls := "RunSorter", name := "fill", desc := "(III)I" } : Jvm.MethodName)) ∈ am_l := am_mem 131 (by decide +kernel) rfl
theorem q_117 : (Jvm.Cond.instanceMethod ({ cls := "RunSorter", name := "fill", desc := "(III)I" } : Jvm.MethodName)) ∈ am_l := am_mem 132 (by decide +kernel) rfl
theorem q_118 : (Jvm.Cond.selects "RunSorter" ({ cls := "RunSorter", name := "fill", desc := "(III)I" } : Jvm.MethodName) ({ cls := "RunSorter", name := "fill", desc := "(III)I" } : Jvm.MethodName)) ∈ am_l := am_mem 133 (by decide +kernel) rfl
theorem q_119 : (Jvm.Cond.code ({ cls := "RunSorter", name := "fill", desc := "(III)I" } : Jvm.MethodName) prog_1_method_5_code (5 : Nat) (Option.some Jvm.ClassFile.FieldType.int)) ∈ am_l := am_mem 134 (by decide +kernel) rfl
theorem q_120 : (Jvm.Cond.methodLink "RunSorter" (57 : Nat) ({ cls := "RunSorter", name := "in", desc := "(III)V" } : Jvm.MethodName)) ∈ am_l := am_mem 135 (by decide +kernel) rfl
theorem q_121 : (Jvm.Cond.static ({ cls := "RunSorter", name := "in", desc := "(III)V" } : Jvm.MethodName)) ∈ am_l := am_mem 136 (by decide +kernel) rfl
theorem q_122 : (Jvm.Cond.code ({ cls := "RunSorter", name := "in", desc := "(III)V" } : Jvm.MethodName) prog_1_method_2_code (3 : Nat) (Option.none : Option Jvm.ClassFile.FieldType)) ∈ am_l := am_mem 137 (by decide +kernel) rfl
theorem q_123 : (Jvm.Cond.classLink "RunSorter" (47 : Nat) "java/lang/IllegalArgumentException") ∈ am_l := am_mem 138 (by decide +kernel) rfl
theorem q_124 : (Jvm.Cond.instantiable "java/lang/IllegalArgumentException" (6 : Nat)) ∈ am_l := am_mem 139 (by decide +kernel) rfl
theorem q_125 : (Jvm.Cond.castable "java/lang/IllegalArgumentException" "java/lang/IllegalArgumentException") ∈ am_l := am_mem 140 (by decide +kernel) rfl
theorem q_126 : (Jvm.Cond.declares ({ cls := "java/lang/RuntimeException", name := "<init>", desc := "()V" } : Jvm.MethodName)) ∈ am_l := am_mem 141 (by decide +kernel) rfl
theorem q_127 : (Jvm.Cond.declares ({ cls := "java/lang/RuntimeException", name := "<init>", desc := "(Ljava/lang/String;)V" } : Jvm.MethodName)) ∈ am_l := am_mem 142 (by decide +kernel) rfl
theorem q_128 : (Jvm.Cond.declares ({ cls := "java/lang/Exception", name := "<init>", desc := "()V" } : Jvm.MethodName)) ∈ am_l := am_mem 143 (by decide +kernel) rfl
theorem q_129 : (Jvm.Cond.declares ({ cls := "java/lang/Exception", name := "<init>", desc := "(Ljava/lang/String;)V" } : Jvm.MethodName)) ∈ am_l := am_mem 144 (by decide +kernel) rfl
theorem q_130 : (Jvm.Cond.declares ({ cls := "java/lang/Throwable", name := "<init>", desc := "()V" } : Jvm.MethodName)) ∈ am_l := am_mem 145 (by decide +kernel) rfl
theorem q_131 : (Jvm.Cond.declares ({ cls := "java/lang/Throwable", name := "<init>", desc := "(Ljava/lang/String;)V" } : Jvm.MethodName)) ∈ am_l := am_mem 146 (by decide +kernel) rfl
theorem q_132 : (Jvm.Cond.selects "java/lang/IllegalArgumentException" ({ cls := "java/lang/Throwable", name := "fillInStackTrace", desc := "(I)Ljava/lang/Throwable;" } : Jvm.MethodName) ({ cls := "java/lang/Throwable", name := "fillInStackTrace", desc := "(I)Ljava/lang/Throwable;" } : Jvm.MethodName)) ∈ am_l := am_mem 147 (by decide +kernel) rfl
theorem q_133 : (Jvm.Cond.selects "java/lang/IllegalArgumentException" ({ cls := "java/lang/Throwable", name := "fillInStackTrace", desc := "()Ljava/lang/Throwable;" } : Jvm.MethodName) ({ cls := "java/lang/Throwable", name := "fillInStackTrace", desc := "()Ljava/lang/Throwable;" } : Jvm.MethodName)) ∈ am_l := am_mem 148 (by decide +kernel) rfl
theorem q_134 : (Jvm.Cond.lays "java/lang/IllegalArgumentException" "java/lang/Throwable" "cause" "Ljava/lang/Throwable;") ∈ am_l := am_mem 149 (by decide +kernel) rfl
theorem q_135 : (Jvm.Cond.lays "java/lang/Throwable" "java/lang/Throwable" "cause" "Ljava/lang/Throwable;") ∈ am_l := am_mem 150 (by decide +kernel) rfl
theorem q_136 : (Jvm.Cond.lays "java/lang/IllegalArgumentException" "java/lang/Throwable" "stackTrace" "[Ljava/lang/StackTraceElement;") ∈ am_l := am_mem 151 (by decide +kernel) rfl
theorem q_137 : (Jvm.Cond.lays "java/lang/Throwable" "java/lang/Throwable" "stackTrace" "[Ljava/lang/StackTraceElement;") ∈ am_l := am_mem 152 (by decide +kernel) rfl
theorem q_138 : (Jvm.Cond.lays "java/lang/IllegalArgumentException" "java/lang/Throwable" "suppressedExceptions" "Ljava/util/List;") ∈ am_l := am_mem 153 (by decide +kernel) rfl
theorem q_139 : (Jvm.Cond.lays "java/lang/Throwable" "java/lang/Throwable" "suppressedExceptions" "Ljava/util/List;") ∈ am_l := am_mem 154 (by decide +kernel) rfl
theorem q_140 : (Jvm.Cond.lays "java/lang/IllegalArgumentException" "java/lang/Throwable" "detailMessage" "Ljava/lang/String;") ∈ am_l := am_mem 155 (by decide +kernel) rfl
theorem q_141 : (Jvm.Cond.lays "java/lang/Throwable" "java/lang/Throwable" "detailMessage" "Ljava/lang/String;") ∈ am_l := am_mem 156 (by decide +kernel) rfl
theorem q_142 : (Jvm.Cond.lays "java/lang/IllegalArgumentException" "java/lang/Throwable" "backtrace" "Ljava/lang/Object;") ∈ am_l := am_mem 157 (by decide +kernel) rfl
theorem q_143 : (Jvm.Cond.lays "java/lang/Throwable" "java/lang/Throwable" "backtrace" "Ljava/lang/Object;") ∈ am_l := am_mem 158 (by decide +kernel) rfl
theorem q_144 : (Jvm.Cond.fieldLink "java/lang/Throwable" (198 : Nat) "java/lang/Throwable" "backtrace" "Ljava/lang/Object;") ∈ am_l := am_mem 159 (by decide +kernel) rfl
theorem q_145 : (Jvm.Cond.superclass "java/lang/Throwable" "java/lang/Object") ∈ am_l := am_mem 160 (by decide +kernel) rfl
theorem q_146 : (Jvm.Cond.instanceMethod ({ cls := "java/lang/Throwable", name := "<init>", desc := "()V" } : Jvm.MethodName)) ∈ am_l := am_mem 161 (by decide +kernel) rfl
theorem q_147 : (Jvm.Cond.code ({ cls := "java/lang/Throwable", name := "<init>", desc := "()V" } : Jvm.MethodName) prog_15_method_1_code (1 : Nat) (Option.none : Option Jvm.ClassFile.FieldType)) ∈ am_l := am_mem 162 (by decide +kernel) rfl
theorem q_148 : (Jvm.Cond.methodLink "java/lang/Throwable" (1 : Nat) ({ cls := "java/lang/Object", name := "<init>", desc := "()V" } : Jvm.MethodName)) ∈ am_l := am_mem 163 (by decide +kernel) rfl
theorem q_149 : (Jvm.Cond.fieldLink "java/lang/Throwable" (13 : Nat) "java/lang/Throwable" "UNASSIGNED_STACK" "[Ljava/lang/StackTraceElement;") ∈ am_l := am_mem 164 (by decide +kernel) rfl
theorem q_151 : (Jvm.Cond.fieldLink "java/lang/Throwable" (20 : Nat) "java/lang/Throwable" "SUPPRESSED_SENTINEL" "Ljava/util/List;") ∈ am_l := am_mem 166 (by decide +kernel) rfl
theorem q_153 : (Jvm.Cond.methodLink "java/lang/Throwable" (27 : Nat) ({ cls := "java/lang/Throwable", name := "fillInStackTrace", desc := "()Ljava/lang/Throwable;" } : Jvm.MethodName)) ∈ am_l := am_mem 168 (by decide +kernel) rfl
theorem q_154 : (Jvm.Cond.instanceMethod ({ cls := "java/lang/Throwable", name := "fillInStackTrace", desc := "()Ljava/lang/Throwable;" } : Jvm.MethodName)) ∈ am_l := am_mem 169 (by decide +kernel) rfl
theorem q_155 : (Jvm.Cond.sameMethod "java/lang/Throwable" "java/lang/Throwable" "fillInStackTrace" "()Ljava/lang/Throwable;") ∈ am_l := am_mem 170 (by decide +kernel) rfl
theorem q_156 : (Jvm.Cond.selects "java/lang/IndexOutOfBoundsException" ({ cls := "java/lang/Throwable", name := "fillInStackTrace", desc := "()Ljava/lang/Throwable;" } : Jvm.MethodName) ({ cls := "java/lang/Throwable", name := "fillInStackTrace", desc := "()Ljava/lang/Throwable;" } : Jvm.MethodName)) ∈ am_l := am_mem 171 (by decide +kernel) rfl
theorem q_157 : (Jvm.Cond.codeSync ({ cls := "java/lang/Throwable", name := "fillInStackTrace", desc := "()Ljava/lang/Throwable;" } : Jvm.MethodName) prog_15_method_18_code (1 : Nat) (Option.some (Jvm.ClassFile.FieldType.object "java/lang/Throwable"))) ∈ am_l := am_mem 172 (by decide +kernel) rfl
theorem q_158 : (Jvm.Cond.methodLink "java/lang/Throwable" (202 : Nat) ({ cls := "java/lang/Throwable", name := "fillInStackTrace", desc := "(I)Ljava/lang/Throwable;" } : Jvm.MethodName)) ∈ am_l := am_mem 173 (by decide +kernel) rfl
theorem q_159 : (Jvm.Cond.privateMethod ({ cls := "java/lang/Throwable", name := "fillInStackTrace", desc := "(I)Ljava/lang/Throwable;" } : Jvm.MethodName)) ∈ am_l := am_mem 174 (by decide +kernel) rfl
theorem q_160 : (Jvm.Cond.instanceMethod ({ cls := "java/lang/Throwable", name := "fillInStackTrace", desc := "(I)Ljava/lang/Throwable;" } : Jvm.MethodName)) ∈ am_l := am_mem 175 (by decide +kernel) rfl
theorem q_161 : (Jvm.Cond.instantiable "java/lang/Throwable" (6 : Nat)) ∈ am_l := am_mem 176 (by decide +kernel) rfl
theorem q_162 : (Jvm.Cond.native ({ cls := "java/lang/Throwable", name := "fillInStackTrace", desc := "(I)Ljava/lang/Throwable;" } : Jvm.MethodName)) ∈ am_l := am_mem 177 (by decide +kernel) rfl
theorem q_163 : (Jvm.Cond.methodLink "RunSorter" (49 : Nat) ({ cls := "java/lang/IllegalArgumentException", name := "<init>", desc := "()V" } : Jvm.MethodName)) ∈ am_l := am_mem 178 (by decide +kernel) rfl
theorem q_164 : (Jvm.Cond.instanceMethod ({ cls := "java/lang/IllegalArgumentException", name := "<init>", desc := "()V" } : Jvm.MethodName)) ∈ am_l := am_mem 179 (by decide +kernel) rfl
theorem q_165 : (Jvm.Cond.code ({ cls := "java/lang/IllegalArgumentException", name := "<init>", desc := "()V" } : Jvm.MethodName) prog_12_method_1_code (1 : Nat) (Option.none : Option Jvm.ClassFile.FieldType)) ∈ am_l := am_mem 180 (by decide +kernel) rfl
theorem q_166 : (Jvm.Cond.methodLink "java/lang/IllegalArgumentException" (1 : Nat) ({ cls := "java/lang/RuntimeException", name := "<init>", desc := "()V" } : Jvm.MethodName)) ∈ am_l := am_mem 181 (by decide +kernel) rfl
theorem q_167 : (Jvm.Cond.instanceMethod ({ cls := "java/lang/RuntimeException", name := "<init>", desc := "()V" } : Jvm.MethodName)) ∈ am_l := am_mem 182 (by decide +kernel) rfl
theorem q_168 : (Jvm.Cond.code ({ cls := "java/lang/RuntimeException", name := "<init>", desc := "()V" } : Jvm.MethodName) prog_14_method_1_code (1 : Nat) (Option.none : Option Jvm.ClassFile.FieldType)) ∈ am_l := am_mem 183 (by decide +kernel) rfl
theorem q_169 : (Jvm.Cond.methodLink "java/lang/RuntimeException" (1 : Nat) ({ cls := "java/lang/Exception", name := "<init>", desc := "()V" } : Jvm.MethodName)) ∈ am_l := am_mem 184 (by decide +kernel) rfl
theorem q_170 : (Jvm.Cond.instanceMethod ({ cls := "java/lang/Exception", name := "<init>", desc := "()V" } : Jvm.MethodName)) ∈ am_l := am_mem 185 (by decide +kernel) rfl
theorem q_171 : (Jvm.Cond.code ({ cls := "java/lang/Exception", name := "<init>", desc := "()V" } : Jvm.MethodName) prog_11_method_1_code (1 : Nat) (Option.none : Option Jvm.ClassFile.FieldType)) ∈ am_l := am_mem 186 (by decide +kernel) rfl
theorem q_172 : (Jvm.Cond.methodLink "java/lang/Exception" (1 : Nat) ({ cls := "java/lang/Throwable", name := "<init>", desc := "()V" } : Jvm.MethodName)) ∈ am_l := am_mem 187 (by decide +kernel) rfl
theorem q_173 : (Jvm.Cond.fieldLink "java/lang/Throwable" (198 : Nat) "java/lang/Throwable" "backtrace" "Ljava/lang/Object;") ∈ am_l := am_mem 188 (by decide +kernel) rfl
theorem q_174 : (Jvm.Cond.fieldLink "java/lang/Throwable" (7 : Nat) "java/lang/Throwable" "cause" "Ljava/lang/Throwable;") ∈ am_l := am_mem 189 (by decide +kernel) rfl
theorem q_175 : (Jvm.Cond.fieldLink "java/lang/Throwable" (17 : Nat) "java/lang/Throwable" "stackTrace" "[Ljava/lang/StackTraceElement;") ∈ am_l := am_mem 190 (by decide +kernel) rfl
theorem q_176 : (Jvm.Cond.fieldLink "java/lang/Throwable" (24 : Nat) "java/lang/Throwable" "suppressedExceptions" "Ljava/util/List;") ∈ am_l := am_mem 191 (by decide +kernel) rfl
theorem q_177 : (Jvm.Cond.soleField "java/lang/Throwable" "backtrace") ∈ am_l := am_mem 192 (by decide +kernel) rfl
theorem q_178 : (Jvm.Cond.soleField "java/lang/Throwable" "detailMessage") ∈ am_l := am_mem 193 (by decide +kernel) rfl
theorem q_179 : (Jvm.Cond.soleField "java/lang/Throwable" "cause") ∈ am_l := am_mem 194 (by decide +kernel) rfl
theorem q_180 : (Jvm.Cond.soleField "java/lang/Throwable" "stackTrace") ∈ am_l := am_mem 195 (by decide +kernel) rfl
theorem q_181 : (Jvm.Cond.lays "java/lang/IllegalArgumentException" "java/lang/Throwable" "depth" "I") ∈ am_l := am_mem 196 (by decide +kernel) rfl
theorem q_182 : (Jvm.Cond.soleField "java/lang/Throwable" "depth") ∈ am_l := am_mem 197 (by decide +kernel) rfl
theorem q_183 : (Jvm.Cond.soleField "java/lang/Throwable" "suppressedExceptions") ∈ am_l := am_mem 198 (by decide +kernel) rfl
theorem q_184 : (Jvm.Cond.superclass "java/lang/IllegalArgumentException" "java/lang/RuntimeException") ∈ am_l := am_mem 199 (by decide +kernel) rfl
theorem q_185 : (Jvm.Cond.methodLink "RunSorter" (61 : Nat) ({ cls := "RunSorter", name := "within", desc := "(Z)V" } : Jvm.MethodName)) ∈ am_l := am_mem 200 (by decide +kernel) rfl
theorem q_186 : (Jvm.Cond.static ({ cls := "RunSorter", name := "within", desc := "(Z)V" } : Jvm.MethodName)) ∈ am_l := am_mem 201 (by decide +kernel) rfl
theorem q_187 : (Jvm.Cond.code ({ cls := "RunSorter", name := "within", desc := "(Z)V" } : Jvm.MethodName) prog_1_method_3_code (1 : Nat) (Option.none : Option Jvm.ClassFile.FieldType)) ∈ am_l := am_mem 202 (by decide +kernel) rfl
theorem q_188 : (Jvm.Cond.classLink "RunSorter" (50 : Nat) "java/lang/IndexOutOfBoundsException") ∈ am_l := am_mem 203 (by decide +kernel) rfl
theorem q_189 : (Jvm.Cond.instantiable "java/lang/IndexOutOfBoundsException" (6 : Nat)) ∈ am_l := am_mem 204 (by decide +kernel) rfl
theorem q_190 : (Jvm.Cond.castable "java/lang/IndexOutOfBoundsException" "java/lang/IndexOutOfBoundsException") ∈ am_l := am_mem 205 (by decide +kernel) rfl
theorem q_191 : (Jvm.Cond.selects "java/lang/IndexOutOfBoundsException" ({ cls := "java/lang/Throwable", name := "fillInStackTrace", desc := "(I)Ljava/lang/Throwable;" } : Jvm.MethodName) ({ cls := "java/lang/Throwable", name := "fillInStackTrace", desc := "(I)Ljava/lang/Throwable;" } : Jvm.MethodName)) ∈ am_l := am_mem 206 (by decide +kernel) rfl
theorem q_192 : (Jvm.Cond.lays "java/lang/IndexOutOfBoundsException" "java/lang/Throwable" "cause" "Ljava/lang/Throwable;") ∈ am_l := am_mem 207 (by decide +kernel) rfl
theorem q_193 : (Jvm.Cond.lays "java/lang/IndexOutOfBoundsException" "java/lang/Throwable" "stackTrace" "[Ljava/lang/StackTraceElement;") ∈ am_l := am_mem 208 (by decide +kernel) rfl
theorem q_194 : (Jvm.Cond.lays "java/lang/IndexOutOfBoundsException" "java/lang/Throwable" "suppressedExceptions" "Ljava/util/List;") ∈ am_l := am_mem 209 (by decide +kernel) rfl
theorem q_195 : (Jvm.Cond.lays "java/lang/IndexOutOfBoundsException" "java/lang/Throwable" "detailMessage" "Ljava/lang/String;") ∈ am_l := am_mem 210 (by decide +kernel) rfl
theorem q_196 : (Jvm.Cond.lays "java/lang/IndexOutOfBoundsException" "java/lang/Throwable" "backtrace" "Ljava/lang/Object;") ∈ am_l := am_mem 211 (by decide +kernel) rfl
theorem q_197 : (Jvm.Cond.methodLink "RunSorter" (52 : Nat) ({ cls := "java/lang/IndexOutOfBoundsException", name := "<init>", desc := "()V" } : Jvm.MethodName)) ∈ am_l := am_mem 212 (by decide +kernel) rfl
theorem q_198 : (Jvm.Cond.instanceMethod ({ cls := "java/lang/IndexOutOfBoundsException", name := "<init>", desc := "()V" } : Jvm.MethodName)) ∈ am_l := am_mem 213 (by decide +kernel) rfl
theorem q_199 : (Jvm.Cond.code ({ cls := "java/lang/IndexOutOfBoundsException", name := "<init>", desc := "()V" } : Jvm.MethodName) prog_13_method_1_code (1 : Nat) (Option.none : Option Jvm.ClassFile.FieldType)) ∈ am_l := am_mem 214 (by decide +kernel) rfl
theorem q_200 : (Jvm.Cond.methodLink "java/lang/IndexOutOfBoundsException" (1 : Nat) ({ cls := "java/lang/RuntimeException", name := "<init>", desc := "()V" } : Jvm.MethodName)) ∈ am_l := am_mem 215 (by decide +kernel) rfl
theorem q_201 : (Jvm.Cond.lays "java/lang/IndexOutOfBoundsException" "java/lang/Throwable" "depth" "I") ∈ am_l := am_mem 216 (by decide +kernel) rfl
theorem q_202 : (Jvm.Cond.superclass "java/lang/IndexOutOfBoundsException" "java/lang/RuntimeException") ∈ am_l := am_mem 217 (by decide +kernel) rfl
theorem q_203 : (Jvm.Cond.methodLink "RunSorter" (65 : Nat) ({ cls := "RunSorter", name := "add", desc := "(I)V" } : Jvm.MethodName)) ∈ am_l := am_mem 218 (by decide +kernel) rfl
theorem q_204 : (Jvm.Cond.privateMethod ({ cls := "RunSorter", name := "add", desc := "(I)V" } : Jvm.MethodName)) ∈ am_l := am_mem 219 (by decide +kernel) rfl
theorem q_205 : (Jvm.Cond.instanceMethod ({ cls := "RunSorter", name := "add", desc := "(I)V" } : Jvm.MethodName)) ∈ am_l := am_mem 220 (by decide +kernel) rfl
theorem q_206 : (Jvm.Cond.code ({ cls := "RunSorter", name := "add", desc := "(I)V" } : Jvm.MethodName) prog_1_method_4_code (2 : Nat) (Option.none : Option Jvm.ClassFile.FieldType)) ∈ am_l := am_mem 221 (by decide +kernel) rfl
theorem q_207 : (Jvm.Cond.methodLink "RunSorterLaw" (55 : Nat) ({ cls := "RunSorterLaw", name := "scatter", desc := "(LRunSorter;III[J)I" } : Jvm.MethodName)) ∈ am_l := am_mem 222 (by decide +kernel) rfl
theorem q_208 : (Jvm.Cond.static ({ cls := "RunSorterLaw", name := "scatter", desc := "(LRunSorter;III[J)I" } : Jvm.MethodName)) ∈ am_l := am_mem 223 (by decide +kernel) rfl
theorem q_209 : (Jvm.Cond.codeWith ({ cls := "RunSorterLaw", name := "scatter", desc := "(LRunSorter;III[J)I" } : Jvm.MethodName) method_4_code (6 : Nat) (Option.some Jvm.ClassFile.FieldType.int) [((0 : Nat), (12 : Nat), (15 : Nat), (13 : Nat)), ((0 : Nat), (12 : Nat), (19 : Nat), (15 : Nat))]) ∈ am_l := am_mem 224 (by decide +kernel) rfl
theorem q_210 : (Jvm.Cond.methodLink "RunSorterLaw" (17 : Nat) ({ cls := "RunSorter", name := "scatter", desc := "(III)I" } : Jvm.MethodName)) ∈ am_l := am_mem 225 (by decide +kernel) rfl
theorem q_211 : (Jvm.Cond.instanceMethod ({ cls := "RunSorter", name := "scatter", desc := "(III)I" } : Jvm.MethodName)) ∈ am_l := am_mem 226 (by decide +kernel) rfl
theorem q_212 : (Jvm.Cond.selects "RunSorter" ({ cls := "RunSorter", name := "scatter", desc := "(III)I" } : Jvm.MethodName) ({ cls := "RunSorter", name := "scatter", desc := "(III)I" } : Jvm.MethodName)) ∈ am_l := am_mem 227 (by decide +kernel) rfl
theorem q_213 : (Jvm.Cond.code ({ cls := "RunSorter", name := "scatter", desc := "(III)I" } : Jvm.MethodName) prog_1_method_6_code (6 : Nat) (Option.some Jvm.ClassFile.FieldType.int)) ∈ am_l := am_mem 228 (by decide +kernel) rfl
theorem q_214 : (Jvm.Cond.constant "RunSorter" (69 : Nat) (1664525 : Int32)) ∈ am_l := am_mem 229 (by decide +kernel) rfl
theorem q_215 : (Jvm.Cond.constant "RunSorter" (70 : Nat) (1013904223 : Int32)) ∈ am_l := am_mem 230 (by decide +kernel) rfl
theorem q_216 : (Jvm.Cond.methodLink "RunSorterLaw" (58 : Nat) ({ cls := "RunSorterLaw", name := "sort", desc := "(LRunSorter;III[J)I" } : Jvm.MethodName)) ∈ am_l := am_mem 231 (by decide +kernel) rfl
theorem q_217 : (Jvm.Cond.static ({ cls := "RunSorterLaw", name := "sort", desc := "(LRunSorter;III[J)I" } : Jvm.MethodName)) ∈ am_l := am_mem 232 (by decide +kernel) rfl
theorem q_218 : (Jvm.Cond.codeWith ({ cls := "RunSorterLaw", name := "sort", desc := "(LRunSorter;III[J)I" } : Jvm.MethodName) method_5_code (6 : Nat) (Option.some Jvm.ClassFile.FieldType.int) [((0 : Nat), (12 : Nat), (15 : Nat), (13 : Nat))]) ∈ am_l := am_mem 233 (by decide +kernel) rfl
theorem q_219 : (Jvm.Cond.methodLink "RunSorterLaw" (20 : Nat) ({ cls := "RunSorter", name := "sort", desc := "(III)I" } : Jvm.MethodName)) ∈ am_l := am_mem 234 (by decide +kernel) rfl
theorem q_220 : (Jvm.Cond.instanceMethod ({ cls := "RunSorter", name := "sort", desc := "(III)I" } : Jvm.MethodName)) ∈ am_l := am_mem 235 (by decide +kernel) rfl
theorem q_221 : (Jvm.Cond.selects "RunSorter" ({ cls := "RunSorter", name := "sort", desc := "(III)I" } : Jvm.MethodName) ({ cls := "RunSorter", name := "sort", desc := "(III)I" } : Jvm.MethodName)) ∈ am_l := am_mem 236 (by decide +kernel) rfl
theorem q_222 : (Jvm.Cond.code ({ cls := "RunSorter", name := "sort", desc := "(III)I" } : Jvm.MethodName) prog_1_method_7_code (7 : Nat) (Option.some Jvm.ClassFile.FieldType.int)) ∈ am_l := am_mem 237 (by decide +kernel) rfl
theorem q_223 : (Jvm.Cond.methodLink "RunSorter" (71 : Nat) ({ cls := "RunSorter$Sorter", name := "cells", desc := "()[I" } : Jvm.MethodName)) ∈ am_l := am_mem 238 (by decide +kernel) rfl
theorem q_224 : (Jvm.Cond.instanceMethod ({ cls := "RunSorter$Sorter", name := "cells", desc := "()[I" } : Jvm.MethodName)) ∈ am_l := am_mem 239 (by decide +kernel) rfl
theorem q_225 : (Jvm.Cond.selects "RunSorter$Sorter" ({ cls := "RunSorter$Sorter", name := "cells", desc := "()[I" } : Jvm.MethodName) ({ cls := "RunSorter$Sorter", name := "cells", desc := "()[I" } : Jvm.MethodName)) ∈ am_l := am_mem 240 (by decide +kernel) rfl
theorem q_226 : (Jvm.Cond.code ({ cls := "RunSorter$Sorter", name := "cells", desc := "()[I" } : Jvm.MethodName) prog_7_method_2_code (1 : Nat) (Option.some (Jvm.ClassFile.FieldType.array Jvm.ClassFile.FieldType.int))) ∈ am_l := am_mem 241 (by decide +kernel) rfl
theorem q_227 : (Jvm.Cond.classLink "RunSorter" (75 : Nat) "RunSorter$ByNumber") ∈ am_l := am_mem 242 (by decide +kernel) rfl
theorem q_228 : (Jvm.Cond.instantiable "RunSorter$ByNumber" (2 : Nat)) ∈ am_l := am_mem 243 (by decide +kernel) rfl
theorem q_229 : (Jvm.Cond.methodLink "RunSorter" (77 : Nat) ({ cls := "RunSorter$ByNumber", name := "<init>", desc := "(LRunSorter$Order;[I)V" } : Jvm.MethodName)) ∈ am_l := am_mem 244 (by decide +kernel) rfl
theorem q_230 : (Jvm.Cond.instanceMethod ({ cls := "RunSorter$ByNumber", name := "<init>", desc := "(LRunSorter$Order;[I)V" } : Jvm.MethodName)) ∈ am_l := am_mem 245 (by decide +kernel) rfl
theorem q_231 : (Jvm.Cond.code ({ cls := "RunSorter$ByNumber", name := "<init>", desc := "(LRunSorter$Order;[I)V" } : Jvm.MethodName) prog_2_method_1_code (3 : Nat) (Option.none : Option Jvm.ClassFile.FieldType)) ∈ am_l := am_mem 246 (by decide +kernel) rfl
theorem q_232 : (Jvm.Cond.methodLink "RunSorter$ByNumber" (1 : Nat) ({ cls := "java/lang/Object", name := "<init>", desc := "()V" } : Jvm.MethodName)) ∈ am_l := am_mem 247 (by decide +kernel) rfl
theorem q_233 : (Jvm.Cond.fieldLink "RunSorter$ByNumber" (7 : Nat) "RunSorter$ByNumber" "order" "LRunSorter$Order;") ∈ am_l := am_mem 248 (by decide +kernel) rfl
theorem q_234 : (Jvm.Cond.fieldLink "RunSorter$ByNumber" (13 : Nat) "RunSorter$ByNumber" "numbers" "[I") ∈ am_l := am_mem 249 (by decide +kernel) rfl
theorem q_235 : (Jvm.Cond.laysFinal "RunSorter$ByNumber" "RunSorter$ByNumber" "order" "LRunSorter$Order;") ∈ am_l := am_mem 250 (by decide +kernel) rfl
theorem q_236 : (Jvm.Cond.soleField "RunSorter$ByNumber" "order") ∈ am_l := am_mem 251 (by decide +kernel) rfl
theorem q_237 : (Jvm.Cond.laysFinal "RunSorter$ByNumber" "RunSorter$ByNumber" "numbers" "[I") ∈ am_l := am_mem 252 (by decide +kernel) rfl
theorem q_238 : (Jvm.Cond.soleField "RunSorter$ByNumber" "numbers") ∈ am_l := am_mem 253 (by decide +kernel) rfl
theorem q_239 : (Jvm.Cond.superclass "RunSorter$ByNumber" "java/lang/Object") ∈ am_l := am_mem 254 (by decide +kernel) rfl
theorem q_240 : (Jvm.Cond.methodLink "RunSorter" (80 : Nat) ({ cls := "RunSorter$Sorter", name := "sort", desc := "(ILRunSorter$Order;)V" } : Jvm.MethodName)) ∈ am_l := am_mem 255 (by decide +kernel) rfl
theorem q_241 : (Jvm.Cond.instanceMethod ({ cls := "RunSorter$Sorter", name := "sort", desc := "(ILRunSorter$Order;)V" } : Jvm.MethodName)) ∈ am_l := am_mem 256 (by decide +kernel) rfl
theorem q_242 : (Jvm.Cond.selects "RunSorter$Sorter" ({ cls := "RunSorter$Sorter", name := "sort", desc := "(ILRunSorter$Order;)V" } : Jvm.MethodName) ({ cls := "RunSorter$Sorter", name := "sort", desc := "(ILRunSorter$Order;)V" } : Jvm.MethodName)) ∈ am_l := am_mem 257 (by decide +kernel) rfl
theorem q_243 : (Jvm.Cond.code ({ cls := "RunSorter$Sorter", name := "sort", desc := "(ILRunSorter$Order;)V" } : Jvm.MethodName) prog_7_method_3_code (7 : Nat) (Option.none : Option Jvm.ClassFile.FieldType)) ∈ am_l := am_mem 258 (by decide +kernel) rfl
theorem q_244 : (Jvm.Cond.methodLink "RunSorter$Sorter" (35 : Nat) ({ cls := "RunSorter$Sorter", name := "shortest", desc := "(I)I" } : Jvm.MethodName)) ∈ am_l := am_mem 259 (by decide +kernel) rfl
theorem q_245 : (Jvm.Cond.static ({ cls := "RunSorter$Sorter", name := "shortest", desc := "(I)I" } : Jvm.MethodName)) ∈ am_l := am_mem 260 (by decide +kernel) rfl
theorem q_246 : (Jvm.Cond.code ({ cls := "RunSorter$Sorter", name := "shortest", desc := "(I)I" } : Jvm.MethodName) prog_7_method_4_code (3 : Nat) (Option.some Jvm.ClassFile.FieldType.int)) ∈ am_l := am_mem 261 (by decide +kernel) rfl
theorem q_247 : (Jvm.Cond.methodLink "RunSorter$Sorter" (39 : Nat) ({ cls := "RunSorter$Sorter", name := "run", desc := "(II)I" } : Jvm.MethodName)) ∈ am_l := am_mem 262 (by decide +kernel) rfl
theorem q_248 : (Jvm.Cond.privateMethod ({ cls := "RunSorter$Sorter", name := "run", desc := "(II)I" } : Jvm.MethodName)) ∈ am_l := am_mem 263 (by decide +kernel) rfl
theorem q_249 : (Jvm.Cond.instanceMethod ({ cls := "RunSorter$Sorter", name := "run", desc := "(II)I" } : Jvm.MethodName)) ∈ am_l := am_mem 264 (by decide +kernel) rfl
theorem q_250 : (Jvm.Cond.code ({ cls := "RunSorter$Sorter", name := "run", desc := "(II)I" } : Jvm.MethodName) prog_7_method_5_code (8 : Nat) (Option.some Jvm.ClassFile.FieldType.int)) ∈ am_l := am_mem 265 (by decide +kernel) rfl
theorem q_252 : (Jvm.Cond.methodLink "RunSorter$Sorter" (54 : Nat) ({ cls := "RunSorter$Order", name := "compare", desc := "(II)I" } : Jvm.MethodName)) ∈ am_l := am_mem 267 (by decide +kernel) rfl
theorem q_253 : (Jvm.Cond.interfaceMethod "RunSorter$Order" "RunSorter$Order" "compare" "(II)I") ∈ am_l := am_mem 268 (by decide +kernel) rfl
theorem q_254 : (Jvm.Cond.declares ({ cls := "RunSorter$Order", name := "compare", desc := "(II)I" } : Jvm.MethodName)) ∈ am_l := am_mem 269 (by decide +kernel) rfl
theorem q_255 : (Jvm.Cond.castable "RunSorter$ByNumber" "RunSorter$Order") ∈ am_l := am_mem 270 (by decide +kernel) rfl
theorem q_256 : (Jvm.Cond.selects "RunSorter$ByNumber" ({ cls := "RunSorter$Order", name := "compare", desc := "(II)I" } : Jvm.MethodName) ({ cls := "RunSorter$ByNumber", name := "compare", desc := "(II)I" } : Jvm.MethodName)) ∈ am_l := am_mem 271 (by decide +kernel) rfl
theorem q_257 : (Jvm.Cond.unhidden "RunSorter$ByNumber" "compare" "(II)I") ∈ am_l := am_mem 272 (by decide +kernel) rfl
theorem q_258 : (Jvm.Cond.instanceMethod ({ cls := "RunSorter$ByNumber", name := "compare", desc := "(II)I" } : Jvm.MethodName)) ∈ am_l := am_mem 273 (by decide +kernel) rfl
theorem q_259 : (Jvm.Cond.publicMethod ({ cls := "RunSorter$ByNumber", name := "compare", desc := "(II)I" } : Jvm.MethodName)) ∈ am_l := am_mem 274 (by decide +kernel) rfl
theorem q_260 : (Jvm.Cond.code ({ cls := "RunSorter$ByNumber", name := "compare", desc := "(II)I" } : Jvm.MethodName) prog_2_method_2_code (3 : Nat) (Option.some Jvm.ClassFile.FieldType.int)) ∈ am_l := am_mem 275 (by decide +kernel) rfl
theorem q_262 : (Jvm.Cond.methodLink "RunSorter$ByNumber" (17 : Nat) ({ cls := "RunSorter$Order", name := "compare", desc := "(II)I" } : Jvm.MethodName)) ∈ am_l := am_mem 277 (by decide +kernel) rfl
theorem q_263 : (Jvm.Cond.castable "RunSorter$Falling" "RunSorter$Order") ∈ am_l := am_mem 278 (by decide +kernel) rfl
theorem q_264 : (Jvm.Cond.selects "RunSorter$Falling" ({ cls := "RunSorter$Order", name := "compare", desc := "(II)I" } : Jvm.MethodName) ({ cls := "RunSorter$Falling", name := "compare", desc := "(II)I" } : Jvm.MethodName)) ∈ am_l := am_mem 279 (by decide +kernel) rfl
theorem q_265 : (Jvm.Cond.unhidden "RunSorter$Falling" "compare" "(II)I") ∈ am_l := am_mem 280 (by decide +kernel) rfl
theorem q_266 : (Jvm.Cond.instanceMethod ({ cls := "RunSorter$Falling", name := "compare", desc := "(II)I" } : Jvm.MethodName)) ∈ am_l := am_mem 281 (by decide +kernel) rfl
theorem q_267 : (Jvm.Cond.publicMethod ({ cls := "RunSorter$Falling", name := "compare", desc := "(II)I" } : Jvm.MethodName)) ∈ am_l := am_mem 282 (by decide +kernel) rfl
theorem q_268 : (Jvm.Cond.code ({ cls := "RunSorter$Falling", name := "compare", desc := "(II)I" } : Jvm.MethodName) prog_3_method_2_code (3 : Nat) (Option.some Jvm.ClassFile.FieldType.int)) ∈ am_l := am_mem 283 (by decide +kernel) rfl
theorem q_269 : (Jvm.Cond.castable "RunSorter$LowBits" "RunSorter$Order") ∈ am_l := am_mem 284 (by decide +kernel) rfl
theorem q_270 : (Jvm.Cond.selects "RunSorter$LowBits" ({ cls := "RunSorter$Order", name := "compare", desc := "(II)I" } : Jvm.MethodName) ({ cls := "RunSorter$LowBits", name := "compare", desc := "(II)I" } : Jvm.MethodName)) ∈ am_l := am_mem 285 (by decide +kernel) rfl
theorem q_271 : (Jvm.Cond.unhidden "RunSorter$LowBits" "compare" "(II)I") ∈ am_l := am_mem 286 (by decide +kernel) rfl
theorem q_272 : (Jvm.Cond.instanceMethod ({ cls := "RunSorter$LowBits", name := "compare", desc := "(II)I" } : Jvm.MethodName)) ∈ am_l := am_mem 287 (by decide +kernel) rfl
theorem q_273 : (Jvm.Cond.publicMethod ({ cls := "RunSorter$LowBits", name := "compare", desc := "(II)I" } : Jvm.MethodName)) ∈ am_l := am_mem 288 (by decide +kernel) rfl
theorem q_274 : (Jvm.Cond.code ({ cls := "RunSorter$LowBits", name := "compare", desc := "(II)I" } : Jvm.MethodName) prog_4_method_2_code (3 : Nat) (Option.some Jvm.ClassFile.FieldType.int)) ∈ am_l := am_mem 289 (by decide +kernel) rfl
theorem q_275 : (Jvm.Cond.castable "RunSorter$Rising" "RunSorter$Order") ∈ am_l := am_mem 290 (by decide +kernel) rfl
theorem q_276 : (Jvm.Cond.selects "RunSorter$Rising" ({ cls := "RunSorter$Order", name := "compare", desc := "(II)I" } : Jvm.MethodName) ({ cls := "RunSorter$Rising", name := "compare", desc := "(II)I" } : Jvm.MethodName)) ∈ am_l := am_mem 291 (by decide +kernel) rfl
theorem q_277 : (Jvm.Cond.unhidden "RunSorter$Rising" "compare" "(II)I") ∈ am_l := am_mem 292 (by decide +kernel) rfl
theorem q_278 : (Jvm.Cond.instanceMethod ({ cls := "RunSorter$Rising", name := "compare", desc := "(II)I" } : Jvm.MethodName)) ∈ am_l := am_mem 293 (by decide +kernel) rfl
theorem q_279 : (Jvm.Cond.publicMethod ({ cls := "RunSorter$Rising", name := "compare", desc := "(II)I" } : Jvm.MethodName)) ∈ am_l := am_mem 294 (by decide +kernel) rfl
theorem q_280 : (Jvm.Cond.code ({ cls := "RunSorter$Rising", name := "compare", desc := "(II)I" } : Jvm.MethodName) prog_6_method_2_code (3 : Nat) (Option.some Jvm.ClassFile.FieldType.int)) ∈ am_l := am_mem 295 (by decide +kernel) rfl
theorem q_281 : (Jvm.Cond.castable "RunSorter$Unsigned" "RunSorter$Order") ∈ am_l := am_mem 296 (by decide +kernel) rfl
theorem q_282 : (Jvm.Cond.selects "RunSorter$Unsigned" ({ cls := "RunSorter$Order", name := "compare", desc := "(II)I" } : Jvm.MethodName) ({ cls := "RunSorter$Unsigned", name := "compare", desc := "(II)I" } : Jvm.MethodName)) ∈ am_l := am_mem 297 (by decide +kernel) rfl
theorem q_283 : (Jvm.Cond.unhidden "RunSorter$Unsigned" "compare" "(II)I") ∈ am_l := am_mem 298 (by decide +kernel) rfl
theorem q_284 : (Jvm.Cond.instanceMethod ({ cls := "RunSorter$Unsigned", name := "compare", desc := "(II)I" } : Jvm.MethodName)) ∈ am_l := am_mem 299 (by decide +kernel) rfl
theorem q_285 : (Jvm.Cond.publicMethod ({ cls := "RunSorter$Unsigned", name := "compare", desc := "(II)I" } : Jvm.MethodName)) ∈ am_l := am_mem 300 (by decide +kernel) rfl
theorem q_286 : (Jvm.Cond.code ({ cls := "RunSorter$Unsigned", name := "compare", desc := "(II)I" } : Jvm.MethodName) prog_8_method_2_code (3 : Nat) (Option.some Jvm.ClassFile.FieldType.int)) ∈ am_l := am_mem 301 (by decide +kernel) rfl
theorem q_287 : (Jvm.Cond.constant "RunSorter$Unsigned" (9 : Nat) (-2147483648 : Int32)) ∈ am_l := am_mem 302 (by decide +kernel) rfl
theorem q_288 : (Jvm.Cond.methodLink "RunSorter$Sorter" (43 : Nat) ({ cls := "RunSorter$Sorter", name := "insertion", desc := "(III)V" } : Jvm.MethodName)) ∈ am_l := am_mem 303 (by decide +kernel) rfl
theorem q_289 : (Jvm.Cond.privateMethod ({ cls := "RunSorter$Sorter", name := "insertion", desc := "(III)V" } : Jvm.MethodName)) ∈ am_l := am_mem 304 (by decide +kernel) rfl
theorem q_290 : (Jvm.Cond.instanceMethod ({ cls := "RunSorter$Sorter", name := "insertion", desc := "(III)V" } : Jvm.MethodName)) ∈ am_l := am_mem 305 (by decide +kernel) rfl
theorem q_291 : (Jvm.Cond.code ({ cls := "RunSorter$Sorter", name := "insertion", desc := "(III)V" } : Jvm.MethodName) prog_7_method_6_code (9 : Nat) (Option.none : Option Jvm.ClassFile.FieldType)) ∈ am_l := am_mem 306 (by decide +kernel) rfl
theorem q_292 : (Jvm.Cond.methodLink "RunSorter$Sorter" (47 : Nat) ({ cls := "RunSorter$Sorter", name := "settle", desc := "()V" } : Jvm.MethodName)) ∈ am_l := am_mem 307 (by decide +kernel) rfl
theorem q_293 : (Jvm.Cond.privateMethod ({ cls := "RunSorter$Sorter", name := "settle", desc := "()V" } : Jvm.MethodName)) ∈ am_l := am_mem 308 (by decide +kernel) rfl
theorem q_294 : (Jvm.Cond.instanceMethod ({ cls := "RunSorter$Sorter", name := "settle", desc := "()V" } : Jvm.MethodName)) ∈ am_l := am_mem 309 (by decide +kernel) rfl
theorem q_295 : (Jvm.Cond.code ({ cls := "RunSorter$Sorter", name := "settle", desc := "()V" } : Jvm.MethodName) prog_7_method_7_code (3 : Nat) (Option.none : Option Jvm.ClassFile.FieldType)) ∈ am_l := am_mem 310 (by decide +kernel) rfl
theorem q_296 : (Jvm.Cond.methodLink "RunSorter$Sorter" (50 : Nat) ({ cls := "RunSorter$Sorter", name := "merge", desc := "(I)V" } : Jvm.MethodName)) ∈ am_l := am_mem 311 (by decide +kernel) rfl
theorem q_297 : (Jvm.Cond.privateMethod ({ cls := "RunSorter$Sorter", name := "merge", desc := "(I)V" } : Jvm.MethodName)) ∈ am_l := am_mem 312 (by decide +kernel) rfl
theorem q_298 : (Jvm.Cond.instanceMethod ({ cls := "RunSorter$Sorter", name := "merge", desc := "(I)V" } : Jvm.MethodName)) ∈ am_l := am_mem 313 (by decide +kernel) rfl
theorem q_299 : (Jvm.Cond.code ({ cls := "RunSorter$Sorter", name := "merge", desc := "(I)V" } : Jvm.MethodName) prog_7_method_8_code (7 : Nat) (Option.none : Option Jvm.ClassFile.FieldType)) ∈ am_l := am_mem 314 (by decide +kernel) rfl
theorem q_300 : (Jvm.Cond.methodLink "RunSorter$Sorter" (59 : Nat) ({ cls := "RunSorter$Sorter", name := "behind", desc := "(III)I" } : Jvm.MethodName)) ∈ am_l := am_mem 315 (by decide +kernel) rfl
theorem q_301 : (Jvm.Cond.privateMethod ({ cls := "RunSorter$Sorter", name := "behind", desc := "(III)I" } : Jvm.MethodName)) ∈ am_l := am_mem 316 (by decide +kernel) rfl
theorem q_302 : (Jvm.Cond.instanceMethod ({ cls := "RunSorter$Sorter", name := "behind", desc := "(III)I" } : Jvm.MethodName)) ∈ am_l := am_mem 317 (by decide +kernel) rfl
theorem q_303 : (Jvm.Cond.code ({ cls := "RunSorter$Sorter", name := "behind", desc := "(III)I" } : Jvm.MethodName) prog_7_method_9_code (8 : Nat) (Option.some Jvm.ClassFile.FieldType.int)) ∈ am_l := am_mem 318 (by decide +kernel) rfl
theorem q_304 : (Jvm.Cond.methodLink "RunSorter$Sorter" (63 : Nat) ({ cls := "RunSorter$Sorter", name := "notBefore", desc := "(III)I" } : Jvm.MethodName)) ∈ am_l := am_mem 319 (by decide +kernel) rfl
theorem q_305 : (Jvm.Cond.privateMethod ({ cls := "RunSorter$Sorter", name := "notBefore", desc := "(III)I" } : Jvm.MethodName)) ∈ am_l := am_mem 320 (by decide +kernel) rfl
theorem q_306 : (Jvm.Cond.instanceMethod ({ cls := "RunSorter$Sorter", name := "notBefore", desc := "(III)I" } : Jvm.MethodName)) ∈ am_l := am_mem 321 (by decide +kernel) rfl
theorem q_307 : (Jvm.Cond.code ({ cls := "RunSorter$Sorter", name := "notBefore", desc := "(III)I" } : Jvm.MethodName) prog_7_method_10_code (8 : Nat) (Option.some Jvm.ClassFile.FieldType.int)) ∈ am_l := am_mem 322 (by decide +kernel) rfl
theorem q_308 : (Jvm.Cond.methodLink "RunSorter$Sorter" (66 : Nat) ({ cls := "RunSorter$Sorter", name := "mergeUp", desc := "(IIII)V" } : Jvm.MethodName)) ∈ am_l := am_mem 323 (by decide +kernel) rfl
theorem q_309 : (Jvm.Cond.privateMethod ({ cls := "RunSorter$Sorter", name := "mergeUp", desc := "(IIII)V" } : Jvm.MethodName)) ∈ am_l := am_mem 324 (by decide +kernel) rfl
theorem q_310 : (Jvm.Cond.instanceMethod ({ cls := "RunSorter$Sorter", name := "mergeUp", desc := "(IIII)V" } : Jvm.MethodName)) ∈ am_l := am_mem 325 (by decide +kernel) rfl
theorem q_311 : (Jvm.Cond.code ({ cls := "RunSorter$Sorter", name := "mergeUp", desc := "(IIII)V" } : Jvm.MethodName) prog_7_method_11_code (14 : Nat) (Option.none : Option Jvm.ClassFile.FieldType)) ∈ am_l := am_mem 326 (by decide +kernel) rfl
theorem q_312 : (Jvm.Cond.methodLink "RunSorter$Sorter" (73 : Nat) ({ cls := "RunSorter$Sorter", name := "waiting", desc := "(III)I" } : Jvm.MethodName)) ∈ am_l := am_mem 327 (by decide +kernel) rfl
theorem q_313 : (Jvm.Cond.privateMethod ({ cls := "RunSorter$Sorter", name := "waiting", desc := "(III)I" } : Jvm.MethodName)) ∈ am_l := am_mem 328 (by decide +kernel) rfl
theorem q_314 : (Jvm.Cond.instanceMethod ({ cls := "RunSorter$Sorter", name := "waiting", desc := "(III)I" } : Jvm.MethodName)) ∈ am_l := am_mem 329 (by decide +kernel) rfl
theorem q_315 : (Jvm.Cond.code ({ cls := "RunSorter$Sorter", name := "waiting", desc := "(III)I" } : Jvm.MethodName) prog_7_method_12_code (7 : Nat) (Option.some Jvm.ClassFile.FieldType.int)) ∈ am_l := am_mem 330 (by decide +kernel) rfl
theorem q_316 : (Jvm.Cond.methodLink "RunSorter$Sorter" (70 : Nat) ({ cls := "RunSorter$Sorter", name := "mergeDown", desc := "(IIII)V" } : Jvm.MethodName)) ∈ am_l := am_mem 331 (by decide +kernel) rfl
theorem q_317 : (Jvm.Cond.privateMethod ({ cls := "RunSorter$Sorter", name := "mergeDown", desc := "(IIII)V" } : Jvm.MethodName)) ∈ am_l := am_mem 332 (by decide +kernel) rfl
theorem q_318 : (Jvm.Cond.instanceMethod ({ cls := "RunSorter$Sorter", name := "mergeDown", desc := "(IIII)V" } : Jvm.MethodName)) ∈ am_l := am_mem 333 (by decide +kernel) rfl
theorem q_319 : (Jvm.Cond.code ({ cls := "RunSorter$Sorter", name := "mergeDown", desc := "(IIII)V" } : Jvm.MethodName) prog_7_method_13_code (9 : Nat) (Option.none : Option Jvm.ClassFile.FieldType)) ∈ am_l := am_mem 334 (by decide +kernel) rfl
theorem q_320 : (Jvm.Cond.methodLink "RunSorterLaw" (61 : Nat) ({ cls := "RunSorterLaw", name := "get", desc := "(LRunSorter;I[J)I" } : Jvm.MethodName)) ∈ am_l := am_mem 335 (by decide +kernel) rfl
theorem q_321 : (Jvm.Cond.static ({ cls := "RunSorterLaw", name := "get", desc := "(LRunSorter;I[J)I" } : Jvm.MethodName)) ∈ am_l := am_mem 336 (by decide +kernel) rfl
theorem q_322 : (Jvm.Cond.codeWith ({ cls := "RunSorterLaw", name := "get", desc := "(LRunSorter;I[J)I" } : Jvm.MethodName) method_6_code (4 : Nat) (Option.some Jvm.ClassFile.FieldType.int) [((0 : Nat), (9 : Nat), (12 : Nat), (15 : Nat))]) ∈ am_l := am_mem 337 (by decide +kernel) rfl
theorem q_323 : (Jvm.Cond.methodLink "RunSorterLaw" (23 : Nat) ({ cls := "RunSorter", name := "get", desc := "(I)I" } : Jvm.MethodName)) ∈ am_l := am_mem 338 (by decide +kernel) rfl
theorem q_324 : (Jvm.Cond.instanceMethod ({ cls := "RunSorter", name := "get", desc := "(I)I" } : Jvm.MethodName)) ∈ am_l := am_mem 339 (by decide +kernel) rfl
theorem q_325 : (Jvm.Cond.selects "RunSorter" ({ cls := "RunSorter", name := "get", desc := "(I)I" } : Jvm.MethodName) ({ cls := "RunSorter", name := "get", desc := "(I)I" } : Jvm.MethodName)) ∈ am_l := am_mem 340 (by decide +kernel) rfl
theorem q_326 : (Jvm.Cond.code ({ cls := "RunSorter", name := "get", desc := "(I)I" } : Jvm.MethodName) prog_1_method_8_code (2 : Nat) (Option.some Jvm.ClassFile.FieldType.int)) ∈ am_l := am_mem 341 (by decide +kernel) rfl
theorem q_327 : (Jvm.Cond.methodLink "RunSorterLaw" (65 : Nat) ({ cls := "RunSorterLaw", name := "tag", desc := "(LRunSorter;I[J)I" } : Jvm.MethodName)) ∈ am_l := am_mem 342 (by decide +kernel) rfl
theorem q_328 : (Jvm.Cond.static ({ cls := "RunSorterLaw", name := "tag", desc := "(LRunSorter;I[J)I" } : Jvm.MethodName)) ∈ am_l := am_mem 343 (by decide +kernel) rfl
theorem q_329 : (Jvm.Cond.codeWith ({ cls := "RunSorterLaw", name := "tag", desc := "(LRunSorter;I[J)I" } : Jvm.MethodName) method_7_code (4 : Nat) (Option.some Jvm.ClassFile.FieldType.int) [((0 : Nat), (9 : Nat), (12 : Nat), (15 : Nat))]) ∈ am_l := am_mem 344 (by decide +kernel) rfl
theorem q_330 : (Jvm.Cond.methodLink "RunSorterLaw" (27 : Nat) ({ cls := "RunSorter", name := "tag", desc := "(I)I" } : Jvm.MethodName)) ∈ am_l := am_mem 345 (by decide +kernel) rfl
theorem q_331 : (Jvm.Cond.instanceMethod ({ cls := "RunSorter", name := "tag", desc := "(I)I" } : Jvm.MethodName)) ∈ am_l := am_mem 346 (by decide +kernel) rfl
theorem q_332 : (Jvm.Cond.selects "RunSorter" ({ cls := "RunSorter", name := "tag", desc := "(I)I" } : Jvm.MethodName) ({ cls := "RunSorter", name := "tag", desc := "(I)I" } : Jvm.MethodName)) ∈ am_l := am_mem 347 (by decide +kernel) rfl
theorem q_333 : (Jvm.Cond.code ({ cls := "RunSorter", name := "tag", desc := "(I)I" } : Jvm.MethodName) prog_1_method_9_code (2 : Nat) (Option.some Jvm.ClassFile.FieldType.int)) ∈ am_l := am_mem 348 (by decide +kernel) rfl
theorem q_334 : (Jvm.Cond.methodLink "RunSorterLaw" (68 : Nat) ({ cls := "RunSorterLaw", name := "set", desc := "(LRunSorter;II[J)I" } : Jvm.MethodName)) ∈ am_l := am_mem 349 (by decide +kernel) rfl
theorem q_335 : (Jvm.Cond.static ({ cls := "RunSorterLaw", name := "set", desc := "(LRunSorter;II[J)I" } : Jvm.MethodName)) ∈ am_l := am_mem 350 (by decide +kernel) rfl
theorem q_336 : (Jvm.Cond.codeWith ({ cls := "RunSorterLaw", name := "set", desc := "(LRunSorter;II[J)I" } : Jvm.MethodName) method_8_code (5 : Nat) (Option.some Jvm.ClassFile.FieldType.int) [((0 : Nat), (10 : Nat), (13 : Nat), (15 : Nat))]) ∈ am_l := am_mem 351 (by decide +kernel) rfl
theorem q_337 : (Jvm.Cond.methodLink "RunSorterLaw" (30 : Nat) ({ cls := "RunSorter", name := "set", desc := "(II)I" } : Jvm.MethodName)) ∈ am_l := am_mem 352 (by decide +kernel) rfl
theorem q_338 : (Jvm.Cond.instanceMethod ({ cls := "RunSorter", name := "set", desc := "(II)I" } : Jvm.MethodName)) ∈ am_l := am_mem 353 (by decide +kernel) rfl
theorem q_339 : (Jvm.Cond.selects "RunSorter" ({ cls := "RunSorter", name := "set", desc := "(II)I" } : Jvm.MethodName) ({ cls := "RunSorter", name := "set", desc := "(II)I" } : Jvm.MethodName)) ∈ am_l := am_mem 354 (by decide +kernel) rfl
theorem q_340 : (Jvm.Cond.code ({ cls := "RunSorter", name := "set", desc := "(II)I" } : Jvm.MethodName) prog_1_method_10_code (4 : Nat) (Option.some Jvm.ClassFile.FieldType.int)) ∈ am_l := am_mem 355 (by decide +kernel) rfl
theorem q_341 : (Jvm.Cond.methodLink "RunSorterLaw" (72 : Nat) ({ cls := "RunSorterLaw", name := "turn", desc := "(LRunSorter;II[J)I" } : Jvm.MethodName)) ∈ am_l := am_mem 356 (by decide +kernel) rfl
theorem q_342 : (Jvm.Cond.static ({ cls := "RunSorterLaw", name := "turn", desc := "(LRunSorter;II[J)I" } : Jvm.MethodName)) ∈ am_l := am_mem 357 (by decide +kernel) rfl
theorem q_343 : (Jvm.Cond.codeWith ({ cls := "RunSorterLaw", name := "turn", desc := "(LRunSorter;II[J)I" } : Jvm.MethodName) method_9_code (5 : Nat) (Option.some Jvm.ClassFile.FieldType.int) [((0 : Nat), (10 : Nat), (13 : Nat), (13 : Nat))]) ∈ am_l := am_mem 358 (by decide +kernel) rfl
theorem q_344 : (Jvm.Cond.methodLink "RunSorterLaw" (34 : Nat) ({ cls := "RunSorter", name := "turn", desc := "(II)I" } : Jvm.MethodName)) ∈ am_l := am_mem 359 (by decide +kernel) rfl
theorem q_345 : (Jvm.Cond.instanceMethod ({ cls := "RunSorter", name := "turn", desc := "(II)I" } : Jvm.MethodName)) ∈ am_l := am_mem 360 (by decide +kernel) rfl
theorem q_346 : (Jvm.Cond.selects "RunSorter" ({ cls := "RunSorter", name := "turn", desc := "(II)I" } : Jvm.MethodName) ({ cls := "RunSorter", name := "turn", desc := "(II)I" } : Jvm.MethodName)) ∈ am_l := am_mem 361 (by decide +kernel) rfl
theorem q_347 : (Jvm.Cond.code ({ cls := "RunSorter", name := "turn", desc := "(II)I" } : Jvm.MethodName) prog_1_method_11_code (7 : Nat) (Option.some Jvm.ClassFile.FieldType.int)) ∈ am_l := am_mem 362 (by decide +kernel) rfl
theorem q_348 : (Jvm.Cond.methodLink "RunSorterLaw" (75 : Nat) ({ cls := "RunSorterLaw", name := "upTo", desc := "(LRunSorter;IIZ[J)I" } : Jvm.MethodName)) ∈ am_l := am_mem 363 (by decide +kernel) rfl
theorem q_349 : (Jvm.Cond.static ({ cls := "RunSorterLaw", name := "upTo", desc := "(LRunSorter;IIZ[J)I" } : Jvm.MethodName)) ∈ am_l := am_mem 364 (by decide +kernel) rfl
theorem q_350 : (Jvm.Cond.codeWith ({ cls := "RunSorterLaw", name := "upTo", desc := "(LRunSorter;IIZ[J)I" } : Jvm.MethodName) method_10_code (6 : Nat) (Option.some Jvm.ClassFile.FieldType.int) [((0 : Nat), (12 : Nat), (15 : Nat), (13 : Nat))]) ∈ am_l := am_mem 365 (by decide +kernel) rfl
theorem q_351 : (Jvm.Cond.methodLink "RunSorterLaw" (37 : Nat) ({ cls := "RunSorter", name := "upTo", desc := "(IIZ)I" } : Jvm.MethodName)) ∈ am_l := am_mem 366 (by decide +kernel) rfl
theorem q_352 : (Jvm.Cond.instanceMethod ({ cls := "RunSorter", name := "upTo", desc := "(IIZ)I" } : Jvm.MethodName)) ∈ am_l := am_mem 367 (by decide +kernel) rfl
theorem q_353 : (Jvm.Cond.selects "RunSorter" ({ cls := "RunSorter", name := "upTo", desc := "(IIZ)I" } : Jvm.MethodName) ({ cls := "RunSorter", name := "upTo", desc := "(IIZ)I" } : Jvm.MethodName)) ∈ am_l := am_mem 368 (by decide +kernel) rfl
theorem q_354 : (Jvm.Cond.code ({ cls := "RunSorter", name := "upTo", desc := "(IIZ)I" } : Jvm.MethodName) prog_1_method_12_code (6 : Nat) (Option.some Jvm.ClassFile.FieldType.int)) ∈ am_l := am_mem 369 (by decide +kernel) rfl
theorem q_356 : (Jvm.Cond.methodLink "RunSorter" (84 : Nat) ({ cls := "RunSorter$Order", name := "compare", desc := "(II)I" } : Jvm.MethodName)) ∈ am_l := am_mem 371 (by decide +kernel) rfl
theorem q_357 : (Jvm.Cond.classLink "RunSorterLaw" (42 : Nat) "RunSorterModel") ∈ am_l := am_mem 372 (by decide +kernel) rfl
theorem q_358 : (Jvm.Cond.instantiable "RunSorterModel" (4 : Nat)) ∈ am_l := am_mem 373 (by decide +kernel) rfl
theorem q_359 : (Jvm.Cond.methodLink "RunSorterLaw" (44 : Nat) ({ cls := "RunSorterModel", name := "<init>", desc := "()V" } : Jvm.MethodName)) ∈ am_l := am_mem 374 (by decide +kernel) rfl
theorem q_360 : (Jvm.Cond.instanceMethod ({ cls := "RunSorterModel", name := "<init>", desc := "()V" } : Jvm.MethodName)) ∈ am_l := am_mem 375 (by decide +kernel) rfl
theorem q_361 : (Jvm.Cond.code ({ cls := "RunSorterModel", name := "<init>", desc := "()V" } : Jvm.MethodName) prog_10_method_1_code (1 : Nat) (Option.none : Option Jvm.ClassFile.FieldType)) ∈ am_l := am_mem 376 (by decide +kernel) rfl
theorem q_362 : (Jvm.Cond.methodLink "RunSorterModel" (1 : Nat) ({ cls := "java/lang/Object", name := "<init>", desc := "()V" } : Jvm.MethodName)) ∈ am_l := am_mem 377 (by decide +kernel) rfl
theorem q_363 : (Jvm.Cond.fieldLink "RunSorterModel" (16 : Nat) "RunSorterModel" "failed" "I") ∈ am_l := am_mem 378 (by decide +kernel) rfl
theorem q_364 : (Jvm.Cond.fieldLink "RunSorterModel" (21 : Nat) "RunSorterModel" "size" "I") ∈ am_l := am_mem 379 (by decide +kernel) rfl
theorem q_365 : (Jvm.Cond.fieldLink "RunSorterModel" (7 : Nat) "RunSorterModel" "row" "[I") ∈ am_l := am_mem 380 (by decide +kernel) rfl
theorem q_366 : (Jvm.Cond.fieldLink "RunSorterModel" (13 : Nat) "RunSorterModel" "tags" "[I") ∈ am_l := am_mem 381 (by decide +kernel) rfl
theorem q_367 : (Jvm.Cond.lays "RunSorterModel" "RunSorterModel" "failed" "I") ∈ am_l := am_mem 382 (by decide +kernel) rfl
theorem q_368 : (Jvm.Cond.soleField "RunSorterModel" "failed") ∈ am_l := am_mem 383 (by decide +kernel) rfl
theorem q_369 : (Jvm.Cond.lays "RunSorterModel" "RunSorterModel" "size" "I") ∈ am_l := am_mem 384 (by decide +kernel) rfl
theorem q_370 : (Jvm.Cond.soleField "RunSorterModel" "size") ∈ am_l := am_mem 385 (by decide +kernel) rfl
theorem q_371 : (Jvm.Cond.laysFinal "RunSorterModel" "RunSorterModel" "row" "[I") ∈ am_l := am_mem 386 (by decide +kernel) rfl
theorem q_372 : (Jvm.Cond.soleField "RunSorterModel" "row") ∈ am_l := am_mem 387 (by decide +kernel) rfl
theorem q_373 : (Jvm.Cond.laysFinal "RunSorterModel" "RunSorterModel" "tags" "[I") ∈ am_l := am_mem 388 (by decide +kernel) rfl
theorem q_374 : (Jvm.Cond.soleField "RunSorterModel" "tags") ∈ am_l := am_mem 389 (by decide +kernel) rfl
theorem q_375 : (Jvm.Cond.superclass "RunSorterModel" "java/lang/Object") ∈ am_l := am_mem 390 (by decide +kernel) rfl
theorem q_376 : (Jvm.Cond.methodLink "RunSorterLaw" (51 : Nat) ({ cls := "RunSorterModel", name := "thrown", desc := "()I" } : Jvm.MethodName)) ∈ am_l := am_mem 391 (by decide +kernel) rfl
theorem q_377 : (Jvm.Cond.instanceMethod ({ cls := "RunSorterModel", name := "thrown", desc := "()I" } : Jvm.MethodName)) ∈ am_l := am_mem 392 (by decide +kernel) rfl
theorem q_378 : (Jvm.Cond.selects "RunSorterModel" ({ cls := "RunSorterModel", name := "thrown", desc := "()I" } : Jvm.MethodName) ({ cls := "RunSorterModel", name := "thrown", desc := "()I" } : Jvm.MethodName)) ∈ am_l := am_mem 393 (by decide +kernel) rfl
theorem q_379 : (Jvm.Cond.code ({ cls := "RunSorterModel", name := "thrown", desc := "()I" } : Jvm.MethodName) prog_10_method_2_code (1 : Nat) (Option.some Jvm.ClassFile.FieldType.int)) ∈ am_l := am_mem 394 (by decide +kernel) rfl
theorem q_380 : (Jvm.Cond.methodLink "RunSorterLaw" (50 : Nat) ({ cls := "RunSorterModel", name := "fill", desc := "(III)I" } : Jvm.MethodName)) ∈ am_l := am_mem 395 (by decide +kernel) rfl
theorem q_381 : (Jvm.Cond.instanceMethod ({ cls := "RunSorterModel", name := "fill", desc := "(III)I" } : Jvm.MethodName)) ∈ am_l := am_mem 396 (by decide +kernel) rfl
theorem q_382 : (Jvm.Cond.selects "RunSorterModel" ({ cls := "RunSorterModel", name := "fill", desc := "(III)I" } : Jvm.MethodName) ({ cls := "RunSorterModel", name := "fill", desc := "(III)I" } : Jvm.MethodName)) ∈ am_l := am_mem 397 (by decide +kernel) rfl
theorem q_383 : (Jvm.Cond.code ({ cls := "RunSorterModel", name := "fill", desc := "(III)I" } : Jvm.MethodName) prog_10_method_6_code (5 : Nat) (Option.some Jvm.ClassFile.FieldType.int)) ∈ am_l := am_mem 398 (by decide +kernel) rfl
theorem q_384 : (Jvm.Cond.methodLink "RunSorterModel" (24 : Nat) ({ cls := "RunSorterModel", name := "fail", desc := "(I)I" } : Jvm.MethodName)) ∈ am_l := am_mem 399 (by decide +kernel) rfl
theorem q_385 : (Jvm.Cond.privateMethod ({ cls := "RunSorterModel", name := "fail", desc := "(I)I" } : Jvm.MethodName)) ∈ am_l := am_mem 400 (by decide +kernel) rfl
theorem q_386 : (Jvm.Cond.instanceMethod ({ cls := "RunSorterModel", name := "fail", desc := "(I)I" } : Jvm.MethodName)) ∈ am_l := am_mem 401 (by decide +kernel) rfl
theorem q_387 : (Jvm.Cond.code ({ cls := "RunSorterModel", name := "fail", desc := "(I)I" } : Jvm.MethodName) prog_10_method_3_code (2 : Nat) (Option.some Jvm.ClassFile.FieldType.int)) ∈ am_l := am_mem 402 (by decide +kernel) rfl
theorem q_388 : (Jvm.Cond.methodLink "RunSorterModel" (28 : Nat) ({ cls := "RunSorterModel", name := "append", desc := "(I)V" } : Jvm.MethodName)) ∈ am_l := am_mem 403 (by decide +kernel) rfl
theorem q_389 : (Jvm.Cond.privateMethod ({ cls := "RunSorterModel", name := "append", desc := "(I)V" } : Jvm.MethodName)) ∈ am_l := am_mem 404 (by decide +kernel) rfl
theorem q_390 : (Jvm.Cond.instanceMethod ({ cls := "RunSorterModel", name := "append", desc := "(I)V" } : Jvm.MethodName)) ∈ am_l := am_mem 405 (by decide +kernel) rfl
theorem q_391 : (Jvm.Cond.code ({ cls := "RunSorterModel", name := "append", desc := "(I)V" } : Jvm.MethodName) prog_10_method_5_code (2 : Nat) (Option.none : Option Jvm.ClassFile.FieldType)) ∈ am_l := am_mem 406 (by decide +kernel) rfl
theorem q_392 : (Jvm.Cond.methodLink "RunSorterLaw" (57 : Nat) ({ cls := "RunSorterModel", name := "scatter", desc := "(III)I" } : Jvm.MethodName)) ∈ am_l := am_mem 407 (by decide +kernel) rfl
theorem q_393 : (Jvm.Cond.instanceMethod ({ cls := "RunSorterModel", name := "scatter", desc := "(III)I" } : Jvm.MethodName)) ∈ am_l := am_mem 408 (by decide +kernel) rfl
theorem q_394 : (Jvm.Cond.selects "RunSorterModel" ({ cls := "RunSorterModel", name := "scatter", desc := "(III)I" } : Jvm.MethodName) ({ cls := "RunSorterModel", name := "scatter", desc := "(III)I" } : Jvm.MethodName)) ∈ am_l := am_mem 409 (by decide +kernel) rfl
theorem q_395 : (Jvm.Cond.code ({ cls := "RunSorterModel", name := "scatter", desc := "(III)I" } : Jvm.MethodName) prog_10_method_7_code (6 : Nat) (Option.some Jvm.ClassFile.FieldType.int)) ∈ am_l := am_mem 410 (by decide +kernel) rfl
theorem q_396 : (Jvm.Cond.constant "RunSorterModel" (32 : Nat) (1664525 : Int32)) ∈ am_l := am_mem 411 (by decide +kernel) rfl
theorem q_397 : (Jvm.Cond.constant "RunSorterModel" (33 : Nat) (1013904223 : Int32)) ∈ am_l := am_mem 412 (by decide +kernel) rfl
theorem q_398 : (Jvm.Cond.methodLink "RunSorterLaw" (60 : Nat) ({ cls := "RunSorterModel", name := "sort", desc := "(III)I" } : Jvm.MethodName)) ∈ am_l := am_mem 413 (by decide +kernel) rfl
theorem q_399 : (Jvm.Cond.instanceMethod ({ cls := "RunSorterModel", name := "sort", desc := "(III)I" } : Jvm.MethodName)) ∈ am_l := am_mem 414 (by decide +kernel) rfl
theorem q_400 : (Jvm.Cond.selects "RunSorterModel" ({ cls := "RunSorterModel", name := "sort", desc := "(III)I" } : Jvm.MethodName) ({ cls := "RunSorterModel", name := "sort", desc := "(III)I" } : Jvm.MethodName)) ∈ am_l := am_mem 415 (by decide +kernel) rfl
theorem q_401 : (Jvm.Cond.code ({ cls := "RunSorterModel", name := "sort", desc := "(III)I" } : Jvm.MethodName) prog_10_method_9_code (8 : Nat) (Option.some Jvm.ClassFile.FieldType.int)) ∈ am_l := am_mem 416 (by decide +kernel) rfl
theorem q_402 : (Jvm.Cond.methodLink "RunSorterModel" (34 : Nat) ({ cls := "RunSorterModel", name := "bad", desc := "(II)Z" } : Jvm.MethodName)) ∈ am_l := am_mem 417 (by decide +kernel) rfl
theorem q_403 : (Jvm.Cond.privateMethod ({ cls := "RunSorterModel", name := "bad", desc := "(II)Z" } : Jvm.MethodName)) ∈ am_l := am_mem 418 (by decide +kernel) rfl
theorem q_404 : (Jvm.Cond.instanceMethod ({ cls := "RunSorterModel", name := "bad", desc := "(II)Z" } : Jvm.MethodName)) ∈ am_l := am_mem 419 (by decide +kernel) rfl
theorem q_405 : (Jvm.Cond.code ({ cls := "RunSorterModel", name := "bad", desc := "(II)Z" } : Jvm.MethodName) prog_10_method_8_code (3 : Nat) (Option.some Jvm.ClassFile.FieldType.boolean)) ∈ am_l := am_mem 420 (by decide +kernel) rfl
theorem q_406 : (Jvm.Cond.methodLink "RunSorterModel" (38 : Nat) ({ cls := "RunSorterModel", name := "rank", desc := "(II)I" } : Jvm.MethodName)) ∈ am_l := am_mem 421 (by decide +kernel) rfl
theorem q_407 : (Jvm.Cond.privateMethod ({ cls := "RunSorterModel", name := "rank", desc := "(II)I" } : Jvm.MethodName)) ∈ am_l := am_mem 422 (by decide +kernel) rfl
theorem q_408 : (Jvm.Cond.instanceMethod ({ cls := "RunSorterModel", name := "rank", desc := "(II)I" } : Jvm.MethodName)) ∈ am_l := am_mem 423 (by decide +kernel) rfl
theorem q_409 : (Jvm.Cond.code ({ cls := "RunSorterModel", name := "rank", desc := "(II)I" } : Jvm.MethodName) prog_10_method_4_code (3 : Nat) (Option.some Jvm.ClassFile.FieldType.int)) ∈ am_l := am_mem 424 (by decide +kernel) rfl
theorem q_410 : (Jvm.Cond.constant "RunSorterModel" (20 : Nat) (-2147483648 : Int32)) ∈ am_l := am_mem 425 (by decide +kernel) rfl
theorem q_411 : (Jvm.Cond.methodLink "RunSorterLaw" (64 : Nat) ({ cls := "RunSorterModel", name := "get", desc := "(I)I" } : Jvm.MethodName)) ∈ am_l := am_mem 426 (by decide +kernel) rfl
theorem q_412 : (Jvm.Cond.instanceMethod ({ cls := "RunSorterModel", name := "get", desc := "(I)I" } : Jvm.MethodName)) ∈ am_l := am_mem 427 (by decide +kernel) rfl
theorem q_413 : (Jvm.Cond.selects "RunSorterModel" ({ cls := "RunSorterModel", name := "get", desc := "(I)I" } : Jvm.MethodName) ({ cls := "RunSorterModel", name := "get", desc := "(I)I" } : Jvm.MethodName)) ∈ am_l := am_mem 428 (by decide +kernel) rfl
theorem q_414 : (Jvm.Cond.code ({ cls := "RunSorterModel", name := "get", desc := "(I)I" } : Jvm.MethodName) prog_10_method_10_code (2 : Nat) (Option.some Jvm.ClassFile.FieldType.int)) ∈ am_l := am_mem 429 (by decide +kernel) rfl
theorem q_415 : (Jvm.Cond.methodLink "RunSorterLaw" (67 : Nat) ({ cls := "RunSorterModel", name := "tag", desc := "(I)I" } : Jvm.MethodName)) ∈ am_l := am_mem 430 (by decide +kernel) rfl
theorem q_416 : (Jvm.Cond.instanceMethod ({ cls := "RunSorterModel", name := "tag", desc := "(I)I" } : Jvm.MethodName)) ∈ am_l := am_mem 431 (by decide +kernel) rfl
theorem q_417 : (Jvm.Cond.selects "RunSorterModel" ({ cls := "RunSorterModel", name := "tag", desc := "(I)I" } : Jvm.MethodName) ({ cls := "RunSorterModel", name := "tag", desc := "(I)I" } : Jvm.MethodName)) ∈ am_l := am_mem 432 (by decide +kernel) rfl
theorem q_418 : (Jvm.Cond.code ({ cls := "RunSorterModel", name := "tag", desc := "(I)I" } : Jvm.MethodName) prog_10_method_11_code (2 : Nat) (Option.some Jvm.ClassFile.FieldType.int)) ∈ am_l := am_mem 433 (by decide +kernel) rfl
theorem q_419 : (Jvm.Cond.methodLink "RunSorterLaw" (71 : Nat) ({ cls := "RunSorterModel", name := "set", desc := "(II)I" } : Jvm.MethodName)) ∈ am_l := am_mem 434 (by decide +kernel) rfl
theorem q_420 : (Jvm.Cond.instanceMethod ({ cls := "RunSorterModel", name := "set", desc := "(II)I" } : Jvm.MethodName)) ∈ am_l := am_mem 435 (by decide +kernel) rfl
theorem q_421 : (Jvm.Cond.selects "RunSorterModel" ({ cls := "RunSorterModel", name := "set", desc := "(II)I" } : Jvm.MethodName) ({ cls := "RunSorterModel", name := "set", desc := "(II)I" } : Jvm.MethodName)) ∈ am_l := am_mem 436 (by decide +kernel) rfl
theorem q_422 : (Jvm.Cond.code ({ cls := "RunSorterModel", name := "set", desc := "(II)I" } : Jvm.MethodName) prog_10_method_12_code (4 : Nat) (Option.some Jvm.ClassFile.FieldType.int)) ∈ am_l := am_mem 437 (by decide +kernel) rfl
theorem q_423 : (Jvm.Cond.methodLink "RunSorterLaw" (74 : Nat) ({ cls := "RunSorterModel", name := "turn", desc := "(II)I" } : Jvm.MethodName)) ∈ am_l := am_mem 438 (by decide +kernel) rfl
theorem q_424 : (Jvm.Cond.instanceMethod ({ cls := "RunSorterModel", name := "turn", desc := "(II)I" } : Jvm.MethodName)) ∈ am_l := am_mem 439 (by decide +kernel) rfl
theorem q_425 : (Jvm.Cond.selects "RunSorterModel" ({ cls := "RunSorterModel", name := "turn", desc := "(II)I" } : Jvm.MethodName) ({ cls := "RunSorterModel", name := "turn", desc := "(II)I" } : Jvm.MethodName)) ∈ am_l := am_mem 440 (by decide +kernel) rfl
theorem q_426 : (Jvm.Cond.code ({ cls := "RunSorterModel", name := "turn", desc := "(II)I" } : Jvm.MethodName) prog_10_method_13_code (7 : Nat) (Option.some Jvm.ClassFile.FieldType.int)) ∈ am_l := am_mem 441 (by decide +kernel) rfl
theorem q_427 : (Jvm.Cond.methodLink "RunSorterLaw" (78 : Nat) ({ cls := "RunSorterModel", name := "upTo", desc := "(IIZ)I" } : Jvm.MethodName)) ∈ am_l := am_mem 442 (by decide +kernel) rfl
theorem q_428 : (Jvm.Cond.instanceMethod ({ cls := "RunSorterModel", name := "upTo", desc := "(IIZ)I" } : Jvm.MethodName)) ∈ am_l := am_mem 443 (by decide +kernel) rfl
theorem q_429 : (Jvm.Cond.selects "RunSorterModel" ({ cls := "RunSorterModel", name := "upTo", desc := "(IIZ)I" } : Jvm.MethodName) ({ cls := "RunSorterModel", name := "upTo", desc := "(IIZ)I" } : Jvm.MethodName)) ∈ am_l := am_mem 444 (by decide +kernel) rfl
theorem q_430 : (Jvm.Cond.code ({ cls := "RunSorterModel", name := "upTo", desc := "(IIZ)I" } : Jvm.MethodName) prog_10_method_14_code (5 : Nat) (Option.some Jvm.ClassFile.FieldType.int)) ∈ am_l := am_mem 445 (by decide +kernel) rfl
theorem q_431 : (Jvm.Cond.methodLink "RunSorterLaw" (82 : Nat) ({ cls := "RunSorterModel", name := "clear", desc := "()I" } : Jvm.MethodName)) ∈ am_l := am_mem 446 (by decide +kernel) rfl
theorem q_432 : (Jvm.Cond.instanceMethod ({ cls := "RunSorterModel", name := "clear", desc := "()I" } : Jvm.MethodName)) ∈ am_l := am_mem 447 (by decide +kernel) rfl
theorem q_433 : (Jvm.Cond.selects "RunSorterModel" ({ cls := "RunSorterModel", name := "clear", desc := "()I" } : Jvm.MethodName) ({ cls := "RunSorterModel", name := "clear", desc := "()I" } : Jvm.MethodName)) ∈ am_l := am_mem 448 (by decide +kernel) rfl
theorem q_434 : (Jvm.Cond.code ({ cls := "RunSorterModel", name := "clear", desc := "()I" } : Jvm.MethodName) prog_10_method_15_code (2 : Nat) (Option.some Jvm.ClassFile.FieldType.int)) ∈ am_l := am_mem 449 (by decide +kernel) rfl
theorem q_435 : (Jvm.Cond.methodLink "RunSorterLaw" (86 : Nat) ({ cls := "RunSorterModel", name := "hash", desc := "()I" } : Jvm.MethodName)) ∈ am_l := am_mem 450 (by decide +kernel) rfl
theorem q_436 : (Jvm.Cond.instanceMethod ({ cls := "RunSorterModel", name := "hash", desc := "()I" } : Jvm.MethodName)) ∈ am_l := am_mem 451 (by decide +kernel) rfl
theorem q_437 : (Jvm.Cond.selects "RunSorterModel" ({ cls := "RunSorterModel", name := "hash", desc := "()I" } : Jvm.MethodName) ({ cls := "RunSorterModel", name := "hash", desc := "()I" } : Jvm.MethodName)) ∈ am_l := am_mem 452 (by decide +kernel) rfl
theorem q_438 : (Jvm.Cond.code ({ cls := "RunSorterModel", name := "hash", desc := "()I" } : Jvm.MethodName) prog_10_method_16_code (3 : Nat) (Option.some Jvm.ClassFile.FieldType.int)) ∈ am_l := am_mem 453 (by decide +kernel) rfl
theorem q_439 : (Jvm.Cond.arrayClass Jvm.ClassFile.FieldType.long) ∈ am_l := am_mem 454 (by decide +kernel) rfl
theorem q_440 : (Jvm.Cond.sameMethod "java/lang/Throwable" "java/lang/Throwable" "fillInStackTrace" "(I)Ljava/lang/Throwable;") ∈ am_l := am_mem 455 (by decide +kernel) rfl
end
section
def R_R : String := "RunSorter"
def F_R : u_T := fun k => match k with
  | 0 => ("RunSorter", "orders", "[LRunSorter$Order;", true)
  | 1 => ("RunSorter", "sorter", "LRunSorter$Sorter;", true)
  | 2 => ("RunSorter", "numbers", "[I", true)
  | 3 => ("RunSorter", "tags", "[I", true)
  | 4 => ("RunSorter", "old", "[I", true)
  | 5 => ("RunSorter", "oldTags", "[I", true)
  | _ => ("RunSorter", "size", "I", false)
def t_R : Nat → FieldType := fun k => match k with
  | 0 => .array (.object "RunSorter$Order")
  | 1 => .object "RunSorter$Sorter"
  | 2 => .array .int
  | 3 => .array .int
  | 4 => .array .int
  | 5 => .array .int
  | _ => .int
theorem n_R : ∀ a, a < 7 → ∀ b, b < 7 → a ≠ b → (F_R a).2.1 ≠ (F_R b).2.1 := by decide +kernel
theorem t_R_ok : ∀ k, k < 7 → parseFieldDescriptor (F_R k).2.2.1 = some (t_R k) := by decide +kernel
set_option maxRecDepth 20000 in
theorem in_R : ∀ w ∈ u_ws R_R F_R 7, w ∈ am_l := by decide +kernel
def R_S : String := "RunSorter$Sorter"
def F_S : u_T := fun k => match k with
  | 0 => ("RunSorter$Sorter", "cells", "[I", true)
  | 1 => ("RunSorter$Sorter", "spare", "[I", true)
  | 2 => ("RunSorter$Sorter", "from", "[I", true)
  | 3 => ("RunSorter$Sorter", "length", "[I", true)
  | 4 => ("RunSorter$Sorter", "runs", "I", false)
  | 5 => ("RunSorter$Sorter", "gallop", "I", false)
  | _ => ("RunSorter$Sorter", "order", "LRunSorter$Order;", false)
def t_S : Nat → FieldType := fun k => match k with
  | 0 => .array .int
  | 1 => .array .int
  | 2 => .array .int
  | 3 => .array .int
  | 4 => .int
  | 5 => .int
  | _ => .object "RunSorter$Order"
theorem n_S : ∀ a, a < 7 → ∀ b, b < 7 → a ≠ b → (F_S a).2.1 ≠ (F_S b).2.1 := by decide +kernel
theorem t_S_ok : ∀ k, k < 7 → parseFieldDescriptor (F_S k).2.2.1 = some (t_S k) := by decide +kernel
set_option maxRecDepth 20000 in
theorem in_S : ∀ w ∈ u_ws R_S F_S 7, w ∈ am_l := by decide +kernel
def R_B : String := "RunSorter$ByNumber"
def F_B : u_T := fun k => match k with
  | 0 => ("RunSorter$ByNumber", "order", "LRunSorter$Order;", true)
  | _ => ("RunSorter$ByNumber", "numbers", "[I", true)
def t_B : Nat → FieldType := fun k => match k with
  | 0 => .object "RunSorter$Order"
  | _ => .array .int
theorem n_B : ∀ a, a < 2 → ∀ b, b < 2 → a ≠ b → (F_B a).2.1 ≠ (F_B b).2.1 := by decide +kernel
theorem t_B_ok : ∀ k, k < 2 → parseFieldDescriptor (F_B k).2.2.1 = some (t_B k) := by decide +kernel
set_option maxRecDepth 20000 in
theorem in_B : ∀ w ∈ u_ws R_B F_B 2, w ∈ am_l := by decide +kernel
def R_O0 : String := "RunSorter$Rising"
def F_O0 : u_T := fun k => match k with
  | _ => ("", "", "", false)
def t_O0 : Nat → FieldType := fun k => match k with
  | _ => .int
theorem n_O0 : ∀ a, a < 0 → ∀ b, b < 0 → a ≠ b → (F_O0 a).2.1 ≠ (F_O0 b).2.1 := by decide +kernel
theorem t_O0_ok : ∀ k, k < 0 → parseFieldDescriptor (F_O0 k).2.2.1 = some (t_O0 k) := by decide +kernel
set_option maxRecDepth 20000 in
theorem in_O0 : ∀ w ∈ u_ws R_O0 F_O0 0, w ∈ am_l := by decide +kernel
def R_O1 : String := "RunSorter$Falling"
def F_O1 : u_T := fun k => match k with
  | _ => ("", "", "", false)
def t_O1 : Nat → FieldType := fun k => match k with
  | _ => .int
theorem n_O1 : ∀ a, a < 0 → ∀ b, b < 0 → a ≠ b → (F_O1 a).2.1 ≠ (F_O1 b).2.1 := by decide +kernel
theorem t_O1_ok : ∀ k, k < 0 → parseFieldDescriptor (F_O1 k).2.2.1 = some (t_O1 k) := by decide +kernel
set_option maxRecDepth 20000 in
theorem in_O1 : ∀ w ∈ u_ws R_O1 F_O1 0, w ∈ am_l := by decide +kernel
def R_O2 : String := "RunSorter$LowBits"
def F_O2 : u_T := fun k => match k with
  | _ => ("", "", "", false)
def t_O2 : Nat → FieldType := fun k => match k with
  | _ => .int
theorem n_O2 : ∀ a, a < 0 → ∀ b, b < 0 → a ≠ b → (F_O2 a).2.1 ≠ (F_O2 b).2.1 := by decide +kernel
theorem t_O2_ok : ∀ k, k < 0 → parseFieldDescriptor (F_O2 k).2.2.1 = some (t_O2 k) := by decide +kernel
set_option maxRecDepth 20000 in
theorem in_O2 : ∀ w ∈ u_ws R_O2 F_O2 0, w ∈ am_l := by decide +kernel
def R_O3 : String := "RunSorter$Unsigned"
def F_O3 : u_T := fun k => match k with
  | _ => ("", "", "", false)
def t_O3 : Nat → FieldType := fun k => match k with
  | _ => .int
theorem n_O3 : ∀ a, a < 0 → ∀ b, b < 0 → a ≠ b → (F_O3 a).2.1 ≠ (F_O3 b).2.1 := by decide +kernel
theorem t_O3_ok : ∀ k, k < 0 → parseFieldDescriptor (F_O3 k).2.2.1 = some (t_O3 k) := by decide +kernel
set_option maxRecDepth 20000 in
theorem in_O3 : ∀ w ∈ u_ws R_O3 F_O3 0, w ∈ am_l := by decide +kernel
def R_M : String := "RunSorterModel"
def F_M : u_T := fun k => match k with
  | 0 => ("RunSorterModel", "failed", "I", false)
  | 1 => ("RunSorterModel", "size", "I", false)
  | 2 => ("RunSorterModel", "row", "[I", true)
  | _ => ("RunSorterModel", "tags", "[I", true)
def t_M : Nat → FieldType := fun k => match k with
  | 0 => .int
  | 1 => .int
  | 2 => .array .int
  | _ => .array .int
theorem n_M : ∀ a, a < 4 → ∀ b, b < 4 → a ≠ b → (F_M a).2.1 ≠ (F_M b).2.1 := by decide +kernel
theorem t_M_ok : ∀ k, k < 4 → parseFieldDescriptor (F_M k).2.2.1 = some (t_M k) := by decide +kernel
set_option maxRecDepth 20000 in
theorem in_M : ∀ w ∈ u_ws R_M F_M 4, w ∈ am_l := by decide +kernel
def R_L : String := "RunSorterLaw"
abbrev vCL : List vw_C := [(R_R, F_R, 7), (R_S, F_S, 7), (R_B, F_B, 2), (R_O0, F_O0, 0), (R_O1, F_O1, 0), (R_O2, F_O2, 0), (R_O3, F_O3, 0), (R_M, F_M, 4)]
theorem dk {b : ByteArray} {l : List (Nat × Instr × Nat)} (h : (l.all fun q => decide (decode b q.1 = .ok q.2)) = true) (i : Nat) {pc : Nat} {x : Instr × Nat} (hi : l[i]? = some (pc, x)) : decode b pc = .ok x := by
  have := List.all_eq_true.mp h _ (List.mem_of_getElem? hi)
  exact of_decide_eq_true this
abbrev b_R_init : ByteArray := prog_1_method_1_code
def y_R_init : MethodName := ⟨R_R, "<init>", "()V"⟩
abbrev b_R_in : ByteArray := prog_1_method_2_code
def y_R_in : MethodName := ⟨R_R, "in", "(III)V"⟩
abbrev b_R_within : ByteArray := prog_1_method_3_code
def y_R_within : MethodName := ⟨R_R, "within", "(Z)V"⟩
abbrev b_R_add : ByteArray := prog_1_method_4_code
def y_R_add : MethodName := ⟨R_R, "add", "(I)V"⟩
abbrev b_R_fill : ByteArray := prog_1_method_5_code
def y_R_fill : MethodName := ⟨R_R, "fill", "(III)I"⟩
abbrev b_R_scatter : ByteArray := prog_1_method_6_code
def y_R_scatter : MethodName := ⟨R_R, "scatter", "(III)I"⟩
abbrev b_R_sort : ByteArray := prog_1_method_7_code
def y_R_sort : MethodName := ⟨R_R, "sort", "(III)I"⟩
abbrev b_R_get : ByteArray := prog_1_method_8_code
def y_R_get : MethodName := ⟨R_R, "get", "(I)I"⟩
abbrev b_R_tag : ByteArray := prog_1_method_9_code
def y_R_tag : MethodName := ⟨R_R, "tag", "(I)I"⟩
abbrev b_R_set : ByteArray := prog_1_method_10_code
def y_R_set : MethodName := ⟨R_R, "set", "(II)I"⟩
abbrev b_R_turn : ByteArray := prog_1_method_11_code
def y_R_turn : MethodName := ⟨R_R, "turn", "(II)I"⟩
abbrev b_R_upTo : ByteArray := prog_1_method_12_code
def y_R_upTo : MethodName := ⟨R_R, "upTo", "(IIZ)I"⟩
abbrev b_R_clear : ByteArray := prog_1_method_13_code
def y_R_clear : MethodName := ⟨R_R, "clear", "()I"⟩
abbrev b_R_hash : ByteArray := prog_1_method_14_code
def y_R_hash : MethodName := ⟨R_R, "hash", "()I"⟩
abbrev b_M_init : ByteArray := prog_10_method_1_code
def y_M_init : MethodName := ⟨R_M, "<init>", "()V"⟩
abbrev b_M_thrown : ByteArray := prog_10_method_2_code
def y_M_thrown : MethodName := ⟨R_M, "thrown", "()I"⟩
abbrev b_M_fail : ByteArray := prog_10_method_3_code
def y_M_fail : MethodName := ⟨R_M, "fail", "(I)I"⟩
abbrev b_M_rank : ByteArray := prog_10_method_4_code
def y_M_rank : MethodName := ⟨R_M, "rank", "(II)I"⟩
abbrev b_M_append : ByteArray := prog_10_method_5_code
def y_M_append : MethodName := ⟨R_M, "append", "(I)V"⟩
abbrev b_M_fill : ByteArray := prog_10_method_6_code
def y_M_fill : MethodName := ⟨R_M, "fill", "(III)I"⟩
abbrev b_M_scatter : ByteArray := prog_10_method_7_code
def y_M_scatter : MethodName := ⟨R_M, "scatter", "(III)I"⟩
abbrev b_M_bad : ByteArray := prog_10_method_8_code
def y_M_bad : MethodName := ⟨R_M, "bad", "(II)Z"⟩
abbrev b_M_sort : ByteArray := prog_10_method_9_code
def y_M_sort : MethodName := ⟨R_M, "sort", "(III)I"⟩
abbrev b_M_get : ByteArray := prog_10_method_10_code
def y_M_get : MethodName := ⟨R_M, "get", "(I)I"⟩
abbrev b_M_tag : ByteArray := prog_10_method_11_code
def y_M_tag : MethodName := ⟨R_M, "tag", "(I)I"⟩
abbrev b_M_set : ByteArray := prog_10_method_12_code
def y_M_set : MethodName := ⟨R_M, "set", "(II)I"⟩
abbrev b_M_turn : ByteArray := prog_10_method_13_code
def y_M_turn : MethodName := ⟨R_M, "turn", "(II)I"⟩
abbrev b_M_upTo : ByteArray := prog_10_method_14_code
def y_M_upTo : MethodName := ⟨R_M, "upTo", "(IIZ)I"⟩
abbrev b_M_clear : ByteArray := prog_10_method_15_code
def y_M_clear : MethodName := ⟨R_M, "clear", "()I"⟩
abbrev b_M_hash : ByteArray := prog_10_method_16_code
def y_M_hash : MethodName := ⟨R_M, "hash", "()I"⟩
abbrev b_B_init : ByteArray := prog_2_method_1_code
def y_B_init : MethodName := ⟨R_B, "<init>", "(LRunSorter$Order;[I)V"⟩
abbrev b_B_compare : ByteArray := prog_2_method_2_code
def y_B_compare : MethodName := ⟨R_B, "compare", "(II)I"⟩
abbrev b_O1_init : ByteArray := prog_3_method_1_code
def y_O1_init : MethodName := ⟨R_O1, "<init>", "()V"⟩
abbrev b_O1_compare : ByteArray := prog_3_method_2_code
def y_O1_compare : MethodName := ⟨R_O1, "compare", "(II)I"⟩
abbrev b_O2_init : ByteArray := prog_4_method_1_code
def y_O2_init : MethodName := ⟨R_O2, "<init>", "()V"⟩
abbrev b_O2_compare : ByteArray := prog_4_method_2_code
def y_O2_compare : MethodName := ⟨R_O2, "compare", "(II)I"⟩
abbrev b_O0_init : ByteArray := prog_6_method_1_code
def y_O0_init : MethodName := ⟨R_O0, "<init>", "()V"⟩
abbrev b_O0_compare : ByteArray := prog_6_method_2_code
def y_O0_compare : MethodName := ⟨R_O0, "compare", "(II)I"⟩
abbrev b_S_init : ByteArray := prog_7_method_1_code
def y_S_init : MethodName := ⟨R_S, "<init>", "()V"⟩
abbrev b_S_cells : ByteArray := prog_7_method_2_code
def y_S_cells : MethodName := ⟨R_S, "cells", "()[I"⟩
abbrev b_S_sort : ByteArray := prog_7_method_3_code
def y_S_sort : MethodName := ⟨R_S, "sort", "(ILRunSorter$Order;)V"⟩
abbrev b_S_shortest : ByteArray := prog_7_method_4_code
def y_S_shortest : MethodName := ⟨R_S, "shortest", "(I)I"⟩
abbrev b_S_run : ByteArray := prog_7_method_5_code
def y_S_run : MethodName := ⟨R_S, "run", "(II)I"⟩
abbrev b_S_insertion : ByteArray := prog_7_method_6_code
def y_S_insertion : MethodName := ⟨R_S, "insertion", "(III)V"⟩
abbrev b_S_settle : ByteArray := prog_7_method_7_code
def y_S_settle : MethodName := ⟨R_S, "settle", "()V"⟩
abbrev b_S_merge : ByteArray := prog_7_method_8_code
def y_S_merge : MethodName := ⟨R_S, "merge", "(I)V"⟩
abbrev b_S_behind : ByteArray := prog_7_method_9_code
def y_S_behind : MethodName := ⟨R_S, "behind", "(III)I"⟩
abbrev b_S_notBefore : ByteArray := prog_7_method_10_code
def y_S_notBefore : MethodName := ⟨R_S, "notBefore", "(III)I"⟩
abbrev b_S_mergeUp : ByteArray := prog_7_method_11_code
def y_S_mergeUp : MethodName := ⟨R_S, "mergeUp", "(IIII)V"⟩
abbrev b_S_waiting : ByteArray := prog_7_method_12_code
def y_S_waiting : MethodName := ⟨R_S, "waiting", "(III)I"⟩
abbrev b_S_mergeDown : ByteArray := prog_7_method_13_code
def y_S_mergeDown : MethodName := ⟨R_S, "mergeDown", "(IIII)V"⟩
abbrev b_O3_init : ByteArray := prog_8_method_1_code
def y_O3_init : MethodName := ⟨R_O3, "<init>", "()V"⟩
abbrev b_O3_compare : ByteArray := prog_8_method_2_code
def y_O3_compare : MethodName := ⟨R_O3, "compare", "(II)I"⟩
abbrev b_L_fill : ByteArray := method_3_code
def y_L_fill : MethodName := ⟨R_L, "fill", "(LRunSorter;III[J)I"⟩
abbrev b_L_scatter : ByteArray := method_4_code
def y_L_scatter : MethodName := ⟨R_L, "scatter", "(LRunSorter;III[J)I"⟩
abbrev b_L_sort : ByteArray := method_5_code
def y_L_sort : MethodName := ⟨R_L, "sort", "(LRunSorter;III[J)I"⟩
abbrev b_L_get : ByteArray := method_6_code
def y_L_get : MethodName := ⟨R_L, "get", "(LRunSorter;I[J)I"⟩
abbrev b_L_tag : ByteArray := method_7_code
def y_L_tag : MethodName := ⟨R_L, "tag", "(LRunSorter;I[J)I"⟩
abbrev b_L_set : ByteArray := method_8_code
def y_L_set : MethodName := ⟨R_L, "set", "(LRunSorter;II[J)I"⟩
abbrev b_L_turn : ByteArray := method_9_code
def y_L_turn : MethodName := ⟨R_L, "turn", "(LRunSorter;II[J)I"⟩
abbrev b_L_upTo : ByteArray := method_10_code
def y_L_upTo : MethodName := ⟨R_L, "upTo", "(LRunSorter;IIZ[J)I"⟩
end
section
def dl_R_init : List (Nat × Instr × Nat) := [(0, .aload_n 0, 1), (1, .invokespecial 1, 3), (4, .aload_n 0, 1), (5, .iconst 4, 1), (6, .anewarray 7, 3), (9, .dup, 1), (10, .iconst 0, 1), (11, .new 9, 3), (14, .dup, 1), (15, .invokespecial 11, 3), (18, .aastore, 1), (19, .dup, 1), (20, .iconst 1, 1), (21, .new 12, 3), (24, .dup, 1), (25, .invokespecial 14, 3), (28, .aastore, 1), (29, .dup, 1), (30, .iconst 2, 1), (31, .new 15, 3), (34, .dup, 1), (35, .invokespecial 17, 3), (38, .aastore, 1), (39, .dup, 1), (40, .iconst 3, 1), (41, .new 18, 3), (44, .dup, 1), (45, .invokespecial 20, 3), (48, .aastore, 1), (49, .putfield 21, 3), (52, .aload_n 0, 1), (53, .new 27, 3), (56, .dup, 1), (57, .invokespecial 29, 3), (60, .putfield 30, 3), (63, .aload_n 0, 1), (64, .sipush 2000, 3), (67, .newarray .int, 2), (69, .putfield 34, 3), (72, .aload_n 0, 1), (73, .sipush 2000, 3), (76, .newarray .int, 2), (78, .putfield 38, 3), (81, .aload_n 0, 1), (82, .sipush 2000, 3), (85, .newarray .int, 2), (87, .putfield 41, 3), (90, .aload_n 0, 1), (91, .sipush 2000, 3), (94, .newarray .int, 2), (96, .putfield 44, 3), (99, .return_, 1)]
set_option maxRecDepth 100000 in
theorem da_R_init : (dl_R_init.all fun q => decide (decode b_R_init q.1 = .ok q.2)) = true := by decide +kernel
theorem d_R_init_0 : decode b_R_init 0 = .ok (.aload_n 0, 1) := dk da_R_init 0 rfl
theorem d_R_init_1 : decode b_R_init 1 = .ok (.invokespecial 1, 3) := dk da_R_init 1 rfl
theorem d_R_init_4 : decode b_R_init 4 = .ok (.aload_n 0, 1) := dk da_R_init 2 rfl
theorem d_R_init_5 : decode b_R_init 5 = .ok (.iconst 4, 1) := dk da_R_init 3 rfl
theorem d_R_init_6 : decode b_R_init 6 = .ok (.anewarray 7, 3) := dk da_R_init 4 rfl
theorem d_R_init_9 : decode b_R_init 9 = .ok (.dup, 1) := dk da_R_init 5 rfl
theorem d_R_init_10 : decode b_R_init 10 = .ok (.iconst 0, 1) := dk da_R_init 6 rfl
theorem d_R_init_11 : decode b_R_init 11 = .ok (.new 9, 3) := dk da_R_init 7 rfl
theorem d_R_init_14 : decode b_R_init 14 = .ok (.dup, 1) := dk da_R_init 8 rfl
theorem d_R_init_15 : decode b_R_init 15 = .ok (.invokespecial 11, 3) := dk da_R_init 9 rfl
theorem d_R_init_18 : decode b_R_init 18 = .ok (.aastore, 1) := dk da_R_init 10 rfl
theorem d_R_init_19 : decode b_R_init 19 = .ok (.dup, 1) := dk da_R_init 11 rfl
theorem d_R_init_20 : decode b_R_init 20 = .ok (.iconst 1, 1) := dk da_R_init 12 rfl
theorem d_R_init_21 : decode b_R_init 21 = .ok (.new 12, 3) := dk da_R_init 13 rfl
theorem d_R_init_24 : decode b_R_init 24 = .ok (.dup, 1) := dk da_R_init 14 rfl
theorem d_R_init_25 : decode b_R_init 25 = .ok (.invokespecial 14, 3) := dk da_R_init 15 rfl
theorem d_R_init_28 : decode b_R_init 28 = .ok (.aastore, 1) := dk da_R_init 16 rfl
theorem d_R_init_29 : decode b_R_init 29 = .ok (.dup, 1) := dk da_R_init 17 rfl
theorem d_R_init_30 : decode b_R_init 30 = .ok (.iconst 2, 1) := dk da_R_init 18 rfl
theorem d_R_init_31 : decode b_R_init 31 = .ok (.new 15, 3) := dk da_R_init 19 rfl
theorem d_R_init_34 : decode b_R_init 34 = .ok (.dup, 1) := dk da_R_init 20 rfl
theorem d_R_init_35 : decode b_R_init 35 = .ok (.invokespecial 17, 3) := dk da_R_init 21 rfl
theorem d_R_init_38 : decode b_R_init 38 = .ok (.aastore, 1) := dk da_R_init 22 rfl
theorem d_R_init_39 : decode b_R_init 39 = .ok (.dup, 1) := dk da_R_init 23 rfl
theorem d_R_init_40 : decode b_R_init 40 = .ok (.iconst 3, 1) := dk da_R_init 24 rfl
theorem d_R_init_41 : decode b_R_init 41 = .ok (.new 18, 3) := dk da_R_init 25 rfl
theorem d_R_init_44 : decode b_R_init 44 = .ok (.dup, 1) := dk da_R_init 26 rfl
theorem d_R_init_45 : decode b_R_init 45 = .ok (.invokespecial 20, 3) := dk da_R_init 27 rfl
theorem d_R_init_48 : decode b_R_init 48 = .ok (.aastore, 1) := dk da_R_init 28 rfl
theorem d_R_init_49 : decode b_R_init 49 = .ok (.putfield 21, 3) := dk da_R_init 29 rfl
theorem d_R_init_52 : decode b_R_init 52 = .ok (.aload_n 0, 1) := dk da_R_init 30 rfl
theorem d_R_init_53 : decode b_R_init 53 = .ok (.new 27, 3) := dk da_R_init 31 rfl
theorem d_R_init_56 : decode b_R_init 56 = .ok (.dup, 1) := dk da_R_init 32 rfl
theorem d_R_init_57 : decode b_R_init 57 = .ok (.invokespecial 29, 3) := dk da_R_init 33 rfl
theorem d_R_init_60 : decode b_R_init 60 = .ok (.putfield 30, 3) := dk da_R_init 34 rfl
theorem d_R_init_63 : decode b_R_init 63 = .ok (.aload_n 0, 1) := dk da_R_init 35 rfl
theorem d_R_init_64 : decode b_R_init 64 = .ok (.sipush 2000, 3) := dk da_R_init 36 rfl
theorem d_R_init_67 : decode b_R_init 67 = .ok (.newarray .int, 2) := dk da_R_init 37 rfl
theorem d_R_init_69 : decode b_R_init 69 = .ok (.putfield 34, 3) := dk da_R_init 38 rfl
theorem d_R_init_72 : decode b_R_init 72 = .ok (.aload_n 0, 1) := dk da_R_init 39 rfl
theorem d_R_init_73 : decode b_R_init 73 = .ok (.sipush 2000, 3) := dk da_R_init 40 rfl
theorem d_R_init_76 : decode b_R_init 76 = .ok (.newarray .int, 2) := dk da_R_init 41 rfl
theorem d_R_init_78 : decode b_R_init 78 = .ok (.putfield 38, 3) := dk da_R_init 42 rfl
theorem d_R_init_81 : decode b_R_init 81 = .ok (.aload_n 0, 1) := dk da_R_init 43 rfl
theorem d_R_init_82 : decode b_R_init 82 = .ok (.sipush 2000, 3) := dk da_R_init 44 rfl
theorem d_R_init_85 : decode b_R_init 85 = .ok (.newarray .int, 2) := dk da_R_init 45 rfl
theorem d_R_init_87 : decode b_R_init 87 = .ok (.putfield 41, 3) := dk da_R_init 46 rfl
theorem d_R_init_90 : decode b_R_init 90 = .ok (.aload_n 0, 1) := dk da_R_init 47 rfl
theorem d_R_init_91 : decode b_R_init 91 = .ok (.sipush 2000, 3) := dk da_R_init 48 rfl
theorem d_R_init_94 : decode b_R_init 94 = .ok (.newarray .int, 2) := dk da_R_init 49 rfl
theorem d_R_init_96 : decode b_R_init 96 = .ok (.putfield 44, 3) := dk da_R_init 50 rfl
theorem d_R_init_99 : decode b_R_init 99 = .ok (.return_, 1) := dk da_R_init 51 rfl
def dl_R_in : List (Nat × Instr × Nat) := [(0, .iload_n 0, 1), (1, .iload_n 1, 1), (2, .if_icmp .lt 8, 3), (5, .iload_n 0, 1), (6, .iload_n 2, 1), (7, .if_icmp .le 11, 3), (10, .new 47, 3), (13, .dup, 1), (14, .invokespecial 49, 3), (17, .athrow, 1), (18, .return_, 1)]
set_option maxRecDepth 100000 in
theorem da_R_in : (dl_R_in.all fun q => decide (decode b_R_in q.1 = .ok q.2)) = true := by decide +kernel
theorem d_R_in_0 : decode b_R_in 0 = .ok (.iload_n 0, 1) := dk da_R_in 0 rfl
theorem d_R_in_1 : decode b_R_in 1 = .ok (.iload_n 1, 1) := dk da_R_in 1 rfl
theorem d_R_in_2 : decode b_R_in 2 = .ok (.if_icmp .lt 8, 3) := dk da_R_in 2 rfl
theorem d_R_in_5 : decode b_R_in 5 = .ok (.iload_n 0, 1) := dk da_R_in 3 rfl
theorem d_R_in_6 : decode b_R_in 6 = .ok (.iload_n 2, 1) := dk da_R_in 4 rfl
theorem d_R_in_7 : decode b_R_in 7 = .ok (.if_icmp .le 11, 3) := dk da_R_in 5 rfl
theorem d_R_in_10 : decode b_R_in 10 = .ok (.new 47, 3) := dk da_R_in 6 rfl
theorem d_R_in_13 : decode b_R_in 13 = .ok (.dup, 1) := dk da_R_in 7 rfl
theorem d_R_in_14 : decode b_R_in 14 = .ok (.invokespecial 49, 3) := dk da_R_in 8 rfl
theorem d_R_in_17 : decode b_R_in 17 = .ok (.athrow, 1) := dk da_R_in 9 rfl
theorem d_R_in_18 : decode b_R_in 18 = .ok (.return_, 1) := dk da_R_in 10 rfl
def dl_R_within : List (Nat × Instr × Nat) := [(0, .iload_n 0, 1), (1, .ifCond .ne 11, 3), (4, .new 50, 3), (7, .dup, 1), (8, .invokespecial 52, 3), (11, .athrow, 1), (12, .return_, 1)]
set_option maxRecDepth 100000 in
theorem da_R_within : (dl_R_within.all fun q => decide (decode b_R_within q.1 = .ok q.2)) = true := by decide +kernel
theorem d_R_within_0 : decode b_R_within 0 = .ok (.iload_n 0, 1) := dk da_R_within 0 rfl
theorem d_R_within_1 : decode b_R_within 1 = .ok (.ifCond .ne 11, 3) := dk da_R_within 1 rfl
theorem d_R_within_4 : decode b_R_within 4 = .ok (.new 50, 3) := dk da_R_within 2 rfl
theorem d_R_within_7 : decode b_R_within 7 = .ok (.dup, 1) := dk da_R_within 3 rfl
theorem d_R_within_8 : decode b_R_within 8 = .ok (.invokespecial 52, 3) := dk da_R_within 4 rfl
theorem d_R_within_11 : decode b_R_within 11 = .ok (.athrow, 1) := dk da_R_within 5 rfl
theorem d_R_within_12 : decode b_R_within 12 = .ok (.return_, 1) := dk da_R_within 6 rfl
def dl_R_add : List (Nat × Instr × Nat) := [(0, .aload_n 0, 1), (1, .getfield 34, 3), (4, .aload_n 0, 1), (5, .getfield 53, 3), (8, .iload_n 1, 1), (9, .iastore, 1), (10, .aload_n 0, 1), (11, .getfield 38, 3), (14, .aload_n 0, 1), (15, .getfield 53, 3), (18, .aload_n 0, 1), (19, .getfield 53, 3), (22, .iastore, 1), (23, .aload_n 0, 1), (24, .dup, 1), (25, .getfield 53, 3), (28, .iconst 1, 1), (29, .iadd, 1), (30, .putfield 53, 3), (33, .return_, 1)]
set_option maxRecDepth 100000 in
theorem da_R_add : (dl_R_add.all fun q => decide (decode b_R_add q.1 = .ok q.2)) = true := by decide +kernel
theorem d_R_add_0 : decode b_R_add 0 = .ok (.aload_n 0, 1) := dk da_R_add 0 rfl
theorem d_R_add_1 : decode b_R_add 1 = .ok (.getfield 34, 3) := dk da_R_add 1 rfl
theorem d_R_add_4 : decode b_R_add 4 = .ok (.aload_n 0, 1) := dk da_R_add 2 rfl
theorem d_R_add_5 : decode b_R_add 5 = .ok (.getfield 53, 3) := dk da_R_add 3 rfl
theorem d_R_add_8 : decode b_R_add 8 = .ok (.iload_n 1, 1) := dk da_R_add 4 rfl
theorem d_R_add_9 : decode b_R_add 9 = .ok (.iastore, 1) := dk da_R_add 5 rfl
theorem d_R_add_10 : decode b_R_add 10 = .ok (.aload_n 0, 1) := dk da_R_add 6 rfl
theorem d_R_add_11 : decode b_R_add 11 = .ok (.getfield 38, 3) := dk da_R_add 7 rfl
theorem d_R_add_14 : decode b_R_add 14 = .ok (.aload_n 0, 1) := dk da_R_add 8 rfl
theorem d_R_add_15 : decode b_R_add 15 = .ok (.getfield 53, 3) := dk da_R_add 9 rfl
theorem d_R_add_18 : decode b_R_add 18 = .ok (.aload_n 0, 1) := dk da_R_add 10 rfl
theorem d_R_add_19 : decode b_R_add 19 = .ok (.getfield 53, 3) := dk da_R_add 11 rfl
theorem d_R_add_22 : decode b_R_add 22 = .ok (.iastore, 1) := dk da_R_add 12 rfl
theorem d_R_add_23 : decode b_R_add 23 = .ok (.aload_n 0, 1) := dk da_R_add 13 rfl
theorem d_R_add_24 : decode b_R_add 24 = .ok (.dup, 1) := dk da_R_add 14 rfl
theorem d_R_add_25 : decode b_R_add 25 = .ok (.getfield 53, 3) := dk da_R_add 15 rfl
theorem d_R_add_28 : decode b_R_add 28 = .ok (.iconst 1, 1) := dk da_R_add 16 rfl
theorem d_R_add_29 : decode b_R_add 29 = .ok (.iadd, 1) := dk da_R_add 17 rfl
theorem d_R_add_30 : decode b_R_add 30 = .ok (.putfield 53, 3) := dk da_R_add 18 rfl
theorem d_R_add_33 : decode b_R_add 33 = .ok (.return_, 1) := dk da_R_add 19 rfl
def dl_R_fill : List (Nat × Instr × Nat) := [(0, .iload_n 3, 1), (1, .iconst 0, 1), (2, .sipush 2000, 3), (5, .invokestatic 57, 3), (8, .aload_n 0, 1), (9, .getfield 53, 3), (12, .iload_n 3, 1), (13, .iadd, 1), (14, .sipush 2000, 3), (17, .if_icmp .gt 7, 3), (20, .iconst 1, 1), (21, .goto 4, 3), (24, .iconst 0, 1), (25, .invokestatic 61, 3), (28, .iconst 0, 1), (29, .istore 4, 2), (31, .iload 4, 2), (33, .iload_n 3, 1), (34, .if_icmp .ge 19, 3), (37, .aload_n 0, 1), (38, .iload_n 1, 1), (39, .iload 4, 2), (41, .iload_n 2, 1), (42, .imul, 1), (43, .iadd, 1), (44, .invokevirtual 65, 3), (47, .iinc 4 1, 3), (50, .goto (-19), 3), (53, .aload_n 0, 1), (54, .getfield 53, 3), (57, .ireturn, 1)]
set_option maxRecDepth 100000 in
theorem da_R_fill : (dl_R_fill.all fun q => decide (decode b_R_fill q.1 = .ok q.2)) = true := by decide +kernel
theorem d_R_fill_0 : decode b_R_fill 0 = .ok (.iload_n 3, 1) := dk da_R_fill 0 rfl
theorem d_R_fill_1 : decode b_R_fill 1 = .ok (.iconst 0, 1) := dk da_R_fill 1 rfl
theorem d_R_fill_2 : decode b_R_fill 2 = .ok (.sipush 2000, 3) := dk da_R_fill 2 rfl
theorem d_R_fill_5 : decode b_R_fill 5 = .ok (.invokestatic 57, 3) := dk da_R_fill 3 rfl
theorem d_R_fill_8 : decode b_R_fill 8 = .ok (.aload_n 0, 1) := dk da_R_fill 4 rfl
theorem d_R_fill_9 : decode b_R_fill 9 = .ok (.getfield 53, 3) := dk da_R_fill 5 rfl
theorem d_R_fill_12 : decode b_R_fill 12 = .ok (.iload_n 3, 1) := dk da_R_fill 6 rfl
theorem d_R_fill_13 : decode b_R_fill 13 = .ok (.iadd, 1) := dk da_R_fill 7 rfl
theorem d_R_fill_14 : decode b_R_fill 14 = .ok (.sipush 2000, 3) := dk da_R_fill 8 rfl
theorem d_R_fill_17 : decode b_R_fill 17 = .ok (.if_icmp .gt 7, 3) := dk da_R_fill 9 rfl
theorem d_R_fill_20 : decode b_R_fill 20 = .ok (.iconst 1, 1) := dk da_R_fill 10 rfl
theorem d_R_fill_21 : decode b_R_fill 21 = .ok (.goto 4, 3) := dk da_R_fill 11 rfl
theorem d_R_fill_24 : decode b_R_fill 24 = .ok (.iconst 0, 1) := dk da_R_fill 12 rfl
theorem d_R_fill_25 : decode b_R_fill 25 = .ok (.invokestatic 61, 3) := dk da_R_fill 13 rfl
theorem d_R_fill_28 : decode b_R_fill 28 = .ok (.iconst 0, 1) := dk da_R_fill 14 rfl
theorem d_R_fill_29 : decode b_R_fill 29 = .ok (.istore 4, 2) := dk da_R_fill 15 rfl
theorem d_R_fill_31 : decode b_R_fill 31 = .ok (.iload 4, 2) := dk da_R_fill 16 rfl
theorem d_R_fill_33 : decode b_R_fill 33 = .ok (.iload_n 3, 1) := dk da_R_fill 17 rfl
theorem d_R_fill_34 : decode b_R_fill 34 = .ok (.if_icmp .ge 19, 3) := dk da_R_fill 18 rfl
theorem d_R_fill_37 : decode b_R_fill 37 = .ok (.aload_n 0, 1) := dk da_R_fill 19 rfl
theorem d_R_fill_38 : decode b_R_fill 38 = .ok (.iload_n 1, 1) := dk da_R_fill 20 rfl
theorem d_R_fill_39 : decode b_R_fill 39 = .ok (.iload 4, 2) := dk da_R_fill 21 rfl
theorem d_R_fill_41 : decode b_R_fill 41 = .ok (.iload_n 2, 1) := dk da_R_fill 22 rfl
theorem d_R_fill_42 : decode b_R_fill 42 = .ok (.imul, 1) := dk da_R_fill 23 rfl
theorem d_R_fill_43 : decode b_R_fill 43 = .ok (.iadd, 1) := dk da_R_fill 24 rfl
theorem d_R_fill_44 : decode b_R_fill 44 = .ok (.invokevirtual 65, 3) := dk da_R_fill 25 rfl
theorem d_R_fill_47 : decode b_R_fill 47 = .ok (.iinc 4 1, 3) := dk da_R_fill 26 rfl
theorem d_R_fill_50 : decode b_R_fill 50 = .ok (.goto (-19), 3) := dk da_R_fill 27 rfl
theorem d_R_fill_53 : decode b_R_fill 53 = .ok (.aload_n 0, 1) := dk da_R_fill 28 rfl
theorem d_R_fill_54 : decode b_R_fill 54 = .ok (.getfield 53, 3) := dk da_R_fill 29 rfl
theorem d_R_fill_57 : decode b_R_fill 57 = .ok (.ireturn, 1) := dk da_R_fill 30 rfl
def dl_R_scatter : List (Nat × Instr × Nat) := [(0, .iload_n 2, 1), (1, .iconst 1, 1), (2, .bipush 16, 2), (4, .invokestatic 57, 3), (7, .iload_n 3, 1), (8, .iconst 0, 1), (9, .sipush 2000, 3), (12, .invokestatic 57, 3), (15, .aload_n 0, 1), (16, .getfield 53, 3), (19, .iload_n 3, 1), (20, .iadd, 1), (21, .sipush 2000, 3), (24, .if_icmp .gt 7, 3), (27, .iconst 1, 1), (28, .goto 4, 3), (31, .iconst 0, 1), (32, .invokestatic 61, 3), (35, .iload_n 1, 1), (36, .istore 4, 2), (38, .iconst 0, 1), (39, .istore 5, 2), (41, .iload 5, 2), (43, .iload_n 3, 1), (44, .if_icmp .ge 34, 3), (47, .ldc 69, 2), (49, .iload 4, 2), (51, .imul, 1), (52, .ldc 70, 2), (54, .iadd, 1), (55, .istore 4, 2), (57, .aload_n 0, 1), (58, .iload 4, 2), (60, .bipush 16, 2), (62, .iushr, 1), (63, .iconst 1, 1), (64, .iload_n 2, 1), (65, .ishl, 1), (66, .iconst 1, 1), (67, .isub, 1), (68, .iand, 1), (69, .invokevirtual 65, 3), (72, .iinc 5 1, 3), (75, .goto (-34), 3), (78, .aload_n 0, 1), (79, .getfield 53, 3), (82, .ireturn, 1)]
set_option maxRecDepth 100000 in
theorem da_R_scatter : (dl_R_scatter.all fun q => decide (decode b_R_scatter q.1 = .ok q.2)) = true := by decide +kernel
theorem d_R_scatter_0 : decode b_R_scatter 0 = .ok (.iload_n 2, 1) := dk da_R_scatter 0 rfl
theorem d_R_scatter_1 : decode b_R_scatter 1 = .ok (.iconst 1, 1) := dk da_R_scatter 1 rfl
theorem d_R_scatter_2 : decode b_R_scatter 2 = .ok (.bipush 16, 2) := dk da_R_scatter 2 rfl
theorem d_R_scatter_4 : decode b_R_scatter 4 = .ok (.invokestatic 57, 3) := dk da_R_scatter 3 rfl
theorem d_R_scatter_7 : decode b_R_scatter 7 = .ok (.iload_n 3, 1) := dk da_R_scatter 4 rfl
theorem d_R_scatter_8 : decode b_R_scatter 8 = .ok (.iconst 0, 1) := dk da_R_scatter 5 rfl
theorem d_R_scatter_9 : decode b_R_scatter 9 = .ok (.sipush 2000, 3) := dk da_R_scatter 6 rfl
theorem d_R_scatter_12 : decode b_R_scatter 12 = .ok (.invokestatic 57, 3) := dk da_R_scatter 7 rfl
theorem d_R_scatter_15 : decode b_R_scatter 15 = .ok (.aload_n 0, 1) := dk da_R_scatter 8 rfl
theorem d_R_scatter_16 : decode b_R_scatter 16 = .ok (.getfield 53, 3) := dk da_R_scatter 9 rfl
theorem d_R_scatter_19 : decode b_R_scatter 19 = .ok (.iload_n 3, 1) := dk da_R_scatter 10 rfl
theorem d_R_scatter_20 : decode b_R_scatter 20 = .ok (.iadd, 1) := dk da_R_scatter 11 rfl
theorem d_R_scatter_21 : decode b_R_scatter 21 = .ok (.sipush 2000, 3) := dk da_R_scatter 12 rfl
theorem d_R_scatter_24 : decode b_R_scatter 24 = .ok (.if_icmp .gt 7, 3) := dk da_R_scatter 13 rfl
theorem d_R_scatter_27 : decode b_R_scatter 27 = .ok (.iconst 1, 1) := dk da_R_scatter 14 rfl
theorem d_R_scatter_28 : decode b_R_scatter 28 = .ok (.goto 4, 3) := dk da_R_scatter 15 rfl
theorem d_R_scatter_31 : decode b_R_scatter 31 = .ok (.iconst 0, 1) := dk da_R_scatter 16 rfl
theorem d_R_scatter_32 : decode b_R_scatter 32 = .ok (.invokestatic 61, 3) := dk da_R_scatter 17 rfl
theorem d_R_scatter_35 : decode b_R_scatter 35 = .ok (.iload_n 1, 1) := dk da_R_scatter 18 rfl
theorem d_R_scatter_36 : decode b_R_scatter 36 = .ok (.istore 4, 2) := dk da_R_scatter 19 rfl
theorem d_R_scatter_38 : decode b_R_scatter 38 = .ok (.iconst 0, 1) := dk da_R_scatter 20 rfl
theorem d_R_scatter_39 : decode b_R_scatter 39 = .ok (.istore 5, 2) := dk da_R_scatter 21 rfl
theorem d_R_scatter_41 : decode b_R_scatter 41 = .ok (.iload 5, 2) := dk da_R_scatter 22 rfl
theorem d_R_scatter_43 : decode b_R_scatter 43 = .ok (.iload_n 3, 1) := dk da_R_scatter 23 rfl
theorem d_R_scatter_44 : decode b_R_scatter 44 = .ok (.if_icmp .ge 34, 3) := dk da_R_scatter 24 rfl
theorem d_R_scatter_47 : decode b_R_scatter 47 = .ok (.ldc 69, 2) := dk da_R_scatter 25 rfl
theorem d_R_scatter_49 : decode b_R_scatter 49 = .ok (.iload 4, 2) := dk da_R_scatter 26 rfl
theorem d_R_scatter_51 : decode b_R_scatter 51 = .ok (.imul, 1) := dk da_R_scatter 27 rfl
theorem d_R_scatter_52 : decode b_R_scatter 52 = .ok (.ldc 70, 2) := dk da_R_scatter 28 rfl
theorem d_R_scatter_54 : decode b_R_scatter 54 = .ok (.iadd, 1) := dk da_R_scatter 29 rfl
theorem d_R_scatter_55 : decode b_R_scatter 55 = .ok (.istore 4, 2) := dk da_R_scatter 30 rfl
theorem d_R_scatter_57 : decode b_R_scatter 57 = .ok (.aload_n 0, 1) := dk da_R_scatter 31 rfl
theorem d_R_scatter_58 : decode b_R_scatter 58 = .ok (.iload 4, 2) := dk da_R_scatter 32 rfl
theorem d_R_scatter_60 : decode b_R_scatter 60 = .ok (.bipush 16, 2) := dk da_R_scatter 33 rfl
theorem d_R_scatter_62 : decode b_R_scatter 62 = .ok (.iushr, 1) := dk da_R_scatter 34 rfl
theorem d_R_scatter_63 : decode b_R_scatter 63 = .ok (.iconst 1, 1) := dk da_R_scatter 35 rfl
theorem d_R_scatter_64 : decode b_R_scatter 64 = .ok (.iload_n 2, 1) := dk da_R_scatter 36 rfl
theorem d_R_scatter_65 : decode b_R_scatter 65 = .ok (.ishl, 1) := dk da_R_scatter 37 rfl
theorem d_R_scatter_66 : decode b_R_scatter 66 = .ok (.iconst 1, 1) := dk da_R_scatter 38 rfl
theorem d_R_scatter_67 : decode b_R_scatter 67 = .ok (.isub, 1) := dk da_R_scatter 39 rfl
theorem d_R_scatter_68 : decode b_R_scatter 68 = .ok (.iand, 1) := dk da_R_scatter 40 rfl
theorem d_R_scatter_69 : decode b_R_scatter 69 = .ok (.invokevirtual 65, 3) := dk da_R_scatter 41 rfl
theorem d_R_scatter_72 : decode b_R_scatter 72 = .ok (.iinc 5 1, 3) := dk da_R_scatter 42 rfl
theorem d_R_scatter_75 : decode b_R_scatter 75 = .ok (.goto (-34), 3) := dk da_R_scatter 43 rfl
theorem d_R_scatter_78 : decode b_R_scatter 78 = .ok (.aload_n 0, 1) := dk da_R_scatter 44 rfl
theorem d_R_scatter_79 : decode b_R_scatter 79 = .ok (.getfield 53, 3) := dk da_R_scatter 45 rfl
theorem d_R_scatter_82 : decode b_R_scatter 82 = .ok (.ireturn, 1) := dk da_R_scatter 46 rfl
def dl_R_sort : List (Nat × Instr × Nat) := [(0, .iload_n 1, 1), (1, .iconst 0, 1), (2, .iconst 3, 1), (3, .invokestatic 57, 3), (6, .iload_n 2, 1), (7, .iconst 0, 1), (8, .aload_n 0, 1), (9, .getfield 53, 3), (12, .invokestatic 57, 3), (15, .iload_n 3, 1), (16, .iload_n 2, 1), (17, .aload_n 0, 1), (18, .getfield 53, 3), (21, .invokestatic 57, 3), (24, .iload_n 3, 1), (25, .iload_n 2, 1), (26, .isub, 1), (27, .istore 4, 2), (29, .aload_n 0, 1), (30, .getfield 30, 3), (33, .invokevirtual 71, 3), (36, .astore 5, 2), (38, .iconst 0, 1), (39, .istore 6, 2), (41, .iload 6, 2), (43, .iload 4, 2), (45, .if_icmp .ge 48, 3), (48, .aload_n 0, 1), (49, .getfield 41, 3), (52, .iload 6, 2), (54, .aload_n 0, 1), (55, .getfield 34, 3), (58, .iload_n 2, 1), (59, .iload 6, 2), (61, .iadd, 1), (62, .iaload, 1), (63, .iastore, 1), (64, .aload_n 0, 1), (65, .getfield 44, 3), (68, .iload 6, 2), (70, .aload_n 0, 1), (71, .getfield 38, 3), (74, .iload_n 2, 1), (75, .iload 6, 2), (77, .iadd, 1), (78, .iaload, 1), (79, .iastore, 1), (80, .aload 5, 2), (82, .iload 6, 2), (84, .iload 6, 2), (86, .iastore, 1), (87, .iinc 6 1, 3), (90, .goto (-49), 3), (93, .aload_n 0, 1), (94, .getfield 30, 3), (97, .iload 4, 2), (99, .new 75, 3), (102, .dup, 1), (103, .aload_n 0, 1), (104, .getfield 21, 3), (107, .iload_n 1, 1), (108, .aaload, 1), (109, .aload_n 0, 1), (110, .getfield 41, 3), (113, .invokespecial 77, 3), (116, .invokevirtual 80, 3), (119, .iconst 0, 1), (120, .istore 6, 2), (122, .iload 6, 2), (124, .iload 4, 2), (126, .if_icmp .ge 47, 3), (129, .aload_n 0, 1), (130, .getfield 34, 3), (133, .iload_n 2, 1), (134, .iload 6, 2), (136, .iadd, 1), (137, .aload_n 0, 1), (138, .getfield 41, 3), (141, .aload 5, 2), (143, .iload 6, 2), (145, .iaload, 1), (146, .iaload, 1), (147, .iastore, 1), (148, .aload_n 0, 1), (149, .getfield 38, 3), (152, .iload_n 2, 1), (153, .iload 6, 2), (155, .iadd, 1), (156, .aload_n 0, 1), (157, .getfield 44, 3), (160, .aload 5, 2), (162, .iload 6, 2), (164, .iaload, 1), (165, .iaload, 1), (166, .iastore, 1), (167, .iinc 6 1, 3), (170, .goto (-48), 3), (173, .iload 4, 2), (175, .ireturn, 1)]
set_option maxRecDepth 100000 in
theorem da_R_sort : (dl_R_sort.all fun q => decide (decode b_R_sort q.1 = .ok q.2)) = true := by decide +kernel
theorem d_R_sort_0 : decode b_R_sort 0 = .ok (.iload_n 1, 1) := dk da_R_sort 0 rfl
theorem d_R_sort_1 : decode b_R_sort 1 = .ok (.iconst 0, 1) := dk da_R_sort 1 rfl
theorem d_R_sort_2 : decode b_R_sort 2 = .ok (.iconst 3, 1) := dk da_R_sort 2 rfl
theorem d_R_sort_3 : decode b_R_sort 3 = .ok (.invokestatic 57, 3) := dk da_R_sort 3 rfl
theorem d_R_sort_6 : decode b_R_sort 6 = .ok (.iload_n 2, 1) := dk da_R_sort 4 rfl
theorem d_R_sort_7 : decode b_R_sort 7 = .ok (.iconst 0, 1) := dk da_R_sort 5 rfl
theorem d_R_sort_8 : decode b_R_sort 8 = .ok (.aload_n 0, 1) := dk da_R_sort 6 rfl
theorem d_R_sort_9 : decode b_R_sort 9 = .ok (.getfield 53, 3) := dk da_R_sort 7 rfl
theorem d_R_sort_12 : decode b_R_sort 12 = .ok (.invokestatic 57, 3) := dk da_R_sort 8 rfl
theorem d_R_sort_15 : decode b_R_sort 15 = .ok (.iload_n 3, 1) := dk da_R_sort 9 rfl
theorem d_R_sort_16 : decode b_R_sort 16 = .ok (.iload_n 2, 1) := dk da_R_sort 10 rfl
theorem d_R_sort_17 : decode b_R_sort 17 = .ok (.aload_n 0, 1) := dk da_R_sort 11 rfl
theorem d_R_sort_18 : decode b_R_sort 18 = .ok (.getfield 53, 3) := dk da_R_sort 12 rfl
theorem d_R_sort_21 : decode b_R_sort 21 = .ok (.invokestatic 57, 3) := dk da_R_sort 13 rfl
theorem d_R_sort_24 : decode b_R_sort 24 = .ok (.iload_n 3, 1) := dk da_R_sort 14 rfl
theorem d_R_sort_25 : decode b_R_sort 25 = .ok (.iload_n 2, 1) := dk da_R_sort 15 rfl
theorem d_R_sort_26 : decode b_R_sort 26 = .ok (.isub, 1) := dk da_R_sort 16 rfl
theorem d_R_sort_27 : decode b_R_sort 27 = .ok (.istore 4, 2) := dk da_R_sort 17 rfl
theorem d_R_sort_29 : decode b_R_sort 29 = .ok (.aload_n 0, 1) := dk da_R_sort 18 rfl
theorem d_R_sort_30 : decode b_R_sort 30 = .ok (.getfield 30, 3) := dk da_R_sort 19 rfl
theorem d_R_sort_33 : decode b_R_sort 33 = .ok (.invokevirtual 71, 3) := dk da_R_sort 20 rfl
theorem d_R_sort_36 : decode b_R_sort 36 = .ok (.astore 5, 2) := dk da_R_sort 21 rfl
theorem d_R_sort_38 : decode b_R_sort 38 = .ok (.iconst 0, 1) := dk da_R_sort 22 rfl
theorem d_R_sort_39 : decode b_R_sort 39 = .ok (.istore 6, 2) := dk da_R_sort 23 rfl
theorem d_R_sort_41 : decode b_R_sort 41 = .ok (.iload 6, 2) := dk da_R_sort 24 rfl
theorem d_R_sort_43 : decode b_R_sort 43 = .ok (.iload 4, 2) := dk da_R_sort 25 rfl
theorem d_R_sort_45 : decode b_R_sort 45 = .ok (.if_icmp .ge 48, 3) := dk da_R_sort 26 rfl
theorem d_R_sort_48 : decode b_R_sort 48 = .ok (.aload_n 0, 1) := dk da_R_sort 27 rfl
theorem d_R_sort_49 : decode b_R_sort 49 = .ok (.getfield 41, 3) := dk da_R_sort 28 rfl
theorem d_R_sort_52 : decode b_R_sort 52 = .ok (.iload 6, 2) := dk da_R_sort 29 rfl
theorem d_R_sort_54 : decode b_R_sort 54 = .ok (.aload_n 0, 1) := dk da_R_sort 30 rfl
theorem d_R_sort_55 : decode b_R_sort 55 = .ok (.getfield 34, 3) := dk da_R_sort 31 rfl
theorem d_R_sort_58 : decode b_R_sort 58 = .ok (.iload_n 2, 1) := dk da_R_sort 32 rfl
theorem d_R_sort_59 : decode b_R_sort 59 = .ok (.iload 6, 2) := dk da_R_sort 33 rfl
theorem d_R_sort_61 : decode b_R_sort 61 = .ok (.iadd, 1) := dk da_R_sort 34 rfl
theorem d_R_sort_62 : decode b_R_sort 62 = .ok (.iaload, 1) := dk da_R_sort 35 rfl
theorem d_R_sort_63 : decode b_R_sort 63 = .ok (.iastore, 1) := dk da_R_sort 36 rfl
theorem d_R_sort_64 : decode b_R_sort 64 = .ok (.aload_n 0, 1) := dk da_R_sort 37 rfl
theorem d_R_sort_65 : decode b_R_sort 65 = .ok (.getfield 44, 3) := dk da_R_sort 38 rfl
theorem d_R_sort_68 : decode b_R_sort 68 = .ok (.iload 6, 2) := dk da_R_sort 39 rfl
theorem d_R_sort_70 : decode b_R_sort 70 = .ok (.aload_n 0, 1) := dk da_R_sort 40 rfl
theorem d_R_sort_71 : decode b_R_sort 71 = .ok (.getfield 38, 3) := dk da_R_sort 41 rfl
theorem d_R_sort_74 : decode b_R_sort 74 = .ok (.iload_n 2, 1) := dk da_R_sort 42 rfl
theorem d_R_sort_75 : decode b_R_sort 75 = .ok (.iload 6, 2) := dk da_R_sort 43 rfl
theorem d_R_sort_77 : decode b_R_sort 77 = .ok (.iadd, 1) := dk da_R_sort 44 rfl
theorem d_R_sort_78 : decode b_R_sort 78 = .ok (.iaload, 1) := dk da_R_sort 45 rfl
theorem d_R_sort_79 : decode b_R_sort 79 = .ok (.iastore, 1) := dk da_R_sort 46 rfl
theorem d_R_sort_80 : decode b_R_sort 80 = .ok (.aload 5, 2) := dk da_R_sort 47 rfl
theorem d_R_sort_82 : decode b_R_sort 82 = .ok (.iload 6, 2) := dk da_R_sort 48 rfl
theorem d_R_sort_84 : decode b_R_sort 84 = .ok (.iload 6, 2) := dk da_R_sort 49 rfl
theorem d_R_sort_86 : decode b_R_sort 86 = .ok (.iastore, 1) := dk da_R_sort 50 rfl
theorem d_R_sort_87 : decode b_R_sort 87 = .ok (.iinc 6 1, 3) := dk da_R_sort 51 rfl
theorem d_R_sort_90 : decode b_R_sort 90 = .ok (.goto (-49), 3) := dk da_R_sort 52 rfl
theorem d_R_sort_93 : decode b_R_sort 93 = .ok (.aload_n 0, 1) := dk da_R_sort 53 rfl
theorem d_R_sort_94 : decode b_R_sort 94 = .ok (.getfield 30, 3) := dk da_R_sort 54 rfl
theorem d_R_sort_97 : decode b_R_sort 97 = .ok (.iload 4, 2) := dk da_R_sort 55 rfl
theorem d_R_sort_99 : decode b_R_sort 99 = .ok (.new 75, 3) := dk da_R_sort 56 rfl
theorem d_R_sort_102 : decode b_R_sort 102 = .ok (.dup, 1) := dk da_R_sort 57 rfl
theorem d_R_sort_103 : decode b_R_sort 103 = .ok (.aload_n 0, 1) := dk da_R_sort 58 rfl
theorem d_R_sort_104 : decode b_R_sort 104 = .ok (.getfield 21, 3) := dk da_R_sort 59 rfl
theorem d_R_sort_107 : decode b_R_sort 107 = .ok (.iload_n 1, 1) := dk da_R_sort 60 rfl
theorem d_R_sort_108 : decode b_R_sort 108 = .ok (.aaload, 1) := dk da_R_sort 61 rfl
theorem d_R_sort_109 : decode b_R_sort 109 = .ok (.aload_n 0, 1) := dk da_R_sort 62 rfl
theorem d_R_sort_110 : decode b_R_sort 110 = .ok (.getfield 41, 3) := dk da_R_sort 63 rfl
theorem d_R_sort_113 : decode b_R_sort 113 = .ok (.invokespecial 77, 3) := dk da_R_sort 64 rfl
theorem d_R_sort_116 : decode b_R_sort 116 = .ok (.invokevirtual 80, 3) := dk da_R_sort 65 rfl
theorem d_R_sort_119 : decode b_R_sort 119 = .ok (.iconst 0, 1) := dk da_R_sort 66 rfl
theorem d_R_sort_120 : decode b_R_sort 120 = .ok (.istore 6, 2) := dk da_R_sort 67 rfl
theorem d_R_sort_122 : decode b_R_sort 122 = .ok (.iload 6, 2) := dk da_R_sort 68 rfl
theorem d_R_sort_124 : decode b_R_sort 124 = .ok (.iload 4, 2) := dk da_R_sort 69 rfl
theorem d_R_sort_126 : decode b_R_sort 126 = .ok (.if_icmp .ge 47, 3) := dk da_R_sort 70 rfl
theorem d_R_sort_129 : decode b_R_sort 129 = .ok (.aload_n 0, 1) := dk da_R_sort 71 rfl
theorem d_R_sort_130 : decode b_R_sort 130 = .ok (.getfield 34, 3) := dk da_R_sort 72 rfl
theorem d_R_sort_133 : decode b_R_sort 133 = .ok (.iload_n 2, 1) := dk da_R_sort 73 rfl
theorem d_R_sort_134 : decode b_R_sort 134 = .ok (.iload 6, 2) := dk da_R_sort 74 rfl
theorem d_R_sort_136 : decode b_R_sort 136 = .ok (.iadd, 1) := dk da_R_sort 75 rfl
theorem d_R_sort_137 : decode b_R_sort 137 = .ok (.aload_n 0, 1) := dk da_R_sort 76 rfl
theorem d_R_sort_138 : decode b_R_sort 138 = .ok (.getfield 41, 3) := dk da_R_sort 77 rfl
theorem d_R_sort_141 : decode b_R_sort 141 = .ok (.aload 5, 2) := dk da_R_sort 78 rfl
theorem d_R_sort_143 : decode b_R_sort 143 = .ok (.iload 6, 2) := dk da_R_sort 79 rfl
theorem d_R_sort_145 : decode b_R_sort 145 = .ok (.iaload, 1) := dk da_R_sort 80 rfl
theorem d_R_sort_146 : decode b_R_sort 146 = .ok (.iaload, 1) := dk da_R_sort 81 rfl
theorem d_R_sort_147 : decode b_R_sort 147 = .ok (.iastore, 1) := dk da_R_sort 82 rfl
theorem d_R_sort_148 : decode b_R_sort 148 = .ok (.aload_n 0, 1) := dk da_R_sort 83 rfl
theorem d_R_sort_149 : decode b_R_sort 149 = .ok (.getfield 38, 3) := dk da_R_sort 84 rfl
theorem d_R_sort_152 : decode b_R_sort 152 = .ok (.iload_n 2, 1) := dk da_R_sort 85 rfl
theorem d_R_sort_153 : decode b_R_sort 153 = .ok (.iload 6, 2) := dk da_R_sort 86 rfl
theorem d_R_sort_155 : decode b_R_sort 155 = .ok (.iadd, 1) := dk da_R_sort 87 rfl
theorem d_R_sort_156 : decode b_R_sort 156 = .ok (.aload_n 0, 1) := dk da_R_sort 88 rfl
theorem d_R_sort_157 : decode b_R_sort 157 = .ok (.getfield 44, 3) := dk da_R_sort 89 rfl
theorem d_R_sort_160 : decode b_R_sort 160 = .ok (.aload 5, 2) := dk da_R_sort 90 rfl
theorem d_R_sort_162 : decode b_R_sort 162 = .ok (.iload 6, 2) := dk da_R_sort 91 rfl
theorem d_R_sort_164 : decode b_R_sort 164 = .ok (.iaload, 1) := dk da_R_sort 92 rfl
theorem d_R_sort_165 : decode b_R_sort 165 = .ok (.iaload, 1) := dk da_R_sort 93 rfl
theorem d_R_sort_166 : decode b_R_sort 166 = .ok (.iastore, 1) := dk da_R_sort 94 rfl
theorem d_R_sort_167 : decode b_R_sort 167 = .ok (.iinc 6 1, 3) := dk da_R_sort 95 rfl
theorem d_R_sort_170 : decode b_R_sort 170 = .ok (.goto (-48), 3) := dk da_R_sort 96 rfl
theorem d_R_sort_173 : decode b_R_sort 173 = .ok (.iload 4, 2) := dk da_R_sort 97 rfl
theorem d_R_sort_175 : decode b_R_sort 175 = .ok (.ireturn, 1) := dk da_R_sort 98 rfl
def dl_R_get : List (Nat × Instr × Nat) := [(0, .iload_n 1, 1), (1, .ifCond .lt 15, 3), (4, .iload_n 1, 1), (5, .aload_n 0, 1), (6, .getfield 53, 3), (9, .if_icmp .ge 7, 3), (12, .iconst 1, 1), (13, .goto 4, 3), (16, .iconst 0, 1), (17, .invokestatic 61, 3), (20, .aload_n 0, 1), (21, .getfield 34, 3), (24, .iload_n 1, 1), (25, .iaload, 1), (26, .ireturn, 1)]
set_option maxRecDepth 100000 in
theorem da_R_get : (dl_R_get.all fun q => decide (decode b_R_get q.1 = .ok q.2)) = true := by decide +kernel
theorem d_R_get_0 : decode b_R_get 0 = .ok (.iload_n 1, 1) := dk da_R_get 0 rfl
theorem d_R_get_1 : decode b_R_get 1 = .ok (.ifCond .lt 15, 3) := dk da_R_get 1 rfl
theorem d_R_get_4 : decode b_R_get 4 = .ok (.iload_n 1, 1) := dk da_R_get 2 rfl
theorem d_R_get_5 : decode b_R_get 5 = .ok (.aload_n 0, 1) := dk da_R_get 3 rfl
theorem d_R_get_6 : decode b_R_get 6 = .ok (.getfield 53, 3) := dk da_R_get 4 rfl
theorem d_R_get_9 : decode b_R_get 9 = .ok (.if_icmp .ge 7, 3) := dk da_R_get 5 rfl
theorem d_R_get_12 : decode b_R_get 12 = .ok (.iconst 1, 1) := dk da_R_get 6 rfl
theorem d_R_get_13 : decode b_R_get 13 = .ok (.goto 4, 3) := dk da_R_get 7 rfl
theorem d_R_get_16 : decode b_R_get 16 = .ok (.iconst 0, 1) := dk da_R_get 8 rfl
theorem d_R_get_17 : decode b_R_get 17 = .ok (.invokestatic 61, 3) := dk da_R_get 9 rfl
theorem d_R_get_20 : decode b_R_get 20 = .ok (.aload_n 0, 1) := dk da_R_get 10 rfl
theorem d_R_get_21 : decode b_R_get 21 = .ok (.getfield 34, 3) := dk da_R_get 11 rfl
theorem d_R_get_24 : decode b_R_get 24 = .ok (.iload_n 1, 1) := dk da_R_get 12 rfl
theorem d_R_get_25 : decode b_R_get 25 = .ok (.iaload, 1) := dk da_R_get 13 rfl
theorem d_R_get_26 : decode b_R_get 26 = .ok (.ireturn, 1) := dk da_R_get 14 rfl
def dl_R_tag : List (Nat × Instr × Nat) := [(0, .iload_n 1, 1), (1, .ifCond .lt 15, 3), (4, .iload_n 1, 1), (5, .aload_n 0, 1), (6, .getfield 53, 3), (9, .if_icmp .ge 7, 3), (12, .iconst 1, 1), (13, .goto 4, 3), (16, .iconst 0, 1), (17, .invokestatic 61, 3), (20, .aload_n 0, 1), (21, .getfield 38, 3), (24, .iload_n 1, 1), (25, .iaload, 1), (26, .ireturn, 1)]
set_option maxRecDepth 100000 in
theorem da_R_tag : (dl_R_tag.all fun q => decide (decode b_R_tag q.1 = .ok q.2)) = true := by decide +kernel
theorem d_R_tag_0 : decode b_R_tag 0 = .ok (.iload_n 1, 1) := dk da_R_tag 0 rfl
theorem d_R_tag_1 : decode b_R_tag 1 = .ok (.ifCond .lt 15, 3) := dk da_R_tag 1 rfl
theorem d_R_tag_4 : decode b_R_tag 4 = .ok (.iload_n 1, 1) := dk da_R_tag 2 rfl
theorem d_R_tag_5 : decode b_R_tag 5 = .ok (.aload_n 0, 1) := dk da_R_tag 3 rfl
theorem d_R_tag_6 : decode b_R_tag 6 = .ok (.getfield 53, 3) := dk da_R_tag 4 rfl
theorem d_R_tag_9 : decode b_R_tag 9 = .ok (.if_icmp .ge 7, 3) := dk da_R_tag 5 rfl
theorem d_R_tag_12 : decode b_R_tag 12 = .ok (.iconst 1, 1) := dk da_R_tag 6 rfl
theorem d_R_tag_13 : decode b_R_tag 13 = .ok (.goto 4, 3) := dk da_R_tag 7 rfl
theorem d_R_tag_16 : decode b_R_tag 16 = .ok (.iconst 0, 1) := dk da_R_tag 8 rfl
theorem d_R_tag_17 : decode b_R_tag 17 = .ok (.invokestatic 61, 3) := dk da_R_tag 9 rfl
theorem d_R_tag_20 : decode b_R_tag 20 = .ok (.aload_n 0, 1) := dk da_R_tag 10 rfl
theorem d_R_tag_21 : decode b_R_tag 21 = .ok (.getfield 38, 3) := dk da_R_tag 11 rfl
theorem d_R_tag_24 : decode b_R_tag 24 = .ok (.iload_n 1, 1) := dk da_R_tag 12 rfl
theorem d_R_tag_25 : decode b_R_tag 25 = .ok (.iaload, 1) := dk da_R_tag 13 rfl
theorem d_R_tag_26 : decode b_R_tag 26 = .ok (.ireturn, 1) := dk da_R_tag 14 rfl
def dl_R_set : List (Nat × Instr × Nat) := [(0, .iload_n 1, 1), (1, .ifCond .lt 15, 3), (4, .iload_n 1, 1), (5, .aload_n 0, 1), (6, .getfield 53, 3), (9, .if_icmp .ge 7, 3), (12, .iconst 1, 1), (13, .goto 4, 3), (16, .iconst 0, 1), (17, .invokestatic 61, 3), (20, .aload_n 0, 1), (21, .getfield 34, 3), (24, .iload_n 1, 1), (25, .iaload, 1), (26, .istore_n 3, 1), (27, .aload_n 0, 1), (28, .getfield 34, 3), (31, .iload_n 1, 1), (32, .iload_n 2, 1), (33, .iastore, 1), (34, .iload_n 3, 1), (35, .ireturn, 1)]
set_option maxRecDepth 100000 in
theorem da_R_set : (dl_R_set.all fun q => decide (decode b_R_set q.1 = .ok q.2)) = true := by decide +kernel
theorem d_R_set_0 : decode b_R_set 0 = .ok (.iload_n 1, 1) := dk da_R_set 0 rfl
theorem d_R_set_1 : decode b_R_set 1 = .ok (.ifCond .lt 15, 3) := dk da_R_set 1 rfl
theorem d_R_set_4 : decode b_R_set 4 = .ok (.iload_n 1, 1) := dk da_R_set 2 rfl
theorem d_R_set_5 : decode b_R_set 5 = .ok (.aload_n 0, 1) := dk da_R_set 3 rfl
theorem d_R_set_6 : decode b_R_set 6 = .ok (.getfield 53, 3) := dk da_R_set 4 rfl
theorem d_R_set_9 : decode b_R_set 9 = .ok (.if_icmp .ge 7, 3) := dk da_R_set 5 rfl
theorem d_R_set_12 : decode b_R_set 12 = .ok (.iconst 1, 1) := dk da_R_set 6 rfl
theorem d_R_set_13 : decode b_R_set 13 = .ok (.goto 4, 3) := dk da_R_set 7 rfl
theorem d_R_set_16 : decode b_R_set 16 = .ok (.iconst 0, 1) := dk da_R_set 8 rfl
theorem d_R_set_17 : decode b_R_set 17 = .ok (.invokestatic 61, 3) := dk da_R_set 9 rfl
theorem d_R_set_20 : decode b_R_set 20 = .ok (.aload_n 0, 1) := dk da_R_set 10 rfl
theorem d_R_set_21 : decode b_R_set 21 = .ok (.getfield 34, 3) := dk da_R_set 11 rfl
theorem d_R_set_24 : decode b_R_set 24 = .ok (.iload_n 1, 1) := dk da_R_set 12 rfl
theorem d_R_set_25 : decode b_R_set 25 = .ok (.iaload, 1) := dk da_R_set 13 rfl
theorem d_R_set_26 : decode b_R_set 26 = .ok (.istore_n 3, 1) := dk da_R_set 14 rfl
theorem d_R_set_27 : decode b_R_set 27 = .ok (.aload_n 0, 1) := dk da_R_set 15 rfl
theorem d_R_set_28 : decode b_R_set 28 = .ok (.getfield 34, 3) := dk da_R_set 16 rfl
theorem d_R_set_31 : decode b_R_set 31 = .ok (.iload_n 1, 1) := dk da_R_set 17 rfl
theorem d_R_set_32 : decode b_R_set 32 = .ok (.iload_n 2, 1) := dk da_R_set 18 rfl
theorem d_R_set_33 : decode b_R_set 33 = .ok (.iastore, 1) := dk da_R_set 19 rfl
theorem d_R_set_34 : decode b_R_set 34 = .ok (.iload_n 3, 1) := dk da_R_set 20 rfl
theorem d_R_set_35 : decode b_R_set 35 = .ok (.ireturn, 1) := dk da_R_set 21 rfl
def dl_R_turn : List (Nat × Instr × Nat) := [(0, .iload_n 1, 1), (1, .iconst 0, 1), (2, .aload_n 0, 1), (3, .getfield 53, 3), (6, .invokestatic 57, 3), (9, .iload_n 2, 1), (10, .iload_n 1, 1), (11, .aload_n 0, 1), (12, .getfield 53, 3), (15, .invokestatic 57, 3), (18, .iload_n 1, 1), (19, .istore_n 3, 1), (20, .iload_n 2, 1), (21, .iconst 1, 1), (22, .isub, 1), (23, .istore 4, 2), (25, .iload_n 3, 1), (26, .iload 4, 2), (28, .if_icmp .ge 72, 3), (31, .aload_n 0, 1), (32, .getfield 34, 3), (35, .iload_n 3, 1), (36, .iaload, 1), (37, .istore 5, 2), (39, .aload_n 0, 1), (40, .getfield 34, 3), (43, .iload_n 3, 1), (44, .aload_n 0, 1), (45, .getfield 34, 3), (48, .iload 4, 2), (50, .iaload, 1), (51, .iastore, 1), (52, .aload_n 0, 1), (53, .getfield 34, 3), (56, .iload 4, 2), (58, .iload 5, 2), (60, .iastore, 1), (61, .aload_n 0, 1), (62, .getfield 38, 3), (65, .iload_n 3, 1), (66, .iaload, 1), (67, .istore 6, 2), (69, .aload_n 0, 1), (70, .getfield 38, 3), (73, .iload_n 3, 1), (74, .aload_n 0, 1), (75, .getfield 38, 3), (78, .iload 4, 2), (80, .iaload, 1), (81, .iastore, 1), (82, .aload_n 0, 1), (83, .getfield 38, 3), (86, .iload 4, 2), (88, .iload 6, 2), (90, .iastore, 1), (91, .iinc 3 1, 3), (94, .iinc 4 (-1), 3), (97, .goto (-72), 3), (100, .iload_n 2, 1), (101, .iload_n 1, 1), (102, .isub, 1), (103, .ireturn, 1)]
set_option maxRecDepth 100000 in
theorem da_R_turn : (dl_R_turn.all fun q => decide (decode b_R_turn q.1 = .ok q.2)) = true := by decide +kernel
theorem d_R_turn_0 : decode b_R_turn 0 = .ok (.iload_n 1, 1) := dk da_R_turn 0 rfl
theorem d_R_turn_1 : decode b_R_turn 1 = .ok (.iconst 0, 1) := dk da_R_turn 1 rfl
theorem d_R_turn_2 : decode b_R_turn 2 = .ok (.aload_n 0, 1) := dk da_R_turn 2 rfl
theorem d_R_turn_3 : decode b_R_turn 3 = .ok (.getfield 53, 3) := dk da_R_turn 3 rfl
theorem d_R_turn_6 : decode b_R_turn 6 = .ok (.invokestatic 57, 3) := dk da_R_turn 4 rfl
theorem d_R_turn_9 : decode b_R_turn 9 = .ok (.iload_n 2, 1) := dk da_R_turn 5 rfl
theorem d_R_turn_10 : decode b_R_turn 10 = .ok (.iload_n 1, 1) := dk da_R_turn 6 rfl
theorem d_R_turn_11 : decode b_R_turn 11 = .ok (.aload_n 0, 1) := dk da_R_turn 7 rfl
theorem d_R_turn_12 : decode b_R_turn 12 = .ok (.getfield 53, 3) := dk da_R_turn 8 rfl
theorem d_R_turn_15 : decode b_R_turn 15 = .ok (.invokestatic 57, 3) := dk da_R_turn 9 rfl
theorem d_R_turn_18 : decode b_R_turn 18 = .ok (.iload_n 1, 1) := dk da_R_turn 10 rfl
theorem d_R_turn_19 : decode b_R_turn 19 = .ok (.istore_n 3, 1) := dk da_R_turn 11 rfl
theorem d_R_turn_20 : decode b_R_turn 20 = .ok (.iload_n 2, 1) := dk da_R_turn 12 rfl
theorem d_R_turn_21 : decode b_R_turn 21 = .ok (.iconst 1, 1) := dk da_R_turn 13 rfl
theorem d_R_turn_22 : decode b_R_turn 22 = .ok (.isub, 1) := dk da_R_turn 14 rfl
theorem d_R_turn_23 : decode b_R_turn 23 = .ok (.istore 4, 2) := dk da_R_turn 15 rfl
theorem d_R_turn_25 : decode b_R_turn 25 = .ok (.iload_n 3, 1) := dk da_R_turn 16 rfl
theorem d_R_turn_26 : decode b_R_turn 26 = .ok (.iload 4, 2) := dk da_R_turn 17 rfl
theorem d_R_turn_28 : decode b_R_turn 28 = .ok (.if_icmp .ge 72, 3) := dk da_R_turn 18 rfl
theorem d_R_turn_31 : decode b_R_turn 31 = .ok (.aload_n 0, 1) := dk da_R_turn 19 rfl
theorem d_R_turn_32 : decode b_R_turn 32 = .ok (.getfield 34, 3) := dk da_R_turn 20 rfl
theorem d_R_turn_35 : decode b_R_turn 35 = .ok (.iload_n 3, 1) := dk da_R_turn 21 rfl
theorem d_R_turn_36 : decode b_R_turn 36 = .ok (.iaload, 1) := dk da_R_turn 22 rfl
theorem d_R_turn_37 : decode b_R_turn 37 = .ok (.istore 5, 2) := dk da_R_turn 23 rfl
theorem d_R_turn_39 : decode b_R_turn 39 = .ok (.aload_n 0, 1) := dk da_R_turn 24 rfl
theorem d_R_turn_40 : decode b_R_turn 40 = .ok (.getfield 34, 3) := dk da_R_turn 25 rfl
theorem d_R_turn_43 : decode b_R_turn 43 = .ok (.iload_n 3, 1) := dk da_R_turn 26 rfl
theorem d_R_turn_44 : decode b_R_turn 44 = .ok (.aload_n 0, 1) := dk da_R_turn 27 rfl
theorem d_R_turn_45 : decode b_R_turn 45 = .ok (.getfield 34, 3) := dk da_R_turn 28 rfl
theorem d_R_turn_48 : decode b_R_turn 48 = .ok (.iload 4, 2) := dk da_R_turn 29 rfl
theorem d_R_turn_50 : decode b_R_turn 50 = .ok (.iaload, 1) := dk da_R_turn 30 rfl
theorem d_R_turn_51 : decode b_R_turn 51 = .ok (.iastore, 1) := dk da_R_turn 31 rfl
theorem d_R_turn_52 : decode b_R_turn 52 = .ok (.aload_n 0, 1) := dk da_R_turn 32 rfl
theorem d_R_turn_53 : decode b_R_turn 53 = .ok (.getfield 34, 3) := dk da_R_turn 33 rfl
theorem d_R_turn_56 : decode b_R_turn 56 = .ok (.iload 4, 2) := dk da_R_turn 34 rfl
theorem d_R_turn_58 : decode b_R_turn 58 = .ok (.iload 5, 2) := dk da_R_turn 35 rfl
theorem d_R_turn_60 : decode b_R_turn 60 = .ok (.iastore, 1) := dk da_R_turn 36 rfl
theorem d_R_turn_61 : decode b_R_turn 61 = .ok (.aload_n 0, 1) := dk da_R_turn 37 rfl
theorem d_R_turn_62 : decode b_R_turn 62 = .ok (.getfield 38, 3) := dk da_R_turn 38 rfl
theorem d_R_turn_65 : decode b_R_turn 65 = .ok (.iload_n 3, 1) := dk da_R_turn 39 rfl
theorem d_R_turn_66 : decode b_R_turn 66 = .ok (.iaload, 1) := dk da_R_turn 40 rfl
theorem d_R_turn_67 : decode b_R_turn 67 = .ok (.istore 6, 2) := dk da_R_turn 41 rfl
theorem d_R_turn_69 : decode b_R_turn 69 = .ok (.aload_n 0, 1) := dk da_R_turn 42 rfl
theorem d_R_turn_70 : decode b_R_turn 70 = .ok (.getfield 38, 3) := dk da_R_turn 43 rfl
theorem d_R_turn_73 : decode b_R_turn 73 = .ok (.iload_n 3, 1) := dk da_R_turn 44 rfl
theorem d_R_turn_74 : decode b_R_turn 74 = .ok (.aload_n 0, 1) := dk da_R_turn 45 rfl
theorem d_R_turn_75 : decode b_R_turn 75 = .ok (.getfield 38, 3) := dk da_R_turn 46 rfl
theorem d_R_turn_78 : decode b_R_turn 78 = .ok (.iload 4, 2) := dk da_R_turn 47 rfl
theorem d_R_turn_80 : decode b_R_turn 80 = .ok (.iaload, 1) := dk da_R_turn 48 rfl
theorem d_R_turn_81 : decode b_R_turn 81 = .ok (.iastore, 1) := dk da_R_turn 49 rfl
theorem d_R_turn_82 : decode b_R_turn 82 = .ok (.aload_n 0, 1) := dk da_R_turn 50 rfl
theorem d_R_turn_83 : decode b_R_turn 83 = .ok (.getfield 38, 3) := dk da_R_turn 51 rfl
theorem d_R_turn_86 : decode b_R_turn 86 = .ok (.iload 4, 2) := dk da_R_turn 52 rfl
theorem d_R_turn_88 : decode b_R_turn 88 = .ok (.iload 6, 2) := dk da_R_turn 53 rfl
theorem d_R_turn_90 : decode b_R_turn 90 = .ok (.iastore, 1) := dk da_R_turn 54 rfl
theorem d_R_turn_91 : decode b_R_turn 91 = .ok (.iinc 3 1, 3) := dk da_R_turn 55 rfl
theorem d_R_turn_94 : decode b_R_turn 94 = .ok (.iinc 4 (-1), 3) := dk da_R_turn 56 rfl
theorem d_R_turn_97 : decode b_R_turn 97 = .ok (.goto (-72), 3) := dk da_R_turn 57 rfl
theorem d_R_turn_100 : decode b_R_turn 100 = .ok (.iload_n 2, 1) := dk da_R_turn 58 rfl
theorem d_R_turn_101 : decode b_R_turn 101 = .ok (.iload_n 1, 1) := dk da_R_turn 59 rfl
theorem d_R_turn_102 : decode b_R_turn 102 = .ok (.isub, 1) := dk da_R_turn 60 rfl
theorem d_R_turn_103 : decode b_R_turn 103 = .ok (.ireturn, 1) := dk da_R_turn 61 rfl
def dl_R_upTo : List (Nat × Instr × Nat) := [(0, .iload_n 1, 1), (1, .iconst 0, 1), (2, .iconst 3, 1), (3, .invokestatic 57, 3), (6, .iconst 0, 1), (7, .istore 4, 2), (9, .iload 4, 2), (11, .aload_n 0, 1), (12, .getfield 53, 3), (15, .if_icmp .ge 47, 3), (18, .aload_n 0, 1), (19, .getfield 21, 3), (22, .iload_n 1, 1), (23, .aaload, 1), (24, .aload_n 0, 1), (25, .getfield 34, 3), (28, .iload 4, 2), (30, .iaload, 1), (31, .iload_n 2, 1), (32, .invokeinterface 84 3, 5), (37, .istore 5, 2), (39, .iload 5, 2), (41, .ifCond .gt 21, 3), (44, .iload 5, 2), (46, .ifCond .ne 10, 3), (49, .iload_n 3, 1), (50, .ifCond .ne 6, 3), (53, .goto 9, 3), (56, .iinc 4 1, 3), (59, .goto (-50), 3), (62, .iload 4, 2), (64, .ireturn, 1)]
set_option maxRecDepth 100000 in
theorem da_R_upTo : (dl_R_upTo.all fun q => decide (decode b_R_upTo q.1 = .ok q.2)) = true := by decide +kernel
theorem d_R_upTo_0 : decode b_R_upTo 0 = .ok (.iload_n 1, 1) := dk da_R_upTo 0 rfl
theorem d_R_upTo_1 : decode b_R_upTo 1 = .ok (.iconst 0, 1) := dk da_R_upTo 1 rfl
theorem d_R_upTo_2 : decode b_R_upTo 2 = .ok (.iconst 3, 1) := dk da_R_upTo 2 rfl
theorem d_R_upTo_3 : decode b_R_upTo 3 = .ok (.invokestatic 57, 3) := dk da_R_upTo 3 rfl
theorem d_R_upTo_6 : decode b_R_upTo 6 = .ok (.iconst 0, 1) := dk da_R_upTo 4 rfl
theorem d_R_upTo_7 : decode b_R_upTo 7 = .ok (.istore 4, 2) := dk da_R_upTo 5 rfl
theorem d_R_upTo_9 : decode b_R_upTo 9 = .ok (.iload 4, 2) := dk da_R_upTo 6 rfl
theorem d_R_upTo_11 : decode b_R_upTo 11 = .ok (.aload_n 0, 1) := dk da_R_upTo 7 rfl
theorem d_R_upTo_12 : decode b_R_upTo 12 = .ok (.getfield 53, 3) := dk da_R_upTo 8 rfl
theorem d_R_upTo_15 : decode b_R_upTo 15 = .ok (.if_icmp .ge 47, 3) := dk da_R_upTo 9 rfl
theorem d_R_upTo_18 : decode b_R_upTo 18 = .ok (.aload_n 0, 1) := dk da_R_upTo 10 rfl
theorem d_R_upTo_19 : decode b_R_upTo 19 = .ok (.getfield 21, 3) := dk da_R_upTo 11 rfl
theorem d_R_upTo_22 : decode b_R_upTo 22 = .ok (.iload_n 1, 1) := dk da_R_upTo 12 rfl
theorem d_R_upTo_23 : decode b_R_upTo 23 = .ok (.aaload, 1) := dk da_R_upTo 13 rfl
theorem d_R_upTo_24 : decode b_R_upTo 24 = .ok (.aload_n 0, 1) := dk da_R_upTo 14 rfl
theorem d_R_upTo_25 : decode b_R_upTo 25 = .ok (.getfield 34, 3) := dk da_R_upTo 15 rfl
theorem d_R_upTo_28 : decode b_R_upTo 28 = .ok (.iload 4, 2) := dk da_R_upTo 16 rfl
theorem d_R_upTo_30 : decode b_R_upTo 30 = .ok (.iaload, 1) := dk da_R_upTo 17 rfl
theorem d_R_upTo_31 : decode b_R_upTo 31 = .ok (.iload_n 2, 1) := dk da_R_upTo 18 rfl
theorem d_R_upTo_32 : decode b_R_upTo 32 = .ok (.invokeinterface 84 3, 5) := dk da_R_upTo 19 rfl
theorem d_R_upTo_37 : decode b_R_upTo 37 = .ok (.istore 5, 2) := dk da_R_upTo 20 rfl
theorem d_R_upTo_39 : decode b_R_upTo 39 = .ok (.iload 5, 2) := dk da_R_upTo 21 rfl
theorem d_R_upTo_41 : decode b_R_upTo 41 = .ok (.ifCond .gt 21, 3) := dk da_R_upTo 22 rfl
theorem d_R_upTo_44 : decode b_R_upTo 44 = .ok (.iload 5, 2) := dk da_R_upTo 23 rfl
theorem d_R_upTo_46 : decode b_R_upTo 46 = .ok (.ifCond .ne 10, 3) := dk da_R_upTo 24 rfl
theorem d_R_upTo_49 : decode b_R_upTo 49 = .ok (.iload_n 3, 1) := dk da_R_upTo 25 rfl
theorem d_R_upTo_50 : decode b_R_upTo 50 = .ok (.ifCond .ne 6, 3) := dk da_R_upTo 26 rfl
theorem d_R_upTo_53 : decode b_R_upTo 53 = .ok (.goto 9, 3) := dk da_R_upTo 27 rfl
theorem d_R_upTo_56 : decode b_R_upTo 56 = .ok (.iinc 4 1, 3) := dk da_R_upTo 28 rfl
theorem d_R_upTo_59 : decode b_R_upTo 59 = .ok (.goto (-50), 3) := dk da_R_upTo 29 rfl
theorem d_R_upTo_62 : decode b_R_upTo 62 = .ok (.iload 4, 2) := dk da_R_upTo 30 rfl
theorem d_R_upTo_64 : decode b_R_upTo 64 = .ok (.ireturn, 1) := dk da_R_upTo 31 rfl
def dl_R_clear : List (Nat × Instr × Nat) := [(0, .aload_n 0, 1), (1, .getfield 53, 3), (4, .istore_n 1, 1), (5, .aload_n 0, 1), (6, .iconst 0, 1), (7, .putfield 53, 3), (10, .iload_n 1, 1), (11, .ireturn, 1)]
set_option maxRecDepth 100000 in
theorem da_R_clear : (dl_R_clear.all fun q => decide (decode b_R_clear q.1 = .ok q.2)) = true := by decide +kernel
theorem d_R_clear_0 : decode b_R_clear 0 = .ok (.aload_n 0, 1) := dk da_R_clear 0 rfl
theorem d_R_clear_1 : decode b_R_clear 1 = .ok (.getfield 53, 3) := dk da_R_clear 1 rfl
theorem d_R_clear_4 : decode b_R_clear 4 = .ok (.istore_n 1, 1) := dk da_R_clear 2 rfl
theorem d_R_clear_5 : decode b_R_clear 5 = .ok (.aload_n 0, 1) := dk da_R_clear 3 rfl
theorem d_R_clear_6 : decode b_R_clear 6 = .ok (.iconst 0, 1) := dk da_R_clear 4 rfl
theorem d_R_clear_7 : decode b_R_clear 7 = .ok (.putfield 53, 3) := dk da_R_clear 5 rfl
theorem d_R_clear_10 : decode b_R_clear 10 = .ok (.iload_n 1, 1) := dk da_R_clear 6 rfl
theorem d_R_clear_11 : decode b_R_clear 11 = .ok (.ireturn, 1) := dk da_R_clear 7 rfl
def dl_R_hash : List (Nat × Instr × Nat) := [(0, .iconst 1, 1), (1, .istore_n 1, 1), (2, .iconst 0, 1), (3, .istore_n 2, 1), (4, .iload_n 2, 1), (5, .aload_n 0, 1), (6, .getfield 53, 3), (9, .if_icmp .ge 31, 3), (12, .bipush 31, 2), (14, .bipush 31, 2), (16, .iload_n 1, 1), (17, .imul, 1), (18, .aload_n 0, 1), (19, .getfield 34, 3), (22, .iload_n 2, 1), (23, .iaload, 1), (24, .iadd, 1), (25, .imul, 1), (26, .aload_n 0, 1), (27, .getfield 38, 3), (30, .iload_n 2, 1), (31, .iaload, 1), (32, .iadd, 1), (33, .istore_n 1, 1), (34, .iinc 2 1, 3), (37, .goto (-33), 3), (40, .iload_n 1, 1), (41, .ireturn, 1)]
set_option maxRecDepth 100000 in
theorem da_R_hash : (dl_R_hash.all fun q => decide (decode b_R_hash q.1 = .ok q.2)) = true := by decide +kernel
theorem d_R_hash_0 : decode b_R_hash 0 = .ok (.iconst 1, 1) := dk da_R_hash 0 rfl
theorem d_R_hash_1 : decode b_R_hash 1 = .ok (.istore_n 1, 1) := dk da_R_hash 1 rfl
theorem d_R_hash_2 : decode b_R_hash 2 = .ok (.iconst 0, 1) := dk da_R_hash 2 rfl
theorem d_R_hash_3 : decode b_R_hash 3 = .ok (.istore_n 2, 1) := dk da_R_hash 3 rfl
theorem d_R_hash_4 : decode b_R_hash 4 = .ok (.iload_n 2, 1) := dk da_R_hash 4 rfl
theorem d_R_hash_5 : decode b_R_hash 5 = .ok (.aload_n 0, 1) := dk da_R_hash 5 rfl
theorem d_R_hash_6 : decode b_R_hash 6 = .ok (.getfield 53, 3) := dk da_R_hash 6 rfl
theorem d_R_hash_9 : decode b_R_hash 9 = .ok (.if_icmp .ge 31, 3) := dk da_R_hash 7 rfl
theorem d_R_hash_12 : decode b_R_hash 12 = .ok (.bipush 31, 2) := dk da_R_hash 8 rfl
theorem d_R_hash_14 : decode b_R_hash 14 = .ok (.bipush 31, 2) := dk da_R_hash 9 rfl
theorem d_R_hash_16 : decode b_R_hash 16 = .ok (.iload_n 1, 1) := dk da_R_hash 10 rfl
theorem d_R_hash_17 : decode b_R_hash 17 = .ok (.imul, 1) := dk da_R_hash 11 rfl
theorem d_R_hash_18 : decode b_R_hash 18 = .ok (.aload_n 0, 1) := dk da_R_hash 12 rfl
theorem d_R_hash_19 : decode b_R_hash 19 = .ok (.getfield 34, 3) := dk da_R_hash 13 rfl
theorem d_R_hash_22 : decode b_R_hash 22 = .ok (.iload_n 2, 1) := dk da_R_hash 14 rfl
theorem d_R_hash_23 : decode b_R_hash 23 = .ok (.iaload, 1) := dk da_R_hash 15 rfl
theorem d_R_hash_24 : decode b_R_hash 24 = .ok (.iadd, 1) := dk da_R_hash 16 rfl
theorem d_R_hash_25 : decode b_R_hash 25 = .ok (.imul, 1) := dk da_R_hash 17 rfl
theorem d_R_hash_26 : decode b_R_hash 26 = .ok (.aload_n 0, 1) := dk da_R_hash 18 rfl
theorem d_R_hash_27 : decode b_R_hash 27 = .ok (.getfield 38, 3) := dk da_R_hash 19 rfl
theorem d_R_hash_30 : decode b_R_hash 30 = .ok (.iload_n 2, 1) := dk da_R_hash 20 rfl
theorem d_R_hash_31 : decode b_R_hash 31 = .ok (.iaload, 1) := dk da_R_hash 21 rfl
theorem d_R_hash_32 : decode b_R_hash 32 = .ok (.iadd, 1) := dk da_R_hash 22 rfl
theorem d_R_hash_33 : decode b_R_hash 33 = .ok (.istore_n 1, 1) := dk da_R_hash 23 rfl
theorem d_R_hash_34 : decode b_R_hash 34 = .ok (.iinc 2 1, 3) := dk da_R_hash 24 rfl
theorem d_R_hash_37 : decode b_R_hash 37 = .ok (.goto (-33), 3) := dk da_R_hash 25 rfl
theorem d_R_hash_40 : decode b_R_hash 40 = .ok (.iload_n 1, 1) := dk da_R_hash 26 rfl
theorem d_R_hash_41 : decode b_R_hash 41 = .ok (.ireturn, 1) := dk da_R_hash 27 rfl
def dl_M_init : List (Nat × Instr × Nat) := [(0, .aload_n 0, 1), (1, .invokespecial 1, 3), (4, .aload_n 0, 1), (5, .sipush 2000, 3), (8, .newarray .int, 2), (10, .putfield 7, 3), (13, .aload_n 0, 1), (14, .sipush 2000, 3), (17, .newarray .int, 2), (19, .putfield 13, 3), (22, .return_, 1)]
set_option maxRecDepth 100000 in
theorem da_M_init : (dl_M_init.all fun q => decide (decode b_M_init q.1 = .ok q.2)) = true := by decide +kernel
theorem d_M_init_0 : decode b_M_init 0 = .ok (.aload_n 0, 1) := dk da_M_init 0 rfl
theorem d_M_init_1 : decode b_M_init 1 = .ok (.invokespecial 1, 3) := dk da_M_init 1 rfl
theorem d_M_init_4 : decode b_M_init 4 = .ok (.aload_n 0, 1) := dk da_M_init 2 rfl
theorem d_M_init_5 : decode b_M_init 5 = .ok (.sipush 2000, 3) := dk da_M_init 3 rfl
theorem d_M_init_8 : decode b_M_init 8 = .ok (.newarray .int, 2) := dk da_M_init 4 rfl
theorem d_M_init_10 : decode b_M_init 10 = .ok (.putfield 7, 3) := dk da_M_init 5 rfl
theorem d_M_init_13 : decode b_M_init 13 = .ok (.aload_n 0, 1) := dk da_M_init 6 rfl
theorem d_M_init_14 : decode b_M_init 14 = .ok (.sipush 2000, 3) := dk da_M_init 7 rfl
theorem d_M_init_17 : decode b_M_init 17 = .ok (.newarray .int, 2) := dk da_M_init 8 rfl
theorem d_M_init_19 : decode b_M_init 19 = .ok (.putfield 13, 3) := dk da_M_init 9 rfl
theorem d_M_init_22 : decode b_M_init 22 = .ok (.return_, 1) := dk da_M_init 10 rfl
def dl_M_thrown : List (Nat × Instr × Nat) := [(0, .aload_n 0, 1), (1, .getfield 16, 3), (4, .ireturn, 1)]
set_option maxRecDepth 100000 in
theorem da_M_thrown : (dl_M_thrown.all fun q => decide (decode b_M_thrown q.1 = .ok q.2)) = true := by decide +kernel
theorem d_M_thrown_0 : decode b_M_thrown 0 = .ok (.aload_n 0, 1) := dk da_M_thrown 0 rfl
theorem d_M_thrown_1 : decode b_M_thrown 1 = .ok (.getfield 16, 3) := dk da_M_thrown 1 rfl
theorem d_M_thrown_4 : decode b_M_thrown 4 = .ok (.ireturn, 1) := dk da_M_thrown 2 rfl
def dl_M_fail : List (Nat × Instr × Nat) := [(0, .aload_n 0, 1), (1, .iload_n 1, 1), (2, .putfield 16, 3), (5, .iconst 0, 1), (6, .ireturn, 1)]
set_option maxRecDepth 100000 in
theorem da_M_fail : (dl_M_fail.all fun q => decide (decode b_M_fail q.1 = .ok q.2)) = true := by decide +kernel
theorem d_M_fail_0 : decode b_M_fail 0 = .ok (.aload_n 0, 1) := dk da_M_fail 0 rfl
theorem d_M_fail_1 : decode b_M_fail 1 = .ok (.iload_n 1, 1) := dk da_M_fail 1 rfl
theorem d_M_fail_2 : decode b_M_fail 2 = .ok (.putfield 16, 3) := dk da_M_fail 2 rfl
theorem d_M_fail_5 : decode b_M_fail 5 = .ok (.iconst 0, 1) := dk da_M_fail 3 rfl
theorem d_M_fail_6 : decode b_M_fail 6 = .ok (.ireturn, 1) := dk da_M_fail 4 rfl
def dl_M_rank : List (Nat × Instr × Nat) := [(0, .iload_n 1, 1), (1, .ifCond .ne 7, 3), (4, .iload_n 2, 1), (5, .goto 30, 3), (8, .iload_n 1, 1), (9, .iconst 1, 1), (10, .if_icmp .ne 9, 3), (13, .iload_n 2, 1), (14, .iconst (-1), 1), (15, .ixor, 1), (16, .goto 19, 3), (19, .iload_n 1, 1), (20, .iconst 2, 1), (21, .if_icmp .ne 10, 3), (24, .iload_n 2, 1), (25, .bipush 15, 2), (27, .iand, 1), (28, .goto 7, 3), (31, .iload_n 2, 1), (32, .ldc 20, 2), (34, .ixor, 1), (35, .ireturn, 1)]
set_option maxRecDepth 100000 in
theorem da_M_rank : (dl_M_rank.all fun q => decide (decode b_M_rank q.1 = .ok q.2)) = true := by decide +kernel
theorem d_M_rank_0 : decode b_M_rank 0 = .ok (.iload_n 1, 1) := dk da_M_rank 0 rfl
theorem d_M_rank_1 : decode b_M_rank 1 = .ok (.ifCond .ne 7, 3) := dk da_M_rank 1 rfl
theorem d_M_rank_4 : decode b_M_rank 4 = .ok (.iload_n 2, 1) := dk da_M_rank 2 rfl
theorem d_M_rank_5 : decode b_M_rank 5 = .ok (.goto 30, 3) := dk da_M_rank 3 rfl
theorem d_M_rank_8 : decode b_M_rank 8 = .ok (.iload_n 1, 1) := dk da_M_rank 4 rfl
theorem d_M_rank_9 : decode b_M_rank 9 = .ok (.iconst 1, 1) := dk da_M_rank 5 rfl
theorem d_M_rank_10 : decode b_M_rank 10 = .ok (.if_icmp .ne 9, 3) := dk da_M_rank 6 rfl
theorem d_M_rank_13 : decode b_M_rank 13 = .ok (.iload_n 2, 1) := dk da_M_rank 7 rfl
theorem d_M_rank_14 : decode b_M_rank 14 = .ok (.iconst (-1), 1) := dk da_M_rank 8 rfl
theorem d_M_rank_15 : decode b_M_rank 15 = .ok (.ixor, 1) := dk da_M_rank 9 rfl
theorem d_M_rank_16 : decode b_M_rank 16 = .ok (.goto 19, 3) := dk da_M_rank 10 rfl
theorem d_M_rank_19 : decode b_M_rank 19 = .ok (.iload_n 1, 1) := dk da_M_rank 11 rfl
theorem d_M_rank_20 : decode b_M_rank 20 = .ok (.iconst 2, 1) := dk da_M_rank 12 rfl
theorem d_M_rank_21 : decode b_M_rank 21 = .ok (.if_icmp .ne 10, 3) := dk da_M_rank 13 rfl
theorem d_M_rank_24 : decode b_M_rank 24 = .ok (.iload_n 2, 1) := dk da_M_rank 14 rfl
theorem d_M_rank_25 : decode b_M_rank 25 = .ok (.bipush 15, 2) := dk da_M_rank 15 rfl
theorem d_M_rank_27 : decode b_M_rank 27 = .ok (.iand, 1) := dk da_M_rank 16 rfl
theorem d_M_rank_28 : decode b_M_rank 28 = .ok (.goto 7, 3) := dk da_M_rank 17 rfl
theorem d_M_rank_31 : decode b_M_rank 31 = .ok (.iload_n 2, 1) := dk da_M_rank 18 rfl
theorem d_M_rank_32 : decode b_M_rank 32 = .ok (.ldc 20, 2) := dk da_M_rank 19 rfl
theorem d_M_rank_34 : decode b_M_rank 34 = .ok (.ixor, 1) := dk da_M_rank 20 rfl
theorem d_M_rank_35 : decode b_M_rank 35 = .ok (.ireturn, 1) := dk da_M_rank 21 rfl
def dl_M_append : List (Nat × Instr × Nat) := [(0, .aload_n 0, 1), (1, .getfield 7, 3), (4, .aload_n 0, 1), (5, .getfield 21, 3), (8, .iload_n 1, 1), (9, .iastore, 1), (10, .aload_n 0, 1), (11, .getfield 13, 3), (14, .aload_n 0, 1), (15, .getfield 21, 3), (18, .aload_n 0, 1), (19, .getfield 21, 3), (22, .iastore, 1), (23, .aload_n 0, 1), (24, .dup, 1), (25, .getfield 21, 3), (28, .iconst 1, 1), (29, .iadd, 1), (30, .putfield 21, 3), (33, .return_, 1)]
set_option maxRecDepth 100000 in
theorem da_M_append : (dl_M_append.all fun q => decide (decode b_M_append q.1 = .ok q.2)) = true := by decide +kernel
theorem d_M_append_0 : decode b_M_append 0 = .ok (.aload_n 0, 1) := dk da_M_append 0 rfl
theorem d_M_append_1 : decode b_M_append 1 = .ok (.getfield 7, 3) := dk da_M_append 1 rfl
theorem d_M_append_4 : decode b_M_append 4 = .ok (.aload_n 0, 1) := dk da_M_append 2 rfl
theorem d_M_append_5 : decode b_M_append 5 = .ok (.getfield 21, 3) := dk da_M_append 3 rfl
theorem d_M_append_8 : decode b_M_append 8 = .ok (.iload_n 1, 1) := dk da_M_append 4 rfl
theorem d_M_append_9 : decode b_M_append 9 = .ok (.iastore, 1) := dk da_M_append 5 rfl
theorem d_M_append_10 : decode b_M_append 10 = .ok (.aload_n 0, 1) := dk da_M_append 6 rfl
theorem d_M_append_11 : decode b_M_append 11 = .ok (.getfield 13, 3) := dk da_M_append 7 rfl
theorem d_M_append_14 : decode b_M_append 14 = .ok (.aload_n 0, 1) := dk da_M_append 8 rfl
theorem d_M_append_15 : decode b_M_append 15 = .ok (.getfield 21, 3) := dk da_M_append 9 rfl
theorem d_M_append_18 : decode b_M_append 18 = .ok (.aload_n 0, 1) := dk da_M_append 10 rfl
theorem d_M_append_19 : decode b_M_append 19 = .ok (.getfield 21, 3) := dk da_M_append 11 rfl
theorem d_M_append_22 : decode b_M_append 22 = .ok (.iastore, 1) := dk da_M_append 12 rfl
theorem d_M_append_23 : decode b_M_append 23 = .ok (.aload_n 0, 1) := dk da_M_append 13 rfl
theorem d_M_append_24 : decode b_M_append 24 = .ok (.dup, 1) := dk da_M_append 14 rfl
theorem d_M_append_25 : decode b_M_append 25 = .ok (.getfield 21, 3) := dk da_M_append 15 rfl
theorem d_M_append_28 : decode b_M_append 28 = .ok (.iconst 1, 1) := dk da_M_append 16 rfl
theorem d_M_append_29 : decode b_M_append 29 = .ok (.iadd, 1) := dk da_M_append 17 rfl
theorem d_M_append_30 : decode b_M_append 30 = .ok (.putfield 21, 3) := dk da_M_append 18 rfl
theorem d_M_append_33 : decode b_M_append 33 = .ok (.return_, 1) := dk da_M_append 19 rfl
def dl_M_fill : List (Nat × Instr × Nat) := [(0, .aload_n 0, 1), (1, .iconst 0, 1), (2, .putfield 16, 3), (5, .iload_n 3, 1), (6, .ifCond .lt 10, 3), (9, .iload_n 3, 1), (10, .sipush 2000, 3), (13, .if_icmp .le 9, 3), (16, .aload_n 0, 1), (17, .iconst 1, 1), (18, .invokevirtual 24, 3), (21, .ireturn, 1), (22, .aload_n 0, 1), (23, .getfield 21, 3), (26, .iload_n 3, 1), (27, .iadd, 1), (28, .sipush 2000, 3), (31, .if_icmp .le 9, 3), (34, .aload_n 0, 1), (35, .iconst 2, 1), (36, .invokevirtual 24, 3), (39, .ireturn, 1), (40, .iconst 0, 1), (41, .istore 4, 2), (43, .iload 4, 2), (45, .iload_n 3, 1), (46, .if_icmp .ge 19, 3), (49, .aload_n 0, 1), (50, .iload_n 1, 1), (51, .iload 4, 2), (53, .iload_n 2, 1), (54, .imul, 1), (55, .iadd, 1), (56, .invokevirtual 28, 3), (59, .iinc 4 1, 3), (62, .goto (-19), 3), (65, .aload_n 0, 1), (66, .getfield 21, 3), (69, .ireturn, 1)]
set_option maxRecDepth 100000 in
theorem da_M_fill : (dl_M_fill.all fun q => decide (decode b_M_fill q.1 = .ok q.2)) = true := by decide +kernel
theorem d_M_fill_0 : decode b_M_fill 0 = .ok (.aload_n 0, 1) := dk da_M_fill 0 rfl
theorem d_M_fill_1 : decode b_M_fill 1 = .ok (.iconst 0, 1) := dk da_M_fill 1 rfl
theorem d_M_fill_2 : decode b_M_fill 2 = .ok (.putfield 16, 3) := dk da_M_fill 2 rfl
theorem d_M_fill_5 : decode b_M_fill 5 = .ok (.iload_n 3, 1) := dk da_M_fill 3 rfl
theorem d_M_fill_6 : decode b_M_fill 6 = .ok (.ifCond .lt 10, 3) := dk da_M_fill 4 rfl
theorem d_M_fill_9 : decode b_M_fill 9 = .ok (.iload_n 3, 1) := dk da_M_fill 5 rfl
theorem d_M_fill_10 : decode b_M_fill 10 = .ok (.sipush 2000, 3) := dk da_M_fill 6 rfl
theorem d_M_fill_13 : decode b_M_fill 13 = .ok (.if_icmp .le 9, 3) := dk da_M_fill 7 rfl
theorem d_M_fill_16 : decode b_M_fill 16 = .ok (.aload_n 0, 1) := dk da_M_fill 8 rfl
theorem d_M_fill_17 : decode b_M_fill 17 = .ok (.iconst 1, 1) := dk da_M_fill 9 rfl
theorem d_M_fill_18 : decode b_M_fill 18 = .ok (.invokevirtual 24, 3) := dk da_M_fill 10 rfl
theorem d_M_fill_21 : decode b_M_fill 21 = .ok (.ireturn, 1) := dk da_M_fill 11 rfl
theorem d_M_fill_22 : decode b_M_fill 22 = .ok (.aload_n 0, 1) := dk da_M_fill 12 rfl
theorem d_M_fill_23 : decode b_M_fill 23 = .ok (.getfield 21, 3) := dk da_M_fill 13 rfl
theorem d_M_fill_26 : decode b_M_fill 26 = .ok (.iload_n 3, 1) := dk da_M_fill 14 rfl
theorem d_M_fill_27 : decode b_M_fill 27 = .ok (.iadd, 1) := dk da_M_fill 15 rfl
theorem d_M_fill_28 : decode b_M_fill 28 = .ok (.sipush 2000, 3) := dk da_M_fill 16 rfl
theorem d_M_fill_31 : decode b_M_fill 31 = .ok (.if_icmp .le 9, 3) := dk da_M_fill 17 rfl
theorem d_M_fill_34 : decode b_M_fill 34 = .ok (.aload_n 0, 1) := dk da_M_fill 18 rfl
theorem d_M_fill_35 : decode b_M_fill 35 = .ok (.iconst 2, 1) := dk da_M_fill 19 rfl
theorem d_M_fill_36 : decode b_M_fill 36 = .ok (.invokevirtual 24, 3) := dk da_M_fill 20 rfl
theorem d_M_fill_39 : decode b_M_fill 39 = .ok (.ireturn, 1) := dk da_M_fill 21 rfl
theorem d_M_fill_40 : decode b_M_fill 40 = .ok (.iconst 0, 1) := dk da_M_fill 22 rfl
theorem d_M_fill_41 : decode b_M_fill 41 = .ok (.istore 4, 2) := dk da_M_fill 23 rfl
theorem d_M_fill_43 : decode b_M_fill 43 = .ok (.iload 4, 2) := dk da_M_fill 24 rfl
theorem d_M_fill_45 : decode b_M_fill 45 = .ok (.iload_n 3, 1) := dk da_M_fill 25 rfl
theorem d_M_fill_46 : decode b_M_fill 46 = .ok (.if_icmp .ge 19, 3) := dk da_M_fill 26 rfl
theorem d_M_fill_49 : decode b_M_fill 49 = .ok (.aload_n 0, 1) := dk da_M_fill 27 rfl
theorem d_M_fill_50 : decode b_M_fill 50 = .ok (.iload_n 1, 1) := dk da_M_fill 28 rfl
theorem d_M_fill_51 : decode b_M_fill 51 = .ok (.iload 4, 2) := dk da_M_fill 29 rfl
theorem d_M_fill_53 : decode b_M_fill 53 = .ok (.iload_n 2, 1) := dk da_M_fill 30 rfl
theorem d_M_fill_54 : decode b_M_fill 54 = .ok (.imul, 1) := dk da_M_fill 31 rfl
theorem d_M_fill_55 : decode b_M_fill 55 = .ok (.iadd, 1) := dk da_M_fill 32 rfl
theorem d_M_fill_56 : decode b_M_fill 56 = .ok (.invokevirtual 28, 3) := dk da_M_fill 33 rfl
theorem d_M_fill_59 : decode b_M_fill 59 = .ok (.iinc 4 1, 3) := dk da_M_fill 34 rfl
theorem d_M_fill_62 : decode b_M_fill 62 = .ok (.goto (-19), 3) := dk da_M_fill 35 rfl
theorem d_M_fill_65 : decode b_M_fill 65 = .ok (.aload_n 0, 1) := dk da_M_fill 36 rfl
theorem d_M_fill_66 : decode b_M_fill 66 = .ok (.getfield 21, 3) := dk da_M_fill 37 rfl
theorem d_M_fill_69 : decode b_M_fill 69 = .ok (.ireturn, 1) := dk da_M_fill 38 rfl
def dl_M_scatter : List (Nat × Instr × Nat) := [(0, .aload_n 0, 1), (1, .iconst 0, 1), (2, .putfield 16, 3), (5, .iload_n 3, 1), (6, .ifCond .lt 21, 3), (9, .iload_n 3, 1), (10, .sipush 2000, 3), (13, .if_icmp .gt 14, 3), (16, .iload_n 2, 1), (17, .iconst 1, 1), (18, .if_icmp .lt 9, 3), (21, .iload_n 2, 1), (22, .bipush 16, 2), (24, .if_icmp .le 9, 3), (27, .aload_n 0, 1), (28, .iconst 1, 1), (29, .invokevirtual 24, 3), (32, .ireturn, 1), (33, .aload_n 0, 1), (34, .getfield 21, 3), (37, .iload_n 3, 1), (38, .iadd, 1), (39, .sipush 2000, 3), (42, .if_icmp .le 9, 3), (45, .aload_n 0, 1), (46, .iconst 2, 1), (47, .invokevirtual 24, 3), (50, .ireturn, 1), (51, .iload_n 1, 1), (52, .istore 4, 2), (54, .iconst 0, 1), (55, .istore 5, 2), (57, .iload 5, 2), (59, .iload_n 3, 1), (60, .if_icmp .ge 34, 3), (63, .ldc 32, 2), (65, .iload 4, 2), (67, .imul, 1), (68, .ldc 33, 2), (70, .iadd, 1), (71, .istore 4, 2), (73, .aload_n 0, 1), (74, .iload 4, 2), (76, .bipush 16, 2), (78, .iushr, 1), (79, .iconst 1, 1), (80, .iload_n 2, 1), (81, .ishl, 1), (82, .iconst 1, 1), (83, .isub, 1), (84, .iand, 1), (85, .invokevirtual 28, 3), (88, .iinc 5 1, 3), (91, .goto (-34), 3), (94, .aload_n 0, 1), (95, .getfield 21, 3), (98, .ireturn, 1)]
set_option maxRecDepth 100000 in
theorem da_M_scatter : (dl_M_scatter.all fun q => decide (decode b_M_scatter q.1 = .ok q.2)) = true := by decide +kernel
theorem d_M_scatter_0 : decode b_M_scatter 0 = .ok (.aload_n 0, 1) := dk da_M_scatter 0 rfl
theorem d_M_scatter_1 : decode b_M_scatter 1 = .ok (.iconst 0, 1) := dk da_M_scatter 1 rfl
theorem d_M_scatter_2 : decode b_M_scatter 2 = .ok (.putfield 16, 3) := dk da_M_scatter 2 rfl
theorem d_M_scatter_5 : decode b_M_scatter 5 = .ok (.iload_n 3, 1) := dk da_M_scatter 3 rfl
theorem d_M_scatter_6 : decode b_M_scatter 6 = .ok (.ifCond .lt 21, 3) := dk da_M_scatter 4 rfl
theorem d_M_scatter_9 : decode b_M_scatter 9 = .ok (.iload_n 3, 1) := dk da_M_scatter 5 rfl
theorem d_M_scatter_10 : decode b_M_scatter 10 = .ok (.sipush 2000, 3) := dk da_M_scatter 6 rfl
theorem d_M_scatter_13 : decode b_M_scatter 13 = .ok (.if_icmp .gt 14, 3) := dk da_M_scatter 7 rfl
theorem d_M_scatter_16 : decode b_M_scatter 16 = .ok (.iload_n 2, 1) := dk da_M_scatter 8 rfl
theorem d_M_scatter_17 : decode b_M_scatter 17 = .ok (.iconst 1, 1) := dk da_M_scatter 9 rfl
theorem d_M_scatter_18 : decode b_M_scatter 18 = .ok (.if_icmp .lt 9, 3) := dk da_M_scatter 10 rfl
theorem d_M_scatter_21 : decode b_M_scatter 21 = .ok (.iload_n 2, 1) := dk da_M_scatter 11 rfl
theorem d_M_scatter_22 : decode b_M_scatter 22 = .ok (.bipush 16, 2) := dk da_M_scatter 12 rfl
theorem d_M_scatter_24 : decode b_M_scatter 24 = .ok (.if_icmp .le 9, 3) := dk da_M_scatter 13 rfl
theorem d_M_scatter_27 : decode b_M_scatter 27 = .ok (.aload_n 0, 1) := dk da_M_scatter 14 rfl
theorem d_M_scatter_28 : decode b_M_scatter 28 = .ok (.iconst 1, 1) := dk da_M_scatter 15 rfl
theorem d_M_scatter_29 : decode b_M_scatter 29 = .ok (.invokevirtual 24, 3) := dk da_M_scatter 16 rfl
theorem d_M_scatter_32 : decode b_M_scatter 32 = .ok (.ireturn, 1) := dk da_M_scatter 17 rfl
theorem d_M_scatter_33 : decode b_M_scatter 33 = .ok (.aload_n 0, 1) := dk da_M_scatter 18 rfl
theorem d_M_scatter_34 : decode b_M_scatter 34 = .ok (.getfield 21, 3) := dk da_M_scatter 19 rfl
theorem d_M_scatter_37 : decode b_M_scatter 37 = .ok (.iload_n 3, 1) := dk da_M_scatter 20 rfl
theorem d_M_scatter_38 : decode b_M_scatter 38 = .ok (.iadd, 1) := dk da_M_scatter 21 rfl
theorem d_M_scatter_39 : decode b_M_scatter 39 = .ok (.sipush 2000, 3) := dk da_M_scatter 22 rfl
theorem d_M_scatter_42 : decode b_M_scatter 42 = .ok (.if_icmp .le 9, 3) := dk da_M_scatter 23 rfl
theorem d_M_scatter_45 : decode b_M_scatter 45 = .ok (.aload_n 0, 1) := dk da_M_scatter 24 rfl
theorem d_M_scatter_46 : decode b_M_scatter 46 = .ok (.iconst 2, 1) := dk da_M_scatter 25 rfl
theorem d_M_scatter_47 : decode b_M_scatter 47 = .ok (.invokevirtual 24, 3) := dk da_M_scatter 26 rfl
theorem d_M_scatter_50 : decode b_M_scatter 50 = .ok (.ireturn, 1) := dk da_M_scatter 27 rfl
theorem d_M_scatter_51 : decode b_M_scatter 51 = .ok (.iload_n 1, 1) := dk da_M_scatter 28 rfl
theorem d_M_scatter_52 : decode b_M_scatter 52 = .ok (.istore 4, 2) := dk da_M_scatter 29 rfl
theorem d_M_scatter_54 : decode b_M_scatter 54 = .ok (.iconst 0, 1) := dk da_M_scatter 30 rfl
theorem d_M_scatter_55 : decode b_M_scatter 55 = .ok (.istore 5, 2) := dk da_M_scatter 31 rfl
theorem d_M_scatter_57 : decode b_M_scatter 57 = .ok (.iload 5, 2) := dk da_M_scatter 32 rfl
theorem d_M_scatter_59 : decode b_M_scatter 59 = .ok (.iload_n 3, 1) := dk da_M_scatter 33 rfl
theorem d_M_scatter_60 : decode b_M_scatter 60 = .ok (.if_icmp .ge 34, 3) := dk da_M_scatter 34 rfl
theorem d_M_scatter_63 : decode b_M_scatter 63 = .ok (.ldc 32, 2) := dk da_M_scatter 35 rfl
theorem d_M_scatter_65 : decode b_M_scatter 65 = .ok (.iload 4, 2) := dk da_M_scatter 36 rfl
theorem d_M_scatter_67 : decode b_M_scatter 67 = .ok (.imul, 1) := dk da_M_scatter 37 rfl
theorem d_M_scatter_68 : decode b_M_scatter 68 = .ok (.ldc 33, 2) := dk da_M_scatter 38 rfl
theorem d_M_scatter_70 : decode b_M_scatter 70 = .ok (.iadd, 1) := dk da_M_scatter 39 rfl
theorem d_M_scatter_71 : decode b_M_scatter 71 = .ok (.istore 4, 2) := dk da_M_scatter 40 rfl
theorem d_M_scatter_73 : decode b_M_scatter 73 = .ok (.aload_n 0, 1) := dk da_M_scatter 41 rfl
theorem d_M_scatter_74 : decode b_M_scatter 74 = .ok (.iload 4, 2) := dk da_M_scatter 42 rfl
theorem d_M_scatter_76 : decode b_M_scatter 76 = .ok (.bipush 16, 2) := dk da_M_scatter 43 rfl
theorem d_M_scatter_78 : decode b_M_scatter 78 = .ok (.iushr, 1) := dk da_M_scatter 44 rfl
theorem d_M_scatter_79 : decode b_M_scatter 79 = .ok (.iconst 1, 1) := dk da_M_scatter 45 rfl
theorem d_M_scatter_80 : decode b_M_scatter 80 = .ok (.iload_n 2, 1) := dk da_M_scatter 46 rfl
theorem d_M_scatter_81 : decode b_M_scatter 81 = .ok (.ishl, 1) := dk da_M_scatter 47 rfl
theorem d_M_scatter_82 : decode b_M_scatter 82 = .ok (.iconst 1, 1) := dk da_M_scatter 48 rfl
theorem d_M_scatter_83 : decode b_M_scatter 83 = .ok (.isub, 1) := dk da_M_scatter 49 rfl
theorem d_M_scatter_84 : decode b_M_scatter 84 = .ok (.iand, 1) := dk da_M_scatter 50 rfl
theorem d_M_scatter_85 : decode b_M_scatter 85 = .ok (.invokevirtual 28, 3) := dk da_M_scatter 51 rfl
theorem d_M_scatter_88 : decode b_M_scatter 88 = .ok (.iinc 5 1, 3) := dk da_M_scatter 52 rfl
theorem d_M_scatter_91 : decode b_M_scatter 91 = .ok (.goto (-34), 3) := dk da_M_scatter 53 rfl
theorem d_M_scatter_94 : decode b_M_scatter 94 = .ok (.aload_n 0, 1) := dk da_M_scatter 54 rfl
theorem d_M_scatter_95 : decode b_M_scatter 95 = .ok (.getfield 21, 3) := dk da_M_scatter 55 rfl
theorem d_M_scatter_98 : decode b_M_scatter 98 = .ok (.ireturn, 1) := dk da_M_scatter 56 rfl
def dl_M_bad : List (Nat × Instr × Nat) := [(0, .iload_n 1, 1), (1, .ifCond .lt 16, 3), (4, .iload_n 2, 1), (5, .iload_n 1, 1), (6, .if_icmp .lt 11, 3), (9, .iload_n 2, 1), (10, .aload_n 0, 1), (11, .getfield 21, 3), (14, .if_icmp .le 7, 3), (17, .iconst 1, 1), (18, .goto 4, 3), (21, .iconst 0, 1), (22, .ireturn, 1)]
set_option maxRecDepth 100000 in
theorem da_M_bad : (dl_M_bad.all fun q => decide (decode b_M_bad q.1 = .ok q.2)) = true := by decide +kernel
theorem d_M_bad_0 : decode b_M_bad 0 = .ok (.iload_n 1, 1) := dk da_M_bad 0 rfl
theorem d_M_bad_1 : decode b_M_bad 1 = .ok (.ifCond .lt 16, 3) := dk da_M_bad 1 rfl
theorem d_M_bad_4 : decode b_M_bad 4 = .ok (.iload_n 2, 1) := dk da_M_bad 2 rfl
theorem d_M_bad_5 : decode b_M_bad 5 = .ok (.iload_n 1, 1) := dk da_M_bad 3 rfl
theorem d_M_bad_6 : decode b_M_bad 6 = .ok (.if_icmp .lt 11, 3) := dk da_M_bad 4 rfl
theorem d_M_bad_9 : decode b_M_bad 9 = .ok (.iload_n 2, 1) := dk da_M_bad 5 rfl
theorem d_M_bad_10 : decode b_M_bad 10 = .ok (.aload_n 0, 1) := dk da_M_bad 6 rfl
theorem d_M_bad_11 : decode b_M_bad 11 = .ok (.getfield 21, 3) := dk da_M_bad 7 rfl
theorem d_M_bad_14 : decode b_M_bad 14 = .ok (.if_icmp .le 7, 3) := dk da_M_bad 8 rfl
theorem d_M_bad_17 : decode b_M_bad 17 = .ok (.iconst 1, 1) := dk da_M_bad 9 rfl
theorem d_M_bad_18 : decode b_M_bad 18 = .ok (.goto 4, 3) := dk da_M_bad 10 rfl
theorem d_M_bad_21 : decode b_M_bad 21 = .ok (.iconst 0, 1) := dk da_M_bad 11 rfl
theorem d_M_bad_22 : decode b_M_bad 22 = .ok (.ireturn, 1) := dk da_M_bad 12 rfl
def dl_M_sort : List (Nat × Instr × Nat) := [(0, .aload_n 0, 1), (1, .iconst 0, 1), (2, .putfield 16, 3), (5, .iload_n 1, 1), (6, .ifCond .lt 17, 3), (9, .iload_n 1, 1), (10, .iconst 3, 1), (11, .if_icmp .gt 12, 3), (14, .aload_n 0, 1), (15, .iload_n 2, 1), (16, .iload_n 3, 1), (17, .invokevirtual 34, 3), (20, .ifCond .eq 9, 3), (23, .aload_n 0, 1), (24, .iconst 1, 1), (25, .invokevirtual 24, 3), (28, .ireturn, 1), (29, .iload_n 2, 1), (30, .iconst 1, 1), (31, .iadd, 1), (32, .istore 4, 2), (34, .iload 4, 2), (36, .iload_n 3, 1), (37, .if_icmp .ge 117, 3), (40, .aload_n 0, 1), (41, .getfield 7, 3), (44, .iload 4, 2), (46, .iaload, 1), (47, .istore 5, 2), (49, .aload_n 0, 1), (50, .getfield 13, 3), (53, .iload 4, 2), (55, .iaload, 1), (56, .istore 6, 2), (58, .iload 4, 2), (60, .istore 7, 2), (62, .iload 7, 2), (64, .iload_n 2, 1), (65, .if_icmp .le 65, 3), (68, .aload_n 0, 1), (69, .iload_n 1, 1), (70, .aload_n 0, 1), (71, .getfield 7, 3), (74, .iload 7, 2), (76, .iconst 1, 1), (77, .isub, 1), (78, .iaload, 1), (79, .invokevirtual 38, 3), (82, .aload_n 0, 1), (83, .iload_n 1, 1), (84, .iload 5, 2), (86, .invokevirtual 38, 3), (89, .if_icmp .le 41, 3), (92, .aload_n 0, 1), (93, .getfield 7, 3), (96, .iload 7, 2), (98, .aload_n 0, 1), (99, .getfield 7, 3), (102, .iload 7, 2), (104, .iconst 1, 1), (105, .isub, 1), (106, .iaload, 1), (107, .iastore, 1), (108, .aload_n 0, 1), (109, .getfield 13, 3), (112, .iload 7, 2), (114, .aload_n 0, 1), (115, .getfield 13, 3), (118, .iload 7, 2), (120, .iconst 1, 1), (121, .isub, 1), (122, .iaload, 1), (123, .iastore, 1), (124, .iinc 7 (-1), 3), (127, .goto (-65), 3), (130, .aload_n 0, 1), (131, .getfield 7, 3), (134, .iload 7, 2), (136, .iload 5, 2), (138, .iastore, 1), (139, .aload_n 0, 1), (140, .getfield 13, 3), (143, .iload 7, 2), (145, .iload 6, 2), (147, .iastore, 1), (148, .iinc 4 1, 3), (151, .goto (-117), 3), (154, .iload_n 3, 1), (155, .iload_n 2, 1), (156, .isub, 1), (157, .ireturn, 1)]
set_option maxRecDepth 100000 in
theorem da_M_sort : (dl_M_sort.all fun q => decide (decode b_M_sort q.1 = .ok q.2)) = true := by decide +kernel
theorem d_M_sort_0 : decode b_M_sort 0 = .ok (.aload_n 0, 1) := dk da_M_sort 0 rfl
theorem d_M_sort_1 : decode b_M_sort 1 = .ok (.iconst 0, 1) := dk da_M_sort 1 rfl
theorem d_M_sort_2 : decode b_M_sort 2 = .ok (.putfield 16, 3) := dk da_M_sort 2 rfl
theorem d_M_sort_5 : decode b_M_sort 5 = .ok (.iload_n 1, 1) := dk da_M_sort 3 rfl
theorem d_M_sort_6 : decode b_M_sort 6 = .ok (.ifCond .lt 17, 3) := dk da_M_sort 4 rfl
theorem d_M_sort_9 : decode b_M_sort 9 = .ok (.iload_n 1, 1) := dk da_M_sort 5 rfl
theorem d_M_sort_10 : decode b_M_sort 10 = .ok (.iconst 3, 1) := dk da_M_sort 6 rfl
theorem d_M_sort_11 : decode b_M_sort 11 = .ok (.if_icmp .gt 12, 3) := dk da_M_sort 7 rfl
theorem d_M_sort_14 : decode b_M_sort 14 = .ok (.aload_n 0, 1) := dk da_M_sort 8 rfl
theorem d_M_sort_15 : decode b_M_sort 15 = .ok (.iload_n 2, 1) := dk da_M_sort 9 rfl
theorem d_M_sort_16 : decode b_M_sort 16 = .ok (.iload_n 3, 1) := dk da_M_sort 10 rfl
theorem d_M_sort_17 : decode b_M_sort 17 = .ok (.invokevirtual 34, 3) := dk da_M_sort 11 rfl
theorem d_M_sort_20 : decode b_M_sort 20 = .ok (.ifCond .eq 9, 3) := dk da_M_sort 12 rfl
theorem d_M_sort_23 : decode b_M_sort 23 = .ok (.aload_n 0, 1) := dk da_M_sort 13 rfl
theorem d_M_sort_24 : decode b_M_sort 24 = .ok (.iconst 1, 1) := dk da_M_sort 14 rfl
theorem d_M_sort_25 : decode b_M_sort 25 = .ok (.invokevirtual 24, 3) := dk da_M_sort 15 rfl
theorem d_M_sort_28 : decode b_M_sort 28 = .ok (.ireturn, 1) := dk da_M_sort 16 rfl
theorem d_M_sort_29 : decode b_M_sort 29 = .ok (.iload_n 2, 1) := dk da_M_sort 17 rfl
theorem d_M_sort_30 : decode b_M_sort 30 = .ok (.iconst 1, 1) := dk da_M_sort 18 rfl
theorem d_M_sort_31 : decode b_M_sort 31 = .ok (.iadd, 1) := dk da_M_sort 19 rfl
theorem d_M_sort_32 : decode b_M_sort 32 = .ok (.istore 4, 2) := dk da_M_sort 20 rfl
theorem d_M_sort_34 : decode b_M_sort 34 = .ok (.iload 4, 2) := dk da_M_sort 21 rfl
theorem d_M_sort_36 : decode b_M_sort 36 = .ok (.iload_n 3, 1) := dk da_M_sort 22 rfl
theorem d_M_sort_37 : decode b_M_sort 37 = .ok (.if_icmp .ge 117, 3) := dk da_M_sort 23 rfl
theorem d_M_sort_40 : decode b_M_sort 40 = .ok (.aload_n 0, 1) := dk da_M_sort 24 rfl
theorem d_M_sort_41 : decode b_M_sort 41 = .ok (.getfield 7, 3) := dk da_M_sort 25 rfl
theorem d_M_sort_44 : decode b_M_sort 44 = .ok (.iload 4, 2) := dk da_M_sort 26 rfl
theorem d_M_sort_46 : decode b_M_sort 46 = .ok (.iaload, 1) := dk da_M_sort 27 rfl
theorem d_M_sort_47 : decode b_M_sort 47 = .ok (.istore 5, 2) := dk da_M_sort 28 rfl
theorem d_M_sort_49 : decode b_M_sort 49 = .ok (.aload_n 0, 1) := dk da_M_sort 29 rfl
theorem d_M_sort_50 : decode b_M_sort 50 = .ok (.getfield 13, 3) := dk da_M_sort 30 rfl
theorem d_M_sort_53 : decode b_M_sort 53 = .ok (.iload 4, 2) := dk da_M_sort 31 rfl
theorem d_M_sort_55 : decode b_M_sort 55 = .ok (.iaload, 1) := dk da_M_sort 32 rfl
theorem d_M_sort_56 : decode b_M_sort 56 = .ok (.istore 6, 2) := dk da_M_sort 33 rfl
theorem d_M_sort_58 : decode b_M_sort 58 = .ok (.iload 4, 2) := dk da_M_sort 34 rfl
theorem d_M_sort_60 : decode b_M_sort 60 = .ok (.istore 7, 2) := dk da_M_sort 35 rfl
theorem d_M_sort_62 : decode b_M_sort 62 = .ok (.iload 7, 2) := dk da_M_sort 36 rfl
theorem d_M_sort_64 : decode b_M_sort 64 = .ok (.iload_n 2, 1) := dk da_M_sort 37 rfl
theorem d_M_sort_65 : decode b_M_sort 65 = .ok (.if_icmp .le 65, 3) := dk da_M_sort 38 rfl
theorem d_M_sort_68 : decode b_M_sort 68 = .ok (.aload_n 0, 1) := dk da_M_sort 39 rfl
theorem d_M_sort_69 : decode b_M_sort 69 = .ok (.iload_n 1, 1) := dk da_M_sort 40 rfl
theorem d_M_sort_70 : decode b_M_sort 70 = .ok (.aload_n 0, 1) := dk da_M_sort 41 rfl
theorem d_M_sort_71 : decode b_M_sort 71 = .ok (.getfield 7, 3) := dk da_M_sort 42 rfl
theorem d_M_sort_74 : decode b_M_sort 74 = .ok (.iload 7, 2) := dk da_M_sort 43 rfl
theorem d_M_sort_76 : decode b_M_sort 76 = .ok (.iconst 1, 1) := dk da_M_sort 44 rfl
theorem d_M_sort_77 : decode b_M_sort 77 = .ok (.isub, 1) := dk da_M_sort 45 rfl
theorem d_M_sort_78 : decode b_M_sort 78 = .ok (.iaload, 1) := dk da_M_sort 46 rfl
theorem d_M_sort_79 : decode b_M_sort 79 = .ok (.invokevirtual 38, 3) := dk da_M_sort 47 rfl
theorem d_M_sort_82 : decode b_M_sort 82 = .ok (.aload_n 0, 1) := dk da_M_sort 48 rfl
theorem d_M_sort_83 : decode b_M_sort 83 = .ok (.iload_n 1, 1) := dk da_M_sort 49 rfl
theorem d_M_sort_84 : decode b_M_sort 84 = .ok (.iload 5, 2) := dk da_M_sort 50 rfl
theorem d_M_sort_86 : decode b_M_sort 86 = .ok (.invokevirtual 38, 3) := dk da_M_sort 51 rfl
theorem d_M_sort_89 : decode b_M_sort 89 = .ok (.if_icmp .le 41, 3) := dk da_M_sort 52 rfl
theorem d_M_sort_92 : decode b_M_sort 92 = .ok (.aload_n 0, 1) := dk da_M_sort 53 rfl
theorem d_M_sort_93 : decode b_M_sort 93 = .ok (.getfield 7, 3) := dk da_M_sort 54 rfl
theorem d_M_sort_96 : decode b_M_sort 96 = .ok (.iload 7, 2) := dk da_M_sort 55 rfl
theorem d_M_sort_98 : decode b_M_sort 98 = .ok (.aload_n 0, 1) := dk da_M_sort 56 rfl
theorem d_M_sort_99 : decode b_M_sort 99 = .ok (.getfield 7, 3) := dk da_M_sort 57 rfl
theorem d_M_sort_102 : decode b_M_sort 102 = .ok (.iload 7, 2) := dk da_M_sort 58 rfl
theorem d_M_sort_104 : decode b_M_sort 104 = .ok (.iconst 1, 1) := dk da_M_sort 59 rfl
theorem d_M_sort_105 : decode b_M_sort 105 = .ok (.isub, 1) := dk da_M_sort 60 rfl
theorem d_M_sort_106 : decode b_M_sort 106 = .ok (.iaload, 1) := dk da_M_sort 61 rfl
theorem d_M_sort_107 : decode b_M_sort 107 = .ok (.iastore, 1) := dk da_M_sort 62 rfl
theorem d_M_sort_108 : decode b_M_sort 108 = .ok (.aload_n 0, 1) := dk da_M_sort 63 rfl
theorem d_M_sort_109 : decode b_M_sort 109 = .ok (.getfield 13, 3) := dk da_M_sort 64 rfl
theorem d_M_sort_112 : decode b_M_sort 112 = .ok (.iload 7, 2) := dk da_M_sort 65 rfl
theorem d_M_sort_114 : decode b_M_sort 114 = .ok (.aload_n 0, 1) := dk da_M_sort 66 rfl
theorem d_M_sort_115 : decode b_M_sort 115 = .ok (.getfield 13, 3) := dk da_M_sort 67 rfl
theorem d_M_sort_118 : decode b_M_sort 118 = .ok (.iload 7, 2) := dk da_M_sort 68 rfl
theorem d_M_sort_120 : decode b_M_sort 120 = .ok (.iconst 1, 1) := dk da_M_sort 69 rfl
theorem d_M_sort_121 : decode b_M_sort 121 = .ok (.isub, 1) := dk da_M_sort 70 rfl
theorem d_M_sort_122 : decode b_M_sort 122 = .ok (.iaload, 1) := dk da_M_sort 71 rfl
theorem d_M_sort_123 : decode b_M_sort 123 = .ok (.iastore, 1) := dk da_M_sort 72 rfl
theorem d_M_sort_124 : decode b_M_sort 124 = .ok (.iinc 7 (-1), 3) := dk da_M_sort 73 rfl
theorem d_M_sort_127 : decode b_M_sort 127 = .ok (.goto (-65), 3) := dk da_M_sort 74 rfl
theorem d_M_sort_130 : decode b_M_sort 130 = .ok (.aload_n 0, 1) := dk da_M_sort 75 rfl
theorem d_M_sort_131 : decode b_M_sort 131 = .ok (.getfield 7, 3) := dk da_M_sort 76 rfl
theorem d_M_sort_134 : decode b_M_sort 134 = .ok (.iload 7, 2) := dk da_M_sort 77 rfl
theorem d_M_sort_136 : decode b_M_sort 136 = .ok (.iload 5, 2) := dk da_M_sort 78 rfl
theorem d_M_sort_138 : decode b_M_sort 138 = .ok (.iastore, 1) := dk da_M_sort 79 rfl
theorem d_M_sort_139 : decode b_M_sort 139 = .ok (.aload_n 0, 1) := dk da_M_sort 80 rfl
theorem d_M_sort_140 : decode b_M_sort 140 = .ok (.getfield 13, 3) := dk da_M_sort 81 rfl
theorem d_M_sort_143 : decode b_M_sort 143 = .ok (.iload 7, 2) := dk da_M_sort 82 rfl
theorem d_M_sort_145 : decode b_M_sort 145 = .ok (.iload 6, 2) := dk da_M_sort 83 rfl
theorem d_M_sort_147 : decode b_M_sort 147 = .ok (.iastore, 1) := dk da_M_sort 84 rfl
theorem d_M_sort_148 : decode b_M_sort 148 = .ok (.iinc 4 1, 3) := dk da_M_sort 85 rfl
theorem d_M_sort_151 : decode b_M_sort 151 = .ok (.goto (-117), 3) := dk da_M_sort 86 rfl
theorem d_M_sort_154 : decode b_M_sort 154 = .ok (.iload_n 3, 1) := dk da_M_sort 87 rfl
theorem d_M_sort_155 : decode b_M_sort 155 = .ok (.iload_n 2, 1) := dk da_M_sort 88 rfl
theorem d_M_sort_156 : decode b_M_sort 156 = .ok (.isub, 1) := dk da_M_sort 89 rfl
theorem d_M_sort_157 : decode b_M_sort 157 = .ok (.ireturn, 1) := dk da_M_sort 90 rfl
def dl_M_get : List (Nat × Instr × Nat) := [(0, .aload_n 0, 1), (1, .iconst 0, 1), (2, .putfield 16, 3), (5, .iload_n 1, 1), (6, .ifCond .lt 11, 3), (9, .iload_n 1, 1), (10, .aload_n 0, 1), (11, .getfield 21, 3), (14, .if_icmp .lt 11, 3), (17, .aload_n 0, 1), (18, .iconst 1, 1), (19, .invokevirtual 24, 3), (22, .goto 9, 3), (25, .aload_n 0, 1), (26, .getfield 7, 3), (29, .iload_n 1, 1), (30, .iaload, 1), (31, .ireturn, 1)]
set_option maxRecDepth 100000 in
theorem da_M_get : (dl_M_get.all fun q => decide (decode b_M_get q.1 = .ok q.2)) = true := by decide +kernel
theorem d_M_get_0 : decode b_M_get 0 = .ok (.aload_n 0, 1) := dk da_M_get 0 rfl
theorem d_M_get_1 : decode b_M_get 1 = .ok (.iconst 0, 1) := dk da_M_get 1 rfl
theorem d_M_get_2 : decode b_M_get 2 = .ok (.putfield 16, 3) := dk da_M_get 2 rfl
theorem d_M_get_5 : decode b_M_get 5 = .ok (.iload_n 1, 1) := dk da_M_get 3 rfl
theorem d_M_get_6 : decode b_M_get 6 = .ok (.ifCond .lt 11, 3) := dk da_M_get 4 rfl
theorem d_M_get_9 : decode b_M_get 9 = .ok (.iload_n 1, 1) := dk da_M_get 5 rfl
theorem d_M_get_10 : decode b_M_get 10 = .ok (.aload_n 0, 1) := dk da_M_get 6 rfl
theorem d_M_get_11 : decode b_M_get 11 = .ok (.getfield 21, 3) := dk da_M_get 7 rfl
theorem d_M_get_14 : decode b_M_get 14 = .ok (.if_icmp .lt 11, 3) := dk da_M_get 8 rfl
theorem d_M_get_17 : decode b_M_get 17 = .ok (.aload_n 0, 1) := dk da_M_get 9 rfl
theorem d_M_get_18 : decode b_M_get 18 = .ok (.iconst 1, 1) := dk da_M_get 10 rfl
theorem d_M_get_19 : decode b_M_get 19 = .ok (.invokevirtual 24, 3) := dk da_M_get 11 rfl
theorem d_M_get_22 : decode b_M_get 22 = .ok (.goto 9, 3) := dk da_M_get 12 rfl
theorem d_M_get_25 : decode b_M_get 25 = .ok (.aload_n 0, 1) := dk da_M_get 13 rfl
theorem d_M_get_26 : decode b_M_get 26 = .ok (.getfield 7, 3) := dk da_M_get 14 rfl
theorem d_M_get_29 : decode b_M_get 29 = .ok (.iload_n 1, 1) := dk da_M_get 15 rfl
theorem d_M_get_30 : decode b_M_get 30 = .ok (.iaload, 1) := dk da_M_get 16 rfl
theorem d_M_get_31 : decode b_M_get 31 = .ok (.ireturn, 1) := dk da_M_get 17 rfl
def dl_M_tag : List (Nat × Instr × Nat) := [(0, .aload_n 0, 1), (1, .iconst 0, 1), (2, .putfield 16, 3), (5, .iload_n 1, 1), (6, .ifCond .lt 11, 3), (9, .iload_n 1, 1), (10, .aload_n 0, 1), (11, .getfield 21, 3), (14, .if_icmp .lt 11, 3), (17, .aload_n 0, 1), (18, .iconst 1, 1), (19, .invokevirtual 24, 3), (22, .goto 9, 3), (25, .aload_n 0, 1), (26, .getfield 13, 3), (29, .iload_n 1, 1), (30, .iaload, 1), (31, .ireturn, 1)]
set_option maxRecDepth 100000 in
theorem da_M_tag : (dl_M_tag.all fun q => decide (decode b_M_tag q.1 = .ok q.2)) = true := by decide +kernel
theorem d_M_tag_0 : decode b_M_tag 0 = .ok (.aload_n 0, 1) := dk da_M_tag 0 rfl
theorem d_M_tag_1 : decode b_M_tag 1 = .ok (.iconst 0, 1) := dk da_M_tag 1 rfl
theorem d_M_tag_2 : decode b_M_tag 2 = .ok (.putfield 16, 3) := dk da_M_tag 2 rfl
theorem d_M_tag_5 : decode b_M_tag 5 = .ok (.iload_n 1, 1) := dk da_M_tag 3 rfl
theorem d_M_tag_6 : decode b_M_tag 6 = .ok (.ifCond .lt 11, 3) := dk da_M_tag 4 rfl
theorem d_M_tag_9 : decode b_M_tag 9 = .ok (.iload_n 1, 1) := dk da_M_tag 5 rfl
theorem d_M_tag_10 : decode b_M_tag 10 = .ok (.aload_n 0, 1) := dk da_M_tag 6 rfl
theorem d_M_tag_11 : decode b_M_tag 11 = .ok (.getfield 21, 3) := dk da_M_tag 7 rfl
theorem d_M_tag_14 : decode b_M_tag 14 = .ok (.if_icmp .lt 11, 3) := dk da_M_tag 8 rfl
theorem d_M_tag_17 : decode b_M_tag 17 = .ok (.aload_n 0, 1) := dk da_M_tag 9 rfl
theorem d_M_tag_18 : decode b_M_tag 18 = .ok (.iconst 1, 1) := dk da_M_tag 10 rfl
theorem d_M_tag_19 : decode b_M_tag 19 = .ok (.invokevirtual 24, 3) := dk da_M_tag 11 rfl
theorem d_M_tag_22 : decode b_M_tag 22 = .ok (.goto 9, 3) := dk da_M_tag 12 rfl
theorem d_M_tag_25 : decode b_M_tag 25 = .ok (.aload_n 0, 1) := dk da_M_tag 13 rfl
theorem d_M_tag_26 : decode b_M_tag 26 = .ok (.getfield 13, 3) := dk da_M_tag 14 rfl
theorem d_M_tag_29 : decode b_M_tag 29 = .ok (.iload_n 1, 1) := dk da_M_tag 15 rfl
theorem d_M_tag_30 : decode b_M_tag 30 = .ok (.iaload, 1) := dk da_M_tag 16 rfl
theorem d_M_tag_31 : decode b_M_tag 31 = .ok (.ireturn, 1) := dk da_M_tag 17 rfl
def dl_M_set : List (Nat × Instr × Nat) := [(0, .aload_n 0, 1), (1, .iconst 0, 1), (2, .putfield 16, 3), (5, .iload_n 1, 1), (6, .ifCond .lt 11, 3), (9, .iload_n 1, 1), (10, .aload_n 0, 1), (11, .getfield 21, 3), (14, .if_icmp .lt 9, 3), (17, .aload_n 0, 1), (18, .iconst 1, 1), (19, .invokevirtual 24, 3), (22, .ireturn, 1), (23, .aload_n 0, 1), (24, .getfield 7, 3), (27, .iload_n 1, 1), (28, .iaload, 1), (29, .istore_n 3, 1), (30, .aload_n 0, 1), (31, .getfield 7, 3), (34, .iload_n 1, 1), (35, .iload_n 2, 1), (36, .iastore, 1), (37, .iload_n 3, 1), (38, .ireturn, 1)]
set_option maxRecDepth 100000 in
theorem da_M_set : (dl_M_set.all fun q => decide (decode b_M_set q.1 = .ok q.2)) = true := by decide +kernel
theorem d_M_set_0 : decode b_M_set 0 = .ok (.aload_n 0, 1) := dk da_M_set 0 rfl
theorem d_M_set_1 : decode b_M_set 1 = .ok (.iconst 0, 1) := dk da_M_set 1 rfl
theorem d_M_set_2 : decode b_M_set 2 = .ok (.putfield 16, 3) := dk da_M_set 2 rfl
theorem d_M_set_5 : decode b_M_set 5 = .ok (.iload_n 1, 1) := dk da_M_set 3 rfl
theorem d_M_set_6 : decode b_M_set 6 = .ok (.ifCond .lt 11, 3) := dk da_M_set 4 rfl
theorem d_M_set_9 : decode b_M_set 9 = .ok (.iload_n 1, 1) := dk da_M_set 5 rfl
theorem d_M_set_10 : decode b_M_set 10 = .ok (.aload_n 0, 1) := dk da_M_set 6 rfl
theorem d_M_set_11 : decode b_M_set 11 = .ok (.getfield 21, 3) := dk da_M_set 7 rfl
theorem d_M_set_14 : decode b_M_set 14 = .ok (.if_icmp .lt 9, 3) := dk da_M_set 8 rfl
theorem d_M_set_17 : decode b_M_set 17 = .ok (.aload_n 0, 1) := dk da_M_set 9 rfl
theorem d_M_set_18 : decode b_M_set 18 = .ok (.iconst 1, 1) := dk da_M_set 10 rfl
theorem d_M_set_19 : decode b_M_set 19 = .ok (.invokevirtual 24, 3) := dk da_M_set 11 rfl
theorem d_M_set_22 : decode b_M_set 22 = .ok (.ireturn, 1) := dk da_M_set 12 rfl
theorem d_M_set_23 : decode b_M_set 23 = .ok (.aload_n 0, 1) := dk da_M_set 13 rfl
theorem d_M_set_24 : decode b_M_set 24 = .ok (.getfield 7, 3) := dk da_M_set 14 rfl
theorem d_M_set_27 : decode b_M_set 27 = .ok (.iload_n 1, 1) := dk da_M_set 15 rfl
theorem d_M_set_28 : decode b_M_set 28 = .ok (.iaload, 1) := dk da_M_set 16 rfl
theorem d_M_set_29 : decode b_M_set 29 = .ok (.istore_n 3, 1) := dk da_M_set 17 rfl
theorem d_M_set_30 : decode b_M_set 30 = .ok (.aload_n 0, 1) := dk da_M_set 18 rfl
theorem d_M_set_31 : decode b_M_set 31 = .ok (.getfield 7, 3) := dk da_M_set 19 rfl
theorem d_M_set_34 : decode b_M_set 34 = .ok (.iload_n 1, 1) := dk da_M_set 20 rfl
theorem d_M_set_35 : decode b_M_set 35 = .ok (.iload_n 2, 1) := dk da_M_set 21 rfl
theorem d_M_set_36 : decode b_M_set 36 = .ok (.iastore, 1) := dk da_M_set 22 rfl
theorem d_M_set_37 : decode b_M_set 37 = .ok (.iload_n 3, 1) := dk da_M_set 23 rfl
theorem d_M_set_38 : decode b_M_set 38 = .ok (.ireturn, 1) := dk da_M_set 24 rfl
def dl_M_turn : List (Nat × Instr × Nat) := [(0, .aload_n 0, 1), (1, .iconst 0, 1), (2, .putfield 16, 3), (5, .aload_n 0, 1), (6, .iload_n 1, 1), (7, .iload_n 2, 1), (8, .invokevirtual 34, 3), (11, .ifCond .eq 9, 3), (14, .aload_n 0, 1), (15, .iconst 1, 1), (16, .invokevirtual 24, 3), (19, .ireturn, 1), (20, .iload_n 1, 1), (21, .istore_n 3, 1), (22, .iload_n 2, 1), (23, .iconst 1, 1), (24, .isub, 1), (25, .istore 4, 2), (27, .iload_n 3, 1), (28, .iload 4, 2), (30, .if_icmp .ge 72, 3), (33, .aload_n 0, 1), (34, .getfield 7, 3), (37, .iload_n 3, 1), (38, .iaload, 1), (39, .istore 5, 2), (41, .aload_n 0, 1), (42, .getfield 13, 3), (45, .iload_n 3, 1), (46, .iaload, 1), (47, .istore 6, 2), (49, .aload_n 0, 1), (50, .getfield 7, 3), (53, .iload_n 3, 1), (54, .aload_n 0, 1), (55, .getfield 7, 3), (58, .iload 4, 2), (60, .iaload, 1), (61, .iastore, 1), (62, .aload_n 0, 1), (63, .getfield 13, 3), (66, .iload_n 3, 1), (67, .aload_n 0, 1), (68, .getfield 13, 3), (71, .iload 4, 2), (73, .iaload, 1), (74, .iastore, 1), (75, .aload_n 0, 1), (76, .getfield 7, 3), (79, .iload 4, 2), (81, .iload 5, 2), (83, .iastore, 1), (84, .aload_n 0, 1), (85, .getfield 13, 3), (88, .iload 4, 2), (90, .iload 6, 2), (92, .iastore, 1), (93, .iinc 4 (-1), 3), (96, .iinc 3 1, 3), (99, .goto (-72), 3), (102, .iload_n 2, 1), (103, .iload_n 1, 1), (104, .isub, 1), (105, .ireturn, 1)]
set_option maxRecDepth 100000 in
theorem da_M_turn : (dl_M_turn.all fun q => decide (decode b_M_turn q.1 = .ok q.2)) = true := by decide +kernel
theorem d_M_turn_0 : decode b_M_turn 0 = .ok (.aload_n 0, 1) := dk da_M_turn 0 rfl
theorem d_M_turn_1 : decode b_M_turn 1 = .ok (.iconst 0, 1) := dk da_M_turn 1 rfl
theorem d_M_turn_2 : decode b_M_turn 2 = .ok (.putfield 16, 3) := dk da_M_turn 2 rfl
theorem d_M_turn_5 : decode b_M_turn 5 = .ok (.aload_n 0, 1) := dk da_M_turn 3 rfl
theorem d_M_turn_6 : decode b_M_turn 6 = .ok (.iload_n 1, 1) := dk da_M_turn 4 rfl
theorem d_M_turn_7 : decode b_M_turn 7 = .ok (.iload_n 2, 1) := dk da_M_turn 5 rfl
theorem d_M_turn_8 : decode b_M_turn 8 = .ok (.invokevirtual 34, 3) := dk da_M_turn 6 rfl
theorem d_M_turn_11 : decode b_M_turn 11 = .ok (.ifCond .eq 9, 3) := dk da_M_turn 7 rfl
theorem d_M_turn_14 : decode b_M_turn 14 = .ok (.aload_n 0, 1) := dk da_M_turn 8 rfl
theorem d_M_turn_15 : decode b_M_turn 15 = .ok (.iconst 1, 1) := dk da_M_turn 9 rfl
theorem d_M_turn_16 : decode b_M_turn 16 = .ok (.invokevirtual 24, 3) := dk da_M_turn 10 rfl
theorem d_M_turn_19 : decode b_M_turn 19 = .ok (.ireturn, 1) := dk da_M_turn 11 rfl
theorem d_M_turn_20 : decode b_M_turn 20 = .ok (.iload_n 1, 1) := dk da_M_turn 12 rfl
theorem d_M_turn_21 : decode b_M_turn 21 = .ok (.istore_n 3, 1) := dk da_M_turn 13 rfl
theorem d_M_turn_22 : decode b_M_turn 22 = .ok (.iload_n 2, 1) := dk da_M_turn 14 rfl
theorem d_M_turn_23 : decode b_M_turn 23 = .ok (.iconst 1, 1) := dk da_M_turn 15 rfl
theorem d_M_turn_24 : decode b_M_turn 24 = .ok (.isub, 1) := dk da_M_turn 16 rfl
theorem d_M_turn_25 : decode b_M_turn 25 = .ok (.istore 4, 2) := dk da_M_turn 17 rfl
theorem d_M_turn_27 : decode b_M_turn 27 = .ok (.iload_n 3, 1) := dk da_M_turn 18 rfl
theorem d_M_turn_28 : decode b_M_turn 28 = .ok (.iload 4, 2) := dk da_M_turn 19 rfl
theorem d_M_turn_30 : decode b_M_turn 30 = .ok (.if_icmp .ge 72, 3) := dk da_M_turn 20 rfl
theorem d_M_turn_33 : decode b_M_turn 33 = .ok (.aload_n 0, 1) := dk da_M_turn 21 rfl
theorem d_M_turn_34 : decode b_M_turn 34 = .ok (.getfield 7, 3) := dk da_M_turn 22 rfl
theorem d_M_turn_37 : decode b_M_turn 37 = .ok (.iload_n 3, 1) := dk da_M_turn 23 rfl
theorem d_M_turn_38 : decode b_M_turn 38 = .ok (.iaload, 1) := dk da_M_turn 24 rfl
theorem d_M_turn_39 : decode b_M_turn 39 = .ok (.istore 5, 2) := dk da_M_turn 25 rfl
theorem d_M_turn_41 : decode b_M_turn 41 = .ok (.aload_n 0, 1) := dk da_M_turn 26 rfl
theorem d_M_turn_42 : decode b_M_turn 42 = .ok (.getfield 13, 3) := dk da_M_turn 27 rfl
theorem d_M_turn_45 : decode b_M_turn 45 = .ok (.iload_n 3, 1) := dk da_M_turn 28 rfl
theorem d_M_turn_46 : decode b_M_turn 46 = .ok (.iaload, 1) := dk da_M_turn 29 rfl
theorem d_M_turn_47 : decode b_M_turn 47 = .ok (.istore 6, 2) := dk da_M_turn 30 rfl
theorem d_M_turn_49 : decode b_M_turn 49 = .ok (.aload_n 0, 1) := dk da_M_turn 31 rfl
theorem d_M_turn_50 : decode b_M_turn 50 = .ok (.getfield 7, 3) := dk da_M_turn 32 rfl
theorem d_M_turn_53 : decode b_M_turn 53 = .ok (.iload_n 3, 1) := dk da_M_turn 33 rfl
theorem d_M_turn_54 : decode b_M_turn 54 = .ok (.aload_n 0, 1) := dk da_M_turn 34 rfl
theorem d_M_turn_55 : decode b_M_turn 55 = .ok (.getfield 7, 3) := dk da_M_turn 35 rfl
theorem d_M_turn_58 : decode b_M_turn 58 = .ok (.iload 4, 2) := dk da_M_turn 36 rfl
theorem d_M_turn_60 : decode b_M_turn 60 = .ok (.iaload, 1) := dk da_M_turn 37 rfl
theorem d_M_turn_61 : decode b_M_turn 61 = .ok (.iastore, 1) := dk da_M_turn 38 rfl
theorem d_M_turn_62 : decode b_M_turn 62 = .ok (.aload_n 0, 1) := dk da_M_turn 39 rfl
theorem d_M_turn_63 : decode b_M_turn 63 = .ok (.getfield 13, 3) := dk da_M_turn 40 rfl
theorem d_M_turn_66 : decode b_M_turn 66 = .ok (.iload_n 3, 1) := dk da_M_turn 41 rfl
theorem d_M_turn_67 : decode b_M_turn 67 = .ok (.aload_n 0, 1) := dk da_M_turn 42 rfl
theorem d_M_turn_68 : decode b_M_turn 68 = .ok (.getfield 13, 3) := dk da_M_turn 43 rfl
theorem d_M_turn_71 : decode b_M_turn 71 = .ok (.iload 4, 2) := dk da_M_turn 44 rfl
theorem d_M_turn_73 : decode b_M_turn 73 = .ok (.iaload, 1) := dk da_M_turn 45 rfl
theorem d_M_turn_74 : decode b_M_turn 74 = .ok (.iastore, 1) := dk da_M_turn 46 rfl
theorem d_M_turn_75 : decode b_M_turn 75 = .ok (.aload_n 0, 1) := dk da_M_turn 47 rfl
theorem d_M_turn_76 : decode b_M_turn 76 = .ok (.getfield 7, 3) := dk da_M_turn 48 rfl
theorem d_M_turn_79 : decode b_M_turn 79 = .ok (.iload 4, 2) := dk da_M_turn 49 rfl
theorem d_M_turn_81 : decode b_M_turn 81 = .ok (.iload 5, 2) := dk da_M_turn 50 rfl
theorem d_M_turn_83 : decode b_M_turn 83 = .ok (.iastore, 1) := dk da_M_turn 51 rfl
theorem d_M_turn_84 : decode b_M_turn 84 = .ok (.aload_n 0, 1) := dk da_M_turn 52 rfl
theorem d_M_turn_85 : decode b_M_turn 85 = .ok (.getfield 13, 3) := dk da_M_turn 53 rfl
theorem d_M_turn_88 : decode b_M_turn 88 = .ok (.iload 4, 2) := dk da_M_turn 54 rfl
theorem d_M_turn_90 : decode b_M_turn 90 = .ok (.iload 6, 2) := dk da_M_turn 55 rfl
theorem d_M_turn_92 : decode b_M_turn 92 = .ok (.iastore, 1) := dk da_M_turn 56 rfl
theorem d_M_turn_93 : decode b_M_turn 93 = .ok (.iinc 4 (-1), 3) := dk da_M_turn 57 rfl
theorem d_M_turn_96 : decode b_M_turn 96 = .ok (.iinc 3 1, 3) := dk da_M_turn 58 rfl
theorem d_M_turn_99 : decode b_M_turn 99 = .ok (.goto (-72), 3) := dk da_M_turn 59 rfl
theorem d_M_turn_102 : decode b_M_turn 102 = .ok (.iload_n 2, 1) := dk da_M_turn 60 rfl
theorem d_M_turn_103 : decode b_M_turn 103 = .ok (.iload_n 1, 1) := dk da_M_turn 61 rfl
theorem d_M_turn_104 : decode b_M_turn 104 = .ok (.isub, 1) := dk da_M_turn 62 rfl
theorem d_M_turn_105 : decode b_M_turn 105 = .ok (.ireturn, 1) := dk da_M_turn 63 rfl
def dl_M_upTo : List (Nat × Instr × Nat) := [(0, .aload_n 0, 1), (1, .iconst 0, 1), (2, .putfield 16, 3), (5, .iload_n 1, 1), (6, .ifCond .lt 8, 3), (9, .iload_n 1, 1), (10, .iconst 3, 1), (11, .if_icmp .le 9, 3), (14, .aload_n 0, 1), (15, .iconst 1, 1), (16, .invokevirtual 24, 3), (19, .ireturn, 1), (20, .iconst 0, 1), (21, .istore 4, 2), (23, .iload 4, 2), (25, .aload_n 0, 1), (26, .getfield 21, 3), (29, .if_icmp .ge 58, 3), (32, .iload_n 3, 1), (33, .ifCond .eq 27, 3), (36, .aload_n 0, 1), (37, .iload_n 1, 1), (38, .aload_n 0, 1), (39, .getfield 7, 3), (42, .iload 4, 2), (44, .iaload, 1), (45, .invokevirtual 38, 3), (48, .aload_n 0, 1), (49, .iload_n 1, 1), (50, .iload_n 2, 1), (51, .invokevirtual 38, 3), (54, .if_icmp .gt 33, 3), (57, .goto 24, 3), (60, .aload_n 0, 1), (61, .iload_n 1, 1), (62, .aload_n 0, 1), (63, .getfield 7, 3), (66, .iload 4, 2), (68, .iaload, 1), (69, .invokevirtual 38, 3), (72, .aload_n 0, 1), (73, .iload_n 1, 1), (74, .iload_n 2, 1), (75, .invokevirtual 38, 3), (78, .if_icmp .ge 9, 3), (81, .iinc 4 1, 3), (84, .goto (-61), 3), (87, .iload 4, 2), (89, .ireturn, 1)]
set_option maxRecDepth 100000 in
theorem da_M_upTo : (dl_M_upTo.all fun q => decide (decode b_M_upTo q.1 = .ok q.2)) = true := by decide +kernel
theorem d_M_upTo_0 : decode b_M_upTo 0 = .ok (.aload_n 0, 1) := dk da_M_upTo 0 rfl
theorem d_M_upTo_1 : decode b_M_upTo 1 = .ok (.iconst 0, 1) := dk da_M_upTo 1 rfl
theorem d_M_upTo_2 : decode b_M_upTo 2 = .ok (.putfield 16, 3) := dk da_M_upTo 2 rfl
theorem d_M_upTo_5 : decode b_M_upTo 5 = .ok (.iload_n 1, 1) := dk da_M_upTo 3 rfl
theorem d_M_upTo_6 : decode b_M_upTo 6 = .ok (.ifCond .lt 8, 3) := dk da_M_upTo 4 rfl
theorem d_M_upTo_9 : decode b_M_upTo 9 = .ok (.iload_n 1, 1) := dk da_M_upTo 5 rfl
theorem d_M_upTo_10 : decode b_M_upTo 10 = .ok (.iconst 3, 1) := dk da_M_upTo 6 rfl
theorem d_M_upTo_11 : decode b_M_upTo 11 = .ok (.if_icmp .le 9, 3) := dk da_M_upTo 7 rfl
theorem d_M_upTo_14 : decode b_M_upTo 14 = .ok (.aload_n 0, 1) := dk da_M_upTo 8 rfl
theorem d_M_upTo_15 : decode b_M_upTo 15 = .ok (.iconst 1, 1) := dk da_M_upTo 9 rfl
theorem d_M_upTo_16 : decode b_M_upTo 16 = .ok (.invokevirtual 24, 3) := dk da_M_upTo 10 rfl
theorem d_M_upTo_19 : decode b_M_upTo 19 = .ok (.ireturn, 1) := dk da_M_upTo 11 rfl
theorem d_M_upTo_20 : decode b_M_upTo 20 = .ok (.iconst 0, 1) := dk da_M_upTo 12 rfl
theorem d_M_upTo_21 : decode b_M_upTo 21 = .ok (.istore 4, 2) := dk da_M_upTo 13 rfl
theorem d_M_upTo_23 : decode b_M_upTo 23 = .ok (.iload 4, 2) := dk da_M_upTo 14 rfl
theorem d_M_upTo_25 : decode b_M_upTo 25 = .ok (.aload_n 0, 1) := dk da_M_upTo 15 rfl
theorem d_M_upTo_26 : decode b_M_upTo 26 = .ok (.getfield 21, 3) := dk da_M_upTo 16 rfl
theorem d_M_upTo_29 : decode b_M_upTo 29 = .ok (.if_icmp .ge 58, 3) := dk da_M_upTo 17 rfl
theorem d_M_upTo_32 : decode b_M_upTo 32 = .ok (.iload_n 3, 1) := dk da_M_upTo 18 rfl
theorem d_M_upTo_33 : decode b_M_upTo 33 = .ok (.ifCond .eq 27, 3) := dk da_M_upTo 19 rfl
theorem d_M_upTo_36 : decode b_M_upTo 36 = .ok (.aload_n 0, 1) := dk da_M_upTo 20 rfl
theorem d_M_upTo_37 : decode b_M_upTo 37 = .ok (.iload_n 1, 1) := dk da_M_upTo 21 rfl
theorem d_M_upTo_38 : decode b_M_upTo 38 = .ok (.aload_n 0, 1) := dk da_M_upTo 22 rfl
theorem d_M_upTo_39 : decode b_M_upTo 39 = .ok (.getfield 7, 3) := dk da_M_upTo 23 rfl
theorem d_M_upTo_42 : decode b_M_upTo 42 = .ok (.iload 4, 2) := dk da_M_upTo 24 rfl
theorem d_M_upTo_44 : decode b_M_upTo 44 = .ok (.iaload, 1) := dk da_M_upTo 25 rfl
theorem d_M_upTo_45 : decode b_M_upTo 45 = .ok (.invokevirtual 38, 3) := dk da_M_upTo 26 rfl
theorem d_M_upTo_48 : decode b_M_upTo 48 = .ok (.aload_n 0, 1) := dk da_M_upTo 27 rfl
theorem d_M_upTo_49 : decode b_M_upTo 49 = .ok (.iload_n 1, 1) := dk da_M_upTo 28 rfl
theorem d_M_upTo_50 : decode b_M_upTo 50 = .ok (.iload_n 2, 1) := dk da_M_upTo 29 rfl
theorem d_M_upTo_51 : decode b_M_upTo 51 = .ok (.invokevirtual 38, 3) := dk da_M_upTo 30 rfl
theorem d_M_upTo_54 : decode b_M_upTo 54 = .ok (.if_icmp .gt 33, 3) := dk da_M_upTo 31 rfl
theorem d_M_upTo_57 : decode b_M_upTo 57 = .ok (.goto 24, 3) := dk da_M_upTo 32 rfl
theorem d_M_upTo_60 : decode b_M_upTo 60 = .ok (.aload_n 0, 1) := dk da_M_upTo 33 rfl
theorem d_M_upTo_61 : decode b_M_upTo 61 = .ok (.iload_n 1, 1) := dk da_M_upTo 34 rfl
theorem d_M_upTo_62 : decode b_M_upTo 62 = .ok (.aload_n 0, 1) := dk da_M_upTo 35 rfl
theorem d_M_upTo_63 : decode b_M_upTo 63 = .ok (.getfield 7, 3) := dk da_M_upTo 36 rfl
theorem d_M_upTo_66 : decode b_M_upTo 66 = .ok (.iload 4, 2) := dk da_M_upTo 37 rfl
theorem d_M_upTo_68 : decode b_M_upTo 68 = .ok (.iaload, 1) := dk da_M_upTo 38 rfl
theorem d_M_upTo_69 : decode b_M_upTo 69 = .ok (.invokevirtual 38, 3) := dk da_M_upTo 39 rfl
theorem d_M_upTo_72 : decode b_M_upTo 72 = .ok (.aload_n 0, 1) := dk da_M_upTo 40 rfl
theorem d_M_upTo_73 : decode b_M_upTo 73 = .ok (.iload_n 1, 1) := dk da_M_upTo 41 rfl
theorem d_M_upTo_74 : decode b_M_upTo 74 = .ok (.iload_n 2, 1) := dk da_M_upTo 42 rfl
theorem d_M_upTo_75 : decode b_M_upTo 75 = .ok (.invokevirtual 38, 3) := dk da_M_upTo 43 rfl
theorem d_M_upTo_78 : decode b_M_upTo 78 = .ok (.if_icmp .ge 9, 3) := dk da_M_upTo 44 rfl
theorem d_M_upTo_81 : decode b_M_upTo 81 = .ok (.iinc 4 1, 3) := dk da_M_upTo 45 rfl
theorem d_M_upTo_84 : decode b_M_upTo 84 = .ok (.goto (-61), 3) := dk da_M_upTo 46 rfl
theorem d_M_upTo_87 : decode b_M_upTo 87 = .ok (.iload 4, 2) := dk da_M_upTo 47 rfl
theorem d_M_upTo_89 : decode b_M_upTo 89 = .ok (.ireturn, 1) := dk da_M_upTo 48 rfl
def dl_M_clear : List (Nat × Instr × Nat) := [(0, .aload_n 0, 1), (1, .iconst 0, 1), (2, .putfield 16, 3), (5, .aload_n 0, 1), (6, .getfield 21, 3), (9, .istore_n 1, 1), (10, .aload_n 0, 1), (11, .iconst 0, 1), (12, .putfield 21, 3), (15, .iload_n 1, 1), (16, .ireturn, 1)]
set_option maxRecDepth 100000 in
theorem da_M_clear : (dl_M_clear.all fun q => decide (decode b_M_clear q.1 = .ok q.2)) = true := by decide +kernel
theorem d_M_clear_0 : decode b_M_clear 0 = .ok (.aload_n 0, 1) := dk da_M_clear 0 rfl
theorem d_M_clear_1 : decode b_M_clear 1 = .ok (.iconst 0, 1) := dk da_M_clear 1 rfl
theorem d_M_clear_2 : decode b_M_clear 2 = .ok (.putfield 16, 3) := dk da_M_clear 2 rfl
theorem d_M_clear_5 : decode b_M_clear 5 = .ok (.aload_n 0, 1) := dk da_M_clear 3 rfl
theorem d_M_clear_6 : decode b_M_clear 6 = .ok (.getfield 21, 3) := dk da_M_clear 4 rfl
theorem d_M_clear_9 : decode b_M_clear 9 = .ok (.istore_n 1, 1) := dk da_M_clear 5 rfl
theorem d_M_clear_10 : decode b_M_clear 10 = .ok (.aload_n 0, 1) := dk da_M_clear 6 rfl
theorem d_M_clear_11 : decode b_M_clear 11 = .ok (.iconst 0, 1) := dk da_M_clear 7 rfl
theorem d_M_clear_12 : decode b_M_clear 12 = .ok (.putfield 21, 3) := dk da_M_clear 8 rfl
theorem d_M_clear_15 : decode b_M_clear 15 = .ok (.iload_n 1, 1) := dk da_M_clear 9 rfl
theorem d_M_clear_16 : decode b_M_clear 16 = .ok (.ireturn, 1) := dk da_M_clear 10 rfl
def dl_M_hash : List (Nat × Instr × Nat) := [(0, .aload_n 0, 1), (1, .iconst 0, 1), (2, .putfield 16, 3), (5, .iconst 1, 1), (6, .istore_n 1, 1), (7, .iconst 0, 1), (8, .istore_n 2, 1), (9, .iload_n 2, 1), (10, .aload_n 0, 1), (11, .getfield 21, 3), (14, .if_icmp .ge 31, 3), (17, .bipush 31, 2), (19, .bipush 31, 2), (21, .iload_n 1, 1), (22, .imul, 1), (23, .aload_n 0, 1), (24, .getfield 7, 3), (27, .iload_n 2, 1), (28, .iaload, 1), (29, .iadd, 1), (30, .imul, 1), (31, .aload_n 0, 1), (32, .getfield 13, 3), (35, .iload_n 2, 1), (36, .iaload, 1), (37, .iadd, 1), (38, .istore_n 1, 1), (39, .iinc 2 1, 3), (42, .goto (-33), 3), (45, .iload_n 1, 1), (46, .ireturn, 1)]
set_option maxRecDepth 100000 in
theorem da_M_hash : (dl_M_hash.all fun q => decide (decode b_M_hash q.1 = .ok q.2)) = true := by decide +kernel
theorem d_M_hash_0 : decode b_M_hash 0 = .ok (.aload_n 0, 1) := dk da_M_hash 0 rfl
theorem d_M_hash_1 : decode b_M_hash 1 = .ok (.iconst 0, 1) := dk da_M_hash 1 rfl
theorem d_M_hash_2 : decode b_M_hash 2 = .ok (.putfield 16, 3) := dk da_M_hash 2 rfl
theorem d_M_hash_5 : decode b_M_hash 5 = .ok (.iconst 1, 1) := dk da_M_hash 3 rfl
theorem d_M_hash_6 : decode b_M_hash 6 = .ok (.istore_n 1, 1) := dk da_M_hash 4 rfl
theorem d_M_hash_7 : decode b_M_hash 7 = .ok (.iconst 0, 1) := dk da_M_hash 5 rfl
theorem d_M_hash_8 : decode b_M_hash 8 = .ok (.istore_n 2, 1) := dk da_M_hash 6 rfl
theorem d_M_hash_9 : decode b_M_hash 9 = .ok (.iload_n 2, 1) := dk da_M_hash 7 rfl
theorem d_M_hash_10 : decode b_M_hash 10 = .ok (.aload_n 0, 1) := dk da_M_hash 8 rfl
theorem d_M_hash_11 : decode b_M_hash 11 = .ok (.getfield 21, 3) := dk da_M_hash 9 rfl
theorem d_M_hash_14 : decode b_M_hash 14 = .ok (.if_icmp .ge 31, 3) := dk da_M_hash 10 rfl
theorem d_M_hash_17 : decode b_M_hash 17 = .ok (.bipush 31, 2) := dk da_M_hash 11 rfl
theorem d_M_hash_19 : decode b_M_hash 19 = .ok (.bipush 31, 2) := dk da_M_hash 12 rfl
theorem d_M_hash_21 : decode b_M_hash 21 = .ok (.iload_n 1, 1) := dk da_M_hash 13 rfl
theorem d_M_hash_22 : decode b_M_hash 22 = .ok (.imul, 1) := dk da_M_hash 14 rfl
theorem d_M_hash_23 : decode b_M_hash 23 = .ok (.aload_n 0, 1) := dk da_M_hash 15 rfl
theorem d_M_hash_24 : decode b_M_hash 24 = .ok (.getfield 7, 3) := dk da_M_hash 16 rfl
theorem d_M_hash_27 : decode b_M_hash 27 = .ok (.iload_n 2, 1) := dk da_M_hash 17 rfl
theorem d_M_hash_28 : decode b_M_hash 28 = .ok (.iaload, 1) := dk da_M_hash 18 rfl
theorem d_M_hash_29 : decode b_M_hash 29 = .ok (.iadd, 1) := dk da_M_hash 19 rfl
theorem d_M_hash_30 : decode b_M_hash 30 = .ok (.imul, 1) := dk da_M_hash 20 rfl
theorem d_M_hash_31 : decode b_M_hash 31 = .ok (.aload_n 0, 1) := dk da_M_hash 21 rfl
theorem d_M_hash_32 : decode b_M_hash 32 = .ok (.getfield 13, 3) := dk da_M_hash 22 rfl
theorem d_M_hash_35 : decode b_M_hash 35 = .ok (.iload_n 2, 1) := dk da_M_hash 23 rfl
theorem d_M_hash_36 : decode b_M_hash 36 = .ok (.iaload, 1) := dk da_M_hash 24 rfl
theorem d_M_hash_37 : decode b_M_hash 37 = .ok (.iadd, 1) := dk da_M_hash 25 rfl
theorem d_M_hash_38 : decode b_M_hash 38 = .ok (.istore_n 1, 1) := dk da_M_hash 26 rfl
theorem d_M_hash_39 : decode b_M_hash 39 = .ok (.iinc 2 1, 3) := dk da_M_hash 27 rfl
theorem d_M_hash_42 : decode b_M_hash 42 = .ok (.goto (-33), 3) := dk da_M_hash 28 rfl
theorem d_M_hash_45 : decode b_M_hash 45 = .ok (.iload_n 1, 1) := dk da_M_hash 29 rfl
theorem d_M_hash_46 : decode b_M_hash 46 = .ok (.ireturn, 1) := dk da_M_hash 30 rfl
def dl_B_init : List (Nat × Instr × Nat) := [(0, .aload_n 0, 1), (1, .invokespecial 1, 3), (4, .aload_n 0, 1), (5, .aload_n 1, 1), (6, .putfield 7, 3), (9, .aload_n 0, 1), (10, .aload_n 2, 1), (11, .putfield 13, 3), (14, .return_, 1)]
set_option maxRecDepth 100000 in
theorem da_B_init : (dl_B_init.all fun q => decide (decode b_B_init q.1 = .ok q.2)) = true := by decide +kernel
theorem d_B_init_0 : decode b_B_init 0 = .ok (.aload_n 0, 1) := dk da_B_init 0 rfl
theorem d_B_init_1 : decode b_B_init 1 = .ok (.invokespecial 1, 3) := dk da_B_init 1 rfl
theorem d_B_init_4 : decode b_B_init 4 = .ok (.aload_n 0, 1) := dk da_B_init 2 rfl
theorem d_B_init_5 : decode b_B_init 5 = .ok (.aload_n 1, 1) := dk da_B_init 3 rfl
theorem d_B_init_6 : decode b_B_init 6 = .ok (.putfield 7, 3) := dk da_B_init 4 rfl
theorem d_B_init_9 : decode b_B_init 9 = .ok (.aload_n 0, 1) := dk da_B_init 5 rfl
theorem d_B_init_10 : decode b_B_init 10 = .ok (.aload_n 2, 1) := dk da_B_init 6 rfl
theorem d_B_init_11 : decode b_B_init 11 = .ok (.putfield 13, 3) := dk da_B_init 7 rfl
theorem d_B_init_14 : decode b_B_init 14 = .ok (.return_, 1) := dk da_B_init 8 rfl
def dl_B_compare : List (Nat × Instr × Nat) := [(0, .aload_n 0, 1), (1, .getfield 7, 3), (4, .aload_n 0, 1), (5, .getfield 13, 3), (8, .iload_n 1, 1), (9, .iaload, 1), (10, .aload_n 0, 1), (11, .getfield 13, 3), (14, .iload_n 2, 1), (15, .iaload, 1), (16, .invokeinterface 17 3, 5), (21, .ireturn, 1)]
set_option maxRecDepth 100000 in
theorem da_B_compare : (dl_B_compare.all fun q => decide (decode b_B_compare q.1 = .ok q.2)) = true := by decide +kernel
theorem d_B_compare_0 : decode b_B_compare 0 = .ok (.aload_n 0, 1) := dk da_B_compare 0 rfl
theorem d_B_compare_1 : decode b_B_compare 1 = .ok (.getfield 7, 3) := dk da_B_compare 1 rfl
theorem d_B_compare_4 : decode b_B_compare 4 = .ok (.aload_n 0, 1) := dk da_B_compare 2 rfl
theorem d_B_compare_5 : decode b_B_compare 5 = .ok (.getfield 13, 3) := dk da_B_compare 3 rfl
theorem d_B_compare_8 : decode b_B_compare 8 = .ok (.iload_n 1, 1) := dk da_B_compare 4 rfl
theorem d_B_compare_9 : decode b_B_compare 9 = .ok (.iaload, 1) := dk da_B_compare 5 rfl
theorem d_B_compare_10 : decode b_B_compare 10 = .ok (.aload_n 0, 1) := dk da_B_compare 6 rfl
theorem d_B_compare_11 : decode b_B_compare 11 = .ok (.getfield 13, 3) := dk da_B_compare 7 rfl
theorem d_B_compare_14 : decode b_B_compare 14 = .ok (.iload_n 2, 1) := dk da_B_compare 8 rfl
theorem d_B_compare_15 : decode b_B_compare 15 = .ok (.iaload, 1) := dk da_B_compare 9 rfl
theorem d_B_compare_16 : decode b_B_compare 16 = .ok (.invokeinterface 17 3, 5) := dk da_B_compare 10 rfl
theorem d_B_compare_21 : decode b_B_compare 21 = .ok (.ireturn, 1) := dk da_B_compare 11 rfl
def dl_O1_init : List (Nat × Instr × Nat) := [(0, .aload_n 0, 1), (1, .invokespecial 1, 3), (4, .return_, 1)]
set_option maxRecDepth 100000 in
theorem da_O1_init : (dl_O1_init.all fun q => decide (decode b_O1_init q.1 = .ok q.2)) = true := by decide +kernel
theorem d_O1_init_0 : decode b_O1_init 0 = .ok (.aload_n 0, 1) := dk da_O1_init 0 rfl
theorem d_O1_init_1 : decode b_O1_init 1 = .ok (.invokespecial 1, 3) := dk da_O1_init 1 rfl
theorem d_O1_init_4 : decode b_O1_init 4 = .ok (.return_, 1) := dk da_O1_init 2 rfl
def dl_O1_compare : List (Nat × Instr × Nat) := [(0, .iload_n 1, 1), (1, .iload_n 2, 1), (2, .if_icmp .le 7, 3), (5, .iconst (-1), 1), (6, .goto 13, 3), (9, .iload_n 1, 1), (10, .iload_n 2, 1), (11, .if_icmp .ge 7, 3), (14, .iconst 1, 1), (15, .goto 4, 3), (18, .iconst 0, 1), (19, .ireturn, 1)]
set_option maxRecDepth 100000 in
theorem da_O1_compare : (dl_O1_compare.all fun q => decide (decode b_O1_compare q.1 = .ok q.2)) = true := by decide +kernel
theorem d_O1_compare_0 : decode b_O1_compare 0 = .ok (.iload_n 1, 1) := dk da_O1_compare 0 rfl
theorem d_O1_compare_1 : decode b_O1_compare 1 = .ok (.iload_n 2, 1) := dk da_O1_compare 1 rfl
theorem d_O1_compare_2 : decode b_O1_compare 2 = .ok (.if_icmp .le 7, 3) := dk da_O1_compare 2 rfl
theorem d_O1_compare_5 : decode b_O1_compare 5 = .ok (.iconst (-1), 1) := dk da_O1_compare 3 rfl
theorem d_O1_compare_6 : decode b_O1_compare 6 = .ok (.goto 13, 3) := dk da_O1_compare 4 rfl
theorem d_O1_compare_9 : decode b_O1_compare 9 = .ok (.iload_n 1, 1) := dk da_O1_compare 5 rfl
theorem d_O1_compare_10 : decode b_O1_compare 10 = .ok (.iload_n 2, 1) := dk da_O1_compare 6 rfl
theorem d_O1_compare_11 : decode b_O1_compare 11 = .ok (.if_icmp .ge 7, 3) := dk da_O1_compare 7 rfl
theorem d_O1_compare_14 : decode b_O1_compare 14 = .ok (.iconst 1, 1) := dk da_O1_compare 8 rfl
theorem d_O1_compare_15 : decode b_O1_compare 15 = .ok (.goto 4, 3) := dk da_O1_compare 9 rfl
theorem d_O1_compare_18 : decode b_O1_compare 18 = .ok (.iconst 0, 1) := dk da_O1_compare 10 rfl
theorem d_O1_compare_19 : decode b_O1_compare 19 = .ok (.ireturn, 1) := dk da_O1_compare 11 rfl
def dl_O2_init : List (Nat × Instr × Nat) := [(0, .aload_n 0, 1), (1, .invokespecial 1, 3), (4, .return_, 1)]
set_option maxRecDepth 100000 in
theorem da_O2_init : (dl_O2_init.all fun q => decide (decode b_O2_init q.1 = .ok q.2)) = true := by decide +kernel
theorem d_O2_init_0 : decode b_O2_init 0 = .ok (.aload_n 0, 1) := dk da_O2_init 0 rfl
theorem d_O2_init_1 : decode b_O2_init 1 = .ok (.invokespecial 1, 3) := dk da_O2_init 1 rfl
theorem d_O2_init_4 : decode b_O2_init 4 = .ok (.return_, 1) := dk da_O2_init 2 rfl
def dl_O2_compare : List (Nat × Instr × Nat) := [(0, .iload_n 1, 1), (1, .bipush 15, 2), (3, .iand, 1), (4, .iload_n 2, 1), (5, .bipush 15, 2), (7, .iand, 1), (8, .isub, 1), (9, .ireturn, 1)]
set_option maxRecDepth 100000 in
theorem da_O2_compare : (dl_O2_compare.all fun q => decide (decode b_O2_compare q.1 = .ok q.2)) = true := by decide +kernel
theorem d_O2_compare_0 : decode b_O2_compare 0 = .ok (.iload_n 1, 1) := dk da_O2_compare 0 rfl
theorem d_O2_compare_1 : decode b_O2_compare 1 = .ok (.bipush 15, 2) := dk da_O2_compare 1 rfl
theorem d_O2_compare_3 : decode b_O2_compare 3 = .ok (.iand, 1) := dk da_O2_compare 2 rfl
theorem d_O2_compare_4 : decode b_O2_compare 4 = .ok (.iload_n 2, 1) := dk da_O2_compare 3 rfl
theorem d_O2_compare_5 : decode b_O2_compare 5 = .ok (.bipush 15, 2) := dk da_O2_compare 4 rfl
theorem d_O2_compare_7 : decode b_O2_compare 7 = .ok (.iand, 1) := dk da_O2_compare 5 rfl
theorem d_O2_compare_8 : decode b_O2_compare 8 = .ok (.isub, 1) := dk da_O2_compare 6 rfl
theorem d_O2_compare_9 : decode b_O2_compare 9 = .ok (.ireturn, 1) := dk da_O2_compare 7 rfl
def dl_O0_init : List (Nat × Instr × Nat) := [(0, .aload_n 0, 1), (1, .invokespecial 1, 3), (4, .return_, 1)]
set_option maxRecDepth 100000 in
theorem da_O0_init : (dl_O0_init.all fun q => decide (decode b_O0_init q.1 = .ok q.2)) = true := by decide +kernel
theorem d_O0_init_0 : decode b_O0_init 0 = .ok (.aload_n 0, 1) := dk da_O0_init 0 rfl
theorem d_O0_init_1 : decode b_O0_init 1 = .ok (.invokespecial 1, 3) := dk da_O0_init 1 rfl
theorem d_O0_init_4 : decode b_O0_init 4 = .ok (.return_, 1) := dk da_O0_init 2 rfl
def dl_O0_compare : List (Nat × Instr × Nat) := [(0, .iload_n 1, 1), (1, .iload_n 2, 1), (2, .if_icmp .ge 7, 3), (5, .iconst (-1), 1), (6, .goto 13, 3), (9, .iload_n 1, 1), (10, .iload_n 2, 1), (11, .if_icmp .le 7, 3), (14, .iconst 1, 1), (15, .goto 4, 3), (18, .iconst 0, 1), (19, .ireturn, 1)]
set_option maxRecDepth 100000 in
theorem da_O0_compare : (dl_O0_compare.all fun q => decide (decode b_O0_compare q.1 = .ok q.2)) = true := by decide +kernel
theorem d_O0_compare_0 : decode b_O0_compare 0 = .ok (.iload_n 1, 1) := dk da_O0_compare 0 rfl
theorem d_O0_compare_1 : decode b_O0_compare 1 = .ok (.iload_n 2, 1) := dk da_O0_compare 1 rfl
theorem d_O0_compare_2 : decode b_O0_compare 2 = .ok (.if_icmp .ge 7, 3) := dk da_O0_compare 2 rfl
theorem d_O0_compare_5 : decode b_O0_compare 5 = .ok (.iconst (-1), 1) := dk da_O0_compare 3 rfl
theorem d_O0_compare_6 : decode b_O0_compare 6 = .ok (.goto 13, 3) := dk da_O0_compare 4 rfl
theorem d_O0_compare_9 : decode b_O0_compare 9 = .ok (.iload_n 1, 1) := dk da_O0_compare 5 rfl
theorem d_O0_compare_10 : decode b_O0_compare 10 = .ok (.iload_n 2, 1) := dk da_O0_compare 6 rfl
theorem d_O0_compare_11 : decode b_O0_compare 11 = .ok (.if_icmp .le 7, 3) := dk da_O0_compare 7 rfl
theorem d_O0_compare_14 : decode b_O0_compare 14 = .ok (.iconst 1, 1) := dk da_O0_compare 8 rfl
theorem d_O0_compare_15 : decode b_O0_compare 15 = .ok (.goto 4, 3) := dk da_O0_compare 9 rfl
theorem d_O0_compare_18 : decode b_O0_compare 18 = .ok (.iconst 0, 1) := dk da_O0_compare 10 rfl
theorem d_O0_compare_19 : decode b_O0_compare 19 = .ok (.ireturn, 1) := dk da_O0_compare 11 rfl
def dl_S_init : List (Nat × Instr × Nat) := [(0, .aload_n 0, 1), (1, .invokespecial 3, 3), (4, .aload_n 0, 1), (5, .sipush 2000, 3), (8, .newarray .int, 2), (10, .putfield 9, 3), (13, .aload_n 0, 1), (14, .sipush 2000, 3), (17, .newarray .int, 2), (19, .putfield 15, 3), (22, .aload_n 0, 1), (23, .bipush 40, 2), (25, .newarray .int, 2), (27, .putfield 18, 3), (30, .aload_n 0, 1), (31, .bipush 40, 2), (33, .newarray .int, 2), (35, .putfield 21, 3), (38, .return_, 1)]
set_option maxRecDepth 100000 in
theorem da_S_init : (dl_S_init.all fun q => decide (decode b_S_init q.1 = .ok q.2)) = true := by decide +kernel
theorem d_S_init_0 : decode b_S_init 0 = .ok (.aload_n 0, 1) := dk da_S_init 0 rfl
theorem d_S_init_1 : decode b_S_init 1 = .ok (.invokespecial 3, 3) := dk da_S_init 1 rfl
theorem d_S_init_4 : decode b_S_init 4 = .ok (.aload_n 0, 1) := dk da_S_init 2 rfl
theorem d_S_init_5 : decode b_S_init 5 = .ok (.sipush 2000, 3) := dk da_S_init 3 rfl
theorem d_S_init_8 : decode b_S_init 8 = .ok (.newarray .int, 2) := dk da_S_init 4 rfl
theorem d_S_init_10 : decode b_S_init 10 = .ok (.putfield 9, 3) := dk da_S_init 5 rfl
theorem d_S_init_13 : decode b_S_init 13 = .ok (.aload_n 0, 1) := dk da_S_init 6 rfl
theorem d_S_init_14 : decode b_S_init 14 = .ok (.sipush 2000, 3) := dk da_S_init 7 rfl
theorem d_S_init_17 : decode b_S_init 17 = .ok (.newarray .int, 2) := dk da_S_init 8 rfl
theorem d_S_init_19 : decode b_S_init 19 = .ok (.putfield 15, 3) := dk da_S_init 9 rfl
theorem d_S_init_22 : decode b_S_init 22 = .ok (.aload_n 0, 1) := dk da_S_init 10 rfl
theorem d_S_init_23 : decode b_S_init 23 = .ok (.bipush 40, 2) := dk da_S_init 11 rfl
theorem d_S_init_25 : decode b_S_init 25 = .ok (.newarray .int, 2) := dk da_S_init 12 rfl
theorem d_S_init_27 : decode b_S_init 27 = .ok (.putfield 18, 3) := dk da_S_init 13 rfl
theorem d_S_init_30 : decode b_S_init 30 = .ok (.aload_n 0, 1) := dk da_S_init 14 rfl
theorem d_S_init_31 : decode b_S_init 31 = .ok (.bipush 40, 2) := dk da_S_init 15 rfl
theorem d_S_init_33 : decode b_S_init 33 = .ok (.newarray .int, 2) := dk da_S_init 16 rfl
theorem d_S_init_35 : decode b_S_init 35 = .ok (.putfield 21, 3) := dk da_S_init 17 rfl
theorem d_S_init_38 : decode b_S_init 38 = .ok (.return_, 1) := dk da_S_init 18 rfl
def dl_S_cells : List (Nat × Instr × Nat) := [(0, .aload_n 0, 1), (1, .getfield 9, 3), (4, .areturn, 1)]
set_option maxRecDepth 100000 in
theorem da_S_cells : (dl_S_cells.all fun q => decide (decode b_S_cells q.1 = .ok q.2)) = true := by decide +kernel
theorem d_S_cells_0 : decode b_S_cells 0 = .ok (.aload_n 0, 1) := dk da_S_cells 0 rfl
theorem d_S_cells_1 : decode b_S_cells 1 = .ok (.getfield 9, 3) := dk da_S_cells 1 rfl
theorem d_S_cells_4 : decode b_S_cells 4 = .ok (.areturn, 1) := dk da_S_cells 2 rfl
def dl_S_sort : List (Nat × Instr × Nat) := [(0, .aload_n 0, 1), (1, .aload_n 2, 1), (2, .putfield 24, 3), (5, .aload_n 0, 1), (6, .iconst 0, 1), (7, .putfield 28, 3), (10, .aload_n 0, 1), (11, .bipush 7, 2), (13, .putfield 32, 3), (16, .iload_n 1, 1), (17, .invokestatic 35, 3), (20, .istore_n 3, 1), (21, .iconst 0, 1), (22, .istore 4, 2), (24, .iload 4, 2), (26, .iload_n 1, 1), (27, .if_icmp .ge 102, 3), (30, .aload_n 0, 1), (31, .iload 4, 2), (33, .iload_n 1, 1), (34, .invokevirtual 39, 3), (37, .istore 5, 2), (39, .iload 5, 2), (41, .iload_n 3, 1), (42, .if_icmp .ge 41, 3), (45, .iload 4, 2), (47, .iload_n 3, 1), (48, .iadd, 1), (49, .iload_n 1, 1), (50, .if_icmp .ge 10, 3), (53, .iload 4, 2), (55, .iload_n 3, 1), (56, .iadd, 1), (57, .goto 4, 3), (60, .iload_n 1, 1), (61, .istore 6, 2), (63, .aload_n 0, 1), (64, .iload 4, 2), (66, .iload 4, 2), (68, .iload 5, 2), (70, .iadd, 1), (71, .iload 6, 2), (73, .invokevirtual 43, 3), (76, .iload 6, 2), (78, .iload 4, 2), (80, .isub, 1), (81, .istore 5, 2), (83, .aload_n 0, 1), (84, .getfield 18, 3), (87, .aload_n 0, 1), (88, .getfield 28, 3), (91, .iload 4, 2), (93, .iastore, 1), (94, .aload_n 0, 1), (95, .getfield 21, 3), (98, .aload_n 0, 1), (99, .getfield 28, 3), (102, .iload 5, 2), (104, .iastore, 1), (105, .aload_n 0, 1), (106, .dup, 1), (107, .getfield 28, 3), (110, .iconst 1, 1), (111, .iadd, 1), (112, .putfield 28, 3), (115, .iload 4, 2), (117, .iload 5, 2), (119, .iadd, 1), (120, .istore 4, 2), (122, .aload_n 0, 1), (123, .invokevirtual 47, 3), (126, .goto (-102), 3), (129, .aload_n 0, 1), (130, .getfield 28, 3), (133, .iconst 1, 1), (134, .if_icmp .le 58, 3), (137, .aload_n 0, 1), (138, .aload_n 0, 1), (139, .getfield 28, 3), (142, .iconst 2, 1), (143, .if_icmp .le 37, 3), (146, .aload_n 0, 1), (147, .getfield 21, 3), (150, .aload_n 0, 1), (151, .getfield 28, 3), (154, .iconst 3, 1), (155, .isub, 1), (156, .iaload, 1), (157, .aload_n 0, 1), (158, .getfield 21, 3), (161, .aload_n 0, 1), (162, .getfield 28, 3), (165, .iconst 1, 1), (166, .isub, 1), (167, .iaload, 1), (168, .if_icmp .ge 12, 3), (171, .aload_n 0, 1), (172, .getfield 28, 3), (175, .iconst 3, 1), (176, .isub, 1), (177, .goto 9, 3), (180, .aload_n 0, 1), (181, .getfield 28, 3), (184, .iconst 2, 1), (185, .isub, 1), (186, .invokevirtual 50, 3), (189, .goto (-60), 3), (192, .return_, 1)]
set_option maxRecDepth 100000 in
theorem da_S_sort : (dl_S_sort.all fun q => decide (decode b_S_sort q.1 = .ok q.2)) = true := by decide +kernel
theorem d_S_sort_0 : decode b_S_sort 0 = .ok (.aload_n 0, 1) := dk da_S_sort 0 rfl
theorem d_S_sort_1 : decode b_S_sort 1 = .ok (.aload_n 2, 1) := dk da_S_sort 1 rfl
theorem d_S_sort_2 : decode b_S_sort 2 = .ok (.putfield 24, 3) := dk da_S_sort 2 rfl
theorem d_S_sort_5 : decode b_S_sort 5 = .ok (.aload_n 0, 1) := dk da_S_sort 3 rfl
theorem d_S_sort_6 : decode b_S_sort 6 = .ok (.iconst 0, 1) := dk da_S_sort 4 rfl
theorem d_S_sort_7 : decode b_S_sort 7 = .ok (.putfield 28, 3) := dk da_S_sort 5 rfl
theorem d_S_sort_10 : decode b_S_sort 10 = .ok (.aload_n 0, 1) := dk da_S_sort 6 rfl
theorem d_S_sort_11 : decode b_S_sort 11 = .ok (.bipush 7, 2) := dk da_S_sort 7 rfl
theorem d_S_sort_13 : decode b_S_sort 13 = .ok (.putfield 32, 3) := dk da_S_sort 8 rfl
theorem d_S_sort_16 : decode b_S_sort 16 = .ok (.iload_n 1, 1) := dk da_S_sort 9 rfl
theorem d_S_sort_17 : decode b_S_sort 17 = .ok (.invokestatic 35, 3) := dk da_S_sort 10 rfl
theorem d_S_sort_20 : decode b_S_sort 20 = .ok (.istore_n 3, 1) := dk da_S_sort 11 rfl
theorem d_S_sort_21 : decode b_S_sort 21 = .ok (.iconst 0, 1) := dk da_S_sort 12 rfl
theorem d_S_sort_22 : decode b_S_sort 22 = .ok (.istore 4, 2) := dk da_S_sort 13 rfl
theorem d_S_sort_24 : decode b_S_sort 24 = .ok (.iload 4, 2) := dk da_S_sort 14 rfl
theorem d_S_sort_26 : decode b_S_sort 26 = .ok (.iload_n 1, 1) := dk da_S_sort 15 rfl
theorem d_S_sort_27 : decode b_S_sort 27 = .ok (.if_icmp .ge 102, 3) := dk da_S_sort 16 rfl
theorem d_S_sort_30 : decode b_S_sort 30 = .ok (.aload_n 0, 1) := dk da_S_sort 17 rfl
theorem d_S_sort_31 : decode b_S_sort 31 = .ok (.iload 4, 2) := dk da_S_sort 18 rfl
theorem d_S_sort_33 : decode b_S_sort 33 = .ok (.iload_n 1, 1) := dk da_S_sort 19 rfl
theorem d_S_sort_34 : decode b_S_sort 34 = .ok (.invokevirtual 39, 3) := dk da_S_sort 20 rfl
theorem d_S_sort_37 : decode b_S_sort 37 = .ok (.istore 5, 2) := dk da_S_sort 21 rfl
theorem d_S_sort_39 : decode b_S_sort 39 = .ok (.iload 5, 2) := dk da_S_sort 22 rfl
theorem d_S_sort_41 : decode b_S_sort 41 = .ok (.iload_n 3, 1) := dk da_S_sort 23 rfl
theorem d_S_sort_42 : decode b_S_sort 42 = .ok (.if_icmp .ge 41, 3) := dk da_S_sort 24 rfl
theorem d_S_sort_45 : decode b_S_sort 45 = .ok (.iload 4, 2) := dk da_S_sort 25 rfl
theorem d_S_sort_47 : decode b_S_sort 47 = .ok (.iload_n 3, 1) := dk da_S_sort 26 rfl
theorem d_S_sort_48 : decode b_S_sort 48 = .ok (.iadd, 1) := dk da_S_sort 27 rfl
theorem d_S_sort_49 : decode b_S_sort 49 = .ok (.iload_n 1, 1) := dk da_S_sort 28 rfl
theorem d_S_sort_50 : decode b_S_sort 50 = .ok (.if_icmp .ge 10, 3) := dk da_S_sort 29 rfl
theorem d_S_sort_53 : decode b_S_sort 53 = .ok (.iload 4, 2) := dk da_S_sort 30 rfl
theorem d_S_sort_55 : decode b_S_sort 55 = .ok (.iload_n 3, 1) := dk da_S_sort 31 rfl
theorem d_S_sort_56 : decode b_S_sort 56 = .ok (.iadd, 1) := dk da_S_sort 32 rfl
theorem d_S_sort_57 : decode b_S_sort 57 = .ok (.goto 4, 3) := dk da_S_sort 33 rfl
theorem d_S_sort_60 : decode b_S_sort 60 = .ok (.iload_n 1, 1) := dk da_S_sort 34 rfl
theorem d_S_sort_61 : decode b_S_sort 61 = .ok (.istore 6, 2) := dk da_S_sort 35 rfl
theorem d_S_sort_63 : decode b_S_sort 63 = .ok (.aload_n 0, 1) := dk da_S_sort 36 rfl
theorem d_S_sort_64 : decode b_S_sort 64 = .ok (.iload 4, 2) := dk da_S_sort 37 rfl
theorem d_S_sort_66 : decode b_S_sort 66 = .ok (.iload 4, 2) := dk da_S_sort 38 rfl
theorem d_S_sort_68 : decode b_S_sort 68 = .ok (.iload 5, 2) := dk da_S_sort 39 rfl
theorem d_S_sort_70 : decode b_S_sort 70 = .ok (.iadd, 1) := dk da_S_sort 40 rfl
theorem d_S_sort_71 : decode b_S_sort 71 = .ok (.iload 6, 2) := dk da_S_sort 41 rfl
theorem d_S_sort_73 : decode b_S_sort 73 = .ok (.invokevirtual 43, 3) := dk da_S_sort 42 rfl
theorem d_S_sort_76 : decode b_S_sort 76 = .ok (.iload 6, 2) := dk da_S_sort 43 rfl
theorem d_S_sort_78 : decode b_S_sort 78 = .ok (.iload 4, 2) := dk da_S_sort 44 rfl
theorem d_S_sort_80 : decode b_S_sort 80 = .ok (.isub, 1) := dk da_S_sort 45 rfl
theorem d_S_sort_81 : decode b_S_sort 81 = .ok (.istore 5, 2) := dk da_S_sort 46 rfl
theorem d_S_sort_83 : decode b_S_sort 83 = .ok (.aload_n 0, 1) := dk da_S_sort 47 rfl
theorem d_S_sort_84 : decode b_S_sort 84 = .ok (.getfield 18, 3) := dk da_S_sort 48 rfl
theorem d_S_sort_87 : decode b_S_sort 87 = .ok (.aload_n 0, 1) := dk da_S_sort 49 rfl
theorem d_S_sort_88 : decode b_S_sort 88 = .ok (.getfield 28, 3) := dk da_S_sort 50 rfl
theorem d_S_sort_91 : decode b_S_sort 91 = .ok (.iload 4, 2) := dk da_S_sort 51 rfl
theorem d_S_sort_93 : decode b_S_sort 93 = .ok (.iastore, 1) := dk da_S_sort 52 rfl
theorem d_S_sort_94 : decode b_S_sort 94 = .ok (.aload_n 0, 1) := dk da_S_sort 53 rfl
theorem d_S_sort_95 : decode b_S_sort 95 = .ok (.getfield 21, 3) := dk da_S_sort 54 rfl
theorem d_S_sort_98 : decode b_S_sort 98 = .ok (.aload_n 0, 1) := dk da_S_sort 55 rfl
theorem d_S_sort_99 : decode b_S_sort 99 = .ok (.getfield 28, 3) := dk da_S_sort 56 rfl
theorem d_S_sort_102 : decode b_S_sort 102 = .ok (.iload 5, 2) := dk da_S_sort 57 rfl
theorem d_S_sort_104 : decode b_S_sort 104 = .ok (.iastore, 1) := dk da_S_sort 58 rfl
theorem d_S_sort_105 : decode b_S_sort 105 = .ok (.aload_n 0, 1) := dk da_S_sort 59 rfl
theorem d_S_sort_106 : decode b_S_sort 106 = .ok (.dup, 1) := dk da_S_sort 60 rfl
theorem d_S_sort_107 : decode b_S_sort 107 = .ok (.getfield 28, 3) := dk da_S_sort 61 rfl
theorem d_S_sort_110 : decode b_S_sort 110 = .ok (.iconst 1, 1) := dk da_S_sort 62 rfl
theorem d_S_sort_111 : decode b_S_sort 111 = .ok (.iadd, 1) := dk da_S_sort 63 rfl
theorem d_S_sort_112 : decode b_S_sort 112 = .ok (.putfield 28, 3) := dk da_S_sort 64 rfl
theorem d_S_sort_115 : decode b_S_sort 115 = .ok (.iload 4, 2) := dk da_S_sort 65 rfl
theorem d_S_sort_117 : decode b_S_sort 117 = .ok (.iload 5, 2) := dk da_S_sort 66 rfl
theorem d_S_sort_119 : decode b_S_sort 119 = .ok (.iadd, 1) := dk da_S_sort 67 rfl
theorem d_S_sort_120 : decode b_S_sort 120 = .ok (.istore 4, 2) := dk da_S_sort 68 rfl
theorem d_S_sort_122 : decode b_S_sort 122 = .ok (.aload_n 0, 1) := dk da_S_sort 69 rfl
theorem d_S_sort_123 : decode b_S_sort 123 = .ok (.invokevirtual 47, 3) := dk da_S_sort 70 rfl
theorem d_S_sort_126 : decode b_S_sort 126 = .ok (.goto (-102), 3) := dk da_S_sort 71 rfl
theorem d_S_sort_129 : decode b_S_sort 129 = .ok (.aload_n 0, 1) := dk da_S_sort 72 rfl
theorem d_S_sort_130 : decode b_S_sort 130 = .ok (.getfield 28, 3) := dk da_S_sort 73 rfl
theorem d_S_sort_133 : decode b_S_sort 133 = .ok (.iconst 1, 1) := dk da_S_sort 74 rfl
theorem d_S_sort_134 : decode b_S_sort 134 = .ok (.if_icmp .le 58, 3) := dk da_S_sort 75 rfl
theorem d_S_sort_137 : decode b_S_sort 137 = .ok (.aload_n 0, 1) := dk da_S_sort 76 rfl
theorem d_S_sort_138 : decode b_S_sort 138 = .ok (.aload_n 0, 1) := dk da_S_sort 77 rfl
theorem d_S_sort_139 : decode b_S_sort 139 = .ok (.getfield 28, 3) := dk da_S_sort 78 rfl
theorem d_S_sort_142 : decode b_S_sort 142 = .ok (.iconst 2, 1) := dk da_S_sort 79 rfl
theorem d_S_sort_143 : decode b_S_sort 143 = .ok (.if_icmp .le 37, 3) := dk da_S_sort 80 rfl
theorem d_S_sort_146 : decode b_S_sort 146 = .ok (.aload_n 0, 1) := dk da_S_sort 81 rfl
theorem d_S_sort_147 : decode b_S_sort 147 = .ok (.getfield 21, 3) := dk da_S_sort 82 rfl
theorem d_S_sort_150 : decode b_S_sort 150 = .ok (.aload_n 0, 1) := dk da_S_sort 83 rfl
theorem d_S_sort_151 : decode b_S_sort 151 = .ok (.getfield 28, 3) := dk da_S_sort 84 rfl
theorem d_S_sort_154 : decode b_S_sort 154 = .ok (.iconst 3, 1) := dk da_S_sort 85 rfl
theorem d_S_sort_155 : decode b_S_sort 155 = .ok (.isub, 1) := dk da_S_sort 86 rfl
theorem d_S_sort_156 : decode b_S_sort 156 = .ok (.iaload, 1) := dk da_S_sort 87 rfl
theorem d_S_sort_157 : decode b_S_sort 157 = .ok (.aload_n 0, 1) := dk da_S_sort 88 rfl
theorem d_S_sort_158 : decode b_S_sort 158 = .ok (.getfield 21, 3) := dk da_S_sort 89 rfl
theorem d_S_sort_161 : decode b_S_sort 161 = .ok (.aload_n 0, 1) := dk da_S_sort 90 rfl
theorem d_S_sort_162 : decode b_S_sort 162 = .ok (.getfield 28, 3) := dk da_S_sort 91 rfl
theorem d_S_sort_165 : decode b_S_sort 165 = .ok (.iconst 1, 1) := dk da_S_sort 92 rfl
theorem d_S_sort_166 : decode b_S_sort 166 = .ok (.isub, 1) := dk da_S_sort 93 rfl
theorem d_S_sort_167 : decode b_S_sort 167 = .ok (.iaload, 1) := dk da_S_sort 94 rfl
theorem d_S_sort_168 : decode b_S_sort 168 = .ok (.if_icmp .ge 12, 3) := dk da_S_sort 95 rfl
theorem d_S_sort_171 : decode b_S_sort 171 = .ok (.aload_n 0, 1) := dk da_S_sort 96 rfl
theorem d_S_sort_172 : decode b_S_sort 172 = .ok (.getfield 28, 3) := dk da_S_sort 97 rfl
theorem d_S_sort_175 : decode b_S_sort 175 = .ok (.iconst 3, 1) := dk da_S_sort 98 rfl
theorem d_S_sort_176 : decode b_S_sort 176 = .ok (.isub, 1) := dk da_S_sort 99 rfl
theorem d_S_sort_177 : decode b_S_sort 177 = .ok (.goto 9, 3) := dk da_S_sort 100 rfl
theorem d_S_sort_180 : decode b_S_sort 180 = .ok (.aload_n 0, 1) := dk da_S_sort 101 rfl
theorem d_S_sort_181 : decode b_S_sort 181 = .ok (.getfield 28, 3) := dk da_S_sort 102 rfl
theorem d_S_sort_184 : decode b_S_sort 184 = .ok (.iconst 2, 1) := dk da_S_sort 103 rfl
theorem d_S_sort_185 : decode b_S_sort 185 = .ok (.isub, 1) := dk da_S_sort 104 rfl
theorem d_S_sort_186 : decode b_S_sort 186 = .ok (.invokevirtual 50, 3) := dk da_S_sort 105 rfl
theorem d_S_sort_189 : decode b_S_sort 189 = .ok (.goto (-60), 3) := dk da_S_sort 106 rfl
theorem d_S_sort_192 : decode b_S_sort 192 = .ok (.return_, 1) := dk da_S_sort 107 rfl
def dl_S_shortest : List (Nat × Instr × Nat) := [(0, .iconst 0, 1), (1, .istore_n 1, 1), (2, .iload_n 0, 1), (3, .istore_n 2, 1), (4, .iload_n 2, 1), (5, .bipush 32, 2), (7, .if_icmp .lt 16, 3), (10, .iload_n 1, 1), (11, .iload_n 2, 1), (12, .iconst 1, 1), (13, .iand, 1), (14, .ior, 1), (15, .istore_n 1, 1), (16, .iload_n 2, 1), (17, .iconst 1, 1), (18, .ishr, 1), (19, .istore_n 2, 1), (20, .goto (-16), 3), (23, .iload_n 2, 1), (24, .iload_n 1, 1), (25, .iadd, 1), (26, .ireturn, 1)]
set_option maxRecDepth 100000 in
theorem da_S_shortest : (dl_S_shortest.all fun q => decide (decode b_S_shortest q.1 = .ok q.2)) = true := by decide +kernel
theorem d_S_shortest_0 : decode b_S_shortest 0 = .ok (.iconst 0, 1) := dk da_S_shortest 0 rfl
theorem d_S_shortest_1 : decode b_S_shortest 1 = .ok (.istore_n 1, 1) := dk da_S_shortest 1 rfl
theorem d_S_shortest_2 : decode b_S_shortest 2 = .ok (.iload_n 0, 1) := dk da_S_shortest 2 rfl
theorem d_S_shortest_3 : decode b_S_shortest 3 = .ok (.istore_n 2, 1) := dk da_S_shortest 3 rfl
theorem d_S_shortest_4 : decode b_S_shortest 4 = .ok (.iload_n 2, 1) := dk da_S_shortest 4 rfl
theorem d_S_shortest_5 : decode b_S_shortest 5 = .ok (.bipush 32, 2) := dk da_S_shortest 5 rfl
theorem d_S_shortest_7 : decode b_S_shortest 7 = .ok (.if_icmp .lt 16, 3) := dk da_S_shortest 6 rfl
theorem d_S_shortest_10 : decode b_S_shortest 10 = .ok (.iload_n 1, 1) := dk da_S_shortest 7 rfl
theorem d_S_shortest_11 : decode b_S_shortest 11 = .ok (.iload_n 2, 1) := dk da_S_shortest 8 rfl
theorem d_S_shortest_12 : decode b_S_shortest 12 = .ok (.iconst 1, 1) := dk da_S_shortest 9 rfl
theorem d_S_shortest_13 : decode b_S_shortest 13 = .ok (.iand, 1) := dk da_S_shortest 10 rfl
theorem d_S_shortest_14 : decode b_S_shortest 14 = .ok (.ior, 1) := dk da_S_shortest 11 rfl
theorem d_S_shortest_15 : decode b_S_shortest 15 = .ok (.istore_n 1, 1) := dk da_S_shortest 12 rfl
theorem d_S_shortest_16 : decode b_S_shortest 16 = .ok (.iload_n 2, 1) := dk da_S_shortest 13 rfl
theorem d_S_shortest_17 : decode b_S_shortest 17 = .ok (.iconst 1, 1) := dk da_S_shortest 14 rfl
theorem d_S_shortest_18 : decode b_S_shortest 18 = .ok (.ishr, 1) := dk da_S_shortest 15 rfl
theorem d_S_shortest_19 : decode b_S_shortest 19 = .ok (.istore_n 2, 1) := dk da_S_shortest 16 rfl
theorem d_S_shortest_20 : decode b_S_shortest 20 = .ok (.goto (-16), 3) := dk da_S_shortest 17 rfl
theorem d_S_shortest_23 : decode b_S_shortest 23 = .ok (.iload_n 2, 1) := dk da_S_shortest 18 rfl
theorem d_S_shortest_24 : decode b_S_shortest 24 = .ok (.iload_n 1, 1) := dk da_S_shortest 19 rfl
theorem d_S_shortest_25 : decode b_S_shortest 25 = .ok (.iadd, 1) := dk da_S_shortest 20 rfl
theorem d_S_shortest_26 : decode b_S_shortest 26 = .ok (.ireturn, 1) := dk da_S_shortest 21 rfl
def dl_S_run : List (Nat × Instr × Nat) := [(0, .iload_n 1, 1), (1, .iconst 1, 1), (2, .iadd, 1), (3, .istore_n 3, 1), (4, .iload_n 3, 1), (5, .iload_n 2, 1), (6, .if_icmp .ne 5, 3), (9, .iconst 1, 1), (10, .ireturn, 1), (11, .aload_n 0, 1), (12, .getfield 24, 3), (15, .aload_n 0, 1), (16, .getfield 9, 3), (19, .iload_n 3, 1), (20, .iaload, 1), (21, .aload_n 0, 1), (22, .getfield 9, 3), (25, .iload_n 1, 1), (26, .iaload, 1), (27, .invokeinterface 54 3, 5), (32, .ifCond .ge 7, 3), (35, .iconst 1, 1), (36, .goto 4, 3), (39, .iconst 0, 1), (40, .istore 4, 2), (42, .iinc 3 1, 3), (45, .iload_n 3, 1), (46, .iload_n 2, 1), (47, .if_icmp .ge 45, 3), (50, .aload_n 0, 1), (51, .getfield 24, 3), (54, .aload_n 0, 1), (55, .getfield 9, 3), (58, .iload_n 3, 1), (59, .iaload, 1), (60, .aload_n 0, 1), (61, .getfield 9, 3), (64, .iload_n 3, 1), (65, .iconst 1, 1), (66, .isub, 1), (67, .iaload, 1), (68, .invokeinterface 54 3, 5), (73, .ifCond .ge 7, 3), (76, .iconst 1, 1), (77, .goto 4, 3), (80, .iconst 0, 1), (81, .iload 4, 2), (83, .if_icmp .ne 9, 3), (86, .iinc 3 1, 3), (89, .goto (-44), 3), (92, .iload 4, 2), (94, .ifCond .eq 59, 3), (97, .iload_n 1, 1), (98, .istore 5, 2), (100, .iload_n 3, 1), (101, .iconst 1, 1), (102, .isub, 1), (103, .istore 6, 2), (105, .iload 5, 2), (107, .iload 6, 2), (109, .if_icmp .ge 44, 3), (112, .aload_n 0, 1), (113, .getfield 9, 3), (116, .iload 5, 2), (118, .iaload, 1), (119, .istore 7, 2), (121, .aload_n 0, 1), (122, .getfield 9, 3), (125, .iload 5, 2), (127, .aload_n 0, 1), (128, .getfield 9, 3), (131, .iload 6, 2), (133, .iaload, 1), (134, .iastore, 1), (135, .aload_n 0, 1), (136, .getfield 9, 3), (139, .iload 6, 2), (141, .iload 7, 2), (143, .iastore, 1), (144, .iinc 5 1, 3), (147, .iinc 6 (-1), 3), (150, .goto (-45), 3), (153, .iload_n 3, 1), (154, .iload_n 1, 1), (155, .isub, 1), (156, .ireturn, 1)]
set_option maxRecDepth 100000 in
theorem da_S_run : (dl_S_run.all fun q => decide (decode b_S_run q.1 = .ok q.2)) = true := by decide +kernel
theorem d_S_run_0 : decode b_S_run 0 = .ok (.iload_n 1, 1) := dk da_S_run 0 rfl
theorem d_S_run_1 : decode b_S_run 1 = .ok (.iconst 1, 1) := dk da_S_run 1 rfl
theorem d_S_run_2 : decode b_S_run 2 = .ok (.iadd, 1) := dk da_S_run 2 rfl
theorem d_S_run_3 : decode b_S_run 3 = .ok (.istore_n 3, 1) := dk da_S_run 3 rfl
theorem d_S_run_4 : decode b_S_run 4 = .ok (.iload_n 3, 1) := dk da_S_run 4 rfl
theorem d_S_run_5 : decode b_S_run 5 = .ok (.iload_n 2, 1) := dk da_S_run 5 rfl
theorem d_S_run_6 : decode b_S_run 6 = .ok (.if_icmp .ne 5, 3) := dk da_S_run 6 rfl
theorem d_S_run_9 : decode b_S_run 9 = .ok (.iconst 1, 1) := dk da_S_run 7 rfl
theorem d_S_run_10 : decode b_S_run 10 = .ok (.ireturn, 1) := dk da_S_run 8 rfl
theorem d_S_run_11 : decode b_S_run 11 = .ok (.aload_n 0, 1) := dk da_S_run 9 rfl
theorem d_S_run_12 : decode b_S_run 12 = .ok (.getfield 24, 3) := dk da_S_run 10 rfl
theorem d_S_run_15 : decode b_S_run 15 = .ok (.aload_n 0, 1) := dk da_S_run 11 rfl
theorem d_S_run_16 : decode b_S_run 16 = .ok (.getfield 9, 3) := dk da_S_run 12 rfl
theorem d_S_run_19 : decode b_S_run 19 = .ok (.iload_n 3, 1) := dk da_S_run 13 rfl
theorem d_S_run_20 : decode b_S_run 20 = .ok (.iaload, 1) := dk da_S_run 14 rfl
theorem d_S_run_21 : decode b_S_run 21 = .ok (.aload_n 0, 1) := dk da_S_run 15 rfl
theorem d_S_run_22 : decode b_S_run 22 = .ok (.getfield 9, 3) := dk da_S_run 16 rfl
theorem d_S_run_25 : decode b_S_run 25 = .ok (.iload_n 1, 1) := dk da_S_run 17 rfl
theorem d_S_run_26 : decode b_S_run 26 = .ok (.iaload, 1) := dk da_S_run 18 rfl
theorem d_S_run_27 : decode b_S_run 27 = .ok (.invokeinterface 54 3, 5) := dk da_S_run 19 rfl
theorem d_S_run_32 : decode b_S_run 32 = .ok (.ifCond .ge 7, 3) := dk da_S_run 20 rfl
theorem d_S_run_35 : decode b_S_run 35 = .ok (.iconst 1, 1) := dk da_S_run 21 rfl
theorem d_S_run_36 : decode b_S_run 36 = .ok (.goto 4, 3) := dk da_S_run 22 rfl
theorem d_S_run_39 : decode b_S_run 39 = .ok (.iconst 0, 1) := dk da_S_run 23 rfl
theorem d_S_run_40 : decode b_S_run 40 = .ok (.istore 4, 2) := dk da_S_run 24 rfl
theorem d_S_run_42 : decode b_S_run 42 = .ok (.iinc 3 1, 3) := dk da_S_run 25 rfl
theorem d_S_run_45 : decode b_S_run 45 = .ok (.iload_n 3, 1) := dk da_S_run 26 rfl
theorem d_S_run_46 : decode b_S_run 46 = .ok (.iload_n 2, 1) := dk da_S_run 27 rfl
theorem d_S_run_47 : decode b_S_run 47 = .ok (.if_icmp .ge 45, 3) := dk da_S_run 28 rfl
theorem d_S_run_50 : decode b_S_run 50 = .ok (.aload_n 0, 1) := dk da_S_run 29 rfl
theorem d_S_run_51 : decode b_S_run 51 = .ok (.getfield 24, 3) := dk da_S_run 30 rfl
theorem d_S_run_54 : decode b_S_run 54 = .ok (.aload_n 0, 1) := dk da_S_run 31 rfl
theorem d_S_run_55 : decode b_S_run 55 = .ok (.getfield 9, 3) := dk da_S_run 32 rfl
theorem d_S_run_58 : decode b_S_run 58 = .ok (.iload_n 3, 1) := dk da_S_run 33 rfl
theorem d_S_run_59 : decode b_S_run 59 = .ok (.iaload, 1) := dk da_S_run 34 rfl
theorem d_S_run_60 : decode b_S_run 60 = .ok (.aload_n 0, 1) := dk da_S_run 35 rfl
theorem d_S_run_61 : decode b_S_run 61 = .ok (.getfield 9, 3) := dk da_S_run 36 rfl
theorem d_S_run_64 : decode b_S_run 64 = .ok (.iload_n 3, 1) := dk da_S_run 37 rfl
theorem d_S_run_65 : decode b_S_run 65 = .ok (.iconst 1, 1) := dk da_S_run 38 rfl
theorem d_S_run_66 : decode b_S_run 66 = .ok (.isub, 1) := dk da_S_run 39 rfl
theorem d_S_run_67 : decode b_S_run 67 = .ok (.iaload, 1) := dk da_S_run 40 rfl
theorem d_S_run_68 : decode b_S_run 68 = .ok (.invokeinterface 54 3, 5) := dk da_S_run 41 rfl
theorem d_S_run_73 : decode b_S_run 73 = .ok (.ifCond .ge 7, 3) := dk da_S_run 42 rfl
theorem d_S_run_76 : decode b_S_run 76 = .ok (.iconst 1, 1) := dk da_S_run 43 rfl
theorem d_S_run_77 : decode b_S_run 77 = .ok (.goto 4, 3) := dk da_S_run 44 rfl
theorem d_S_run_80 : decode b_S_run 80 = .ok (.iconst 0, 1) := dk da_S_run 45 rfl
theorem d_S_run_81 : decode b_S_run 81 = .ok (.iload 4, 2) := dk da_S_run 46 rfl
theorem d_S_run_83 : decode b_S_run 83 = .ok (.if_icmp .ne 9, 3) := dk da_S_run 47 rfl
theorem d_S_run_86 : decode b_S_run 86 = .ok (.iinc 3 1, 3) := dk da_S_run 48 rfl
theorem d_S_run_89 : decode b_S_run 89 = .ok (.goto (-44), 3) := dk da_S_run 49 rfl
theorem d_S_run_92 : decode b_S_run 92 = .ok (.iload 4, 2) := dk da_S_run 50 rfl
theorem d_S_run_94 : decode b_S_run 94 = .ok (.ifCond .eq 59, 3) := dk da_S_run 51 rfl
theorem d_S_run_97 : decode b_S_run 97 = .ok (.iload_n 1, 1) := dk da_S_run 52 rfl
theorem d_S_run_98 : decode b_S_run 98 = .ok (.istore 5, 2) := dk da_S_run 53 rfl
theorem d_S_run_100 : decode b_S_run 100 = .ok (.iload_n 3, 1) := dk da_S_run 54 rfl
theorem d_S_run_101 : decode b_S_run 101 = .ok (.iconst 1, 1) := dk da_S_run 55 rfl
theorem d_S_run_102 : decode b_S_run 102 = .ok (.isub, 1) := dk da_S_run 56 rfl
theorem d_S_run_103 : decode b_S_run 103 = .ok (.istore 6, 2) := dk da_S_run 57 rfl
theorem d_S_run_105 : decode b_S_run 105 = .ok (.iload 5, 2) := dk da_S_run 58 rfl
theorem d_S_run_107 : decode b_S_run 107 = .ok (.iload 6, 2) := dk da_S_run 59 rfl
theorem d_S_run_109 : decode b_S_run 109 = .ok (.if_icmp .ge 44, 3) := dk da_S_run 60 rfl
theorem d_S_run_112 : decode b_S_run 112 = .ok (.aload_n 0, 1) := dk da_S_run 61 rfl
theorem d_S_run_113 : decode b_S_run 113 = .ok (.getfield 9, 3) := dk da_S_run 62 rfl
theorem d_S_run_116 : decode b_S_run 116 = .ok (.iload 5, 2) := dk da_S_run 63 rfl
theorem d_S_run_118 : decode b_S_run 118 = .ok (.iaload, 1) := dk da_S_run 64 rfl
theorem d_S_run_119 : decode b_S_run 119 = .ok (.istore 7, 2) := dk da_S_run 65 rfl
theorem d_S_run_121 : decode b_S_run 121 = .ok (.aload_n 0, 1) := dk da_S_run 66 rfl
theorem d_S_run_122 : decode b_S_run 122 = .ok (.getfield 9, 3) := dk da_S_run 67 rfl
theorem d_S_run_125 : decode b_S_run 125 = .ok (.iload 5, 2) := dk da_S_run 68 rfl
theorem d_S_run_127 : decode b_S_run 127 = .ok (.aload_n 0, 1) := dk da_S_run 69 rfl
theorem d_S_run_128 : decode b_S_run 128 = .ok (.getfield 9, 3) := dk da_S_run 70 rfl
theorem d_S_run_131 : decode b_S_run 131 = .ok (.iload 6, 2) := dk da_S_run 71 rfl
theorem d_S_run_133 : decode b_S_run 133 = .ok (.iaload, 1) := dk da_S_run 72 rfl
theorem d_S_run_134 : decode b_S_run 134 = .ok (.iastore, 1) := dk da_S_run 73 rfl
theorem d_S_run_135 : decode b_S_run 135 = .ok (.aload_n 0, 1) := dk da_S_run 74 rfl
theorem d_S_run_136 : decode b_S_run 136 = .ok (.getfield 9, 3) := dk da_S_run 75 rfl
theorem d_S_run_139 : decode b_S_run 139 = .ok (.iload 6, 2) := dk da_S_run 76 rfl
theorem d_S_run_141 : decode b_S_run 141 = .ok (.iload 7, 2) := dk da_S_run 77 rfl
theorem d_S_run_143 : decode b_S_run 143 = .ok (.iastore, 1) := dk da_S_run 78 rfl
theorem d_S_run_144 : decode b_S_run 144 = .ok (.iinc 5 1, 3) := dk da_S_run 79 rfl
theorem d_S_run_147 : decode b_S_run 147 = .ok (.iinc 6 (-1), 3) := dk da_S_run 80 rfl
theorem d_S_run_150 : decode b_S_run 150 = .ok (.goto (-45), 3) := dk da_S_run 81 rfl
theorem d_S_run_153 : decode b_S_run 153 = .ok (.iload_n 3, 1) := dk da_S_run 82 rfl
theorem d_S_run_154 : decode b_S_run 154 = .ok (.iload_n 1, 1) := dk da_S_run 83 rfl
theorem d_S_run_155 : decode b_S_run 155 = .ok (.isub, 1) := dk da_S_run 84 rfl
theorem d_S_run_156 : decode b_S_run 156 = .ok (.ireturn, 1) := dk da_S_run 85 rfl
def dl_S_insertion : List (Nat × Instr × Nat) := [(0, .iload_n 2, 1), (1, .istore 4, 2), (3, .iload 4, 2), (5, .iload_n 3, 1), (6, .if_icmp .ge 120, 3), (9, .aload_n 0, 1), (10, .getfield 9, 3), (13, .iload 4, 2), (15, .iaload, 1), (16, .istore 5, 2), (18, .iload_n 1, 1), (19, .istore 6, 2), (21, .iload 4, 2), (23, .istore 7, 2), (25, .iload 6, 2), (27, .iload 7, 2), (29, .if_icmp .ge 49, 3), (32, .iload 6, 2), (34, .iload 7, 2), (36, .iadd, 1), (37, .iconst 1, 1), (38, .iushr, 1), (39, .istore 8, 2), (41, .aload_n 0, 1), (42, .getfield 24, 3), (45, .iload 5, 2), (47, .aload_n 0, 1), (48, .getfield 9, 3), (51, .iload 8, 2), (53, .iaload, 1), (54, .invokeinterface 54 3, 5), (59, .ifCond .ge 10, 3), (62, .iload 8, 2), (64, .istore 7, 2), (66, .goto 9, 3), (69, .iload 8, 2), (71, .iconst 1, 1), (72, .iadd, 1), (73, .istore 6, 2), (75, .goto (-50), 3), (78, .iload 4, 2), (80, .istore 8, 2), (82, .iload 8, 2), (84, .iload 6, 2), (86, .if_icmp .le 25, 3), (89, .aload_n 0, 1), (90, .getfield 9, 3), (93, .iload 8, 2), (95, .aload_n 0, 1), (96, .getfield 9, 3), (99, .iload 8, 2), (101, .iconst 1, 1), (102, .isub, 1), (103, .iaload, 1), (104, .iastore, 1), (105, .iinc 8 (-1), 3), (108, .goto (-26), 3), (111, .aload_n 0, 1), (112, .getfield 9, 3), (115, .iload 6, 2), (117, .iload 5, 2), (119, .iastore, 1), (120, .iinc 4 1, 3), (123, .goto (-120), 3), (126, .return_, 1)]
set_option maxRecDepth 100000 in
theorem da_S_insertion : (dl_S_insertion.all fun q => decide (decode b_S_insertion q.1 = .ok q.2)) = true := by decide +kernel
theorem d_S_insertion_0 : decode b_S_insertion 0 = .ok (.iload_n 2, 1) := dk da_S_insertion 0 rfl
theorem d_S_insertion_1 : decode b_S_insertion 1 = .ok (.istore 4, 2) := dk da_S_insertion 1 rfl
theorem d_S_insertion_3 : decode b_S_insertion 3 = .ok (.iload 4, 2) := dk da_S_insertion 2 rfl
theorem d_S_insertion_5 : decode b_S_insertion 5 = .ok (.iload_n 3, 1) := dk da_S_insertion 3 rfl
theorem d_S_insertion_6 : decode b_S_insertion 6 = .ok (.if_icmp .ge 120, 3) := dk da_S_insertion 4 rfl
theorem d_S_insertion_9 : decode b_S_insertion 9 = .ok (.aload_n 0, 1) := dk da_S_insertion 5 rfl
theorem d_S_insertion_10 : decode b_S_insertion 10 = .ok (.getfield 9, 3) := dk da_S_insertion 6 rfl
theorem d_S_insertion_13 : decode b_S_insertion 13 = .ok (.iload 4, 2) := dk da_S_insertion 7 rfl
theorem d_S_insertion_15 : decode b_S_insertion 15 = .ok (.iaload, 1) := dk da_S_insertion 8 rfl
theorem d_S_insertion_16 : decode b_S_insertion 16 = .ok (.istore 5, 2) := dk da_S_insertion 9 rfl
theorem d_S_insertion_18 : decode b_S_insertion 18 = .ok (.iload_n 1, 1) := dk da_S_insertion 10 rfl
theorem d_S_insertion_19 : decode b_S_insertion 19 = .ok (.istore 6, 2) := dk da_S_insertion 11 rfl
theorem d_S_insertion_21 : decode b_S_insertion 21 = .ok (.iload 4, 2) := dk da_S_insertion 12 rfl
theorem d_S_insertion_23 : decode b_S_insertion 23 = .ok (.istore 7, 2) := dk da_S_insertion 13 rfl
theorem d_S_insertion_25 : decode b_S_insertion 25 = .ok (.iload 6, 2) := dk da_S_insertion 14 rfl
theorem d_S_insertion_27 : decode b_S_insertion 27 = .ok (.iload 7, 2) := dk da_S_insertion 15 rfl
theorem d_S_insertion_29 : decode b_S_insertion 29 = .ok (.if_icmp .ge 49, 3) := dk da_S_insertion 16 rfl
theorem d_S_insertion_32 : decode b_S_insertion 32 = .ok (.iload 6, 2) := dk da_S_insertion 17 rfl
theorem d_S_insertion_34 : decode b_S_insertion 34 = .ok (.iload 7, 2) := dk da_S_insertion 18 rfl
theorem d_S_insertion_36 : decode b_S_insertion 36 = .ok (.iadd, 1) := dk da_S_insertion 19 rfl
theorem d_S_insertion_37 : decode b_S_insertion 37 = .ok (.iconst 1, 1) := dk da_S_insertion 20 rfl
theorem d_S_insertion_38 : decode b_S_insertion 38 = .ok (.iushr, 1) := dk da_S_insertion 21 rfl
theorem d_S_insertion_39 : decode b_S_insertion 39 = .ok (.istore 8, 2) := dk da_S_insertion 22 rfl
theorem d_S_insertion_41 : decode b_S_insertion 41 = .ok (.aload_n 0, 1) := dk da_S_insertion 23 rfl
theorem d_S_insertion_42 : decode b_S_insertion 42 = .ok (.getfield 24, 3) := dk da_S_insertion 24 rfl
theorem d_S_insertion_45 : decode b_S_insertion 45 = .ok (.iload 5, 2) := dk da_S_insertion 25 rfl
theorem d_S_insertion_47 : decode b_S_insertion 47 = .ok (.aload_n 0, 1) := dk da_S_insertion 26 rfl
theorem d_S_insertion_48 : decode b_S_insertion 48 = .ok (.getfield 9, 3) := dk da_S_insertion 27 rfl
theorem d_S_insertion_51 : decode b_S_insertion 51 = .ok (.iload 8, 2) := dk da_S_insertion 28 rfl
theorem d_S_insertion_53 : decode b_S_insertion 53 = .ok (.iaload, 1) := dk da_S_insertion 29 rfl
theorem d_S_insertion_54 : decode b_S_insertion 54 = .ok (.invokeinterface 54 3, 5) := dk da_S_insertion 30 rfl
theorem d_S_insertion_59 : decode b_S_insertion 59 = .ok (.ifCond .ge 10, 3) := dk da_S_insertion 31 rfl
theorem d_S_insertion_62 : decode b_S_insertion 62 = .ok (.iload 8, 2) := dk da_S_insertion 32 rfl
theorem d_S_insertion_64 : decode b_S_insertion 64 = .ok (.istore 7, 2) := dk da_S_insertion 33 rfl
theorem d_S_insertion_66 : decode b_S_insertion 66 = .ok (.goto 9, 3) := dk da_S_insertion 34 rfl
theorem d_S_insertion_69 : decode b_S_insertion 69 = .ok (.iload 8, 2) := dk da_S_insertion 35 rfl
theorem d_S_insertion_71 : decode b_S_insertion 71 = .ok (.iconst 1, 1) := dk da_S_insertion 36 rfl
theorem d_S_insertion_72 : decode b_S_insertion 72 = .ok (.iadd, 1) := dk da_S_insertion 37 rfl
theorem d_S_insertion_73 : decode b_S_insertion 73 = .ok (.istore 6, 2) := dk da_S_insertion 38 rfl
theorem d_S_insertion_75 : decode b_S_insertion 75 = .ok (.goto (-50), 3) := dk da_S_insertion 39 rfl
theorem d_S_insertion_78 : decode b_S_insertion 78 = .ok (.iload 4, 2) := dk da_S_insertion 40 rfl
theorem d_S_insertion_80 : decode b_S_insertion 80 = .ok (.istore 8, 2) := dk da_S_insertion 41 rfl
theorem d_S_insertion_82 : decode b_S_insertion 82 = .ok (.iload 8, 2) := dk da_S_insertion 42 rfl
theorem d_S_insertion_84 : decode b_S_insertion 84 = .ok (.iload 6, 2) := dk da_S_insertion 43 rfl
theorem d_S_insertion_86 : decode b_S_insertion 86 = .ok (.if_icmp .le 25, 3) := dk da_S_insertion 44 rfl
theorem d_S_insertion_89 : decode b_S_insertion 89 = .ok (.aload_n 0, 1) := dk da_S_insertion 45 rfl
theorem d_S_insertion_90 : decode b_S_insertion 90 = .ok (.getfield 9, 3) := dk da_S_insertion 46 rfl
theorem d_S_insertion_93 : decode b_S_insertion 93 = .ok (.iload 8, 2) := dk da_S_insertion 47 rfl
theorem d_S_insertion_95 : decode b_S_insertion 95 = .ok (.aload_n 0, 1) := dk da_S_insertion 48 rfl
theorem d_S_insertion_96 : decode b_S_insertion 96 = .ok (.getfield 9, 3) := dk da_S_insertion 49 rfl
theorem d_S_insertion_99 : decode b_S_insertion 99 = .ok (.iload 8, 2) := dk da_S_insertion 50 rfl
theorem d_S_insertion_101 : decode b_S_insertion 101 = .ok (.iconst 1, 1) := dk da_S_insertion 51 rfl
theorem d_S_insertion_102 : decode b_S_insertion 102 = .ok (.isub, 1) := dk da_S_insertion 52 rfl
theorem d_S_insertion_103 : decode b_S_insertion 103 = .ok (.iaload, 1) := dk da_S_insertion 53 rfl
theorem d_S_insertion_104 : decode b_S_insertion 104 = .ok (.iastore, 1) := dk da_S_insertion 54 rfl
theorem d_S_insertion_105 : decode b_S_insertion 105 = .ok (.iinc 8 (-1), 3) := dk da_S_insertion 55 rfl
theorem d_S_insertion_108 : decode b_S_insertion 108 = .ok (.goto (-26), 3) := dk da_S_insertion 56 rfl
theorem d_S_insertion_111 : decode b_S_insertion 111 = .ok (.aload_n 0, 1) := dk da_S_insertion 57 rfl
theorem d_S_insertion_112 : decode b_S_insertion 112 = .ok (.getfield 9, 3) := dk da_S_insertion 58 rfl
theorem d_S_insertion_115 : decode b_S_insertion 115 = .ok (.iload 6, 2) := dk da_S_insertion 59 rfl
theorem d_S_insertion_117 : decode b_S_insertion 117 = .ok (.iload 5, 2) := dk da_S_insertion 60 rfl
theorem d_S_insertion_119 : decode b_S_insertion 119 = .ok (.iastore, 1) := dk da_S_insertion 61 rfl
theorem d_S_insertion_120 : decode b_S_insertion 120 = .ok (.iinc 4 1, 3) := dk da_S_insertion 62 rfl
theorem d_S_insertion_123 : decode b_S_insertion 123 = .ok (.goto (-120), 3) := dk da_S_insertion 63 rfl
theorem d_S_insertion_126 : decode b_S_insertion 126 = .ok (.return_, 1) := dk da_S_insertion 64 rfl
def dl_S_settle : List (Nat × Instr × Nat) := [(0, .aload_n 0, 1), (1, .getfield 28, 3), (4, .iconst 1, 1), (5, .if_icmp .le 143, 3), (8, .aload_n 0, 1), (9, .getfield 28, 3), (12, .iconst 2, 1), (13, .isub, 1), (14, .istore_n 1, 1), (15, .iload_n 1, 1), (16, .ifCond .le 29, 3), (19, .aload_n 0, 1), (20, .getfield 21, 3), (23, .iload_n 1, 1), (24, .iconst 1, 1), (25, .isub, 1), (26, .iaload, 1), (27, .aload_n 0, 1), (28, .getfield 21, 3), (31, .iload_n 1, 1), (32, .iaload, 1), (33, .aload_n 0, 1), (34, .getfield 21, 3), (37, .iload_n 1, 1), (38, .iconst 1, 1), (39, .iadd, 1), (40, .iaload, 1), (41, .iadd, 1), (42, .if_icmp .le 34, 3), (45, .iload_n 1, 1), (46, .iconst 1, 1), (47, .if_icmp .le 33, 3), (50, .aload_n 0, 1), (51, .getfield 21, 3), (54, .iload_n 1, 1), (55, .iconst 2, 1), (56, .isub, 1), (57, .iaload, 1), (58, .aload_n 0, 1), (59, .getfield 21, 3), (62, .iload_n 1, 1), (63, .iconst 1, 1), (64, .isub, 1), (65, .iaload, 1), (66, .aload_n 0, 1), (67, .getfield 21, 3), (70, .iload_n 1, 1), (71, .iaload, 1), (72, .iadd, 1), (73, .if_icmp .gt 7, 3), (76, .iconst 1, 1), (77, .goto 4, 3), (80, .iconst 0, 1), (81, .istore_n 2, 1), (82, .iload_n 2, 1), (83, .ifCond .eq 36, 3), (86, .aload_n 0, 1), (87, .aload_n 0, 1), (88, .getfield 21, 3), (91, .iload_n 1, 1), (92, .iconst 1, 1), (93, .isub, 1), (94, .iaload, 1), (95, .aload_n 0, 1), (96, .getfield 21, 3), (99, .iload_n 1, 1), (100, .iconst 1, 1), (101, .iadd, 1), (102, .iaload, 1), (103, .if_icmp .ge 9, 3), (106, .iload_n 1, 1), (107, .iconst 1, 1), (108, .isub, 1), (109, .goto 4, 3), (112, .iload_n 1, 1), (113, .invokevirtual 50, 3), (116, .goto 29, 3), (119, .aload_n 0, 1), (120, .getfield 21, 3), (123, .iload_n 1, 1), (124, .iaload, 1), (125, .aload_n 0, 1), (126, .getfield 21, 3), (129, .iload_n 1, 1), (130, .iconst 1, 1), (131, .iadd, 1), (132, .iaload, 1), (133, .if_icmp .gt 11, 3), (136, .aload_n 0, 1), (137, .iload_n 1, 1), (138, .invokevirtual 50, 3), (141, .goto 4, 3), (144, .return_, 1), (145, .goto (-145), 3), (148, .return_, 1)]
set_option maxRecDepth 100000 in
theorem da_S_settle : (dl_S_settle.all fun q => decide (decode b_S_settle q.1 = .ok q.2)) = true := by decide +kernel
theorem d_S_settle_0 : decode b_S_settle 0 = .ok (.aload_n 0, 1) := dk da_S_settle 0 rfl
theorem d_S_settle_1 : decode b_S_settle 1 = .ok (.getfield 28, 3) := dk da_S_settle 1 rfl
theorem d_S_settle_4 : decode b_S_settle 4 = .ok (.iconst 1, 1) := dk da_S_settle 2 rfl
theorem d_S_settle_5 : decode b_S_settle 5 = .ok (.if_icmp .le 143, 3) := dk da_S_settle 3 rfl
theorem d_S_settle_8 : decode b_S_settle 8 = .ok (.aload_n 0, 1) := dk da_S_settle 4 rfl
theorem d_S_settle_9 : decode b_S_settle 9 = .ok (.getfield 28, 3) := dk da_S_settle 5 rfl
theorem d_S_settle_12 : decode b_S_settle 12 = .ok (.iconst 2, 1) := dk da_S_settle 6 rfl
theorem d_S_settle_13 : decode b_S_settle 13 = .ok (.isub, 1) := dk da_S_settle 7 rfl
theorem d_S_settle_14 : decode b_S_settle 14 = .ok (.istore_n 1, 1) := dk da_S_settle 8 rfl
theorem d_S_settle_15 : decode b_S_settle 15 = .ok (.iload_n 1, 1) := dk da_S_settle 9 rfl
theorem d_S_settle_16 : decode b_S_settle 16 = .ok (.ifCond .le 29, 3) := dk da_S_settle 10 rfl
theorem d_S_settle_19 : decode b_S_settle 19 = .ok (.aload_n 0, 1) := dk da_S_settle 11 rfl
theorem d_S_settle_20 : decode b_S_settle 20 = .ok (.getfield 21, 3) := dk da_S_settle 12 rfl
theorem d_S_settle_23 : decode b_S_settle 23 = .ok (.iload_n 1, 1) := dk da_S_settle 13 rfl
theorem d_S_settle_24 : decode b_S_settle 24 = .ok (.iconst 1, 1) := dk da_S_settle 14 rfl
theorem d_S_settle_25 : decode b_S_settle 25 = .ok (.isub, 1) := dk da_S_settle 15 rfl
theorem d_S_settle_26 : decode b_S_settle 26 = .ok (.iaload, 1) := dk da_S_settle 16 rfl
theorem d_S_settle_27 : decode b_S_settle 27 = .ok (.aload_n 0, 1) := dk da_S_settle 17 rfl
theorem d_S_settle_28 : decode b_S_settle 28 = .ok (.getfield 21, 3) := dk da_S_settle 18 rfl
theorem d_S_settle_31 : decode b_S_settle 31 = .ok (.iload_n 1, 1) := dk da_S_settle 19 rfl
theorem d_S_settle_32 : decode b_S_settle 32 = .ok (.iaload, 1) := dk da_S_settle 20 rfl
theorem d_S_settle_33 : decode b_S_settle 33 = .ok (.aload_n 0, 1) := dk da_S_settle 21 rfl
theorem d_S_settle_34 : decode b_S_settle 34 = .ok (.getfield 21, 3) := dk da_S_settle 22 rfl
theorem d_S_settle_37 : decode b_S_settle 37 = .ok (.iload_n 1, 1) := dk da_S_settle 23 rfl
theorem d_S_settle_38 : decode b_S_settle 38 = .ok (.iconst 1, 1) := dk da_S_settle 24 rfl
theorem d_S_settle_39 : decode b_S_settle 39 = .ok (.iadd, 1) := dk da_S_settle 25 rfl
theorem d_S_settle_40 : decode b_S_settle 40 = .ok (.iaload, 1) := dk da_S_settle 26 rfl
theorem d_S_settle_41 : decode b_S_settle 41 = .ok (.iadd, 1) := dk da_S_settle 27 rfl
theorem d_S_settle_42 : decode b_S_settle 42 = .ok (.if_icmp .le 34, 3) := dk da_S_settle 28 rfl
theorem d_S_settle_45 : decode b_S_settle 45 = .ok (.iload_n 1, 1) := dk da_S_settle 29 rfl
theorem d_S_settle_46 : decode b_S_settle 46 = .ok (.iconst 1, 1) := dk da_S_settle 30 rfl
theorem d_S_settle_47 : decode b_S_settle 47 = .ok (.if_icmp .le 33, 3) := dk da_S_settle 31 rfl
theorem d_S_settle_50 : decode b_S_settle 50 = .ok (.aload_n 0, 1) := dk da_S_settle 32 rfl
theorem d_S_settle_51 : decode b_S_settle 51 = .ok (.getfield 21, 3) := dk da_S_settle 33 rfl
theorem d_S_settle_54 : decode b_S_settle 54 = .ok (.iload_n 1, 1) := dk da_S_settle 34 rfl
theorem d_S_settle_55 : decode b_S_settle 55 = .ok (.iconst 2, 1) := dk da_S_settle 35 rfl
theorem d_S_settle_56 : decode b_S_settle 56 = .ok (.isub, 1) := dk da_S_settle 36 rfl
theorem d_S_settle_57 : decode b_S_settle 57 = .ok (.iaload, 1) := dk da_S_settle 37 rfl
theorem d_S_settle_58 : decode b_S_settle 58 = .ok (.aload_n 0, 1) := dk da_S_settle 38 rfl
theorem d_S_settle_59 : decode b_S_settle 59 = .ok (.getfield 21, 3) := dk da_S_settle 39 rfl
theorem d_S_settle_62 : decode b_S_settle 62 = .ok (.iload_n 1, 1) := dk da_S_settle 40 rfl
theorem d_S_settle_63 : decode b_S_settle 63 = .ok (.iconst 1, 1) := dk da_S_settle 41 rfl
theorem d_S_settle_64 : decode b_S_settle 64 = .ok (.isub, 1) := dk da_S_settle 42 rfl
theorem d_S_settle_65 : decode b_S_settle 65 = .ok (.iaload, 1) := dk da_S_settle 43 rfl
theorem d_S_settle_66 : decode b_S_settle 66 = .ok (.aload_n 0, 1) := dk da_S_settle 44 rfl
theorem d_S_settle_67 : decode b_S_settle 67 = .ok (.getfield 21, 3) := dk da_S_settle 45 rfl
theorem d_S_settle_70 : decode b_S_settle 70 = .ok (.iload_n 1, 1) := dk da_S_settle 46 rfl
theorem d_S_settle_71 : decode b_S_settle 71 = .ok (.iaload, 1) := dk da_S_settle 47 rfl
theorem d_S_settle_72 : decode b_S_settle 72 = .ok (.iadd, 1) := dk da_S_settle 48 rfl
theorem d_S_settle_73 : decode b_S_settle 73 = .ok (.if_icmp .gt 7, 3) := dk da_S_settle 49 rfl
theorem d_S_settle_76 : decode b_S_settle 76 = .ok (.iconst 1, 1) := dk da_S_settle 50 rfl
theorem d_S_settle_77 : decode b_S_settle 77 = .ok (.goto 4, 3) := dk da_S_settle 51 rfl
theorem d_S_settle_80 : decode b_S_settle 80 = .ok (.iconst 0, 1) := dk da_S_settle 52 rfl
theorem d_S_settle_81 : decode b_S_settle 81 = .ok (.istore_n 2, 1) := dk da_S_settle 53 rfl
theorem d_S_settle_82 : decode b_S_settle 82 = .ok (.iload_n 2, 1) := dk da_S_settle 54 rfl
theorem d_S_settle_83 : decode b_S_settle 83 = .ok (.ifCond .eq 36, 3) := dk da_S_settle 55 rfl
theorem d_S_settle_86 : decode b_S_settle 86 = .ok (.aload_n 0, 1) := dk da_S_settle 56 rfl
theorem d_S_settle_87 : decode b_S_settle 87 = .ok (.aload_n 0, 1) := dk da_S_settle 57 rfl
theorem d_S_settle_88 : decode b_S_settle 88 = .ok (.getfield 21, 3) := dk da_S_settle 58 rfl
theorem d_S_settle_91 : decode b_S_settle 91 = .ok (.iload_n 1, 1) := dk da_S_settle 59 rfl
theorem d_S_settle_92 : decode b_S_settle 92 = .ok (.iconst 1, 1) := dk da_S_settle 60 rfl
theorem d_S_settle_93 : decode b_S_settle 93 = .ok (.isub, 1) := dk da_S_settle 61 rfl
theorem d_S_settle_94 : decode b_S_settle 94 = .ok (.iaload, 1) := dk da_S_settle 62 rfl
theorem d_S_settle_95 : decode b_S_settle 95 = .ok (.aload_n 0, 1) := dk da_S_settle 63 rfl
theorem d_S_settle_96 : decode b_S_settle 96 = .ok (.getfield 21, 3) := dk da_S_settle 64 rfl
theorem d_S_settle_99 : decode b_S_settle 99 = .ok (.iload_n 1, 1) := dk da_S_settle 65 rfl
theorem d_S_settle_100 : decode b_S_settle 100 = .ok (.iconst 1, 1) := dk da_S_settle 66 rfl
theorem d_S_settle_101 : decode b_S_settle 101 = .ok (.iadd, 1) := dk da_S_settle 67 rfl
theorem d_S_settle_102 : decode b_S_settle 102 = .ok (.iaload, 1) := dk da_S_settle 68 rfl
theorem d_S_settle_103 : decode b_S_settle 103 = .ok (.if_icmp .ge 9, 3) := dk da_S_settle 69 rfl
theorem d_S_settle_106 : decode b_S_settle 106 = .ok (.iload_n 1, 1) := dk da_S_settle 70 rfl
theorem d_S_settle_107 : decode b_S_settle 107 = .ok (.iconst 1, 1) := dk da_S_settle 71 rfl
theorem d_S_settle_108 : decode b_S_settle 108 = .ok (.isub, 1) := dk da_S_settle 72 rfl
theorem d_S_settle_109 : decode b_S_settle 109 = .ok (.goto 4, 3) := dk da_S_settle 73 rfl
theorem d_S_settle_112 : decode b_S_settle 112 = .ok (.iload_n 1, 1) := dk da_S_settle 74 rfl
theorem d_S_settle_113 : decode b_S_settle 113 = .ok (.invokevirtual 50, 3) := dk da_S_settle 75 rfl
theorem d_S_settle_116 : decode b_S_settle 116 = .ok (.goto 29, 3) := dk da_S_settle 76 rfl
theorem d_S_settle_119 : decode b_S_settle 119 = .ok (.aload_n 0, 1) := dk da_S_settle 77 rfl
theorem d_S_settle_120 : decode b_S_settle 120 = .ok (.getfield 21, 3) := dk da_S_settle 78 rfl
theorem d_S_settle_123 : decode b_S_settle 123 = .ok (.iload_n 1, 1) := dk da_S_settle 79 rfl
theorem d_S_settle_124 : decode b_S_settle 124 = .ok (.iaload, 1) := dk da_S_settle 80 rfl
theorem d_S_settle_125 : decode b_S_settle 125 = .ok (.aload_n 0, 1) := dk da_S_settle 81 rfl
theorem d_S_settle_126 : decode b_S_settle 126 = .ok (.getfield 21, 3) := dk da_S_settle 82 rfl
theorem d_S_settle_129 : decode b_S_settle 129 = .ok (.iload_n 1, 1) := dk da_S_settle 83 rfl
theorem d_S_settle_130 : decode b_S_settle 130 = .ok (.iconst 1, 1) := dk da_S_settle 84 rfl
theorem d_S_settle_131 : decode b_S_settle 131 = .ok (.iadd, 1) := dk da_S_settle 85 rfl
theorem d_S_settle_132 : decode b_S_settle 132 = .ok (.iaload, 1) := dk da_S_settle 86 rfl
theorem d_S_settle_133 : decode b_S_settle 133 = .ok (.if_icmp .gt 11, 3) := dk da_S_settle 87 rfl
theorem d_S_settle_136 : decode b_S_settle 136 = .ok (.aload_n 0, 1) := dk da_S_settle 88 rfl
theorem d_S_settle_137 : decode b_S_settle 137 = .ok (.iload_n 1, 1) := dk da_S_settle 89 rfl
theorem d_S_settle_138 : decode b_S_settle 138 = .ok (.invokevirtual 50, 3) := dk da_S_settle 90 rfl
theorem d_S_settle_141 : decode b_S_settle 141 = .ok (.goto 4, 3) := dk da_S_settle 91 rfl
theorem d_S_settle_144 : decode b_S_settle 144 = .ok (.return_, 1) := dk da_S_settle 92 rfl
theorem d_S_settle_145 : decode b_S_settle 145 = .ok (.goto (-145), 3) := dk da_S_settle 93 rfl
theorem d_S_settle_148 : decode b_S_settle 148 = .ok (.return_, 1) := dk da_S_settle 94 rfl
def dl_S_merge : List (Nat × Instr × Nat) := [(0, .aload_n 0, 1), (1, .getfield 18, 3), (4, .iload_n 1, 1), (5, .iaload, 1), (6, .istore_n 2, 1), (7, .aload_n 0, 1), (8, .getfield 21, 3), (11, .iload_n 1, 1), (12, .iaload, 1), (13, .istore_n 3, 1), (14, .aload_n 0, 1), (15, .getfield 18, 3), (18, .iload_n 1, 1), (19, .iconst 1, 1), (20, .iadd, 1), (21, .iaload, 1), (22, .istore 4, 2), (24, .aload_n 0, 1), (25, .getfield 21, 3), (28, .iload_n 1, 1), (29, .iconst 1, 1), (30, .iadd, 1), (31, .iaload, 1), (32, .istore 5, 2), (34, .aload_n 0, 1), (35, .getfield 21, 3), (38, .iload_n 1, 1), (39, .iload_n 3, 1), (40, .iload 5, 2), (42, .iadd, 1), (43, .iastore, 1), (44, .iload_n 1, 1), (45, .iconst 1, 1), (46, .iadd, 1), (47, .istore 6, 2), (49, .iload 6, 2), (51, .iconst 1, 1), (52, .iadd, 1), (53, .aload_n 0, 1), (54, .getfield 28, 3), (57, .if_icmp .ge 41, 3), (60, .aload_n 0, 1), (61, .getfield 18, 3), (64, .iload 6, 2), (66, .aload_n 0, 1), (67, .getfield 18, 3), (70, .iload 6, 2), (72, .iconst 1, 1), (73, .iadd, 1), (74, .iaload, 1), (75, .iastore, 1), (76, .aload_n 0, 1), (77, .getfield 21, 3), (80, .iload 6, 2), (82, .aload_n 0, 1), (83, .getfield 21, 3), (86, .iload 6, 2), (88, .iconst 1, 1), (89, .iadd, 1), (90, .iaload, 1), (91, .iastore, 1), (92, .iinc 6 1, 3), (95, .goto (-46), 3), (98, .aload_n 0, 1), (99, .dup, 1), (100, .getfield 28, 3), (103, .iconst 1, 1), (104, .isub, 1), (105, .putfield 28, 3), (108, .aload_n 0, 1), (109, .aload_n 0, 1), (110, .getfield 9, 3), (113, .iload 4, 2), (115, .iaload, 1), (116, .iload_n 2, 1), (117, .iload_n 3, 1), (118, .invokevirtual 59, 3), (121, .istore 6, 2), (123, .iload_n 2, 1), (124, .iload 6, 2), (126, .iadd, 1), (127, .istore_n 2, 1), (128, .iload_n 3, 1), (129, .iload 6, 2), (131, .isub, 1), (132, .istore_n 3, 1), (133, .iload_n 3, 1), (134, .ifCond .ne 4, 3), (137, .return_, 1), (138, .aload_n 0, 1), (139, .aload_n 0, 1), (140, .getfield 9, 3), (143, .iload_n 2, 1), (144, .iload_n 3, 1), (145, .iadd, 1), (146, .iconst 1, 1), (147, .isub, 1), (148, .iaload, 1), (149, .iload 4, 2), (151, .iload 5, 2), (153, .invokevirtual 63, 3), (156, .istore 5, 2), (158, .iload 5, 2), (160, .ifCond .ne 4, 3), (163, .return_, 1), (164, .iload_n 3, 1), (165, .iload 5, 2), (167, .if_icmp .gt 16, 3), (170, .aload_n 0, 1), (171, .iload_n 2, 1), (172, .iload_n 3, 1), (173, .iload 4, 2), (175, .iload 5, 2), (177, .invokevirtual 66, 3), (180, .goto 13, 3), (183, .aload_n 0, 1), (184, .iload_n 2, 1), (185, .iload_n 3, 1), (186, .iload 4, 2), (188, .iload 5, 2), (190, .invokevirtual 70, 3), (193, .return_, 1)]
set_option maxRecDepth 100000 in
theorem da_S_merge : (dl_S_merge.all fun q => decide (decode b_S_merge q.1 = .ok q.2)) = true := by decide +kernel
theorem d_S_merge_0 : decode b_S_merge 0 = .ok (.aload_n 0, 1) := dk da_S_merge 0 rfl
theorem d_S_merge_1 : decode b_S_merge 1 = .ok (.getfield 18, 3) := dk da_S_merge 1 rfl
theorem d_S_merge_4 : decode b_S_merge 4 = .ok (.iload_n 1, 1) := dk da_S_merge 2 rfl
theorem d_S_merge_5 : decode b_S_merge 5 = .ok (.iaload, 1) := dk da_S_merge 3 rfl
theorem d_S_merge_6 : decode b_S_merge 6 = .ok (.istore_n 2, 1) := dk da_S_merge 4 rfl
theorem d_S_merge_7 : decode b_S_merge 7 = .ok (.aload_n 0, 1) := dk da_S_merge 5 rfl
theorem d_S_merge_8 : decode b_S_merge 8 = .ok (.getfield 21, 3) := dk da_S_merge 6 rfl
theorem d_S_merge_11 : decode b_S_merge 11 = .ok (.iload_n 1, 1) := dk da_S_merge 7 rfl
theorem d_S_merge_12 : decode b_S_merge 12 = .ok (.iaload, 1) := dk da_S_merge 8 rfl
theorem d_S_merge_13 : decode b_S_merge 13 = .ok (.istore_n 3, 1) := dk da_S_merge 9 rfl
theorem d_S_merge_14 : decode b_S_merge 14 = .ok (.aload_n 0, 1) := dk da_S_merge 10 rfl
theorem d_S_merge_15 : decode b_S_merge 15 = .ok (.getfield 18, 3) := dk da_S_merge 11 rfl
theorem d_S_merge_18 : decode b_S_merge 18 = .ok (.iload_n 1, 1) := dk da_S_merge 12 rfl
theorem d_S_merge_19 : decode b_S_merge 19 = .ok (.iconst 1, 1) := dk da_S_merge 13 rfl
theorem d_S_merge_20 : decode b_S_merge 20 = .ok (.iadd, 1) := dk da_S_merge 14 rfl
theorem d_S_merge_21 : decode b_S_merge 21 = .ok (.iaload, 1) := dk da_S_merge 15 rfl
theorem d_S_merge_22 : decode b_S_merge 22 = .ok (.istore 4, 2) := dk da_S_merge 16 rfl
theorem d_S_merge_24 : decode b_S_merge 24 = .ok (.aload_n 0, 1) := dk da_S_merge 17 rfl
theorem d_S_merge_25 : decode b_S_merge 25 = .ok (.getfield 21, 3) := dk da_S_merge 18 rfl
theorem d_S_merge_28 : decode b_S_merge 28 = .ok (.iload_n 1, 1) := dk da_S_merge 19 rfl
theorem d_S_merge_29 : decode b_S_merge 29 = .ok (.iconst 1, 1) := dk da_S_merge 20 rfl
theorem d_S_merge_30 : decode b_S_merge 30 = .ok (.iadd, 1) := dk da_S_merge 21 rfl
theorem d_S_merge_31 : decode b_S_merge 31 = .ok (.iaload, 1) := dk da_S_merge 22 rfl
theorem d_S_merge_32 : decode b_S_merge 32 = .ok (.istore 5, 2) := dk da_S_merge 23 rfl
theorem d_S_merge_34 : decode b_S_merge 34 = .ok (.aload_n 0, 1) := dk da_S_merge 24 rfl
theorem d_S_merge_35 : decode b_S_merge 35 = .ok (.getfield 21, 3) := dk da_S_merge 25 rfl
theorem d_S_merge_38 : decode b_S_merge 38 = .ok (.iload_n 1, 1) := dk da_S_merge 26 rfl
theorem d_S_merge_39 : decode b_S_merge 39 = .ok (.iload_n 3, 1) := dk da_S_merge 27 rfl
theorem d_S_merge_40 : decode b_S_merge 40 = .ok (.iload 5, 2) := dk da_S_merge 28 rfl
theorem d_S_merge_42 : decode b_S_merge 42 = .ok (.iadd, 1) := dk da_S_merge 29 rfl
theorem d_S_merge_43 : decode b_S_merge 43 = .ok (.iastore, 1) := dk da_S_merge 30 rfl
theorem d_S_merge_44 : decode b_S_merge 44 = .ok (.iload_n 1, 1) := dk da_S_merge 31 rfl
theorem d_S_merge_45 : decode b_S_merge 45 = .ok (.iconst 1, 1) := dk da_S_merge 32 rfl
theorem d_S_merge_46 : decode b_S_merge 46 = .ok (.iadd, 1) := dk da_S_merge 33 rfl
theorem d_S_merge_47 : decode b_S_merge 47 = .ok (.istore 6, 2) := dk da_S_merge 34 rfl
theorem d_S_merge_49 : decode b_S_merge 49 = .ok (.iload 6, 2) := dk da_S_merge 35 rfl
theorem d_S_merge_51 : decode b_S_merge 51 = .ok (.iconst 1, 1) := dk da_S_merge 36 rfl
theorem d_S_merge_52 : decode b_S_merge 52 = .ok (.iadd, 1) := dk da_S_merge 37 rfl
theorem d_S_merge_53 : decode b_S_merge 53 = .ok (.aload_n 0, 1) := dk da_S_merge 38 rfl
theorem d_S_merge_54 : decode b_S_merge 54 = .ok (.getfield 28, 3) := dk da_S_merge 39 rfl
theorem d_S_merge_57 : decode b_S_merge 57 = .ok (.if_icmp .ge 41, 3) := dk da_S_merge 40 rfl
theorem d_S_merge_60 : decode b_S_merge 60 = .ok (.aload_n 0, 1) := dk da_S_merge 41 rfl
theorem d_S_merge_61 : decode b_S_merge 61 = .ok (.getfield 18, 3) := dk da_S_merge 42 rfl
theorem d_S_merge_64 : decode b_S_merge 64 = .ok (.iload 6, 2) := dk da_S_merge 43 rfl
theorem d_S_merge_66 : decode b_S_merge 66 = .ok (.aload_n 0, 1) := dk da_S_merge 44 rfl
theorem d_S_merge_67 : decode b_S_merge 67 = .ok (.getfield 18, 3) := dk da_S_merge 45 rfl
theorem d_S_merge_70 : decode b_S_merge 70 = .ok (.iload 6, 2) := dk da_S_merge 46 rfl
theorem d_S_merge_72 : decode b_S_merge 72 = .ok (.iconst 1, 1) := dk da_S_merge 47 rfl
theorem d_S_merge_73 : decode b_S_merge 73 = .ok (.iadd, 1) := dk da_S_merge 48 rfl
theorem d_S_merge_74 : decode b_S_merge 74 = .ok (.iaload, 1) := dk da_S_merge 49 rfl
theorem d_S_merge_75 : decode b_S_merge 75 = .ok (.iastore, 1) := dk da_S_merge 50 rfl
theorem d_S_merge_76 : decode b_S_merge 76 = .ok (.aload_n 0, 1) := dk da_S_merge 51 rfl
theorem d_S_merge_77 : decode b_S_merge 77 = .ok (.getfield 21, 3) := dk da_S_merge 52 rfl
theorem d_S_merge_80 : decode b_S_merge 80 = .ok (.iload 6, 2) := dk da_S_merge 53 rfl
theorem d_S_merge_82 : decode b_S_merge 82 = .ok (.aload_n 0, 1) := dk da_S_merge 54 rfl
theorem d_S_merge_83 : decode b_S_merge 83 = .ok (.getfield 21, 3) := dk da_S_merge 55 rfl
theorem d_S_merge_86 : decode b_S_merge 86 = .ok (.iload 6, 2) := dk da_S_merge 56 rfl
theorem d_S_merge_88 : decode b_S_merge 88 = .ok (.iconst 1, 1) := dk da_S_merge 57 rfl
theorem d_S_merge_89 : decode b_S_merge 89 = .ok (.iadd, 1) := dk da_S_merge 58 rfl
theorem d_S_merge_90 : decode b_S_merge 90 = .ok (.iaload, 1) := dk da_S_merge 59 rfl
theorem d_S_merge_91 : decode b_S_merge 91 = .ok (.iastore, 1) := dk da_S_merge 60 rfl
theorem d_S_merge_92 : decode b_S_merge 92 = .ok (.iinc 6 1, 3) := dk da_S_merge 61 rfl
theorem d_S_merge_95 : decode b_S_merge 95 = .ok (.goto (-46), 3) := dk da_S_merge 62 rfl
theorem d_S_merge_98 : decode b_S_merge 98 = .ok (.aload_n 0, 1) := dk da_S_merge 63 rfl
theorem d_S_merge_99 : decode b_S_merge 99 = .ok (.dup, 1) := dk da_S_merge 64 rfl
theorem d_S_merge_100 : decode b_S_merge 100 = .ok (.getfield 28, 3) := dk da_S_merge 65 rfl
theorem d_S_merge_103 : decode b_S_merge 103 = .ok (.iconst 1, 1) := dk da_S_merge 66 rfl
theorem d_S_merge_104 : decode b_S_merge 104 = .ok (.isub, 1) := dk da_S_merge 67 rfl
theorem d_S_merge_105 : decode b_S_merge 105 = .ok (.putfield 28, 3) := dk da_S_merge 68 rfl
theorem d_S_merge_108 : decode b_S_merge 108 = .ok (.aload_n 0, 1) := dk da_S_merge 69 rfl
theorem d_S_merge_109 : decode b_S_merge 109 = .ok (.aload_n 0, 1) := dk da_S_merge 70 rfl
theorem d_S_merge_110 : decode b_S_merge 110 = .ok (.getfield 9, 3) := dk da_S_merge 71 rfl
theorem d_S_merge_113 : decode b_S_merge 113 = .ok (.iload 4, 2) := dk da_S_merge 72 rfl
theorem d_S_merge_115 : decode b_S_merge 115 = .ok (.iaload, 1) := dk da_S_merge 73 rfl
theorem d_S_merge_116 : decode b_S_merge 116 = .ok (.iload_n 2, 1) := dk da_S_merge 74 rfl
theorem d_S_merge_117 : decode b_S_merge 117 = .ok (.iload_n 3, 1) := dk da_S_merge 75 rfl
theorem d_S_merge_118 : decode b_S_merge 118 = .ok (.invokevirtual 59, 3) := dk da_S_merge 76 rfl
theorem d_S_merge_121 : decode b_S_merge 121 = .ok (.istore 6, 2) := dk da_S_merge 77 rfl
theorem d_S_merge_123 : decode b_S_merge 123 = .ok (.iload_n 2, 1) := dk da_S_merge 78 rfl
theorem d_S_merge_124 : decode b_S_merge 124 = .ok (.iload 6, 2) := dk da_S_merge 79 rfl
theorem d_S_merge_126 : decode b_S_merge 126 = .ok (.iadd, 1) := dk da_S_merge 80 rfl
theorem d_S_merge_127 : decode b_S_merge 127 = .ok (.istore_n 2, 1) := dk da_S_merge 81 rfl
theorem d_S_merge_128 : decode b_S_merge 128 = .ok (.iload_n 3, 1) := dk da_S_merge 82 rfl
theorem d_S_merge_129 : decode b_S_merge 129 = .ok (.iload 6, 2) := dk da_S_merge 83 rfl
theorem d_S_merge_131 : decode b_S_merge 131 = .ok (.isub, 1) := dk da_S_merge 84 rfl
theorem d_S_merge_132 : decode b_S_merge 132 = .ok (.istore_n 3, 1) := dk da_S_merge 85 rfl
theorem d_S_merge_133 : decode b_S_merge 133 = .ok (.iload_n 3, 1) := dk da_S_merge 86 rfl
theorem d_S_merge_134 : decode b_S_merge 134 = .ok (.ifCond .ne 4, 3) := dk da_S_merge 87 rfl
theorem d_S_merge_137 : decode b_S_merge 137 = .ok (.return_, 1) := dk da_S_merge 88 rfl
theorem d_S_merge_138 : decode b_S_merge 138 = .ok (.aload_n 0, 1) := dk da_S_merge 89 rfl
theorem d_S_merge_139 : decode b_S_merge 139 = .ok (.aload_n 0, 1) := dk da_S_merge 90 rfl
theorem d_S_merge_140 : decode b_S_merge 140 = .ok (.getfield 9, 3) := dk da_S_merge 91 rfl
theorem d_S_merge_143 : decode b_S_merge 143 = .ok (.iload_n 2, 1) := dk da_S_merge 92 rfl
theorem d_S_merge_144 : decode b_S_merge 144 = .ok (.iload_n 3, 1) := dk da_S_merge 93 rfl
theorem d_S_merge_145 : decode b_S_merge 145 = .ok (.iadd, 1) := dk da_S_merge 94 rfl
theorem d_S_merge_146 : decode b_S_merge 146 = .ok (.iconst 1, 1) := dk da_S_merge 95 rfl
theorem d_S_merge_147 : decode b_S_merge 147 = .ok (.isub, 1) := dk da_S_merge 96 rfl
theorem d_S_merge_148 : decode b_S_merge 148 = .ok (.iaload, 1) := dk da_S_merge 97 rfl
theorem d_S_merge_149 : decode b_S_merge 149 = .ok (.iload 4, 2) := dk da_S_merge 98 rfl
theorem d_S_merge_151 : decode b_S_merge 151 = .ok (.iload 5, 2) := dk da_S_merge 99 rfl
theorem d_S_merge_153 : decode b_S_merge 153 = .ok (.invokevirtual 63, 3) := dk da_S_merge 100 rfl
theorem d_S_merge_156 : decode b_S_merge 156 = .ok (.istore 5, 2) := dk da_S_merge 101 rfl
theorem d_S_merge_158 : decode b_S_merge 158 = .ok (.iload 5, 2) := dk da_S_merge 102 rfl
theorem d_S_merge_160 : decode b_S_merge 160 = .ok (.ifCond .ne 4, 3) := dk da_S_merge 103 rfl
theorem d_S_merge_163 : decode b_S_merge 163 = .ok (.return_, 1) := dk da_S_merge 104 rfl
theorem d_S_merge_164 : decode b_S_merge 164 = .ok (.iload_n 3, 1) := dk da_S_merge 105 rfl
theorem d_S_merge_165 : decode b_S_merge 165 = .ok (.iload 5, 2) := dk da_S_merge 106 rfl
theorem d_S_merge_167 : decode b_S_merge 167 = .ok (.if_icmp .gt 16, 3) := dk da_S_merge 107 rfl
theorem d_S_merge_170 : decode b_S_merge 170 = .ok (.aload_n 0, 1) := dk da_S_merge 108 rfl
theorem d_S_merge_171 : decode b_S_merge 171 = .ok (.iload_n 2, 1) := dk da_S_merge 109 rfl
theorem d_S_merge_172 : decode b_S_merge 172 = .ok (.iload_n 3, 1) := dk da_S_merge 110 rfl
theorem d_S_merge_173 : decode b_S_merge 173 = .ok (.iload 4, 2) := dk da_S_merge 111 rfl
theorem d_S_merge_175 : decode b_S_merge 175 = .ok (.iload 5, 2) := dk da_S_merge 112 rfl
theorem d_S_merge_177 : decode b_S_merge 177 = .ok (.invokevirtual 66, 3) := dk da_S_merge 113 rfl
theorem d_S_merge_180 : decode b_S_merge 180 = .ok (.goto 13, 3) := dk da_S_merge 114 rfl
theorem d_S_merge_183 : decode b_S_merge 183 = .ok (.aload_n 0, 1) := dk da_S_merge 115 rfl
theorem d_S_merge_184 : decode b_S_merge 184 = .ok (.iload_n 2, 1) := dk da_S_merge 116 rfl
theorem d_S_merge_185 : decode b_S_merge 185 = .ok (.iload_n 3, 1) := dk da_S_merge 117 rfl
theorem d_S_merge_186 : decode b_S_merge 186 = .ok (.iload 4, 2) := dk da_S_merge 118 rfl
theorem d_S_merge_188 : decode b_S_merge 188 = .ok (.iload 5, 2) := dk da_S_merge 119 rfl
theorem d_S_merge_190 : decode b_S_merge 190 = .ok (.invokevirtual 70, 3) := dk da_S_merge 120 rfl
theorem d_S_merge_193 : decode b_S_merge 193 = .ok (.return_, 1) := dk da_S_merge 121 rfl
def dl_S_behind : List (Nat × Instr × Nat) := [(0, .iconst 1, 1), (1, .istore 4, 2), (3, .iconst 0, 1), (4, .istore 5, 2), (6, .iload 5, 2), (8, .iload 4, 2), (10, .iadd, 1), (11, .iload_n 3, 1), (12, .if_icmp .gt 46, 3), (15, .aload_n 0, 1), (16, .getfield 24, 3), (19, .iload_n 1, 1), (20, .aload_n 0, 1), (21, .getfield 9, 3), (24, .iload_n 2, 1), (25, .iload 5, 2), (27, .iadd, 1), (28, .iload 4, 2), (30, .iadd, 1), (31, .iconst 1, 1), (32, .isub, 1), (33, .iaload, 1), (34, .invokeinterface 54 3, 5), (39, .ifCond .lt 19, 3), (42, .iload 5, 2), (44, .iload 4, 2), (46, .iadd, 1), (47, .istore 5, 2), (49, .iload 4, 2), (51, .iconst 2, 1), (52, .imul, 1), (53, .istore 4, 2), (55, .goto (-49), 3), (58, .iload 5, 2), (60, .iload 4, 2), (62, .iadd, 1), (63, .iload_n 3, 1), (64, .if_icmp .gt 13, 3), (67, .iload 5, 2), (69, .iload 4, 2), (71, .iadd, 1), (72, .iconst 1, 1), (73, .isub, 1), (74, .goto 4, 3), (77, .iload_n 3, 1), (78, .istore 6, 2), (80, .iload 5, 2), (82, .iload 6, 2), (84, .if_icmp .ge 50, 3), (87, .iload 5, 2), (89, .iload 6, 2), (91, .iadd, 1), (92, .iconst 1, 1), (93, .iushr, 1), (94, .istore 7, 2), (96, .aload_n 0, 1), (97, .getfield 24, 3), (100, .iload_n 1, 1), (101, .aload_n 0, 1), (102, .getfield 9, 3), (105, .iload_n 2, 1), (106, .iload 7, 2), (108, .iadd, 1), (109, .iaload, 1), (110, .invokeinterface 54 3, 5), (115, .ifCond .lt 12, 3), (118, .iload 7, 2), (120, .iconst 1, 1), (121, .iadd, 1), (122, .istore 5, 2), (124, .goto 7, 3), (127, .iload 7, 2), (129, .istore 6, 2), (131, .goto (-51), 3), (134, .iload 5, 2), (136, .ireturn, 1)]
set_option maxRecDepth 100000 in
theorem da_S_behind : (dl_S_behind.all fun q => decide (decode b_S_behind q.1 = .ok q.2)) = true := by decide +kernel
theorem d_S_behind_0 : decode b_S_behind 0 = .ok (.iconst 1, 1) := dk da_S_behind 0 rfl
theorem d_S_behind_1 : decode b_S_behind 1 = .ok (.istore 4, 2) := dk da_S_behind 1 rfl
theorem d_S_behind_3 : decode b_S_behind 3 = .ok (.iconst 0, 1) := dk da_S_behind 2 rfl
theorem d_S_behind_4 : decode b_S_behind 4 = .ok (.istore 5, 2) := dk da_S_behind 3 rfl
theorem d_S_behind_6 : decode b_S_behind 6 = .ok (.iload 5, 2) := dk da_S_behind 4 rfl
theorem d_S_behind_8 : decode b_S_behind 8 = .ok (.iload 4, 2) := dk da_S_behind 5 rfl
theorem d_S_behind_10 : decode b_S_behind 10 = .ok (.iadd, 1) := dk da_S_behind 6 rfl
theorem d_S_behind_11 : decode b_S_behind 11 = .ok (.iload_n 3, 1) := dk da_S_behind 7 rfl
theorem d_S_behind_12 : decode b_S_behind 12 = .ok (.if_icmp .gt 46, 3) := dk da_S_behind 8 rfl
theorem d_S_behind_15 : decode b_S_behind 15 = .ok (.aload_n 0, 1) := dk da_S_behind 9 rfl
theorem d_S_behind_16 : decode b_S_behind 16 = .ok (.getfield 24, 3) := dk da_S_behind 10 rfl
theorem d_S_behind_19 : decode b_S_behind 19 = .ok (.iload_n 1, 1) := dk da_S_behind 11 rfl
theorem d_S_behind_20 : decode b_S_behind 20 = .ok (.aload_n 0, 1) := dk da_S_behind 12 rfl
theorem d_S_behind_21 : decode b_S_behind 21 = .ok (.getfield 9, 3) := dk da_S_behind 13 rfl
theorem d_S_behind_24 : decode b_S_behind 24 = .ok (.iload_n 2, 1) := dk da_S_behind 14 rfl
theorem d_S_behind_25 : decode b_S_behind 25 = .ok (.iload 5, 2) := dk da_S_behind 15 rfl
theorem d_S_behind_27 : decode b_S_behind 27 = .ok (.iadd, 1) := dk da_S_behind 16 rfl
theorem d_S_behind_28 : decode b_S_behind 28 = .ok (.iload 4, 2) := dk da_S_behind 17 rfl
theorem d_S_behind_30 : decode b_S_behind 30 = .ok (.iadd, 1) := dk da_S_behind 18 rfl
theorem d_S_behind_31 : decode b_S_behind 31 = .ok (.iconst 1, 1) := dk da_S_behind 19 rfl
theorem d_S_behind_32 : decode b_S_behind 32 = .ok (.isub, 1) := dk da_S_behind 20 rfl
theorem d_S_behind_33 : decode b_S_behind 33 = .ok (.iaload, 1) := dk da_S_behind 21 rfl
theorem d_S_behind_34 : decode b_S_behind 34 = .ok (.invokeinterface 54 3, 5) := dk da_S_behind 22 rfl
theorem d_S_behind_39 : decode b_S_behind 39 = .ok (.ifCond .lt 19, 3) := dk da_S_behind 23 rfl
theorem d_S_behind_42 : decode b_S_behind 42 = .ok (.iload 5, 2) := dk da_S_behind 24 rfl
theorem d_S_behind_44 : decode b_S_behind 44 = .ok (.iload 4, 2) := dk da_S_behind 25 rfl
theorem d_S_behind_46 : decode b_S_behind 46 = .ok (.iadd, 1) := dk da_S_behind 26 rfl
theorem d_S_behind_47 : decode b_S_behind 47 = .ok (.istore 5, 2) := dk da_S_behind 27 rfl
theorem d_S_behind_49 : decode b_S_behind 49 = .ok (.iload 4, 2) := dk da_S_behind 28 rfl
theorem d_S_behind_51 : decode b_S_behind 51 = .ok (.iconst 2, 1) := dk da_S_behind 29 rfl
theorem d_S_behind_52 : decode b_S_behind 52 = .ok (.imul, 1) := dk da_S_behind 30 rfl
theorem d_S_behind_53 : decode b_S_behind 53 = .ok (.istore 4, 2) := dk da_S_behind 31 rfl
theorem d_S_behind_55 : decode b_S_behind 55 = .ok (.goto (-49), 3) := dk da_S_behind 32 rfl
theorem d_S_behind_58 : decode b_S_behind 58 = .ok (.iload 5, 2) := dk da_S_behind 33 rfl
theorem d_S_behind_60 : decode b_S_behind 60 = .ok (.iload 4, 2) := dk da_S_behind 34 rfl
theorem d_S_behind_62 : decode b_S_behind 62 = .ok (.iadd, 1) := dk da_S_behind 35 rfl
theorem d_S_behind_63 : decode b_S_behind 63 = .ok (.iload_n 3, 1) := dk da_S_behind 36 rfl
theorem d_S_behind_64 : decode b_S_behind 64 = .ok (.if_icmp .gt 13, 3) := dk da_S_behind 37 rfl
theorem d_S_behind_67 : decode b_S_behind 67 = .ok (.iload 5, 2) := dk da_S_behind 38 rfl
theorem d_S_behind_69 : decode b_S_behind 69 = .ok (.iload 4, 2) := dk da_S_behind 39 rfl
theorem d_S_behind_71 : decode b_S_behind 71 = .ok (.iadd, 1) := dk da_S_behind 40 rfl
theorem d_S_behind_72 : decode b_S_behind 72 = .ok (.iconst 1, 1) := dk da_S_behind 41 rfl
theorem d_S_behind_73 : decode b_S_behind 73 = .ok (.isub, 1) := dk da_S_behind 42 rfl
theorem d_S_behind_74 : decode b_S_behind 74 = .ok (.goto 4, 3) := dk da_S_behind 43 rfl
theorem d_S_behind_77 : decode b_S_behind 77 = .ok (.iload_n 3, 1) := dk da_S_behind 44 rfl
theorem d_S_behind_78 : decode b_S_behind 78 = .ok (.istore 6, 2) := dk da_S_behind 45 rfl
theorem d_S_behind_80 : decode b_S_behind 80 = .ok (.iload 5, 2) := dk da_S_behind 46 rfl
theorem d_S_behind_82 : decode b_S_behind 82 = .ok (.iload 6, 2) := dk da_S_behind 47 rfl
theorem d_S_behind_84 : decode b_S_behind 84 = .ok (.if_icmp .ge 50, 3) := dk da_S_behind 48 rfl
theorem d_S_behind_87 : decode b_S_behind 87 = .ok (.iload 5, 2) := dk da_S_behind 49 rfl
theorem d_S_behind_89 : decode b_S_behind 89 = .ok (.iload 6, 2) := dk da_S_behind 50 rfl
theorem d_S_behind_91 : decode b_S_behind 91 = .ok (.iadd, 1) := dk da_S_behind 51 rfl
theorem d_S_behind_92 : decode b_S_behind 92 = .ok (.iconst 1, 1) := dk da_S_behind 52 rfl
theorem d_S_behind_93 : decode b_S_behind 93 = .ok (.iushr, 1) := dk da_S_behind 53 rfl
theorem d_S_behind_94 : decode b_S_behind 94 = .ok (.istore 7, 2) := dk da_S_behind 54 rfl
theorem d_S_behind_96 : decode b_S_behind 96 = .ok (.aload_n 0, 1) := dk da_S_behind 55 rfl
theorem d_S_behind_97 : decode b_S_behind 97 = .ok (.getfield 24, 3) := dk da_S_behind 56 rfl
theorem d_S_behind_100 : decode b_S_behind 100 = .ok (.iload_n 1, 1) := dk da_S_behind 57 rfl
theorem d_S_behind_101 : decode b_S_behind 101 = .ok (.aload_n 0, 1) := dk da_S_behind 58 rfl
theorem d_S_behind_102 : decode b_S_behind 102 = .ok (.getfield 9, 3) := dk da_S_behind 59 rfl
theorem d_S_behind_105 : decode b_S_behind 105 = .ok (.iload_n 2, 1) := dk da_S_behind 60 rfl
theorem d_S_behind_106 : decode b_S_behind 106 = .ok (.iload 7, 2) := dk da_S_behind 61 rfl
theorem d_S_behind_108 : decode b_S_behind 108 = .ok (.iadd, 1) := dk da_S_behind 62 rfl
theorem d_S_behind_109 : decode b_S_behind 109 = .ok (.iaload, 1) := dk da_S_behind 63 rfl
theorem d_S_behind_110 : decode b_S_behind 110 = .ok (.invokeinterface 54 3, 5) := dk da_S_behind 64 rfl
theorem d_S_behind_115 : decode b_S_behind 115 = .ok (.ifCond .lt 12, 3) := dk da_S_behind 65 rfl
theorem d_S_behind_118 : decode b_S_behind 118 = .ok (.iload 7, 2) := dk da_S_behind 66 rfl
theorem d_S_behind_120 : decode b_S_behind 120 = .ok (.iconst 1, 1) := dk da_S_behind 67 rfl
theorem d_S_behind_121 : decode b_S_behind 121 = .ok (.iadd, 1) := dk da_S_behind 68 rfl
theorem d_S_behind_122 : decode b_S_behind 122 = .ok (.istore 5, 2) := dk da_S_behind 69 rfl
theorem d_S_behind_124 : decode b_S_behind 124 = .ok (.goto 7, 3) := dk da_S_behind 70 rfl
theorem d_S_behind_127 : decode b_S_behind 127 = .ok (.iload 7, 2) := dk da_S_behind 71 rfl
theorem d_S_behind_129 : decode b_S_behind 129 = .ok (.istore 6, 2) := dk da_S_behind 72 rfl
theorem d_S_behind_131 : decode b_S_behind 131 = .ok (.goto (-51), 3) := dk da_S_behind 73 rfl
theorem d_S_behind_134 : decode b_S_behind 134 = .ok (.iload 5, 2) := dk da_S_behind 74 rfl
theorem d_S_behind_136 : decode b_S_behind 136 = .ok (.ireturn, 1) := dk da_S_behind 75 rfl
def dl_S_notBefore : List (Nat × Instr × Nat) := [(0, .iconst 1, 1), (1, .istore 4, 2), (3, .iload_n 3, 1), (4, .istore 5, 2), (6, .iload 5, 2), (8, .iload 4, 2), (10, .isub, 1), (11, .ifCond .lt 44, 3), (14, .aload_n 0, 1), (15, .getfield 24, 3), (18, .aload_n 0, 1), (19, .getfield 9, 3), (22, .iload_n 2, 1), (23, .iload 5, 2), (25, .iadd, 1), (26, .iload 4, 2), (28, .isub, 1), (29, .iaload, 1), (30, .iload_n 1, 1), (31, .invokeinterface 54 3, 5), (36, .ifCond .lt 19, 3), (39, .iload 5, 2), (41, .iload 4, 2), (43, .isub, 1), (44, .istore 5, 2), (46, .iload 4, 2), (48, .iconst 2, 1), (49, .imul, 1), (50, .istore 4, 2), (52, .goto (-46), 3), (55, .iload 5, 2), (57, .iload 4, 2), (59, .isub, 1), (60, .ifCond .lt 13, 3), (63, .iload 5, 2), (65, .iload 4, 2), (67, .isub, 1), (68, .iconst 1, 1), (69, .iadd, 1), (70, .goto 4, 3), (73, .iconst 0, 1), (74, .istore 6, 2), (76, .iload 6, 2), (78, .iload 5, 2), (80, .if_icmp .ge 50, 3), (83, .iload 6, 2), (85, .iload 5, 2), (87, .iadd, 1), (88, .iconst 1, 1), (89, .iushr, 1), (90, .istore 7, 2), (92, .aload_n 0, 1), (93, .getfield 24, 3), (96, .aload_n 0, 1), (97, .getfield 9, 3), (100, .iload_n 2, 1), (101, .iload 7, 2), (103, .iadd, 1), (104, .iaload, 1), (105, .iload_n 1, 1), (106, .invokeinterface 54 3, 5), (111, .ifCond .ge 12, 3), (114, .iload 7, 2), (116, .iconst 1, 1), (117, .iadd, 1), (118, .istore 6, 2), (120, .goto 7, 3), (123, .iload 7, 2), (125, .istore 5, 2), (127, .goto (-51), 3), (130, .iload 6, 2), (132, .ireturn, 1)]
set_option maxRecDepth 100000 in
theorem da_S_notBefore : (dl_S_notBefore.all fun q => decide (decode b_S_notBefore q.1 = .ok q.2)) = true := by decide +kernel
theorem d_S_notBefore_0 : decode b_S_notBefore 0 = .ok (.iconst 1, 1) := dk da_S_notBefore 0 rfl
theorem d_S_notBefore_1 : decode b_S_notBefore 1 = .ok (.istore 4, 2) := dk da_S_notBefore 1 rfl
theorem d_S_notBefore_3 : decode b_S_notBefore 3 = .ok (.iload_n 3, 1) := dk da_S_notBefore 2 rfl
theorem d_S_notBefore_4 : decode b_S_notBefore 4 = .ok (.istore 5, 2) := dk da_S_notBefore 3 rfl
theorem d_S_notBefore_6 : decode b_S_notBefore 6 = .ok (.iload 5, 2) := dk da_S_notBefore 4 rfl
theorem d_S_notBefore_8 : decode b_S_notBefore 8 = .ok (.iload 4, 2) := dk da_S_notBefore 5 rfl
theorem d_S_notBefore_10 : decode b_S_notBefore 10 = .ok (.isub, 1) := dk da_S_notBefore 6 rfl
theorem d_S_notBefore_11 : decode b_S_notBefore 11 = .ok (.ifCond .lt 44, 3) := dk da_S_notBefore 7 rfl
theorem d_S_notBefore_14 : decode b_S_notBefore 14 = .ok (.aload_n 0, 1) := dk da_S_notBefore 8 rfl
theorem d_S_notBefore_15 : decode b_S_notBefore 15 = .ok (.getfield 24, 3) := dk da_S_notBefore 9 rfl
theorem d_S_notBefore_18 : decode b_S_notBefore 18 = .ok (.aload_n 0, 1) := dk da_S_notBefore 10 rfl
theorem d_S_notBefore_19 : decode b_S_notBefore 19 = .ok (.getfield 9, 3) := dk da_S_notBefore 11 rfl
theorem d_S_notBefore_22 : decode b_S_notBefore 22 = .ok (.iload_n 2, 1) := dk da_S_notBefore 12 rfl
theorem d_S_notBefore_23 : decode b_S_notBefore 23 = .ok (.iload 5, 2) := dk da_S_notBefore 13 rfl
theorem d_S_notBefore_25 : decode b_S_notBefore 25 = .ok (.iadd, 1) := dk da_S_notBefore 14 rfl
theorem d_S_notBefore_26 : decode b_S_notBefore 26 = .ok (.iload 4, 2) := dk da_S_notBefore 15 rfl
theorem d_S_notBefore_28 : decode b_S_notBefore 28 = .ok (.isub, 1) := dk da_S_notBefore 16 rfl
theorem d_S_notBefore_29 : decode b_S_notBefore 29 = .ok (.iaload, 1) := dk da_S_notBefore 17 rfl
theorem d_S_notBefore_30 : decode b_S_notBefore 30 = .ok (.iload_n 1, 1) := dk da_S_notBefore 18 rfl
theorem d_S_notBefore_31 : decode b_S_notBefore 31 = .ok (.invokeinterface 54 3, 5) := dk da_S_notBefore 19 rfl
theorem d_S_notBefore_36 : decode b_S_notBefore 36 = .ok (.ifCond .lt 19, 3) := dk da_S_notBefore 20 rfl
theorem d_S_notBefore_39 : decode b_S_notBefore 39 = .ok (.iload 5, 2) := dk da_S_notBefore 21 rfl
theorem d_S_notBefore_41 : decode b_S_notBefore 41 = .ok (.iload 4, 2) := dk da_S_notBefore 22 rfl
theorem d_S_notBefore_43 : decode b_S_notBefore 43 = .ok (.isub, 1) := dk da_S_notBefore 23 rfl
theorem d_S_notBefore_44 : decode b_S_notBefore 44 = .ok (.istore 5, 2) := dk da_S_notBefore 24 rfl
theorem d_S_notBefore_46 : decode b_S_notBefore 46 = .ok (.iload 4, 2) := dk da_S_notBefore 25 rfl
theorem d_S_notBefore_48 : decode b_S_notBefore 48 = .ok (.iconst 2, 1) := dk da_S_notBefore 26 rfl
theorem d_S_notBefore_49 : decode b_S_notBefore 49 = .ok (.imul, 1) := dk da_S_notBefore 27 rfl
theorem d_S_notBefore_50 : decode b_S_notBefore 50 = .ok (.istore 4, 2) := dk da_S_notBefore 28 rfl
theorem d_S_notBefore_52 : decode b_S_notBefore 52 = .ok (.goto (-46), 3) := dk da_S_notBefore 29 rfl
theorem d_S_notBefore_55 : decode b_S_notBefore 55 = .ok (.iload 5, 2) := dk da_S_notBefore 30 rfl
theorem d_S_notBefore_57 : decode b_S_notBefore 57 = .ok (.iload 4, 2) := dk da_S_notBefore 31 rfl
theorem d_S_notBefore_59 : decode b_S_notBefore 59 = .ok (.isub, 1) := dk da_S_notBefore 32 rfl
theorem d_S_notBefore_60 : decode b_S_notBefore 60 = .ok (.ifCond .lt 13, 3) := dk da_S_notBefore 33 rfl
theorem d_S_notBefore_63 : decode b_S_notBefore 63 = .ok (.iload 5, 2) := dk da_S_notBefore 34 rfl
theorem d_S_notBefore_65 : decode b_S_notBefore 65 = .ok (.iload 4, 2) := dk da_S_notBefore 35 rfl
theorem d_S_notBefore_67 : decode b_S_notBefore 67 = .ok (.isub, 1) := dk da_S_notBefore 36 rfl
theorem d_S_notBefore_68 : decode b_S_notBefore 68 = .ok (.iconst 1, 1) := dk da_S_notBefore 37 rfl
theorem d_S_notBefore_69 : decode b_S_notBefore 69 = .ok (.iadd, 1) := dk da_S_notBefore 38 rfl
theorem d_S_notBefore_70 : decode b_S_notBefore 70 = .ok (.goto 4, 3) := dk da_S_notBefore 39 rfl
theorem d_S_notBefore_73 : decode b_S_notBefore 73 = .ok (.iconst 0, 1) := dk da_S_notBefore 40 rfl
theorem d_S_notBefore_74 : decode b_S_notBefore 74 = .ok (.istore 6, 2) := dk da_S_notBefore 41 rfl
theorem d_S_notBefore_76 : decode b_S_notBefore 76 = .ok (.iload 6, 2) := dk da_S_notBefore 42 rfl
theorem d_S_notBefore_78 : decode b_S_notBefore 78 = .ok (.iload 5, 2) := dk da_S_notBefore 43 rfl
theorem d_S_notBefore_80 : decode b_S_notBefore 80 = .ok (.if_icmp .ge 50, 3) := dk da_S_notBefore 44 rfl
theorem d_S_notBefore_83 : decode b_S_notBefore 83 = .ok (.iload 6, 2) := dk da_S_notBefore 45 rfl
theorem d_S_notBefore_85 : decode b_S_notBefore 85 = .ok (.iload 5, 2) := dk da_S_notBefore 46 rfl
theorem d_S_notBefore_87 : decode b_S_notBefore 87 = .ok (.iadd, 1) := dk da_S_notBefore 47 rfl
theorem d_S_notBefore_88 : decode b_S_notBefore 88 = .ok (.iconst 1, 1) := dk da_S_notBefore 48 rfl
theorem d_S_notBefore_89 : decode b_S_notBefore 89 = .ok (.iushr, 1) := dk da_S_notBefore 49 rfl
theorem d_S_notBefore_90 : decode b_S_notBefore 90 = .ok (.istore 7, 2) := dk da_S_notBefore 50 rfl
theorem d_S_notBefore_92 : decode b_S_notBefore 92 = .ok (.aload_n 0, 1) := dk da_S_notBefore 51 rfl
theorem d_S_notBefore_93 : decode b_S_notBefore 93 = .ok (.getfield 24, 3) := dk da_S_notBefore 52 rfl
theorem d_S_notBefore_96 : decode b_S_notBefore 96 = .ok (.aload_n 0, 1) := dk da_S_notBefore 53 rfl
theorem d_S_notBefore_97 : decode b_S_notBefore 97 = .ok (.getfield 9, 3) := dk da_S_notBefore 54 rfl
theorem d_S_notBefore_100 : decode b_S_notBefore 100 = .ok (.iload_n 2, 1) := dk da_S_notBefore 55 rfl
theorem d_S_notBefore_101 : decode b_S_notBefore 101 = .ok (.iload 7, 2) := dk da_S_notBefore 56 rfl
theorem d_S_notBefore_103 : decode b_S_notBefore 103 = .ok (.iadd, 1) := dk da_S_notBefore 57 rfl
theorem d_S_notBefore_104 : decode b_S_notBefore 104 = .ok (.iaload, 1) := dk da_S_notBefore 58 rfl
theorem d_S_notBefore_105 : decode b_S_notBefore 105 = .ok (.iload_n 1, 1) := dk da_S_notBefore 59 rfl
theorem d_S_notBefore_106 : decode b_S_notBefore 106 = .ok (.invokeinterface 54 3, 5) := dk da_S_notBefore 60 rfl
theorem d_S_notBefore_111 : decode b_S_notBefore 111 = .ok (.ifCond .ge 12, 3) := dk da_S_notBefore 61 rfl
theorem d_S_notBefore_114 : decode b_S_notBefore 114 = .ok (.iload 7, 2) := dk da_S_notBefore 62 rfl
theorem d_S_notBefore_116 : decode b_S_notBefore 116 = .ok (.iconst 1, 1) := dk da_S_notBefore 63 rfl
theorem d_S_notBefore_117 : decode b_S_notBefore 117 = .ok (.iadd, 1) := dk da_S_notBefore 64 rfl
theorem d_S_notBefore_118 : decode b_S_notBefore 118 = .ok (.istore 6, 2) := dk da_S_notBefore 65 rfl
theorem d_S_notBefore_120 : decode b_S_notBefore 120 = .ok (.goto 7, 3) := dk da_S_notBefore 66 rfl
theorem d_S_notBefore_123 : decode b_S_notBefore 123 = .ok (.iload 7, 2) := dk da_S_notBefore 67 rfl
theorem d_S_notBefore_125 : decode b_S_notBefore 125 = .ok (.istore 5, 2) := dk da_S_notBefore 68 rfl
theorem d_S_notBefore_127 : decode b_S_notBefore 127 = .ok (.goto (-51), 3) := dk da_S_notBefore 69 rfl
theorem d_S_notBefore_130 : decode b_S_notBefore 130 = .ok (.iload 6, 2) := dk da_S_notBefore 70 rfl
theorem d_S_notBefore_132 : decode b_S_notBefore 132 = .ok (.ireturn, 1) := dk da_S_notBefore 71 rfl
def dl_S_mergeUp : List (Nat × Instr × Nat) := [(0, .iconst 0, 1), (1, .istore 5, 2), (3, .iload 5, 2), (5, .iload_n 2, 1), (6, .if_icmp .ge 25, 3), (9, .aload_n 0, 1), (10, .getfield 15, 3), (13, .iload 5, 2), (15, .aload_n 0, 1), (16, .getfield 9, 3), (19, .iload_n 1, 1), (20, .iload 5, 2), (22, .iadd, 1), (23, .iaload, 1), (24, .iastore, 1), (25, .iinc 5 1, 3), (28, .goto (-25), 3), (31, .iconst 0, 1), (32, .istore 5, 2), (34, .iload_n 3, 1), (35, .istore 6, 2), (37, .iload_n 3, 1), (38, .iload 4, 2), (40, .iadd, 1), (41, .istore 7, 2), (43, .iload_n 1, 1), (44, .istore 8, 2), (46, .iconst 0, 1), (47, .istore 9, 2), (49, .iconst 1, 1), (50, .istore 10, 2), (52, .iload 5, 2), (54, .iload_n 2, 1), (55, .if_icmp .ge 275, 3), (58, .iload 6, 2), (60, .iload 7, 2), (62, .if_icmp .ge 268, 3), (65, .aload_n 0, 1), (66, .getfield 24, 3), (69, .aload_n 0, 1), (70, .getfield 9, 3), (73, .iload 6, 2), (75, .iaload, 1), (76, .aload_n 0, 1), (77, .getfield 15, 3), (80, .iload 5, 2), (82, .iaload, 1), (83, .invokeinterface 54 3, 5), (88, .ifCond .ge 7, 3), (91, .iconst 1, 1), (92, .goto 4, 3), (95, .iconst 0, 1), (96, .istore 11, 2), (98, .aload_n 0, 1), (99, .getfield 9, 3), (102, .iload 8, 2), (104, .iload 11, 2), (106, .ifCond .eq 16, 3), (109, .aload_n 0, 1), (110, .getfield 9, 3), (113, .iload 6, 2), (115, .iinc 6 1, 3), (118, .iaload, 1), (119, .goto 13, 3), (122, .aload_n 0, 1), (123, .getfield 15, 3), (126, .iload 5, 2), (128, .iinc 5 1, 3), (131, .iaload, 1), (132, .iastore, 1), (133, .iinc 8 1, 3), (136, .iload 11, 2), (138, .iload 10, 2), (140, .if_icmp .eq 10, 3), (143, .iload 9, 2), (145, .iconst 1, 1), (146, .iadd, 1), (147, .goto 4, 3), (150, .iconst 1, 1), (151, .istore 9, 2), (153, .iload 11, 2), (155, .ifCond .ne 7, 3), (158, .iconst 1, 1), (159, .goto 4, 3), (162, .iconst 0, 1), (163, .istore 10, 2), (165, .iload 9, 2), (167, .aload_n 0, 1), (168, .getfield 32, 3), (171, .if_icmp .lt (-119), 3), (174, .iload 5, 2), (176, .iload_n 2, 1), (177, .if_icmp .eq (-125), 3), (180, .iload 6, 2), (182, .iload 7, 2), (184, .if_icmp .ne 6, 3), (187, .goto (-135), 3), (190, .iload 11, 2), (192, .ifCond .eq 24, 3), (195, .aload_n 0, 1), (196, .aload_n 0, 1), (197, .getfield 15, 3), (200, .iload 5, 2), (202, .iaload, 1), (203, .iload 6, 2), (205, .iload 7, 2), (207, .iload 6, 2), (209, .isub, 1), (210, .invokevirtual 63, 3), (213, .goto 17, 3), (216, .aload_n 0, 1), (217, .aload_n 0, 1), (218, .getfield 9, 3), (221, .iload 6, 2), (223, .iaload, 1), (224, .iload 5, 2), (226, .iload_n 2, 1), (227, .invokevirtual 73, 3), (230, .istore 12, 2), (232, .iconst 0, 1), (233, .istore 13, 2), (235, .iload 13, 2), (237, .iload 12, 2), (239, .if_icmp .ge 47, 3), (242, .aload_n 0, 1), (243, .getfield 9, 3), (246, .iload 8, 2), (248, .iload 11, 2), (250, .ifCond .eq 16, 3), (253, .aload_n 0, 1), (254, .getfield 9, 3), (257, .iload 6, 2), (259, .iinc 6 1, 3), (262, .iaload, 1), (263, .goto 13, 3), (266, .aload_n 0, 1), (267, .getfield 15, 3), (270, .iload 5, 2), (272, .iinc 5 1, 3), (275, .iaload, 1), (276, .iastore, 1), (277, .iinc 8 1, 3), (280, .iinc 13 1, 3), (283, .goto (-48), 3), (286, .aload_n 0, 1), (287, .iload 12, 2), (289, .bipush 7, 2), (291, .if_icmp .lt 24, 3), (294, .aload_n 0, 1), (295, .getfield 32, 3), (298, .iconst 1, 1), (299, .if_icmp .le 12, 3), (302, .aload_n 0, 1), (303, .getfield 32, 3), (306, .iconst 1, 1), (307, .isub, 1), (308, .goto 13, 3), (311, .iconst 1, 1), (312, .goto 9, 3), (315, .aload_n 0, 1), (316, .getfield 32, 3), (319, .iconst 2, 1), (320, .iadd, 1), (321, .putfield 32, 3), (324, .iconst 0, 1), (325, .istore 9, 2), (327, .goto (-275), 3), (330, .iload 5, 2), (332, .iload_n 2, 1), (333, .if_icmp .ge 26, 3), (336, .aload_n 0, 1), (337, .getfield 9, 3), (340, .iload 8, 2), (342, .iinc 8 1, 3), (345, .aload_n 0, 1), (346, .getfield 15, 3), (349, .iload 5, 2), (351, .iinc 5 1, 3), (354, .iaload, 1), (355, .iastore, 1), (356, .goto (-26), 3), (359, .return_, 1)]
set_option maxRecDepth 100000 in
theorem da_S_mergeUp : (dl_S_mergeUp.all fun q => decide (decode b_S_mergeUp q.1 = .ok q.2)) = true := by decide +kernel
theorem d_S_mergeUp_0 : decode b_S_mergeUp 0 = .ok (.iconst 0, 1) := dk da_S_mergeUp 0 rfl
theorem d_S_mergeUp_1 : decode b_S_mergeUp 1 = .ok (.istore 5, 2) := dk da_S_mergeUp 1 rfl
theorem d_S_mergeUp_3 : decode b_S_mergeUp 3 = .ok (.iload 5, 2) := dk da_S_mergeUp 2 rfl
theorem d_S_mergeUp_5 : decode b_S_mergeUp 5 = .ok (.iload_n 2, 1) := dk da_S_mergeUp 3 rfl
theorem d_S_mergeUp_6 : decode b_S_mergeUp 6 = .ok (.if_icmp .ge 25, 3) := dk da_S_mergeUp 4 rfl
theorem d_S_mergeUp_9 : decode b_S_mergeUp 9 = .ok (.aload_n 0, 1) := dk da_S_mergeUp 5 rfl
theorem d_S_mergeUp_10 : decode b_S_mergeUp 10 = .ok (.getfield 15, 3) := dk da_S_mergeUp 6 rfl
theorem d_S_mergeUp_13 : decode b_S_mergeUp 13 = .ok (.iload 5, 2) := dk da_S_mergeUp 7 rfl
theorem d_S_mergeUp_15 : decode b_S_mergeUp 15 = .ok (.aload_n 0, 1) := dk da_S_mergeUp 8 rfl
theorem d_S_mergeUp_16 : decode b_S_mergeUp 16 = .ok (.getfield 9, 3) := dk da_S_mergeUp 9 rfl
theorem d_S_mergeUp_19 : decode b_S_mergeUp 19 = .ok (.iload_n 1, 1) := dk da_S_mergeUp 10 rfl
theorem d_S_mergeUp_20 : decode b_S_mergeUp 20 = .ok (.iload 5, 2) := dk da_S_mergeUp 11 rfl
theorem d_S_mergeUp_22 : decode b_S_mergeUp 22 = .ok (.iadd, 1) := dk da_S_mergeUp 12 rfl
theorem d_S_mergeUp_23 : decode b_S_mergeUp 23 = .ok (.iaload, 1) := dk da_S_mergeUp 13 rfl
theorem d_S_mergeUp_24 : decode b_S_mergeUp 24 = .ok (.iastore, 1) := dk da_S_mergeUp 14 rfl
theorem d_S_mergeUp_25 : decode b_S_mergeUp 25 = .ok (.iinc 5 1, 3) := dk da_S_mergeUp 15 rfl
theorem d_S_mergeUp_28 : decode b_S_mergeUp 28 = .ok (.goto (-25), 3) := dk da_S_mergeUp 16 rfl
theorem d_S_mergeUp_31 : decode b_S_mergeUp 31 = .ok (.iconst 0, 1) := dk da_S_mergeUp 17 rfl
theorem d_S_mergeUp_32 : decode b_S_mergeUp 32 = .ok (.istore 5, 2) := dk da_S_mergeUp 18 rfl
theorem d_S_mergeUp_34 : decode b_S_mergeUp 34 = .ok (.iload_n 3, 1) := dk da_S_mergeUp 19 rfl
theorem d_S_mergeUp_35 : decode b_S_mergeUp 35 = .ok (.istore 6, 2) := dk da_S_mergeUp 20 rfl
theorem d_S_mergeUp_37 : decode b_S_mergeUp 37 = .ok (.iload_n 3, 1) := dk da_S_mergeUp 21 rfl
theorem d_S_mergeUp_38 : decode b_S_mergeUp 38 = .ok (.iload 4, 2) := dk da_S_mergeUp 22 rfl
theorem d_S_mergeUp_40 : decode b_S_mergeUp 40 = .ok (.iadd, 1) := dk da_S_mergeUp 23 rfl
theorem d_S_mergeUp_41 : decode b_S_mergeUp 41 = .ok (.istore 7, 2) := dk da_S_mergeUp 24 rfl
theorem d_S_mergeUp_43 : decode b_S_mergeUp 43 = .ok (.iload_n 1, 1) := dk da_S_mergeUp 25 rfl
theorem d_S_mergeUp_44 : decode b_S_mergeUp 44 = .ok (.istore 8, 2) := dk da_S_mergeUp 26 rfl
theorem d_S_mergeUp_46 : decode b_S_mergeUp 46 = .ok (.iconst 0, 1) := dk da_S_mergeUp 27 rfl
theorem d_S_mergeUp_47 : decode b_S_mergeUp 47 = .ok (.istore 9, 2) := dk da_S_mergeUp 28 rfl
theorem d_S_mergeUp_49 : decode b_S_mergeUp 49 = .ok (.iconst 1, 1) := dk da_S_mergeUp 29 rfl
theorem d_S_mergeUp_50 : decode b_S_mergeUp 50 = .ok (.istore 10, 2) := dk da_S_mergeUp 30 rfl
theorem d_S_mergeUp_52 : decode b_S_mergeUp 52 = .ok (.iload 5, 2) := dk da_S_mergeUp 31 rfl
theorem d_S_mergeUp_54 : decode b_S_mergeUp 54 = .ok (.iload_n 2, 1) := dk da_S_mergeUp 32 rfl
theorem d_S_mergeUp_55 : decode b_S_mergeUp 55 = .ok (.if_icmp .ge 275, 3) := dk da_S_mergeUp 33 rfl
theorem d_S_mergeUp_58 : decode b_S_mergeUp 58 = .ok (.iload 6, 2) := dk da_S_mergeUp 34 rfl
theorem d_S_mergeUp_60 : decode b_S_mergeUp 60 = .ok (.iload 7, 2) := dk da_S_mergeUp 35 rfl
theorem d_S_mergeUp_62 : decode b_S_mergeUp 62 = .ok (.if_icmp .ge 268, 3) := dk da_S_mergeUp 36 rfl
theorem d_S_mergeUp_65 : decode b_S_mergeUp 65 = .ok (.aload_n 0, 1) := dk da_S_mergeUp 37 rfl
theorem d_S_mergeUp_66 : decode b_S_mergeUp 66 = .ok (.getfield 24, 3) := dk da_S_mergeUp 38 rfl
theorem d_S_mergeUp_69 : decode b_S_mergeUp 69 = .ok (.aload_n 0, 1) := dk da_S_mergeUp 39 rfl
theorem d_S_mergeUp_70 : decode b_S_mergeUp 70 = .ok (.getfield 9, 3) := dk da_S_mergeUp 40 rfl
theorem d_S_mergeUp_73 : decode b_S_mergeUp 73 = .ok (.iload 6, 2) := dk da_S_mergeUp 41 rfl
theorem d_S_mergeUp_75 : decode b_S_mergeUp 75 = .ok (.iaload, 1) := dk da_S_mergeUp 42 rfl
theorem d_S_mergeUp_76 : decode b_S_mergeUp 76 = .ok (.aload_n 0, 1) := dk da_S_mergeUp 43 rfl
theorem d_S_mergeUp_77 : decode b_S_mergeUp 77 = .ok (.getfield 15, 3) := dk da_S_mergeUp 44 rfl
theorem d_S_mergeUp_80 : decode b_S_mergeUp 80 = .ok (.iload 5, 2) := dk da_S_mergeUp 45 rfl
theorem d_S_mergeUp_82 : decode b_S_mergeUp 82 = .ok (.iaload, 1) := dk da_S_mergeUp 46 rfl
theorem d_S_mergeUp_83 : decode b_S_mergeUp 83 = .ok (.invokeinterface 54 3, 5) := dk da_S_mergeUp 47 rfl
theorem d_S_mergeUp_88 : decode b_S_mergeUp 88 = .ok (.ifCond .ge 7, 3) := dk da_S_mergeUp 48 rfl
theorem d_S_mergeUp_91 : decode b_S_mergeUp 91 = .ok (.iconst 1, 1) := dk da_S_mergeUp 49 rfl
theorem d_S_mergeUp_92 : decode b_S_mergeUp 92 = .ok (.goto 4, 3) := dk da_S_mergeUp 50 rfl
theorem d_S_mergeUp_95 : decode b_S_mergeUp 95 = .ok (.iconst 0, 1) := dk da_S_mergeUp 51 rfl
theorem d_S_mergeUp_96 : decode b_S_mergeUp 96 = .ok (.istore 11, 2) := dk da_S_mergeUp 52 rfl
theorem d_S_mergeUp_98 : decode b_S_mergeUp 98 = .ok (.aload_n 0, 1) := dk da_S_mergeUp 53 rfl
theorem d_S_mergeUp_99 : decode b_S_mergeUp 99 = .ok (.getfield 9, 3) := dk da_S_mergeUp 54 rfl
theorem d_S_mergeUp_102 : decode b_S_mergeUp 102 = .ok (.iload 8, 2) := dk da_S_mergeUp 55 rfl
theorem d_S_mergeUp_104 : decode b_S_mergeUp 104 = .ok (.iload 11, 2) := dk da_S_mergeUp 56 rfl
theorem d_S_mergeUp_106 : decode b_S_mergeUp 106 = .ok (.ifCond .eq 16, 3) := dk da_S_mergeUp 57 rfl
theorem d_S_mergeUp_109 : decode b_S_mergeUp 109 = .ok (.aload_n 0, 1) := dk da_S_mergeUp 58 rfl
theorem d_S_mergeUp_110 : decode b_S_mergeUp 110 = .ok (.getfield 9, 3) := dk da_S_mergeUp 59 rfl
theorem d_S_mergeUp_113 : decode b_S_mergeUp 113 = .ok (.iload 6, 2) := dk da_S_mergeUp 60 rfl
theorem d_S_mergeUp_115 : decode b_S_mergeUp 115 = .ok (.iinc 6 1, 3) := dk da_S_mergeUp 61 rfl
theorem d_S_mergeUp_118 : decode b_S_mergeUp 118 = .ok (.iaload, 1) := dk da_S_mergeUp 62 rfl
theorem d_S_mergeUp_119 : decode b_S_mergeUp 119 = .ok (.goto 13, 3) := dk da_S_mergeUp 63 rfl
theorem d_S_mergeUp_122 : decode b_S_mergeUp 122 = .ok (.aload_n 0, 1) := dk da_S_mergeUp 64 rfl
theorem d_S_mergeUp_123 : decode b_S_mergeUp 123 = .ok (.getfield 15, 3) := dk da_S_mergeUp 65 rfl
theorem d_S_mergeUp_126 : decode b_S_mergeUp 126 = .ok (.iload 5, 2) := dk da_S_mergeUp 66 rfl
theorem d_S_mergeUp_128 : decode b_S_mergeUp 128 = .ok (.iinc 5 1, 3) := dk da_S_mergeUp 67 rfl
theorem d_S_mergeUp_131 : decode b_S_mergeUp 131 = .ok (.iaload, 1) := dk da_S_mergeUp 68 rfl
theorem d_S_mergeUp_132 : decode b_S_mergeUp 132 = .ok (.iastore, 1) := dk da_S_mergeUp 69 rfl
theorem d_S_mergeUp_133 : decode b_S_mergeUp 133 = .ok (.iinc 8 1, 3) := dk da_S_mergeUp 70 rfl
theorem d_S_mergeUp_136 : decode b_S_mergeUp 136 = .ok (.iload 11, 2) := dk da_S_mergeUp 71 rfl
theorem d_S_mergeUp_138 : decode b_S_mergeUp 138 = .ok (.iload 10, 2) := dk da_S_mergeUp 72 rfl
theorem d_S_mergeUp_140 : decode b_S_mergeUp 140 = .ok (.if_icmp .eq 10, 3) := dk da_S_mergeUp 73 rfl
theorem d_S_mergeUp_143 : decode b_S_mergeUp 143 = .ok (.iload 9, 2) := dk da_S_mergeUp 74 rfl
theorem d_S_mergeUp_145 : decode b_S_mergeUp 145 = .ok (.iconst 1, 1) := dk da_S_mergeUp 75 rfl
theorem d_S_mergeUp_146 : decode b_S_mergeUp 146 = .ok (.iadd, 1) := dk da_S_mergeUp 76 rfl
theorem d_S_mergeUp_147 : decode b_S_mergeUp 147 = .ok (.goto 4, 3) := dk da_S_mergeUp 77 rfl
theorem d_S_mergeUp_150 : decode b_S_mergeUp 150 = .ok (.iconst 1, 1) := dk da_S_mergeUp 78 rfl
theorem d_S_mergeUp_151 : decode b_S_mergeUp 151 = .ok (.istore 9, 2) := dk da_S_mergeUp 79 rfl
theorem d_S_mergeUp_153 : decode b_S_mergeUp 153 = .ok (.iload 11, 2) := dk da_S_mergeUp 80 rfl
theorem d_S_mergeUp_155 : decode b_S_mergeUp 155 = .ok (.ifCond .ne 7, 3) := dk da_S_mergeUp 81 rfl
theorem d_S_mergeUp_158 : decode b_S_mergeUp 158 = .ok (.iconst 1, 1) := dk da_S_mergeUp 82 rfl
theorem d_S_mergeUp_159 : decode b_S_mergeUp 159 = .ok (.goto 4, 3) := dk da_S_mergeUp 83 rfl
theorem d_S_mergeUp_162 : decode b_S_mergeUp 162 = .ok (.iconst 0, 1) := dk da_S_mergeUp 84 rfl
theorem d_S_mergeUp_163 : decode b_S_mergeUp 163 = .ok (.istore 10, 2) := dk da_S_mergeUp 85 rfl
theorem d_S_mergeUp_165 : decode b_S_mergeUp 165 = .ok (.iload 9, 2) := dk da_S_mergeUp 86 rfl
theorem d_S_mergeUp_167 : decode b_S_mergeUp 167 = .ok (.aload_n 0, 1) := dk da_S_mergeUp 87 rfl
theorem d_S_mergeUp_168 : decode b_S_mergeUp 168 = .ok (.getfield 32, 3) := dk da_S_mergeUp 88 rfl
theorem d_S_mergeUp_171 : decode b_S_mergeUp 171 = .ok (.if_icmp .lt (-119), 3) := dk da_S_mergeUp 89 rfl
theorem d_S_mergeUp_174 : decode b_S_mergeUp 174 = .ok (.iload 5, 2) := dk da_S_mergeUp 90 rfl
theorem d_S_mergeUp_176 : decode b_S_mergeUp 176 = .ok (.iload_n 2, 1) := dk da_S_mergeUp 91 rfl
theorem d_S_mergeUp_177 : decode b_S_mergeUp 177 = .ok (.if_icmp .eq (-125), 3) := dk da_S_mergeUp 92 rfl
theorem d_S_mergeUp_180 : decode b_S_mergeUp 180 = .ok (.iload 6, 2) := dk da_S_mergeUp 93 rfl
theorem d_S_mergeUp_182 : decode b_S_mergeUp 182 = .ok (.iload 7, 2) := dk da_S_mergeUp 94 rfl
theorem d_S_mergeUp_184 : decode b_S_mergeUp 184 = .ok (.if_icmp .ne 6, 3) := dk da_S_mergeUp 95 rfl
theorem d_S_mergeUp_187 : decode b_S_mergeUp 187 = .ok (.goto (-135), 3) := dk da_S_mergeUp 96 rfl
theorem d_S_mergeUp_190 : decode b_S_mergeUp 190 = .ok (.iload 11, 2) := dk da_S_mergeUp 97 rfl
theorem d_S_mergeUp_192 : decode b_S_mergeUp 192 = .ok (.ifCond .eq 24, 3) := dk da_S_mergeUp 98 rfl
theorem d_S_mergeUp_195 : decode b_S_mergeUp 195 = .ok (.aload_n 0, 1) := dk da_S_mergeUp 99 rfl
theorem d_S_mergeUp_196 : decode b_S_mergeUp 196 = .ok (.aload_n 0, 1) := dk da_S_mergeUp 100 rfl
theorem d_S_mergeUp_197 : decode b_S_mergeUp 197 = .ok (.getfield 15, 3) := dk da_S_mergeUp 101 rfl
theorem d_S_mergeUp_200 : decode b_S_mergeUp 200 = .ok (.iload 5, 2) := dk da_S_mergeUp 102 rfl
theorem d_S_mergeUp_202 : decode b_S_mergeUp 202 = .ok (.iaload, 1) := dk da_S_mergeUp 103 rfl
theorem d_S_mergeUp_203 : decode b_S_mergeUp 203 = .ok (.iload 6, 2) := dk da_S_mergeUp 104 rfl
theorem d_S_mergeUp_205 : decode b_S_mergeUp 205 = .ok (.iload 7, 2) := dk da_S_mergeUp 105 rfl
theorem d_S_mergeUp_207 : decode b_S_mergeUp 207 = .ok (.iload 6, 2) := dk da_S_mergeUp 106 rfl
theorem d_S_mergeUp_209 : decode b_S_mergeUp 209 = .ok (.isub, 1) := dk da_S_mergeUp 107 rfl
theorem d_S_mergeUp_210 : decode b_S_mergeUp 210 = .ok (.invokevirtual 63, 3) := dk da_S_mergeUp 108 rfl
theorem d_S_mergeUp_213 : decode b_S_mergeUp 213 = .ok (.goto 17, 3) := dk da_S_mergeUp 109 rfl
theorem d_S_mergeUp_216 : decode b_S_mergeUp 216 = .ok (.aload_n 0, 1) := dk da_S_mergeUp 110 rfl
theorem d_S_mergeUp_217 : decode b_S_mergeUp 217 = .ok (.aload_n 0, 1) := dk da_S_mergeUp 111 rfl
theorem d_S_mergeUp_218 : decode b_S_mergeUp 218 = .ok (.getfield 9, 3) := dk da_S_mergeUp 112 rfl
theorem d_S_mergeUp_221 : decode b_S_mergeUp 221 = .ok (.iload 6, 2) := dk da_S_mergeUp 113 rfl
theorem d_S_mergeUp_223 : decode b_S_mergeUp 223 = .ok (.iaload, 1) := dk da_S_mergeUp 114 rfl
theorem d_S_mergeUp_224 : decode b_S_mergeUp 224 = .ok (.iload 5, 2) := dk da_S_mergeUp 115 rfl
theorem d_S_mergeUp_226 : decode b_S_mergeUp 226 = .ok (.iload_n 2, 1) := dk da_S_mergeUp 116 rfl
theorem d_S_mergeUp_227 : decode b_S_mergeUp 227 = .ok (.invokevirtual 73, 3) := dk da_S_mergeUp 117 rfl
theorem d_S_mergeUp_230 : decode b_S_mergeUp 230 = .ok (.istore 12, 2) := dk da_S_mergeUp 118 rfl
theorem d_S_mergeUp_232 : decode b_S_mergeUp 232 = .ok (.iconst 0, 1) := dk da_S_mergeUp 119 rfl
theorem d_S_mergeUp_233 : decode b_S_mergeUp 233 = .ok (.istore 13, 2) := dk da_S_mergeUp 120 rfl
theorem d_S_mergeUp_235 : decode b_S_mergeUp 235 = .ok (.iload 13, 2) := dk da_S_mergeUp 121 rfl
theorem d_S_mergeUp_237 : decode b_S_mergeUp 237 = .ok (.iload 12, 2) := dk da_S_mergeUp 122 rfl
theorem d_S_mergeUp_239 : decode b_S_mergeUp 239 = .ok (.if_icmp .ge 47, 3) := dk da_S_mergeUp 123 rfl
theorem d_S_mergeUp_242 : decode b_S_mergeUp 242 = .ok (.aload_n 0, 1) := dk da_S_mergeUp 124 rfl
theorem d_S_mergeUp_243 : decode b_S_mergeUp 243 = .ok (.getfield 9, 3) := dk da_S_mergeUp 125 rfl
theorem d_S_mergeUp_246 : decode b_S_mergeUp 246 = .ok (.iload 8, 2) := dk da_S_mergeUp 126 rfl
theorem d_S_mergeUp_248 : decode b_S_mergeUp 248 = .ok (.iload 11, 2) := dk da_S_mergeUp 127 rfl
theorem d_S_mergeUp_250 : decode b_S_mergeUp 250 = .ok (.ifCond .eq 16, 3) := dk da_S_mergeUp 128 rfl
theorem d_S_mergeUp_253 : decode b_S_mergeUp 253 = .ok (.aload_n 0, 1) := dk da_S_mergeUp 129 rfl
theorem d_S_mergeUp_254 : decode b_S_mergeUp 254 = .ok (.getfield 9, 3) := dk da_S_mergeUp 130 rfl
theorem d_S_mergeUp_257 : decode b_S_mergeUp 257 = .ok (.iload 6, 2) := dk da_S_mergeUp 131 rfl
theorem d_S_mergeUp_259 : decode b_S_mergeUp 259 = .ok (.iinc 6 1, 3) := dk da_S_mergeUp 132 rfl
theorem d_S_mergeUp_262 : decode b_S_mergeUp 262 = .ok (.iaload, 1) := dk da_S_mergeUp 133 rfl
theorem d_S_mergeUp_263 : decode b_S_mergeUp 263 = .ok (.goto 13, 3) := dk da_S_mergeUp 134 rfl
theorem d_S_mergeUp_266 : decode b_S_mergeUp 266 = .ok (.aload_n 0, 1) := dk da_S_mergeUp 135 rfl
theorem d_S_mergeUp_267 : decode b_S_mergeUp 267 = .ok (.getfield 15, 3) := dk da_S_mergeUp 136 rfl
theorem d_S_mergeUp_270 : decode b_S_mergeUp 270 = .ok (.iload 5, 2) := dk da_S_mergeUp 137 rfl
theorem d_S_mergeUp_272 : decode b_S_mergeUp 272 = .ok (.iinc 5 1, 3) := dk da_S_mergeUp 138 rfl
theorem d_S_mergeUp_275 : decode b_S_mergeUp 275 = .ok (.iaload, 1) := dk da_S_mergeUp 139 rfl
theorem d_S_mergeUp_276 : decode b_S_mergeUp 276 = .ok (.iastore, 1) := dk da_S_mergeUp 140 rfl
theorem d_S_mergeUp_277 : decode b_S_mergeUp 277 = .ok (.iinc 8 1, 3) := dk da_S_mergeUp 141 rfl
theorem d_S_mergeUp_280 : decode b_S_mergeUp 280 = .ok (.iinc 13 1, 3) := dk da_S_mergeUp 142 rfl
theorem d_S_mergeUp_283 : decode b_S_mergeUp 283 = .ok (.goto (-48), 3) := dk da_S_mergeUp 143 rfl
theorem d_S_mergeUp_286 : decode b_S_mergeUp 286 = .ok (.aload_n 0, 1) := dk da_S_mergeUp 144 rfl
theorem d_S_mergeUp_287 : decode b_S_mergeUp 287 = .ok (.iload 12, 2) := dk da_S_mergeUp 145 rfl
theorem d_S_mergeUp_289 : decode b_S_mergeUp 289 = .ok (.bipush 7, 2) := dk da_S_mergeUp 146 rfl
theorem d_S_mergeUp_291 : decode b_S_mergeUp 291 = .ok (.if_icmp .lt 24, 3) := dk da_S_mergeUp 147 rfl
theorem d_S_mergeUp_294 : decode b_S_mergeUp 294 = .ok (.aload_n 0, 1) := dk da_S_mergeUp 148 rfl
theorem d_S_mergeUp_295 : decode b_S_mergeUp 295 = .ok (.getfield 32, 3) := dk da_S_mergeUp 149 rfl
theorem d_S_mergeUp_298 : decode b_S_mergeUp 298 = .ok (.iconst 1, 1) := dk da_S_mergeUp 150 rfl
theorem d_S_mergeUp_299 : decode b_S_mergeUp 299 = .ok (.if_icmp .le 12, 3) := dk da_S_mergeUp 151 rfl
theorem d_S_mergeUp_302 : decode b_S_mergeUp 302 = .ok (.aload_n 0, 1) := dk da_S_mergeUp 152 rfl
theorem d_S_mergeUp_303 : decode b_S_mergeUp 303 = .ok (.getfield 32, 3) := dk da_S_mergeUp 153 rfl
theorem d_S_mergeUp_306 : decode b_S_mergeUp 306 = .ok (.iconst 1, 1) := dk da_S_mergeUp 154 rfl
theorem d_S_mergeUp_307 : decode b_S_mergeUp 307 = .ok (.isub, 1) := dk da_S_mergeUp 155 rfl
theorem d_S_mergeUp_308 : decode b_S_mergeUp 308 = .ok (.goto 13, 3) := dk da_S_mergeUp 156 rfl
theorem d_S_mergeUp_311 : decode b_S_mergeUp 311 = .ok (.iconst 1, 1) := dk da_S_mergeUp 157 rfl
theorem d_S_mergeUp_312 : decode b_S_mergeUp 312 = .ok (.goto 9, 3) := dk da_S_mergeUp 158 rfl
theorem d_S_mergeUp_315 : decode b_S_mergeUp 315 = .ok (.aload_n 0, 1) := dk da_S_mergeUp 159 rfl
theorem d_S_mergeUp_316 : decode b_S_mergeUp 316 = .ok (.getfield 32, 3) := dk da_S_mergeUp 160 rfl
theorem d_S_mergeUp_319 : decode b_S_mergeUp 319 = .ok (.iconst 2, 1) := dk da_S_mergeUp 161 rfl
theorem d_S_mergeUp_320 : decode b_S_mergeUp 320 = .ok (.iadd, 1) := dk da_S_mergeUp 162 rfl
theorem d_S_mergeUp_321 : decode b_S_mergeUp 321 = .ok (.putfield 32, 3) := dk da_S_mergeUp 163 rfl
theorem d_S_mergeUp_324 : decode b_S_mergeUp 324 = .ok (.iconst 0, 1) := dk da_S_mergeUp 164 rfl
theorem d_S_mergeUp_325 : decode b_S_mergeUp 325 = .ok (.istore 9, 2) := dk da_S_mergeUp 165 rfl
theorem d_S_mergeUp_327 : decode b_S_mergeUp 327 = .ok (.goto (-275), 3) := dk da_S_mergeUp 166 rfl
theorem d_S_mergeUp_330 : decode b_S_mergeUp 330 = .ok (.iload 5, 2) := dk da_S_mergeUp 167 rfl
theorem d_S_mergeUp_332 : decode b_S_mergeUp 332 = .ok (.iload_n 2, 1) := dk da_S_mergeUp 168 rfl
theorem d_S_mergeUp_333 : decode b_S_mergeUp 333 = .ok (.if_icmp .ge 26, 3) := dk da_S_mergeUp 169 rfl
theorem d_S_mergeUp_336 : decode b_S_mergeUp 336 = .ok (.aload_n 0, 1) := dk da_S_mergeUp 170 rfl
theorem d_S_mergeUp_337 : decode b_S_mergeUp 337 = .ok (.getfield 9, 3) := dk da_S_mergeUp 171 rfl
theorem d_S_mergeUp_340 : decode b_S_mergeUp 340 = .ok (.iload 8, 2) := dk da_S_mergeUp 172 rfl
theorem d_S_mergeUp_342 : decode b_S_mergeUp 342 = .ok (.iinc 8 1, 3) := dk da_S_mergeUp 173 rfl
theorem d_S_mergeUp_345 : decode b_S_mergeUp 345 = .ok (.aload_n 0, 1) := dk da_S_mergeUp 174 rfl
theorem d_S_mergeUp_346 : decode b_S_mergeUp 346 = .ok (.getfield 15, 3) := dk da_S_mergeUp 175 rfl
theorem d_S_mergeUp_349 : decode b_S_mergeUp 349 = .ok (.iload 5, 2) := dk da_S_mergeUp 176 rfl
theorem d_S_mergeUp_351 : decode b_S_mergeUp 351 = .ok (.iinc 5 1, 3) := dk da_S_mergeUp 177 rfl
theorem d_S_mergeUp_354 : decode b_S_mergeUp 354 = .ok (.iaload, 1) := dk da_S_mergeUp 178 rfl
theorem d_S_mergeUp_355 : decode b_S_mergeUp 355 = .ok (.iastore, 1) := dk da_S_mergeUp 179 rfl
theorem d_S_mergeUp_356 : decode b_S_mergeUp 356 = .ok (.goto (-26), 3) := dk da_S_mergeUp 180 rfl
theorem d_S_mergeUp_359 : decode b_S_mergeUp 359 = .ok (.return_, 1) := dk da_S_mergeUp 181 rfl
def dl_S_waiting : List (Nat × Instr × Nat) := [(0, .iload_n 2, 1), (1, .istore 4, 2), (3, .iload_n 3, 1), (4, .istore 5, 2), (6, .iload 4, 2), (8, .iload 5, 2), (10, .if_icmp .ge 48, 3), (13, .iload 4, 2), (15, .iload 5, 2), (17, .iadd, 1), (18, .iconst 1, 1), (19, .iushr, 1), (20, .istore 6, 2), (22, .aload_n 0, 1), (23, .getfield 24, 3), (26, .iload_n 1, 1), (27, .aload_n 0, 1), (28, .getfield 15, 3), (31, .iload 6, 2), (33, .iaload, 1), (34, .invokeinterface 54 3, 5), (39, .ifCond .lt 12, 3), (42, .iload 6, 2), (44, .iconst 1, 1), (45, .iadd, 1), (46, .istore 4, 2), (48, .goto 7, 3), (51, .iload 6, 2), (53, .istore 5, 2), (55, .goto (-49), 3), (58, .iload 4, 2), (60, .iload_n 2, 1), (61, .isub, 1), (62, .ireturn, 1)]
set_option maxRecDepth 100000 in
theorem da_S_waiting : (dl_S_waiting.all fun q => decide (decode b_S_waiting q.1 = .ok q.2)) = true := by decide +kernel
theorem d_S_waiting_0 : decode b_S_waiting 0 = .ok (.iload_n 2, 1) := dk da_S_waiting 0 rfl
theorem d_S_waiting_1 : decode b_S_waiting 1 = .ok (.istore 4, 2) := dk da_S_waiting 1 rfl
theorem d_S_waiting_3 : decode b_S_waiting 3 = .ok (.iload_n 3, 1) := dk da_S_waiting 2 rfl
theorem d_S_waiting_4 : decode b_S_waiting 4 = .ok (.istore 5, 2) := dk da_S_waiting 3 rfl
theorem d_S_waiting_6 : decode b_S_waiting 6 = .ok (.iload 4, 2) := dk da_S_waiting 4 rfl
theorem d_S_waiting_8 : decode b_S_waiting 8 = .ok (.iload 5, 2) := dk da_S_waiting 5 rfl
theorem d_S_waiting_10 : decode b_S_waiting 10 = .ok (.if_icmp .ge 48, 3) := dk da_S_waiting 6 rfl
theorem d_S_waiting_13 : decode b_S_waiting 13 = .ok (.iload 4, 2) := dk da_S_waiting 7 rfl
theorem d_S_waiting_15 : decode b_S_waiting 15 = .ok (.iload 5, 2) := dk da_S_waiting 8 rfl
theorem d_S_waiting_17 : decode b_S_waiting 17 = .ok (.iadd, 1) := dk da_S_waiting 9 rfl
theorem d_S_waiting_18 : decode b_S_waiting 18 = .ok (.iconst 1, 1) := dk da_S_waiting 10 rfl
theorem d_S_waiting_19 : decode b_S_waiting 19 = .ok (.iushr, 1) := dk da_S_waiting 11 rfl
theorem d_S_waiting_20 : decode b_S_waiting 20 = .ok (.istore 6, 2) := dk da_S_waiting 12 rfl
theorem d_S_waiting_22 : decode b_S_waiting 22 = .ok (.aload_n 0, 1) := dk da_S_waiting 13 rfl
theorem d_S_waiting_23 : decode b_S_waiting 23 = .ok (.getfield 24, 3) := dk da_S_waiting 14 rfl
theorem d_S_waiting_26 : decode b_S_waiting 26 = .ok (.iload_n 1, 1) := dk da_S_waiting 15 rfl
theorem d_S_waiting_27 : decode b_S_waiting 27 = .ok (.aload_n 0, 1) := dk da_S_waiting 16 rfl
theorem d_S_waiting_28 : decode b_S_waiting 28 = .ok (.getfield 15, 3) := dk da_S_waiting 17 rfl
theorem d_S_waiting_31 : decode b_S_waiting 31 = .ok (.iload 6, 2) := dk da_S_waiting 18 rfl
theorem d_S_waiting_33 : decode b_S_waiting 33 = .ok (.iaload, 1) := dk da_S_waiting 19 rfl
theorem d_S_waiting_34 : decode b_S_waiting 34 = .ok (.invokeinterface 54 3, 5) := dk da_S_waiting 20 rfl
theorem d_S_waiting_39 : decode b_S_waiting 39 = .ok (.ifCond .lt 12, 3) := dk da_S_waiting 21 rfl
theorem d_S_waiting_42 : decode b_S_waiting 42 = .ok (.iload 6, 2) := dk da_S_waiting 22 rfl
theorem d_S_waiting_44 : decode b_S_waiting 44 = .ok (.iconst 1, 1) := dk da_S_waiting 23 rfl
theorem d_S_waiting_45 : decode b_S_waiting 45 = .ok (.iadd, 1) := dk da_S_waiting 24 rfl
theorem d_S_waiting_46 : decode b_S_waiting 46 = .ok (.istore 4, 2) := dk da_S_waiting 25 rfl
theorem d_S_waiting_48 : decode b_S_waiting 48 = .ok (.goto 7, 3) := dk da_S_waiting 26 rfl
theorem d_S_waiting_51 : decode b_S_waiting 51 = .ok (.iload 6, 2) := dk da_S_waiting 27 rfl
theorem d_S_waiting_53 : decode b_S_waiting 53 = .ok (.istore 5, 2) := dk da_S_waiting 28 rfl
theorem d_S_waiting_55 : decode b_S_waiting 55 = .ok (.goto (-49), 3) := dk da_S_waiting 29 rfl
theorem d_S_waiting_58 : decode b_S_waiting 58 = .ok (.iload 4, 2) := dk da_S_waiting 30 rfl
theorem d_S_waiting_60 : decode b_S_waiting 60 = .ok (.iload_n 2, 1) := dk da_S_waiting 31 rfl
theorem d_S_waiting_61 : decode b_S_waiting 61 = .ok (.isub, 1) := dk da_S_waiting 32 rfl
theorem d_S_waiting_62 : decode b_S_waiting 62 = .ok (.ireturn, 1) := dk da_S_waiting 33 rfl
def dl_S_mergeDown : List (Nat × Instr × Nat) := [(0, .iconst 0, 1), (1, .istore 5, 2), (3, .iload 5, 2), (5, .iload 4, 2), (7, .if_icmp .ge 25, 3), (10, .aload_n 0, 1), (11, .getfield 15, 3), (14, .iload 5, 2), (16, .aload_n 0, 1), (17, .getfield 9, 3), (20, .iload_n 3, 1), (21, .iload 5, 2), (23, .iadd, 1), (24, .iaload, 1), (25, .iastore, 1), (26, .iinc 5 1, 3), (29, .goto (-26), 3), (32, .iload_n 1, 1), (33, .iload_n 2, 1), (34, .iadd, 1), (35, .iconst 1, 1), (36, .isub, 1), (37, .istore 5, 2), (39, .iload 4, 2), (41, .iconst 1, 1), (42, .isub, 1), (43, .istore 6, 2), (45, .iload_n 3, 1), (46, .iload 4, 2), (48, .iadd, 1), (49, .iconst 1, 1), (50, .isub, 1), (51, .istore 7, 2), (53, .iload 5, 2), (55, .iload_n 1, 1), (56, .if_icmp .lt 82, 3), (59, .iload 6, 2), (61, .ifCond .lt 77, 3), (64, .aload_n 0, 1), (65, .getfield 24, 3), (68, .aload_n 0, 1), (69, .getfield 15, 3), (72, .iload 6, 2), (74, .iaload, 1), (75, .aload_n 0, 1), (76, .getfield 9, 3), (79, .iload 5, 2), (81, .iaload, 1), (82, .invokeinterface 54 3, 5), (87, .ifCond .ge 7, 3), (90, .iconst 1, 1), (91, .goto 4, 3), (94, .iconst 0, 1), (95, .istore 8, 2), (97, .aload_n 0, 1), (98, .getfield 9, 3), (101, .iload 7, 2), (103, .iload 8, 2), (105, .ifCond .eq 16, 3), (108, .aload_n 0, 1), (109, .getfield 9, 3), (112, .iload 5, 2), (114, .iinc 5 (-1), 3), (117, .iaload, 1), (118, .goto 13, 3), (121, .aload_n 0, 1), (122, .getfield 15, 3), (125, .iload 6, 2), (127, .iinc 6 (-1), 3), (130, .iaload, 1), (131, .iastore, 1), (132, .iinc 7 (-1), 3), (135, .goto (-82), 3), (138, .iload 6, 2), (140, .ifCond .lt 26, 3), (143, .aload_n 0, 1), (144, .getfield 9, 3), (147, .iload 7, 2), (149, .iinc 7 (-1), 3), (152, .aload_n 0, 1), (153, .getfield 15, 3), (156, .iload 6, 2), (158, .iinc 6 (-1), 3), (161, .iaload, 1), (162, .iastore, 1), (163, .goto (-25), 3), (166, .return_, 1)]
set_option maxRecDepth 100000 in
theorem da_S_mergeDown : (dl_S_mergeDown.all fun q => decide (decode b_S_mergeDown q.1 = .ok q.2)) = true := by decide +kernel
theorem d_S_mergeDown_0 : decode b_S_mergeDown 0 = .ok (.iconst 0, 1) := dk da_S_mergeDown 0 rfl
theorem d_S_mergeDown_1 : decode b_S_mergeDown 1 = .ok (.istore 5, 2) := dk da_S_mergeDown 1 rfl
theorem d_S_mergeDown_3 : decode b_S_mergeDown 3 = .ok (.iload 5, 2) := dk da_S_mergeDown 2 rfl
theorem d_S_mergeDown_5 : decode b_S_mergeDown 5 = .ok (.iload 4, 2) := dk da_S_mergeDown 3 rfl
theorem d_S_mergeDown_7 : decode b_S_mergeDown 7 = .ok (.if_icmp .ge 25, 3) := dk da_S_mergeDown 4 rfl
theorem d_S_mergeDown_10 : decode b_S_mergeDown 10 = .ok (.aload_n 0, 1) := dk da_S_mergeDown 5 rfl
theorem d_S_mergeDown_11 : decode b_S_mergeDown 11 = .ok (.getfield 15, 3) := dk da_S_mergeDown 6 rfl
theorem d_S_mergeDown_14 : decode b_S_mergeDown 14 = .ok (.iload 5, 2) := dk da_S_mergeDown 7 rfl
theorem d_S_mergeDown_16 : decode b_S_mergeDown 16 = .ok (.aload_n 0, 1) := dk da_S_mergeDown 8 rfl
theorem d_S_mergeDown_17 : decode b_S_mergeDown 17 = .ok (.getfield 9, 3) := dk da_S_mergeDown 9 rfl
theorem d_S_mergeDown_20 : decode b_S_mergeDown 20 = .ok (.iload_n 3, 1) := dk da_S_mergeDown 10 rfl
theorem d_S_mergeDown_21 : decode b_S_mergeDown 21 = .ok (.iload 5, 2) := dk da_S_mergeDown 11 rfl
theorem d_S_mergeDown_23 : decode b_S_mergeDown 23 = .ok (.iadd, 1) := dk da_S_mergeDown 12 rfl
theorem d_S_mergeDown_24 : decode b_S_mergeDown 24 = .ok (.iaload, 1) := dk da_S_mergeDown 13 rfl
theorem d_S_mergeDown_25 : decode b_S_mergeDown 25 = .ok (.iastore, 1) := dk da_S_mergeDown 14 rfl
theorem d_S_mergeDown_26 : decode b_S_mergeDown 26 = .ok (.iinc 5 1, 3) := dk da_S_mergeDown 15 rfl
theorem d_S_mergeDown_29 : decode b_S_mergeDown 29 = .ok (.goto (-26), 3) := dk da_S_mergeDown 16 rfl
theorem d_S_mergeDown_32 : decode b_S_mergeDown 32 = .ok (.iload_n 1, 1) := dk da_S_mergeDown 17 rfl
theorem d_S_mergeDown_33 : decode b_S_mergeDown 33 = .ok (.iload_n 2, 1) := dk da_S_mergeDown 18 rfl
theorem d_S_mergeDown_34 : decode b_S_mergeDown 34 = .ok (.iadd, 1) := dk da_S_mergeDown 19 rfl
theorem d_S_mergeDown_35 : decode b_S_mergeDown 35 = .ok (.iconst 1, 1) := dk da_S_mergeDown 20 rfl
theorem d_S_mergeDown_36 : decode b_S_mergeDown 36 = .ok (.isub, 1) := dk da_S_mergeDown 21 rfl
theorem d_S_mergeDown_37 : decode b_S_mergeDown 37 = .ok (.istore 5, 2) := dk da_S_mergeDown 22 rfl
theorem d_S_mergeDown_39 : decode b_S_mergeDown 39 = .ok (.iload 4, 2) := dk da_S_mergeDown 23 rfl
theorem d_S_mergeDown_41 : decode b_S_mergeDown 41 = .ok (.iconst 1, 1) := dk da_S_mergeDown 24 rfl
theorem d_S_mergeDown_42 : decode b_S_mergeDown 42 = .ok (.isub, 1) := dk da_S_mergeDown 25 rfl
theorem d_S_mergeDown_43 : decode b_S_mergeDown 43 = .ok (.istore 6, 2) := dk da_S_mergeDown 26 rfl
theorem d_S_mergeDown_45 : decode b_S_mergeDown 45 = .ok (.iload_n 3, 1) := dk da_S_mergeDown 27 rfl
theorem d_S_mergeDown_46 : decode b_S_mergeDown 46 = .ok (.iload 4, 2) := dk da_S_mergeDown 28 rfl
theorem d_S_mergeDown_48 : decode b_S_mergeDown 48 = .ok (.iadd, 1) := dk da_S_mergeDown 29 rfl
theorem d_S_mergeDown_49 : decode b_S_mergeDown 49 = .ok (.iconst 1, 1) := dk da_S_mergeDown 30 rfl
theorem d_S_mergeDown_50 : decode b_S_mergeDown 50 = .ok (.isub, 1) := dk da_S_mergeDown 31 rfl
theorem d_S_mergeDown_51 : decode b_S_mergeDown 51 = .ok (.istore 7, 2) := dk da_S_mergeDown 32 rfl
theorem d_S_mergeDown_53 : decode b_S_mergeDown 53 = .ok (.iload 5, 2) := dk da_S_mergeDown 33 rfl
theorem d_S_mergeDown_55 : decode b_S_mergeDown 55 = .ok (.iload_n 1, 1) := dk da_S_mergeDown 34 rfl
theorem d_S_mergeDown_56 : decode b_S_mergeDown 56 = .ok (.if_icmp .lt 82, 3) := dk da_S_mergeDown 35 rfl
theorem d_S_mergeDown_59 : decode b_S_mergeDown 59 = .ok (.iload 6, 2) := dk da_S_mergeDown 36 rfl
theorem d_S_mergeDown_61 : decode b_S_mergeDown 61 = .ok (.ifCond .lt 77, 3) := dk da_S_mergeDown 37 rfl
theorem d_S_mergeDown_64 : decode b_S_mergeDown 64 = .ok (.aload_n 0, 1) := dk da_S_mergeDown 38 rfl
theorem d_S_mergeDown_65 : decode b_S_mergeDown 65 = .ok (.getfield 24, 3) := dk da_S_mergeDown 39 rfl
theorem d_S_mergeDown_68 : decode b_S_mergeDown 68 = .ok (.aload_n 0, 1) := dk da_S_mergeDown 40 rfl
theorem d_S_mergeDown_69 : decode b_S_mergeDown 69 = .ok (.getfield 15, 3) := dk da_S_mergeDown 41 rfl
theorem d_S_mergeDown_72 : decode b_S_mergeDown 72 = .ok (.iload 6, 2) := dk da_S_mergeDown 42 rfl
theorem d_S_mergeDown_74 : decode b_S_mergeDown 74 = .ok (.iaload, 1) := dk da_S_mergeDown 43 rfl
theorem d_S_mergeDown_75 : decode b_S_mergeDown 75 = .ok (.aload_n 0, 1) := dk da_S_mergeDown 44 rfl
theorem d_S_mergeDown_76 : decode b_S_mergeDown 76 = .ok (.getfield 9, 3) := dk da_S_mergeDown 45 rfl
theorem d_S_mergeDown_79 : decode b_S_mergeDown 79 = .ok (.iload 5, 2) := dk da_S_mergeDown 46 rfl
theorem d_S_mergeDown_81 : decode b_S_mergeDown 81 = .ok (.iaload, 1) := dk da_S_mergeDown 47 rfl
theorem d_S_mergeDown_82 : decode b_S_mergeDown 82 = .ok (.invokeinterface 54 3, 5) := dk da_S_mergeDown 48 rfl
theorem d_S_mergeDown_87 : decode b_S_mergeDown 87 = .ok (.ifCond .ge 7, 3) := dk da_S_mergeDown 49 rfl
theorem d_S_mergeDown_90 : decode b_S_mergeDown 90 = .ok (.iconst 1, 1) := dk da_S_mergeDown 50 rfl
theorem d_S_mergeDown_91 : decode b_S_mergeDown 91 = .ok (.goto 4, 3) := dk da_S_mergeDown 51 rfl
theorem d_S_mergeDown_94 : decode b_S_mergeDown 94 = .ok (.iconst 0, 1) := dk da_S_mergeDown 52 rfl
theorem d_S_mergeDown_95 : decode b_S_mergeDown 95 = .ok (.istore 8, 2) := dk da_S_mergeDown 53 rfl
theorem d_S_mergeDown_97 : decode b_S_mergeDown 97 = .ok (.aload_n 0, 1) := dk da_S_mergeDown 54 rfl
theorem d_S_mergeDown_98 : decode b_S_mergeDown 98 = .ok (.getfield 9, 3) := dk da_S_mergeDown 55 rfl
theorem d_S_mergeDown_101 : decode b_S_mergeDown 101 = .ok (.iload 7, 2) := dk da_S_mergeDown 56 rfl
theorem d_S_mergeDown_103 : decode b_S_mergeDown 103 = .ok (.iload 8, 2) := dk da_S_mergeDown 57 rfl
theorem d_S_mergeDown_105 : decode b_S_mergeDown 105 = .ok (.ifCond .eq 16, 3) := dk da_S_mergeDown 58 rfl
theorem d_S_mergeDown_108 : decode b_S_mergeDown 108 = .ok (.aload_n 0, 1) := dk da_S_mergeDown 59 rfl
theorem d_S_mergeDown_109 : decode b_S_mergeDown 109 = .ok (.getfield 9, 3) := dk da_S_mergeDown 60 rfl
theorem d_S_mergeDown_112 : decode b_S_mergeDown 112 = .ok (.iload 5, 2) := dk da_S_mergeDown 61 rfl
theorem d_S_mergeDown_114 : decode b_S_mergeDown 114 = .ok (.iinc 5 (-1), 3) := dk da_S_mergeDown 62 rfl
theorem d_S_mergeDown_117 : decode b_S_mergeDown 117 = .ok (.iaload, 1) := dk da_S_mergeDown 63 rfl
theorem d_S_mergeDown_118 : decode b_S_mergeDown 118 = .ok (.goto 13, 3) := dk da_S_mergeDown 64 rfl
theorem d_S_mergeDown_121 : decode b_S_mergeDown 121 = .ok (.aload_n 0, 1) := dk da_S_mergeDown 65 rfl
theorem d_S_mergeDown_122 : decode b_S_mergeDown 122 = .ok (.getfield 15, 3) := dk da_S_mergeDown 66 rfl
theorem d_S_mergeDown_125 : decode b_S_mergeDown 125 = .ok (.iload 6, 2) := dk da_S_mergeDown 67 rfl
theorem d_S_mergeDown_127 : decode b_S_mergeDown 127 = .ok (.iinc 6 (-1), 3) := dk da_S_mergeDown 68 rfl
theorem d_S_mergeDown_130 : decode b_S_mergeDown 130 = .ok (.iaload, 1) := dk da_S_mergeDown 69 rfl
theorem d_S_mergeDown_131 : decode b_S_mergeDown 131 = .ok (.iastore, 1) := dk da_S_mergeDown 70 rfl
theorem d_S_mergeDown_132 : decode b_S_mergeDown 132 = .ok (.iinc 7 (-1), 3) := dk da_S_mergeDown 71 rfl
theorem d_S_mergeDown_135 : decode b_S_mergeDown 135 = .ok (.goto (-82), 3) := dk da_S_mergeDown 72 rfl
theorem d_S_mergeDown_138 : decode b_S_mergeDown 138 = .ok (.iload 6, 2) := dk da_S_mergeDown 73 rfl
theorem d_S_mergeDown_140 : decode b_S_mergeDown 140 = .ok (.ifCond .lt 26, 3) := dk da_S_mergeDown 74 rfl
theorem d_S_mergeDown_143 : decode b_S_mergeDown 143 = .ok (.aload_n 0, 1) := dk da_S_mergeDown 75 rfl
theorem d_S_mergeDown_144 : decode b_S_mergeDown 144 = .ok (.getfield 9, 3) := dk da_S_mergeDown 76 rfl
theorem d_S_mergeDown_147 : decode b_S_mergeDown 147 = .ok (.iload 7, 2) := dk da_S_mergeDown 77 rfl
theorem d_S_mergeDown_149 : decode b_S_mergeDown 149 = .ok (.iinc 7 (-1), 3) := dk da_S_mergeDown 78 rfl
theorem d_S_mergeDown_152 : decode b_S_mergeDown 152 = .ok (.aload_n 0, 1) := dk da_S_mergeDown 79 rfl
theorem d_S_mergeDown_153 : decode b_S_mergeDown 153 = .ok (.getfield 15, 3) := dk da_S_mergeDown 80 rfl
theorem d_S_mergeDown_156 : decode b_S_mergeDown 156 = .ok (.iload 6, 2) := dk da_S_mergeDown 81 rfl
theorem d_S_mergeDown_158 : decode b_S_mergeDown 158 = .ok (.iinc 6 (-1), 3) := dk da_S_mergeDown 82 rfl
theorem d_S_mergeDown_161 : decode b_S_mergeDown 161 = .ok (.iaload, 1) := dk da_S_mergeDown 83 rfl
theorem d_S_mergeDown_162 : decode b_S_mergeDown 162 = .ok (.iastore, 1) := dk da_S_mergeDown 84 rfl
theorem d_S_mergeDown_163 : decode b_S_mergeDown 163 = .ok (.goto (-25), 3) := dk da_S_mergeDown 85 rfl
theorem d_S_mergeDown_166 : decode b_S_mergeDown 166 = .ok (.return_, 1) := dk da_S_mergeDown 86 rfl
def dl_O3_init : List (Nat × Instr × Nat) := [(0, .aload_n 0, 1), (1, .invokespecial 1, 3), (4, .return_, 1)]
set_option maxRecDepth 100000 in
theorem da_O3_init : (dl_O3_init.all fun q => decide (decode b_O3_init q.1 = .ok q.2)) = true := by decide +kernel
theorem d_O3_init_0 : decode b_O3_init 0 = .ok (.aload_n 0, 1) := dk da_O3_init 0 rfl
theorem d_O3_init_1 : decode b_O3_init 1 = .ok (.invokespecial 1, 3) := dk da_O3_init 1 rfl
theorem d_O3_init_4 : decode b_O3_init 4 = .ok (.return_, 1) := dk da_O3_init 2 rfl
def dl_O3_compare : List (Nat × Instr × Nat) := [(0, .iload_n 1, 1), (1, .ldc 9, 2), (3, .iadd, 1), (4, .iload_n 2, 1), (5, .ldc 9, 2), (7, .iadd, 1), (8, .if_icmp .ge 7, 3), (11, .iconst (-1), 1), (12, .goto 13, 3), (15, .iload_n 1, 1), (16, .iload_n 2, 1), (17, .if_icmp .ne 7, 3), (20, .iconst 0, 1), (21, .goto 4, 3), (24, .iconst 1, 1), (25, .ireturn, 1)]
set_option maxRecDepth 100000 in
theorem da_O3_compare : (dl_O3_compare.all fun q => decide (decode b_O3_compare q.1 = .ok q.2)) = true := by decide +kernel
theorem d_O3_compare_0 : decode b_O3_compare 0 = .ok (.iload_n 1, 1) := dk da_O3_compare 0 rfl
theorem d_O3_compare_1 : decode b_O3_compare 1 = .ok (.ldc 9, 2) := dk da_O3_compare 1 rfl
theorem d_O3_compare_3 : decode b_O3_compare 3 = .ok (.iadd, 1) := dk da_O3_compare 2 rfl
theorem d_O3_compare_4 : decode b_O3_compare 4 = .ok (.iload_n 2, 1) := dk da_O3_compare 3 rfl
theorem d_O3_compare_5 : decode b_O3_compare 5 = .ok (.ldc 9, 2) := dk da_O3_compare 4 rfl
theorem d_O3_compare_7 : decode b_O3_compare 7 = .ok (.iadd, 1) := dk da_O3_compare 5 rfl
theorem d_O3_compare_8 : decode b_O3_compare 8 = .ok (.if_icmp .ge 7, 3) := dk da_O3_compare 6 rfl
theorem d_O3_compare_11 : decode b_O3_compare 11 = .ok (.iconst (-1), 1) := dk da_O3_compare 7 rfl
theorem d_O3_compare_12 : decode b_O3_compare 12 = .ok (.goto 13, 3) := dk da_O3_compare 8 rfl
theorem d_O3_compare_15 : decode b_O3_compare 15 = .ok (.iload_n 1, 1) := dk da_O3_compare 9 rfl
theorem d_O3_compare_16 : decode b_O3_compare 16 = .ok (.iload_n 2, 1) := dk da_O3_compare 10 rfl
theorem d_O3_compare_17 : decode b_O3_compare 17 = .ok (.if_icmp .ne 7, 3) := dk da_O3_compare 11 rfl
theorem d_O3_compare_20 : decode b_O3_compare 20 = .ok (.iconst 0, 1) := dk da_O3_compare 12 rfl
theorem d_O3_compare_21 : decode b_O3_compare 21 = .ok (.goto 4, 3) := dk da_O3_compare 13 rfl
theorem d_O3_compare_24 : decode b_O3_compare 24 = .ok (.iconst 1, 1) := dk da_O3_compare 14 rfl
theorem d_O3_compare_25 : decode b_O3_compare 25 = .ok (.ireturn, 1) := dk da_O3_compare 15 rfl
def dl_L_fill : List (Nat × Instr × Nat) := [(0, .aload 4, 2), (2, .iconst 0, 1), (3, .aload_n 0, 1), (4, .iload_n 1, 1), (5, .iload_n 2, 1), (6, .iload_n 3, 1), (7, .invokevirtual 7, 3), (10, .i2l, 1), (11, .lastore, 1), (12, .goto 11, 3), (15, .astore 5, 2), (17, .iconst 1, 1), (18, .ireturn, 1), (19, .astore 5, 2), (21, .iconst 2, 1), (22, .ireturn, 1), (23, .iconst 0, 1), (24, .ireturn, 1)]
set_option maxRecDepth 100000 in
theorem da_L_fill : (dl_L_fill.all fun q => decide (decode b_L_fill q.1 = .ok q.2)) = true := by decide +kernel
theorem d_L_fill_0 : decode b_L_fill 0 = .ok (.aload 4, 2) := dk da_L_fill 0 rfl
theorem d_L_fill_2 : decode b_L_fill 2 = .ok (.iconst 0, 1) := dk da_L_fill 1 rfl
theorem d_L_fill_3 : decode b_L_fill 3 = .ok (.aload_n 0, 1) := dk da_L_fill 2 rfl
theorem d_L_fill_4 : decode b_L_fill 4 = .ok (.iload_n 1, 1) := dk da_L_fill 3 rfl
theorem d_L_fill_5 : decode b_L_fill 5 = .ok (.iload_n 2, 1) := dk da_L_fill 4 rfl
theorem d_L_fill_6 : decode b_L_fill 6 = .ok (.iload_n 3, 1) := dk da_L_fill 5 rfl
theorem d_L_fill_7 : decode b_L_fill 7 = .ok (.invokevirtual 7, 3) := dk da_L_fill 6 rfl
theorem d_L_fill_10 : decode b_L_fill 10 = .ok (.i2l, 1) := dk da_L_fill 7 rfl
theorem d_L_fill_11 : decode b_L_fill 11 = .ok (.lastore, 1) := dk da_L_fill 8 rfl
theorem d_L_fill_12 : decode b_L_fill 12 = .ok (.goto 11, 3) := dk da_L_fill 9 rfl
theorem d_L_fill_15 : decode b_L_fill 15 = .ok (.astore 5, 2) := dk da_L_fill 10 rfl
theorem d_L_fill_17 : decode b_L_fill 17 = .ok (.iconst 1, 1) := dk da_L_fill 11 rfl
theorem d_L_fill_18 : decode b_L_fill 18 = .ok (.ireturn, 1) := dk da_L_fill 12 rfl
theorem d_L_fill_19 : decode b_L_fill 19 = .ok (.astore 5, 2) := dk da_L_fill 13 rfl
theorem d_L_fill_21 : decode b_L_fill 21 = .ok (.iconst 2, 1) := dk da_L_fill 14 rfl
theorem d_L_fill_22 : decode b_L_fill 22 = .ok (.ireturn, 1) := dk da_L_fill 15 rfl
theorem d_L_fill_23 : decode b_L_fill 23 = .ok (.iconst 0, 1) := dk da_L_fill 16 rfl
theorem d_L_fill_24 : decode b_L_fill 24 = .ok (.ireturn, 1) := dk da_L_fill 17 rfl
def dl_L_scatter : List (Nat × Instr × Nat) := [(0, .aload 4, 2), (2, .iconst 0, 1), (3, .aload_n 0, 1), (4, .iload_n 1, 1), (5, .iload_n 2, 1), (6, .iload_n 3, 1), (7, .invokevirtual 17, 3), (10, .i2l, 1), (11, .lastore, 1), (12, .goto 11, 3), (15, .astore 5, 2), (17, .iconst 1, 1), (18, .ireturn, 1), (19, .astore 5, 2), (21, .iconst 2, 1), (22, .ireturn, 1), (23, .iconst 0, 1), (24, .ireturn, 1)]
set_option maxRecDepth 100000 in
theorem da_L_scatter : (dl_L_scatter.all fun q => decide (decode b_L_scatter q.1 = .ok q.2)) = true := by decide +kernel
theorem d_L_scatter_0 : decode b_L_scatter 0 = .ok (.aload 4, 2) := dk da_L_scatter 0 rfl
theorem d_L_scatter_2 : decode b_L_scatter 2 = .ok (.iconst 0, 1) := dk da_L_scatter 1 rfl
theorem d_L_scatter_3 : decode b_L_scatter 3 = .ok (.aload_n 0, 1) := dk da_L_scatter 2 rfl
theorem d_L_scatter_4 : decode b_L_scatter 4 = .ok (.iload_n 1, 1) := dk da_L_scatter 3 rfl
theorem d_L_scatter_5 : decode b_L_scatter 5 = .ok (.iload_n 2, 1) := dk da_L_scatter 4 rfl
theorem d_L_scatter_6 : decode b_L_scatter 6 = .ok (.iload_n 3, 1) := dk da_L_scatter 5 rfl
theorem d_L_scatter_7 : decode b_L_scatter 7 = .ok (.invokevirtual 17, 3) := dk da_L_scatter 6 rfl
theorem d_L_scatter_10 : decode b_L_scatter 10 = .ok (.i2l, 1) := dk da_L_scatter 7 rfl
theorem d_L_scatter_11 : decode b_L_scatter 11 = .ok (.lastore, 1) := dk da_L_scatter 8 rfl
theorem d_L_scatter_12 : decode b_L_scatter 12 = .ok (.goto 11, 3) := dk da_L_scatter 9 rfl
theorem d_L_scatter_15 : decode b_L_scatter 15 = .ok (.astore 5, 2) := dk da_L_scatter 10 rfl
theorem d_L_scatter_17 : decode b_L_scatter 17 = .ok (.iconst 1, 1) := dk da_L_scatter 11 rfl
theorem d_L_scatter_18 : decode b_L_scatter 18 = .ok (.ireturn, 1) := dk da_L_scatter 12 rfl
theorem d_L_scatter_19 : decode b_L_scatter 19 = .ok (.astore 5, 2) := dk da_L_scatter 13 rfl
theorem d_L_scatter_21 : decode b_L_scatter 21 = .ok (.iconst 2, 1) := dk da_L_scatter 14 rfl
theorem d_L_scatter_22 : decode b_L_scatter 22 = .ok (.ireturn, 1) := dk da_L_scatter 15 rfl
theorem d_L_scatter_23 : decode b_L_scatter 23 = .ok (.iconst 0, 1) := dk da_L_scatter 16 rfl
theorem d_L_scatter_24 : decode b_L_scatter 24 = .ok (.ireturn, 1) := dk da_L_scatter 17 rfl
def dl_L_sort : List (Nat × Instr × Nat) := [(0, .aload 4, 2), (2, .iconst 0, 1), (3, .aload_n 0, 1), (4, .iload_n 1, 1), (5, .iload_n 2, 1), (6, .iload_n 3, 1), (7, .invokevirtual 20, 3), (10, .i2l, 1), (11, .lastore, 1), (12, .goto 7, 3), (15, .astore 5, 2), (17, .iconst 1, 1), (18, .ireturn, 1), (19, .iconst 0, 1), (20, .ireturn, 1)]
set_option maxRecDepth 100000 in
theorem da_L_sort : (dl_L_sort.all fun q => decide (decode b_L_sort q.1 = .ok q.2)) = true := by decide +kernel
theorem d_L_sort_0 : decode b_L_sort 0 = .ok (.aload 4, 2) := dk da_L_sort 0 rfl
theorem d_L_sort_2 : decode b_L_sort 2 = .ok (.iconst 0, 1) := dk da_L_sort 1 rfl
theorem d_L_sort_3 : decode b_L_sort 3 = .ok (.aload_n 0, 1) := dk da_L_sort 2 rfl
theorem d_L_sort_4 : decode b_L_sort 4 = .ok (.iload_n 1, 1) := dk da_L_sort 3 rfl
theorem d_L_sort_5 : decode b_L_sort 5 = .ok (.iload_n 2, 1) := dk da_L_sort 4 rfl
theorem d_L_sort_6 : decode b_L_sort 6 = .ok (.iload_n 3, 1) := dk da_L_sort 5 rfl
theorem d_L_sort_7 : decode b_L_sort 7 = .ok (.invokevirtual 20, 3) := dk da_L_sort 6 rfl
theorem d_L_sort_10 : decode b_L_sort 10 = .ok (.i2l, 1) := dk da_L_sort 7 rfl
theorem d_L_sort_11 : decode b_L_sort 11 = .ok (.lastore, 1) := dk da_L_sort 8 rfl
theorem d_L_sort_12 : decode b_L_sort 12 = .ok (.goto 7, 3) := dk da_L_sort 9 rfl
theorem d_L_sort_15 : decode b_L_sort 15 = .ok (.astore 5, 2) := dk da_L_sort 10 rfl
theorem d_L_sort_17 : decode b_L_sort 17 = .ok (.iconst 1, 1) := dk da_L_sort 11 rfl
theorem d_L_sort_18 : decode b_L_sort 18 = .ok (.ireturn, 1) := dk da_L_sort 12 rfl
theorem d_L_sort_19 : decode b_L_sort 19 = .ok (.iconst 0, 1) := dk da_L_sort 13 rfl
theorem d_L_sort_20 : decode b_L_sort 20 = .ok (.ireturn, 1) := dk da_L_sort 14 rfl
def dl_L_get : List (Nat × Instr × Nat) := [(0, .aload_n 2, 1), (1, .iconst 0, 1), (2, .aload_n 0, 1), (3, .iload_n 1, 1), (4, .invokevirtual 23, 3), (7, .i2l, 1), (8, .lastore, 1), (9, .goto 6, 3), (12, .astore_n 3, 1), (13, .iconst 1, 1), (14, .ireturn, 1), (15, .iconst 0, 1), (16, .ireturn, 1)]
set_option maxRecDepth 100000 in
theorem da_L_get : (dl_L_get.all fun q => decide (decode b_L_get q.1 = .ok q.2)) = true := by decide +kernel
theorem d_L_get_0 : decode b_L_get 0 = .ok (.aload_n 2, 1) := dk da_L_get 0 rfl
theorem d_L_get_1 : decode b_L_get 1 = .ok (.iconst 0, 1) := dk da_L_get 1 rfl
theorem d_L_get_2 : decode b_L_get 2 = .ok (.aload_n 0, 1) := dk da_L_get 2 rfl
theorem d_L_get_3 : decode b_L_get 3 = .ok (.iload_n 1, 1) := dk da_L_get 3 rfl
theorem d_L_get_4 : decode b_L_get 4 = .ok (.invokevirtual 23, 3) := dk da_L_get 4 rfl
theorem d_L_get_7 : decode b_L_get 7 = .ok (.i2l, 1) := dk da_L_get 5 rfl
theorem d_L_get_8 : decode b_L_get 8 = .ok (.lastore, 1) := dk da_L_get 6 rfl
theorem d_L_get_9 : decode b_L_get 9 = .ok (.goto 6, 3) := dk da_L_get 7 rfl
theorem d_L_get_12 : decode b_L_get 12 = .ok (.astore_n 3, 1) := dk da_L_get 8 rfl
theorem d_L_get_13 : decode b_L_get 13 = .ok (.iconst 1, 1) := dk da_L_get 9 rfl
theorem d_L_get_14 : decode b_L_get 14 = .ok (.ireturn, 1) := dk da_L_get 10 rfl
theorem d_L_get_15 : decode b_L_get 15 = .ok (.iconst 0, 1) := dk da_L_get 11 rfl
theorem d_L_get_16 : decode b_L_get 16 = .ok (.ireturn, 1) := dk da_L_get 12 rfl
def dl_L_tag : List (Nat × Instr × Nat) := [(0, .aload_n 2, 1), (1, .iconst 0, 1), (2, .aload_n 0, 1), (3, .iload_n 1, 1), (4, .invokevirtual 27, 3), (7, .i2l, 1), (8, .lastore, 1), (9, .goto 6, 3), (12, .astore_n 3, 1), (13, .iconst 1, 1), (14, .ireturn, 1), (15, .iconst 0, 1), (16, .ireturn, 1)]
set_option maxRecDepth 100000 in
theorem da_L_tag : (dl_L_tag.all fun q => decide (decode b_L_tag q.1 = .ok q.2)) = true := by decide +kernel
theorem d_L_tag_0 : decode b_L_tag 0 = .ok (.aload_n 2, 1) := dk da_L_tag 0 rfl
theorem d_L_tag_1 : decode b_L_tag 1 = .ok (.iconst 0, 1) := dk da_L_tag 1 rfl
theorem d_L_tag_2 : decode b_L_tag 2 = .ok (.aload_n 0, 1) := dk da_L_tag 2 rfl
theorem d_L_tag_3 : decode b_L_tag 3 = .ok (.iload_n 1, 1) := dk da_L_tag 3 rfl
theorem d_L_tag_4 : decode b_L_tag 4 = .ok (.invokevirtual 27, 3) := dk da_L_tag 4 rfl
theorem d_L_tag_7 : decode b_L_tag 7 = .ok (.i2l, 1) := dk da_L_tag 5 rfl
theorem d_L_tag_8 : decode b_L_tag 8 = .ok (.lastore, 1) := dk da_L_tag 6 rfl
theorem d_L_tag_9 : decode b_L_tag 9 = .ok (.goto 6, 3) := dk da_L_tag 7 rfl
theorem d_L_tag_12 : decode b_L_tag 12 = .ok (.astore_n 3, 1) := dk da_L_tag 8 rfl
theorem d_L_tag_13 : decode b_L_tag 13 = .ok (.iconst 1, 1) := dk da_L_tag 9 rfl
theorem d_L_tag_14 : decode b_L_tag 14 = .ok (.ireturn, 1) := dk da_L_tag 10 rfl
theorem d_L_tag_15 : decode b_L_tag 15 = .ok (.iconst 0, 1) := dk da_L_tag 11 rfl
theorem d_L_tag_16 : decode b_L_tag 16 = .ok (.ireturn, 1) := dk da_L_tag 12 rfl
def dl_L_set : List (Nat × Instr × Nat) := [(0, .aload_n 3, 1), (1, .iconst 0, 1), (2, .aload_n 0, 1), (3, .iload_n 1, 1), (4, .iload_n 2, 1), (5, .invokevirtual 30, 3), (8, .i2l, 1), (9, .lastore, 1), (10, .goto 7, 3), (13, .astore 4, 2), (15, .iconst 1, 1), (16, .ireturn, 1), (17, .iconst 0, 1), (18, .ireturn, 1)]
set_option maxRecDepth 100000 in
theorem da_L_set : (dl_L_set.all fun q => decide (decode b_L_set q.1 = .ok q.2)) = true := by decide +kernel
theorem d_L_set_0 : decode b_L_set 0 = .ok (.aload_n 3, 1) := dk da_L_set 0 rfl
theorem d_L_set_1 : decode b_L_set 1 = .ok (.iconst 0, 1) := dk da_L_set 1 rfl
theorem d_L_set_2 : decode b_L_set 2 = .ok (.aload_n 0, 1) := dk da_L_set 2 rfl
theorem d_L_set_3 : decode b_L_set 3 = .ok (.iload_n 1, 1) := dk da_L_set 3 rfl
theorem d_L_set_4 : decode b_L_set 4 = .ok (.iload_n 2, 1) := dk da_L_set 4 rfl
theorem d_L_set_5 : decode b_L_set 5 = .ok (.invokevirtual 30, 3) := dk da_L_set 5 rfl
theorem d_L_set_8 : decode b_L_set 8 = .ok (.i2l, 1) := dk da_L_set 6 rfl
theorem d_L_set_9 : decode b_L_set 9 = .ok (.lastore, 1) := dk da_L_set 7 rfl
theorem d_L_set_10 : decode b_L_set 10 = .ok (.goto 7, 3) := dk da_L_set 8 rfl
theorem d_L_set_13 : decode b_L_set 13 = .ok (.astore 4, 2) := dk da_L_set 9 rfl
theorem d_L_set_15 : decode b_L_set 15 = .ok (.iconst 1, 1) := dk da_L_set 10 rfl
theorem d_L_set_16 : decode b_L_set 16 = .ok (.ireturn, 1) := dk da_L_set 11 rfl
theorem d_L_set_17 : decode b_L_set 17 = .ok (.iconst 0, 1) := dk da_L_set 12 rfl
theorem d_L_set_18 : decode b_L_set 18 = .ok (.ireturn, 1) := dk da_L_set 13 rfl
def dl_L_turn : List (Nat × Instr × Nat) := [(0, .aload_n 3, 1), (1, .iconst 0, 1), (2, .aload_n 0, 1), (3, .iload_n 1, 1), (4, .iload_n 2, 1), (5, .invokevirtual 34, 3), (8, .i2l, 1), (9, .lastore, 1), (10, .goto 7, 3), (13, .astore 4, 2), (15, .iconst 1, 1), (16, .ireturn, 1), (17, .iconst 0, 1), (18, .ireturn, 1)]
set_option maxRecDepth 100000 in
theorem da_L_turn : (dl_L_turn.all fun q => decide (decode b_L_turn q.1 = .ok q.2)) = true := by decide +kernel
theorem d_L_turn_0 : decode b_L_turn 0 = .ok (.aload_n 3, 1) := dk da_L_turn 0 rfl
theorem d_L_turn_1 : decode b_L_turn 1 = .ok (.iconst 0, 1) := dk da_L_turn 1 rfl
theorem d_L_turn_2 : decode b_L_turn 2 = .ok (.aload_n 0, 1) := dk da_L_turn 2 rfl
theorem d_L_turn_3 : decode b_L_turn 3 = .ok (.iload_n 1, 1) := dk da_L_turn 3 rfl
theorem d_L_turn_4 : decode b_L_turn 4 = .ok (.iload_n 2, 1) := dk da_L_turn 4 rfl
theorem d_L_turn_5 : decode b_L_turn 5 = .ok (.invokevirtual 34, 3) := dk da_L_turn 5 rfl
theorem d_L_turn_8 : decode b_L_turn 8 = .ok (.i2l, 1) := dk da_L_turn 6 rfl
theorem d_L_turn_9 : decode b_L_turn 9 = .ok (.lastore, 1) := dk da_L_turn 7 rfl
theorem d_L_turn_10 : decode b_L_turn 10 = .ok (.goto 7, 3) := dk da_L_turn 8 rfl
theorem d_L_turn_13 : decode b_L_turn 13 = .ok (.astore 4, 2) := dk da_L_turn 9 rfl
theorem d_L_turn_15 : decode b_L_turn 15 = .ok (.iconst 1, 1) := dk da_L_turn 10 rfl
theorem d_L_turn_16 : decode b_L_turn 16 = .ok (.ireturn, 1) := dk da_L_turn 11 rfl
theorem d_L_turn_17 : decode b_L_turn 17 = .ok (.iconst 0, 1) := dk da_L_turn 12 rfl
theorem d_L_turn_18 : decode b_L_turn 18 = .ok (.ireturn, 1) := dk da_L_turn 13 rfl
def dl_L_upTo : List (Nat × Instr × Nat) := [(0, .aload 4, 2), (2, .iconst 0, 1), (3, .aload_n 0, 1), (4, .iload_n 1, 1), (5, .iload_n 2, 1), (6, .iload_n 3, 1), (7, .invokevirtual 37, 3), (10, .i2l, 1), (11, .lastore, 1), (12, .goto 7, 3), (15, .astore 5, 2), (17, .iconst 1, 1), (18, .ireturn, 1), (19, .iconst 0, 1), (20, .ireturn, 1)]
set_option maxRecDepth 100000 in
theorem da_L_upTo : (dl_L_upTo.all fun q => decide (decode b_L_upTo q.1 = .ok q.2)) = true := by decide +kernel
theorem d_L_upTo_0 : decode b_L_upTo 0 = .ok (.aload 4, 2) := dk da_L_upTo 0 rfl
theorem d_L_upTo_2 : decode b_L_upTo 2 = .ok (.iconst 0, 1) := dk da_L_upTo 1 rfl
theorem d_L_upTo_3 : decode b_L_upTo 3 = .ok (.aload_n 0, 1) := dk da_L_upTo 2 rfl
theorem d_L_upTo_4 : decode b_L_upTo 4 = .ok (.iload_n 1, 1) := dk da_L_upTo 3 rfl
theorem d_L_upTo_5 : decode b_L_upTo 5 = .ok (.iload_n 2, 1) := dk da_L_upTo 4 rfl
theorem d_L_upTo_6 : decode b_L_upTo 6 = .ok (.iload_n 3, 1) := dk da_L_upTo 5 rfl
theorem d_L_upTo_7 : decode b_L_upTo 7 = .ok (.invokevirtual 37, 3) := dk da_L_upTo 6 rfl
theorem d_L_upTo_10 : decode b_L_upTo 10 = .ok (.i2l, 1) := dk da_L_upTo 7 rfl
theorem d_L_upTo_11 : decode b_L_upTo 11 = .ok (.lastore, 1) := dk da_L_upTo 8 rfl
theorem d_L_upTo_12 : decode b_L_upTo 12 = .ok (.goto 7, 3) := dk da_L_upTo 9 rfl
theorem d_L_upTo_15 : decode b_L_upTo 15 = .ok (.astore 5, 2) := dk da_L_upTo 10 rfl
theorem d_L_upTo_17 : decode b_L_upTo 17 = .ok (.iconst 1, 1) := dk da_L_upTo 11 rfl
theorem d_L_upTo_18 : decode b_L_upTo 18 = .ok (.ireturn, 1) := dk da_L_upTo 12 rfl
theorem d_L_upTo_19 : decode b_L_upTo 19 = .ok (.iconst 0, 1) := dk da_L_upTo 13 rfl
theorem d_L_upTo_20 : decode b_L_upTo 20 = .ok (.ireturn, 1) := dk da_L_upTo 14 rfl
end
section
/-! rows of our own: numbers by their Nat, the bundle of what holds all through a method, entries, calls -/
abbrev vTY (cI cJ cO : ClassId) : List (ClassId × FieldType) := [(cI, .int), (cJ, .long), (cO, .object "RunSorter$Order")]
def rk (d mc ms : Nat) : Room := { frames := d, cells := mc, slots := ms, locals := 100 + 40 * d }
/-- all through a method: the machine, its code, its class, the classes' numbers, the tables' words -/
def Cx (D : va_G) (cI cJ cO : ClassId) (p : Program) (s : State) (m : MethodId) (c : Code) (cc : ByteArray) (nL : Nat) (own : String) : Prop :=
  p.tables.exec = Jvm.exec ∧ c.code = cc ∧ c.maxLocals = nL ∧ s.vm.findClass own = some m.cls ∧ va_K D vCL (vTY cI cJ cO) s ∧ AM s
section CX
variable {D : va_G} {cI cJ cO : ClassId} {p : Program} {s : State} {m : MethodId} {c : Code} {cc : ByteArray} {nL : Nat} {own : String}
theorem Cx.x (X : Cx D cI cJ cO p s m c cc nL own) : p.tables.exec = Jvm.exec := X.1
theorem Cx.b (X : Cx D cI cJ cO p s m c cc nL own) : c.code = cc := X.2.1
theorem Cx.ml (X : Cx D cI cJ cO p s m c cc nL own) : c.maxLocals = nL := X.2.2.1
theorem Cx.o (X : Cx D cI cJ cO p s m c cc nL own) : s.vm.findClass own = some m.cls := X.2.2.2.1
theorem Cx.K (X : Cx D cI cJ cO p s m c cc nL own) : va_K D vCL (vTY cI cJ cO) s := X.2.2.2.2.1
theorem Cx.am (X : Cx D cI cJ cO p s m c cc nL own) : AM s := X.2.2.2.2.2
theorem Cx.w (X : Cx D cI cJ cO p s m c cc nL own) {w : Cond} (h : w ∈ am_l) (args : Array Value) : w.before args s = true := X.am.use args w h
theorem Cx.fix (X : Cx D cI cJ cO p s m c cc nL own) (args : Array Value) : CallFix p m c cc nL s args am_l own := ⟨X.x, X.b, X.ml, X.o, X.am.use args⟩
end CX
/-- a reader's start: its cells, the classes, the words -/
def PR (D : va_G) (cI cJ cO : ClassId) (av : List Value) (ws : va_W) : Array Value → State → Prop := va_Pc av (fun U => va_P D vCL ws U.heap ∧ va_K D vCL (vTY cI cJ cO) U ∧ AM U)
/-- a writer's start: the same, its cells apart, the heap's size named -/
def PW (D : va_G) (cI cJ cO : ClassId) (av : List Value) (sz : Nat) (ws : va_W) : Array Value → State → Prop := va_Pc av (fun U => U.heap.size = sz ∧ va_P D vCL ws U.heap ∧ va_K D vCL (vTY cI cJ cO) U ∧ AM U ∧ va_D (fun _ => True) ws)
theorem PR.blind {D : va_G} {cI cJ cO : ClassId} {av : List Value} {ws : va_W} : FrameBlind (PR D cI cJ cO av ws) := fun a U g mk q => by
  obtain ⟨q0, qP, qK, qA⟩ := q
  exact ⟨q0, qP, va_K.moved (u := U) (U := U.calling g mk a) (Vm.Alike.refl U.vm) qK, qA.blind⟩
theorem PW.blind {D : va_G} {cI cJ cO : ClassId} {av : List Value} {sz : Nat} {ws : va_W} : FrameBlind (PW D cI cJ cO av sz ws) := fun a U g mk q => by
  obtain ⟨q0, q1, qP, qK, qA, qD⟩ := q
  exact ⟨q0, q1, qP, va_K.moved (u := U) (U := U.calling g mk a) (Vm.Alike.refl U.vm) qK, qA.blind, qD⟩
theorem PR.at {D : va_G} {cI cJ cO : ClassId} {av : List Value} {ws : va_W} {s : State} {H : Heap} (hP : va_P D vCL ws H) (hK : va_K D vCL (vTY cI cJ cO) s) (hA : AM s) : ∀ U : State, U.heap = H → s.WarmedH U.vm → PR D cI cJ cO av ws av.toArray U :=
  fun U hU hW => ⟨rfl, by rw [hU]; exact hP, va_K.moved hW.alike hK, AM.warm hW hA⟩
theorem PW.at {D : va_G} {cI cJ cO : ClassId} {av : List Value} {ws : va_W} {s : State} {H : Heap} {A : Nat → Prop} (hP : va_P D vCL ws H) (hK : va_K D vCL (vTY cI cJ cO) s) (hA : AM s) (hD : va_D A ws) : ∀ U : State, U.heap = H → s.WarmedH U.vm → PW D cI cJ cO av H.size ws av.toArray U :=
  fun U hU hW => ⟨rfl, by rw [hU], by rw [hU]; exact hP, va_K.moved hW.alike hK, AM.warm hW hA, hD.weaken (fun _ _ _ _ => trivial)⟩
section ENT
variable {l : Launch} {y : MethodName} {cc : ByteArray} {maxL : Nat} {ret : Option FieldType} {rm : Room} {D : va_G} {cI cJ cO : ClassId} {av : List Value} {sz : Nat} {ws : va_W} {Qc : Array Value → State → Outcome → State → Prop} {mc ms : Nat} {free : Addr → Prop}
theorem entW (hy : plainName y.cls = true) (hlen : (lg_sl av).length ≤ maxL)
    (body : ∀ (p : Program) (e : Env) (s : State) (m : MethodId) (below : List Frame) (meth : Method) (c : Code) (ls : Array Slot), Cx D cI cJ cO p s m c cc maxL y.cls → meth.sig.returnType = ret → meth.locks = false → meth.name = y.name → s.heap.size = sz → va_P D vCL ws s.heap → va_D (va_A ws sz) ws → (∀ q : Nat, s.heap.size ≤ q → va_A ws sz q) → lv_has ls maxL (lv_args 0 av) →
      W p l e rm s m av.toArray below meth c s.heap [] 0 0 (MQ below Qc av.toArray s mc ms free) (F0 m 0 ls [])) : Met l y [Cond.code y cc maxL ret] rm (PW D cI cJ cO av sz ws) Qc mc ms free := by
  refine Met.ofW (cc := cc) (maxL := maxL) (ret := ret) hy rfl ?_
  intro p e s m args below meth c s₁ B hml hv
  obtain ⟨rfl, hsz, hP, hK, hA, hD0⟩ := hv
  have hl := lv_entry av (n := maxL) hlen
  rw [lg_entry_eq]
  exact body p e s m below meth c _ ⟨B.exec, B.bytes, hml, findClass_of_methodNamed B.named, hK, hA⟩ B.returns B.notSynchronized (name_of_methodNamed B.named B.method).1 hsz hP hD0.self (fun q h => Or.inr (hsz ▸ h)) hl
theorem entR (hy : plainName y.cls = true) (hlen : (lg_sl av).length ≤ maxL)
    (body : ∀ (p : Program) (e : Env) (s : State) (m : MethodId) (below : List Frame) (meth : Method) (c : Code) (ls : Array Slot), Cx D cI cJ cO p s m c cc maxL y.cls → meth.sig.returnType = ret → meth.locks = false → va_P D vCL ws s.heap → lv_has ls maxL (lv_args 0 av) →
      W p l e rm s m av.toArray below meth c s.heap [] 0 0 (MQ below Qc av.toArray s mc ms free) (F0 m 0 ls [])) : Met l y [Cond.code y cc maxL ret] rm (PR D cI cJ cO av ws) Qc mc ms free := by
  refine Met.ofW (cc := cc) (maxL := maxL) (ret := ret) hy rfl ?_
  intro p e s m args below meth c s₁ B hml hv
  obtain ⟨rfl, hP, hK, hA⟩ := hv
  have hl := lv_entry av (n := maxL) hlen
  rw [lg_entry_eq]
  exact body p e s m below meth c _ ⟨B.exec, B.bytes, hml, findClass_of_methodNamed B.named, hK, hA⟩ B.returns B.notSynchronized hP hl
end ENT
section NUM
variable {p : Program} {l : Launch} {e : Env} {R : Room} {s : State} {m : MethodId} {args : Array Value} {below : List Frame} {meth : Method} {c : Code} {H : Heap} {locs : List Loc} {cells slots : Nat} {Q : State → Prop}
variable {cc : ByteArray} {pc : Nat} {ls : Array Slot} {rest : List Value}
theorem w_to {x y : Int32} (h : x = y) (k : W p l e R s m args below meth c H locs cells slots Q (F0 m pc ls (.int y :: rest))) : W p l e R s m args below meth c H locs cells slots Q (F0 m pc ls (.int x :: rest)) := by rw [h]; exact k
theorem w_to2 {x y : Int32} {v : Value} (h : x = y) (k : W p l e R s m args below meth c H locs cells slots Q (F0 m pc ls (v :: .int y :: rest))) : W p l e R s m args below meth c H locs cells slots Q (F0 m pc ls (v :: .int x :: rest)) := by rw [h]; exact k
theorem w_ls {ls' : Array Slot} (h : ls = ls') (k : W p l e R s m args below meth c H locs cells slots Q (F0 m pc ls' rest)) : W p l e R s m args below meth c H locs cells slots Q (F0 m pc ls rest) := by rw [h]; exact k
theorem w_add (hexec : p.tables.exec = Jvm.exec) (hb : c.code = cc) {a b : Nat} (hdg : decode cc pc = .ok (.iadd, 1)) (k : W p l e R s m args below meth c H locs cells slots Q (F0 m (pc + 1) ls (.int (nI (a + b)) :: rest))) : W p l e R s m args below meth c H locs cells slots Q (F0 m pc ls (.int (nI b) :: .int (nI a) :: rest)) := lv_iadd hexec hb hdg (w_to (nI_add a b) k)
theorem w_sub (hexec : p.tables.exec = Jvm.exec) (hb : c.code = cc) {a b : Nat} (hdg : decode cc pc = .ok (.isub, 1)) (h : b ≤ a) (k : W p l e R s m args below meth c H locs cells slots Q (F0 m (pc + 1) ls (.int (nI (a - b)) :: rest))) : W p l e R s m args below meth c H locs cells slots Q (F0 m pc ls (.int (nI b) :: .int (nI a) :: rest)) := lv_isub hexec hb hdg (w_to (pk_sub h) k)
theorem w_mul (hexec : p.tables.exec = Jvm.exec) (hb : c.code = cc) {a b : Nat} (hdg : decode cc pc = .ok (.imul, 1)) (k : W p l e R s m args below meth c H locs cells slots Q (F0 m (pc + 1) ls (.int (nI (a * b)) :: rest))) : W p l e R s m args below meth c H locs cells slots Q (F0 m pc ls (.int (nI b) :: .int (nI a) :: rest)) := lv_imul hexec hb hdg (w_to (pk_mul a b) k)
theorem w_ushr1 (hexec : p.tables.exec = Jvm.exec) (hb : c.code = cc) {a : Nat} (hdg : decode cc pc = .ok (.iushr, 1)) (h : a < 2 ^ 31) (k : W p l e R s m args below meth c H locs cells slots Q (F0 m (pc + 1) ls (.int (nI (a / 2)) :: rest))) : W p l e R s m args below meth c H locs cells slots Q (F0 m pc ls (.int (nI 1) :: .int (nI a) :: rest)) := lv_iushr hexec hb hdg (pk_ushrN (by omega) (nI 1) 1 (by decide)) k
theorem w_shr1 (hexec : p.tables.exec = Jvm.exec) (hb : c.code = cc) {a : Nat} (hdg : decode cc pc = .ok (.ishr, 1)) (h : a < 2 ^ 31) (k : W p l e R s m args below meth c H locs cells slots Q (F0 m (pc + 1) ls (.int (nI (a / 2)) :: rest))) : W p l e R s m args below meth c H locs cells slots Q (F0 m pc ls (.int (nI 1) :: .int (nI a) :: rest)) := lv_ishr hexec hb hdg (w_to (pk_shrN h (nI 1 &&& 31) 1 (by decide)) k)
theorem w_inc (hexec : p.tables.exec = Jvm.exec) (hb : c.code = cc) {i nL k a : Nat} {lv lv' : List (Nat × Value)} (hdg : decode cc pc = .ok (.iinc i 1, 3)) (h : lv_has ls nL lv) (hk : lv[k]? = some (i, .int (nI a))) (hn : i < nL) (hl : (i, Value.int (nI (a + 1))) :: lv.filter (fun q => !(q.1 == i) && !(q.1 + 1 == i && q.2.category == 2)) = lv')
    (kk : ∀ ls' : Array Slot, lv_has ls' nL lv' → W p l e R s m args below meth c H locs cells slots Q (F0 m (pc + 3) ls' rest)) : W p l e R s m args below meth c H locs cells slots Q (F0 m pc ls rest) := lv_iinc hexec hb hdg h hk (by rw [show Int32.ofInt 1 = nI 1 from rfl, nI_add]) hn hl kk
theorem w_dec (hexec : p.tables.exec = Jvm.exec) (hb : c.code = cc) {i nL k a : Nat} {lv lv' : List (Nat × Value)} (hdg : decode cc pc = .ok (.iinc i (-1), 3)) (h : lv_has ls nL lv) (hk : lv[k]? = some (i, .int (nI a))) (hn : i < nL) (ha : 1 ≤ a) (hl : (i, Value.int (nI (a - 1))) :: lv.filter (fun q => !(q.1 == i) && !(q.1 + 1 == i && q.2.category == 2)) = lv')
    (kk : ∀ ls' : Array Slot, lv_has ls' nL lv' → W p l e R s m args below meth c H locs cells slots Q (F0 m (pc + 3) ls' rest)) : W p l e R s m args below meth c H locs cells slots Q (F0 m pc ls rest) := lv_iinc hexec hb hdg h hk (by rw [show Int32.ofInt (-1) = -1 from rfl]; exact sb_m1 ha) hn hl kk
theorem w_icmp_lt (hexec : p.tables.exec = Jvm.exec) (hb : c.code = cc) {x y : Nat} {off : Int} {tgt : Nat} (hdg : decode cc pc = .ok (.if_icmp .lt off, 3)) (ht : (pc : Int) + off = (tgt : Int)) (h : x < 2 ^ 31 ∧ y < 2 ^ 31)
    (kt : x < y → W p l e R s m args below meth c H locs cells slots Q (F0 m tgt ls rest)) (kf : y ≤ x → W p l e R s m args below meth c H locs cells slots Q (F0 m (pc + 3) ls rest)) : W p l e R s m args below meth c H locs cells slots Q (F0 m pc ls (.int (nI y) :: .int (nI x) :: rest)) :=
  lv_icmp_lt hexec hb hdg ht (fun q => kt ((nI_ltI h.1 h.2).mp q)) (fun q => kf (Nat.le_of_not_lt fun z => q ((nI_ltI h.1 h.2).mpr z)))
theorem w_icmp_ge (hexec : p.tables.exec = Jvm.exec) (hb : c.code = cc) {x y : Nat} {off : Int} {tgt : Nat} (hdg : decode cc pc = .ok (.if_icmp .ge off, 3)) (ht : (pc : Int) + off = (tgt : Int)) (h : x < 2 ^ 31 ∧ y < 2 ^ 31)
    (kt : y ≤ x → W p l e R s m args below meth c H locs cells slots Q (F0 m tgt ls rest)) (kf : x < y → W p l e R s m args below meth c H locs cells slots Q (F0 m (pc + 3) ls rest)) : W p l e R s m args below meth c H locs cells slots Q (F0 m pc ls (.int (nI y) :: .int (nI x) :: rest)) :=
  lv_icmp_ge hexec hb hdg ht (fun q => kt ((nI_leI h.2 h.1).mp q)) (fun q => kf (Nat.lt_of_not_le fun z => q ((nI_leI h.2 h.1).mpr z)))
theorem w_icmp_gt (hexec : p.tables.exec = Jvm.exec) (hb : c.code = cc) {x y : Nat} {off : Int} {tgt : Nat} (hdg : decode cc pc = .ok (.if_icmp .gt off, 3)) (ht : (pc : Int) + off = (tgt : Int)) (h : x < 2 ^ 31 ∧ y < 2 ^ 31)
    (kt : y < x → W p l e R s m args below meth c H locs cells slots Q (F0 m tgt ls rest)) (kf : x ≤ y → W p l e R s m args below meth c H locs cells slots Q (F0 m (pc + 3) ls rest)) : W p l e R s m args below meth c H locs cells slots Q (F0 m pc ls (.int (nI y) :: .int (nI x) :: rest)) :=
  lv_icmp_gt hexec hb hdg ht (fun q => kt ((nI_ltI h.2 h.1).mp q)) (fun q => kf (Nat.le_of_not_lt fun z => q ((nI_ltI h.2 h.1).mpr z)))
theorem w_icmp_le (hexec : p.tables.exec = Jvm.exec) (hb : c.code = cc) {x y : Nat} {off : Int} {tgt : Nat} (hdg : decode cc pc = .ok (.if_icmp .le off, 3)) (ht : (pc : Int) + off = (tgt : Int)) (h : x < 2 ^ 31 ∧ y < 2 ^ 31)
    (kt : x ≤ y → W p l e R s m args below meth c H locs cells slots Q (F0 m tgt ls rest)) (kf : y < x → W p l e R s m args below meth c H locs cells slots Q (F0 m (pc + 3) ls rest)) : W p l e R s m args below meth c H locs cells slots Q (F0 m pc ls (.int (nI y) :: .int (nI x) :: rest)) :=
  lv_icmp_le hexec hb hdg ht (fun q => kt ((nI_leI h.1 h.2).mp q)) (fun q => kf (Nat.lt_of_not_le fun z => q ((nI_leI h.1 h.2).mpr z)))
theorem w_icmp_eq (hexec : p.tables.exec = Jvm.exec) (hb : c.code = cc) {x y : Nat} {off : Int} {tgt : Nat} (hdg : decode cc pc = .ok (.if_icmp .eq off, 3)) (ht : (pc : Int) + off = (tgt : Int)) (h : x < 2 ^ 31 ∧ y < 2 ^ 31)
    (kt : x = y → W p l e R s m args below meth c H locs cells slots Q (F0 m tgt ls rest)) (kf : x ≠ y → W p l e R s m args below meth c H locs cells slots Q (F0 m (pc + 3) ls rest)) : W p l e R s m args below meth c H locs cells slots Q (F0 m pc ls (.int (nI y) :: .int (nI x) :: rest)) :=
  lv_icmp_eq hexec hb hdg ht (fun q => kt ((nI_eq h.1 h.2).mp q)) (fun q => kf (fun z => q ((nI_eq h.1 h.2).mpr z)))
theorem w_icmp_ne (hexec : p.tables.exec = Jvm.exec) (hb : c.code = cc) {x y : Nat} {off : Int} {tgt : Nat} (hdg : decode cc pc = .ok (.if_icmp .ne off, 3)) (ht : (pc : Int) + off = (tgt : Int)) (h : x < 2 ^ 31 ∧ y < 2 ^ 31)
    (kt : x ≠ y → W p l e R s m args below meth c H locs cells slots Q (F0 m tgt ls rest)) (kf : x = y → W p l e R s m args below meth c H locs cells slots Q (F0 m (pc + 3) ls rest)) : W p l e R s m args below meth c H locs cells slots Q (F0 m pc ls (.int (nI y) :: .int (nI x) :: rest)) :=
  lv_icmp_ne hexec hb hdg ht (fun q => kt (fun z => q ((nI_eq h.1 h.2).mpr z))) (fun q => kf ((nI_eq h.1 h.2).mp q))
theorem w_if_eq (hexec : p.tables.exec = Jvm.exec) (hb : c.code = cc) {x : Nat} {off : Int} {tgt : Nat} (hdg : decode cc pc = .ok (.ifCond .eq off, 3)) (ht : (pc : Int) + off = (tgt : Int)) (h : x < 2 ^ 31)
    (kt : x = 0 → W p l e R s m args below meth c H locs cells slots Q (F0 m tgt ls rest)) (kf : x ≠ 0 → W p l e R s m args below meth c H locs cells slots Q (F0 m (pc + 3) ls rest)) : W p l e R s m args below meth c H locs cells slots Q (F0 m pc ls (.int (nI x) :: rest)) :=
  lv_if_eq hexec hb hdg ht (fun q => kt ((nI_eq h (by decide : 0 < 2 ^ 31)).mp q)) (fun q => kf (fun z => q (by rw [z]; rfl)))
theorem w_if_ne (hexec : p.tables.exec = Jvm.exec) (hb : c.code = cc) {x : Nat} {off : Int} {tgt : Nat} (hdg : decode cc pc = .ok (.ifCond .ne off, 3)) (ht : (pc : Int) + off = (tgt : Int)) (h : x < 2 ^ 31)
    (kt : x ≠ 0 → W p l e R s m args below meth c H locs cells slots Q (F0 m tgt ls rest)) (kf : x = 0 → W p l e R s m args below meth c H locs cells slots Q (F0 m (pc + 3) ls rest)) : W p l e R s m args below meth c H locs cells slots Q (F0 m pc ls (.int (nI x) :: rest)) :=
  lv_if_ne hexec hb hdg ht (fun q => kt (fun z => q (by rw [z]; rfl))) (fun q => kf ((nI_eq h (by decide : 0 < 2 ^ 31)).mp q))
theorem w_if_le (hexec : p.tables.exec = Jvm.exec) (hb : c.code = cc) {x : Nat} {off : Int} {tgt : Nat} (hdg : decode cc pc = .ok (.ifCond .le off, 3)) (ht : (pc : Int) + off = (tgt : Int)) (h : x < 2 ^ 31)
    (kt : x = 0 → W p l e R s m args below meth c H locs cells slots Q (F0 m tgt ls rest)) (kf : 0 < x → W p l e R s m args below meth c H locs cells slots Q (F0 m (pc + 3) ls rest)) : W p l e R s m args below meth c H locs cells slots Q (F0 m pc ls (.int (nI x) :: rest)) :=
  lv_if_le hexec hb hdg ht (fun q => kt (Nat.le_zero.mp ((nI_leI h (by decide : 0 < 2 ^ 31)).mp q))) (fun q => kf (Nat.pos_of_ne_zero fun z => q (by rw [z]; exact (nI_leI (by decide) (by decide)).mpr (Nat.le_refl 0))))
theorem w_goto (hexec : p.tables.exec = Jvm.exec) (hb : c.code = cc) {off : Int} {tgt : Nat} (hdg : decode cc pc = .ok (.goto off, 3)) (ht : (pc : Int) + off = (tgt : Int)) (k : W p l e R s m args below meth c H locs cells slots Q (F0 m tgt ls rest)) : W p l e R s m args below meth c H locs cells slots Q (F0 m pc ls rest) := lv_goto hexec hb hdg ht k
variable {D : va_G} {cI cJ cO : ClassId} {nL : Nat} {own : String} {ws : va_W} {a : Nat} {A : Nat → Prop} {H0 : Heap}
theorem w_ald (X : Cx D cI cJ cO p s m c cc nL own) (hP : va_P D vCL ws H) (q0 : Nat) {n : Nat} {f : Nat → Int32} (ha : ws[q0]? = some (a, .inl (cI, n, .inl f))) {i : Nat} (hi : i < n) (hn : n < 2 ^ 31) (hdg : decode cc pc = .ok (.iaload, 1))
    (kk : W p l e R s m args below meth c H locs cells slots Q (F0 m (pc + 1) ls (.int (f i) :: rest))) : W p l e R s m args below meth c H locs cells slots Q (F0 m pc ls (.int (nI i) :: .ref a :: rest)) :=
  va_iald X.x X.b X.K hP q0 0 ha rfl (vp_in_nI hi hn) hdg (by rw [nI_clamp (by omega)]; exact kk)
theorem w_ast (X : Cx D cI cJ cO p s m c cc nL own) (hP : va_P D vCL ws H) (hD : va_D A ws) (hS : va_S A H0 H locs) (q0 : Nat) {n : Nat} {f : Nat → Int32} (ha : ws[q0]? = some (a, .inl (cI, n, .inl f))) {i : Nat} {x : Int32} (hi : i < n) (hn : n < 2 ^ 31) {ws' : va_W} (hws : ws.set q0 (a, .inl (cI, n, .inl (upd f i x))) = ws') (hdg : decode cc pc = .ok (.iastore, 1))
    (kk : ∀ (H1 : Heap) (locs1 : List Loc), va_P D vCL ws' H1 → va_D A ws' → va_S A H0 H1 locs1 → W p l e R s m args below meth c H1 locs1 cells slots Q (F0 m (pc + 1) ls rest)) : W p l e R s m args below meth c H locs cells slots Q (F0 m pc ls (.int x :: .int (nI i) :: .ref a :: rest)) := by
  subst hws
  refine va_iast X.x X.b X.K hP hD hS q0 0 ha rfl (vp_in_nI hi hn) hdg (fun H1 locs1 => ?_)
  rw [nI_clamp (by omega)]
  exact kk H1 locs1
end NUM
end
section
/-! calls: a callee's contract has its own code word alone; everything else rides in the tables' words (AM) -/
theorem sub_P {D : va_G} {ws wc : va_W} {H : Heap} (hP : va_P D vCL ws H) (is : List Nat) (hs : is.map (fun i => ws[i]?) = wc.map some) : va_P D vCL wc H := fun k q hk => by
  obtain ⟨i, -, hi⟩ := va_in_of is hs hk
  exact hP i q hi
abbrev okD (y : MethodName) (n : Nat) : Prop := y.cls ≠ "java/lang/invoke/MethodHandle" ∧ y.cls ≠ "java/lang/invoke/VarHandle" ∧ (parseMethodDescriptor y.desc).map (fun d => d.parameters.length) = some n
/-- the cells behind a writer -/
def BW (D : va_G) {S : Type} (A : Nat → Prop) (w : S → va_W) : S → State → Prop := fun u t => va_P D vCL (w u) t.heap ∧ va_D A (w u)
section CALL
variable {D : va_G} {cI cJ cO : ClassId} {p : Program} {l : Launch} {e : Env} {R : Room} {s : State} {m : MethodId} {args : Array Value} {below : List Frame} {meth : Method} {c : Code} {H : Heap} {locs : List Loc} {cells slots : Nat} {Q : State → Prop}
variable {cc : ByteArray} {pc : Nat} {ls : Array Slot} {rest : List Value} {nL : Nat} {own : String} {y : MethodName} {index maxL d mc ms : Nat} {bytes : ByteArray} {ret : Option FieldType}
theorem cx_B {n : Nat} (X : Cx D cI cJ cO p s m c cc nL own) (args : Array Value) (w1 : Cond.methodLink own index y ∈ am_l) (w4 : Cond.initialized y.cls ∈ am_l) (w5 : Cond.code y bytes maxL ret ∈ am_l) (hd : okD y n) (hR : d + 1 ≤ R.frames ∧ 8 + (maxL + 11) + (100 + 40 * d) ≤ R.locals) : CallB R s args own index y bytes maxL ret [Cond.code y bytes maxL ret] (rk d mc ms) mc ms n :=
  ⟨rfl, rfl, hR.1, hR.2, fun w hw a' U hW => by rw [List.mem_singleton] at hw; subst hw; exact (AM.warm hW X.am).use a' _ w5, List.mem_singleton.mpr rfl, X.w w5 args, X.w w4 args, ⟨hd.1, hd.2.1⟩, fun sig h => by
    have h2 := hd.2.2
    rw [h] at h2
    exact (Option.some.inj h2).symm, X.w w1 args⟩
theorem cx_N {n : Nat} {host : String} (X : Cx D cI cJ cO p s m c cc nL own) (args : Array Value) (w1 : Cond.methodLinkNest own index y host ∈ am_l) (w4 : Cond.initialized y.cls ∈ am_l) (w5 : Cond.code y bytes maxL ret ∈ am_l) (hd : okD y n) (hR : d + 1 ≤ R.frames ∧ 8 + (maxL + 11) + (100 + 40 * d) ≤ R.locals) : va_CN R s args own index y host bytes maxL ret [Cond.code y bytes maxL ret] (rk d mc ms) mc ms n :=
  ⟨⟨rfl, rfl, hR.1, hR.2, fun w hw a' U hW => by rw [List.mem_singleton] at hw; subst hw; exact (AM.warm hW X.am).use a' _ w5, List.mem_singleton.mpr rfl⟩, X.w w5 args, X.w w4 args, ⟨hd.1, hd.2.1⟩, fun sig h => by
    have h2 := hd.2.2
    rw [h] at h2
    exact (Option.some.inj h2).symm, X.w w1 args⟩
theorem cx_F {n : Nat} {C : String} {x : MethodName} (X : Cx D cI cJ cO p s m c cc nL own) (args : Array Value) (w1 : Cond.methodLink own index x ∈ am_l) (w2 : Cond.declares x ∈ am_l) (w3 : Cond.interfaceMethod x.cls x.cls x.name x.desc ∈ am_l) (w4 : Cond.selects C x y ∈ am_l) (w5 : Cond.instanceMethod y ∈ am_l) (w6 : Cond.publicMethod y ∈ am_l) (w7 : Cond.unhidden C x.name x.desc ∈ am_l) (w8 : Cond.castable C x.cls ∈ am_l) (w9 : Cond.initialized y.cls ∈ am_l) (w10 : Cond.code y bytes maxL ret ∈ am_l) (hd : okD x n) (hR : d + 1 ≤ R.frames ∧ 8 + (maxL + 11) + (100 + 40 * d) ≤ R.locals) : va_CI R s args own C index x y bytes maxL ret [Cond.code y bytes maxL ret] (rk d mc ms) mc ms n :=
  ⟨⟨rfl, rfl, hR.1, hR.2, fun w hw a' U hW => by rw [List.mem_singleton] at hw; subst hw; exact (AM.warm hW X.am).use a' _ w10, List.mem_singleton.mpr rfl⟩, X.w w1 args, X.w w2 args, X.w w3 args, X.w w4 args, X.w w5 args, X.w w6 args, X.w w7 args, X.w w8 args, X.w w9 args, X.w w10 args, ⟨hd.1, hd.2.1⟩, fun sig h => by
    have h2 := hd.2.2
    rw [h] at h2
    exact (Option.some.inj h2).symm⟩
variable {b : Nat} {As : List Value} {wc ws wr : va_W} {A : Nat → Prop} {H0 : Heap}
/-- a reader, by invokevirtual -/
theorem rd_V {C : String} {n : Nat} {post : Int32 → Prop} {st0 : List Value} (X : Cx D cI cJ cO p s m c cc nL own) (hM : Met l y [Cond.code y bytes maxL ret] (rk d 0 0) (PR D cI cJ cO (.ref b :: As) wc) (vp_Si post) 0 0 (fun _ => False)) (cb : CallB R s args own index y bytes maxL ret [Cond.code y bytes maxL ret] (rk d 0 0) 0 0 n) (w2 : Cond.instanceMethod y ∈ am_l) (w3 : Cond.selects C y y ∈ am_l)
    (hP : va_P D vCL wc H) (hrc : ∃ cellB : Cell, H[b]? = some cellB ∧ cellB.vm.isStatics = false ∧ s.vm.findClass C = some cellB.cls) (hn : As.length = n) (hl : ls.size = nL) (hst : st0 = As.reverse ++ .ref b :: rest) (hW : (rest.map fun v => v.category).sum ≤ 8) (hdg : decode cc pc = .ok (.invokevirtual index, 3)) (hf : cells ≤ R.cells ∧ slots ≤ R.slots)
    (kk : ∀ r : Int32, post r → W p l e R s m args below meth c H locs cells slots Q (F0 m (pc + 3) ls (.int r :: rest))) : W p l e R s m args below meth c H locs cells slots Q (F0 m pc ls st0) :=
  vp_callSi (W.runV (g := F0 m pc ls st0) (C := C) (X.fix args) hM ⟨cb, X.w w2 args, X.w w3 args⟩ ⟨PR.blind, hrc, PR.at hP X.K X.am⟩ rfl hn hl hst (lv_room hW) hdg hf) kk
/-- a reader, by invokestatic -/
theorem rd_S {n : Nat} {post : Int32 → Prop} {st0 : List Value} (X : Cx D cI cJ cO p s m c cc nL own) (hM : Met l y [Cond.code y bytes maxL ret] (rk d 0 0) (PR D cI cJ cO As wc) (vp_Si post) 0 0 (fun _ => False)) (cb : CallB R s args own index y bytes maxL ret [Cond.code y bytes maxL ret] (rk d 0 0) 0 0 n) (w2 : Cond.static y ∈ am_l)
    (hP : va_P D vCL wc H) (hn : As.length = n) (hl : ls.size = nL) (hst : st0 = As.reverse ++ rest) (hW : (rest.map fun v => v.category).sum ≤ 8) (hdg : decode cc pc = .ok (.invokestatic index, 3)) (hf : cells ≤ R.cells ∧ slots ≤ R.slots)
    (kk : ∀ r : Int32, post r → W p l e R s m args below meth c H locs cells slots Q (F0 m (pc + 3) ls (.int r :: rest))) : W p l e R s m args below meth c H locs cells slots Q (F0 m pc ls st0) :=
  vp_callSi (W.runS (g := F0 m pc ls st0) (X.fix args) hM ⟨cb, X.w w2 args⟩ ⟨PR.blind, PR.at hP X.K X.am⟩ rfl hn hl hst (lv_room hW) hdg hf) kk
/-- a void reader (a check), by invokestatic -/
theorem rv_S {n : Nat} {st0 : List Value} (X : Cx D cI cJ cO p s m c cc nL own) (hM : Met l y [Cond.code y bytes maxL ret] (rk d 0 0) (PR D cI cJ cO As wc) (va_Sv (fun _ => True)) 0 0 (fun _ => False)) (cb : CallB R s args own index y bytes maxL ret [Cond.code y bytes maxL ret] (rk d 0 0) 0 0 n) (w2 : Cond.static y ∈ am_l)
    (hP : va_P D vCL wc H) (hn : As.length = n) (hl : ls.size = nL) (hst : st0 = As.reverse ++ rest) (hW : (rest.map fun v => v.category).sum ≤ 8) (hdg : decode cc pc = .ok (.invokestatic index, 3)) (hf : cells ≤ R.cells ∧ slots ≤ R.slots)
    (kk : W p l e R s m args below meth c H locs cells slots Q (F0 m (pc + 3) ls rest)) : W p l e R s m args below meth c H locs cells slots Q (F0 m pc ls st0) :=
  va_csv (W.runS (g := F0 m pc ls st0) (X.fix args) hM ⟨cb, X.w w2 args⟩ ⟨PR.blind, PR.at hP X.K X.am⟩ rfl hn hl hst (lv_room hW) hdg hf) (fun _ => kk)
/-- a reader that hands back a reference, by invokevirtual -/
theorem rr_V {C : String} {n : Nat} {post : Nat → Prop} {ad : Nat → Value} {st0 : List Value} (X : Cx D cI cJ cO p s m c cc nL own) (hM : Met l y [Cond.code y bytes maxL ret] (rk d 0 0) (PR D cI cJ cO (.ref b :: As) wc) (va_Sr post ad) 0 0 (fun _ => False)) (cb : CallB R s args own index y bytes maxL ret [Cond.code y bytes maxL ret] (rk d 0 0) 0 0 n) (w2 : Cond.instanceMethod y ∈ am_l) (w3 : Cond.selects C y y ∈ am_l)
    (hP : va_P D vCL wc H) (hrc : ∃ cellB : Cell, H[b]? = some cellB ∧ cellB.vm.isStatics = false ∧ s.vm.findClass C = some cellB.cls) (hn : As.length = n) (hl : ls.size = nL) (hst : st0 = As.reverse ++ .ref b :: rest) (hW : (rest.map fun v => v.category).sum ≤ 8) (hdg : decode cc pc = .ok (.invokevirtual index, 3)) (hf : cells ≤ R.cells ∧ slots ≤ R.slots)
    (kk : ∀ k : Nat, post k → W p l e R s m args below meth c H locs cells slots Q (F0 m (pc + 3) ls (ad k :: rest))) : W p l e R s m args below meth c H locs cells slots Q (F0 m pc ls st0) :=
  va_csr (W.runV (g := F0 m pc ls st0) (C := C) (X.fix args) hM ⟨cb, X.w w2 args, X.w w3 args⟩ ⟨PR.blind, hrc, PR.at hP X.K X.am⟩ rfl hn hl hst (lv_room hW) hdg hf) kk
/-- a reader, by invokeinterface on a receiver of a known class -/
theorem rd_F {C : String} {cC : ClassId} {x : MethodName} {n count : Nat} {post : Int32 → Prop} {st0 : List Value} (X : Cx D cI cJ cO p s m c cc nL own) (hat : ClassAt s C cC) (hM : Met l y [Cond.code y bytes maxL ret] (rk d 0 0) (PR D cI cJ cO (.ref b :: As) wc) (vp_Si post) 0 0 (fun _ => False)) (cb : va_CI R s args own C index x y bytes maxL ret [Cond.code y bytes maxL ret] (rk d 0 0) 0 0 n)
    (hP : va_P D vCL wc H) (hrc : ∃ cellB : Cell, H[b]? = some cellB ∧ cellB.vm.isStatics = false ∧ s.vm.findClass C = some cellB.cls) (hn : As.length = n) (hl : ls.size = nL) (hst : st0 = As.reverse ++ .ref b :: rest) (hW : (rest.map fun v => v.category).sum ≤ 8) (hdg : decode cc pc = .ok (.invokeinterface index count, 5)) (hf : cells ≤ R.cells ∧ slots ≤ R.slots)
    (kk : ∀ r : Int32, post r → W p l e R s m args below meth c H locs cells slots Q (F0 m (pc + 5) ls (.int r :: rest))) : W p l e R s m args below meth c H locs cells slots Q (F0 m pc ls st0) :=
  va_csFi (va_runF (g := F0 m pc ls st0) hat (X.fix args) hM cb ⟨PR.blind, hrc, PR.at hP X.K X.am⟩ rfl hn hl hst (lv_room hW) hdg hf) kk
/-- what a writer's run gives: the frame rule, packed -/
theorem wr_v {S : Type} {post : S → Prop} {w1 : S → va_W} {st0 : List Value} {a : Array Value} (hr : va_Run p l e R s m args below meth c H locs cells slots mc ms (F0 m pc ls st0) rest (va_Qv post (BW D (va_A wc H.size) w1) (va_A wc H.size) a) (va_A wc H.size)) (hP : va_P D vCL ws H) (hD : va_D A ws) (hS : va_S A H0 H locs) (hA : ∀ q, H0.size ≤ q → A q) (isC isR : List Nat) (hC : isC.map (fun i => ws[i]?) = wc.map some) (hRr : isR.map (fun i => ws[i]?) = wr.map some) (hn : va_nd isR = true) (hdis : ∀ i ∈ isR, i ∉ isC)
    (kk : ∀ (u : S) (H1 : Heap) (locs1 : List Loc), post u → va_P D vCL (wr ++ w1 u) H1 → va_D A (wr ++ w1 u) → va_S A H0 H1 locs1 → H.size ≤ H1.size → W p l e R s m args below meth c H1 locs1 (cells + mc) (slots + ms) Q (F0 m (pc + 3) ls rest)) : W p l e R s m args below meth c H locs cells slots Q (F0 m pc ls st0) := by
  have hFc := va_free (wc := wc) hD hS hA isC hC
  refine va_callv hr hS (fun q _ h => hFc q h) hFc (fun u t H1 locs1 ht hvm hp hB hz1 hk1 hS1 => ?_)
  obtain ⟨hP1, hD1⟩ := hB
  rw [ht] at hP1
  obtain ⟨hP2, hD2⟩ := va_join (wr := wr) (w1 := w1 u) hP hD isC isR hC hRr hn hdis hk1 hFc hP1 hD1
  exact kk u H1 locs1 hp hP2 hD2 hS1 hz1
theorem wr_i {S : Type} {post : Int32 → S → Prop} {w1 : S → va_W} {st0 : List Value} {a : Array Value} (hr : va_Run p l e R s m args below meth c H locs cells slots mc ms (F0 m pc ls st0) rest (va_Qi post (BW D (va_A wc H.size) w1) (va_A wc H.size) a) (va_A wc H.size)) (hP : va_P D vCL ws H) (hD : va_D A ws) (hS : va_S A H0 H locs) (hA : ∀ q, H0.size ≤ q → A q) (isC isR : List Nat) (hC : isC.map (fun i => ws[i]?) = wc.map some) (hRr : isR.map (fun i => ws[i]?) = wr.map some) (hn : va_nd isR = true) (hdis : ∀ i ∈ isR, i ∉ isC)
    (kk : ∀ (r : Int32) (u : S) (H1 : Heap) (locs1 : List Loc), post r u → va_P D vCL (wr ++ w1 u) H1 → va_D A (wr ++ w1 u) → va_S A H0 H1 locs1 → H.size ≤ H1.size → W p l e R s m args below meth c H1 locs1 (cells + mc) (slots + ms) Q (F0 m (pc + 3) ls (.int r :: rest))) : W p l e R s m args below meth c H locs cells slots Q (F0 m pc ls st0) := by
  have hFc := va_free (wc := wc) hD hS hA isC hC
  refine va_calli hr hS (fun q _ h => hFc q h) hFc (fun r u t H1 locs1 ht hvm hp hB hz1 hk1 hS1 => ?_)
  obtain ⟨hP1, hD1⟩ := hB
  rw [ht] at hP1
  obtain ⟨hP2, hD2⟩ := va_join (wr := wr) (w1 := w1 u) hP hD isC isR hC hRr hn hdis hk1 hFc hP1 hD1
  exact kk r u H1 locs1 hp hP2 hD2 hS1 hz1
variable {Qc : Array Value → State → Outcome → State → Prop} {free : Addr → Prop}
theorem run_V {C : String} {n : Nat} {st0 : List Value} (X : Cx D cI cJ cO p s m c cc nL own) (hM : Met l y [Cond.code y bytes maxL ret] (rk d mc ms) (PW D cI cJ cO (.ref b :: As) H.size wc) Qc mc ms free) (cb : CallB R s args own index y bytes maxL ret [Cond.code y bytes maxL ret] (rk d mc ms) mc ms n) (w2 : Cond.instanceMethod y ∈ am_l) (w3 : Cond.selects C y y ∈ am_l)
    (hP : va_P D vCL ws H) (hD : va_D A ws) (isC : List Nat) (hC : isC.map (fun i => ws[i]?) = wc.map some) (hnC : va_nd isC = true) (hrc : ∃ cellB : Cell, H[b]? = some cellB ∧ cellB.vm.isStatics = false ∧ s.vm.findClass C = some cellB.cls) (hn : As.length = n) (hl : ls.size = nL) (hst : st0 = As.reverse ++ .ref b :: rest) (hW : (rest.map fun v => v.category).sum ≤ 8) (hdg : decode cc pc = .ok (.invokevirtual index, 3)) (hf : cells + mc ≤ R.cells ∧ slots + ms ≤ R.slots) :
    va_Run p l e R s m args below meth c H locs cells slots mc ms (F0 m pc ls st0) rest (Qc (Value.ref b :: As).toArray) free :=
  va_runV (g := F0 m pc ls st0) (C := C) (X.fix args) hM ⟨cb, X.w w2 args, X.w w3 args⟩ ⟨PW.blind, hrc, PW.at (sub_P hP isC hC) X.K X.am (hD.sub isC hnC hC)⟩ rfl hn hl hst (lv_room hW) hdg hf
theorem run_I {n : Nat} {st0 : List Value} (X : Cx D cI cJ cO p s m c cc nL own) (hM : Met l y [Cond.code y bytes maxL none] (rk d mc ms) (PW D cI cJ cO (.ref b :: As) H.size wc) Qc mc ms free) (cb : CallB R s args own index y bytes maxL none [Cond.code y bytes maxL none] (rk d mc ms) mc ms n) (hy : y.name = "<init>") (w2 : Cond.instanceMethod y ∈ am_l)
    (hP : va_P D vCL ws H) (hD : va_D A ws) (isC : List Nat) (hC : isC.map (fun i => ws[i]?) = wc.map some) (hnC : va_nd isC = true) (hn : As.length = n) (hl : ls.size = nL) (hst : st0 = As.reverse ++ .ref b :: rest) (hW : (rest.map fun v => v.category).sum ≤ 8) (hdg : decode cc pc = .ok (.invokespecial index, 3)) (hf : cells + mc ≤ R.cells ∧ slots + ms ≤ R.slots) :
    va_Run p l e R s m args below meth c H locs cells slots mc ms (F0 m pc ls st0) rest (Qc (Value.ref b :: As).toArray) free :=
  va_runI (g := F0 m pc ls st0) (X.fix args) hM ⟨cb, hy, X.w w2 args⟩ ⟨PW.blind, PW.at (sub_P hP isC hC) X.K X.am (hD.sub isC hnC hC)⟩ rfl hn hl hst (lv_room hW) hdg hf
theorem run_IN {n : Nat} {host : String} {st0 : List Value} (X : Cx D cI cJ cO p s m c cc nL own) (hM : Met l y [Cond.code y bytes maxL none] (rk d mc ms) (PW D cI cJ cO (.ref b :: As) H.size wc) Qc mc ms free) (cb : va_CN R s args own index y host bytes maxL none [Cond.code y bytes maxL none] (rk d mc ms) mc ms n) (hy : y.name = "<init>") (w2 : Cond.instanceMethod y ∈ am_l)
    (hP : va_P D vCL ws H) (hD : va_D A ws) (isC : List Nat) (hC : isC.map (fun i => ws[i]?) = wc.map some) (hnC : va_nd isC = true) (hn : As.length = n) (hl : ls.size = nL) (hst : st0 = As.reverse ++ .ref b :: rest) (hW : (rest.map fun v => v.category).sum ≤ 8) (hdg : decode cc pc = .ok (.invokespecial index, 3)) (hf : cells + mc ≤ R.cells ∧ slots + ms ≤ R.slots) :
    va_Run p l e R s m args below meth c H locs cells slots mc ms (F0 m pc ls st0) rest (Qc (Value.ref b :: As).toArray) free :=
  va_runIN (g := F0 m pc ls st0) (X.fix args) hM ⟨cb, hy, X.w w2 args⟩ ⟨PW.blind, PW.at (sub_P hP isC hC) X.K X.am (hD.sub isC hnC hC)⟩ rfl hn hl hst (lv_room hW) hdg hf
theorem run_S {n : Nat} {st0 : List Value} (X : Cx D cI cJ cO p s m c cc nL own) (hM : Met l y [Cond.code y bytes maxL ret] (rk d mc ms) (PW D cI cJ cO As H.size wc) Qc mc ms free) (cb : CallB R s args own index y bytes maxL ret [Cond.code y bytes maxL ret] (rk d mc ms) mc ms n) (w2 : Cond.static y ∈ am_l)
    (hP : va_P D vCL ws H) (hD : va_D A ws) (isC : List Nat) (hC : isC.map (fun i => ws[i]?) = wc.map some) (hnC : va_nd isC = true) (hn : As.length = n) (hl : ls.size = nL) (hst : st0 = As.reverse ++ rest) (hW : (rest.map fun v => v.category).sum ≤ 8) (hdg : decode cc pc = .ok (.invokestatic index, 3)) (hf : cells + mc ≤ R.cells ∧ slots + ms ≤ R.slots) :
    va_Run p l e R s m args below meth c H locs cells slots mc ms (F0 m pc ls st0) rest (Qc As.toArray) free :=
  va_runS (g := F0 m pc ls st0) (X.fix args) hM ⟨cb, X.w w2 args⟩ ⟨PW.blind, PW.at (sub_P hP isC hC) X.K X.am (hD.sub isC hnC hC)⟩ rfl hn hl hst (lv_room hW) hdg hf
/-- the receiver's class, by its place in the world -/
theorem rcv {ci q0 a : Nat} {fs : List Value} {q : vw_C} (X : Cx D cI cJ cO p s m c cc nL own) (hP : va_P D vCL ws H) (hc : vCL[ci]? = some q) (he : ws[q0]? = some (a, .inr (ci, fs))) : ∃ cell : Cell, H[a]? = some cell ∧ cell.vm.isStatics = false ∧ s.vm.findClass q.1 = some cell.cls := va_recv X.K hP hc he
end CALL
end
section
/-! rows of the fields, a row a field: getfield g_<class>_<field>, putfield p_<class>_<field>; calls' words k_<index> -/
section FLD
variable {D : va_G} {cI cJ cO : ClassId} {p : Program} {l : Launch} {e : Env} {R : Room} {s : State} {m : MethodId} {args : Array Value} {below : List Frame} {meth : Method} {c : Code} {H : Heap} {locs : List Loc} {cells slots : Nat} {Q : State → Prop}
variable {cc : ByteArray} {pc : Nat} {ls : Array Slot} {rest : List Value} {nL : Nat} {ws ws' : va_W} {a : Nat} {A : Nat → Prop} {H0 : Heap} {fs : List Value}
theorem p_R_orders (X : Cx D cI cJ cO p s m c cc nL R_R) (hin : meth.name = "<init>") (hP : va_P D vCL ws H) (hD : va_D A ws) (hS : va_S A H0 H locs) (q0 : Nat) {x : Nat} (he : ws[q0]? = some (a, .inr (0, fs))) (hlen : 0 < fs.length) (hws : ws.set q0 (a, .inr (0, fs.set 0 (.ref x))) = ws') (hdg : decode cc pc = .ok (.putfield 21, 3)) (kk : ∀ (H1 : Heap) (locs1 : List Loc), va_P D vCL ws' H1 → va_D A ws' → va_S A H0 H1 locs1 → W p l e R s m args below meth c H1 locs1 cells slots Q (F0 m (pc + 3) ls rest)) : W p l e R s m args below meth c H locs cells slots Q (F0 m pc ls (.ref x :: .ref a :: rest)) := by
  subst hws
  exact va_putF (D := D) (ci := 0) (v := .ref x) (ty := .array (.object "RunSorter$Order")) (C := R_R) (T := F_R) (N := 7) X.x X.b (X.am.use args) in_R t_R t_R_ok n_R X.o X.K hP hD hS q0 he rfl 0 (by decide) (X.w q_81 args) (fun _ h9 => h9) rfl hin rfl (by decide +kernel) rfl rfl hlen hdg kk
theorem p_R_sorter (X : Cx D cI cJ cO p s m c cc nL R_R) (hin : meth.name = "<init>") (hP : va_P D vCL ws H) (hD : va_D A ws) (hS : va_S A H0 H locs) (q0 : Nat) {x : Nat} (he : ws[q0]? = some (a, .inr (0, fs))) (hlen : 1 < fs.length) (hws : ws.set q0 (a, .inr (0, fs.set 1 (.ref x))) = ws') (hdg : decode cc pc = .ok (.putfield 30, 3)) (kk : ∀ (H1 : Heap) (locs1 : List Loc), va_P D vCL ws' H1 → va_D A ws' → va_S A H0 H1 locs1 → W p l e R s m args below meth c H1 locs1 cells slots Q (F0 m (pc + 3) ls rest)) : W p l e R s m args below meth c H locs cells slots Q (F0 m pc ls (.ref x :: .ref a :: rest)) := by
  subst hws
  exact va_putF (D := D) (ci := 0) (v := .ref x) (ty := .object "RunSorter$Sorter") (C := R_R) (T := F_R) (N := 7) X.x X.b (X.am.use args) in_R t_R t_R_ok n_R X.o X.K hP hD hS q0 he rfl 1 (by decide) (X.w q_82 args) (fun _ h9 => h9) rfl hin rfl (by decide +kernel) rfl rfl hlen hdg kk
theorem p_R_numbers (X : Cx D cI cJ cO p s m c cc nL R_R) (hin : meth.name = "<init>") (hP : va_P D vCL ws H) (hD : va_D A ws) (hS : va_S A H0 H locs) (q0 : Nat) {x : Nat} (he : ws[q0]? = some (a, .inr (0, fs))) (hlen : 2 < fs.length) (hws : ws.set q0 (a, .inr (0, fs.set 2 (.ref x))) = ws') (hdg : decode cc pc = .ok (.putfield 34, 3)) (kk : ∀ (H1 : Heap) (locs1 : List Loc), va_P D vCL ws' H1 → va_D A ws' → va_S A H0 H1 locs1 → W p l e R s m args below meth c H1 locs1 cells slots Q (F0 m (pc + 3) ls rest)) : W p l e R s m args below meth c H locs cells slots Q (F0 m pc ls (.ref x :: .ref a :: rest)) := by
  subst hws
  exact va_putF (D := D) (ci := 0) (v := .ref x) (ty := .array .int) (C := R_R) (T := F_R) (N := 7) X.x X.b (X.am.use args) in_R t_R t_R_ok n_R X.o X.K hP hD hS q0 he rfl 2 (by decide) (X.w q_83 args) (fun _ h9 => h9) rfl hin rfl (by decide +kernel) rfl rfl hlen hdg kk
theorem p_R_tags (X : Cx D cI cJ cO p s m c cc nL R_R) (hin : meth.name = "<init>") (hP : va_P D vCL ws H) (hD : va_D A ws) (hS : va_S A H0 H locs) (q0 : Nat) {x : Nat} (he : ws[q0]? = some (a, .inr (0, fs))) (hlen : 3 < fs.length) (hws : ws.set q0 (a, .inr (0, fs.set 3 (.ref x))) = ws') (hdg : decode cc pc = .ok (.putfield 38, 3)) (kk : ∀ (H1 : Heap) (locs1 : List Loc), va_P D vCL ws' H1 → va_D A ws' → va_S A H0 H1 locs1 → W p l e R s m args below meth c H1 locs1 cells slots Q (F0 m (pc + 3) ls rest)) : W p l e R s m args below meth c H locs cells slots Q (F0 m pc ls (.ref x :: .ref a :: rest)) := by
  subst hws
  exact va_putF (D := D) (ci := 0) (v := .ref x) (ty := .array .int) (C := R_R) (T := F_R) (N := 7) X.x X.b (X.am.use args) in_R t_R t_R_ok n_R X.o X.K hP hD hS q0 he rfl 3 (by decide) (X.w q_84 args) (fun _ h9 => h9) rfl hin rfl (by decide +kernel) rfl rfl hlen hdg kk
theorem p_R_old (X : Cx D cI cJ cO p s m c cc nL R_R) (hin : meth.name = "<init>") (hP : va_P D vCL ws H) (hD : va_D A ws) (hS : va_S A H0 H locs) (q0 : Nat) {x : Nat} (he : ws[q0]? = some (a, .inr (0, fs))) (hlen : 4 < fs.length) (hws : ws.set q0 (a, .inr (0, fs.set 4 (.ref x))) = ws') (hdg : decode cc pc = .ok (.putfield 41, 3)) (kk : ∀ (H1 : Heap) (locs1 : List Loc), va_P D vCL ws' H1 → va_D A ws' → va_S A H0 H1 locs1 → W p l e R s m args below meth c H1 locs1 cells slots Q (F0 m (pc + 3) ls rest)) : W p l e R s m args below meth c H locs cells slots Q (F0 m pc ls (.ref x :: .ref a :: rest)) := by
  subst hws
  exact va_putF (D := D) (ci := 0) (v := .ref x) (ty := .array .int) (C := R_R) (T := F_R) (N := 7) X.x X.b (X.am.use args) in_R t_R t_R_ok n_R X.o X.K hP hD hS q0 he rfl 4 (by decide) (X.w q_85 args) (fun _ h9 => h9) rfl hin rfl (by decide +kernel) rfl rfl hlen hdg kk
theorem p_R_oldTags (X : Cx D cI cJ cO p s m c cc nL R_R) (hin : meth.name = "<init>") (hP : va_P D vCL ws H) (hD : va_D A ws) (hS : va_S A H0 H locs) (q0 : Nat) {x : Nat} (he : ws[q0]? = some (a, .inr (0, fs))) (hlen : 5 < fs.length) (hws : ws.set q0 (a, .inr (0, fs.set 5 (.ref x))) = ws') (hdg : decode cc pc = .ok (.putfield 44, 3)) (kk : ∀ (H1 : Heap) (locs1 : List Loc), va_P D vCL ws' H1 → va_D A ws' → va_S A H0 H1 locs1 → W p l e R s m args below meth c H1 locs1 cells slots Q (F0 m (pc + 3) ls rest)) : W p l e R s m args below meth c H locs cells slots Q (F0 m pc ls (.ref x :: .ref a :: rest)) := by
  subst hws
  exact va_putF (D := D) (ci := 0) (v := .ref x) (ty := .array .int) (C := R_R) (T := F_R) (N := 7) X.x X.b (X.am.use args) in_R t_R t_R_ok n_R X.o X.K hP hD hS q0 he rfl 5 (by decide) (X.w q_86 args) (fun _ h9 => h9) rfl hin rfl (by decide +kernel) rfl rfl hlen hdg kk
theorem g_R_numbers (X : Cx D cI cJ cO p s m c cc nL R_R) (hP : va_P D vCL ws H) (q0 : Nat) {v : Value} (he : ws[q0]? = some (a, .inr (0, fs))) (hv : fs[2]? = some v) (hdg : decode cc pc = .ok (.getfield 34, 3)) (kk : W p l e R s m args below meth c H locs cells slots Q (F0 m (pc + 3) ls (v :: rest))) : W p l e R s m args below meth c H locs cells slots Q (F0 m pc ls (.ref a :: rest)) :=
  va_get (D := D) (ci := 0) (v := v) (C := R_R) (T := F_R) (N := 7) X.x X.b (X.am.use args) in_R X.o X.K hP q0 he rfl 2 (by decide) (X.w q_83 args) (fun _ h9 => h9) hv hdg kk
theorem g_R_size (X : Cx D cI cJ cO p s m c cc nL R_R) (hP : va_P D vCL ws H) (q0 : Nat) {v : Value} (he : ws[q0]? = some (a, .inr (0, fs))) (hv : fs[6]? = some v) (hdg : decode cc pc = .ok (.getfield 53, 3)) (kk : W p l e R s m args below meth c H locs cells slots Q (F0 m (pc + 3) ls (v :: rest))) : W p l e R s m args below meth c H locs cells slots Q (F0 m pc ls (.ref a :: rest)) :=
  va_get (D := D) (ci := 0) (v := v) (C := R_R) (T := F_R) (N := 7) X.x X.b (X.am.use args) in_R X.o X.K hP q0 he rfl 6 (by decide) (X.w q_87 args) (fun _ h9 => h9) hv hdg kk
theorem g_R_tags (X : Cx D cI cJ cO p s m c cc nL R_R) (hP : va_P D vCL ws H) (q0 : Nat) {v : Value} (he : ws[q0]? = some (a, .inr (0, fs))) (hv : fs[3]? = some v) (hdg : decode cc pc = .ok (.getfield 38, 3)) (kk : W p l e R s m args below meth c H locs cells slots Q (F0 m (pc + 3) ls (v :: rest))) : W p l e R s m args below meth c H locs cells slots Q (F0 m pc ls (.ref a :: rest)) :=
  va_get (D := D) (ci := 0) (v := v) (C := R_R) (T := F_R) (N := 7) X.x X.b (X.am.use args) in_R X.o X.K hP q0 he rfl 3 (by decide) (X.w q_84 args) (fun _ h9 => h9) hv hdg kk
theorem p_R_size (X : Cx D cI cJ cO p s m c cc nL R_R) (hP : va_P D vCL ws H) (hD : va_D A ws) (hS : va_S A H0 H locs) (q0 : Nat) {x : Int32} (he : ws[q0]? = some (a, .inr (0, fs))) (hlen : 6 < fs.length) (hws : ws.set q0 (a, .inr (0, fs.set 6 (.int x))) = ws') (hdg : decode cc pc = .ok (.putfield 53, 3)) (kk : ∀ (H1 : Heap) (locs1 : List Loc), va_P D vCL ws' H1 → va_D A ws' → va_S A H0 H1 locs1 → W p l e R s m args below meth c H1 locs1 cells slots Q (F0 m (pc + 3) ls rest)) : W p l e R s m args below meth c H locs cells slots Q (F0 m pc ls (.int x :: .ref a :: rest)) := by
  subst hws
  exact va_put (D := D) (ci := 0) (v := .int x) (ty := .int) (C := R_R) (T := F_R) (N := 7) X.x X.b (X.am.use args) in_R t_R t_R_ok n_R X.o X.K hP hD hS q0 he rfl 6 (by decide) (X.w q_87 args) (fun _ h9 => h9) rfl (by decide +kernel) rfl rfl hlen hdg kk
theorem g_R_sorter (X : Cx D cI cJ cO p s m c cc nL R_R) (hP : va_P D vCL ws H) (q0 : Nat) {v : Value} (he : ws[q0]? = some (a, .inr (0, fs))) (hv : fs[1]? = some v) (hdg : decode cc pc = .ok (.getfield 30, 3)) (kk : W p l e R s m args below meth c H locs cells slots Q (F0 m (pc + 3) ls (v :: rest))) : W p l e R s m args below meth c H locs cells slots Q (F0 m pc ls (.ref a :: rest)) :=
  va_get (D := D) (ci := 0) (v := v) (C := R_R) (T := F_R) (N := 7) X.x X.b (X.am.use args) in_R X.o X.K hP q0 he rfl 1 (by decide) (X.w q_82 args) (fun _ h9 => h9) hv hdg kk
theorem g_R_old (X : Cx D cI cJ cO p s m c cc nL R_R) (hP : va_P D vCL ws H) (q0 : Nat) {v : Value} (he : ws[q0]? = some (a, .inr (0, fs))) (hv : fs[4]? = some v) (hdg : decode cc pc = .ok (.getfield 41, 3)) (kk : W p l e R s m args below meth c H locs cells slots Q (F0 m (pc + 3) ls (v :: rest))) : W p l e R s m args below meth c H locs cells slots Q (F0 m pc ls (.ref a :: rest)) :=
  va_get (D := D) (ci := 0) (v := v) (C := R_R) (T := F_R) (N := 7) X.x X.b (X.am.use args) in_R X.o X.K hP q0 he rfl 4 (by decide) (X.w q_85 args) (fun _ h9 => h9) hv hdg kk
theorem g_R_oldTags (X : Cx D cI cJ cO p s m c cc nL R_R) (hP : va_P D vCL ws H) (q0 : Nat) {v : Value} (he : ws[q0]? = some (a, .inr (0, fs))) (hv : fs[5]? = some v) (hdg : decode cc pc = .ok (.getfield 44, 3)) (kk : W p l e R s m args below meth c H locs cells slots Q (F0 m (pc + 3) ls (v :: rest))) : W p l e R s m args below meth c H locs cells slots Q (F0 m pc ls (.ref a :: rest)) :=
  va_get (D := D) (ci := 0) (v := v) (C := R_R) (T := F_R) (N := 7) X.x X.b (X.am.use args) in_R X.o X.K hP q0 he rfl 5 (by decide) (X.w q_86 args) (fun _ h9 => h9) hv hdg kk
theorem g_R_orders (X : Cx D cI cJ cO p s m c cc nL R_R) (hP : va_P D vCL ws H) (q0 : Nat) {v : Value} (he : ws[q0]? = some (a, .inr (0, fs))) (hv : fs[0]? = some v) (hdg : decode cc pc = .ok (.getfield 21, 3)) (kk : W p l e R s m args below meth c H locs cells slots Q (F0 m (pc + 3) ls (v :: rest))) : W p l e R s m args below meth c H locs cells slots Q (F0 m pc ls (.ref a :: rest)) :=
  va_get (D := D) (ci := 0) (v := v) (C := R_R) (T := F_R) (N := 7) X.x X.b (X.am.use args) in_R X.o X.K hP q0 he rfl 0 (by decide) (X.w q_81 args) (fun _ h9 => h9) hv hdg kk
theorem p_M_row (X : Cx D cI cJ cO p s m c cc nL R_M) (hin : meth.name = "<init>") (hP : va_P D vCL ws H) (hD : va_D A ws) (hS : va_S A H0 H locs) (q0 : Nat) {x : Nat} (he : ws[q0]? = some (a, .inr (7, fs))) (hlen : 2 < fs.length) (hws : ws.set q0 (a, .inr (7, fs.set 2 (.ref x))) = ws') (hdg : decode cc pc = .ok (.putfield 7, 3)) (kk : ∀ (H1 : Heap) (locs1 : List Loc), va_P D vCL ws' H1 → va_D A ws' → va_S A H0 H1 locs1 → W p l e R s m args below meth c H1 locs1 cells slots Q (F0 m (pc + 3) ls rest)) : W p l e R s m args below meth c H locs cells slots Q (F0 m pc ls (.ref x :: .ref a :: rest)) := by
  subst hws
  exact va_putF (D := D) (ci := 7) (v := .ref x) (ty := .array .int) (C := R_M) (T := F_M) (N := 4) X.x X.b (X.am.use args) in_M t_M t_M_ok n_M X.o X.K hP hD hS q0 he rfl 2 (by decide) (X.w q_365 args) (fun _ h9 => h9) rfl hin rfl (by decide +kernel) rfl rfl hlen hdg kk
theorem p_M_tags (X : Cx D cI cJ cO p s m c cc nL R_M) (hin : meth.name = "<init>") (hP : va_P D vCL ws H) (hD : va_D A ws) (hS : va_S A H0 H locs) (q0 : Nat) {x : Nat} (he : ws[q0]? = some (a, .inr (7, fs))) (hlen : 3 < fs.length) (hws : ws.set q0 (a, .inr (7, fs.set 3 (.ref x))) = ws') (hdg : decode cc pc = .ok (.putfield 13, 3)) (kk : ∀ (H1 : Heap) (locs1 : List Loc), va_P D vCL ws' H1 → va_D A ws' → va_S A H0 H1 locs1 → W p l e R s m args below meth c H1 locs1 cells slots Q (F0 m (pc + 3) ls rest)) : W p l e R s m args below meth c H locs cells slots Q (F0 m pc ls (.ref x :: .ref a :: rest)) := by
  subst hws
  exact va_putF (D := D) (ci := 7) (v := .ref x) (ty := .array .int) (C := R_M) (T := F_M) (N := 4) X.x X.b (X.am.use args) in_M t_M t_M_ok n_M X.o X.K hP hD hS q0 he rfl 3 (by decide) (X.w q_366 args) (fun _ h9 => h9) rfl hin rfl (by decide +kernel) rfl rfl hlen hdg kk
theorem g_M_failed (X : Cx D cI cJ cO p s m c cc nL R_M) (hP : va_P D vCL ws H) (q0 : Nat) {v : Value} (he : ws[q0]? = some (a, .inr (7, fs))) (hv : fs[0]? = some v) (hdg : decode cc pc = .ok (.getfield 16, 3)) (kk : W p l e R s m args below meth c H locs cells slots Q (F0 m (pc + 3) ls (v :: rest))) : W p l e R s m args below meth c H locs cells slots Q (F0 m pc ls (.ref a :: rest)) :=
  va_get (D := D) (ci := 7) (v := v) (C := R_M) (T := F_M) (N := 4) X.x X.b (X.am.use args) in_M X.o X.K hP q0 he rfl 0 (by decide) (X.w q_363 args) (fun _ h9 => h9) hv hdg kk
theorem p_M_failed (X : Cx D cI cJ cO p s m c cc nL R_M) (hP : va_P D vCL ws H) (hD : va_D A ws) (hS : va_S A H0 H locs) (q0 : Nat) {x : Int32} (he : ws[q0]? = some (a, .inr (7, fs))) (hlen : 0 < fs.length) (hws : ws.set q0 (a, .inr (7, fs.set 0 (.int x))) = ws') (hdg : decode cc pc = .ok (.putfield 16, 3)) (kk : ∀ (H1 : Heap) (locs1 : List Loc), va_P D vCL ws' H1 → va_D A ws' → va_S A H0 H1 locs1 → W p l e R s m args below meth c H1 locs1 cells slots Q (F0 m (pc + 3) ls rest)) : W p l e R s m args below meth c H locs cells slots Q (F0 m pc ls (.int x :: .ref a :: rest)) := by
  subst hws
  exact va_put (D := D) (ci := 7) (v := .int x) (ty := .int) (C := R_M) (T := F_M) (N := 4) X.x X.b (X.am.use args) in_M t_M t_M_ok n_M X.o X.K hP hD hS q0 he rfl 0 (by decide) (X.w q_363 args) (fun _ h9 => h9) rfl (by decide +kernel) rfl rfl hlen hdg kk
theorem g_M_row (X : Cx D cI cJ cO p s m c cc nL R_M) (hP : va_P D vCL ws H) (q0 : Nat) {v : Value} (he : ws[q0]? = some (a, .inr (7, fs))) (hv : fs[2]? = some v) (hdg : decode cc pc = .ok (.getfield 7, 3)) (kk : W p l e R s m args below meth c H locs cells slots Q (F0 m (pc + 3) ls (v :: rest))) : W p l e R s m args below meth c H locs cells slots Q (F0 m pc ls (.ref a :: rest)) :=
  va_get (D := D) (ci := 7) (v := v) (C := R_M) (T := F_M) (N := 4) X.x X.b (X.am.use args) in_M X.o X.K hP q0 he rfl 2 (by decide) (X.w q_365 args) (fun _ h9 => h9) hv hdg kk
theorem g_M_size (X : Cx D cI cJ cO p s m c cc nL R_M) (hP : va_P D vCL ws H) (q0 : Nat) {v : Value} (he : ws[q0]? = some (a, .inr (7, fs))) (hv : fs[1]? = some v) (hdg : decode cc pc = .ok (.getfield 21, 3)) (kk : W p l e R s m args below meth c H locs cells slots Q (F0 m (pc + 3) ls (v :: rest))) : W p l e R s m args below meth c H locs cells slots Q (F0 m pc ls (.ref a :: rest)) :=
  va_get (D := D) (ci := 7) (v := v) (C := R_M) (T := F_M) (N := 4) X.x X.b (X.am.use args) in_M X.o X.K hP q0 he rfl 1 (by decide) (X.w q_364 args) (fun _ h9 => h9) hv hdg kk
theorem g_M_tags (X : Cx D cI cJ cO p s m c cc nL R_M) (hP : va_P D vCL ws H) (q0 : Nat) {v : Value} (he : ws[q0]? = some (a, .inr (7, fs))) (hv : fs[3]? = some v) (hdg : decode cc pc = .ok (.getfield 13, 3)) (kk : W p l e R s m args below meth c H locs cells slots Q (F0 m (pc + 3) ls (v :: rest))) : W p l e R s m args below meth c H locs cells slots Q (F0 m pc ls (.ref a :: rest)) :=
  va_get (D := D) (ci := 7) (v := v) (C := R_M) (T := F_M) (N := 4) X.x X.b (X.am.use args) in_M X.o X.K hP q0 he rfl 3 (by decide) (X.w q_366 args) (fun _ h9 => h9) hv hdg kk
theorem p_M_size (X : Cx D cI cJ cO p s m c cc nL R_M) (hP : va_P D vCL ws H) (hD : va_D A ws) (hS : va_S A H0 H locs) (q0 : Nat) {x : Int32} (he : ws[q0]? = some (a, .inr (7, fs))) (hlen : 1 < fs.length) (hws : ws.set q0 (a, .inr (7, fs.set 1 (.int x))) = ws') (hdg : decode cc pc = .ok (.putfield 21, 3)) (kk : ∀ (H1 : Heap) (locs1 : List Loc), va_P D vCL ws' H1 → va_D A ws' → va_S A H0 H1 locs1 → W p l e R s m args below meth c H1 locs1 cells slots Q (F0 m (pc + 3) ls rest)) : W p l e R s m args below meth c H locs cells slots Q (F0 m pc ls (.int x :: .ref a :: rest)) := by
  subst hws
  exact va_put (D := D) (ci := 7) (v := .int x) (ty := .int) (C := R_M) (T := F_M) (N := 4) X.x X.b (X.am.use args) in_M t_M t_M_ok n_M X.o X.K hP hD hS q0 he rfl 1 (by decide) (X.w q_364 args) (fun _ h9 => h9) rfl (by decide +kernel) rfl rfl hlen hdg kk
theorem p_B_order (X : Cx D cI cJ cO p s m c cc nL R_B) (hin : meth.name = "<init>") (hP : va_P D vCL ws H) (hD : va_D A ws) (hS : va_S A H0 H locs) (q0 : Nat) {x : Nat} (he : ws[q0]? = some (a, .inr (2, fs))) (hlen : 0 < fs.length) (hws : ws.set q0 (a, .inr (2, fs.set 0 (.ref x))) = ws') (hdg : decode cc pc = .ok (.putfield 7, 3)) (kk : ∀ (H1 : Heap) (locs1 : List Loc), va_P D vCL ws' H1 → va_D A ws' → va_S A H0 H1 locs1 → W p l e R s m args below meth c H1 locs1 cells slots Q (F0 m (pc + 3) ls rest)) : W p l e R s m args below meth c H locs cells slots Q (F0 m pc ls (.ref x :: .ref a :: rest)) := by
  subst hws
  exact va_putF (D := D) (ci := 2) (v := .ref x) (ty := .object "RunSorter$Order") (C := R_B) (T := F_B) (N := 2) X.x X.b (X.am.use args) in_B t_B t_B_ok n_B X.o X.K hP hD hS q0 he rfl 0 (by decide) (X.w q_233 args) (fun _ h9 => h9) rfl hin rfl (by decide +kernel) rfl rfl hlen hdg kk
theorem p_B_numbers (X : Cx D cI cJ cO p s m c cc nL R_B) (hin : meth.name = "<init>") (hP : va_P D vCL ws H) (hD : va_D A ws) (hS : va_S A H0 H locs) (q0 : Nat) {x : Nat} (he : ws[q0]? = some (a, .inr (2, fs))) (hlen : 1 < fs.length) (hws : ws.set q0 (a, .inr (2, fs.set 1 (.ref x))) = ws') (hdg : decode cc pc = .ok (.putfield 13, 3)) (kk : ∀ (H1 : Heap) (locs1 : List Loc), va_P D vCL ws' H1 → va_D A ws' → va_S A H0 H1 locs1 → W p l e R s m args below meth c H1 locs1 cells slots Q (F0 m (pc + 3) ls rest)) : W p l e R s m args below meth c H locs cells slots Q (F0 m pc ls (.ref x :: .ref a :: rest)) := by
  subst hws
  exact va_putF (D := D) (ci := 2) (v := .ref x) (ty := .array .int) (C := R_B) (T := F_B) (N := 2) X.x X.b (X.am.use args) in_B t_B t_B_ok n_B X.o X.K hP hD hS q0 he rfl 1 (by decide) (X.w q_234 args) (fun _ h9 => h9) rfl hin rfl (by decide +kernel) rfl rfl hlen hdg kk
theorem g_B_order (X : Cx D cI cJ cO p s m c cc nL R_B) (hP : va_P D vCL ws H) (q0 : Nat) {v : Value} (he : ws[q0]? = some (a, .inr (2, fs))) (hv : fs[0]? = some v) (hdg : decode cc pc = .ok (.getfield 7, 3)) (kk : W p l e R s m args below meth c H locs cells slots Q (F0 m (pc + 3) ls (v :: rest))) : W p l e R s m args below meth c H locs cells slots Q (F0 m pc ls (.ref a :: rest)) :=
  va_get (D := D) (ci := 2) (v := v) (C := R_B) (T := F_B) (N := 2) X.x X.b (X.am.use args) in_B X.o X.K hP q0 he rfl 0 (by decide) (X.w q_233 args) (fun _ h9 => h9) hv hdg kk
theorem g_B_numbers (X : Cx D cI cJ cO p s m c cc nL R_B) (hP : va_P D vCL ws H) (q0 : Nat) {v : Value} (he : ws[q0]? = some (a, .inr (2, fs))) (hv : fs[1]? = some v) (hdg : decode cc pc = .ok (.getfield 13, 3)) (kk : W p l e R s m args below meth c H locs cells slots Q (F0 m (pc + 3) ls (v :: rest))) : W p l e R s m args below meth c H locs cells slots Q (F0 m pc ls (.ref a :: rest)) :=
  va_get (D := D) (ci := 2) (v := v) (C := R_B) (T := F_B) (N := 2) X.x X.b (X.am.use args) in_B X.o X.K hP q0 he rfl 1 (by decide) (X.w q_234 args) (fun _ h9 => h9) hv hdg kk
theorem p_S_cells (X : Cx D cI cJ cO p s m c cc nL R_S) (hin : meth.name = "<init>") (hP : va_P D vCL ws H) (hD : va_D A ws) (hS : va_S A H0 H locs) (q0 : Nat) {x : Nat} (he : ws[q0]? = some (a, .inr (1, fs))) (hlen : 0 < fs.length) (hws : ws.set q0 (a, .inr (1, fs.set 0 (.ref x))) = ws') (hdg : decode cc pc = .ok (.putfield 9, 3)) (kk : ∀ (H1 : Heap) (locs1 : List Loc), va_P D vCL ws' H1 → va_D A ws' → va_S A H0 H1 locs1 → W p l e R s m args below meth c H1 locs1 cells slots Q (F0 m (pc + 3) ls rest)) : W p l e R s m args below meth c H locs cells slots Q (F0 m pc ls (.ref x :: .ref a :: rest)) := by
  subst hws
  exact va_putF (D := D) (ci := 1) (v := .ref x) (ty := .array .int) (C := R_S) (T := F_S) (N := 7) X.x X.b (X.am.use args) in_S t_S t_S_ok n_S X.o X.K hP hD hS q0 he rfl 0 (by decide) (X.w q_58 args) (fun _ h9 => h9) rfl hin rfl (by decide +kernel) rfl rfl hlen hdg kk
theorem p_S_spare (X : Cx D cI cJ cO p s m c cc nL R_S) (hin : meth.name = "<init>") (hP : va_P D vCL ws H) (hD : va_D A ws) (hS : va_S A H0 H locs) (q0 : Nat) {x : Nat} (he : ws[q0]? = some (a, .inr (1, fs))) (hlen : 1 < fs.length) (hws : ws.set q0 (a, .inr (1, fs.set 1 (.ref x))) = ws') (hdg : decode cc pc = .ok (.putfield 15, 3)) (kk : ∀ (H1 : Heap) (locs1 : List Loc), va_P D vCL ws' H1 → va_D A ws' → va_S A H0 H1 locs1 → W p l e R s m args below meth c H1 locs1 cells slots Q (F0 m (pc + 3) ls rest)) : W p l e R s m args below meth c H locs cells slots Q (F0 m pc ls (.ref x :: .ref a :: rest)) := by
  subst hws
  exact va_putF (D := D) (ci := 1) (v := .ref x) (ty := .array .int) (C := R_S) (T := F_S) (N := 7) X.x X.b (X.am.use args) in_S t_S t_S_ok n_S X.o X.K hP hD hS q0 he rfl 1 (by decide) (X.w q_59 args) (fun _ h9 => h9) rfl hin rfl (by decide +kernel) rfl rfl hlen hdg kk
theorem p_S_from (X : Cx D cI cJ cO p s m c cc nL R_S) (hin : meth.name = "<init>") (hP : va_P D vCL ws H) (hD : va_D A ws) (hS : va_S A H0 H locs) (q0 : Nat) {x : Nat} (he : ws[q0]? = some (a, .inr (1, fs))) (hlen : 2 < fs.length) (hws : ws.set q0 (a, .inr (1, fs.set 2 (.ref x))) = ws') (hdg : decode cc pc = .ok (.putfield 18, 3)) (kk : ∀ (H1 : Heap) (locs1 : List Loc), va_P D vCL ws' H1 → va_D A ws' → va_S A H0 H1 locs1 → W p l e R s m args below meth c H1 locs1 cells slots Q (F0 m (pc + 3) ls rest)) : W p l e R s m args below meth c H locs cells slots Q (F0 m pc ls (.ref x :: .ref a :: rest)) := by
  subst hws
  exact va_putF (D := D) (ci := 1) (v := .ref x) (ty := .array .int) (C := R_S) (T := F_S) (N := 7) X.x X.b (X.am.use args) in_S t_S t_S_ok n_S X.o X.K hP hD hS q0 he rfl 2 (by decide) (X.w q_60 args) (fun _ h9 => h9) rfl hin rfl (by decide +kernel) rfl rfl hlen hdg kk
theorem p_S_length (X : Cx D cI cJ cO p s m c cc nL R_S) (hin : meth.name = "<init>") (hP : va_P D vCL ws H) (hD : va_D A ws) (hS : va_S A H0 H locs) (q0 : Nat) {x : Nat} (he : ws[q0]? = some (a, .inr (1, fs))) (hlen : 3 < fs.length) (hws : ws.set q0 (a, .inr (1, fs.set 3 (.ref x))) = ws') (hdg : decode cc pc = .ok (.putfield 21, 3)) (kk : ∀ (H1 : Heap) (locs1 : List Loc), va_P D vCL ws' H1 → va_D A ws' → va_S A H0 H1 locs1 → W p l e R s m args below meth c H1 locs1 cells slots Q (F0 m (pc + 3) ls rest)) : W p l e R s m args below meth c H locs cells slots Q (F0 m pc ls (.ref x :: .ref a :: rest)) := by
  subst hws
  exact va_putF (D := D) (ci := 1) (v := .ref x) (ty := .array .int) (C := R_S) (T := F_S) (N := 7) X.x X.b (X.am.use args) in_S t_S t_S_ok n_S X.o X.K hP hD hS q0 he rfl 3 (by decide) (X.w q_61 args) (fun _ h9 => h9) rfl hin rfl (by decide +kernel) rfl rfl hlen hdg kk
theorem g_S_cells (X : Cx D cI cJ cO p s m c cc nL R_S) (hP : va_P D vCL ws H) (q0 : Nat) {v : Value} (he : ws[q0]? = some (a, .inr (1, fs))) (hv : fs[0]? = some v) (hdg : decode cc pc = .ok (.getfield 9, 3)) (kk : W p l e R s m args below meth c H locs cells slots Q (F0 m (pc + 3) ls (v :: rest))) : W p l e R s m args below meth c H locs cells slots Q (F0 m pc ls (.ref a :: rest)) :=
  va_get (D := D) (ci := 1) (v := v) (C := R_S) (T := F_S) (N := 7) X.x X.b (X.am.use args) in_S X.o X.K hP q0 he rfl 0 (by decide) (X.w q_58 args) (fun _ h9 => h9) hv hdg kk
theorem p_S_order (X : Cx D cI cJ cO p s m c cc nL R_S) (hP : va_P D vCL ws H) (hD : va_D A ws) (hS : va_S A H0 H locs) (q0 : Nat) {x : Nat} (he : ws[q0]? = some (a, .inr (1, fs))) (hlen : 6 < fs.length) (hws : ws.set q0 (a, .inr (1, fs.set 6 (.ref x))) = ws') (hdg : decode cc pc = .ok (.putfield 24, 3)) (kk : ∀ (H1 : Heap) (locs1 : List Loc), va_P D vCL ws' H1 → va_D A ws' → va_S A H0 H1 locs1 → W p l e R s m args below meth c H1 locs1 cells slots Q (F0 m (pc + 3) ls rest)) : W p l e R s m args below meth c H locs cells slots Q (F0 m pc ls (.ref x :: .ref a :: rest)) := by
  subst hws
  exact va_put (D := D) (ci := 1) (v := .ref x) (ty := .object "RunSorter$Order") (C := R_S) (T := F_S) (N := 7) X.x X.b (X.am.use args) in_S t_S t_S_ok n_S X.o X.K hP hD hS q0 he rfl 6 (by decide) (X.w q_64 args) (fun _ h9 => h9) rfl (by decide +kernel) rfl rfl hlen hdg kk
theorem p_S_runs (X : Cx D cI cJ cO p s m c cc nL R_S) (hP : va_P D vCL ws H) (hD : va_D A ws) (hS : va_S A H0 H locs) (q0 : Nat) {x : Int32} (he : ws[q0]? = some (a, .inr (1, fs))) (hlen : 4 < fs.length) (hws : ws.set q0 (a, .inr (1, fs.set 4 (.int x))) = ws') (hdg : decode cc pc = .ok (.putfield 28, 3)) (kk : ∀ (H1 : Heap) (locs1 : List Loc), va_P D vCL ws' H1 → va_D A ws' → va_S A H0 H1 locs1 → W p l e R s m args below meth c H1 locs1 cells slots Q (F0 m (pc + 3) ls rest)) : W p l e R s m args below meth c H locs cells slots Q (F0 m pc ls (.int x :: .ref a :: rest)) := by
  subst hws
  exact va_put (D := D) (ci := 1) (v := .int x) (ty := .int) (C := R_S) (T := F_S) (N := 7) X.x X.b (X.am.use args) in_S t_S t_S_ok n_S X.o X.K hP hD hS q0 he rfl 4 (by decide) (X.w q_62 args) (fun _ h9 => h9) rfl (by decide +kernel) rfl rfl hlen hdg kk
theorem p_S_gallop (X : Cx D cI cJ cO p s m c cc nL R_S) (hP : va_P D vCL ws H) (hD : va_D A ws) (hS : va_S A H0 H locs) (q0 : Nat) {x : Int32} (he : ws[q0]? = some (a, .inr (1, fs))) (hlen : 5 < fs.length) (hws : ws.set q0 (a, .inr (1, fs.set 5 (.int x))) = ws') (hdg : decode cc pc = .ok (.putfield 32, 3)) (kk : ∀ (H1 : Heap) (locs1 : List Loc), va_P D vCL ws' H1 → va_D A ws' → va_S A H0 H1 locs1 → W p l e R s m args below meth c H1 locs1 cells slots Q (F0 m (pc + 3) ls rest)) : W p l e R s m args below meth c H locs cells slots Q (F0 m pc ls (.int x :: .ref a :: rest)) := by
  subst hws
  exact va_put (D := D) (ci := 1) (v := .int x) (ty := .int) (C := R_S) (T := F_S) (N := 7) X.x X.b (X.am.use args) in_S t_S t_S_ok n_S X.o X.K hP hD hS q0 he rfl 5 (by decide) (X.w q_63 args) (fun _ h9 => h9) rfl (by decide +kernel) rfl rfl hlen hdg kk
theorem g_S_from (X : Cx D cI cJ cO p s m c cc nL R_S) (hP : va_P D vCL ws H) (q0 : Nat) {v : Value} (he : ws[q0]? = some (a, .inr (1, fs))) (hv : fs[2]? = some v) (hdg : decode cc pc = .ok (.getfield 18, 3)) (kk : W p l e R s m args below meth c H locs cells slots Q (F0 m (pc + 3) ls (v :: rest))) : W p l e R s m args below meth c H locs cells slots Q (F0 m pc ls (.ref a :: rest)) :=
  va_get (D := D) (ci := 1) (v := v) (C := R_S) (T := F_S) (N := 7) X.x X.b (X.am.use args) in_S X.o X.K hP q0 he rfl 2 (by decide) (X.w q_60 args) (fun _ h9 => h9) hv hdg kk
theorem g_S_runs (X : Cx D cI cJ cO p s m c cc nL R_S) (hP : va_P D vCL ws H) (q0 : Nat) {v : Value} (he : ws[q0]? = some (a, .inr (1, fs))) (hv : fs[4]? = some v) (hdg : decode cc pc = .ok (.getfield 28, 3)) (kk : W p l e R s m args below meth c H locs cells slots Q (F0 m (pc + 3) ls (v :: rest))) : W p l e R s m args below meth c H locs cells slots Q (F0 m pc ls (.ref a :: rest)) :=
  va_get (D := D) (ci := 1) (v := v) (C := R_S) (T := F_S) (N := 7) X.x X.b (X.am.use args) in_S X.o X.K hP q0 he rfl 4 (by decide) (X.w q_62 args) (fun _ h9 => h9) hv hdg kk
theorem g_S_length (X : Cx D cI cJ cO p s m c cc nL R_S) (hP : va_P D vCL ws H) (q0 : Nat) {v : Value} (he : ws[q0]? = some (a, .inr (1, fs))) (hv : fs[3]? = some v) (hdg : decode cc pc = .ok (.getfield 21, 3)) (kk : W p l e R s m args below meth c H locs cells slots Q (F0 m (pc + 3) ls (v :: rest))) : W p l e R s m args below meth c H locs cells slots Q (F0 m pc ls (.ref a :: rest)) :=
  va_get (D := D) (ci := 1) (v := v) (C := R_S) (T := F_S) (N := 7) X.x X.b (X.am.use args) in_S X.o X.K hP q0 he rfl 3 (by decide) (X.w q_61 args) (fun _ h9 => h9) hv hdg kk
theorem g_S_order (X : Cx D cI cJ cO p s m c cc nL R_S) (hP : va_P D vCL ws H) (q0 : Nat) {v : Value} (he : ws[q0]? = some (a, .inr (1, fs))) (hv : fs[6]? = some v) (hdg : decode cc pc = .ok (.getfield 24, 3)) (kk : W p l e R s m args below meth c H locs cells slots Q (F0 m (pc + 3) ls (v :: rest))) : W p l e R s m args below meth c H locs cells slots Q (F0 m pc ls (.ref a :: rest)) :=
  va_get (D := D) (ci := 1) (v := v) (C := R_S) (T := F_S) (N := 7) X.x X.b (X.am.use args) in_S X.o X.K hP q0 he rfl 6 (by decide) (X.w q_64 args) (fun _ h9 => h9) hv hdg kk
theorem g_S_spare (X : Cx D cI cJ cO p s m c cc nL R_S) (hP : va_P D vCL ws H) (q0 : Nat) {v : Value} (he : ws[q0]? = some (a, .inr (1, fs))) (hv : fs[1]? = some v) (hdg : decode cc pc = .ok (.getfield 15, 3)) (kk : W p l e R s m args below meth c H locs cells slots Q (F0 m (pc + 3) ls (v :: rest))) : W p l e R s m args below meth c H locs cells slots Q (F0 m pc ls (.ref a :: rest)) :=
  va_get (D := D) (ci := 1) (v := v) (C := R_S) (T := F_S) (N := 7) X.x X.b (X.am.use args) in_S X.o X.K hP q0 he rfl 1 (by decide) (X.w q_59 args) (fun _ h9 => h9) hv hdg kk
theorem g_S_gallop (X : Cx D cI cJ cO p s m c cc nL R_S) (hP : va_P D vCL ws H) (q0 : Nat) {v : Value} (he : ws[q0]? = some (a, .inr (1, fs))) (hv : fs[5]? = some v) (hdg : decode cc pc = .ok (.getfield 32, 3)) (kk : W p l e R s m args below meth c H locs cells slots Q (F0 m (pc + 3) ls (v :: rest))) : W p l e R s m args below meth c H locs cells slots Q (F0 m pc ls (.ref a :: rest)) :=
  va_get (D := D) (ci := 1) (v := v) (C := R_S) (T := F_S) (N := 7) X.x X.b (X.am.use args) in_S X.o X.K hP q0 he rfl 5 (by decide) (X.w q_63 args) (fun _ h9 => h9) hv hdg kk
end FLD
theorem wc_R_init : Cond.code y_R_init b_R_init 1 none ∈ am_l := q_18
theorem wi_R_init : Cond.initialized y_R_init.cls ∈ am_l := q_1
theorem wm_R_init : Cond.instanceMethod y_R_init ∈ am_l := q_17
theorem wd_R_init : okD y_R_init 0 := by decide +kernel
theorem wc_R_in : Cond.code y_R_in b_R_in 3 none ∈ am_l := q_122
theorem wi_R_in : Cond.initialized y_R_in.cls ∈ am_l := q_1
theorem ws_R_in : Cond.static y_R_in ∈ am_l := q_121
theorem wd_R_in : okD y_R_in 3 := by decide +kernel
theorem wc_R_within : Cond.code y_R_within b_R_within 1 none ∈ am_l := q_187
theorem wi_R_within : Cond.initialized y_R_within.cls ∈ am_l := q_1
theorem ws_R_within : Cond.static y_R_within ∈ am_l := q_186
theorem wd_R_within : okD y_R_within 1 := by decide +kernel
theorem wc_R_add : Cond.code y_R_add b_R_add 2 none ∈ am_l := q_206
theorem wi_R_add : Cond.initialized y_R_add.cls ∈ am_l := q_1
theorem wm_R_add : Cond.instanceMethod y_R_add ∈ am_l := q_205
theorem wl_R_add : Cond.selects R_R y_R_add y_R_add ∈ am_l := q_s1
theorem wd_R_add : okD y_R_add 1 := by decide +kernel
theorem wc_R_fill : Cond.code y_R_fill b_R_fill 5 (some .int) ∈ am_l := q_119
theorem wi_R_fill : Cond.initialized y_R_fill.cls ∈ am_l := q_1
theorem wm_R_fill : Cond.instanceMethod y_R_fill ∈ am_l := q_117
theorem wl_R_fill : Cond.selects R_R y_R_fill y_R_fill ∈ am_l := q_118
theorem wd_R_fill : okD y_R_fill 3 := by decide +kernel
theorem wc_R_scatter : Cond.code y_R_scatter b_R_scatter 6 (some .int) ∈ am_l := q_213
theorem wi_R_scatter : Cond.initialized y_R_scatter.cls ∈ am_l := q_1
theorem wm_R_scatter : Cond.instanceMethod y_R_scatter ∈ am_l := q_211
theorem wl_R_scatter : Cond.selects R_R y_R_scatter y_R_scatter ∈ am_l := q_212
theorem wd_R_scatter : okD y_R_scatter 3 := by decide +kernel
theorem wc_R_sort : Cond.code y_R_sort b_R_sort 7 (some .int) ∈ am_l := q_222
theorem wi_R_sort : Cond.initialized y_R_sort.cls ∈ am_l := q_1
theorem wm_R_sort : Cond.instanceMethod y_R_sort ∈ am_l := q_220
theorem wl_R_sort : Cond.selects R_R y_R_sort y_R_sort ∈ am_l := q_221
theorem wd_R_sort : okD y_R_sort 3 := by decide +kernel
theorem wc_R_get : Cond.code y_R_get b_R_get 2 (some .int) ∈ am_l := q_326
theorem wi_R_get : Cond.initialized y_R_get.cls ∈ am_l := q_1
theorem wm_R_get : Cond.instanceMethod y_R_get ∈ am_l := q_324
theorem wl_R_get : Cond.selects R_R y_R_get y_R_get ∈ am_l := q_325
theorem wd_R_get : okD y_R_get 1 := by decide +kernel
theorem wc_R_tag : Cond.code y_R_tag b_R_tag 2 (some .int) ∈ am_l := q_333
theorem wi_R_tag : Cond.initialized y_R_tag.cls ∈ am_l := q_1
theorem wm_R_tag : Cond.instanceMethod y_R_tag ∈ am_l := q_331
theorem wl_R_tag : Cond.selects R_R y_R_tag y_R_tag ∈ am_l := q_332
theorem wd_R_tag : okD y_R_tag 1 := by decide +kernel
theorem wc_R_set : Cond.code y_R_set b_R_set 4 (some .int) ∈ am_l := q_340
theorem wi_R_set : Cond.initialized y_R_set.cls ∈ am_l := q_1
theorem wm_R_set : Cond.instanceMethod y_R_set ∈ am_l := q_338
theorem wl_R_set : Cond.selects R_R y_R_set y_R_set ∈ am_l := q_339
theorem wd_R_set : okD y_R_set 2 := by decide +kernel
theorem wc_R_turn : Cond.code y_R_turn b_R_turn 7 (some .int) ∈ am_l := q_347
theorem wi_R_turn : Cond.initialized y_R_turn.cls ∈ am_l := q_1
theorem wm_R_turn : Cond.instanceMethod y_R_turn ∈ am_l := q_345
theorem wl_R_turn : Cond.selects R_R y_R_turn y_R_turn ∈ am_l := q_346
theorem wd_R_turn : okD y_R_turn 2 := by decide +kernel
theorem wc_R_upTo : Cond.code y_R_upTo b_R_upTo 6 (some .int) ∈ am_l := q_354
theorem wi_R_upTo : Cond.initialized y_R_upTo.cls ∈ am_l := q_1
theorem wm_R_upTo : Cond.instanceMethod y_R_upTo ∈ am_l := q_352
theorem wl_R_upTo : Cond.selects R_R y_R_upTo y_R_upTo ∈ am_l := q_353
theorem wd_R_upTo : okD y_R_upTo 3 := by decide +kernel
theorem wc_R_clear : Cond.code y_R_clear b_R_clear 2 (some .int) ∈ am_l := q_106
theorem wi_R_clear : Cond.initialized y_R_clear.cls ∈ am_l := q_1
theorem wm_R_clear : Cond.instanceMethod y_R_clear ∈ am_l := q_104
theorem wl_R_clear : Cond.selects R_R y_R_clear y_R_clear ∈ am_l := q_105
theorem wd_R_clear : okD y_R_clear 0 := by decide +kernel
theorem wc_R_hash : Cond.code y_R_hash b_R_hash 3 (some .int) ∈ am_l := q_110
theorem wi_R_hash : Cond.initialized y_R_hash.cls ∈ am_l := q_1
theorem wm_R_hash : Cond.instanceMethod y_R_hash ∈ am_l := q_108
theorem wl_R_hash : Cond.selects R_R y_R_hash y_R_hash ∈ am_l := q_109
theorem wd_R_hash : okD y_R_hash 0 := by decide +kernel
theorem wc_M_init : Cond.code y_M_init b_M_init 1 none ∈ am_l := q_361
theorem wi_M_init : Cond.initialized y_M_init.cls ∈ am_l := q_7
theorem wm_M_init : Cond.instanceMethod y_M_init ∈ am_l := q_360
theorem wd_M_init : okD y_M_init 0 := by decide +kernel
theorem wc_M_thrown : Cond.code y_M_thrown b_M_thrown 1 (some .int) ∈ am_l := q_379
theorem wi_M_thrown : Cond.initialized y_M_thrown.cls ∈ am_l := q_7
theorem wm_M_thrown : Cond.instanceMethod y_M_thrown ∈ am_l := q_377
theorem wl_M_thrown : Cond.selects R_M y_M_thrown y_M_thrown ∈ am_l := q_378
theorem wd_M_thrown : okD y_M_thrown 0 := by decide +kernel
theorem wc_M_fail : Cond.code y_M_fail b_M_fail 2 (some .int) ∈ am_l := q_387
theorem wi_M_fail : Cond.initialized y_M_fail.cls ∈ am_l := q_7
theorem wm_M_fail : Cond.instanceMethod y_M_fail ∈ am_l := q_386
theorem wl_M_fail : Cond.selects R_M y_M_fail y_M_fail ∈ am_l := q_s11
theorem wd_M_fail : okD y_M_fail 1 := by decide +kernel
theorem wc_M_rank : Cond.code y_M_rank b_M_rank 3 (some .int) ∈ am_l := q_409
theorem wi_M_rank : Cond.initialized y_M_rank.cls ∈ am_l := q_7
theorem wm_M_rank : Cond.instanceMethod y_M_rank ∈ am_l := q_408
theorem wl_M_rank : Cond.selects R_M y_M_rank y_M_rank ∈ am_l := q_s14
theorem wd_M_rank : okD y_M_rank 2 := by decide +kernel
theorem wc_M_append : Cond.code y_M_append b_M_append 2 none ∈ am_l := q_391
theorem wi_M_append : Cond.initialized y_M_append.cls ∈ am_l := q_7
theorem wm_M_append : Cond.instanceMethod y_M_append ∈ am_l := q_390
theorem wl_M_append : Cond.selects R_M y_M_append y_M_append ∈ am_l := q_s12
theorem wd_M_append : okD y_M_append 1 := by decide +kernel
theorem wc_M_fill : Cond.code y_M_fill b_M_fill 5 (some .int) ∈ am_l := q_383
theorem wi_M_fill : Cond.initialized y_M_fill.cls ∈ am_l := q_7
theorem wm_M_fill : Cond.instanceMethod y_M_fill ∈ am_l := q_381
theorem wl_M_fill : Cond.selects R_M y_M_fill y_M_fill ∈ am_l := q_382
theorem wd_M_fill : okD y_M_fill 3 := by decide +kernel
theorem wc_M_scatter : Cond.code y_M_scatter b_M_scatter 6 (some .int) ∈ am_l := q_395
theorem wi_M_scatter : Cond.initialized y_M_scatter.cls ∈ am_l := q_7
theorem wm_M_scatter : Cond.instanceMethod y_M_scatter ∈ am_l := q_393
theorem wl_M_scatter : Cond.selects R_M y_M_scatter y_M_scatter ∈ am_l := q_394
theorem wd_M_scatter : okD y_M_scatter 3 := by decide +kernel
theorem wc_M_bad : Cond.code y_M_bad b_M_bad 3 (some .boolean) ∈ am_l := q_405
theorem wi_M_bad : Cond.initialized y_M_bad.cls ∈ am_l := q_7
theorem wm_M_bad : Cond.instanceMethod y_M_bad ∈ am_l := q_404
theorem wl_M_bad : Cond.selects R_M y_M_bad y_M_bad ∈ am_l := q_s13
theorem wd_M_bad : okD y_M_bad 2 := by decide +kernel
theorem wc_M_sort : Cond.code y_M_sort b_M_sort 8 (some .int) ∈ am_l := q_401
theorem wi_M_sort : Cond.initialized y_M_sort.cls ∈ am_l := q_7
theorem wm_M_sort : Cond.instanceMethod y_M_sort ∈ am_l := q_399
theorem wl_M_sort : Cond.selects R_M y_M_sort y_M_sort ∈ am_l := q_400
theorem wd_M_sort : okD y_M_sort 3 := by decide +kernel
theorem wc_M_get : Cond.code y_M_get b_M_get 2 (some .int) ∈ am_l := q_414
theorem wi_M_get : Cond.initialized y_M_get.cls ∈ am_l := q_7
theorem wm_M_get : Cond.instanceMethod y_M_get ∈ am_l := q_412
theorem wl_M_get : Cond.selects R_M y_M_get y_M_get ∈ am_l := q_413
theorem wd_M_get : okD y_M_get 1 := by decide +kernel
theorem wc_M_tag : Cond.code y_M_tag b_M_tag 2 (some .int) ∈ am_l := q_418
theorem wi_M_tag : Cond.initialized y_M_tag.cls ∈ am_l := q_7
theorem wm_M_tag : Cond.instanceMethod y_M_tag ∈ am_l := q_416
theorem wl_M_tag : Cond.selects R_M y_M_tag y_M_tag ∈ am_l := q_417
theorem wd_M_tag : okD y_M_tag 1 := by decide +kernel
theorem wc_M_set : Cond.code y_M_set b_M_set 4 (some .int) ∈ am_l := q_422
theorem wi_M_set : Cond.initialized y_M_set.cls ∈ am_l := q_7
theorem wm_M_set : Cond.instanceMethod y_M_set ∈ am_l := q_420
theorem wl_M_set : Cond.selects R_M y_M_set y_M_set ∈ am_l := q_421
theorem wd_M_set : okD y_M_set 2 := by decide +kernel
theorem wc_M_turn : Cond.code y_M_turn b_M_turn 7 (some .int) ∈ am_l := q_426
theorem wi_M_turn : Cond.initialized y_M_turn.cls ∈ am_l := q_7
theorem wm_M_turn : Cond.instanceMethod y_M_turn ∈ am_l := q_424
theorem wl_M_turn : Cond.selects R_M y_M_turn y_M_turn ∈ am_l := q_425
theorem wd_M_turn : okD y_M_turn 2 := by decide +kernel
theorem wc_M_upTo : Cond.code y_M_upTo b_M_upTo 5 (some .int) ∈ am_l := q_430
theorem wi_M_upTo : Cond.initialized y_M_upTo.cls ∈ am_l := q_7
theorem wm_M_upTo : Cond.instanceMethod y_M_upTo ∈ am_l := q_428
theorem wl_M_upTo : Cond.selects R_M y_M_upTo y_M_upTo ∈ am_l := q_429
theorem wd_M_upTo : okD y_M_upTo 3 := by decide +kernel
theorem wc_M_clear : Cond.code y_M_clear b_M_clear 2 (some .int) ∈ am_l := q_434
theorem wi_M_clear : Cond.initialized y_M_clear.cls ∈ am_l := q_7
theorem wm_M_clear : Cond.instanceMethod y_M_clear ∈ am_l := q_432
theorem wl_M_clear : Cond.selects R_M y_M_clear y_M_clear ∈ am_l := q_433
theorem wd_M_clear : okD y_M_clear 0 := by decide +kernel
theorem wc_M_hash : Cond.code y_M_hash b_M_hash 3 (some .int) ∈ am_l := q_438
theorem wi_M_hash : Cond.initialized y_M_hash.cls ∈ am_l := q_7
theorem wm_M_hash : Cond.instanceMethod y_M_hash ∈ am_l := q_436
theorem wl_M_hash : Cond.selects R_M y_M_hash y_M_hash ∈ am_l := q_437
theorem wd_M_hash : okD y_M_hash 0 := by decide +kernel
theorem wc_B_init : Cond.code y_B_init b_B_init 3 none ∈ am_l := q_231
theorem wi_B_init : Cond.initialized y_B_init.cls ∈ am_l := q_13
theorem wm_B_init : Cond.instanceMethod y_B_init ∈ am_l := q_230
theorem wd_B_init : okD y_B_init 2 := by decide +kernel
theorem wc_B_compare : Cond.code y_B_compare b_B_compare 3 (some .int) ∈ am_l := q_260
theorem wi_B_compare : Cond.initialized y_B_compare.cls ∈ am_l := q_13
theorem wm_B_compare : Cond.instanceMethod y_B_compare ∈ am_l := q_258
theorem wd_B_compare : okD y_B_compare 2 := by decide +kernel
theorem wc_O1_init : Cond.code y_O1_init b_O1_init 1 none ∈ am_l := q_35
theorem wi_O1_init : Cond.initialized y_O1_init.cls ∈ am_l := q_3
theorem wm_O1_init : Cond.instanceMethod y_O1_init ∈ am_l := q_34
theorem wd_O1_init : okD y_O1_init 0 := by decide +kernel
theorem wc_O1_compare : Cond.code y_O1_compare b_O1_compare 3 (some .int) ∈ am_l := q_268
theorem wi_O1_compare : Cond.initialized y_O1_compare.cls ∈ am_l := q_3
theorem wm_O1_compare : Cond.instanceMethod y_O1_compare ∈ am_l := q_266
theorem wd_O1_compare : okD y_O1_compare 2 := by decide +kernel
theorem wc_O2_init : Cond.code y_O2_init b_O2_init 1 none ∈ am_l := q_42
theorem wi_O2_init : Cond.initialized y_O2_init.cls ∈ am_l := q_4
theorem wm_O2_init : Cond.instanceMethod y_O2_init ∈ am_l := q_41
theorem wd_O2_init : okD y_O2_init 0 := by decide +kernel
theorem wc_O2_compare : Cond.code y_O2_compare b_O2_compare 3 (some .int) ∈ am_l := q_274
theorem wi_O2_compare : Cond.initialized y_O2_compare.cls ∈ am_l := q_4
theorem wm_O2_compare : Cond.instanceMethod y_O2_compare ∈ am_l := q_272
theorem wd_O2_compare : okD y_O2_compare 2 := by decide +kernel
theorem wc_O0_init : Cond.code y_O0_init b_O0_init 1 none ∈ am_l := q_28
theorem wi_O0_init : Cond.initialized y_O0_init.cls ∈ am_l := q_2
theorem wm_O0_init : Cond.instanceMethod y_O0_init ∈ am_l := q_27
theorem wd_O0_init : okD y_O0_init 0 := by decide +kernel
theorem wc_O0_compare : Cond.code y_O0_compare b_O0_compare 3 (some .int) ∈ am_l := q_280
theorem wi_O0_compare : Cond.initialized y_O0_compare.cls ∈ am_l := q_2
theorem wm_O0_compare : Cond.instanceMethod y_O0_compare ∈ am_l := q_278
theorem wd_O0_compare : okD y_O0_compare 2 := by decide +kernel
theorem wc_S_init : Cond.code y_S_init b_S_init 1 none ∈ am_l := q_56
theorem wi_S_init : Cond.initialized y_S_init.cls ∈ am_l := q_6
theorem wm_S_init : Cond.instanceMethod y_S_init ∈ am_l := q_55
theorem wd_S_init : okD y_S_init 0 := by decide +kernel
theorem wc_S_cells : Cond.code y_S_cells b_S_cells 1 (some (.array .int)) ∈ am_l := q_226
theorem wi_S_cells : Cond.initialized y_S_cells.cls ∈ am_l := q_6
theorem wm_S_cells : Cond.instanceMethod y_S_cells ∈ am_l := q_224
theorem wl_S_cells : Cond.selects R_S y_S_cells y_S_cells ∈ am_l := q_225
theorem wd_S_cells : okD y_S_cells 0 := by decide +kernel
theorem wc_S_sort : Cond.code y_S_sort b_S_sort 7 none ∈ am_l := q_243
theorem wi_S_sort : Cond.initialized y_S_sort.cls ∈ am_l := q_6
theorem wm_S_sort : Cond.instanceMethod y_S_sort ∈ am_l := q_241
theorem wl_S_sort : Cond.selects R_S y_S_sort y_S_sort ∈ am_l := q_242
theorem wd_S_sort : okD y_S_sort 2 := by decide +kernel
theorem wc_S_shortest : Cond.code y_S_shortest b_S_shortest 3 (some .int) ∈ am_l := q_246
theorem wi_S_shortest : Cond.initialized y_S_shortest.cls ∈ am_l := q_6
theorem ws_S_shortest : Cond.static y_S_shortest ∈ am_l := q_245
theorem wd_S_shortest : okD y_S_shortest 1 := by decide +kernel
theorem wc_S_run : Cond.code y_S_run b_S_run 8 (some .int) ∈ am_l := q_250
theorem wi_S_run : Cond.initialized y_S_run.cls ∈ am_l := q_6
theorem wm_S_run : Cond.instanceMethod y_S_run ∈ am_l := q_249
theorem wl_S_run : Cond.selects R_S y_S_run y_S_run ∈ am_l := q_s2
theorem wd_S_run : okD y_S_run 2 := by decide +kernel
theorem wc_S_insertion : Cond.code y_S_insertion b_S_insertion 9 none ∈ am_l := q_291
theorem wi_S_insertion : Cond.initialized y_S_insertion.cls ∈ am_l := q_6
theorem wm_S_insertion : Cond.instanceMethod y_S_insertion ∈ am_l := q_290
theorem wl_S_insertion : Cond.selects R_S y_S_insertion y_S_insertion ∈ am_l := q_s3
theorem wd_S_insertion : okD y_S_insertion 3 := by decide +kernel
theorem wc_S_settle : Cond.code y_S_settle b_S_settle 3 none ∈ am_l := q_295
theorem wi_S_settle : Cond.initialized y_S_settle.cls ∈ am_l := q_6
theorem wm_S_settle : Cond.instanceMethod y_S_settle ∈ am_l := q_294
theorem wl_S_settle : Cond.selects R_S y_S_settle y_S_settle ∈ am_l := q_s4
theorem wd_S_settle : okD y_S_settle 0 := by decide +kernel
theorem wc_S_merge : Cond.code y_S_merge b_S_merge 7 none ∈ am_l := q_299
theorem wi_S_merge : Cond.initialized y_S_merge.cls ∈ am_l := q_6
theorem wm_S_merge : Cond.instanceMethod y_S_merge ∈ am_l := q_298
theorem wl_S_merge : Cond.selects R_S y_S_merge y_S_merge ∈ am_l := q_s5
theorem wd_S_merge : okD y_S_merge 1 := by decide +kernel
theorem wc_S_behind : Cond.code y_S_behind b_S_behind 8 (some .int) ∈ am_l := q_303
theorem wi_S_behind : Cond.initialized y_S_behind.cls ∈ am_l := q_6
theorem wm_S_behind : Cond.instanceMethod y_S_behind ∈ am_l := q_302
theorem wl_S_behind : Cond.selects R_S y_S_behind y_S_behind ∈ am_l := q_s6
theorem wd_S_behind : okD y_S_behind 3 := by decide +kernel
theorem wc_S_notBefore : Cond.code y_S_notBefore b_S_notBefore 8 (some .int) ∈ am_l := q_307
theorem wi_S_notBefore : Cond.initialized y_S_notBefore.cls ∈ am_l := q_6
theorem wm_S_notBefore : Cond.instanceMethod y_S_notBefore ∈ am_l := q_306
theorem wl_S_notBefore : Cond.selects R_S y_S_notBefore y_S_notBefore ∈ am_l := q_s7
theorem wd_S_notBefore : okD y_S_notBefore 3 := by decide +kernel
theorem wc_S_mergeUp : Cond.code y_S_mergeUp b_S_mergeUp 14 none ∈ am_l := q_311
theorem wi_S_mergeUp : Cond.initialized y_S_mergeUp.cls ∈ am_l := q_6
theorem wm_S_mergeUp : Cond.instanceMethod y_S_mergeUp ∈ am_l := q_310
theorem wl_S_mergeUp : Cond.selects R_S y_S_mergeUp y_S_mergeUp ∈ am_l := q_s8
theorem wd_S_mergeUp : okD y_S_mergeUp 4 := by decide +kernel
theorem wc_S_waiting : Cond.code y_S_waiting b_S_waiting 7 (some .int) ∈ am_l := q_315
theorem wi_S_waiting : Cond.initialized y_S_waiting.cls ∈ am_l := q_6
theorem wm_S_waiting : Cond.instanceMethod y_S_waiting ∈ am_l := q_314
theorem wl_S_waiting : Cond.selects R_S y_S_waiting y_S_waiting ∈ am_l := q_s9
theorem wd_S_waiting : okD y_S_waiting 3 := by decide +kernel
theorem wc_S_mergeDown : Cond.code y_S_mergeDown b_S_mergeDown 9 none ∈ am_l := q_319
theorem wi_S_mergeDown : Cond.initialized y_S_mergeDown.cls ∈ am_l := q_6
theorem wm_S_mergeDown : Cond.instanceMethod y_S_mergeDown ∈ am_l := q_318
theorem wl_S_mergeDown : Cond.selects R_S y_S_mergeDown y_S_mergeDown ∈ am_l := q_s10
theorem wd_S_mergeDown : okD y_S_mergeDown 4 := by decide +kernel
theorem wc_O3_init : Cond.code y_O3_init b_O3_init 1 none ∈ am_l := q_49
theorem wi_O3_init : Cond.initialized y_O3_init.cls ∈ am_l := q_5
theorem wm_O3_init : Cond.instanceMethod y_O3_init ∈ am_l := q_48
theorem wd_O3_init : okD y_O3_init 0 := by decide +kernel
theorem wc_O3_compare : Cond.code y_O3_compare b_O3_compare 3 (some .int) ∈ am_l := q_286
theorem wi_O3_compare : Cond.initialized y_O3_compare.cls ∈ am_l := q_5
theorem wm_O3_compare : Cond.instanceMethod y_O3_compare ∈ am_l := q_284
theorem wd_O3_compare : okD y_O3_compare 2 := by decide +kernel
theorem wc_L_fill : Cond.codeWith y_L_fill b_L_fill 6 (some .int) [(0, 12, 15, 13), (0, 12, 19, 15)] ∈ am_l := q_113
theorem wi_L_fill : Cond.initialized y_L_fill.cls ∈ am_l := q_0
theorem ws_L_fill : Cond.static y_L_fill ∈ am_l := q_112
theorem wd_L_fill : okD y_L_fill 5 := by decide +kernel
theorem wc_L_scatter : Cond.codeWith y_L_scatter b_L_scatter 6 (some .int) [(0, 12, 15, 13), (0, 12, 19, 15)] ∈ am_l := q_209
theorem wi_L_scatter : Cond.initialized y_L_scatter.cls ∈ am_l := q_0
theorem ws_L_scatter : Cond.static y_L_scatter ∈ am_l := q_208
theorem wd_L_scatter : okD y_L_scatter 5 := by decide +kernel
theorem wc_L_sort : Cond.codeWith y_L_sort b_L_sort 6 (some .int) [(0, 12, 15, 13)] ∈ am_l := q_218
theorem wi_L_sort : Cond.initialized y_L_sort.cls ∈ am_l := q_0
theorem ws_L_sort : Cond.static y_L_sort ∈ am_l := q_217
theorem wd_L_sort : okD y_L_sort 5 := by decide +kernel
theorem wc_L_get : Cond.codeWith y_L_get b_L_get 4 (some .int) [(0, 9, 12, 15)] ∈ am_l := q_322
theorem wi_L_get : Cond.initialized y_L_get.cls ∈ am_l := q_0
theorem ws_L_get : Cond.static y_L_get ∈ am_l := q_321
theorem wd_L_get : okD y_L_get 3 := by decide +kernel
theorem wc_L_tag : Cond.codeWith y_L_tag b_L_tag 4 (some .int) [(0, 9, 12, 15)] ∈ am_l := q_329
theorem wi_L_tag : Cond.initialized y_L_tag.cls ∈ am_l := q_0
theorem ws_L_tag : Cond.static y_L_tag ∈ am_l := q_328
theorem wd_L_tag : okD y_L_tag 3 := by decide +kernel
theorem wc_L_set : Cond.codeWith y_L_set b_L_set 5 (some .int) [(0, 10, 13, 15)] ∈ am_l := q_336
theorem wi_L_set : Cond.initialized y_L_set.cls ∈ am_l := q_0
theorem ws_L_set : Cond.static y_L_set ∈ am_l := q_335
theorem wd_L_set : okD y_L_set 4 := by decide +kernel
theorem wc_L_turn : Cond.codeWith y_L_turn b_L_turn 5 (some .int) [(0, 10, 13, 13)] ∈ am_l := q_343
theorem wi_L_turn : Cond.initialized y_L_turn.cls ∈ am_l := q_0
theorem ws_L_turn : Cond.static y_L_turn ∈ am_l := q_342
theorem wd_L_turn : okD y_L_turn 4 := by decide +kernel
theorem wc_L_upTo : Cond.codeWith y_L_upTo b_L_upTo 6 (some .int) [(0, 12, 15, 13)] ∈ am_l := q_350
theorem wi_L_upTo : Cond.initialized y_L_upTo.cls ∈ am_l := q_0
theorem ws_L_upTo : Cond.static y_L_upTo ∈ am_l := q_349
theorem wd_L_upTo : okD y_L_upTo 5 := by decide +kernel
theorem wk_L_41 : Cond.methodLink R_L 41 y_R_init ∈ am_l := q_16
theorem wk_R_11 : Cond.methodLinkNest R_R 11 y_O0_init "RunSorter" ∈ am_l := q_26
theorem wk_R_14 : Cond.methodLinkNest R_R 14 y_O1_init "RunSorter" ∈ am_l := q_33
theorem wk_R_17 : Cond.methodLinkNest R_R 17 y_O2_init "RunSorter" ∈ am_l := q_40
theorem wk_R_20 : Cond.methodLinkNest R_R 20 y_O3_init "RunSorter" ∈ am_l := q_47
theorem wk_R_29 : Cond.methodLinkNest R_R 29 y_S_init "RunSorter" ∈ am_l := q_54
theorem wk_L_79 : Cond.methodLink R_L 79 y_R_clear ∈ am_l := q_103
theorem wk_L_83 : Cond.methodLink R_L 83 y_R_hash ∈ am_l := q_107
theorem wk_L_45 : Cond.methodLink R_L 45 y_L_fill ∈ am_l := q_111
theorem wk_L_7 : Cond.methodLink R_L 7 y_R_fill ∈ am_l := q_116
theorem wk_R_57 : Cond.methodLink R_R 57 y_R_in ∈ am_l := q_120
theorem wk_R_61 : Cond.methodLink R_R 61 y_R_within ∈ am_l := q_185
theorem wk_R_65 : Cond.methodLink R_R 65 y_R_add ∈ am_l := q_203
theorem wk_L_55 : Cond.methodLink R_L 55 y_L_scatter ∈ am_l := q_207
theorem wk_L_17 : Cond.methodLink R_L 17 y_R_scatter ∈ am_l := q_210
theorem wk_L_58 : Cond.methodLink R_L 58 y_L_sort ∈ am_l := q_216
theorem wk_L_20 : Cond.methodLink R_L 20 y_R_sort ∈ am_l := q_219
theorem wk_R_71 : Cond.methodLink R_R 71 y_S_cells ∈ am_l := q_223
theorem wk_R_77 : Cond.methodLink R_R 77 y_B_init ∈ am_l := q_229
theorem wk_R_80 : Cond.methodLink R_R 80 y_S_sort ∈ am_l := q_240
theorem wk_S_35 : Cond.methodLink R_S 35 y_S_shortest ∈ am_l := q_244
theorem wk_S_39 : Cond.methodLink R_S 39 y_S_run ∈ am_l := q_247
theorem wk_S_43 : Cond.methodLink R_S 43 y_S_insertion ∈ am_l := q_288
theorem wk_S_47 : Cond.methodLink R_S 47 y_S_settle ∈ am_l := q_292
theorem wk_S_50 : Cond.methodLink R_S 50 y_S_merge ∈ am_l := q_296
theorem wk_S_59 : Cond.methodLink R_S 59 y_S_behind ∈ am_l := q_300
theorem wk_S_63 : Cond.methodLink R_S 63 y_S_notBefore ∈ am_l := q_304
theorem wk_S_66 : Cond.methodLink R_S 66 y_S_mergeUp ∈ am_l := q_308
theorem wk_S_73 : Cond.methodLink R_S 73 y_S_waiting ∈ am_l := q_312
theorem wk_S_70 : Cond.methodLink R_S 70 y_S_mergeDown ∈ am_l := q_316
theorem wk_L_61 : Cond.methodLink R_L 61 y_L_get ∈ am_l := q_320
theorem wk_L_23 : Cond.methodLink R_L 23 y_R_get ∈ am_l := q_323
theorem wk_L_65 : Cond.methodLink R_L 65 y_L_tag ∈ am_l := q_327
theorem wk_L_27 : Cond.methodLink R_L 27 y_R_tag ∈ am_l := q_330
theorem wk_L_68 : Cond.methodLink R_L 68 y_L_set ∈ am_l := q_334
theorem wk_L_30 : Cond.methodLink R_L 30 y_R_set ∈ am_l := q_337
theorem wk_L_72 : Cond.methodLink R_L 72 y_L_turn ∈ am_l := q_341
theorem wk_L_34 : Cond.methodLink R_L 34 y_R_turn ∈ am_l := q_344
theorem wk_L_75 : Cond.methodLink R_L 75 y_L_upTo ∈ am_l := q_348
theorem wk_L_37 : Cond.methodLink R_L 37 y_R_upTo ∈ am_l := q_351
theorem wk_L_44 : Cond.methodLink R_L 44 y_M_init ∈ am_l := q_359
theorem wk_L_51 : Cond.methodLink R_L 51 y_M_thrown ∈ am_l := q_376
theorem wk_L_50 : Cond.methodLink R_L 50 y_M_fill ∈ am_l := q_380
theorem wk_M_24 : Cond.methodLink R_M 24 y_M_fail ∈ am_l := q_384
theorem wk_M_28 : Cond.methodLink R_M 28 y_M_append ∈ am_l := q_388
theorem wk_L_57 : Cond.methodLink R_L 57 y_M_scatter ∈ am_l := q_392
theorem wk_L_60 : Cond.methodLink R_L 60 y_M_sort ∈ am_l := q_398
theorem wk_M_34 : Cond.methodLink R_M 34 y_M_bad ∈ am_l := q_402
theorem wk_M_38 : Cond.methodLink R_M 38 y_M_rank ∈ am_l := q_406
theorem wk_L_64 : Cond.methodLink R_L 64 y_M_get ∈ am_l := q_411
theorem wk_L_67 : Cond.methodLink R_L 67 y_M_tag ∈ am_l := q_415
theorem wk_L_71 : Cond.methodLink R_L 71 y_M_set ∈ am_l := q_419
theorem wk_L_74 : Cond.methodLink R_L 74 y_M_turn ∈ am_l := q_423
theorem wk_L_78 : Cond.methodLink R_L 78 y_M_upTo ∈ am_l := q_427
theorem wk_L_82 : Cond.methodLink R_L 82 y_M_clear ∈ am_l := q_431
theorem wk_L_86 : Cond.methodLink R_L 86 y_M_hash ∈ am_l := q_435
def y_cmp : MethodName := ⟨"RunSorter$Order", "compare", "(II)I"⟩
theorem wd_cmp : okD y_cmp 2 := by decide +kernel
theorem wk_S_54 : Cond.methodLink R_S 54 y_cmp ∈ am_l := q_252
theorem wk_B_17 : Cond.methodLink R_B 17 y_cmp ∈ am_l := q_262
theorem wk_R_84 : Cond.methodLink R_R 84 y_cmp ∈ am_l := q_356
theorem wf_decl : Cond.declares y_cmp ∈ am_l := q_254
theorem wf_face : Cond.interfaceMethod y_cmp.cls y_cmp.cls y_cmp.name y_cmp.desc ∈ am_l := q_253
theorem wf_sel_B : Cond.selects R_B y_cmp y_B_compare ∈ am_l := q_256
theorem wf_pub_B : Cond.publicMethod y_B_compare ∈ am_l := q_259
theorem wf_unh_B : Cond.unhidden R_B y_cmp.name y_cmp.desc ∈ am_l := q_257
theorem wf_cast_B : Cond.castable R_B y_cmp.cls ∈ am_l := q_255
theorem wf_sel_O0 : Cond.selects R_O0 y_cmp y_O0_compare ∈ am_l := q_276
theorem wf_pub_O0 : Cond.publicMethod y_O0_compare ∈ am_l := q_279
theorem wf_unh_O0 : Cond.unhidden R_O0 y_cmp.name y_cmp.desc ∈ am_l := q_277
theorem wf_cast_O0 : Cond.castable R_O0 y_cmp.cls ∈ am_l := q_275
theorem wf_sel_O1 : Cond.selects R_O1 y_cmp y_O1_compare ∈ am_l := q_264
theorem wf_pub_O1 : Cond.publicMethod y_O1_compare ∈ am_l := q_267
theorem wf_unh_O1 : Cond.unhidden R_O1 y_cmp.name y_cmp.desc ∈ am_l := q_265
theorem wf_cast_O1 : Cond.castable R_O1 y_cmp.cls ∈ am_l := q_263
theorem wf_sel_O2 : Cond.selects R_O2 y_cmp y_O2_compare ∈ am_l := q_270
theorem wf_pub_O2 : Cond.publicMethod y_O2_compare ∈ am_l := q_273
theorem wf_unh_O2 : Cond.unhidden R_O2 y_cmp.name y_cmp.desc ∈ am_l := q_271
theorem wf_cast_O2 : Cond.castable R_O2 y_cmp.cls ∈ am_l := q_269
theorem wf_sel_O3 : Cond.selects R_O3 y_cmp y_O3_compare ∈ am_l := q_282
theorem wf_pub_O3 : Cond.publicMethod y_O3_compare ∈ am_l := q_285
theorem wf_unh_O3 : Cond.unhidden R_O3 y_cmp.name y_cmp.desc ∈ am_l := q_283
theorem wf_cast_O3 : Cond.castable R_O3 y_cmp.cls ∈ am_l := q_281
end
section
/-! throwing and catching: a method that throws a new object and leaves all else as it was; a call of it; a handler -/
def xc (X : String) (x : Addr) (t : State) : Prop := ∃ ce : Cell, t.heap[x]? = some ce ∧ ce.vm = .none ∧ t.vm.findClass X = some ce.cls
def MetT (l : Launch) (y : MethodName) (ws : List Cond) (rm : Room) (Pc : Array Value → State → Prop) (X : String) (mc ms : Nat) : Prop :=
  MetFree l y (headSpec ws rm) Pc (fun _ _ _ _ _ => True) (fun _ st o t => ∃ x : Addr, o = .threw x ∧ xc X x t ∧ st.WarmedH t.vm ∧ st.sameButNew ({ t with vm := st.vm } : State) [] mc ms)
def TQ (below : List Frame) (X : String) (s : State) (mc ms : Nat) : State → Prop := fun t => ∃ x : Addr, t.status = .running ∧ Ended t below (.threw x) ∧ xc X x t ∧ s.WarmedH t.vm ∧ s.sameButNew ({ t with vm := s.vm } : State) [] mc ms
theorem MetT.ofW {l : Launch} {y : MethodName} {rm : Room} {Pc : Array Value → State → Prop} {X : String} {mc ms : Nat} {cc : ByteArray} {maxL : Nat} {ret : Option FieldType}
    (hy : plainName y.cls = true)
    (body : ∀ p e s m args below meth c s₁, BodyLoose p l y (headSpec [Cond.code y cc maxL ret] rm) cc maxL ret e s m args below meth c s₁ → c.maxLocals = maxL → Pc args s →
      W p l e rm s m args below meth c s.heap [] 0 0 (TQ below X s mc ms) (entryFrame m args maxL)) : MetT l y [Cond.code y cc maxL ret] rm Pc X mc ms := by
  refine MetFree.of_bodyS (code := cc) (maxLocals := maxL) (ret := ret) hy ?_ ?_
  · intro args s m h hn
    obtain ⟨meth, c, h1, h2, h3, h4, h5, h6, -, -⟩ := Cond.code_spec hn (atoms_spec (ws := [Cond.code y cc maxL ret]) h _ List.mem_cons_self)
    exact ⟨meth, c, h1, h2, h3, h4, h5, h6⟩
  · intro p e s m args below meth c s₁ B hml hP _
    have hh0 : s₁.heap = s.heap := by rw [B.state]; rfl
    obtain ⟨t, a1, x, b1, b2, b3, b4, b5⟩ := body p e s m args below meth c s₁ B hml hP s₁ hh0 (Stand.of_body B)
    exact ⟨t, .threw x, a1, b1, b2, x, rfl, b3, b4, b5⟩
/-- nothing old has changed -/
theorem same_old {s t : State} {mc ms : Nat} (h : s.sameButNew t [] mc ms) {q : Nat} (hq : q < s.heap.size) : t.heap[q]? = s.heap[q]? := by
  obtain ⟨c', h1, h2, h3, h4⟩ := h.2.2.2.2.2 q _ (Array.getElem?_eq_getElem hq)
  rw [Array.getElem?_eq_getElem hq, h1]
  have h5 : c'.slots = (s.heap[q]).slots := Array.ext_getElem? fun i => h4 i (by simp)
  rw [h2, h5]
/-- the statics that an exception's maker reads -/
def zs (U : State) : Prop := (Cond.laysStatic "java/lang/Throwable" "UNASSIGNED_STACK" "[Ljava/lang/StackTraceElement;").before #[] U = true ∧ (Cond.laysStatic "java/lang/Throwable" "SUPPRESSED_SENTINEL" "Ljava/util/List;").before #[] U = true ∧
  (Cond.isRef (.static "java/lang/Throwable" "UNASSIGNED_STACK" "[Ljava/lang/StackTraceElement;")).before #[] U = true ∧ (Cond.isRef (.static "java/lang/Throwable" "SUPPRESSED_SENTINEL" "Ljava/util/List;")).before #[] U = true
theorem zs_lays {C n d : String} {s U : State} (hvm : s.vm.Alike U.vm) (hh : ∀ (q : Nat) (c : Cell), s.heap[q]? = some c → U.heap[q]? = some c) (h1 : (Cond.laysStatic C n d).before #[] s = true) : (Cond.laysStatic C n d).before #[] U = true := by
  obtain ⟨c, k, i, f, a, cell, hc, hi, hst, ha, hcell, hs, hcls, hlt, hty⟩ := Cond.laysStatic_spec h1
  obtain ⟨k', hi', he⟩ := State.fieldFound?_setVm hvm hi
  exact Cond.laysStatic_of (s := U) (by rw [hvm.findClass]; exact hc) hi' hst (by rw [he]; exact ha) (hh _ _ hcell) hs hcls hlt (by rw [he]; exact hty)
theorem zs_ref {C n d : String} {s U : State} (hvm : s.vm.Alike U.vm) (hh : ∀ (q : Nat) (c : Cell), s.heap[q]? = some c → U.heap[q]? = some c) (h1 : (Cond.laysStatic C n d).before #[] s = true) (h2 : (Cond.isRef (.static C n d)).before #[] s = true) : (Cond.isRef (.static C n d)).before #[] U = true := by
  obtain ⟨c, k, i, f, a, cell, hc, hi, hst, ha, hcell, hs, hcls, hlt, hty⟩ := Cond.laysStatic_spec h1
  obtain ⟨k', hi', he⟩ := State.fieldFound?_setVm hvm hi
  have hi2 : U.fieldFound? C n d = some (c, k', i, f) := hi'
  have ha2 : k'.statics = some a := by rw [he]; exact ha
  have hcell2 := hh _ _ hcell
  have e1 : (Term.static C n d).eval #[] s none [] s = cell.slots[f.slot]? := by simp [Term.eval, State.fieldNamed?, hi, hst, ha, hcell, hs]
  have e2 : (Term.static C n d).eval #[] U none [] U = cell.slots[f.slot]? := by simp [Term.eval, State.fieldNamed?, hi2, hst, ha2, hcell2, hs]
  simp only [Cond.before, Cond.holds, Cond.value, e1] at h2
  simp only [Cond.before, Cond.holds, Cond.value, e2]
  exact h2
theorem zs.move {s U : State} (hvm : s.vm.Alike U.vm) (hh : ∀ (q : Nat) (c : Cell), s.heap[q]? = some c → U.heap[q]? = some c) (h : zs s) : zs U :=
  ⟨zs_lays hvm hh h.1, zs_lays hvm hh h.2.1, zs_ref hvm hh h.1 h.2.2.1, zs_ref hvm hh h.2.1 h.2.2.2⟩
theorem static_any {C n d : String} {U : State} {A A' : Array Value} (h : (Cond.isRef (.static C n d)).before A U = true) : (Cond.isRef (.static C n d)).before A' U = true := h
section EX
variable {p : Program} {l : Launch} {e : Env} {R : Room} {s : State} {m : MethodId} {args : Array Value} {below : List Frame} {meth : Method} {c : Code} {H : Heap} {locs : List Loc} {cells slots : Nat} {Q : State → Prop}
variable {cc : ByteArray} {pc : Nat} {ls : Array Slot} {rest : List Value}
/-- throw new X() in a method without handlers that has changed nothing -/
theorem ex_throw {own cls : String} {names : List String} {ci ic : Nat} (hexec : p.tables.exec = Jvm.exec) (hb : c.code = cc) (hfl : l.flags = pinnedFlags ++ [noTraceFlag]) (hown : s.vm.findClass own = some m.cls) (hcls : Bundle.fit cls = true) (hnames : ∀ n ∈ names, Bundle.fit n = true) (h : ∀ a ∈ Bundle.ownAtoms0 own ic cls names, a.before args s = true)
    (hcl : (Cond.classLink own ci cls).before args s = true) (hins : (Cond.instantiable cls 6).before args s = true) (hini : (Cond.initialized cls).before args s = true) (htab : c.exceptionTable.isEmpty = true) (hl : ls.size = c.maxLocals) (hlocks : meth.locks = false)
    (hd0 : decode cc pc = .ok (.new ci, 3)) (hd3 : decode cc (pc + 3) = .ok (.dup, 1)) (hd4 : decode cc (pc + 4) = .ok (.invokespecial ic, 3)) (hd7 : decode cc (pc + 7) = .ok (.athrow, 1)) (hRc : 1 ≤ R.cells ∧ 6 ≤ R.slots) (hRf : names.length + 3 < R.frames) (hRl : 1 + (13 * (names.length + 1) + 41) ≤ R.locals) :
    W p l e R s m args below meth c s.heap [] 0 0 (TQ below cls s 1 6) (F0 m pc ls []) := by
  obtain ⟨cC, kX, hcC, hk, hord, -, -, hn6⟩ := Cond.instantiable_spec hins
  refine W.newcK hexec hb hown hcl hins hini rfl hd0 (by omega) (by omega) hcC rfl fun H1 kC hkC e1 z1 o1 => ?_
  refine lv_dup hexec hb hd3 rfl ?_
  intro T hT X
  obtain ⟨U, st, hrun, hend, hW, hsame, ce, hce, hO⟩ := X.ctorThrow0 hexec (Launch.traces_off hfl X.admits) (ic := ic) (names := names) hown hcls hnames h (fun x hx => by cases hx) hcC hkC (by rw [hT]; exact e1) (Nat.le_refl _) (g := F0 m (pc + 3 + 1) ls [.ref s.heap.size, .ref s.heap.size]) rfl hl rfl rfl (rest := []) rfl (by rw [hb]; exact hd4) (by rw [hb]; exact hd7) (fun x hx => by
      have h0 : c.exceptionTable.toList = [] := by
        have : c.exceptionTable.size = 0 := by simpa [Array.isEmpty] using htab
        exact List.eq_nil_of_length_eq_zero (by simpa using this)
      rw [h0] at hx
      cases hx) hRf (by simpa [JFrame.monitorRoom, Value.category] using hRl)
  refine ⟨U, st, s.heap.size, hrun, hend, ⟨ce, hce, hO.vm, ?_⟩, hW, by simpa using hsame⟩
  rw [hW.alike.findClass]
  exact hO.cls
/-- a call that throws: the machine comes to the note over the caller's frame -/
def ThrRun (p : Program) (l : Launch) (e : Env) (R : Room) (s : State) (m : MethodId) (args : Array Value) (below : List Frame) (meth : Method) (c : Code) (H : Heap) (locs : List Loc) (cells slots mc ms : Nat) (g : JFrame) (rest : List Value) (Xn : String) : Prop :=
  ∀ T : State, T.heap = H → Stand p l e R s m args below meth c T locs cells slots → ∃ (x : Addr) (T' : State), Stand p l e R s m args below meth c T' locs (cells + mc) (slots + ms) ∧ xc Xn x T' ∧ H.size ≤ T'.heap.size ∧ (∀ q : Nat, q < H.size → T'.heap[q]? = H[q]?) ∧
    ∀ target, Steps p.tables e below ((T'.setTop { g with stack := rest }).pushFrame (.throwing x)) target → Steps p.tables e below (T.setTop g) target
variable {y : MethodName} {bytes : ByteArray} {maxL : Nat} {ret : Option FieldType} {rm : Room} {Pc : Array Value → State → Prop} {Xn : String} {mc ms : Nat}
theorem thr_back {T : State} (X : Stand p l e R s m args below meth c T locs cells slots) (hM : MetT l y [Cond.code y bytes maxL ret] rm Pc Xn mc ms) (hbl : FrameBlind Pc) (hrc : rm.cells = mc) (hrs : rm.slots = ms) (hfr : rm.frames + 1 ≤ R.frames) (hlo : 8 + (maxL + 11) + rm.locals ≤ R.locals) {a : Array Value}
    (hcode : (Cond.code y bytes maxL ret).before a T = true) (hini : (Cond.initialized y.cls).before a T = true) (hf : cells + mc ≤ R.cells ∧ slots + ms ≤ R.slots) (hP : Pc a T) {g : JFrame} (hg : g.method = m) (hsize : g.locals.size = c.maxLocals) {ig : Instr} {len : Nat} (hdg : decode c.code g.pc = .ok (ig, len)) (hW : 2 * g.monitorRoom + (g.stack.map fun v => v.category).sum ≤ 8) {mk : MethodId} (hn : T.methodNamed? y = some mk) :
    ∃ (x : Addr) (T' : State), Stand p l e R s m args below meth c T' locs (cells + mc) (slots + ms) ∧ xc Xn x T' ∧ T.heap.size ≤ T'.heap.size ∧ (∀ q : Nat, q < T.heap.size → T'.heap[q]? = T.heap[q]?) ∧ Steps p.tables e below (doInvoke e (T.setTop g) [] mk a).1 ((T'.setTop g).pushFrame (.throwing x)) := by
  obtain ⟨methY, cY, hmY, hcY, -, hlY, -, -, -, -⟩ := Cond.code_spec hn hcode
  obtain ⟨kY, hkY, -⟩ := className_of_methodNamed hn
  have hinitY : kY.init = .initialized := Cond.initialized_spec (findClass_of_methodNamed hn) hkY hini
  have h : At T g.method c below := by rw [hg]; exact X.here
  have hpre : (headSpec [Cond.code y bytes maxL ret] rm).pre.before a T = true := atoms_intro fun w hw => by rw [List.mem_singleton] at hw; subst hw; exact hcode
  have happ : (headSpec [Cond.code y bytes maxL ret] rm).appliesLoose y e.platform (T.calling g mk a) = true :=
    Spec.appliesLoose_calling (g := g) h hdg hn hkY hinitY
      (X.room_calling (g := g) (R' := rm) hsize hmY hcY hfr (by rw [hlY]; omega) (by rw [hrc]; exact hf.1) (by rw [hrs]; exact hf.2)) hpre
  obtain ⟨mid, hmid⟩ := h.above
  have hfrm : (T.setTop g).frames = (.java g :: mid) ++ below := by rw [State.frames_setTop' g h.top, hmid]; rfl
  obtain ⟨o, s₂, hsteps, -, hend, x, rfl, hxc, hW₂, hsame⟩ := Steps.callFree hM p X.admits X.cas X.clock (acts := []) hfrm happ (hbl _ _ _ _ hP) trivial
  rw [State.frames_setTop' g h.top, X.tail] at hend
  have hsame' : (T.calling g mk a).sameButNew ({ s₂ with vm := (T.calling g mk a).vm } : State) [] mc ms := hsame
  have hW' : (T.calling g mk a).WarmedH s₂.vm := hW₂
  obtain ⟨T', X', hWT, hsT, ht⟩ := X.outOfThrown hg hend hW' hsame'
  rw [List.append_nil] at X'
  have hheap : s₂.heap = T'.heap := by rw [ht]; exact Stand.throwing_heap T' g x
  have hvm : s₂.vm = T'.vm := by rw [ht]; exact Stand.throwing_vm T' g x
  refine ⟨x, T', X', ?_, ?_, ?_, ?_⟩
  · obtain ⟨ce, h1, h2, h3⟩ := hxc
    exact ⟨ce, by rw [← hheap]; exact h1, h2, by rw [← hvm]; exact h3⟩
  · exact hsT.2.1
  · intro q hq
    exact same_old hsT hq
  · rw [← ht]; exact hsteps
theorem thr_V {own C : String} {index n : Nat} {b : Addr} {As : List Value} {st0 : List Value} {nL : Nat} {D : va_G} {cI cJ cO : ClassId} (X : Cx D cI cJ cO p s m c cc nL own) (hM : MetT l y [Cond.code y bytes maxL ret] rm Pc Xn mc ms) (cb : CallB R s args own index y bytes maxL ret [Cond.code y bytes maxL ret] rm mc ms n) (w2 : Cond.instanceMethod y ∈ am_l) (w3 : Cond.selects C y y ∈ am_l) (hp : PreV s H C b Pc As)
    (hn : As.length = n) (hl : ls.size = nL) (hst : st0 = As.reverse ++ .ref b :: rest) (hW : (rest.map fun v => v.category).sum ≤ 8) (hdg : decode cc pc = .ok (.invokevirtual index, 3)) (hf : cells + mc ≤ R.cells ∧ slots + ms ≤ R.slots) :
    ThrRun p l e R s m args below meth c H locs cells slots mc ms (F0 m pc ls st0) rest Xn := by
  intro T hT XT
  obtain ⟨hrc, hrs, hfr, hlo, hws, hcw, hcode, hini, hy, hlen, hlk⟩ := cb
  obtain ⟨hbl, ⟨cellB, hcB, hoB, hclB⟩, hPc⟩ := hp
  have hinst := X.w w2 args
  have hsel := X.w w3 args
  obtain ⟨mk, methM, hnamed, hmethM, hstM, habM⟩ := Cond.instanceMethod_spec hinst
  obtain ⟨methM', cM, hmethM', -, -, -, -, -, -, hsigM⟩ := Cond.code_spec hnamed hcode
  cases hmethM.symm.trans hmethM'
  obtain ⟨c2, r2, m2, q1, q2, q3, q4, kP, hkP, hkPi⟩ := Cond.selects_spec hsel
  cases hclB.symm.trans q1
  cases (State.methodFound?_of_named hnamed hy).symm.trans q2
  cases hnamed.symm.trans q3
  have hselP : selectMethod e.platform s.vm cellB.cls mk = .method mk := by rw [Launch.admits_selectMethod XT.admits]; exact q4
  obtain ⟨vm₁, X₁, hstep₁⟩ := XT.invokevirtual X.x X.o hlk hnamed hmethM hstM hkP hkPi hy (a := b) (cell := cellB) (by rw [hT]; exact hcB)
    (fun z h => by rw [h] at hoB; cases hoB) hselP hmethM habM hkP hkPi (g := F0 m pc ls st0) rfl (argsL := As) (rest := rest) (hn.trans (hlen _ hsigM)) hst (by rw [X.b]; exact hdg)
  obtain ⟨x, T', X', h1, h2, h3, h4⟩ := thr_back X₁ hM hbl hrc hrs hfr hlo (a := (Value.ref b :: As).toArray) (hws _ hcw _ _ X₁.warmed) (word_at X₁.warmed (Or.inl (by first | rfl | simp [Cond.onTables, Cond.keeps, Cond.steady])) hini) hf (hPc (T.setVm vm₁) hT X₁.warmed) (g := F0 m pc ls rest) rfl (hl.trans X.ml.symm) (by rw [X.b]; exact hdg) (lv_room hW) (X₁.named hnamed)
  have hh : (T.setVm vm₁).heap = H := hT
  rw [hh] at h2 h3
  exact ⟨x, T', X', h1, h2, h3, fun target h => hstep₁ _ fun acts => by rw [doInvoke_state]; exact h4.trans h⟩
theorem thr_S {own : String} {index n : Nat} {As : List Value} {st0 : List Value} {nL : Nat} {D : va_G} {cI cJ cO : ClassId} (X : Cx D cI cJ cO p s m c cc nL own) (hM : MetT l y [Cond.code y bytes maxL ret] rm Pc Xn mc ms) (cb : CallB R s args own index y bytes maxL ret [Cond.code y bytes maxL ret] rm mc ms n) (w2 : Cond.static y ∈ am_l) (hp : PreS s H Pc As)
    (hn : As.length = n) (hl : ls.size = nL) (hst : st0 = As.reverse ++ rest) (hW : (rest.map fun v => v.category).sum ≤ 8) (hdg : decode cc pc = .ok (.invokestatic index, 3)) (hf : cells + mc ≤ R.cells ∧ slots + ms ≤ R.slots) :
    ThrRun p l e R s m args below meth c H locs cells slots mc ms (F0 m pc ls st0) rest Xn := by
  intro T hT XT
  obtain ⟨hrc, hrs, hfr, hlo, hws, hcw, hcode, hini, hy, hlen, hlk⟩ := cb
  obtain ⟨hbl, hPc⟩ := hp
  have hstat := X.w w2 args
  obtain ⟨mk, hnamed⟩ := Cond.code_named hcode
  obtain ⟨methM, cM, hmethM, -, -, -, -, -, -, hsigM⟩ := Cond.code_spec hnamed hcode
  have hstatic : methM.isStatic = true := Cond.static_spec hnamed hmethM hstat
  obtain ⟨kP, hkP, -⟩ := className_of_methodNamed hnamed
  have hinitP : kP.init = .initialized := Cond.initialized_spec (findClass_of_methodNamed hnamed) hkP hini
  obtain ⟨vm₁, X₁, hstep₁⟩ := XT.invokestatic X.x X.o hlk hnamed hmethM hstatic hkP hinitP hy (g := F0 m pc ls st0) rfl (argsL := As) (rest := rest) (hn.trans (hlen _ hsigM)) hst (by rw [X.b]; exact hdg)
  obtain ⟨x, T', X', h1, h2, h3, h4⟩ := thr_back X₁ hM hbl hrc hrs hfr hlo (a := As.toArray) (hws _ hcw _ _ X₁.warmed) (word_at X₁.warmed (Or.inl (by first | rfl | simp [Cond.onTables, Cond.keeps, Cond.steady])) hini) hf (hPc (T.setVm vm₁) hT X₁.warmed) (g := F0 m pc ls rest) rfl (hl.trans X.ml.symm) (by rw [X.b]; exact hdg) (lv_room hW) (X₁.named hnamed)
  have hh : (T.setVm vm₁).heap = H := hT
  rw [hh] at h2 h3
  exact ⟨x, T', X', h1, h2, h3, fun target h => hstep₁ _ fun acts => by rw [doInvoke_state]; exact h4.trans h⟩
/-- .. and is not caught: the caller throws too -/
theorem thr_out {st0 : List Value} (hr : ThrRun p l e R s m args below meth c H [] cells slots mc ms (F0 m pc ls st0) rest Xn) (htab : c.exceptionTable.isEmpty = true) (hlocks : meth.locks = false) : W p l e R s m args below meth c H [] cells slots (TQ below Xn s (cells + mc) (slots + ms)) (F0 m pc ls st0) := by
  intro T hT X
  obtain ⟨x, T', X', hxc, -, -, st⟩ := hr T hT X
  have hout : ∀ z ∈ c.exceptionTable.toList, covers z pc = false := fun z hz => by
    have h0 : c.exceptionTable.toList = [] := by
      have : c.exceptionTable.size = 0 := by simpa [Array.isEmpty] using htab
      exact List.eq_nil_of_length_eq_zero (by simpa using this)
    rw [h0] at hz
    cases hz
  obtain ⟨h1, h2, h3, h4, h5⟩ := X'.leaveThrown x (g := F0 m pc ls rest) rfl rfl rfl hout hlocks
  exact ⟨T'.setFrames (.throwing x :: below), st _ h1, x, h2, h3, hxc, h4, h5⟩
/-- the search for a handler where the entry's class may be unresolved yet -/
theorem go_cold {E : CtlPost} {d : Bool} {acts : List Action} {S0 : State} {f : JFrame} {a : Addr} {Qh : Handler → Pre} {x : ExceptionTableEntry} {t : List ExceptionTableEntry} {c0 : ClassId} {vm' : Vm} {cell : Cell} (hx : covers x f.pc = true) (h0 : x.catchType ≠ 0) (hg : (Jvm.resolveClass f.method.cls x.catchType).Gives e.toSetting S0.vm (.ok c0) vm') (hr : vm'.classReady f.method.cls x.catchType c0) (hsz : vm'.classes.size ≤ S0.vm.classes.size)
    (hcell : S0.heap[a]? = some cell) (hobj : ∀ k, cell.vm ≠ .statics k) (hk : ∃ k, vm'.classes[cell.cls]? = some k) (hc : ∃ k, vm'.classes[c0]? = some k) :
    wp (findHandler.go f a (x :: t)) Qh E e d acts S0 ↔ if vm'.assignable cell.cls c0 = true then Qh (.found x.handlerPc) d acts (S0.setVm vm') else wp (findHandler.go f a t) Qh E e d acts (S0.setVm vm') := by
  simp only [covers] at hx
  obtain ⟨ha, ht⟩ := hg.op (op := VmOp.resolveClass f.method.cls x.catchType) rfl
  cases hfit : vm'.assignable cell.cls c0 <;>
    simp [findHandler.go, hx, h0, ha, ht, hsz, hcell, hobj, hk, hc, hfit, VmOp.dirties, VmOp.acts]
/-- what the search gives, and the tables behind it -/
def FindsV (e : Env) (S0 : State) (f : JFrame) (a : Addr) (h : Handler) (vm' : Vm) : Prop := ∀ (Qh : Handler → Pre) (E : CtlPost) (d : Bool) (acts : List Action), wp (findHandler f a) Qh E e d acts S0 ↔ Qh h d acts (S0.setVm vm')
theorem step_catch {S0 : State} {a : Addr} {f : JFrame} {r : List Frame} {hp : Nat} {vm' : Vm} (hfind : FindsV e S0 f a (.found hp) vm') :
    (stepThrowing e S0 a (.java f :: r)).Is ((S0.setVm vm').setFrames (.java { f with pc := hp, stack := [.ref a] } :: r)) [] := by
  simp only [stepThrowing, searchFrame, vmDo]
  generalize hr : Sem.go _ e false [] S0 = res
  obtain ⟨as, rfl, ha⟩ := Sem.eq_ok_of hr (a := Handler.found hp) (s' := S0.setVm vm') (acts' := []) (by simp [hfind _ _ _ _])
  exact ⟨rfl, ha⟩
theorem steps_catch {tb : Tables} {S0 target : State} {g : JFrame} {a : Addr} {hp : Nat} {vm' : Vm} (h : At S0 g.method c below) (ha : S0.vm.Alike vm') (hfind : FindsV e ((S0.setTop g).pushFrame (.throwing a)) g a (.found hp) vm')
    (hrest : Steps tb e below ((S0.setVm vm').setTop { g with pc := hp, stack := [.ref a] }) target) : Steps tb e below ((S0.setTop g).pushFrame (.throwing a)) target := by
  obtain ⟨hgo, hw⟩ := h.throwing a
  refine Steps.head hgo hw ?_
  rw [stepThread_throwing (frames_entered h.top _), (step_catch (S0 := (S0.setTop g).pushFrame (.throwing a)) hfind).1]
  obtain ⟨g₀, hg⟩ := Option.isSome_iff_exists.mp h.top
  obtain ⟨r, hr⟩ := State.topJava?_eq_some.mp hg
  have hr' : (S0.setVm vm').frames = .java g₀ :: r := hr
  rw [State.setTop_of_frames _ hr'] at hrest
  rw [State.pushFrame, State.setTop_of_frames _ hr, State.setFrames_setFrames]
  have e1 : ((S0.setFrames (Frame.throwing a :: (S0.setFrames (Frame.java g :: r)).frames)).setVm vm').setFrames (Frame.java { g with pc := hp, stack := [.ref a] } :: S0.frames.tail) = (S0.setVm vm').setFrames (Frame.java { g with pc := hp, stack := [.ref a] } :: r) := by
    have e2 : ∀ fs : List Frame, (S0.setFrames fs).setVm vm' = (S0.setVm vm').setFrames fs := fun _ => rfl
    rw [e2, State.setFrames_setFrames, hr]
    rfl
  first
    | (rw [e1]; exact hrest)
    | (simp only [hr, List.tail_cons] at e1 ⊢; rw [e1]; exact hrest)
/-- the first entry takes it -/
theorem cat1 {T : State} (X : Stand p l e R s m args below meth c T locs cells slots) {own name : String} (hown : s.vm.findClass own = some m.cls) {x : ExceptionTableEntry} {t : List ExceptionTableEntry} (htab : c.exceptionTable.toList = x :: t) (h0 : x.catchType ≠ 0) (hlink : (Cond.classLink own x.catchType name).before args s = true)
    {a : Addr} {cell : Cell} {cT : ClassId} (hcell : T.heap[a]? = some cell) (hobj : cell.vm = .none) (hcT : s.vm.findClass name = some cT) (hasg : s.vm.assignable cell.cls cT = true) {g : JFrame} (hg : g.method = m) (hx : covers x g.pc = true) :
    ∃ vm', Stand p l e R s m args below meth c (T.setVm vm') locs cells slots ∧ ∀ target, Steps p.tables e below ((T.setVm vm').setTop { g with pc := x.handlerPc, stack := [.ref a] }) target → Steps p.tables e below ((T.setTop g).pushFrame (.throwing a)) target := by
  have hpl : e.platform.magicAccessors = ({} : Platform).magicAccessors := by rw [X.admits.platform]
  obtain ⟨c', hc', hcl⟩ := Cond.classLink_spec hown hlink e.platform hpl
  cases hcT.symm.trans hc'
  obtain ⟨dk, _, _, kt, hd, _, _, _, _, hkt, _, hopen⟩ := hcl.here
  obtain ⟨ks, hks⟩ := Vm.classAt_of_assignable hasg ⟨kt, hkt⟩
  have hcl₀ := X.warmed.classLinks hcl
  have hW' : s.WarmedH (T.vm.noted m.cls x.catchType (.cls cT)) := X.warmed.noted hd hopen (State.rightAt_cls hcl)
  obtain ⟨ks', hks', -⟩ := hW'.alike.2.2 _ _ hks
  obtain ⟨kt', hkt', -⟩ := hW'.alike.2.2 _ _ hkt
  refine ⟨_, X.noted hW', fun target hrest => ?_⟩
  subst hg
  refine steps_catch (c := c) (vm' := T.vm.noted g.method.cls x.catchType (.cls cT)) X.here (X.warmed.alike.symm.trans hW'.alike) ?_ hrest
  intro Qh E d acts
  have hvm : ((T.setTop g).pushFrame (.throwing a)).vm = T.vm := Stand.throwing_vm T g a
  have hhp : ((T.setTop g).pushFrame (.throwing a)).heap = T.heap := Stand.throwing_heap T g a
  rw [W.findHandler_eq (meth := meth) (code := c) (by rw [hvm]; exact X.method') X.code, htab]
  rw [go_cold (c0 := cT) (vm' := T.vm.noted g.method.cls x.catchType (.cls cT)) (cell := cell) hx h0 (by rw [hvm]; exact resolveClass_links e.toSetting hcl₀) hcl₀.ready (by rw [hvm]; simp) (by rw [hhp]; exact hcell) (fun k hk => by rw [hobj] at hk; cases hk) ⟨ks', hks'⟩ ⟨kt', hkt'⟩, if_pos (by rw [hW'.alike.assignable]; exact hasg)]
/-- the first passes it, the second takes it -/
theorem cat2 {T : State} (X : Stand p l e R s m args below meth c T locs cells slots) {own name1 name2 : String} (hown : s.vm.findClass own = some m.cls) {x1 x2 : ExceptionTableEntry} {t : List ExceptionTableEntry} (htab : c.exceptionTable.toList = x1 :: x2 :: t) (h01 : x1.catchType ≠ 0) (h02 : x2.catchType ≠ 0) (hlink1 : (Cond.classLink own x1.catchType name1).before args s = true) (hlink2 : (Cond.classLink own x2.catchType name2).before args s = true)
    {a : Addr} {cell : Cell} {cT1 cT2 : ClassId} (hcell : T.heap[a]? = some cell) (hobj : cell.vm = .none) (hcT1 : s.vm.findClass name1 = some cT1) (hno : s.vm.assignable cell.cls cT1 = false) (hcT2 : s.vm.findClass name2 = some cT2) (hasg : s.vm.assignable cell.cls cT2 = true) {g : JFrame} (hg : g.method = m) (hx1 : covers x1 g.pc = true) (hx2 : covers x2 g.pc = true) :
    ∃ vm', Stand p l e R s m args below meth c (T.setVm vm') locs cells slots ∧ ∀ target, Steps p.tables e below ((T.setVm vm').setTop { g with pc := x2.handlerPc, stack := [.ref a] }) target → Steps p.tables e below ((T.setTop g).pushFrame (.throwing a)) target := by
  have hpl : e.platform.magicAccessors = ({} : Platform).magicAccessors := by rw [X.admits.platform]
  obtain ⟨c1, hc1, hcl1⟩ := Cond.classLink_spec hown hlink1 e.platform hpl
  cases hcT1.symm.trans hc1
  obtain ⟨c2, hc2, hcl2⟩ := Cond.classLink_spec hown hlink2 e.platform hpl
  cases hcT2.symm.trans hc2
  obtain ⟨dk1, _, _, kt1, hd1, _, _, _, _, hkt1, _, hopen1⟩ := hcl1.here
  obtain ⟨dk2, _, _, kt2, hd2, _, _, _, _, hkt2, _, hopen2⟩ := hcl2.here
  obtain ⟨ks, hks⟩ := Vm.classAt_of_assignable hasg ⟨kt2, hkt2⟩
  have hl1 := X.warmed.classLinks hcl1
  have hW1 : s.WarmedH (T.vm.noted m.cls x1.catchType (.cls cT1)) := X.warmed.noted hd1 hopen1 (State.rightAt_cls hcl1)
  have hl2 := hW1.classLinks hcl2
  have hW2 : s.WarmedH ((T.vm.noted m.cls x1.catchType (.cls cT1)).noted m.cls x2.catchType (.cls cT2)) := hW1.noted hd2 hopen2 (State.rightAt_cls hcl2)
  obtain ⟨ks1, hks1, -⟩ := hW1.alike.2.2 _ _ hks
  obtain ⟨kt1', hkt1', -⟩ := hW1.alike.2.2 _ _ hkt1
  obtain ⟨ks2, hks2, -⟩ := hW2.alike.2.2 _ _ hks
  obtain ⟨kt2', hkt2', -⟩ := hW2.alike.2.2 _ _ hkt2
  refine ⟨_, X.noted hW2, fun target hrest => ?_⟩
  subst hg
  refine steps_catch (c := c) (vm' := (T.vm.noted g.method.cls x1.catchType (.cls cT1)).noted g.method.cls x2.catchType (.cls cT2)) X.here (X.warmed.alike.symm.trans hW2.alike) ?_ hrest
  intro Qh E d acts
  have hvm : ((T.setTop g).pushFrame (.throwing a)).vm = T.vm := Stand.throwing_vm T g a
  have hhp : ((T.setTop g).pushFrame (.throwing a)).heap = T.heap := Stand.throwing_heap T g a
  rw [W.findHandler_eq (meth := meth) (code := c) (by rw [hvm]; exact X.method') X.code, htab]
  rw [go_cold (c0 := cT1) (vm' := T.vm.noted g.method.cls x1.catchType (.cls cT1)) (cell := cell) hx1 h01 (by rw [hvm]; exact resolveClass_links e.toSetting hl1) hl1.ready (by rw [hvm]; simp) (by rw [hhp]; exact hcell) (fun k hk => by rw [hobj] at hk; cases hk) ⟨ks1, hks1⟩ ⟨kt1', hkt1'⟩, if_neg (by rw [hW1.alike.assignable, hno]; decide)]
  rw [go_cold (S0 := ((T.setTop g).pushFrame (.throwing a)).setVm (T.vm.noted g.method.cls x1.catchType (.cls cT1))) (c0 := cT2) (vm' := (T.vm.noted g.method.cls x1.catchType (.cls cT1)).noted g.method.cls x2.catchType (.cls cT2)) (cell := cell) hx2 h02 (resolveClass_links e.toSetting hl2) hl2.ready (by simp) (by show ((T.setTop g).pushFrame (.throwing a)).heap[a]? = some cell; rw [hhp]; exact hcell) (fun k hk => by rw [hobj] at hk; cases hk) ⟨ks2, hks2⟩ ⟨kt2', hkt2'⟩, if_pos (by rw [hW2.alike.assignable]; exact hasg)]
  rfl
/-- a thrown call caught by the first entry: on at its handler, the reference alone on the stack -/
theorem thr_cat1 {own : String} {st0 : List Value} (hr : ThrRun p l e R s m args below meth c H locs cells slots mc ms (F0 m pc ls st0) rest Xn) (hown : s.vm.findClass own = some m.cls) {x : ExceptionTableEntry} {t : List ExceptionTableEntry} (htab : c.exceptionTable.toList = x :: t) (h0 : x.catchType ≠ 0) (hlink : (Cond.classLink own x.catchType Xn).before args s = true) (hself : (Cond.castable Xn Xn).before args s = true) (hx : covers x pc = true)
    (kk : ∀ (a : Addr) (H1 : Heap), H.size ≤ H1.size → (∀ q : Nat, q < H.size → H1[q]? = H[q]?) → W p l e R s m args below meth c H1 locs (cells + mc) (slots + ms) Q (F0 m x.handlerPc ls [.ref a])) : W p l e R s m args below meth c H locs cells slots Q (F0 m pc ls st0) := by
  intro T hT X
  obtain ⟨a, T', X', ⟨ce, h1, h2, h3⟩, h4, h5, st⟩ := hr T hT X
  obtain ⟨c1, c2, hc1, hc2, hasg⟩ := Cond.castable_spec hself
  cases hc1.symm.trans hc2
  have hce : s.vm.findClass Xn = some ce.cls := by rw [← X'.warmed.alike.findClass]; exact h3
  cases hc1.symm.trans hce
  obtain ⟨vm', X2, st2⟩ := cat1 X' hown htab h0 hlink h1 h2 hce hasg (g := F0 m pc ls rest) rfl hx
  obtain ⟨t2, a1, b1⟩ := kk a T'.heap h4 h5 (T'.setVm vm') rfl X2
  exact ⟨t2, st _ (st2 _ a1), b1⟩
theorem thr_cat2 {own X1 : String} {st0 : List Value} (hr : ThrRun p l e R s m args below meth c H locs cells slots mc ms (F0 m pc ls st0) rest Xn) (hown : s.vm.findClass own = some m.cls) {x1 x2 : ExceptionTableEntry} {t : List ExceptionTableEntry} (htab : c.exceptionTable.toList = x1 :: x2 :: t) (h01 : x1.catchType ≠ 0) (h02 : x2.catchType ≠ 0) (hlink1 : (Cond.classLink own x1.catchType X1).before args s = true) (hlink2 : (Cond.classLink own x2.catchType Xn).before args s = true) (hself : (Cond.castable Xn Xn).before args s = true) (hno : va_Nc Xn X1 s) (hx1 : covers x1 pc = true) (hx2 : covers x2 pc = true)
    (kk : ∀ (a : Addr) (H1 : Heap), H.size ≤ H1.size → (∀ q : Nat, q < H.size → H1[q]? = H[q]?) → W p l e R s m args below meth c H1 locs (cells + mc) (slots + ms) Q (F0 m x2.handlerPc ls [.ref a])) : W p l e R s m args below meth c H locs cells slots Q (F0 m pc ls st0) := by
  intro T hT X
  obtain ⟨a, T', X', ⟨ce, h1, h2, h3⟩, h4, h5, st⟩ := hr T hT X
  obtain ⟨c1, c2, hc1, hc2, hasg⟩ := Cond.castable_spec hself
  cases hc1.symm.trans hc2
  have hce : s.vm.findClass Xn = some ce.cls := by rw [← X'.warmed.alike.findClass]; exact h3
  cases hc1.symm.trans hce
  obtain ⟨d1, d2, hd1, hd2, hna⟩ := hno
  cases hce.symm.trans hd1
  obtain ⟨vm', X2, st2⟩ := cat2 X' hown htab h01 h02 hlink1 hlink2 h1 h2 hd2 hna hce hasg (g := F0 m pc ls rest) rfl hx1 hx2
  obtain ⟨t2, a1, b1⟩ := kk a T'.heap h4 h5 (T'.setVm vm') rfl X2
  exact ⟨t2, st _ (st2 _ a1), b1⟩
end EX
end
section
/-! pure rows: keys, the strict order of places, runs, merging -/
def rkk (k : Nat) (x : Int32) : Int32 := if k = 0 then x else if k = 1 then x ^^^ (-1) else if k = 2 then x &&& nI 15 else x ^^^ (-2147483648)
def ky (k : Nat) (x : Int32) : Int := (rkk k x).toInt
def cmpP (u v : Int) (r : Int32) : Prop := (r < 0 ↔ u < v) ∧ (0 < r ↔ v < u)
theorem cm_neg {u v : Int} (h : u < v) : cmpP u v (-1) := ⟨⟨fun _ => h, fun _ => by decide⟩, ⟨fun q => absurd q (by decide), fun q => by omega⟩⟩
theorem cm_pos {u v : Int} (h : v < u) : cmpP u v (nI 1) := ⟨⟨fun q => absurd q (by decide), fun q => by omega⟩, ⟨fun _ => h, fun _ => by decide⟩⟩
theorem cm_zero {u v : Int} (h : u = v) : cmpP u v (nI 0) := ⟨⟨fun q => absurd q (by decide), fun q => by omega⟩, ⟨fun q => absurd q (by decide), fun q => by omega⟩⟩
theorem cmpP.eq0 {u v : Int} {r : Int32} (h : cmpP u v r) : r = 0 ↔ u = v := by
  obtain ⟨h1, h2⟩ := h
  rw [Int32.lt_iff_toInt_lt, Int32.toInt_zero] at h1 h2
  constructor
  · intro z
    rw [z, Int32.toInt_zero] at h1 h2
    omega
  · intro z
    have : r.toInt = 0 := by omega
    exact Int32.toInt_inj.mp (by rw [this, Int32.toInt_zero])
theorem cmpP.ge {u v : Int} {r : Int32} (h : cmpP u v r) : 0 ≤ r ↔ v ≤ u := by
  obtain ⟨h1, -⟩ := h
  rw [Int32.lt_iff_toInt_lt, Int32.toInt_zero] at h1
  rw [Int32.le_iff_toInt_le, Int32.toInt_zero]
  omega
theorem i32_int (x : Int32) : x.toInt = if 2 * x.toBitVec.toNat < 4294967296 then (x.toBitVec.toNat : Int) else (x.toBitVec.toNat : Int) - 4294967296 := BitVec.toInt_eq_toNat_cond _
theorem i32_lt (x : Int32) : x.toBitVec.toNat < 4294967296 := x.toBitVec.isLt
theorem xm1 (x : Int32) : (x ^^^ (-1)).toBitVec.toNat = 4294967295 - x.toBitVec.toNat := by
  have h1 : (x ^^^ (-1)).toBitVec = ~~~ x.toBitVec := by
    rw [← BitVec.xor_allOnes]
    rfl
  rw [h1, BitVec.toNat_not]
theorem xm1_int (x : Int32) : (x ^^^ (-1)).toInt = -x.toInt - 1 := by
  have h := i32_lt x
  rw [i32_int, i32_int x, xm1]
  split <;> split <;> omega
theorem nat_xor32 {a : Nat} (h : a < 4294967296) : a ^^^ 2 ^ 31 = (a + 2147483648) % 4294967296 := by
  have h1 : (a ^^^ 2 ^ 31) % 2 ^ 31 = a % 2 ^ 31 := by rw [Nat.xor_mod_two_pow, Nat.mod_self, Nat.xor_zero]
  have h2 : (a ^^^ 2 ^ 31) / 2 ^ 31 = (a / 2 ^ 31) ^^^ 1 := by rw [Nat.xor_div_two_pow, Nat.div_self (Nat.two_pow_pos 31)]
  have h3 : a / 2 ^ 31 = 0 ∨ a / 2 ^ 31 = 1 := by omega
  generalize a ^^^ 2 ^ 31 = t at h1 h2
  rcases h3 with h3 | h3
  · rw [h3] at h2
    have h2 : t / 2 ^ 31 = 1 := h2
    omega
  · rw [h3] at h2
    have h2 : t / 2 ^ 31 = 0 := h2
    omega
theorem xmn (x : Int32) : (x ^^^ (-2147483648)).toBitVec.toNat = (x.toBitVec.toNat + 2147483648) % 4294967296 := by
  rw [← nat_xor32 (i32_lt x)]
  exact BitVec.toNat_xor _ _
theorem amn (x : Int32) : (x + (-2147483648)).toBitVec.toNat = (x.toBitVec.toNat + 2147483648) % 4294967296 := BitVec.toNat_add _ _
theorem xmn_int (x : Int32) : (x ^^^ (-2147483648)).toInt = (x.toBitVec.toNat : Int) - 2147483648 := by
  have h := i32_lt x
  rw [i32_int, xmn]
  split <;> omega
theorem amn_int (x : Int32) : (x + (-2147483648)).toInt = (x.toBitVec.toNat : Int) - 2147483648 := by
  have h := i32_lt x
  rw [i32_int, amn]
  split <;> omega
theorem ky0 (x : Int32) : ky 0 x = x.toInt := rfl
theorem ky1 (x : Int32) : ky 1 x = -x.toInt - 1 := xm1_int x
theorem ky3 (x : Int32) : ky 3 x = (x.toBitVec.toNat : Int) - 2147483648 := xmn_int x
theorem ky2 (x : Int32) : ∃ j : Nat, j < 16 ∧ x &&& nI 15 = nI j ∧ ky 2 x = (j : Int) := by
  obtain ⟨j, h1, h2⟩ := pk_andE x (m := nI 15) 4 (by decide)
  refine ⟨j, h1, h2, ?_⟩
  show (x &&& nI 15).toInt = _
  rw [h2, nI_toInt (by omega)]
theorem i32_ext {x y : Int32} (h : x.toInt = y.toInt) : x = y := Int32.toInt_inj.mp h
theorem i32_le (x y : Int32) : x ≤ y ↔ x.toInt ≤ y.toInt := Int32.le_iff_toInt_le
theorem i32_ltI (x y : Int32) : x < y ↔ x.toInt < y.toInt := Int32.lt_iff_toInt_lt
theorem i32_nat_inj {x y : Int32} (h : x.toBitVec.toNat = y.toBitVec.toNat) : x = y := i32_ext (by rw [i32_int, i32_int y, h])
/-- the strict order of places -/
def LT (K : Int32 → Int) (x y : Int32) : Prop := K x < K y ∨ (K x = K y ∧ x.toInt < y.toInt)
section PS
variable {K : Int32 → Int}
theorem LT.trans {x y z : Int32} (h : LT K x y) (g : LT K y z) : LT K x z := by
  unfold LT at *; omega
theorem LT.irr {x : Int32} (h : LT K x x) : False := by unfold LT at h; omega
theorem LT.asym {x y : Int32} (h : LT K x y) (g : LT K y x) : False := (h.trans g).irr
theorem LT.le {x y : Int32} (h : LT K x y) : K x ≤ K y := by unfold LT at h; omega
theorem LT.tri {x y : Int32} (h : x ≠ y) : LT K x y ∨ LT K y x := by
  have : x.toInt ≠ y.toInt := fun q => h (i32_ext q)
  unfold LT; omega
def Sg (K : Int32 → Int) (f : Nat → Int32) (a b : Nat) : Prop := ∀ i j, a ≤ i → i < j → j < b → LT K (f i) (f j)
def In (f : Nat → Int32) (a b lo hi : Nat) : Prop := ∀ i, a ≤ i → i < b → ∃ p, lo ≤ p ∧ p < hi ∧ f i = nI p
def Iv (v f : Nat → Int32) (a b lo hi : Nat) : Prop := ∀ i, a ≤ i → i < b → ∃ p, lo ≤ p ∧ p < hi ∧ f i = v p
def Rn (K : Int32 → Int) (f : Nat → Int32) (a b : Nat) : Prop := Sg K f a b ∧ In f a b a b
theorem Sg.mono {f : Nat → Int32} {a b : Nat} (h : Sg K f a b) {i j : Nat} (h1 : a ≤ i) (h2 : i ≤ j) (h3 : j < b) : K (f i) ≤ K (f j) := by
  rcases Nat.lt_or_ge i j with q | q
  · exact (h i j h1 q h3).le
  · rw [show i = j by omega]; exact Int.le_refl _
theorem Sg.part {f : Nat → Int32} {a b a' b' : Nat} (h : Sg K f a b) (h1 : a ≤ a') (h2 : b' ≤ b) : Sg K f a' b' := fun i j q1 q2 q3 => h i j (by omega) q2 (by omega)
theorem In.part {f : Nat → Int32} {a b lo hi a' b' lo' hi' : Nat} (h : In f a b lo hi) (h1 : a ≤ a') (h2 : b' ≤ b) (h3 : lo' ≤ lo) (h4 : hi ≤ hi') : In f a' b' lo' hi' := fun i q1 q2 => by
  obtain ⟨p, p1, p2, p3⟩ := h i (by omega) (by omega)
  exact ⟨p, by omega, by omega, p3⟩
theorem In.vd {f : Nat → Int32} {a b lo hi i : Nat} (h : In f a b lo hi) (hh : hi ≤ 2000) (h1 : a ≤ i) (h2 : i < b) : vp_in (f i) 2000 := by
  obtain ⟨p, p1, p2, p3⟩ := h i h1 h2
  rw [p3]
  exact vp_in_nI (by omega) (by decide)
theorem Sg.cong {f g : Nat → Int32} {a b : Nat} (h : Sg K f a b) (e : ∀ i, a ≤ i → i < b → g i = f i) : Sg K g a b := fun i j h1 h2 h3 => by rw [e i h1 (by omega), e j (by omega) h3]; exact h i j h1 h2 h3
theorem In.cong {f g : Nat → Int32} {a b lo hi : Nat} (h : In f a b lo hi) (e : ∀ i, a ≤ i → i < b → g i = f i) : In g a b lo hi := fun i h1 h2 => by rw [e i h1 h2]; exact h i h1 h2
theorem Rn.cong {f g : Nat → Int32} {a b : Nat} (h : Rn K f a b) (e : ∀ i, a ≤ i → i < b → g i = f i) : Rn K g a b := ⟨h.1.cong e, h.2.cong e⟩
theorem nI_lt_toInt {p q : Nat} (h : p < q) (hq : q < 2 ^ 31) : (nI p).toInt < (nI q).toInt := by rw [nI_toInt (by omega), nI_toInt hq]; omega
/-- places of a lower block: the key's order decides -/
theorem lt_lo {x y : Int32} {p q : Nat} (hx : x = nI p) (hy : y = nI q) (h : p < q) (hq : q < 2 ^ 31) (k : K x ≤ K y) : LT K x y := by
  have := nI_lt_toInt h hq
  subst hx; subst hy
  unfold LT; omega
theorem lt_hi {x y : Int32} (k : K y < K x) : LT K y x := Or.inl k
/-- .. one more at the end -/
theorem Sg.snoc {f : Nat → Int32} {a t : Nat} {v : Int32} (h : Sg K f a t) (hv : ∀ q, a ≤ q → q < t → LT K (f q) v) : Sg K (upd f t v) a (t + 1) := fun i j h1 h2 h3 => by
  rw [pk_un (show i ≠ t by omega)]
  rcases Nat.lt_or_ge j t with q | q
  · rw [pk_un (show j ≠ t by omega)]; exact h i j h1 h2 q
  · rw [show j = t by omega, pk_us]; exact hv i h1 (by omega)
theorem In.snoc {f : Nat → Int32} {a t lo hi p : Nat} {v : Int32} (h : In f a t lo hi) (h1 : lo ≤ p) (h2 : p < hi) (hv : v = nI p) : In (upd f t v) a (t + 1) lo hi := fun i q1 q2 => by
  rcases Nat.lt_or_ge i t with q | q
  · rw [pk_un (show i ≠ t by omega)]; exact h i q1 q
  · rw [show i = t by omega, pk_us]; exact ⟨p, h1, h2, hv⟩
theorem Iv.snoc {w f : Nat → Int32} {a t lo hi p : Nat} {v : Int32} (h : Iv w f a t lo hi) (h1 : lo ≤ p) (h2 : p < hi) (hv : v = w p) : Iv w (upd f t v) a (t + 1) lo hi := fun i q1 q2 => by
  rcases Nat.lt_or_ge i t with q | q
  · rw [pk_un (show i ≠ t by omega)]; exact h i q1 q
  · rw [show i = t by omega, pk_us]; exact ⟨p, h1, h2, hv⟩
theorem Iv.cons {w f : Nat → Int32} {t b lo hi p : Nat} {v : Int32} (h : Iv w f (t + 1) b lo hi) (h1 : lo ≤ p) (h2 : p < hi) (hv : v = w p) : Iv w (upd f t v) t b lo hi := fun i q1 q2 => by
  rcases Nat.lt_or_ge t i with q | q
  · rw [pk_un (show i ≠ t by omega)]; exact h i (by omega) q2
  · rw [show i = t by omega, pk_us]; exact ⟨p, h1, h2, hv⟩
/-- .. one more at the front -/
theorem Sg.cons {f : Nat → Int32} {t b : Nat} {v : Int32} (h : Sg K f (t + 1) b) (hv : ∀ q, t + 1 ≤ q → q < b → LT K v (f q)) : Sg K (upd f t v) t b := fun i j h1 h2 h3 => by
  rw [pk_un (show j ≠ t by omega)]
  rcases Nat.lt_or_ge t i with q | q
  · rw [pk_un (show i ≠ t by omega)]; exact h i j (by omega) h2 h3
  · rw [show i = t by omega, pk_us]; exact hv j (by omega) h3
theorem In.cons {f : Nat → Int32} {t b lo hi p : Nat} {v : Int32} (h : In f (t + 1) b lo hi) (h1 : lo ≤ p) (h2 : p < hi) (hv : v = nI p) : In (upd f t v) t b lo hi := fun i q1 q2 => by
  rcases Nat.lt_or_ge t i with q | q
  · rw [pk_un (show i ≠ t by omega)]; exact h i (by omega) q2
  · rw [show i = t by omega, pk_us]; exact ⟨p, h1, h2, hv⟩
/-- merging upward: i of the left run (which waits in s) and j - b of the right one are placed -/
def MU (K : Int32 → Int) (f0 f s : Nat → Int32) (a n b m lo hi i j : Nat) : Prop :=
  i ≤ n ∧ b ≤ j ∧ j ≤ b + m ∧ (∀ q, q < n → s q = f0 (a + q)) ∧ (∀ q, j ≤ q → q < b + m → f q = f0 q) ∧ (∀ q, (q < a ∨ b + m ≤ q) → f q = f0 q) ∧ Sg K f a (a + i + (j - b)) ∧
  (∀ q t, a ≤ q → q < a + i + (j - b) → i ≤ t → t < n → LT K (f q) (s t)) ∧ (∀ q t, a ≤ q → q < a + i + (j - b) → j ≤ t → t < b + m → LT K (f q) (f0 t)) ∧ Iv f0 f a (a + i + (j - b)) a (b + m)
theorem MU.start {f0 s : Nat → Int32} {a n b m lo hi : Nat} (hab : a + n = b) (hs : ∀ q, q < n → s q = f0 (a + q)) : MU K f0 f0 s a n b m lo hi 0 b :=
  ⟨by omega, by omega, by omega, hs, fun _ _ _ => rfl, fun _ _ => rfl, fun i j h1 h2 h3 => by omega, fun q t h1 h2 => by omega, fun q t h1 h2 => by omega, fun i h1 h2 => by omega⟩
theorem MU.takeR {f0 f s : Nat → Int32} {a n b m lo hi i j : Nat} (hab : a + n = b) (h : MU K f0 f s a n b m lo hi i j) (hi1 : i < n) (hj : j < b + m) (sl : Sg K f0 a b) (sr : Sg K f0 b (b + m)) (ir : In f0 b (b + m) lo hi) (hc : LT K (f j) (s i)) : MU K f0 (upd f (a + i + (j - b)) (f j)) s a n b m lo hi i (j + 1) := by
  obtain ⟨h1, h2, h3, h4, h5, h6, h7, h8, h9, h10⟩ := h
  have e : a + i + (j + 1 - b) = a + i + (j - b) + 1 := by omega
  have fj := h5 j (Nat.le_refl _) hj
  refine ⟨h1, by omega, by omega, h4, fun q q1 q2 => ?_, fun q q1 => ?_, ?_, fun q t q1 q2 q3 q4 => ?_, fun q t q1 q2 q3 q4 => ?_, ?_⟩
  · rw [pk_un (by omega)]; exact h5 q (by omega) q2
  · rw [pk_un (by omega)]; exact h6 q q1
  · rw [e]; exact h7.snoc fun q q1 q2 => by rw [fj]; exact h9 q j q1 q2 (Nat.le_refl _) hj
  · rw [e] at q2
    rcases Nat.lt_or_ge q (a + i + (j - b)) with z | z
    · rw [pk_un (by omega)]; exact h8 q t q1 z q3 q4
    · rw [show q = a + i + (j - b) by omega, pk_us]
      rcases Nat.lt_or_ge i t with y | y
      · exact hc.trans (by rw [h4 i (by omega), h4 t q4]; exact sl _ _ (by omega) (by omega) (by omega))
      · rw [show t = i by omega]; exact hc
  · rw [e] at q2
    rcases Nat.lt_or_ge q (a + i + (j - b)) with z | z
    · rw [pk_un (by omega)]; exact h9 q t q1 z (by omega) q4
    · rw [show q = a + i + (j - b) by omega, pk_us, fj]; exact sr _ _ h2 (by omega) q4
  · rw [e]
    exact h10.snoc (p := j) (by omega) hj fj
theorem MU.takeL {f0 f s : Nat → Int32} {a n b m lo hi i j : Nat} (hab : a + n = b) (h : MU K f0 f s a n b m lo hi i j) (hi1 : i < n) (sl : Sg K f0 a b) (sr : Sg K f0 b (b + m)) (il : In f0 a b lo hi) (hc : j < b + m → LT K (s i) (f j)) : MU K f0 (upd f (a + i + (j - b)) (s i)) s a n b m lo hi (i + 1) j := by
  obtain ⟨h1, h2, h3, h4, h5, h6, h7, h8, h9, h10⟩ := h
  have e : a + (i + 1) + (j - b) = a + i + (j - b) + 1 := by omega
  have si := h4 i hi1
  refine ⟨by omega, h2, h3, h4, fun q q1 q2 => ?_, fun q q1 => ?_, ?_, fun q t q1 q2 q3 q4 => ?_, fun q t q1 q2 q3 q4 => ?_, ?_⟩
  · rw [pk_un (by omega)]; exact h5 q q1 q2
  · rw [pk_un (by omega)]; exact h6 q q1
  · rw [e]; exact h7.snoc fun q q1 q2 => h8 q i q1 q2 (Nat.le_refl _) hi1
  · rw [e] at q2
    rcases Nat.lt_or_ge q (a + i + (j - b)) with z | z
    · rw [pk_un (by omega)]; exact h8 q t q1 z (by omega) q4
    · rw [show q = a + i + (j - b) by omega, pk_us, si, h4 t q4]; exact sl _ _ (by omega) (by omega) (by omega)
  · rw [e] at q2
    have hj : j < b + m := by omega
    have fj := h5 j (Nat.le_refl _) hj
    rcases Nat.lt_or_ge q (a + i + (j - b)) with z | z
    · rw [pk_un (by omega)]; exact h9 q t q1 z q3 q4
    · rw [show q = a + i + (j - b) by omega, pk_us]
      have hcj := hc hj
      rw [fj] at hcj
      rcases Nat.lt_or_ge j t with y | y
      · exact hcj.trans (sr _ _ h2 y q4)
      · rw [show t = j by omega]; exact hcj
  · rw [e]
    exact h10.snoc (p := a + i) (by omega) (by omega) si
theorem MU.done {f0 f s : Nat → Int32} {a n b m lo hi j : Nat} (hab : a + n = b) (h : MU K f0 f s a n b m lo hi n j) (sr : Sg K f0 b (b + m)) (ir : In f0 b (b + m) lo hi) : Sg K f a (b + m) ∧ Iv f0 f a (b + m) a (b + m) ∧ ∀ q, (q < a ∨ b + m ≤ q) → f q = f0 q := by
  obtain ⟨h1, h2, h3, h4, h5, h6, h7, h8, h9, h10⟩ := h
  have e : a + n + (j - b) = j := by omega
  rw [e] at h7 h8 h9 h10
  refine ⟨fun x y q1 q2 q3 => ?_, fun x q1 q2 => ?_, h6⟩
  · rcases Nat.lt_or_ge y j with z | z
    · exact h7 x y q1 q2 z
    · rw [h5 y z q3]
      rcases Nat.lt_or_ge x j with w | w
      · exact h9 x y q1 w z q3
      · rw [h5 x w (by omega)]; exact sr x y (by omega) q2 q3
  · rcases Nat.lt_or_ge x j with z | z
    · exact h10 x q1 z
    · exact ⟨x, q1, q2, h5 x z q2⟩
/-- merging downward: the right run waits in s; u = i + 1 of the cells below, v = j + 1 of the waiting ones are left -/
def MD (K : Int32 → Int) (f0 f s : Nat → Int32) (a n b m lo hi u v : Nat) : Prop :=
  a ≤ u ∧ u ≤ b ∧ v ≤ m ∧ (∀ q, q < m → s q = f0 (b + q)) ∧ (∀ q, a ≤ q → q < u → f q = f0 q) ∧ (∀ q, (q < a ∨ b + m ≤ q) → f q = f0 q) ∧ Sg K f (u + v) (b + m) ∧
  (∀ q t, u + v ≤ q → q < b + m → t < v → LT K (s t) (f q)) ∧ (∀ q t, u + v ≤ q → q < b + m → a ≤ t → t < u → LT K (f0 t) (f q)) ∧ Iv f0 f (u + v) (b + m) a (b + m)
theorem MD.start {f0 s : Nat → Int32} {a n b m lo hi : Nat} (hab : a + n = b) (hs : ∀ q, q < m → s q = f0 (b + q)) : MD K f0 f0 s a n b m lo hi b m :=
  ⟨by omega, by omega, by omega, hs, fun _ _ _ => rfl, fun _ _ => rfl, fun i j h1 h2 h3 => by omega, fun q t h1 h2 => by omega, fun q t h1 h2 => by omega, fun i h1 h2 => by omega⟩
theorem MD.takeL {f0 f s : Nat → Int32} {a n b m lo hi u v : Nat} (hab : a + n = b) (h : MD K f0 f s a n b m lo hi (u + 1) v) (hu : a ≤ u) (sl : Sg K f0 a b) (sr : Sg K f0 b (b + m)) (il : In f0 a b lo hi) (hc : 0 < v → LT K (s (v - 1)) (f u)) : MD K f0 (upd f (u + v) (f u)) s a n b m lo hi u v := by
  obtain ⟨h1, h2, h3, h4, h5, h6, h7, h8, h9, h10⟩ := h
  have e : u + 1 + v = u + v + 1 := by omega
  rw [e] at h7 h8 h9 h10
  have fu := h5 u hu (by omega)
  refine ⟨hu, by omega, h3, h4, fun q q1 q2 => ?_, fun q q1 => ?_, ?_, fun q t q1 q2 q3 => ?_, fun q t q1 q2 q3 q4 => ?_, ?_⟩
  · rw [pk_un (by omega)]; exact h5 q q1 (by omega)
  · rw [pk_un (by omega)]; exact h6 q q1
  · exact h7.cons fun q q1 q2 => by rw [fu]; exact h9 q u q1 q2 hu (by omega)
  · rcases Nat.lt_or_ge (u + v) q with z | z
    · rw [pk_un (by omega)]; exact h8 q t (by omega) q2 q3
    · rw [show q = u + v by omega, pk_us]
      have hcv := hc (by omega)
      rcases Nat.lt_or_ge t (v - 1) with y | y
      · refine LT.trans ?_ hcv
        rw [h4 t (by omega), h4 (v - 1) (by omega)]; exact sr _ _ (by omega) (by omega) (by omega)
      · rw [show t = v - 1 by omega]; exact hcv
  · rcases Nat.lt_or_ge (u + v) q with z | z
    · rw [pk_un (by omega)]; exact h9 q t (by omega) q2 q3 (by omega)
    · rw [show q = u + v by omega, pk_us, fu]; exact sl _ _ q3 q4 (by omega)
  · exact h10.cons (p := u) hu (by omega) fu
theorem MD.takeR {f0 f s : Nat → Int32} {a n b m lo hi u v : Nat} (hab : a + n = b) (h : MD K f0 f s a n b m lo hi u (v + 1)) (sl : Sg K f0 a b) (sr : Sg K f0 b (b + m)) (ir : In f0 b (b + m) lo hi) (hc : a < u → LT K (f (u - 1)) (s v)) : MD K f0 (upd f (u + v) (s v)) s a n b m lo hi u v := by
  obtain ⟨h1, h2, h3, h4, h5, h6, h7, h8, h9, h10⟩ := h
  have e : u + (v + 1) = u + v + 1 := by omega
  rw [e] at h7 h8 h9 h10
  have sv := h4 v (by omega)
  refine ⟨h1, h2, by omega, h4, fun q q1 q2 => ?_, fun q q1 => ?_, ?_, fun q t q1 q2 q3 => ?_, fun q t q1 q2 q3 q4 => ?_, ?_⟩
  · rw [pk_un (by omega)]; exact h5 q q1 q2
  · rw [pk_un (by omega)]; exact h6 q q1
  · exact h7.cons fun q q1 q2 => h8 q v q1 q2 (by omega)
  · rcases Nat.lt_or_ge (u + v) q with z | z
    · rw [pk_un (by omega)]; exact h8 q t (by omega) q2 (by omega)
    · rw [show q = u + v by omega, pk_us, h4 t (by omega), sv]; exact sr _ _ (by omega) (by omega) (by omega)
  · rcases Nat.lt_or_ge (u + v) q with z | z
    · rw [pk_un (by omega)]; exact h9 q t (by omega) q2 q3 q4
    · rw [show q = u + v by omega, pk_us]
      have hcu := hc (by omega)
      rw [h5 (u - 1) (by omega) (by omega)] at hcu
      rcases Nat.lt_or_ge t (u - 1) with y | y
      · exact (sl t (u - 1) q3 y (by omega)).trans hcu
      · rw [show t = u - 1 by omega]; exact hcu
  · exact h10.cons (p := b + v) (by omega) (by omega) sv
theorem MD.done {f0 f s : Nat → Int32} {a n b m lo hi u : Nat} (hab : a + n = b) (h : MD K f0 f s a n b m lo hi u 0) (sl : Sg K f0 a b) (il : In f0 a b lo hi) : Sg K f a (b + m) ∧ Iv f0 f a (b + m) a (b + m) ∧ ∀ q, (q < a ∨ b + m ≤ q) → f q = f0 q := by
  obtain ⟨h1, h2, h3, h4, h5, h6, h7, h8, h9, h10⟩ := h
  rw [Nat.add_zero] at h7 h8 h9 h10
  refine ⟨fun x y q1 q2 q3 => ?_, fun x q1 q2 => ?_, h6⟩
  · rcases Nat.lt_or_ge x u with z | z
    · rw [h5 x q1 z]
      rcases Nat.lt_or_ge y u with w | w
      · rw [h5 y (by omega) w]; exact sl x y q1 q2 (by omega)
      · exact h9 y x w q3 q1 z
    · exact h7 x y z q2 q3
  · rcases Nat.lt_or_ge x u with z | z
    · exact ⟨x, q1, q2, h5 x q1 z⟩
    · exact h10 x z q2
end PS
end
section
/-! the cells: addresses by a table a: 0 RunSorter, 1 numbers, 2 tags, 3 old, 4 oldTags, 5 orders, 6..9 the four orders, 10 sorter, 11 cells, 12 spare, 13 from, 14 length; 20 the reference, 21 row, 22 its tags; 23 out. hB: the ByNumber in use, k: its order, g: old -/
def Ky (k : Nat) (g : Nat → Int32) (x : Int32) : Int := ky k (g x.toNatClampNeg)
def WC (cI : ClassId) (a : Nat → Nat) (hB k : Nat) (g : Nat → Int32) : va_W := [(hB, .inr (2, [.ref (a (6 + k)), .ref (a 3)])), (a 3, .inl (cI, 2000, .inl g)), (a 6, .inr (3, [])), (a 7, .inr (4, [])), (a 8, .inr (5, [])), (a 9, .inr (6, []))]
def WS (cI : ClassId) (a : Nat → Nat) (hB k : Nat) (g : Nat → Int32) (rn gl : Int32) (fC fSp fF fL : Nat → Int32) : va_W := (a 13, .inl (cI, 40, .inl fF)) :: (a 14, .inl (cI, 40, .inl fL)) :: (a 12, .inl (cI, 2000, .inl fSp)) :: (a 10, .inr (1, [.ref (a 11), .ref (a 12), .ref (a 13), .ref (a 14), .int rn, .int gl, .ref hB])) :: (a 11, .inl (cI, 2000, .inl fC)) :: WC cI a hB k g
theorem P_nil {D : va_G} {H : Heap} : va_P D vCL [] H := fun _ _ h => by cases h
end
section
set_option maxHeartbeats 4000000 in
set_option maxRecDepth 100000 in
theorem c_O0_compare (l : Launch) (D : va_G) (cI cJ cO : ClassId) (o : Nat) (u v : Int32) : Met l y_O0_compare [Cond.code y_O0_compare b_O0_compare 3 (some .int)] (rk 0 0 0) (PR D cI cJ cO [.ref o, .int u, .int v] []) (vp_Si (cmpP (ky 0 u) (ky 0 v))) 0 0 (fun _ => False) := by
  refine entR (by decide) (Nat.le_of_ble_eq_true rfl) ?_
  intro p e s m below meth c ls X hr hlocks hP hl
  have hx := X.x
  have hb := X.b
  have hl : lv_has ls 3 [(0, .ref o), (1, .int u), (2, .int v)] := hl
  refine lv_iload_n hx hb d_O0_compare_0 rfl (lv_at hl 1 rfl) ?_
  refine lv_iload_n hx hb d_O0_compare_1 rfl (lv_at hl 2 rfl) ?_
  refine lv_icmp_ge (tgt := 9) hx hb d_O0_compare_2 (by decide) (fun h1 => ?_) (fun h1 => ?_)
  · refine lv_iload_n hx hb d_O0_compare_9 rfl (lv_at hl 1 rfl) ?_
    refine lv_iload_n hx hb d_O0_compare_10 rfl (lv_at hl 2 rfl) ?_
    refine lv_icmp_le (tgt := 18) hx hb d_O0_compare_11 (by decide) (fun h2 => ?_) (fun h2 => ?_)
    · refine lv_iconst (v := nI 0) hx hb d_O0_compare_18 (by decide) ?_
      exact W.iret (v := nI 0) hx hb hr (fun t ht _ => ⟨nI 0, rfl, cm_zero (by rw [i32_le] at *; rw [ky0, ky0]; omega), ht⟩) (fun q h => by cases h) d_O0_compare_19
    · refine lv_iconst (v := nI 1) hx hb d_O0_compare_14 (by decide) ?_
      refine lv_goto (tgt := 19) hx hb d_O0_compare_15 (by decide) ?_
      exact W.iret (v := nI 1) hx hb hr (fun t ht _ => ⟨nI 1, rfl, cm_pos (by rw [i32_le] at *; rw [ky0, ky0]; omega), ht⟩) (fun q h => by cases h) d_O0_compare_19
  · refine lv_iconst (v := -1) hx hb d_O0_compare_5 (by decide) ?_
    refine lv_goto (tgt := 19) hx hb d_O0_compare_6 (by decide) ?_
    exact W.iret (v := -1) hx hb hr (fun t ht _ => ⟨-1, rfl, cm_neg (by rw [i32_le] at *; rw [ky0, ky0]; omega), ht⟩) (fun q h => by cases h) d_O0_compare_19
set_option maxHeartbeats 4000000 in
set_option maxRecDepth 100000 in
theorem c_O1_compare (l : Launch) (D : va_G) (cI cJ cO : ClassId) (o : Nat) (u v : Int32) : Met l y_O1_compare [Cond.code y_O1_compare b_O1_compare 3 (some .int)] (rk 0 0 0) (PR D cI cJ cO [.ref o, .int u, .int v] []) (vp_Si (cmpP (ky 1 u) (ky 1 v))) 0 0 (fun _ => False) := by
  refine entR (by decide) (Nat.le_of_ble_eq_true rfl) ?_
  intro p e s m below meth c ls X hr hlocks hP hl
  have hx := X.x
  have hb := X.b
  have hl : lv_has ls 3 [(0, .ref o), (1, .int u), (2, .int v)] := hl
  refine lv_iload_n hx hb d_O1_compare_0 rfl (lv_at hl 1 rfl) ?_
  refine lv_iload_n hx hb d_O1_compare_1 rfl (lv_at hl 2 rfl) ?_
  refine lv_icmp_le (tgt := 9) hx hb d_O1_compare_2 (by decide) (fun h1 => ?_) (fun h1 => ?_)
  · refine lv_iload_n hx hb d_O1_compare_9 rfl (lv_at hl 1 rfl) ?_
    refine lv_iload_n hx hb d_O1_compare_10 rfl (lv_at hl 2 rfl) ?_
    refine lv_icmp_ge (tgt := 18) hx hb d_O1_compare_11 (by decide) (fun h2 => ?_) (fun h2 => ?_)
    · refine lv_iconst (v := nI 0) hx hb d_O1_compare_18 (by decide) ?_
      exact W.iret (v := nI 0) hx hb hr (fun t ht _ => ⟨nI 0, rfl, cm_zero (by rw [i32_le] at *; rw [ky1, ky1]; omega), ht⟩) (fun q h => by cases h) d_O1_compare_19
    · refine lv_iconst (v := nI 1) hx hb d_O1_compare_14 (by decide) ?_
      refine lv_goto (tgt := 19) hx hb d_O1_compare_15 (by decide) ?_
      exact W.iret (v := nI 1) hx hb hr (fun t ht _ => ⟨nI 1, rfl, cm_pos (by rw [i32_le] at *; rw [ky1, ky1]; omega), ht⟩) (fun q h => by cases h) d_O1_compare_19
  · refine lv_iconst (v := -1) hx hb d_O1_compare_5 (by decide) ?_
    refine lv_goto (tgt := 19) hx hb d_O1_compare_6 (by decide) ?_
    exact W.iret (v := -1) hx hb hr (fun t ht _ => ⟨-1, rfl, cm_neg (by rw [i32_le] at *; rw [ky1, ky1]; omega), ht⟩) (fun q h => by cases h) d_O1_compare_19
set_option maxHeartbeats 4000000 in
set_option maxRecDepth 100000 in
theorem c_O2_compare (l : Launch) (D : va_G) (cI cJ cO : ClassId) (o : Nat) (u v : Int32) : Met l y_O2_compare [Cond.code y_O2_compare b_O2_compare 3 (some .int)] (rk 0 0 0) (PR D cI cJ cO [.ref o, .int u, .int v] []) (vp_Si (cmpP (ky 2 u) (ky 2 v))) 0 0 (fun _ => False) := by
  refine entR (by decide) (Nat.le_of_ble_eq_true rfl) ?_
  intro p e s m below meth c ls X hr hlocks hP hl
  have hx := X.x
  have hb := X.b
  have hl : lv_has ls 3 [(0, .ref o), (1, .int u), (2, .int v)] := hl
  refine lv_iload_n hx hb d_O2_compare_0 rfl (lv_at hl 1 rfl) ?_
  refine lv_bipush (v := nI 15) hx hb d_O2_compare_1 (by decide) ?_
  refine lv_iand hx hb d_O2_compare_3 ?_
  refine lv_iload_n hx hb d_O2_compare_4 rfl (lv_at hl 2 rfl) ?_
  refine lv_bipush (v := nI 15) hx hb d_O2_compare_5 (by decide) ?_
  refine lv_iand hx hb d_O2_compare_7 ?_
  refine lv_isub hx hb d_O2_compare_8 ?_
  obtain ⟨i, i1, i2, i3⟩ := ky2 u
  obtain ⟨j, j1, j2, j3⟩ := ky2 v
  have hd : (nI i - nI j).toInt = (i : Int) - j := pk_sub_toInt (by omega) (by omega)
  exact W.iret (v := (u &&& (nI 15)) - (v &&& (nI 15))) hx hb hr (fun t ht _ => ⟨(u &&& (nI 15)) - (v &&& (nI 15)), rfl, by rw [i2, j2, i3, j3]; constructor <;> rw [i32_ltI, Int32.toInt_zero, hd] <;> omega, ht⟩) (fun q h => by cases h) d_O2_compare_9
set_option maxHeartbeats 4000000 in
set_option maxRecDepth 100000 in
theorem c_O3_compare (l : Launch) (D : va_G) (cI cJ cO : ClassId) (o : Nat) (u v : Int32) : Met l y_O3_compare [Cond.code y_O3_compare b_O3_compare 3 (some .int)] (rk 0 0 0) (PR D cI cJ cO [.ref o, .int u, .int v] []) (vp_Si (cmpP (ky 3 u) (ky 3 v))) 0 0 (fun _ => False) := by
  refine entR (by decide) (Nat.le_of_ble_eq_true rfl) ?_
  intro p e s m below meth c ls X hr hlocks hP hl
  have hx := X.x
  have hb := X.b
  have hl : lv_has ls 3 [(0, .ref o), (1, .int u), (2, .int v)] := hl
  refine lv_iload_n hx hb d_O3_compare_0 rfl (lv_at hl 1 rfl) ?_
  refine lv_ldc (v := (-2147483648)) hx hb X.o (X.w q_287 _) d_O3_compare_1 ?_
  refine lv_iadd hx hb d_O3_compare_3 ?_
  refine lv_iload_n hx hb d_O3_compare_4 rfl (lv_at hl 2 rfl) ?_
  refine lv_ldc (v := (-2147483648)) hx hb X.o (X.w q_287 _) d_O3_compare_5 ?_
  refine lv_iadd hx hb d_O3_compare_7 ?_
  refine lv_icmp_ge (tgt := 15) hx hb d_O3_compare_8 (by decide) (fun h1 => ?_) (fun h1 => ?_)
  · refine lv_iload_n hx hb d_O3_compare_15 rfl (lv_at hl 1 rfl) ?_
    refine lv_iload_n hx hb d_O3_compare_16 rfl (lv_at hl 2 rfl) ?_
    refine lv_icmp_ne (tgt := 24) hx hb d_O3_compare_17 (by decide) (fun h2 => ?_) (fun h2 => ?_)
    · refine lv_iconst (v := nI 1) hx hb d_O3_compare_24 (by decide) ?_
      exact W.iret (v := nI 1) hx hb hr (fun t ht _ => ⟨nI 1, rfl, cm_pos (by rw [i32_le, amn_int, amn_int] at h1; rw [ky3, ky3]; have h3 : u.toBitVec.toNat ≠ v.toBitVec.toNat := fun q => h2 (i32_nat_inj q); omega), ht⟩) (fun q h => by cases h) d_O3_compare_25
    · refine lv_iconst (v := nI 0) hx hb d_O3_compare_20 (by decide) ?_
      refine lv_goto (tgt := 25) hx hb d_O3_compare_21 (by decide) ?_
      exact W.iret (v := nI 0) hx hb hr (fun t ht _ => ⟨nI 0, rfl, cm_zero (by rw [h2]), ht⟩) (fun q h => by cases h) d_O3_compare_25
  · refine lv_iconst (v := -1) hx hb d_O3_compare_11 (by decide) ?_
    refine lv_goto (tgt := 25) hx hb d_O3_compare_12 (by decide) ?_
    exact W.iret (v := -1) hx hb hr (fun t ht _ => ⟨-1, rfl, cm_neg (by rw [i32_le, amn_int, amn_int] at h1; rw [ky3, ky3]; omega), ht⟩) (fun q h => by cases h) d_O3_compare_25
set_option maxHeartbeats 4000000 in
set_option maxRecDepth 100000 in
theorem c_B_compare (l : Launch) (D : va_G) (cI cJ cO : ClassId) (a : Nat → Nat) (hB k : Nat) (g : Nat → Int32) (u v : Int32) (hk : k < 4) (hu : vp_in u 2000) (hv : vp_in v 2000) : Met l y_B_compare [Cond.code y_B_compare b_B_compare 3 (some .int)] (rk 1 0 0) (PR D cI cJ cO [.ref hB, .int u, .int v] (WC cI a hB k g)) (vp_Si (cmpP (Ky k g u) (Ky k g v))) 0 0 (fun _ => False) := by
  refine entR (by decide) (Nat.le_of_ble_eq_true rfl) ?_
  intro p e s m below meth c ls X hr hlocks hP hl
  have hx := X.x
  have hb := X.b
  have hl : lv_has ls 3 [(0, .ref hB), (1, .int u), (2, .int v)] := hl
  refine lv_aload_n hx hb d_B_compare_0 rfl (lv_at hl 0 rfl) ?_
  refine g_B_order X hP 0 rfl rfl d_B_compare_1 ?_
  refine lv_aload_n hx hb d_B_compare_4 rfl (lv_at hl 0 rfl) ?_
  refine g_B_numbers X hP 0 rfl rfl d_B_compare_5 ?_
  refine lv_iload_n hx hb d_B_compare_8 rfl (lv_at hl 1 rfl) ?_
  refine va_iald hx hb X.K hP 1 0 rfl rfl (hu) d_B_compare_9 ?_
  refine lv_aload_n hx hb d_B_compare_10 rfl (lv_at hl 0 rfl) ?_
  refine g_B_numbers X hP 0 rfl rfl d_B_compare_11 ?_
  refine lv_iload_n hx hb d_B_compare_14 rfl (lv_at hl 2 rfl) ?_
  refine va_iald hx hb X.K hP 1 0 rfl rfl (hv) d_B_compare_15 ?_
  rcases (show k = 0 ∨ k = 1 ∨ k = 2 ∨ k = 3 by omega) with rfl | rfl | rfl | rfl
  · refine rd_F (C := R_O0) (cC := D.1 3) (wc := []) X (X.K.1 3 _ rfl).2 (c_O0_compare l D cI cJ cO _ _ _) (cx_F X _ wk_B_17 wf_decl wf_face wf_sel_O0 wm_O0_compare wf_pub_O0 wf_unh_O0 wf_cast_O0 wi_O0_compare wc_O0_compare wd_cmp ⟨by decide, by decide⟩) P_nil (rcv X hP (ci := 3) (q0 := 2) rfl rfl) rfl hl.1 rfl (by decide) d_B_compare_16 ⟨Nat.zero_le _, Nat.zero_le _⟩ (fun rr hrr => ?_)
    exact W.iret (v := rr) hx hb hr (fun t ht _ => ⟨rr, rfl, hrr, ht⟩) (fun q h => by cases h) d_B_compare_21
  · refine rd_F (C := R_O1) (cC := D.1 4) (wc := []) X (X.K.1 4 _ rfl).2 (c_O1_compare l D cI cJ cO _ _ _) (cx_F X _ wk_B_17 wf_decl wf_face wf_sel_O1 wm_O1_compare wf_pub_O1 wf_unh_O1 wf_cast_O1 wi_O1_compare wc_O1_compare wd_cmp ⟨by decide, by decide⟩) P_nil (rcv X hP (ci := 4) (q0 := 3) rfl rfl) rfl hl.1 rfl (by decide) d_B_compare_16 ⟨Nat.zero_le _, Nat.zero_le _⟩ (fun rr hrr => ?_)
    exact W.iret (v := rr) hx hb hr (fun t ht _ => ⟨rr, rfl, hrr, ht⟩) (fun q h => by cases h) d_B_compare_21
  · refine rd_F (C := R_O2) (cC := D.1 5) (wc := []) X (X.K.1 5 _ rfl).2 (c_O2_compare l D cI cJ cO _ _ _) (cx_F X _ wk_B_17 wf_decl wf_face wf_sel_O2 wm_O2_compare wf_pub_O2 wf_unh_O2 wf_cast_O2 wi_O2_compare wc_O2_compare wd_cmp ⟨by decide, by decide⟩) P_nil (rcv X hP (ci := 5) (q0 := 4) rfl rfl) rfl hl.1 rfl (by decide) d_B_compare_16 ⟨Nat.zero_le _, Nat.zero_le _⟩ (fun rr hrr => ?_)
    exact W.iret (v := rr) hx hb hr (fun t ht _ => ⟨rr, rfl, hrr, ht⟩) (fun q h => by cases h) d_B_compare_21
  · refine rd_F (C := R_O3) (cC := D.1 6) (wc := []) X (X.K.1 6 _ rfl).2 (c_O3_compare l D cI cJ cO _ _ _) (cx_F X _ wk_B_17 wf_decl wf_face wf_sel_O3 wm_O3_compare wf_pub_O3 wf_unh_O3 wf_cast_O3 wi_O3_compare wc_O3_compare wd_cmp ⟨by decide, by decide⟩) P_nil (rcv X hP (ci := 6) (q0 := 5) rfl rfl) rfl hl.1 rfl (by decide) d_B_compare_16 ⟨Nat.zero_le _, Nat.zero_le _⟩ (fun rr hrr => ?_)
    exact W.iret (v := rr) hx hb hr (fun t ht _ => ⟨rr, rfl, hrr, ht⟩) (fun q h => by cases h) d_B_compare_21
end
section
theorem cmpP.nlt {u v : Int} {r : Int32} (h : cmpP u v r) (q : ¬ r < 0) : v ≤ u := Int.not_lt.mp fun z => q (h.1.mpr z)
theorem cmpP.nge {u v : Int} {r : Int32} (h : cmpP u v r) (q : ¬ 0 ≤ r) : u < v := Int.not_le.mp fun z => q (h.ge.mpr z)
section SR
variable {D : va_G} {cI cJ cO : ClassId} {p : Program} {l : Launch} {e : Env} {R : Room} {s : State} {m : MethodId} {args : Array Value} {below : List Frame} {meth : Method} {c : Code} {H : Heap} {locs : List Loc} {cells slots : Nat} {Q : State → Prop}
variable {a : Nat → Nat} {hB k : Nat} {g : Nat → Int32} {rn gl : Int32} {fC fSp fF fL : Nat → Int32}
/-- order.compare(u, v) in the sorter: decides the keys -/
theorem cS_cmp {cc : ByteArray} {nL pc : Nat} {ls : Array Slot} {rest : List Value} {u v : Int32} (X : Cx D cI cJ cO p s m c cc nL R_S) (hk : k < 4) (hP : va_P D vCL (WS cI a hB k g rn gl fC fSp fF fL) H) (hR : 2 ≤ R.frames ∧ 180 ≤ R.locals) (hf : cells ≤ R.cells ∧ slots ≤ R.slots) (hl : ls.size = nL) (hu : vp_in u 2000) (hv : vp_in v 2000) (hW : (rest.map fun v => v.category).sum ≤ 8) (hdg : decode cc pc = .ok (.invokeinterface 54 3, 5))
    (kk : ∀ r : Int32, cmpP (Ky k g u) (Ky k g v) r → W p l e R s m args below meth c H locs cells slots Q (F0 m (pc + 5) ls (.int r :: rest))) : W p l e R s m args below meth c H locs cells slots Q (F0 m pc ls (.int v :: .int u :: .ref hB :: rest)) :=
  rd_F (C := R_B) (cC := D.1 2) (wc := WC cI a hB k g) X (X.K.1 2 _ rfl).2 (c_B_compare l D cI cJ cO a hB k g u v hk hu hv) (cx_F X _ wk_S_54 wf_decl wf_face wf_sel_B wm_B_compare wf_pub_B wf_unh_B wf_cast_B wi_B_compare wc_B_compare wd_cmp ⟨hR.1, by omega⟩) (sub_P hP [5, 6, 7, 8, 9, 10] rfl) (rcv X hP (ci := 2) (q0 := 5) rfl rfl) rfl hl rfl hW hdg hf kk
set_option maxHeartbeats 4000000 in
theorem l_behind1 {u : Int32} {at_ n : Nat} (X : Cx D cI cJ cO p s m c b_S_behind 8 R_S) (hk : k < 4) (hP : va_P D vCL (WS cI a hB k g rn gl fC fSp fF fL) H) (hR : 2 ≤ R.frames ∧ 180 ≤ R.locals) (hf : cells ≤ R.cells ∧ slots ≤ R.slots) (hu : vp_in u 2000) (hat : at_ + n ≤ 2000) (hin : In fC at_ (at_ + n) 0 2000) (mono : ∀ i j, at_ ≤ i → i ≤ j → j < at_ + n → Ky k g (fC i) ≤ Ky k g (fC j)) (kk : ∀ (low : Nat) (ls : Array Slot), low ≤ n → (∀ i, i < low → Ky k g (fC (at_ + i)) ≤ Ky k g u) → (low + (low + 1) ≤ n → Ky k g u < Ky k g (fC (at_ + (low + low)))) → lv_has ls 8 [(0, .ref (a 10)), (1, .int u), (2, .int (nI at_)), (3, .int (nI n)), (4, .int (nI (low + 1))), (5, .int (nI low))] → W p l e R s m args below meth c H locs cells slots Q (F0 m 58 ls [])) : ∀ (fuel low : Nat) (ls : Array Slot), n - low < fuel → low ≤ n → (∀ i, i < low → Ky k g (fC (at_ + i)) ≤ Ky k g u) → lv_has ls 8 [(0, .ref (a 10)), (1, .int u), (2, .int (nI at_)), (3, .int (nI n)), (4, .int (nI (low + 1))), (5, .int (nI low))] → W p l e R s m args below meth c H locs cells slots Q (F0 m 6 ls []) := by
  have hx := X.x
  have hb := X.b
  intro fuel
  induction fuel with
  | zero => intro low ls h; omega
  | succ fuel ih =>
    intro low ls hfu hlow hall hl
    refine lv_iload hx hb d_S_behind_6 (lv_at hl 5 rfl) ?_
    refine lv_iload hx hb d_S_behind_8 (lv_at hl 4 rfl) ?_
    refine w_add hx hb d_S_behind_10 ?_
    refine lv_iload_n hx hb d_S_behind_11 rfl (lv_at hl 3 rfl) ?_
    refine w_icmp_gt (tgt := 58) hx hb d_S_behind_12 (by decide) ⟨by omega, by omega⟩ (fun h1 => ?_) (fun h1 => ?_)
    · exact kk low ls hlow hall (fun h => by omega) hl
    · refine lv_aload_n hx hb d_S_behind_15 rfl (lv_at hl 0 rfl) ?_
      refine g_S_order X hP 3 rfl rfl d_S_behind_16 ?_
      refine lv_iload_n hx hb d_S_behind_19 rfl (lv_at hl 1 rfl) ?_
      refine lv_aload_n hx hb d_S_behind_20 rfl (lv_at hl 0 rfl) ?_
      refine g_S_cells X hP 3 rfl rfl d_S_behind_21 ?_
      refine lv_iload_n hx hb d_S_behind_24 rfl (lv_at hl 2 rfl) ?_
      refine lv_iload hx hb d_S_behind_25 (lv_at hl 5 rfl) ?_
      refine w_add hx hb d_S_behind_27 ?_
      refine lv_iload hx hb d_S_behind_28 (lv_at hl 4 rfl) ?_
      refine w_add hx hb d_S_behind_30 ?_
      refine lv_iconst (v := nI 1) hx hb d_S_behind_31 (by decide) ?_
      refine w_sub hx hb d_S_behind_32 (by omega) ?_
      refine w_to (y := nI (at_ + (low + low))) (congrArg nI (by omega)) ?_
      refine w_ald X hP 4 rfl (by omega) (by decide) d_S_behind_33 ?_
      refine cS_cmp X hk hP hR hf hl.1 hu (hin.vd (Nat.le_refl _) (by omega) (by omega)) (by decide) d_S_behind_34 (fun rr hrr => ?_)
      refine lv_if_lt (tgt := 58) hx hb d_S_behind_39 (by decide) (fun h2 => ?_) (fun h2 => ?_)
      · exact kk low ls hlow hall (fun _ => hrr.1.mp h2) hl
      · refine lv_iload hx hb d_S_behind_42 (lv_at hl 5 rfl) ?_
        refine lv_iload hx hb d_S_behind_44 (lv_at hl 4 rfl) ?_
        refine w_add hx hb d_S_behind_46 ?_
        refine lv_istore (lv' := [(5, .int (nI (low + (low + 1)))), (0, .ref (a 10)), (1, .int u), (2, .int (nI at_)), (3, .int (nI n)), (4, .int (nI (low + 1)))]) hx hb d_S_behind_47 hl (by decide) rfl ?_
        clear hl; intro ls hl
        refine lv_iload hx hb d_S_behind_49 (lv_at hl 5 rfl) ?_
        refine lv_iconst (v := nI 2) hx hb d_S_behind_51 (by decide) ?_
        refine w_mul hx hb d_S_behind_52 ?_
        refine w_to (y := nI (low + (low + 1) + 1)) (congrArg nI (by omega)) ?_
        refine lv_istore (lv' := [(4, .int (nI (low + (low + 1) + 1))), (5, .int (nI (low + (low + 1)))), (0, .ref (a 10)), (1, .int u), (2, .int (nI at_)), (3, .int (nI n))]) hx hb d_S_behind_53 hl (by decide) rfl ?_
        clear hl; intro ls hl
        refine lv_goto (tgt := 6) hx hb d_S_behind_55 (by decide) ?_
        refine ih (low + (low + 1)) ls (by omega) (by omega) (fun i hi => ?_) (lv_sub hl [2, 3, 4, 5, 0, 1] rfl)
        have h3 : Ky k g (fC (at_ + (low + low))) ≤ Ky k g u := hrr.nlt h2
        exact Int.le_trans (mono _ _ (by omega) (by omega) (by omega)) h3
set_option maxHeartbeats 4000000 in
theorem l_behind2 {u : Int32} {at_ n : Nat} (X : Cx D cI cJ cO p s m c b_S_behind 8 R_S) (hk : k < 4) (hP : va_P D vCL (WS cI a hB k g rn gl fC fSp fF fL) H) (hR : 2 ≤ R.frames ∧ 180 ≤ R.locals) (hf : cells ≤ R.cells ∧ slots ≤ R.slots) (hu : vp_in u 2000) (hat : at_ + n ≤ 2000) (hin : In fC at_ (at_ + n) 0 2000) (mono : ∀ i j, at_ ≤ i → i ≤ j → j < at_ + n → Ky k g (fC i) ≤ Ky k g (fC j)) (kk : ∀ (q : Nat) (ls : Array Slot), q ≤ n → (∀ i, i < q → Ky k g (fC (at_ + i)) ≤ Ky k g u) → (∀ i, q ≤ i → i < n → Ky k g u < Ky k g (fC (at_ + i))) → lv_has ls 8 [(0, .ref (a 10)), (5, .int (nI q))] → W p l e R s m args below meth c H locs cells slots Q (F0 m 134 ls [])) : ∀ (fuel low high : Nat) (ls : Array Slot), high - low < fuel → low ≤ high → high ≤ n → (∀ i, i < low → Ky k g (fC (at_ + i)) ≤ Ky k g u) → (∀ i, high ≤ i → i < n → Ky k g u < Ky k g (fC (at_ + i))) → lv_has ls 8 [(0, .ref (a 10)), (1, .int u), (2, .int (nI at_)), (3, .int (nI n)), (5, .int (nI low)), (6, .int (nI high))] → W p l e R s m args below meth c H locs cells slots Q (F0 m 80 ls []) := by
  have hx := X.x
  have hb := X.b
  intro fuel
  induction fuel with
  | zero => intro low high ls h; omega
  | succ fuel ih =>
    intro low high ls hfu hlow hhi hall hbig hl
    refine lv_iload hx hb d_S_behind_80 (lv_at hl 4 rfl) ?_
    refine lv_iload hx hb d_S_behind_82 (lv_at hl 5 rfl) ?_
    refine w_icmp_ge (tgt := 134) hx hb d_S_behind_84 (by decide) ⟨by omega, by omega⟩ (fun h1 => ?_) (fun h1 => ?_)
    · exact kk low ls (by omega) hall (fun i h2 h3 => hbig i (by omega) h3) (lv_sub hl [0, 4] rfl)
    · refine lv_iload hx hb d_S_behind_87 (lv_at hl 4 rfl) ?_
      refine lv_iload hx hb d_S_behind_89 (lv_at hl 5 rfl) ?_
      refine w_add hx hb d_S_behind_91 ?_
      refine lv_iconst (v := nI 1) hx hb d_S_behind_92 (by decide) ?_
      refine w_ushr1 hx hb d_S_behind_93 (by omega) ?_
      generalize hm : (low + high) / 2 = mid at *
      have hm1 : low ≤ mid ∧ mid < high := by omega
      refine lv_istore (lv' := [(7, .int (nI mid)), (0, .ref (a 10)), (1, .int u), (2, .int (nI at_)), (3, .int (nI n)), (5, .int (nI low)), (6, .int (nI high))]) hx hb d_S_behind_94 hl (by decide) rfl ?_
      clear hl; intro ls hl
      refine lv_aload_n hx hb d_S_behind_96 rfl (lv_at hl 1 rfl) ?_
      refine g_S_order X hP 3 rfl rfl d_S_behind_97 ?_
      refine lv_iload_n hx hb d_S_behind_100 rfl (lv_at hl 2 rfl) ?_
      refine lv_aload_n hx hb d_S_behind_101 rfl (lv_at hl 1 rfl) ?_
      refine g_S_cells X hP 3 rfl rfl d_S_behind_102 ?_
      refine lv_iload_n hx hb d_S_behind_105 rfl (lv_at hl 3 rfl) ?_
      refine lv_iload hx hb d_S_behind_106 (lv_at hl 0 rfl) ?_
      refine w_add hx hb d_S_behind_108 ?_
      refine w_ald X hP 4 rfl (by omega) (by decide) d_S_behind_109 ?_
      refine cS_cmp X hk hP hR hf hl.1 hu (hin.vd (Nat.le_refl _) (by omega) (by omega)) (by decide) d_S_behind_110 (fun rr hrr => ?_)
      refine lv_if_lt (tgt := 127) hx hb d_S_behind_115 (by decide) (fun h2 => ?_) (fun h2 => ?_)
      · refine lv_iload hx hb d_S_behind_127 (lv_at hl 0 rfl) ?_
        refine lv_istore (lv' := [(6, .int (nI mid)), (7, .int (nI mid)), (0, .ref (a 10)), (1, .int u), (2, .int (nI at_)), (3, .int (nI n)), (5, .int (nI low))]) hx hb d_S_behind_129 hl (by decide) rfl ?_
        clear hl; intro ls hl
        refine lv_goto (tgt := 80) hx hb d_S_behind_131 (by decide) ?_
        refine ih low mid ls (by omega) (by omega) (by omega) hall (fun i q1 q2 => ?_) (lv_sub hl [2, 3, 4, 5, 6, 0] rfl)
        exact Int.lt_of_lt_of_le (hrr.1.mp h2) (mono _ _ (by omega) (by omega) (by omega))
      · refine lv_iload hx hb d_S_behind_118 (lv_at hl 0 rfl) ?_
        refine lv_iconst (v := nI 1) hx hb d_S_behind_120 (by decide) ?_
        refine w_add hx hb d_S_behind_121 ?_
        refine lv_istore (lv' := [(5, .int (nI (mid + 1))), (7, .int (nI mid)), (0, .ref (a 10)), (1, .int u), (2, .int (nI at_)), (3, .int (nI n)), (6, .int (nI high))]) hx hb d_S_behind_122 hl (by decide) rfl ?_
        clear hl; intro ls hl
        refine lv_goto (tgt := 131) hx hb d_S_behind_124 (by decide) ?_
        refine lv_goto (tgt := 80) hx hb d_S_behind_131 (by decide) ?_
        have h3 : Ky k g (fC (at_ + mid)) ≤ Ky k g u := hrr.nlt h2
        refine ih (mid + 1) high ls (by omega) (by omega) (by omega) (fun i q1 => ?_) hbig (lv_sub hl [2, 3, 4, 5, 0, 6] rfl)
        exact Int.le_trans (mono _ _ (by omega) (by omega) (by omega)) h3
end SR
set_option maxHeartbeats 4000000 in
/-- behind(u, at, n): how many of the run are not behind u -/
theorem c_S_behind (l : Launch) (D : va_G) (cI cJ cO : ClassId) (a : Nat → Nat) (hB k : Nat) (g : Nat → Int32) (rn gl : Int32) (fC fSp fF fL : Nat → Int32) (u : Int32) (at_ n : Nat) (hk : k < 4) (hu : vp_in u 2000) (hat : at_ + n ≤ 2000) (hin : In fC at_ (at_ + n) 0 2000) (mono : ∀ i j, at_ ≤ i → i ≤ j → j < at_ + n → Ky k g (fC i) ≤ Ky k g (fC j)) : Met l y_S_behind [Cond.code y_S_behind b_S_behind 8 (some .int)] (rk 2 0 0) (PR D cI cJ cO [.ref (a 10), .int u, .int (nI at_), .int (nI n)] (WS cI a hB k g rn gl fC fSp fF fL)) (vp_Si (fun r => ∃ q, r = nI q ∧ q ≤ n ∧ (∀ i, i < q → Ky k g (fC (at_ + i)) ≤ Ky k g u) ∧ (∀ i, q ≤ i → i < n → Ky k g u < Ky k g (fC (at_ + i))))) 0 0 (fun _ => False) := by
  refine entR (by decide) (Nat.le_of_ble_eq_true rfl) ?_
  intro p e s m below meth c ls X hr hlocks hP hl
  have hx := X.x
  have hb := X.b
  have hR : 2 ≤ (rk 2 0 0).frames ∧ 180 ≤ (rk 2 0 0).locals := by decide
  have hf : 0 ≤ (rk 2 0 0).cells ∧ 0 ≤ (rk 2 0 0).slots := by decide
  have hl : lv_has ls 8 [(0, .ref (a 10)), (1, .int u), (2, .int (nI at_)), (3, .int (nI n))] := hl
  refine lv_iconst (v := nI 1) hx hb d_S_behind_0 (by decide) ?_
  refine lv_istore (lv' := [(4, .int (nI 1)), (0, .ref (a 10)), (1, .int u), (2, .int (nI at_)), (3, .int (nI n))]) hx hb d_S_behind_1 hl (by decide) rfl ?_
  clear hl; intro ls hl
  refine lv_iconst (v := nI 0) hx hb d_S_behind_3 (by decide) ?_
  refine lv_istore (lv' := [(5, .int (nI 0)), (4, .int (nI 1)), (0, .ref (a 10)), (1, .int u), (2, .int (nI at_)), (3, .int (nI n))]) hx hb d_S_behind_4 hl (by decide) rfl ?_
  clear hl; intro ls hl
  refine l_behind1 X hk hP hR hf hu hat hin mono ?_ (n + 1) 0 ls (by omega) (by omega) (fun i h => by omega) (lv_sub hl [2, 3, 4, 5, 1, 0] rfl)
  clear hl ls; intro low ls hlow hall hex hl
  refine lv_iload hx hb d_S_behind_58 (lv_at hl 5 rfl) ?_
  refine lv_iload hx hb d_S_behind_60 (lv_at hl 4 rfl) ?_
  refine w_add hx hb d_S_behind_62 ?_
  refine lv_iload_n hx hb d_S_behind_63 rfl (lv_at hl 3 rfl) ?_
  refine w_icmp_gt (tgt := 77) hx hb d_S_behind_64 (by decide) ⟨by omega, by omega⟩ (fun h1 => ?_) (fun h1 => ?_)
  · refine lv_iload_n hx hb d_S_behind_77 rfl (lv_at hl 3 rfl) ?_
    refine lv_istore (lv' := [(6, .int (nI n)), (0, .ref (a 10)), (1, .int u), (2, .int (nI at_)), (3, .int (nI n)), (4, .int (nI (low + 1))), (5, .int (nI low))]) hx hb d_S_behind_78 hl (by decide) rfl ?_
    clear hl; intro ls hl
    refine l_behind2 X hk hP hR hf hu hat hin mono ?_ (n + 1) low _ ls (by omega) (by omega) (by omega) hall ?_ (lv_sub hl [1, 2, 3, 4, 6, 0] rfl)
    · intro q ls hq h3 h4 hl
      refine lv_iload hx hb d_S_behind_134 (lv_at hl 1 rfl) ?_
      exact W.iret (v := nI q) hx hb hr (fun t ht _ => ⟨nI q, rfl, ⟨q, rfl, hq, h3, h4⟩, ht⟩) (fun q h => by cases h) d_S_behind_136
    · exact fun i h3 h4 => by omega
  · refine lv_iload hx hb d_S_behind_67 (lv_at hl 5 rfl) ?_
    refine lv_iload hx hb d_S_behind_69 (lv_at hl 4 rfl) ?_
    refine w_add hx hb d_S_behind_71 ?_
    refine lv_iconst (v := nI 1) hx hb d_S_behind_72 (by decide) ?_
    refine w_sub hx hb d_S_behind_73 (by omega) ?_
    refine lv_goto (tgt := 78) hx hb d_S_behind_74 (by decide) ?_
    refine lv_istore (lv' := [(6, .int (nI (low + (low + 1) - 1))), (0, .ref (a 10)), (1, .int u), (2, .int (nI at_)), (3, .int (nI n)), (4, .int (nI (low + 1))), (5, .int (nI low))]) hx hb d_S_behind_78 hl (by decide) rfl ?_
    clear hl; intro ls hl
    refine l_behind2 X hk hP hR hf hu hat hin mono ?_ (n + 1) low _ ls (by omega) (by omega) (by omega) hall ?_ (lv_sub hl [1, 2, 3, 4, 6, 0] rfl)
    · intro q ls hq h3 h4 hl
      refine lv_iload hx hb d_S_behind_134 (lv_at hl 1 rfl) ?_
      exact W.iret (v := nI q) hx hb hr (fun t ht _ => ⟨nI q, rfl, ⟨q, rfl, hq, h3, h4⟩, ht⟩) (fun q h => by cases h) d_S_behind_136
    · exact fun i h3 h4 => Int.lt_of_lt_of_le (hex (by omega)) (mono _ _ (by omega) (by omega) (by omega))
end
section
theorem sub_lt0 {x y : Nat} (hx : x < 2 ^ 30) (hy : y < 2 ^ 30) : nI x - nI y < 0 ↔ x < y := by rw [i32_ltI, Int32.toInt_zero, pk_sub_toInt hx hy]; omega
section SR
variable {D : va_G} {cI cJ cO : ClassId} {p : Program} {l : Launch} {e : Env} {R : Room} {s : State} {m : MethodId} {args : Array Value} {below : List Frame} {meth : Method} {c : Code} {H : Heap} {locs : List Loc} {cells slots : Nat} {Q : State → Prop}
variable {a : Nat → Nat} {hB k : Nat} {g : Nat → Int32} {rn gl : Int32} {fC fSp fF fL : Nat → Int32}
set_option maxHeartbeats 4000000 in
theorem l_notBefore1 {u : Int32} {at_ n : Nat} (X : Cx D cI cJ cO p s m c b_S_notBefore 8 R_S) (hk : k < 4) (hP : va_P D vCL (WS cI a hB k g rn gl fC fSp fF fL) H) (hR : 2 ≤ R.frames ∧ 180 ≤ R.locals) (hf : cells ≤ R.cells ∧ slots ≤ R.slots) (hu : vp_in u 2000) (hat : at_ + n ≤ 2000) (hin : In fC at_ (at_ + n) 0 2000) (mono : ∀ i j, at_ ≤ i → i ≤ j → j < at_ + n → Ky k g (fC i) ≤ Ky k g (fC j)) (kk : ∀ (high : Nat) (ls : Array Slot), high ≤ n → (∀ i, high ≤ i → i < n → Ky k g u ≤ Ky k g (fC (at_ + i))) → (n - high + 1 ≤ high → Ky k g (fC (at_ + (high - (n - high + 1)))) < Ky k g u) → lv_has ls 8 [(0, .ref (a 10)), (1, .int u), (2, .int (nI at_)), (3, .int (nI n)), (4, .int (nI (n - high + 1))), (5, .int (nI high))] → W p l e R s m args below meth c H locs cells slots Q (F0 m 55 ls [])) : ∀ (fuel high : Nat) (ls : Array Slot), high < fuel → high ≤ n → (∀ i, high ≤ i → i < n → Ky k g u ≤ Ky k g (fC (at_ + i))) → lv_has ls 8 [(0, .ref (a 10)), (1, .int u), (2, .int (nI at_)), (3, .int (nI n)), (4, .int (nI (n - high + 1))), (5, .int (nI high))] → W p l e R s m args below meth c H locs cells slots Q (F0 m 6 ls []) := by
  have hx := X.x
  have hb := X.b
  intro fuel
  induction fuel with
  | zero => intro high ls h; omega
  | succ fuel ih =>
    intro high ls hfu hhi hall hl
    refine lv_iload hx hb d_S_notBefore_6 (lv_at hl 5 rfl) ?_
    refine lv_iload hx hb d_S_notBefore_8 (lv_at hl 4 rfl) ?_
    refine lv_isub hx hb d_S_notBefore_10 ?_
    refine lv_if_lt (tgt := 55) hx hb d_S_notBefore_11 (by decide) (fun h1 => ?_) (fun h1 => ?_)
    · have h1 := (sub_lt0 (by omega) (by omega)).mp h1
      exact kk high ls hhi hall (fun h => by omega) hl
    · have h1 : n - high + 1 ≤ high := Nat.le_of_not_lt fun z => h1 ((sub_lt0 (by omega) (by omega)).mpr z)
      refine lv_aload_n hx hb d_S_notBefore_14 rfl (lv_at hl 0 rfl) ?_
      refine g_S_order X hP 3 rfl rfl d_S_notBefore_15 ?_
      refine lv_aload_n hx hb d_S_notBefore_18 rfl (lv_at hl 0 rfl) ?_
      refine g_S_cells X hP 3 rfl rfl d_S_notBefore_19 ?_
      refine lv_iload_n hx hb d_S_notBefore_22 rfl (lv_at hl 2 rfl) ?_
      refine lv_iload hx hb d_S_notBefore_23 (lv_at hl 5 rfl) ?_
      refine w_add hx hb d_S_notBefore_25 ?_
      refine lv_iload hx hb d_S_notBefore_26 (lv_at hl 4 rfl) ?_
      refine w_sub hx hb d_S_notBefore_28 (by omega) ?_
      refine w_to (y := nI (at_ + (high - (n - high + 1)))) (congrArg nI (by omega)) ?_
      refine w_ald X hP 4 rfl (by omega) (by decide) d_S_notBefore_29 ?_
      refine lv_iload_n hx hb d_S_notBefore_30 rfl (lv_at hl 1 rfl) ?_
      refine cS_cmp X hk hP hR hf hl.1 (hin.vd (Nat.le_refl _) (by omega) (by omega)) hu (by decide) d_S_notBefore_31 (fun rr hrr => ?_)
      refine lv_if_lt (tgt := 55) hx hb d_S_notBefore_36 (by decide) (fun h2 => ?_) (fun h2 => ?_)
      · exact kk high ls hhi hall (fun _ => hrr.1.mp h2) hl
      · refine lv_iload hx hb d_S_notBefore_39 (lv_at hl 5 rfl) ?_
        refine lv_iload hx hb d_S_notBefore_41 (lv_at hl 4 rfl) ?_
        refine w_sub hx hb d_S_notBefore_43 (by omega) ?_
        refine lv_istore (lv' := [(5, .int (nI (high - ((n - high + 1))))), (0, .ref (a 10)), (1, .int u), (2, .int (nI at_)), (3, .int (nI n)), (4, .int (nI (n - high + 1)))]) hx hb d_S_notBefore_44 hl (by decide) rfl ?_
        clear hl; intro ls hl
        refine lv_iload hx hb d_S_notBefore_46 (lv_at hl 5 rfl) ?_
        refine lv_iconst (v := nI 2) hx hb d_S_notBefore_48 (by decide) ?_
        refine w_mul hx hb d_S_notBefore_49 ?_
        refine w_to (y := nI (n - (high - (n - high + 1)) + 1)) (congrArg nI (by omega)) ?_
        refine lv_istore (lv' := [(4, .int (nI (n - (high - (n - high + 1)) + 1))), (5, .int (nI (high - ((n - high + 1))))), (0, .ref (a 10)), (1, .int u), (2, .int (nI at_)), (3, .int (nI n))]) hx hb d_S_notBefore_50 hl (by decide) rfl ?_
        clear hl; intro ls hl
        refine lv_goto (tgt := 6) hx hb d_S_notBefore_52 (by decide) ?_
        have h3 : Ky k g u ≤ Ky k g (fC (at_ + (high - (n - high + 1)))) := hrr.nlt h2
        refine ih (high - (n - high + 1)) ls (by omega) (by omega) (fun i q1 q2 => ?_) (lv_sub hl [2, 3, 4, 5, 0, 1] rfl)
        exact Int.le_trans h3 (mono _ _ (by omega) (by omega) (by omega))
set_option maxHeartbeats 4000000 in
theorem l_notBefore2 {u : Int32} {at_ n : Nat} (X : Cx D cI cJ cO p s m c b_S_notBefore 8 R_S) (hk : k < 4) (hP : va_P D vCL (WS cI a hB k g rn gl fC fSp fF fL) H) (hR : 2 ≤ R.frames ∧ 180 ≤ R.locals) (hf : cells ≤ R.cells ∧ slots ≤ R.slots) (hu : vp_in u 2000) (hat : at_ + n ≤ 2000) (hin : In fC at_ (at_ + n) 0 2000) (mono : ∀ i j, at_ ≤ i → i ≤ j → j < at_ + n → Ky k g (fC i) ≤ Ky k g (fC j)) (kk : ∀ (q : Nat) (ls : Array Slot), q ≤ n → (∀ i, i < q → Ky k g (fC (at_ + i)) < Ky k g u) → (∀ i, q ≤ i → i < n → Ky k g u ≤ Ky k g (fC (at_ + i))) → lv_has ls 8 [(0, .ref (a 10)), (6, .int (nI q))] → W p l e R s m args below meth c H locs cells slots Q (F0 m 130 ls [])) : ∀ (fuel low high : Nat) (ls : Array Slot), high - low < fuel → low ≤ high → high ≤ n → (∀ i, i < low → Ky k g (fC (at_ + i)) < Ky k g u) → (∀ i, high ≤ i → i < n → Ky k g u ≤ Ky k g (fC (at_ + i))) → lv_has ls 8 [(0, .ref (a 10)), (1, .int u), (2, .int (nI at_)), (3, .int (nI n)), (5, .int (nI high)), (6, .int (nI low))] → W p l e R s m args below meth c H locs cells slots Q (F0 m 76 ls []) := by
  have hx := X.x
  have hb := X.b
  intro fuel
  induction fuel with
  | zero => intro low high ls h; omega
  | succ fuel ih =>
    intro low high ls hfu hlow hhi hall hbig hl
    refine lv_iload hx hb d_S_notBefore_76 (lv_at hl 5 rfl) ?_
    refine lv_iload hx hb d_S_notBefore_78 (lv_at hl 4 rfl) ?_
    refine w_icmp_ge (tgt := 130) hx hb d_S_notBefore_80 (by decide) ⟨by omega, by omega⟩ (fun h1 => ?_) (fun h1 => ?_)
    · exact kk low ls (by omega) hall (fun i h2 h3 => hbig i (by omega) h3) (lv_sub hl [0, 5] rfl)
    · refine lv_iload hx hb d_S_notBefore_83 (lv_at hl 5 rfl) ?_
      refine lv_iload hx hb d_S_notBefore_85 (lv_at hl 4 rfl) ?_
      refine w_add hx hb d_S_notBefore_87 ?_
      refine lv_iconst (v := nI 1) hx hb d_S_notBefore_88 (by decide) ?_
      refine w_ushr1 hx hb d_S_notBefore_89 (by omega) ?_
      generalize hm : (low + high) / 2 = mid at *
      have hm1 : low ≤ mid ∧ mid < high := by omega
      refine lv_istore (lv' := [(7, .int (nI mid)), (0, .ref (a 10)), (1, .int u), (2, .int (nI at_)), (3, .int (nI n)), (5, .int (nI high)), (6, .int (nI low))]) hx hb d_S_notBefore_90 hl (by decide) rfl ?_
      clear hl; intro ls hl
      refine lv_aload_n hx hb d_S_notBefore_92 rfl (lv_at hl 1 rfl) ?_
      refine g_S_order X hP 3 rfl rfl d_S_notBefore_93 ?_
      refine lv_aload_n hx hb d_S_notBefore_96 rfl (lv_at hl 1 rfl) ?_
      refine g_S_cells X hP 3 rfl rfl d_S_notBefore_97 ?_
      refine lv_iload_n hx hb d_S_notBefore_100 rfl (lv_at hl 3 rfl) ?_
      refine lv_iload hx hb d_S_notBefore_101 (lv_at hl 0 rfl) ?_
      refine w_add hx hb d_S_notBefore_103 ?_
      refine w_ald X hP 4 rfl (by omega) (by decide) d_S_notBefore_104 ?_
      refine lv_iload_n hx hb d_S_notBefore_105 rfl (lv_at hl 2 rfl) ?_
      refine cS_cmp X hk hP hR hf hl.1 (hin.vd (Nat.le_refl _) (by omega) (by omega)) hu (by decide) d_S_notBefore_106 (fun rr hrr => ?_)
      refine lv_if_ge (tgt := 123) hx hb d_S_notBefore_111 (by decide) (fun h2 => ?_) (fun h2 => ?_)
      · refine lv_iload hx hb d_S_notBefore_123 (lv_at hl 0 rfl) ?_
        refine lv_istore (lv' := [(5, .int (nI mid)), (7, .int (nI mid)), (0, .ref (a 10)), (1, .int u), (2, .int (nI at_)), (3, .int (nI n)), (6, .int (nI low))]) hx hb d_S_notBefore_125 hl (by decide) rfl ?_
        clear hl; intro ls hl
        refine lv_goto (tgt := 76) hx hb d_S_notBefore_127 (by decide) ?_
        refine ih low mid ls (by omega) (by omega) (by omega) hall (fun i q1 q2 => ?_) (lv_sub hl [2, 3, 4, 5, 0, 6] rfl)
        exact Int.le_trans (hrr.ge.mp h2) (mono _ _ (by omega) (by omega) (by omega))
      · refine lv_iload hx hb d_S_notBefore_114 (lv_at hl 0 rfl) ?_
        refine lv_iconst (v := nI 1) hx hb d_S_notBefore_116 (by decide) ?_
        refine w_add hx hb d_S_notBefore_117 ?_
        refine lv_istore (lv' := [(6, .int (nI (mid + 1))), (7, .int (nI mid)), (0, .ref (a 10)), (1, .int u), (2, .int (nI at_)), (3, .int (nI n)), (5, .int (nI high))]) hx hb d_S_notBefore_118 hl (by decide) rfl ?_
        clear hl; intro ls hl
        refine lv_goto (tgt := 127) hx hb d_S_notBefore_120 (by decide) ?_
        refine lv_goto (tgt := 76) hx hb d_S_notBefore_127 (by decide) ?_
        refine ih (mid + 1) high ls (by omega) (by omega) (by omega) (fun i q1 => ?_) hbig (lv_sub hl [2, 3, 4, 5, 6, 0] rfl)
        exact Int.lt_of_le_of_lt (mono _ _ (by omega) (by omega) (by omega)) (hrr.nge h2)
set_option maxHeartbeats 4000000 in
theorem l_waiting {u : Int32} {at_ n : Nat} (X : Cx D cI cJ cO p s m c b_S_waiting 7 R_S) (hk : k < 4) (hP : va_P D vCL (WS cI a hB k g rn gl fC fSp fF fL) H) (hR : 2 ≤ R.frames ∧ 180 ≤ R.locals) (hf : cells ≤ R.cells ∧ slots ≤ R.slots) (hu : vp_in u 2000) (hat : n ≤ 2000) (hin : In fSp at_ n 0 2000) (mono : ∀ i j, at_ ≤ i → i ≤ j → j < n → Ky k g (fSp i) ≤ Ky k g (fSp j)) (kk : ∀ (q : Nat) (ls : Array Slot), at_ ≤ q → q ≤ n → (∀ i, at_ ≤ i → i < q → Ky k g (fSp i) ≤ Ky k g u) → (∀ i, q ≤ i → i < n → Ky k g u < Ky k g (fSp i)) → lv_has ls 7 [(0, .ref (a 10)), (2, .int (nI at_)), (4, .int (nI q))] → W p l e R s m args below meth c H locs cells slots Q (F0 m 58 ls [])) : ∀ (fuel low high : Nat) (ls : Array Slot), high - low < fuel → at_ ≤ low → low ≤ high → high ≤ n → (∀ i, at_ ≤ i → i < low → Ky k g (fSp i) ≤ Ky k g u) → (∀ i, high ≤ i → i < n → Ky k g u < Ky k g (fSp i)) → lv_has ls 7 [(0, .ref (a 10)), (1, .int u), (2, .int (nI at_)), (3, .int (nI n)), (4, .int (nI low)), (5, .int (nI high))] → W p l e R s m args below meth c H locs cells slots Q (F0 m 6 ls []) := by
  have hx := X.x
  have hb := X.b
  intro fuel
  induction fuel with
  | zero => intro low high ls h; omega
  | succ fuel ih =>
    intro low high ls hfu hal hlow hhi hall hbig hl
    refine lv_iload hx hb d_S_waiting_6 (lv_at hl 4 rfl) ?_
    refine lv_iload hx hb d_S_waiting_8 (lv_at hl 5 rfl) ?_
    refine w_icmp_ge (tgt := 58) hx hb d_S_waiting_10 (by decide) ⟨by omega, by omega⟩ (fun h1 => ?_) (fun h1 => ?_)
    · exact kk low ls hal (by omega) hall (fun i h2 h3 => hbig i (by omega) h3) (lv_sub hl [0, 2, 4] rfl)
    · refine lv_iload hx hb d_S_waiting_13 (lv_at hl 4 rfl) ?_
      refine lv_iload hx hb d_S_waiting_15 (lv_at hl 5 rfl) ?_
      refine w_add hx hb d_S_waiting_17 ?_
      refine lv_iconst (v := nI 1) hx hb d_S_waiting_18 (by decide) ?_
      refine w_ushr1 hx hb d_S_waiting_19 (by omega) ?_
      generalize hm : (low + high) / 2 = mid at *
      have hm1 : low ≤ mid ∧ mid < high := by omega
      refine lv_istore (lv' := [(6, .int (nI mid)), (0, .ref (a 10)), (1, .int u), (2, .int (nI at_)), (3, .int (nI n)), (4, .int (nI low)), (5, .int (nI high))]) hx hb d_S_waiting_20 hl (by decide) rfl ?_
      clear hl; intro ls hl
      refine lv_aload_n hx hb d_S_waiting_22 rfl (lv_at hl 1 rfl) ?_
      refine g_S_order X hP 3 rfl rfl d_S_waiting_23 ?_
      refine lv_iload_n hx hb d_S_waiting_26 rfl (lv_at hl 2 rfl) ?_
      refine lv_aload_n hx hb d_S_waiting_27 rfl (lv_at hl 1 rfl) ?_
      refine g_S_spare X hP 3 rfl rfl d_S_waiting_28 ?_
      refine lv_iload hx hb d_S_waiting_31 (lv_at hl 0 rfl) ?_
      refine w_ald X hP 2 rfl (by omega) (by decide) d_S_waiting_33 ?_
      refine cS_cmp X hk hP hR hf hl.1 hu (hin.vd (Nat.le_refl _) (by omega) (by omega)) (by decide) d_S_waiting_34 (fun rr hrr => ?_)
      refine lv_if_lt (tgt := 51) hx hb d_S_waiting_39 (by decide) (fun h2 => ?_) (fun h2 => ?_)
      · refine lv_iload hx hb d_S_waiting_51 (lv_at hl 0 rfl) ?_
        refine lv_istore (lv' := [(5, .int (nI mid)), (6, .int (nI mid)), (0, .ref (a 10)), (1, .int u), (2, .int (nI at_)), (3, .int (nI n)), (4, .int (nI low))]) hx hb d_S_waiting_53 hl (by decide) rfl ?_
        clear hl; intro ls hl
        refine lv_goto (tgt := 6) hx hb d_S_waiting_55 (by decide) ?_
        refine ih low mid ls (by omega) (by omega) (by omega) (by omega) hall (fun i q1 q2 => ?_) (lv_sub hl [2, 3, 4, 5, 6, 0] rfl)
        exact Int.lt_of_lt_of_le (hrr.1.mp h2) (mono _ _ (by omega) (by omega) (by omega))
      · refine lv_iload hx hb d_S_waiting_42 (lv_at hl 0 rfl) ?_
        refine lv_iconst (v := nI 1) hx hb d_S_waiting_44 (by decide) ?_
        refine w_add hx hb d_S_waiting_45 ?_
        refine lv_istore (lv' := [(4, .int (nI (mid + 1))), (6, .int (nI mid)), (0, .ref (a 10)), (1, .int u), (2, .int (nI at_)), (3, .int (nI n)), (5, .int (nI high))]) hx hb d_S_waiting_46 hl (by decide) rfl ?_
        clear hl; intro ls hl
        refine lv_goto (tgt := 55) hx hb d_S_waiting_48 (by decide) ?_
        refine lv_goto (tgt := 6) hx hb d_S_waiting_55 (by decide) ?_
        refine ih (mid + 1) high ls (by omega) (by omega) (by omega) (by omega) (fun i q1 q2 => ?_) hbig (lv_sub hl [2, 3, 4, 5, 0, 6] rfl)
        exact Int.le_trans (mono _ _ (by omega) (by omega) (by omega)) (hrr.nlt h2)
end SR
set_option maxHeartbeats 4000000 in
/-- notBefore(u, at, n): how many of the run are before u -/
theorem c_S_notBefore (l : Launch) (D : va_G) (cI cJ cO : ClassId) (a : Nat → Nat) (hB k : Nat) (g : Nat → Int32) (rn gl : Int32) (fC fSp fF fL : Nat → Int32) (u : Int32) (at_ n : Nat) (hk : k < 4) (hu : vp_in u 2000) (hat : at_ + n ≤ 2000) (hin : In fC at_ (at_ + n) 0 2000) (mono : ∀ i j, at_ ≤ i → i ≤ j → j < at_ + n → Ky k g (fC i) ≤ Ky k g (fC j)) : Met l y_S_notBefore [Cond.code y_S_notBefore b_S_notBefore 8 (some .int)] (rk 2 0 0) (PR D cI cJ cO [.ref (a 10), .int u, .int (nI at_), .int (nI n)] (WS cI a hB k g rn gl fC fSp fF fL)) (vp_Si (fun r => ∃ q, r = nI q ∧ q ≤ n ∧ (∀ i, i < q → Ky k g (fC (at_ + i)) < Ky k g u) ∧ (∀ i, q ≤ i → i < n → Ky k g u ≤ Ky k g (fC (at_ + i))))) 0 0 (fun _ => False) := by
  refine entR (by decide) (Nat.le_of_ble_eq_true rfl) ?_
  intro p e s m below meth c ls X hr hlocks hP hl
  have hx := X.x
  have hb := X.b
  have hR : 2 ≤ (rk 2 0 0).frames ∧ 180 ≤ (rk 2 0 0).locals := by decide
  have hf : 0 ≤ (rk 2 0 0).cells ∧ 0 ≤ (rk 2 0 0).slots := by decide
  have hl : lv_has ls 8 [(0, .ref (a 10)), (1, .int u), (2, .int (nI at_)), (3, .int (nI n))] := hl
  refine lv_iconst (v := nI 1) hx hb d_S_notBefore_0 (by decide) ?_
  refine lv_istore (lv' := [(4, .int (nI 1)), (0, .ref (a 10)), (1, .int u), (2, .int (nI at_)), (3, .int (nI n))]) hx hb d_S_notBefore_1 hl (by decide) rfl ?_
  clear hl; intro ls hl
  refine lv_iload_n hx hb d_S_notBefore_3 rfl (lv_at hl 4 rfl) ?_
  refine lv_istore (lv' := [(5, .int (nI n)), (4, .int (nI 1)), (0, .ref (a 10)), (1, .int u), (2, .int (nI at_)), (3, .int (nI n))]) hx hb d_S_notBefore_4 hl (by decide) rfl ?_
  clear hl; intro ls hl
  refine l_notBefore1 X hk hP hR hf hu hat hin mono ?_ (n + 1) n ls (by omega) (by omega) (fun i h => by omega) (by rw [show n - n + 1 = 1 by omega]; exact (lv_sub hl [2, 3, 4, 5, 1, 0] rfl))
  clear hl ls; intro high ls hhi hall hex hl
  refine lv_iload hx hb d_S_notBefore_55 (lv_at hl 5 rfl) ?_
  refine lv_iload hx hb d_S_notBefore_57 (lv_at hl 4 rfl) ?_
  refine lv_isub hx hb d_S_notBefore_59 ?_
  refine lv_if_lt (tgt := 73) hx hb d_S_notBefore_60 (by decide) (fun h1 => ?_) (fun h1 => ?_)
  · refine lv_iconst (v := nI 0) hx hb d_S_notBefore_73 (by decide) ?_
    refine lv_istore (lv' := [(6, .int (nI 0)), (0, .ref (a 10)), (1, .int u), (2, .int (nI at_)), (3, .int (nI n)), (4, .int (nI (n - high + 1))), (5, .int (nI high))]) hx hb d_S_notBefore_74 hl (by decide) rfl ?_
    clear hl; intro ls hl
    refine l_notBefore2 X hk hP hR hf hu hat hin mono ?_ (n + 1) _ high ls (by omega) (by omega) (by omega) ?_ hall (lv_sub hl [1, 2, 3, 4, 6, 0] rfl)
    · intro q ls hq h3 h4 hl
      refine lv_iload hx hb d_S_notBefore_130 (lv_at hl 1 rfl) ?_
      exact W.iret (v := nI q) hx hb hr (fun t ht _ => ⟨nI q, rfl, ⟨q, rfl, hq, h3, h4⟩, ht⟩) (fun q h => by cases h) d_S_notBefore_132
    · exact fun i h3 => by omega
  · have h1 : n - high + 1 ≤ high := Nat.le_of_not_lt fun z => h1 ((sub_lt0 (by omega) (by omega)).mpr z)
    refine lv_iload hx hb d_S_notBefore_63 (lv_at hl 5 rfl) ?_
    refine lv_iload hx hb d_S_notBefore_65 (lv_at hl 4 rfl) ?_
    refine w_sub hx hb d_S_notBefore_67 (by omega) ?_
    refine lv_iconst (v := nI 1) hx hb d_S_notBefore_68 (by decide) ?_
    refine w_add hx hb d_S_notBefore_69 ?_
    refine lv_goto (tgt := 74) hx hb d_S_notBefore_70 (by decide) ?_
    refine lv_istore (lv' := [(6, .int (nI (high - ((n - high + 1)) + 1))), (0, .ref (a 10)), (1, .int u), (2, .int (nI at_)), (3, .int (nI n)), (4, .int (nI (n - high + 1))), (5, .int (nI high))]) hx hb d_S_notBefore_74 hl (by decide) rfl ?_
    clear hl; intro ls hl
    refine l_notBefore2 X hk hP hR hf hu hat hin mono ?_ (n + 1) _ high ls (by omega) (by omega) (by omega) ?_ hall (lv_sub hl [1, 2, 3, 4, 6, 0] rfl)
    · intro q ls hq h3 h4 hl
      refine lv_iload hx hb d_S_notBefore_130 (lv_at hl 1 rfl) ?_
      exact W.iret (v := nI q) hx hb hr (fun t ht _ => ⟨nI q, rfl, ⟨q, rfl, hq, h3, h4⟩, ht⟩) (fun q h => by cases h) d_S_notBefore_132
    · exact fun i h3 => Int.lt_of_le_of_lt (mono _ _ (by omega) (by omega) (by omega)) (hex h1)
set_option maxHeartbeats 4000000 in
/-- waiting(u, at, n): how many of the waiting ones from at on are not behind u -/
theorem c_S_waiting (l : Launch) (D : va_G) (cI cJ cO : ClassId) (a : Nat → Nat) (hB k : Nat) (g : Nat → Int32) (rn gl : Int32) (fC fSp fF fL : Nat → Int32) (u : Int32) (at_ n : Nat) (hk : k < 4) (hu : vp_in u 2000) (han : at_ ≤ n) (hat : n ≤ 2000) (hin : In fSp at_ n 0 2000) (mono : ∀ i j, at_ ≤ i → i ≤ j → j < n → Ky k g (fSp i) ≤ Ky k g (fSp j)) : Met l y_S_waiting [Cond.code y_S_waiting b_S_waiting 7 (some .int)] (rk 2 0 0) (PR D cI cJ cO [.ref (a 10), .int u, .int (nI at_), .int (nI n)] (WS cI a hB k g rn gl fC fSp fF fL)) (vp_Si (fun r => ∃ q, r = nI q ∧ at_ + q ≤ n ∧ (∀ i, at_ ≤ i → i < at_ + q → Ky k g (fSp i) ≤ Ky k g u) ∧ (∀ i, at_ + q ≤ i → i < n → Ky k g u < Ky k g (fSp i)))) 0 0 (fun _ => False) := by
  refine entR (by decide) (Nat.le_of_ble_eq_true rfl) ?_
  intro p e s m below meth c ls X hr hlocks hP hl
  have hx := X.x
  have hb := X.b
  have hR : 2 ≤ (rk 2 0 0).frames ∧ 180 ≤ (rk 2 0 0).locals := by decide
  have hf : 0 ≤ (rk 2 0 0).cells ∧ 0 ≤ (rk 2 0 0).slots := by decide
  have hl : lv_has ls 7 [(0, .ref (a 10)), (1, .int u), (2, .int (nI at_)), (3, .int (nI n))] := hl
  refine lv_iload_n hx hb d_S_waiting_0 rfl (lv_at hl 2 rfl) ?_
  refine lv_istore (lv' := [(4, .int (nI at_)), (0, .ref (a 10)), (1, .int u), (2, .int (nI at_)), (3, .int (nI n))]) hx hb d_S_waiting_1 hl (by decide) rfl ?_
  clear hl; intro ls hl
  refine lv_iload_n hx hb d_S_waiting_3 rfl (lv_at hl 4 rfl) ?_
  refine lv_istore (lv' := [(5, .int (nI n)), (4, .int (nI at_)), (0, .ref (a 10)), (1, .int u), (2, .int (nI at_)), (3, .int (nI n))]) hx hb d_S_waiting_4 hl (by decide) rfl ?_
  clear hl; intro ls hl
  refine l_waiting X hk hP hR hf hu hat hin mono ?_ (n + 1) at_ n ls (by omega) (by omega) (by omega) (by omega) (fun i h => by omega) (fun i h => by omega) (lv_sub hl [2, 3, 4, 5, 1, 0] rfl)
  clear hl ls; intro q ls hq1 hq2 hall hbig hl
  refine lv_iload hx hb d_S_waiting_58 (lv_at hl 2 rfl) ?_
  refine lv_iload_n hx hb d_S_waiting_60 rfl (lv_at hl 1 rfl) ?_
  refine w_sub hx hb d_S_waiting_61 (by omega) ?_
  exact W.iret (v := nI (q - at_)) hx hb hr (fun t ht _ => ⟨nI (q - at_), rfl, ⟨q - at_, rfl, by omega, fun i h1 h2 => hall i h1 (by omega), fun i h1 h2 => hbig i (by omega) h2⟩, ht⟩) (fun q h => by cases h) d_S_waiting_62
end
section
section PMU
variable {K : Int32 → Int}
theorem MU.cmpL {f0 f s : Nat → Int32} {a n b m lo mid hi i j : Nat} (h : MU K f0 f s a n b m lo hi i j) (il : In f0 a b lo mid) (ir : In f0 b (b + m) mid hi) (hab : a + n = b) (hh : hi ≤ 2000) (hi1 : i < n) (hj : j < b + m) (hc : K (s i) ≤ K (f j)) : LT K (s i) (f j) := by
  obtain ⟨h1, h2, h3, h4, h5, h6, h7, h8, h9, h10⟩ := h
  obtain ⟨p, p1, p2, p3⟩ := il (a + i) (by omega) (by omega)
  obtain ⟨q, q1, q2, q3⟩ := ir j h2 hj
  exact lt_lo ((h4 i hi1).trans p3) ((h5 j (Nat.le_refl _) hj).trans q3) (by omega) (by omega) hc
theorem MU.vdS {f0 f s : Nat → Int32} {a n b m lo mid hi i j : Nat} (h : MU K f0 f s a n b m lo hi i j) (il : In f0 a b lo mid) (hab : a + n = b) (hh : mid ≤ 2000) {t : Nat} (ht : t < n) : vp_in (s t) 2000 := by
  rw [h.2.2.2.1 t ht]
  exact il.vd hh (by omega) (by omega)
theorem MU.vdF {f0 f s : Nat → Int32} {a n b m lo mid hi i j : Nat} (h : MU K f0 f s a n b m lo hi i j) (ir : In f0 b (b + m) mid hi) (hh : hi ≤ 2000) {t : Nat} (ht : j ≤ t) (ht2 : t < b + m) : vp_in (f t) 2000 := by
  rw [h.2.2.2.2.1 t ht ht2]
  exact ir.vd hh (Nat.le_trans h.2.1 ht) ht2
theorem MU.moF {f0 f s : Nat → Int32} {a n b m lo hi i j : Nat} (h : MU K f0 f s a n b m lo hi i j) (sr : Sg K f0 b (b + m)) {x y : Nat} (h1 : j ≤ x) (h2 : x ≤ y) (h3 : y < b + m) : K (f x) ≤ K (f y) := by
  rw [h.2.2.2.2.1 x h1 (by omega), h.2.2.2.2.1 y (by omega) h3]
  exact sr.mono (Nat.le_trans h.2.1 h1) h2 h3
theorem MU.moS {f0 f s : Nat → Int32} {a n b m lo hi i j : Nat} (h : MU K f0 f s a n b m lo hi i j) (sl : Sg K f0 a b) (hab : a + n = b) {x y : Nat} (h2 : x ≤ y) (h3 : y < n) : K (s x) ≤ K (s y) := by
  rw [h.2.2.2.1 x (by omega), h.2.2.2.1 y h3]
  exact sl.mono (by omega) (by omega) (by omega)
end PMU
section SMU
variable {D : va_G} {cI cJ cO : ClassId} {p : Program} {l : Launch} {e : Env} {R : Room} {s : State} {m : MethodId} {args : Array Value} {below : List Frame} {meth : Method} {c : Code} {cells slots : Nat} {Q : State → Prop}
variable {a : Nat → Nat} {hB k : Nat} {g : Nat → Int32} {rn : Int32} {fF fL : Nat → Int32} {A : Nat → Prop} {H0 : Heap}
set_option maxHeartbeats 4000000 in
theorem l_mu0 {x0 n1 y0 n2 lo mid hi : Nat} {f0 : Nat → Int32} (X : Cx D cI cJ cO p s m c b_S_mergeUp 14 R_S) (hk : k < 4) (hR : 3 ≤ R.frames ∧ 220 ≤ R.locals) (hf : cells ≤ R.cells ∧ slots ≤ R.slots) (hxy : x0 + n1 = y0) (hyn : y0 + n2 ≤ 2000) (sl : Sg (Ky k g) f0 x0 y0) (sr : Sg (Ky k g) f0 y0 (y0 + n2)) (il : In f0 x0 y0 lo mid) (ir : In f0 y0 (y0 + n2) mid hi) (hmid : lo ≤ mid ∧ mid ≤ hi ∧ hi ≤ 2000) {gl : Int32} (kk : ∀ (sp : Nat → Int32) (H : Heap) (locs : List Loc) (ls : Array Slot), (∀ q, q < n1 → sp q = f0 (x0 + q)) → va_P D vCL (WS cI a hB k g rn gl f0 sp fF fL) H → va_D A (WS cI a hB k g rn gl f0 sp fF fL) → va_S A H0 H locs → lv_has ls 14 [(0, .ref (a 10)), (1, .int (nI x0)), (2, .int (nI n1)), (3, .int (nI y0)), (4, .int (nI n2))] → W p l e R s m args below meth c H locs cells slots Q (F0 m 31 ls [])) : ∀ (fuel i : Nat) (sp : Nat → Int32) (H : Heap) (locs : List Loc) (ls : Array Slot), n1 - i < fuel → i ≤ n1 → (∀ q, q < i → sp q = f0 (x0 + q)) → va_P D vCL (WS cI a hB k g rn gl f0 sp fF fL) H → va_D A (WS cI a hB k g rn gl f0 sp fF fL) → va_S A H0 H locs → lv_has ls 14 [(0, .ref (a 10)), (1, .int (nI x0)), (2, .int (nI n1)), (3, .int (nI y0)), (4, .int (nI n2)), (5, .int (nI i))] → W p l e R s m args below meth c H locs cells slots Q (F0 m 3 ls []) := by
  have hx := X.x
  have hb := X.b
  intro fuel
  induction fuel with
  | zero => intro i sp H locs ls h; omega
  | succ fuel ih =>
    intro i sp H locs ls hfu hi1 hall hP hD hS hl
    refine lv_iload hx hb d_S_mergeUp_3 (lv_at hl 5 rfl) ?_
    refine lv_iload_n hx hb d_S_mergeUp_5 rfl (lv_at hl 2 rfl) ?_
    refine w_icmp_ge (tgt := 31) hx hb d_S_mergeUp_6 (by decide) ⟨by omega, by omega⟩ (fun h1 => ?_) (fun h1 => ?_)
    · exact kk sp H locs ls (fun q hq => hall q (by omega)) hP hD hS (lv_sub hl [0, 1, 2, 3, 4] rfl)
    · refine lv_aload_n hx hb d_S_mergeUp_9 rfl (lv_at hl 0 rfl) ?_
      refine g_S_spare X hP 3 rfl rfl d_S_mergeUp_10 ?_
      refine lv_iload hx hb d_S_mergeUp_13 (lv_at hl 5 rfl) ?_
      refine lv_aload_n hx hb d_S_mergeUp_15 rfl (lv_at hl 0 rfl) ?_
      refine g_S_cells X hP 3 rfl rfl d_S_mergeUp_16 ?_
      refine lv_iload_n hx hb d_S_mergeUp_19 rfl (lv_at hl 1 rfl) ?_
      refine lv_iload hx hb d_S_mergeUp_20 (lv_at hl 5 rfl) ?_
      refine w_add hx hb d_S_mergeUp_22 ?_
      refine w_ald X hP 4 rfl (by omega) (by decide) d_S_mergeUp_23 ?_
      refine w_ast (ws' := WS cI a hB k g rn gl f0 (upd sp i (f0 (x0 + i))) fF fL) X hP hD hS 2 rfl (by omega) (by decide) rfl d_S_mergeUp_24 ?_
      clear hP hD hS; intro H locs hP hD hS
      refine w_inc (k := 5) (lv' := [(5, .int (nI (i + 1))), (0, .ref (a 10)), (1, .int (nI x0)), (2, .int (nI n1)), (3, .int (nI y0)), (4, .int (nI n2))]) hx hb d_S_mergeUp_25 hl rfl (by decide) rfl ?_
      clear hl; intro ls hl
      refine lv_goto (tgt := 3) hx hb d_S_mergeUp_28 (by decide) ?_
      refine ih (i + 1) _ H locs ls (by omega) (by omega) (fun q hq => ?_) hP hD hS (lv_sub hl [1, 2, 3, 4, 5, 0] rfl)
      rcases Nat.lt_or_ge q i with z | z
      · rw [pk_un (by omega)]; exact hall q z
      · rw [show q = i by omega, pk_us]
set_option maxHeartbeats 4000000 in
theorem l_mu9 {x0 n1 y0 n2 lo mid hi : Nat} {f0 : Nat → Int32} (X : Cx D cI cJ cO p s m c b_S_mergeUp 14 R_S) (hk : k < 4) (hR : 3 ≤ R.frames ∧ 220 ≤ R.locals) (hf : cells ≤ R.cells ∧ slots ≤ R.slots) (hxy : x0 + n1 = y0) (hyn : y0 + n2 ≤ 2000) (sl : Sg (Ky k g) f0 x0 y0) (sr : Sg (Ky k g) f0 y0 (y0 + n2)) (il : In f0 x0 y0 lo mid) (ir : In f0 y0 (y0 + n2) mid hi) (hmid : lo ≤ mid ∧ mid ≤ hi ∧ hi ≤ 2000) {gl : Int32} {sp : Nat → Int32} {j : Nat} (kk : ∀ (f : Nat → Int32) (H : Heap) (locs : List Loc) (ls : Array Slot), MU (Ky k g) f0 f sp x0 n1 y0 n2 lo hi n1 j → va_P D vCL (WS cI a hB k g rn gl f sp fF fL) H → va_D A (WS cI a hB k g rn gl f sp fF fL) → va_S A H0 H locs → lv_has ls 14 [(0, .ref (a 10))] → W p l e R s m args below meth c H locs cells slots Q (F0 m 359 ls [])) : ∀ (fuel i : Nat) (f : Nat → Int32) (H : Heap) (locs : List Loc) (ls : Array Slot), n1 - i < fuel → i ≤ n1 → (i < n1 → j = y0 + n2) → MU (Ky k g) f0 f sp x0 n1 y0 n2 lo hi i j → va_P D vCL (WS cI a hB k g rn gl f sp fF fL) H → va_D A (WS cI a hB k g rn gl f sp fF fL) → va_S A H0 H locs → lv_has ls 14 [(0, .ref (a 10)), (1, .int (nI x0)), (2, .int (nI n1)), (3, .int (nI y0)), (4, .int (nI n2)), (5, .int (nI i)), (8, .int (nI (x0 + i + (j - y0))))] → W p l e R s m args below meth c H locs cells slots Q (F0 m 330 ls []) := by
  have hx := X.x
  have hb := X.b
  intro fuel
  induction fuel with
  | zero => intro i f H locs ls h; omega
  | succ fuel ih =>
    intro i f H locs ls hfu hi1 hje hM hP hD hS hl
    refine lv_iload hx hb d_S_mergeUp_330 (lv_at hl 5 rfl) ?_
    refine lv_iload_n hx hb d_S_mergeUp_332 rfl (lv_at hl 2 rfl) ?_
    refine w_icmp_ge (tgt := 359) hx hb d_S_mergeUp_333 (by decide) ⟨by omega, by omega⟩ (fun h1 => ?_) (fun h1 => ?_)
    · have e : i = n1 := by omega
      subst e
      exact kk f H locs ls hM hP hD hS (lv_sub hl [0] rfl)
    · have hj := hje h1
      have hj3 := hM.2.1
      refine lv_aload_n hx hb d_S_mergeUp_336 rfl (lv_at hl 0 rfl) ?_
      refine g_S_cells X hP 3 rfl rfl d_S_mergeUp_337 ?_
      refine lv_iload hx hb d_S_mergeUp_340 (lv_at hl 6 rfl) ?_
      refine w_inc (k := 6) (lv' := [(8, .int (nI (x0 + i + (j - y0) + 1))), (0, .ref (a 10)), (1, .int (nI x0)), (2, .int (nI n1)), (3, .int (nI y0)), (4, .int (nI n2)), (5, .int (nI i))]) hx hb d_S_mergeUp_342 hl rfl (by decide) rfl ?_
      clear hl; intro ls hl
      refine lv_aload_n hx hb d_S_mergeUp_345 rfl (lv_at hl 1 rfl) ?_
      refine g_S_spare X hP 3 rfl rfl d_S_mergeUp_346 ?_
      refine lv_iload hx hb d_S_mergeUp_349 (lv_at hl 6 rfl) ?_
      refine w_inc (k := 6) (lv' := [(5, .int (nI (i + 1))), (8, .int (nI (x0 + i + (j - y0) + 1))), (0, .ref (a 10)), (1, .int (nI x0)), (2, .int (nI n1)), (3, .int (nI y0)), (4, .int (nI n2))]) hx hb d_S_mergeUp_351 hl rfl (by decide) rfl ?_
      clear hl; intro ls hl
      refine w_ald X hP 2 rfl (by omega) (by decide) d_S_mergeUp_354 ?_
      refine w_ast (ws' := WS cI a hB k g rn gl (upd f (x0 + i + (j - y0)) (sp i)) sp fF fL) X hP hD hS 4 rfl (by omega) (by decide) rfl d_S_mergeUp_355 ?_
      clear hP hD hS; intro H locs hP hD hS
      refine lv_goto (tgt := 330) hx hb d_S_mergeUp_356 (by decide) ?_
      refine ih (i + 1) _ H locs ls (by omega) (by omega) (fun _ => hj) (hM.takeL hxy h1 sl sr (il.part (Nat.le_refl _) (Nat.le_refl _) (Nat.le_refl _) hmid.2.1) (fun q => by omega)) hP hD hS (by rw [show x0 + (i + 1) + (j - y0) = x0 + i + (j - y0) + 1 by omega]; exact (lv_sub hl [2, 3, 4, 5, 6, 0, 1] rfl))
set_option maxHeartbeats 4000000 in
theorem l_mugr {x0 n1 y0 n2 lo mid hi : Nat} {f0 : Nat → Int32} (X : Cx D cI cJ cO p s m c b_S_mergeUp 14 R_S) (hk : k < 4) (hR : 3 ≤ R.frames ∧ 220 ≤ R.locals) (hf : cells ≤ R.cells ∧ slots ≤ R.slots) (hxy : x0 + n1 = y0) (hyn : y0 + n2 ≤ 2000) (sl : Sg (Ky k g) f0 x0 y0) (sr : Sg (Ky k g) f0 y0 (y0 + n2)) (il : In f0 x0 y0 lo mid) (ir : In f0 y0 (y0 + n2) mid hi) (hmid : lo ≤ mid ∧ mid ≤ hi ∧ hi ≤ 2000) {gl lf : Int32} {sp : Nat → Int32} {i j q : Nat} (hi1 : i < n1) (hjq : j + q ≤ y0 + n2) (hjy : y0 ≤ j) (hall : ∀ t, t < q → LT (Ky k g) (f0 (j + t)) (sp i)) (kk : ∀ (f : Nat → Int32) (H : Heap) (locs : List Loc) (ls : Array Slot), MU (Ky k g) f0 f sp x0 n1 y0 n2 lo hi i (j + q) → va_P D vCL (WS cI a hB k g rn gl f sp fF fL) H → va_D A (WS cI a hB k g rn gl f sp fF fL) → va_S A H0 H locs → lv_has ls 14 [(0, .ref (a 10)), (1, .int (nI x0)), (2, .int (nI n1)), (3, .int (nI y0)), (4, .int (nI n2)), (5, .int (nI i)), (6, .int (nI (j + q))), (7, .int (nI (y0 + n2))), (8, .int (nI (x0 + i + (j + q - y0)))), (10, .int lf), (12, .int (nI q))] → W p l e R s m args below meth c H locs cells slots Q (F0 m 286 ls [])) : ∀ (fuel t : Nat) (f : Nat → Int32) (H : Heap) (locs : List Loc) (ls : Array Slot), q - t < fuel → t ≤ q → MU (Ky k g) f0 f sp x0 n1 y0 n2 lo hi i (j + t) → va_P D vCL (WS cI a hB k g rn gl f sp fF fL) H → va_D A (WS cI a hB k g rn gl f sp fF fL) → va_S A H0 H locs → lv_has ls 14 [(0, .ref (a 10)), (1, .int (nI x0)), (2, .int (nI n1)), (3, .int (nI y0)), (4, .int (nI n2)), (5, .int (nI i)), (6, .int (nI (j + t))), (7, .int (nI (y0 + n2))), (8, .int (nI (x0 + i + (j + t - y0)))), (10, .int lf), (11, .int (nI 1)), (12, .int (nI q)), (13, .int (nI t))] → W p l e R s m args below meth c H locs cells slots Q (F0 m 235 ls []) := by
  have hx := X.x
  have hb := X.b
  intro fuel
  induction fuel with
  | zero => intro t f H locs ls h; omega
  | succ fuel ih =>
    intro t f H locs ls hfu ht hM hP hD hS hl
    refine lv_iload hx hb d_S_mergeUp_235 (lv_at hl 12 rfl) ?_
    refine lv_iload hx hb d_S_mergeUp_237 (lv_at hl 11 rfl) ?_
    refine w_icmp_ge (tgt := 286) hx hb d_S_mergeUp_239 (by decide) ⟨by omega, by omega⟩ (fun h1 => ?_) (fun h1 => ?_)
    · have e : t = q := by omega
      subst e
      exact kk f H locs ls hM hP hD hS (lv_sub hl [0, 1, 2, 3, 4, 5, 6, 7, 8, 9, 11] rfl)
    · refine lv_aload_n hx hb d_S_mergeUp_242 rfl (lv_at hl 0 rfl) ?_
      refine g_S_cells X hP 3 rfl rfl d_S_mergeUp_243 ?_
      refine lv_iload hx hb d_S_mergeUp_246 (lv_at hl 8 rfl) ?_
      refine lv_iload hx hb d_S_mergeUp_248 (lv_at hl 10 rfl) ?_
      refine w_if_eq (tgt := 266) hx hb d_S_mergeUp_250 (by decide) (by omega) (fun h2 => ?_) (fun h2 => ?_)
      · exact absurd h2 (by decide)
      · refine lv_aload_n hx hb d_S_mergeUp_253 rfl (lv_at hl 0 rfl) ?_
        refine g_S_cells X hP 3 rfl rfl d_S_mergeUp_254 ?_
        refine lv_iload hx hb d_S_mergeUp_257 (lv_at hl 6 rfl) ?_
        refine w_inc (k := 6) (lv' := [(6, .int (nI (j + t + 1))), (0, .ref (a 10)), (1, .int (nI x0)), (2, .int (nI n1)), (3, .int (nI y0)), (4, .int (nI n2)), (5, .int (nI i)), (7, .int (nI (y0 + n2))), (8, .int (nI (x0 + i + (j + t - y0)))), (10, .int lf), (11, .int (nI 1)), (12, .int (nI q)), (13, .int (nI t))]) hx hb d_S_mergeUp_259 hl rfl (by decide) rfl ?_
        clear hl; intro ls hl
        refine w_ald X hP 4 rfl (by omega) (by decide) d_S_mergeUp_262 ?_
        refine lv_goto (tgt := 276) hx hb d_S_mergeUp_263 (by decide) ?_
        have hc : LT (Ky k g) (f (j + t)) (sp i) := by rw [hM.2.2.2.2.1 (j + t) (Nat.le_refl _) (by omega)]; exact hall t h1
        have hM2 := hM.takeR hxy hi1 (by omega) sl sr (ir.part (Nat.le_refl _) (Nat.le_refl _) hmid.1 (Nat.le_refl _)) hc
        refine w_ast (ws' := WS cI a hB k g rn gl (upd f (x0 + i + (j + t - y0)) (f (j + t))) sp fF fL) X hP hD hS 4 rfl (by omega) (by decide) rfl d_S_mergeUp_276 ?_
        clear hP hD hS; intro H locs hP hD hS
        refine w_inc (k := 8) (lv' := [(8, .int (nI (x0 + i + (j + t - y0) + 1))), (6, .int (nI (j + t + 1))), (0, .ref (a 10)), (1, .int (nI x0)), (2, .int (nI n1)), (3, .int (nI y0)), (4, .int (nI n2)), (5, .int (nI i)), (7, .int (nI (y0 + n2))), (10, .int lf), (11, .int (nI 1)), (12, .int (nI q)), (13, .int (nI t))]) hx hb d_S_mergeUp_277 hl rfl (by decide) rfl ?_
        clear hl; intro ls hl
        refine w_inc (k := 12) (lv' := [(13, .int (nI (t + 1))), (8, .int (nI (x0 + i + (j + t - y0) + 1))), (6, .int (nI (j + t + 1))), (0, .ref (a 10)), (1, .int (nI x0)), (2, .int (nI n1)), (3, .int (nI y0)), (4, .int (nI n2)), (5, .int (nI i)), (7, .int (nI (y0 + n2))), (10, .int lf), (11, .int (nI 1)), (12, .int (nI q))]) hx hb d_S_mergeUp_280 hl rfl (by decide) rfl ?_
        clear hl; intro ls hl
        refine lv_goto (tgt := 235) hx hb d_S_mergeUp_283 (by decide) ?_
        refine ih (t + 1) _ H locs ls (by omega) (by omega) hM2 hP hD hS (by rw [show x0 + i + (j + (t + 1) - y0) = x0 + i + (j + t - y0) + 1 by omega]; exact (lv_sub hl [3, 4, 5, 6, 7, 8, 2, 9, 1, 10, 11, 12, 0] rfl))
set_option maxHeartbeats 4000000 in
theorem l_mugl {x0 n1 y0 n2 lo mid hi : Nat} {f0 : Nat → Int32} (X : Cx D cI cJ cO p s m c b_S_mergeUp 14 R_S) (hk : k < 4) (hR : 3 ≤ R.frames ∧ 220 ≤ R.locals) (hf : cells ≤ R.cells ∧ slots ≤ R.slots) (hxy : x0 + n1 = y0) (hyn : y0 + n2 ≤ 2000) (sl : Sg (Ky k g) f0 x0 y0) (sr : Sg (Ky k g) f0 y0 (y0 + n2)) (il : In f0 x0 y0 lo mid) (ir : In f0 y0 (y0 + n2) mid hi) (hmid : lo ≤ mid ∧ mid ≤ hi ∧ hi ≤ 2000) {gl lf : Int32} {sp : Nat → Int32} {i j q : Nat} (hj1 : j < y0 + n2) (hiq : i + q ≤ n1) (hjy : y0 ≤ j) (hall : ∀ t, i ≤ t → t < i + q → LT (Ky k g) (sp t) (f0 j)) (kk : ∀ (f : Nat → Int32) (H : Heap) (locs : List Loc) (ls : Array Slot), MU (Ky k g) f0 f sp x0 n1 y0 n2 lo hi (i + q) j → va_P D vCL (WS cI a hB k g rn gl f sp fF fL) H → va_D A (WS cI a hB k g rn gl f sp fF fL) → va_S A H0 H locs → lv_has ls 14 [(0, .ref (a 10)), (1, .int (nI x0)), (2, .int (nI n1)), (3, .int (nI y0)), (4, .int (nI n2)), (5, .int (nI (i + q))), (6, .int (nI j)), (7, .int (nI (y0 + n2))), (8, .int (nI (x0 + (i + q) + (j - y0)))), (10, .int lf), (12, .int (nI q))] → W p l e R s m args below meth c H locs cells slots Q (F0 m 286 ls [])) : ∀ (fuel t : Nat) (f : Nat → Int32) (H : Heap) (locs : List Loc) (ls : Array Slot), q - t < fuel → t ≤ q → MU (Ky k g) f0 f sp x0 n1 y0 n2 lo hi (i + t) j → va_P D vCL (WS cI a hB k g rn gl f sp fF fL) H → va_D A (WS cI a hB k g rn gl f sp fF fL) → va_S A H0 H locs → lv_has ls 14 [(0, .ref (a 10)), (1, .int (nI x0)), (2, .int (nI n1)), (3, .int (nI y0)), (4, .int (nI n2)), (5, .int (nI (i + t))), (6, .int (nI j)), (7, .int (nI (y0 + n2))), (8, .int (nI (x0 + (i + t) + (j - y0)))), (10, .int lf), (11, .int (nI 0)), (12, .int (nI q)), (13, .int (nI t))] → W p l e R s m args below meth c H locs cells slots Q (F0 m 235 ls []) := by
  have hx := X.x
  have hb := X.b
  intro fuel
  induction fuel with
  | zero => intro t f H locs ls h; omega
  | succ fuel ih =>
    intro t f H locs ls hfu ht hM hP hD hS hl
    refine lv_iload hx hb d_S_mergeUp_235 (lv_at hl 12 rfl) ?_
    refine lv_iload hx hb d_S_mergeUp_237 (lv_at hl 11 rfl) ?_
    refine w_icmp_ge (tgt := 286) hx hb d_S_mergeUp_239 (by decide) ⟨by omega, by omega⟩ (fun h1 => ?_) (fun h1 => ?_)
    · have e : t = q := by omega
      subst e
      exact kk f H locs ls hM hP hD hS (lv_sub hl [0, 1, 2, 3, 4, 5, 6, 7, 8, 9, 11] rfl)
    · refine lv_aload_n hx hb d_S_mergeUp_242 rfl (lv_at hl 0 rfl) ?_
      refine g_S_cells X hP 3 rfl rfl d_S_mergeUp_243 ?_
      refine lv_iload hx hb d_S_mergeUp_246 (lv_at hl 8 rfl) ?_
      refine lv_iload hx hb d_S_mergeUp_248 (lv_at hl 10 rfl) ?_
      refine w_if_eq (tgt := 266) hx hb d_S_mergeUp_250 (by decide) (by omega) (fun h2 => ?_) (fun h2 => ?_)
      · refine lv_aload_n hx hb d_S_mergeUp_266 rfl (lv_at hl 0 rfl) ?_
        refine g_S_spare X hP 3 rfl rfl d_S_mergeUp_267 ?_
        refine lv_iload hx hb d_S_mergeUp_270 (lv_at hl 5 rfl) ?_
        refine w_inc (k := 5) (lv' := [(5, .int (nI (i + t + 1))), (0, .ref (a 10)), (1, .int (nI x0)), (2, .int (nI n1)), (3, .int (nI y0)), (4, .int (nI n2)), (6, .int (nI j)), (7, .int (nI (y0 + n2))), (8, .int (nI (x0 + (i + t) + (j - y0)))), (10, .int lf), (11, .int (nI 0)), (12, .int (nI q)), (13, .int (nI t))]) hx hb d_S_mergeUp_272 hl rfl (by decide) rfl ?_
        clear hl; intro ls hl
        refine w_ald X hP 2 rfl (by omega) (by decide) d_S_mergeUp_275 ?_
        have hc : j < y0 + n2 → LT (Ky k g) (sp (i + t)) (f j) := fun _ => by rw [hM.2.2.2.2.1 j (Nat.le_refl _) hj1]; exact hall (i + t) (by omega) (by omega)
        have hM2 := hM.takeL hxy (by omega) sl sr (il.part (Nat.le_refl _) (Nat.le_refl _) (Nat.le_refl _) hmid.2.1) hc
        refine w_ast (ws' := WS cI a hB k g rn gl (upd f (x0 + (i + t) + (j - y0)) (sp (i + t))) sp fF fL) X hP hD hS 4 rfl (by omega) (by decide) rfl d_S_mergeUp_276 ?_
        clear hP hD hS; intro H locs hP hD hS
        refine w_inc (k := 8) (lv' := [(8, .int (nI (x0 + (i + t) + (j - y0) + 1))), (5, .int (nI (i + t + 1))), (0, .ref (a 10)), (1, .int (nI x0)), (2, .int (nI n1)), (3, .int (nI y0)), (4, .int (nI n2)), (6, .int (nI j)), (7, .int (nI (y0 + n2))), (10, .int lf), (11, .int (nI 0)), (12, .int (nI q)), (13, .int (nI t))]) hx hb d_S_mergeUp_277 hl rfl (by decide) rfl ?_
        clear hl; intro ls hl
        refine w_inc (k := 12) (lv' := [(13, .int (nI (t + 1))), (8, .int (nI (x0 + (i + t) + (j - y0) + 1))), (5, .int (nI (i + t + 1))), (0, .ref (a 10)), (1, .int (nI x0)), (2, .int (nI n1)), (3, .int (nI y0)), (4, .int (nI n2)), (6, .int (nI j)), (7, .int (nI (y0 + n2))), (10, .int lf), (11, .int (nI 0)), (12, .int (nI q))]) hx hb d_S_mergeUp_280 hl rfl (by decide) rfl ?_
        clear hl; intro ls hl
        refine lv_goto (tgt := 235) hx hb d_S_mergeUp_283 (by decide) ?_
        refine ih (t + 1) _ H locs ls (by omega) (by omega) hM2 hP hD hS (by rw [show x0 + (i + (t + 1)) + (j - y0) = x0 + (i + t) + (j - y0) + 1 by omega]; exact (lv_sub hl [3, 4, 5, 6, 7, 2, 8, 9, 1, 10, 11, 12, 0] rfl))
      · exact absurd rfl h2
set_option maxHeartbeats 8000000 in
set_option maxRecDepth 100000 in
theorem l_mu1 {x0 n1 y0 n2 lo mid hi : Nat} {f0 : Nat → Int32} (X : Cx D cI cJ cO p s m c b_S_mergeUp 14 R_S) (hk : k < 4) (hR : 3 ≤ R.frames ∧ 220 ≤ R.locals) (hf : cells ≤ R.cells ∧ slots ≤ R.slots) (hxy : x0 + n1 = y0) (hyn : y0 + n2 ≤ 2000) (sl : Sg (Ky k g) f0 x0 y0) (sr : Sg (Ky k g) f0 y0 (y0 + n2)) (il : In f0 x0 y0 lo mid) (ir : In f0 y0 (y0 + n2) mid hi) (hmid : lo ≤ mid ∧ mid ≤ hi ∧ hi ≤ 2000) {sp : Nat → Int32} (kk : ∀ (i j : Nat) (gl : Int32) (f : Nat → Int32) (H : Heap) (locs : List Loc) (ls : Array Slot), (i < n1 → j = y0 + n2) → MU (Ky k g) f0 f sp x0 n1 y0 n2 lo hi i j → va_P D vCL (WS cI a hB k g rn gl f sp fF fL) H → va_D A (WS cI a hB k g rn gl f sp fF fL) → va_S A H0 H locs → lv_has ls 14 [(0, .ref (a 10)), (1, .int (nI x0)), (2, .int (nI n1)), (3, .int (nI y0)), (4, .int (nI n2)), (5, .int (nI i)), (8, .int (nI (x0 + i + (j - y0))))] → W p l e R s m args below meth c H locs cells slots Q (F0 m 330 ls [])) : ∀ (fuel i j : Nat) (wn lf gl : Int32) (f : Nat → Int32) (H : Heap) (locs : List Loc) (ls : Array Slot), (n1 - i) + (y0 + n2 - j) < fuel → MU (Ky k g) f0 f sp x0 n1 y0 n2 lo hi i j → va_P D vCL (WS cI a hB k g rn gl f sp fF fL) H → va_D A (WS cI a hB k g rn gl f sp fF fL) → va_S A H0 H locs → lv_has ls 14 [(0, .ref (a 10)), (1, .int (nI x0)), (2, .int (nI n1)), (3, .int (nI y0)), (4, .int (nI n2)), (5, .int (nI i)), (6, .int (nI j)), (7, .int (nI (y0 + n2))), (8, .int (nI (x0 + i + (j - y0)))), (9, .int wn), (10, .int lf)] → W p l e R s m args below meth c H locs cells slots Q (F0 m 52 ls []) := by
  have hx := X.x
  have hb := X.b
  have hR2 : 2 ≤ R.frames ∧ 180 ≤ R.locals := by omega
  intro fuel
  induction fuel with
  | zero => intro i j wn lf gl f H locs ls h; omega
  | succ fuel ih =>
    intro i j wn lf gl f H locs ls hfu hM hP hD hS hl
    have hb1 := hM.1
    have hb2 := hM.2.1
    have hb3 := hM.2.2.1
    refine lv_iload hx hb d_S_mergeUp_52 (lv_at hl 5 rfl) ?_
    refine lv_iload_n hx hb d_S_mergeUp_54 rfl (lv_at hl 2 rfl) ?_
    refine w_icmp_ge (tgt := 330) hx hb d_S_mergeUp_55 (by decide) ⟨by omega, by omega⟩ (fun h1 => ?_) (fun h1 => ?_)
    · exact kk i j gl f H locs ls (fun q => by omega) hM hP hD hS (lv_sub hl [0, 1, 2, 3, 4, 5, 8] rfl)
    · refine lv_iload hx hb d_S_mergeUp_58 (lv_at hl 6 rfl) ?_
      refine lv_iload hx hb d_S_mergeUp_60 (lv_at hl 7 rfl) ?_
      refine w_icmp_ge (tgt := 330) hx hb d_S_mergeUp_62 (by decide) ⟨by omega, by omega⟩ (fun h2 => ?_) (fun h2 => ?_)
      · exact kk i j gl f H locs ls (fun q => by omega) hM hP hD hS (lv_sub hl [0, 1, 2, 3, 4, 5, 8] rfl)
      · refine lv_aload_n hx hb d_S_mergeUp_65 rfl (lv_at hl 0 rfl) ?_
        refine g_S_order X hP 3 rfl rfl d_S_mergeUp_66 ?_
        refine lv_aload_n hx hb d_S_mergeUp_69 rfl (lv_at hl 0 rfl) ?_
        refine g_S_cells X hP 3 rfl rfl d_S_mergeUp_70 ?_
        refine lv_iload hx hb d_S_mergeUp_73 (lv_at hl 6 rfl) ?_
        refine w_ald X hP 4 rfl (by omega) (by decide) d_S_mergeUp_75 ?_
        refine lv_aload_n hx hb d_S_mergeUp_76 rfl (lv_at hl 0 rfl) ?_
        refine g_S_spare X hP 3 rfl rfl d_S_mergeUp_77 ?_
        refine lv_iload hx hb d_S_mergeUp_80 (lv_at hl 5 rfl) ?_
        refine w_ald X hP 2 rfl (by omega) (by decide) d_S_mergeUp_82 ?_
        refine cS_cmp X hk hP hR2 hf hl.1 (hM.vdF ir hmid.2.2 (Nat.le_refl _) h2) (hM.vdS il hxy (by omega) h1) (by decide) d_S_mergeUp_83 (fun rr hrr => ?_)
        refine lv_if_ge (tgt := 95) hx hb d_S_mergeUp_88 (by decide) (fun h3 => ?_) (fun h3 => ?_)
        · refine lv_iconst (v := nI 0) hx hb d_S_mergeUp_95 (by decide) ?_
          refine lv_istore (lv' := [(11, .int (nI 0)), (0, .ref (a 10)), (1, .int (nI x0)), (2, .int (nI n1)), (3, .int (nI y0)), (4, .int (nI n2)), (5, .int (nI i)), (6, .int (nI j)), (7, .int (nI (y0 + n2))), (8, .int (nI (x0 + i + (j - y0)))), (9, .int wn), (10, .int lf)]) hx hb d_S_mergeUp_96 hl (by decide) rfl ?_
          clear hl; intro ls hl
          refine lv_aload_n hx hb d_S_mergeUp_98 rfl (lv_at hl 1 rfl) ?_
          refine g_S_cells X hP 3 rfl rfl d_S_mergeUp_99 ?_
          refine lv_iload hx hb d_S_mergeUp_102 (lv_at hl 9 rfl) ?_
          refine lv_iload hx hb d_S_mergeUp_104 (lv_at hl 0 rfl) ?_
          refine w_if_eq (tgt := 122) hx hb d_S_mergeUp_106 (by decide) (by omega) (fun h4 => ?_) (fun h4 => ?_)
          · refine lv_aload_n hx hb d_S_mergeUp_122 rfl (lv_at hl 1 rfl) ?_
            refine g_S_spare X hP 3 rfl rfl d_S_mergeUp_123 ?_
            refine lv_iload hx hb d_S_mergeUp_126 (lv_at hl 6 rfl) ?_
            refine w_inc (k := 6) (lv' := [(5, .int (nI (i + 1))), (11, .int (nI 0)), (0, .ref (a 10)), (1, .int (nI x0)), (2, .int (nI n1)), (3, .int (nI y0)), (4, .int (nI n2)), (6, .int (nI j)), (7, .int (nI (y0 + n2))), (8, .int (nI (x0 + i + (j - y0)))), (9, .int wn), (10, .int lf)]) hx hb d_S_mergeUp_128 hl rfl (by decide) rfl ?_
            clear hl; intro ls hl
            refine w_ald X hP 2 rfl (by omega) (by decide) d_S_mergeUp_131 ?_
            have hM2 := hM.takeL hxy h1 sl sr (il.part (Nat.le_refl _) (Nat.le_refl _) (Nat.le_refl _) hmid.2.1) (fun _ => hM.cmpL il ir hxy hmid.2.2 h1 h2 (hrr.ge.mp h3))
            refine w_ast (ws' := WS cI a hB k g rn gl (upd f (x0 + i + (j - y0)) (sp i)) sp fF fL) X hP hD hS 4 rfl (by omega) (by decide) rfl d_S_mergeUp_132 ?_
            clear hP hD hS; intro H locs hP hD hS
            refine w_inc (k := 9) (lv' := [(8, .int (nI (x0 + i + (j - y0) + 1))), (5, .int (nI (i + 1))), (11, .int (nI 0)), (0, .ref (a 10)), (1, .int (nI x0)), (2, .int (nI n1)), (3, .int (nI y0)), (4, .int (nI n2)), (6, .int (nI j)), (7, .int (nI (y0 + n2))), (9, .int wn), (10, .int lf)]) hx hb d_S_mergeUp_133 hl rfl (by decide) rfl ?_
            clear hl; intro ls hl
            refine lv_iload hx hb d_S_mergeUp_136 (lv_at hl 2 rfl) ?_
            refine lv_iload hx hb d_S_mergeUp_138 (lv_at hl 11 rfl) ?_
            refine lv_icmp_eq (tgt := 150) hx hb d_S_mergeUp_140 (by decide) (fun h5 => ?_) (fun h5 => ?_)
            · refine lv_iconst (v := nI 1) hx hb d_S_mergeUp_150 (by decide) ?_
              refine lv_istore (lv' := [(9, .int (nI 1)), (8, .int (nI (x0 + i + (j - y0) + 1))), (5, .int (nI (i + 1))), (11, .int (nI 0)), (0, .ref (a 10)), (1, .int (nI x0)), (2, .int (nI n1)), (3, .int (nI y0)), (4, .int (nI n2)), (6, .int (nI j)), (7, .int (nI (y0 + n2))), (10, .int lf)]) hx hb d_S_mergeUp_151 hl (by decide) rfl ?_
              clear hl; intro ls hl
              refine lv_iload hx hb d_S_mergeUp_153 (lv_at hl 3 rfl) ?_
              refine w_if_ne (tgt := 162) hx hb d_S_mergeUp_155 (by decide) (by omega) (fun h6 => ?_) (fun h6 => ?_)
              · exact absurd rfl h6
              · refine lv_iconst (v := nI 1) hx hb d_S_mergeUp_158 (by decide) ?_
                refine lv_goto (tgt := 163) hx hb d_S_mergeUp_159 (by decide) ?_
                refine lv_istore (lv' := [(10, .int (nI 1)), (9, .int (nI 1)), (8, .int (nI (x0 + i + (j - y0) + 1))), (5, .int (nI (i + 1))), (11, .int (nI 0)), (0, .ref (a 10)), (1, .int (nI x0)), (2, .int (nI n1)), (3, .int (nI y0)), (4, .int (nI n2)), (6, .int (nI j)), (7, .int (nI (y0 + n2)))]) hx hb d_S_mergeUp_163 hl (by decide) rfl ?_
                clear hl; intro ls hl
                refine lv_iload hx hb d_S_mergeUp_165 (lv_at hl 1 rfl) ?_
                refine lv_aload_n hx hb d_S_mergeUp_167 rfl (lv_at hl 5 rfl) ?_
                refine g_S_gallop X hP 3 rfl rfl d_S_mergeUp_168 ?_
                refine lv_icmp_lt (tgt := 52) hx hb d_S_mergeUp_171 (by decide) (fun h7 => ?_) (fun h7 => ?_)
                · exact ih (i + 1) (j) _ _ _ _ H locs ls (by omega) hM2 hP hD hS (by rw [show x0 + (i + 1) + (j - y0) = x0 + i + (j - y0) + 1 by omega]; exact (lv_sub hl [5, 6, 7, 8, 9, 3, 10, 11, 2, 1, 0] rfl))
                · refine lv_iload hx hb d_S_mergeUp_174 (lv_at hl 3 rfl) ?_
                  refine lv_iload_n hx hb d_S_mergeUp_176 rfl (lv_at hl 7 rfl) ?_
                  refine w_icmp_eq (tgt := 52) hx hb d_S_mergeUp_177 (by decide) ⟨by omega, by omega⟩ (fun h8 => ?_) (fun h8 => ?_)
                  · exact ih (i + 1) (j) _ _ _ _ H locs ls (by omega) hM2 hP hD hS (by rw [show x0 + (i + 1) + (j - y0) = x0 + i + (j - y0) + 1 by omega]; exact (lv_sub hl [5, 6, 7, 8, 9, 3, 10, 11, 2, 1, 0] rfl))
                  · refine lv_iload hx hb d_S_mergeUp_180 (lv_at hl 10 rfl) ?_
                    refine lv_iload hx hb d_S_mergeUp_182 (lv_at hl 11 rfl) ?_
                    refine w_icmp_ne (tgt := 190) hx hb d_S_mergeUp_184 (by decide) ⟨by omega, by omega⟩ (fun h9 => ?_) (fun h9 => ?_)
                    · refine lv_iload hx hb d_S_mergeUp_190 (lv_at hl 4 rfl) ?_
                      refine w_if_eq (tgt := 216) hx hb d_S_mergeUp_192 (by decide) (by omega) (fun h10 => ?_) (fun h10 => ?_)
                      · refine lv_aload_n hx hb d_S_mergeUp_216 rfl (lv_at hl 5 rfl) ?_
                        refine lv_aload_n hx hb d_S_mergeUp_217 rfl (lv_at hl 5 rfl) ?_
                        refine g_S_cells X hP 3 rfl rfl d_S_mergeUp_218 ?_
                        refine lv_iload hx hb d_S_mergeUp_221 (lv_at hl 10 rfl) ?_
                        refine w_ald X hP 4 rfl (by omega) (by decide) d_S_mergeUp_223 ?_
                        refine lv_iload hx hb d_S_mergeUp_224 (lv_at hl 3 rfl) ?_
                        refine lv_iload_n hx hb d_S_mergeUp_226 rfl (lv_at hl 7 rfl) ?_
                        refine rd_V (C := R_S) X (c_S_waiting l D cI cJ cO a hB k g rn gl (upd f (x0 + i + (j - y0)) (sp i)) sp fF fL _ _ _ hk (hM2.vdF ir hmid.2.2 (Nat.le_refl _) h2) (by omega) (by omega) (fun t t1 t2 => by obtain ⟨z, z1, z2, z3⟩ := il (x0 + t) (by omega) (by omega); exact ⟨z, Nat.zero_le _, by omega, (hM2.2.2.2.1 t t2).trans z3⟩) (fun t1 t2 z1 z2 z3 => hM2.moS sl hxy z2 z3)) (cx_B X _ wk_S_73 wi_S_waiting wc_S_waiting wd_S_waiting ⟨by omega, by omega⟩) wm_S_waiting wl_S_waiting hP (rcv X hP (ci := 1) (q0 := 3) rfl rfl) rfl hl.1 rfl (Nat.le_of_ble_eq_true rfl) d_S_mergeUp_227 hf (fun rr hrr => ?_)
                        obtain ⟨q, rfl, hq1, hq2, hq3⟩ := hrr
                        refine lv_istore (lv' := [(12, .int (nI q)), (10, .int (nI 1)), (9, .int (nI 1)), (8, .int (nI (x0 + i + (j - y0) + 1))), (5, .int (nI (i + 1))), (11, .int (nI 0)), (0, .ref (a 10)), (1, .int (nI x0)), (2, .int (nI n1)), (3, .int (nI y0)), (4, .int (nI n2)), (6, .int (nI j)), (7, .int (nI (y0 + n2)))]) hx hb d_S_mergeUp_230 hl (by decide) rfl ?_
                        clear hl; intro ls hl
                        refine lv_iconst (v := nI 0) hx hb d_S_mergeUp_232 (by decide) ?_
                        refine lv_istore (lv' := [(13, .int (nI 0)), (12, .int (nI q)), (10, .int (nI 1)), (9, .int (nI 1)), (8, .int (nI (x0 + i + (j - y0) + 1))), (5, .int (nI (i + 1))), (11, .int (nI 0)), (0, .ref (a 10)), (1, .int (nI x0)), (2, .int (nI n1)), (3, .int (nI y0)), (4, .int (nI n2)), (6, .int (nI j)), (7, .int (nI (y0 + n2)))]) hx hb d_S_mergeUp_233 hl (by decide) rfl ?_
                        clear hl; intro ls hl
                        refine l_mugl X hk hR hf hxy hyn sl sr il ir hmid (i := i + 1) (j := j) (q := q) h2 hq1 hb2 (fun t t1 t2 => by rw [← hM2.2.2.2.2.1 j (Nat.le_refl _) h2]; obtain ⟨z, z1, z2, z3⟩ := il (x0 + t) (by omega) (by omega); obtain ⟨y, y1, y2, y3⟩ := ir j hb2 h2; exact lt_lo ((hM2.2.2.2.1 t (by omega)).trans z3) ((hM2.2.2.2.2.1 j (Nat.le_refl _) h2).trans y3) (by omega) (by omega) (hq2 t t1 t2)) ?_ (q + 1) 0 _ H locs ls (by omega) (by omega) hM2 hP hD hS (by rw [show x0 + (i + 1 + 0) + (j - y0) = x0 + i + (j - y0) + 1 by omega]; exact (lv_sub hl [7, 8, 9, 10, 11, 5, 12, 13, 4, 2, 6, 1, 0] rfl))
                        clear hP hD hS hl ls locs H; intro f3 H locs ls hM3 hP hD hS hl
                        refine lv_aload_n hx hb d_S_mergeUp_286 rfl (lv_at hl 0 rfl) ?_
                        refine lv_iload hx hb d_S_mergeUp_287 (lv_at hl 10 rfl) ?_
                        refine lv_bipush (v := nI 7) hx hb d_S_mergeUp_289 (by decide) ?_
                        refine w_icmp_lt (tgt := 315) hx hb d_S_mergeUp_291 (by decide) ⟨by omega, by omega⟩ (fun h11 => ?_) (fun h11 => ?_)
                        · refine lv_aload_n hx hb d_S_mergeUp_315 rfl (lv_at hl 0 rfl) ?_
                          refine g_S_gallop X hP 3 rfl rfl d_S_mergeUp_316 ?_
                          refine lv_iconst (v := nI 2) hx hb d_S_mergeUp_319 (by decide) ?_
                          refine lv_iadd hx hb d_S_mergeUp_320 ?_
                          refine p_S_gallop (ws' := WS cI a hB k g rn (gl + (nI 2)) f3 sp fF fL) X hP hD hS 3 rfl (Nat.le_of_ble_eq_true rfl) rfl d_S_mergeUp_321 ?_
                          clear hP hD hS; intro H locs hP hD hS
                          refine lv_iconst (v := nI 0) hx hb d_S_mergeUp_324 (by decide) ?_
                          refine lv_istore (lv' := [(9, .int (nI 0)), (0, .ref (a 10)), (1, .int (nI x0)), (2, .int (nI n1)), (3, .int (nI y0)), (4, .int (nI n2)), (5, .int (nI (i + 1 + q))), (6, .int (nI j)), (7, .int (nI (y0 + n2))), (8, .int (nI (x0 + (i + 1 + q) + (j - y0)))), (10, .int (nI 1)), (12, .int (nI q))]) hx hb d_S_mergeUp_325 hl (by decide) rfl ?_
                          clear hl; intro ls hl
                          refine lv_goto (tgt := 52) hx hb d_S_mergeUp_327 (by decide) ?_
                          exact ih _ _ _ _ _ _ H locs ls (by omega) hM3 hP hD hS (lv_sub hl [1, 2, 3, 4, 5, 6, 7, 8, 9, 0, 10] rfl)
                        · refine lv_aload_n hx hb d_S_mergeUp_294 rfl (lv_at hl 0 rfl) ?_
                          refine g_S_gallop X hP 3 rfl rfl d_S_mergeUp_295 ?_
                          refine lv_iconst (v := nI 1) hx hb d_S_mergeUp_298 (by decide) ?_
                          refine lv_icmp_le (tgt := 311) hx hb d_S_mergeUp_299 (by decide) (fun h12 => ?_) (fun h12 => ?_)
                          · refine lv_iconst (v := nI 1) hx hb d_S_mergeUp_311 (by decide) ?_
                            refine lv_goto (tgt := 321) hx hb d_S_mergeUp_312 (by decide) ?_
                            refine p_S_gallop (ws' := WS cI a hB k g rn (nI 1) f3 sp fF fL) X hP hD hS 3 rfl (Nat.le_of_ble_eq_true rfl) rfl d_S_mergeUp_321 ?_
                            clear hP hD hS; intro H locs hP hD hS
                            refine lv_iconst (v := nI 0) hx hb d_S_mergeUp_324 (by decide) ?_
                            refine lv_istore (lv' := [(9, .int (nI 0)), (0, .ref (a 10)), (1, .int (nI x0)), (2, .int (nI n1)), (3, .int (nI y0)), (4, .int (nI n2)), (5, .int (nI (i + 1 + q))), (6, .int (nI j)), (7, .int (nI (y0 + n2))), (8, .int (nI (x0 + (i + 1 + q) + (j - y0)))), (10, .int (nI 1)), (12, .int (nI q))]) hx hb d_S_mergeUp_325 hl (by decide) rfl ?_
                            clear hl; intro ls hl
                            refine lv_goto (tgt := 52) hx hb d_S_mergeUp_327 (by decide) ?_
                            exact ih _ _ _ _ _ _ H locs ls (by omega) hM3 hP hD hS (lv_sub hl [1, 2, 3, 4, 5, 6, 7, 8, 9, 0, 10] rfl)
                          · refine lv_aload_n hx hb d_S_mergeUp_302 rfl (lv_at hl 0 rfl) ?_
                            refine g_S_gallop X hP 3 rfl rfl d_S_mergeUp_303 ?_
                            refine lv_iconst (v := nI 1) hx hb d_S_mergeUp_306 (by decide) ?_
                            refine lv_isub hx hb d_S_mergeUp_307 ?_
                            refine lv_goto (tgt := 321) hx hb d_S_mergeUp_308 (by decide) ?_
                            refine p_S_gallop (ws' := WS cI a hB k g rn (gl - (nI 1)) f3 sp fF fL) X hP hD hS 3 rfl (Nat.le_of_ble_eq_true rfl) rfl d_S_mergeUp_321 ?_
                            clear hP hD hS; intro H locs hP hD hS
                            refine lv_iconst (v := nI 0) hx hb d_S_mergeUp_324 (by decide) ?_
                            refine lv_istore (lv' := [(9, .int (nI 0)), (0, .ref (a 10)), (1, .int (nI x0)), (2, .int (nI n1)), (3, .int (nI y0)), (4, .int (nI n2)), (5, .int (nI (i + 1 + q))), (6, .int (nI j)), (7, .int (nI (y0 + n2))), (8, .int (nI (x0 + (i + 1 + q) + (j - y0)))), (10, .int (nI 1)), (12, .int (nI q))]) hx hb d_S_mergeUp_325 hl (by decide) rfl ?_
                            clear hl; intro ls hl
                            refine lv_goto (tgt := 52) hx hb d_S_mergeUp_327 (by decide) ?_
                            exact ih _ _ _ _ _ _ H locs ls (by omega) hM3 hP hD hS (lv_sub hl [1, 2, 3, 4, 5, 6, 7, 8, 9, 0, 10] rfl)
                      · exact absurd rfl h10
                    · refine lv_goto (tgt := 52) hx hb d_S_mergeUp_187 (by decide) ?_
                      exact ih (i + 1) (j) _ _ _ _ H locs ls (by omega) hM2 hP hD hS (by rw [show x0 + (i + 1) + (j - y0) = x0 + i + (j - y0) + 1 by omega]; exact (lv_sub hl [5, 6, 7, 8, 9, 3, 10, 11, 2, 1, 0] rfl))
            · refine lv_iload hx hb d_S_mergeUp_143 (lv_at hl 10 rfl) ?_
              refine lv_iconst (v := nI 1) hx hb d_S_mergeUp_145 (by decide) ?_
              refine lv_iadd hx hb d_S_mergeUp_146 ?_
              refine lv_goto (tgt := 151) hx hb d_S_mergeUp_147 (by decide) ?_
              refine lv_istore (lv' := [(9, .int (wn + (nI 1))), (8, .int (nI (x0 + i + (j - y0) + 1))), (5, .int (nI (i + 1))), (11, .int (nI 0)), (0, .ref (a 10)), (1, .int (nI x0)), (2, .int (nI n1)), (3, .int (nI y0)), (4, .int (nI n2)), (6, .int (nI j)), (7, .int (nI (y0 + n2))), (10, .int lf)]) hx hb d_S_mergeUp_151 hl (by decide) rfl ?_
              clear hl; intro ls hl
              refine lv_iload hx hb d_S_mergeUp_153 (lv_at hl 3 rfl) ?_
              refine w_if_ne (tgt := 162) hx hb d_S_mergeUp_155 (by decide) (by omega) (fun h6 => ?_) (fun h6 => ?_)
              · exact absurd rfl h6
              · refine lv_iconst (v := nI 1) hx hb d_S_mergeUp_158 (by decide) ?_
                refine lv_goto (tgt := 163) hx hb d_S_mergeUp_159 (by decide) ?_
                refine lv_istore (lv' := [(10, .int (nI 1)), (9, .int (wn + (nI 1))), (8, .int (nI (x0 + i + (j - y0) + 1))), (5, .int (nI (i + 1))), (11, .int (nI 0)), (0, .ref (a 10)), (1, .int (nI x0)), (2, .int (nI n1)), (3, .int (nI y0)), (4, .int (nI n2)), (6, .int (nI j)), (7, .int (nI (y0 + n2)))]) hx hb d_S_mergeUp_163 hl (by decide) rfl ?_
                clear hl; intro ls hl
                refine lv_iload hx hb d_S_mergeUp_165 (lv_at hl 1 rfl) ?_
                refine lv_aload_n hx hb d_S_mergeUp_167 rfl (lv_at hl 5 rfl) ?_
                refine g_S_gallop X hP 3 rfl rfl d_S_mergeUp_168 ?_
                refine lv_icmp_lt (tgt := 52) hx hb d_S_mergeUp_171 (by decide) (fun h7 => ?_) (fun h7 => ?_)
                · exact ih (i + 1) (j) _ _ _ _ H locs ls (by omega) hM2 hP hD hS (by rw [show x0 + (i + 1) + (j - y0) = x0 + i + (j - y0) + 1 by omega]; exact (lv_sub hl [5, 6, 7, 8, 9, 3, 10, 11, 2, 1, 0] rfl))
                · refine lv_iload hx hb d_S_mergeUp_174 (lv_at hl 3 rfl) ?_
                  refine lv_iload_n hx hb d_S_mergeUp_176 rfl (lv_at hl 7 rfl) ?_
                  refine w_icmp_eq (tgt := 52) hx hb d_S_mergeUp_177 (by decide) ⟨by omega, by omega⟩ (fun h8 => ?_) (fun h8 => ?_)
                  · exact ih (i + 1) (j) _ _ _ _ H locs ls (by omega) hM2 hP hD hS (by rw [show x0 + (i + 1) + (j - y0) = x0 + i + (j - y0) + 1 by omega]; exact (lv_sub hl [5, 6, 7, 8, 9, 3, 10, 11, 2, 1, 0] rfl))
                  · refine lv_iload hx hb d_S_mergeUp_180 (lv_at hl 10 rfl) ?_
                    refine lv_iload hx hb d_S_mergeUp_182 (lv_at hl 11 rfl) ?_
                    refine w_icmp_ne (tgt := 190) hx hb d_S_mergeUp_184 (by decide) ⟨by omega, by omega⟩ (fun h9 => ?_) (fun h9 => ?_)
                    · refine lv_iload hx hb d_S_mergeUp_190 (lv_at hl 4 rfl) ?_
                      refine w_if_eq (tgt := 216) hx hb d_S_mergeUp_192 (by decide) (by omega) (fun h10 => ?_) (fun h10 => ?_)
                      · refine lv_aload_n hx hb d_S_mergeUp_216 rfl (lv_at hl 5 rfl) ?_
                        refine lv_aload_n hx hb d_S_mergeUp_217 rfl (lv_at hl 5 rfl) ?_
                        refine g_S_cells X hP 3 rfl rfl d_S_mergeUp_218 ?_
                        refine lv_iload hx hb d_S_mergeUp_221 (lv_at hl 10 rfl) ?_
                        refine w_ald X hP 4 rfl (by omega) (by decide) d_S_mergeUp_223 ?_
                        refine lv_iload hx hb d_S_mergeUp_224 (lv_at hl 3 rfl) ?_
                        refine lv_iload_n hx hb d_S_mergeUp_226 rfl (lv_at hl 7 rfl) ?_
                        refine rd_V (C := R_S) X (c_S_waiting l D cI cJ cO a hB k g rn gl (upd f (x0 + i + (j - y0)) (sp i)) sp fF fL _ _ _ hk (hM2.vdF ir hmid.2.2 (Nat.le_refl _) h2) (by omega) (by omega) (fun t t1 t2 => by obtain ⟨z, z1, z2, z3⟩ := il (x0 + t) (by omega) (by omega); exact ⟨z, Nat.zero_le _, by omega, (hM2.2.2.2.1 t t2).trans z3⟩) (fun t1 t2 z1 z2 z3 => hM2.moS sl hxy z2 z3)) (cx_B X _ wk_S_73 wi_S_waiting wc_S_waiting wd_S_waiting ⟨by omega, by omega⟩) wm_S_waiting wl_S_waiting hP (rcv X hP (ci := 1) (q0 := 3) rfl rfl) rfl hl.1 rfl (Nat.le_of_ble_eq_true rfl) d_S_mergeUp_227 hf (fun rr hrr => ?_)
                        obtain ⟨q, rfl, hq1, hq2, hq3⟩ := hrr
                        refine lv_istore (lv' := [(12, .int (nI q)), (10, .int (nI 1)), (9, .int (wn + (nI 1))), (8, .int (nI (x0 + i + (j - y0) + 1))), (5, .int (nI (i + 1))), (11, .int (nI 0)), (0, .ref (a 10)), (1, .int (nI x0)), (2, .int (nI n1)), (3, .int (nI y0)), (4, .int (nI n2)), (6, .int (nI j)), (7, .int (nI (y0 + n2)))]) hx hb d_S_mergeUp_230 hl (by decide) rfl ?_
                        clear hl; intro ls hl
                        refine lv_iconst (v := nI 0) hx hb d_S_mergeUp_232 (by decide) ?_
                        refine lv_istore (lv' := [(13, .int (nI 0)), (12, .int (nI q)), (10, .int (nI 1)), (9, .int (wn + (nI 1))), (8, .int (nI (x0 + i + (j - y0) + 1))), (5, .int (nI (i + 1))), (11, .int (nI 0)), (0, .ref (a 10)), (1, .int (nI x0)), (2, .int (nI n1)), (3, .int (nI y0)), (4, .int (nI n2)), (6, .int (nI j)), (7, .int (nI (y0 + n2)))]) hx hb d_S_mergeUp_233 hl (by decide) rfl ?_
                        clear hl; intro ls hl
                        refine l_mugl X hk hR hf hxy hyn sl sr il ir hmid (i := i + 1) (j := j) (q := q) h2 hq1 hb2 (fun t t1 t2 => by rw [← hM2.2.2.2.2.1 j (Nat.le_refl _) h2]; obtain ⟨z, z1, z2, z3⟩ := il (x0 + t) (by omega) (by omega); obtain ⟨y, y1, y2, y3⟩ := ir j hb2 h2; exact lt_lo ((hM2.2.2.2.1 t (by omega)).trans z3) ((hM2.2.2.2.2.1 j (Nat.le_refl _) h2).trans y3) (by omega) (by omega) (hq2 t t1 t2)) ?_ (q + 1) 0 _ H locs ls (by omega) (by omega) hM2 hP hD hS (by rw [show x0 + (i + 1 + 0) + (j - y0) = x0 + i + (j - y0) + 1 by omega]; exact (lv_sub hl [7, 8, 9, 10, 11, 5, 12, 13, 4, 2, 6, 1, 0] rfl))
                        clear hP hD hS hl ls locs H; intro f3 H locs ls hM3 hP hD hS hl
                        refine lv_aload_n hx hb d_S_mergeUp_286 rfl (lv_at hl 0 rfl) ?_
                        refine lv_iload hx hb d_S_mergeUp_287 (lv_at hl 10 rfl) ?_
                        refine lv_bipush (v := nI 7) hx hb d_S_mergeUp_289 (by decide) ?_
                        refine w_icmp_lt (tgt := 315) hx hb d_S_mergeUp_291 (by decide) ⟨by omega, by omega⟩ (fun h11 => ?_) (fun h11 => ?_)
                        · refine lv_aload_n hx hb d_S_mergeUp_315 rfl (lv_at hl 0 rfl) ?_
                          refine g_S_gallop X hP 3 rfl rfl d_S_mergeUp_316 ?_
                          refine lv_iconst (v := nI 2) hx hb d_S_mergeUp_319 (by decide) ?_
                          refine lv_iadd hx hb d_S_mergeUp_320 ?_
                          refine p_S_gallop (ws' := WS cI a hB k g rn (gl + (nI 2)) f3 sp fF fL) X hP hD hS 3 rfl (Nat.le_of_ble_eq_true rfl) rfl d_S_mergeUp_321 ?_
                          clear hP hD hS; intro H locs hP hD hS
                          refine lv_iconst (v := nI 0) hx hb d_S_mergeUp_324 (by decide) ?_
                          refine lv_istore (lv' := [(9, .int (nI 0)), (0, .ref (a 10)), (1, .int (nI x0)), (2, .int (nI n1)), (3, .int (nI y0)), (4, .int (nI n2)), (5, .int (nI (i + 1 + q))), (6, .int (nI j)), (7, .int (nI (y0 + n2))), (8, .int (nI (x0 + (i + 1 + q) + (j - y0)))), (10, .int (nI 1)), (12, .int (nI q))]) hx hb d_S_mergeUp_325 hl (by decide) rfl ?_
                          clear hl; intro ls hl
                          refine lv_goto (tgt := 52) hx hb d_S_mergeUp_327 (by decide) ?_
                          exact ih _ _ _ _ _ _ H locs ls (by omega) hM3 hP hD hS (lv_sub hl [1, 2, 3, 4, 5, 6, 7, 8, 9, 0, 10] rfl)
                        · refine lv_aload_n hx hb d_S_mergeUp_294 rfl (lv_at hl 0 rfl) ?_
                          refine g_S_gallop X hP 3 rfl rfl d_S_mergeUp_295 ?_
                          refine lv_iconst (v := nI 1) hx hb d_S_mergeUp_298 (by decide) ?_
                          refine lv_icmp_le (tgt := 311) hx hb d_S_mergeUp_299 (by decide) (fun h12 => ?_) (fun h12 => ?_)
                          · refine lv_iconst (v := nI 1) hx hb d_S_mergeUp_311 (by decide) ?_
                            refine lv_goto (tgt := 321) hx hb d_S_mergeUp_312 (by decide) ?_
                            refine p_S_gallop (ws' := WS cI a hB k g rn (nI 1) f3 sp fF fL) X hP hD hS 3 rfl (Nat.le_of_ble_eq_true rfl) rfl d_S_mergeUp_321 ?_
                            clear hP hD hS; intro H locs hP hD hS
                            refine lv_iconst (v := nI 0) hx hb d_S_mergeUp_324 (by decide) ?_
                            refine lv_istore (lv' := [(9, .int (nI 0)), (0, .ref (a 10)), (1, .int (nI x0)), (2, .int (nI n1)), (3, .int (nI y0)), (4, .int (nI n2)), (5, .int (nI (i + 1 + q))), (6, .int (nI j)), (7, .int (nI (y0 + n2))), (8, .int (nI (x0 + (i + 1 + q) + (j - y0)))), (10, .int (nI 1)), (12, .int (nI q))]) hx hb d_S_mergeUp_325 hl (by decide) rfl ?_
                            clear hl; intro ls hl
                            refine lv_goto (tgt := 52) hx hb d_S_mergeUp_327 (by decide) ?_
                            exact ih _ _ _ _ _ _ H locs ls (by omega) hM3 hP hD hS (lv_sub hl [1, 2, 3, 4, 5, 6, 7, 8, 9, 0, 10] rfl)
                          · refine lv_aload_n hx hb d_S_mergeUp_302 rfl (lv_at hl 0 rfl) ?_
                            refine g_S_gallop X hP 3 rfl rfl d_S_mergeUp_303 ?_
                            refine lv_iconst (v := nI 1) hx hb d_S_mergeUp_306 (by decide) ?_
                            refine lv_isub hx hb d_S_mergeUp_307 ?_
                            refine lv_goto (tgt := 321) hx hb d_S_mergeUp_308 (by decide) ?_
                            refine p_S_gallop (ws' := WS cI a hB k g rn (gl - (nI 1)) f3 sp fF fL) X hP hD hS 3 rfl (Nat.le_of_ble_eq_true rfl) rfl d_S_mergeUp_321 ?_
                            clear hP hD hS; intro H locs hP hD hS
                            refine lv_iconst (v := nI 0) hx hb d_S_mergeUp_324 (by decide) ?_
                            refine lv_istore (lv' := [(9, .int (nI 0)), (0, .ref (a 10)), (1, .int (nI x0)), (2, .int (nI n1)), (3, .int (nI y0)), (4, .int (nI n2)), (5, .int (nI (i + 1 + q))), (6, .int (nI j)), (7, .int (nI (y0 + n2))), (8, .int (nI (x0 + (i + 1 + q) + (j - y0)))), (10, .int (nI 1)), (12, .int (nI q))]) hx hb d_S_mergeUp_325 hl (by decide) rfl ?_
                            clear hl; intro ls hl
                            refine lv_goto (tgt := 52) hx hb d_S_mergeUp_327 (by decide) ?_
                            exact ih _ _ _ _ _ _ H locs ls (by omega) hM3 hP hD hS (lv_sub hl [1, 2, 3, 4, 5, 6, 7, 8, 9, 0, 10] rfl)
                      · exact absurd rfl h10
                    · refine lv_goto (tgt := 52) hx hb d_S_mergeUp_187 (by decide) ?_
                      exact ih (i + 1) (j) _ _ _ _ H locs ls (by omega) hM2 hP hD hS (by rw [show x0 + (i + 1) + (j - y0) = x0 + i + (j - y0) + 1 by omega]; exact (lv_sub hl [5, 6, 7, 8, 9, 3, 10, 11, 2, 1, 0] rfl))
          · exact absurd rfl h4
        · refine lv_iconst (v := nI 1) hx hb d_S_mergeUp_91 (by decide) ?_
          refine lv_goto (tgt := 96) hx hb d_S_mergeUp_92 (by decide) ?_
          refine lv_istore (lv' := [(11, .int (nI 1)), (0, .ref (a 10)), (1, .int (nI x0)), (2, .int (nI n1)), (3, .int (nI y0)), (4, .int (nI n2)), (5, .int (nI i)), (6, .int (nI j)), (7, .int (nI (y0 + n2))), (8, .int (nI (x0 + i + (j - y0)))), (9, .int wn), (10, .int lf)]) hx hb d_S_mergeUp_96 hl (by decide) rfl ?_
          clear hl; intro ls hl
          refine lv_aload_n hx hb d_S_mergeUp_98 rfl (lv_at hl 1 rfl) ?_
          refine g_S_cells X hP 3 rfl rfl d_S_mergeUp_99 ?_
          refine lv_iload hx hb d_S_mergeUp_102 (lv_at hl 9 rfl) ?_
          refine lv_iload hx hb d_S_mergeUp_104 (lv_at hl 0 rfl) ?_
          refine w_if_eq (tgt := 122) hx hb d_S_mergeUp_106 (by decide) (by omega) (fun h4 => ?_) (fun h4 => ?_)
          · exact absurd h4 (by decide)
          · refine lv_aload_n hx hb d_S_mergeUp_109 rfl (lv_at hl 1 rfl) ?_
            refine g_S_cells X hP 3 rfl rfl d_S_mergeUp_110 ?_
            refine lv_iload hx hb d_S_mergeUp_113 (lv_at hl 7 rfl) ?_
            refine w_inc (k := 7) (lv' := [(6, .int (nI (j + 1))), (11, .int (nI 1)), (0, .ref (a 10)), (1, .int (nI x0)), (2, .int (nI n1)), (3, .int (nI y0)), (4, .int (nI n2)), (5, .int (nI i)), (7, .int (nI (y0 + n2))), (8, .int (nI (x0 + i + (j - y0)))), (9, .int wn), (10, .int lf)]) hx hb d_S_mergeUp_115 hl rfl (by decide) rfl ?_
            clear hl; intro ls hl
            refine w_ald X hP 4 rfl (by omega) (by decide) d_S_mergeUp_118 ?_
            refine lv_goto (tgt := 132) hx hb d_S_mergeUp_119 (by decide) ?_
            have hM2 := hM.takeR hxy h1 h2 sl sr (ir.part (Nat.le_refl _) (Nat.le_refl _) hmid.1 (Nat.le_refl _)) (Or.inl (hrr.nge h3))
            refine w_ast (ws' := WS cI a hB k g rn gl (upd f (x0 + i + (j - y0)) (f j)) sp fF fL) X hP hD hS 4 rfl (by omega) (by decide) rfl d_S_mergeUp_132 ?_
            clear hP hD hS; intro H locs hP hD hS
            refine w_inc (k := 9) (lv' := [(8, .int (nI (x0 + i + (j - y0) + 1))), (6, .int (nI (j + 1))), (11, .int (nI 1)), (0, .ref (a 10)), (1, .int (nI x0)), (2, .int (nI n1)), (3, .int (nI y0)), (4, .int (nI n2)), (5, .int (nI i)), (7, .int (nI (y0 + n2))), (9, .int wn), (10, .int lf)]) hx hb d_S_mergeUp_133 hl rfl (by decide) rfl ?_
            clear hl; intro ls hl
            refine lv_iload hx hb d_S_mergeUp_136 (lv_at hl 2 rfl) ?_
            refine lv_iload hx hb d_S_mergeUp_138 (lv_at hl 11 rfl) ?_
            refine lv_icmp_eq (tgt := 150) hx hb d_S_mergeUp_140 (by decide) (fun h5 => ?_) (fun h5 => ?_)
            · refine lv_iconst (v := nI 1) hx hb d_S_mergeUp_150 (by decide) ?_
              refine lv_istore (lv' := [(9, .int (nI 1)), (8, .int (nI (x0 + i + (j - y0) + 1))), (6, .int (nI (j + 1))), (11, .int (nI 1)), (0, .ref (a 10)), (1, .int (nI x0)), (2, .int (nI n1)), (3, .int (nI y0)), (4, .int (nI n2)), (5, .int (nI i)), (7, .int (nI (y0 + n2))), (10, .int lf)]) hx hb d_S_mergeUp_151 hl (by decide) rfl ?_
              clear hl; intro ls hl
              refine lv_iload hx hb d_S_mergeUp_153 (lv_at hl 3 rfl) ?_
              refine w_if_ne (tgt := 162) hx hb d_S_mergeUp_155 (by decide) (by omega) (fun h6 => ?_) (fun h6 => ?_)
              · refine lv_iconst (v := nI 0) hx hb d_S_mergeUp_162 (by decide) ?_
                refine lv_istore (lv' := [(10, .int (nI 0)), (9, .int (nI 1)), (8, .int (nI (x0 + i + (j - y0) + 1))), (6, .int (nI (j + 1))), (11, .int (nI 1)), (0, .ref (a 10)), (1, .int (nI x0)), (2, .int (nI n1)), (3, .int (nI y0)), (4, .int (nI n2)), (5, .int (nI i)), (7, .int (nI (y0 + n2)))]) hx hb d_S_mergeUp_163 hl (by decide) rfl ?_
                clear hl; intro ls hl
                refine lv_iload hx hb d_S_mergeUp_165 (lv_at hl 1 rfl) ?_
                refine lv_aload_n hx hb d_S_mergeUp_167 rfl (lv_at hl 5 rfl) ?_
                refine g_S_gallop X hP 3 rfl rfl d_S_mergeUp_168 ?_
                refine lv_icmp_lt (tgt := 52) hx hb d_S_mergeUp_171 (by decide) (fun h7 => ?_) (fun h7 => ?_)
                · exact ih (i) (j + 1) _ _ _ _ H locs ls (by omega) hM2 hP hD hS (by rw [show x0 + i + (j + 1 - y0) = x0 + i + (j - y0) + 1 by omega]; exact (lv_sub hl [5, 6, 7, 8, 9, 10, 3, 11, 2, 1, 0] rfl))
                · refine lv_iload hx hb d_S_mergeUp_174 (lv_at hl 10 rfl) ?_
                  refine lv_iload_n hx hb d_S_mergeUp_176 rfl (lv_at hl 7 rfl) ?_
                  refine w_icmp_eq (tgt := 52) hx hb d_S_mergeUp_177 (by decide) ⟨by omega, by omega⟩ (fun h8 => ?_) (fun h8 => ?_)
                  · exact ih (i) (j + 1) _ _ _ _ H locs ls (by omega) hM2 hP hD hS (by rw [show x0 + i + (j + 1 - y0) = x0 + i + (j - y0) + 1 by omega]; exact (lv_sub hl [5, 6, 7, 8, 9, 10, 3, 11, 2, 1, 0] rfl))
                  · refine lv_iload hx hb d_S_mergeUp_180 (lv_at hl 3 rfl) ?_
                    refine lv_iload hx hb d_S_mergeUp_182 (lv_at hl 11 rfl) ?_
                    refine w_icmp_ne (tgt := 190) hx hb d_S_mergeUp_184 (by decide) ⟨by omega, by omega⟩ (fun h9 => ?_) (fun h9 => ?_)
                    · refine lv_iload hx hb d_S_mergeUp_190 (lv_at hl 4 rfl) ?_
                      refine w_if_eq (tgt := 216) hx hb d_S_mergeUp_192 (by decide) (by omega) (fun h10 => ?_) (fun h10 => ?_)
                      · exact absurd h10 (by decide)
                      · refine lv_aload_n hx hb d_S_mergeUp_195 rfl (lv_at hl 5 rfl) ?_
                        refine lv_aload_n hx hb d_S_mergeUp_196 rfl (lv_at hl 5 rfl) ?_
                        refine g_S_spare X hP 3 rfl rfl d_S_mergeUp_197 ?_
                        refine lv_iload hx hb d_S_mergeUp_200 (lv_at hl 10 rfl) ?_
                        refine w_ald X hP 2 rfl (by omega) (by decide) d_S_mergeUp_202 ?_
                        refine lv_iload hx hb d_S_mergeUp_203 (lv_at hl 3 rfl) ?_
                        refine lv_iload hx hb d_S_mergeUp_205 (lv_at hl 11 rfl) ?_
                        refine lv_iload hx hb d_S_mergeUp_207 (lv_at hl 3 rfl) ?_
                        refine w_sub hx hb d_S_mergeUp_209 (by omega) ?_
                        refine rd_V (C := R_S) X (c_S_notBefore l D cI cJ cO a hB k g rn gl (upd f (x0 + i + (j - y0)) (f j)) sp fF fL _ _ _ hk (hM2.vdS il hxy (by omega) (by omega)) (by omega) (fun t t1 t2 => by obtain ⟨z, z1, z2, z3⟩ := ir t (by omega) (by omega); exact ⟨z, Nat.zero_le _, by omega, (hM2.2.2.2.2.1 t t1 (by omega)).trans z3⟩) (fun t1 t2 z1 z2 z3 => hM2.moF sr z1 z2 (by omega))) (cx_B X _ wk_S_63 wi_S_notBefore wc_S_notBefore wd_S_notBefore ⟨by omega, by omega⟩) wm_S_notBefore wl_S_notBefore hP (rcv X hP (ci := 1) (q0 := 3) rfl rfl) rfl hl.1 rfl (Nat.le_of_ble_eq_true rfl) d_S_mergeUp_210 hf (fun rr hrr => ?_)
                        obtain ⟨q, rfl, hq1, hq2, hq3⟩ := hrr
                        refine lv_goto (tgt := 230) hx hb d_S_mergeUp_213 (by decide) ?_
                        refine lv_istore (lv' := [(12, .int (nI q)), (10, .int (nI 0)), (9, .int (nI 1)), (8, .int (nI (x0 + i + (j - y0) + 1))), (6, .int (nI (j + 1))), (11, .int (nI 1)), (0, .ref (a 10)), (1, .int (nI x0)), (2, .int (nI n1)), (3, .int (nI y0)), (4, .int (nI n2)), (5, .int (nI i)), (7, .int (nI (y0 + n2)))]) hx hb d_S_mergeUp_230 hl (by decide) rfl ?_
                        clear hl; intro ls hl
                        refine lv_iconst (v := nI 0) hx hb d_S_mergeUp_232 (by decide) ?_
                        refine lv_istore (lv' := [(13, .int (nI 0)), (12, .int (nI q)), (10, .int (nI 0)), (9, .int (nI 1)), (8, .int (nI (x0 + i + (j - y0) + 1))), (6, .int (nI (j + 1))), (11, .int (nI 1)), (0, .ref (a 10)), (1, .int (nI x0)), (2, .int (nI n1)), (3, .int (nI y0)), (4, .int (nI n2)), (5, .int (nI i)), (7, .int (nI (y0 + n2)))]) hx hb d_S_mergeUp_233 hl (by decide) rfl ?_
                        clear hl; intro ls hl
                        refine l_mugr X hk hR hf hxy hyn sl sr il ir hmid (i := i) (j := j + 1) (q := q) h1 (by omega) (by omega) (fun t ht => Or.inl (by rw [← hM2.2.2.2.2.1 (j + 1 + t) (by omega) (by omega)]; exact hq2 t ht)) ?_ (q + 1) 0 _ H locs ls (by omega) (by omega) hM2 hP hD hS (by rw [show x0 + i + (j + 1 + 0 - y0) = x0 + i + (j - y0) + 1 by omega]; exact (lv_sub hl [7, 8, 9, 10, 11, 12, 5, 13, 4, 2, 6, 1, 0] rfl))
                        clear hP hD hS hl ls locs H; intro f3 H locs ls hM3 hP hD hS hl
                        refine lv_aload_n hx hb d_S_mergeUp_286 rfl (lv_at hl 0 rfl) ?_
                        refine lv_iload hx hb d_S_mergeUp_287 (lv_at hl 10 rfl) ?_
                        refine lv_bipush (v := nI 7) hx hb d_S_mergeUp_289 (by decide) ?_
                        refine w_icmp_lt (tgt := 315) hx hb d_S_mergeUp_291 (by decide) ⟨by omega, by omega⟩ (fun h11 => ?_) (fun h11 => ?_)
                        · refine lv_aload_n hx hb d_S_mergeUp_315 rfl (lv_at hl 0 rfl) ?_
                          refine g_S_gallop X hP 3 rfl rfl d_S_mergeUp_316 ?_
                          refine lv_iconst (v := nI 2) hx hb d_S_mergeUp_319 (by decide) ?_
                          refine lv_iadd hx hb d_S_mergeUp_320 ?_
                          refine p_S_gallop (ws' := WS cI a hB k g rn (gl + (nI 2)) f3 sp fF fL) X hP hD hS 3 rfl (Nat.le_of_ble_eq_true rfl) rfl d_S_mergeUp_321 ?_
                          clear hP hD hS; intro H locs hP hD hS
                          refine lv_iconst (v := nI 0) hx hb d_S_mergeUp_324 (by decide) ?_
                          refine lv_istore (lv' := [(9, .int (nI 0)), (0, .ref (a 10)), (1, .int (nI x0)), (2, .int (nI n1)), (3, .int (nI y0)), (4, .int (nI n2)), (5, .int (nI i)), (6, .int (nI (j + 1 + q))), (7, .int (nI (y0 + n2))), (8, .int (nI (x0 + i + (j + 1 + q - y0)))), (10, .int (nI 0)), (12, .int (nI q))]) hx hb d_S_mergeUp_325 hl (by decide) rfl ?_
                          clear hl; intro ls hl
                          refine lv_goto (tgt := 52) hx hb d_S_mergeUp_327 (by decide) ?_
                          exact ih _ _ _ _ _ _ H locs ls (by omega) hM3 hP hD hS (lv_sub hl [1, 2, 3, 4, 5, 6, 7, 8, 9, 0, 10] rfl)
                        · refine lv_aload_n hx hb d_S_mergeUp_294 rfl (lv_at hl 0 rfl) ?_
                          refine g_S_gallop X hP 3 rfl rfl d_S_mergeUp_295 ?_
                          refine lv_iconst (v := nI 1) hx hb d_S_mergeUp_298 (by decide) ?_
                          refine lv_icmp_le (tgt := 311) hx hb d_S_mergeUp_299 (by decide) (fun h12 => ?_) (fun h12 => ?_)
                          · refine lv_iconst (v := nI 1) hx hb d_S_mergeUp_311 (by decide) ?_
                            refine lv_goto (tgt := 321) hx hb d_S_mergeUp_312 (by decide) ?_
                            refine p_S_gallop (ws' := WS cI a hB k g rn (nI 1) f3 sp fF fL) X hP hD hS 3 rfl (Nat.le_of_ble_eq_true rfl) rfl d_S_mergeUp_321 ?_
                            clear hP hD hS; intro H locs hP hD hS
                            refine lv_iconst (v := nI 0) hx hb d_S_mergeUp_324 (by decide) ?_
                            refine lv_istore (lv' := [(9, .int (nI 0)), (0, .ref (a 10)), (1, .int (nI x0)), (2, .int (nI n1)), (3, .int (nI y0)), (4, .int (nI n2)), (5, .int (nI i)), (6, .int (nI (j + 1 + q))), (7, .int (nI (y0 + n2))), (8, .int (nI (x0 + i + (j + 1 + q - y0)))), (10, .int (nI 0)), (12, .int (nI q))]) hx hb d_S_mergeUp_325 hl (by decide) rfl ?_
                            clear hl; intro ls hl
                            refine lv_goto (tgt := 52) hx hb d_S_mergeUp_327 (by decide) ?_
                            exact ih _ _ _ _ _ _ H locs ls (by omega) hM3 hP hD hS (lv_sub hl [1, 2, 3, 4, 5, 6, 7, 8, 9, 0, 10] rfl)
                          · refine lv_aload_n hx hb d_S_mergeUp_302 rfl (lv_at hl 0 rfl) ?_
                            refine g_S_gallop X hP 3 rfl rfl d_S_mergeUp_303 ?_
                            refine lv_iconst (v := nI 1) hx hb d_S_mergeUp_306 (by decide) ?_
                            refine lv_isub hx hb d_S_mergeUp_307 ?_
                            refine lv_goto (tgt := 321) hx hb d_S_mergeUp_308 (by decide) ?_
                            refine p_S_gallop (ws' := WS cI a hB k g rn (gl - (nI 1)) f3 sp fF fL) X hP hD hS 3 rfl (Nat.le_of_ble_eq_true rfl) rfl d_S_mergeUp_321 ?_
                            clear hP hD hS; intro H locs hP hD hS
                            refine lv_iconst (v := nI 0) hx hb d_S_mergeUp_324 (by decide) ?_
                            refine lv_istore (lv' := [(9, .int (nI 0)), (0, .ref (a 10)), (1, .int (nI x0)), (2, .int (nI n1)), (3, .int (nI y0)), (4, .int (nI n2)), (5, .int (nI i)), (6, .int (nI (j + 1 + q))), (7, .int (nI (y0 + n2))), (8, .int (nI (x0 + i + (j + 1 + q - y0)))), (10, .int (nI 0)), (12, .int (nI q))]) hx hb d_S_mergeUp_325 hl (by decide) rfl ?_
                            clear hl; intro ls hl
                            refine lv_goto (tgt := 52) hx hb d_S_mergeUp_327 (by decide) ?_
                            exact ih _ _ _ _ _ _ H locs ls (by omega) hM3 hP hD hS (lv_sub hl [1, 2, 3, 4, 5, 6, 7, 8, 9, 0, 10] rfl)
                    · refine lv_goto (tgt := 52) hx hb d_S_mergeUp_187 (by decide) ?_
                      exact ih (i) (j + 1) _ _ _ _ H locs ls (by omega) hM2 hP hD hS (by rw [show x0 + i + (j + 1 - y0) = x0 + i + (j - y0) + 1 by omega]; exact (lv_sub hl [5, 6, 7, 8, 9, 10, 3, 11, 2, 1, 0] rfl))
              · exact absurd h6 (by decide)
            · refine lv_iload hx hb d_S_mergeUp_143 (lv_at hl 10 rfl) ?_
              refine lv_iconst (v := nI 1) hx hb d_S_mergeUp_145 (by decide) ?_
              refine lv_iadd hx hb d_S_mergeUp_146 ?_
              refine lv_goto (tgt := 151) hx hb d_S_mergeUp_147 (by decide) ?_
              refine lv_istore (lv' := [(9, .int (wn + (nI 1))), (8, .int (nI (x0 + i + (j - y0) + 1))), (6, .int (nI (j + 1))), (11, .int (nI 1)), (0, .ref (a 10)), (1, .int (nI x0)), (2, .int (nI n1)), (3, .int (nI y0)), (4, .int (nI n2)), (5, .int (nI i)), (7, .int (nI (y0 + n2))), (10, .int lf)]) hx hb d_S_mergeUp_151 hl (by decide) rfl ?_
              clear hl; intro ls hl
              refine lv_iload hx hb d_S_mergeUp_153 (lv_at hl 3 rfl) ?_
              refine w_if_ne (tgt := 162) hx hb d_S_mergeUp_155 (by decide) (by omega) (fun h6 => ?_) (fun h6 => ?_)
              · refine lv_iconst (v := nI 0) hx hb d_S_mergeUp_162 (by decide) ?_
                refine lv_istore (lv' := [(10, .int (nI 0)), (9, .int (wn + (nI 1))), (8, .int (nI (x0 + i + (j - y0) + 1))), (6, .int (nI (j + 1))), (11, .int (nI 1)), (0, .ref (a 10)), (1, .int (nI x0)), (2, .int (nI n1)), (3, .int (nI y0)), (4, .int (nI n2)), (5, .int (nI i)), (7, .int (nI (y0 + n2)))]) hx hb d_S_mergeUp_163 hl (by decide) rfl ?_
                clear hl; intro ls hl
                refine lv_iload hx hb d_S_mergeUp_165 (lv_at hl 1 rfl) ?_
                refine lv_aload_n hx hb d_S_mergeUp_167 rfl (lv_at hl 5 rfl) ?_
                refine g_S_gallop X hP 3 rfl rfl d_S_mergeUp_168 ?_
                refine lv_icmp_lt (tgt := 52) hx hb d_S_mergeUp_171 (by decide) (fun h7 => ?_) (fun h7 => ?_)
                · exact ih (i) (j + 1) _ _ _ _ H locs ls (by omega) hM2 hP hD hS (by rw [show x0 + i + (j + 1 - y0) = x0 + i + (j - y0) + 1 by omega]; exact (lv_sub hl [5, 6, 7, 8, 9, 10, 3, 11, 2, 1, 0] rfl))
                · refine lv_iload hx hb d_S_mergeUp_174 (lv_at hl 10 rfl) ?_
                  refine lv_iload_n hx hb d_S_mergeUp_176 rfl (lv_at hl 7 rfl) ?_
                  refine w_icmp_eq (tgt := 52) hx hb d_S_mergeUp_177 (by decide) ⟨by omega, by omega⟩ (fun h8 => ?_) (fun h8 => ?_)
                  · exact ih (i) (j + 1) _ _ _ _ H locs ls (by omega) hM2 hP hD hS (by rw [show x0 + i + (j + 1 - y0) = x0 + i + (j - y0) + 1 by omega]; exact (lv_sub hl [5, 6, 7, 8, 9, 10, 3, 11, 2, 1, 0] rfl))
                  · refine lv_iload hx hb d_S_mergeUp_180 (lv_at hl 3 rfl) ?_
                    refine lv_iload hx hb d_S_mergeUp_182 (lv_at hl 11 rfl) ?_
                    refine w_icmp_ne (tgt := 190) hx hb d_S_mergeUp_184 (by decide) ⟨by omega, by omega⟩ (fun h9 => ?_) (fun h9 => ?_)
                    · refine lv_iload hx hb d_S_mergeUp_190 (lv_at hl 4 rfl) ?_
                      refine w_if_eq (tgt := 216) hx hb d_S_mergeUp_192 (by decide) (by omega) (fun h10 => ?_) (fun h10 => ?_)
                      · exact absurd h10 (by decide)
                      · refine lv_aload_n hx hb d_S_mergeUp_195 rfl (lv_at hl 5 rfl) ?_
                        refine lv_aload_n hx hb d_S_mergeUp_196 rfl (lv_at hl 5 rfl) ?_
                        refine g_S_spare X hP 3 rfl rfl d_S_mergeUp_197 ?_
                        refine lv_iload hx hb d_S_mergeUp_200 (lv_at hl 10 rfl) ?_
                        refine w_ald X hP 2 rfl (by omega) (by decide) d_S_mergeUp_202 ?_
                        refine lv_iload hx hb d_S_mergeUp_203 (lv_at hl 3 rfl) ?_
                        refine lv_iload hx hb d_S_mergeUp_205 (lv_at hl 11 rfl) ?_
                        refine lv_iload hx hb d_S_mergeUp_207 (lv_at hl 3 rfl) ?_
                        refine w_sub hx hb d_S_mergeUp_209 (by omega) ?_
                        refine rd_V (C := R_S) X (c_S_notBefore l D cI cJ cO a hB k g rn gl (upd f (x0 + i + (j - y0)) (f j)) sp fF fL _ _ _ hk (hM2.vdS il hxy (by omega) (by omega)) (by omega) (fun t t1 t2 => by obtain ⟨z, z1, z2, z3⟩ := ir t (by omega) (by omega); exact ⟨z, Nat.zero_le _, by omega, (hM2.2.2.2.2.1 t t1 (by omega)).trans z3⟩) (fun t1 t2 z1 z2 z3 => hM2.moF sr z1 z2 (by omega))) (cx_B X _ wk_S_63 wi_S_notBefore wc_S_notBefore wd_S_notBefore ⟨by omega, by omega⟩) wm_S_notBefore wl_S_notBefore hP (rcv X hP (ci := 1) (q0 := 3) rfl rfl) rfl hl.1 rfl (Nat.le_of_ble_eq_true rfl) d_S_mergeUp_210 hf (fun rr hrr => ?_)
                        obtain ⟨q, rfl, hq1, hq2, hq3⟩ := hrr
                        refine lv_goto (tgt := 230) hx hb d_S_mergeUp_213 (by decide) ?_
                        refine lv_istore (lv' := [(12, .int (nI q)), (10, .int (nI 0)), (9, .int (wn + (nI 1))), (8, .int (nI (x0 + i + (j - y0) + 1))), (6, .int (nI (j + 1))), (11, .int (nI 1)), (0, .ref (a 10)), (1, .int (nI x0)), (2, .int (nI n1)), (3, .int (nI y0)), (4, .int (nI n2)), (5, .int (nI i)), (7, .int (nI (y0 + n2)))]) hx hb d_S_mergeUp_230 hl (by decide) rfl ?_
                        clear hl; intro ls hl
                        refine lv_iconst (v := nI 0) hx hb d_S_mergeUp_232 (by decide) ?_
                        refine lv_istore (lv' := [(13, .int (nI 0)), (12, .int (nI q)), (10, .int (nI 0)), (9, .int (wn + (nI 1))), (8, .int (nI (x0 + i + (j - y0) + 1))), (6, .int (nI (j + 1))), (11, .int (nI 1)), (0, .ref (a 10)), (1, .int (nI x0)), (2, .int (nI n1)), (3, .int (nI y0)), (4, .int (nI n2)), (5, .int (nI i)), (7, .int (nI (y0 + n2)))]) hx hb d_S_mergeUp_233 hl (by decide) rfl ?_
                        clear hl; intro ls hl
                        refine l_mugr X hk hR hf hxy hyn sl sr il ir hmid (i := i) (j := j + 1) (q := q) h1 (by omega) (by omega) (fun t ht => Or.inl (by rw [← hM2.2.2.2.2.1 (j + 1 + t) (by omega) (by omega)]; exact hq2 t ht)) ?_ (q + 1) 0 _ H locs ls (by omega) (by omega) hM2 hP hD hS (by rw [show x0 + i + (j + 1 + 0 - y0) = x0 + i + (j - y0) + 1 by omega]; exact (lv_sub hl [7, 8, 9, 10, 11, 12, 5, 13, 4, 2, 6, 1, 0] rfl))
                        clear hP hD hS hl ls locs H; intro f3 H locs ls hM3 hP hD hS hl
                        refine lv_aload_n hx hb d_S_mergeUp_286 rfl (lv_at hl 0 rfl) ?_
                        refine lv_iload hx hb d_S_mergeUp_287 (lv_at hl 10 rfl) ?_
                        refine lv_bipush (v := nI 7) hx hb d_S_mergeUp_289 (by decide) ?_
                        refine w_icmp_lt (tgt := 315) hx hb d_S_mergeUp_291 (by decide) ⟨by omega, by omega⟩ (fun h11 => ?_) (fun h11 => ?_)
                        · refine lv_aload_n hx hb d_S_mergeUp_315 rfl (lv_at hl 0 rfl) ?_
                          refine g_S_gallop X hP 3 rfl rfl d_S_mergeUp_316 ?_
                          refine lv_iconst (v := nI 2) hx hb d_S_mergeUp_319 (by decide) ?_
                          refine lv_iadd hx hb d_S_mergeUp_320 ?_
                          refine p_S_gallop (ws' := WS cI a hB k g rn (gl + (nI 2)) f3 sp fF fL) X hP hD hS 3 rfl (Nat.le_of_ble_eq_true rfl) rfl d_S_mergeUp_321 ?_
                          clear hP hD hS; intro H locs hP hD hS
                          refine lv_iconst (v := nI 0) hx hb d_S_mergeUp_324 (by decide) ?_
                          refine lv_istore (lv' := [(9, .int (nI 0)), (0, .ref (a 10)), (1, .int (nI x0)), (2, .int (nI n1)), (3, .int (nI y0)), (4, .int (nI n2)), (5, .int (nI i)), (6, .int (nI (j + 1 + q))), (7, .int (nI (y0 + n2))), (8, .int (nI (x0 + i + (j + 1 + q - y0)))), (10, .int (nI 0)), (12, .int (nI q))]) hx hb d_S_mergeUp_325 hl (by decide) rfl ?_
                          clear hl; intro ls hl
                          refine lv_goto (tgt := 52) hx hb d_S_mergeUp_327 (by decide) ?_
                          exact ih _ _ _ _ _ _ H locs ls (by omega) hM3 hP hD hS (lv_sub hl [1, 2, 3, 4, 5, 6, 7, 8, 9, 0, 10] rfl)
                        · refine lv_aload_n hx hb d_S_mergeUp_294 rfl (lv_at hl 0 rfl) ?_
                          refine g_S_gallop X hP 3 rfl rfl d_S_mergeUp_295 ?_
                          refine lv_iconst (v := nI 1) hx hb d_S_mergeUp_298 (by decide) ?_
                          refine lv_icmp_le (tgt := 311) hx hb d_S_mergeUp_299 (by decide) (fun h12 => ?_) (fun h12 => ?_)
                          · refine lv_iconst (v := nI 1) hx hb d_S_mergeUp_311 (by decide) ?_
                            refine lv_goto (tgt := 321) hx hb d_S_mergeUp_312 (by decide) ?_
                            refine p_S_gallop (ws' := WS cI a hB k g rn (nI 1) f3 sp fF fL) X hP hD hS 3 rfl (Nat.le_of_ble_eq_true rfl) rfl d_S_mergeUp_321 ?_
                            clear hP hD hS; intro H locs hP hD hS
                            refine lv_iconst (v := nI 0) hx hb d_S_mergeUp_324 (by decide) ?_
                            refine lv_istore (lv' := [(9, .int (nI 0)), (0, .ref (a 10)), (1, .int (nI x0)), (2, .int (nI n1)), (3, .int (nI y0)), (4, .int (nI n2)), (5, .int (nI i)), (6, .int (nI (j + 1 + q))), (7, .int (nI (y0 + n2))), (8, .int (nI (x0 + i + (j + 1 + q - y0)))), (10, .int (nI 0)), (12, .int (nI q))]) hx hb d_S_mergeUp_325 hl (by decide) rfl ?_
                            clear hl; intro ls hl
                            refine lv_goto (tgt := 52) hx hb d_S_mergeUp_327 (by decide) ?_
                            exact ih _ _ _ _ _ _ H locs ls (by omega) hM3 hP hD hS (lv_sub hl [1, 2, 3, 4, 5, 6, 7, 8, 9, 0, 10] rfl)
                          · refine lv_aload_n hx hb d_S_mergeUp_302 rfl (lv_at hl 0 rfl) ?_
                            refine g_S_gallop X hP 3 rfl rfl d_S_mergeUp_303 ?_
                            refine lv_iconst (v := nI 1) hx hb d_S_mergeUp_306 (by decide) ?_
                            refine lv_isub hx hb d_S_mergeUp_307 ?_
                            refine lv_goto (tgt := 321) hx hb d_S_mergeUp_308 (by decide) ?_
                            refine p_S_gallop (ws' := WS cI a hB k g rn (gl - (nI 1)) f3 sp fF fL) X hP hD hS 3 rfl (Nat.le_of_ble_eq_true rfl) rfl d_S_mergeUp_321 ?_
                            clear hP hD hS; intro H locs hP hD hS
                            refine lv_iconst (v := nI 0) hx hb d_S_mergeUp_324 (by decide) ?_
                            refine lv_istore (lv' := [(9, .int (nI 0)), (0, .ref (a 10)), (1, .int (nI x0)), (2, .int (nI n1)), (3, .int (nI y0)), (4, .int (nI n2)), (5, .int (nI i)), (6, .int (nI (j + 1 + q))), (7, .int (nI (y0 + n2))), (8, .int (nI (x0 + i + (j + 1 + q - y0)))), (10, .int (nI 0)), (12, .int (nI q))]) hx hb d_S_mergeUp_325 hl (by decide) rfl ?_
                            clear hl; intro ls hl
                            refine lv_goto (tgt := 52) hx hb d_S_mergeUp_327 (by decide) ?_
                            exact ih _ _ _ _ _ _ H locs ls (by omega) hM3 hP hD hS (lv_sub hl [1, 2, 3, 4, 5, 6, 7, 8, 9, 0, 10] rfl)
                    · refine lv_goto (tgt := 52) hx hb d_S_mergeUp_187 (by decide) ?_
                      exact ih (i) (j + 1) _ _ _ _ H locs ls (by omega) hM2 hP hD hS (by rw [show x0 + i + (j + 1 - y0) = x0 + i + (j - y0) + 1 by omega]; exact (lv_sub hl [5, 6, 7, 8, 9, 10, 3, 11, 2, 1, 0] rfl))
              · exact absurd h6 (by decide)
end SMU
set_option maxHeartbeats 4000000 in
/-- mergeUp(x0, n1, y0, n2): two sorted neighbours become one -/
theorem c_S_mergeUp (l : Launch) (D : va_G) (cI cJ cO : ClassId) (a : Nat → Nat) (hB k : Nat) (g : Nat → Int32) (rn gl : Int32) (f0 fSp fF fL : Nat → Int32) (sz x0 n1 y0 n2 lo mid hi : Nat) (hk : k < 4) (hxy : x0 + n1 = y0) (hyn : y0 + n2 ≤ 2000) (sl : Sg (Ky k g) f0 x0 y0) (sr : Sg (Ky k g) f0 y0 (y0 + n2)) (il : In f0 x0 y0 lo mid) (ir : In f0 y0 (y0 + n2) mid hi) (hmid : lo ≤ mid ∧ mid ≤ hi ∧ hi ≤ 2000) : Met l y_S_mergeUp [Cond.code y_S_mergeUp b_S_mergeUp 14 none] (rk 3 0 0) (PW D cI cJ cO [.ref (a 10), .int (nI x0), .int (nI n1), .int (nI y0), .int (nI n2)] sz (WS cI a hB k g rn gl f0 fSp fF fL)) (va_Qv (fun u : (Nat → Int32) × (Nat → Int32) × Int32 => Sg (Ky k g) u.1 x0 (y0 + n2) ∧ Iv f0 u.1 x0 (y0 + n2) x0 (y0 + n2) ∧ ∀ q, (q < x0 ∨ y0 + n2 ≤ q) → u.1 q = f0 q) (BW D (va_A (WS cI a hB k g rn gl f0 fSp fF fL) sz) (fun u => WS cI a hB k g rn u.2.2 u.1 u.2.1 fF fL)) (va_A (WS cI a hB k g rn gl f0 fSp fF fL) sz)) 0 0 (va_A (WS cI a hB k g rn gl f0 fSp fF fL) sz) := by
  refine entW (by decide) (Nat.le_of_ble_eq_true rfl) ?_
  intro p e s m below meth c ls X hr hlocks hnm hsz hP hD hA hl
  have hx := X.x
  have hb := X.b
  have hR : 3 ≤ (rk 3 0 0).frames ∧ 220 ≤ (rk 3 0 0).locals := by decide
  have hf : 0 ≤ (rk 3 0 0).cells ∧ 0 ≤ (rk 3 0 0).slots := by decide
  have hS : va_S (va_A (WS cI a hB k g rn gl f0 fSp fF fL) sz) s.heap s.heap [] := va_S.rf
  have hl : lv_has ls 14 [(0, .ref (a 10)), (1, .int (nI x0)), (2, .int (nI n1)), (3, .int (nI y0)), (4, .int (nI n2))] := hl
  refine lv_iconst (v := nI 0) hx hb d_S_mergeUp_0 (by decide) ?_
  refine lv_istore (lv' := [(5, .int (nI 0)), (0, .ref (a 10)), (1, .int (nI x0)), (2, .int (nI n1)), (3, .int (nI y0)), (4, .int (nI n2))]) hx hb d_S_mergeUp_1 hl (by decide) rfl ?_
  clear hl; intro ls hl
  refine l_mu0 X hk hR hf hxy hyn sl sr il ir hmid ?_ (n1 + 1) 0 fSp _ _ ls (by omega) (by omega) (fun q h => by omega) hP hD hS (lv_sub hl [1, 2, 3, 4, 5, 0] rfl)
  clear hP hD hS hl ls; intro sp H locs ls hsp hP hD hS hl
  refine lv_iconst (v := nI 0) hx hb d_S_mergeUp_31 (by decide) ?_
  refine lv_istore (lv' := [(5, .int (nI 0)), (0, .ref (a 10)), (1, .int (nI x0)), (2, .int (nI n1)), (3, .int (nI y0)), (4, .int (nI n2))]) hx hb d_S_mergeUp_32 hl (by decide) rfl ?_
  clear hl; intro ls hl
  refine lv_iload_n hx hb d_S_mergeUp_34 rfl (lv_at hl 4 rfl) ?_
  refine lv_istore (lv' := [(6, .int (nI y0)), (5, .int (nI 0)), (0, .ref (a 10)), (1, .int (nI x0)), (2, .int (nI n1)), (3, .int (nI y0)), (4, .int (nI n2))]) hx hb d_S_mergeUp_35 hl (by decide) rfl ?_
  clear hl; intro ls hl
  refine lv_iload_n hx hb d_S_mergeUp_37 rfl (lv_at hl 5 rfl) ?_
  refine lv_iload hx hb d_S_mergeUp_38 (lv_at hl 6 rfl) ?_
  refine w_add hx hb d_S_mergeUp_40 ?_
  refine lv_istore (lv' := [(7, .int (nI (y0 + n2))), (6, .int (nI y0)), (5, .int (nI 0)), (0, .ref (a 10)), (1, .int (nI x0)), (2, .int (nI n1)), (3, .int (nI y0)), (4, .int (nI n2))]) hx hb d_S_mergeUp_41 hl (by decide) rfl ?_
  clear hl; intro ls hl
  refine lv_iload_n hx hb d_S_mergeUp_43 rfl (lv_at hl 4 rfl) ?_
  refine lv_istore (lv' := [(8, .int (nI x0)), (7, .int (nI (y0 + n2))), (6, .int (nI y0)), (5, .int (nI 0)), (0, .ref (a 10)), (1, .int (nI x0)), (2, .int (nI n1)), (3, .int (nI y0)), (4, .int (nI n2))]) hx hb d_S_mergeUp_44 hl (by decide) rfl ?_
  clear hl; intro ls hl
  refine lv_iconst (v := nI 0) hx hb d_S_mergeUp_46 (by decide) ?_
  refine lv_istore (lv' := [(9, .int (nI 0)), (8, .int (nI x0)), (7, .int (nI (y0 + n2))), (6, .int (nI y0)), (5, .int (nI 0)), (0, .ref (a 10)), (1, .int (nI x0)), (2, .int (nI n1)), (3, .int (nI y0)), (4, .int (nI n2))]) hx hb d_S_mergeUp_47 hl (by decide) rfl ?_
  clear hl; intro ls hl
  refine lv_iconst (v := nI 1) hx hb d_S_mergeUp_49 (by decide) ?_
  refine lv_istore (lv' := [(10, .int (nI 1)), (9, .int (nI 0)), (8, .int (nI x0)), (7, .int (nI (y0 + n2))), (6, .int (nI y0)), (5, .int (nI 0)), (0, .ref (a 10)), (1, .int (nI x0)), (2, .int (nI n1)), (3, .int (nI y0)), (4, .int (nI n2))]) hx hb d_S_mergeUp_50 hl (by decide) rfl ?_
  clear hl; intro ls hl
  refine l_mu1 X hk hR hf hxy hyn sl sr il ir hmid (sp := sp) ?_ (n1 + n2 + 1) 0 y0 _ _ _ _ H locs ls (by omega) (MU.start hxy hsp) hP hD hS (by rw [show x0 + 0 + (y0 - y0) = x0 by omega]; exact (lv_sub hl [6, 7, 8, 9, 10, 5, 4, 3, 2, 1, 0] rfl))
  clear hP hD hS hl ls locs H; intro i j gl H1f H locs ls hij hM hP hD hS hl
  refine l_mu9 X hk hR hf hxy hyn sl sr il ir hmid ?_ (n1 + 1) i _ H locs ls (by omega) hM.1 hij hM hP hD hS hl
  clear hM hP hD hS hl ls locs H; intro f H locs ls hM hP hD hS hl
  obtain ⟨h1, h2, h3⟩ := hM.done hxy sr (ir.part (Nat.le_refl _) (Nat.le_refl _) hmid.1 (Nat.le_refl _))
  exact W.vret hx hb hr (fun t ht hW => ⟨⟨(f, sp, gl), rfl, ⟨h1, h2, h3⟩, by rw [ht]; exact hP, hD⟩, hS.F ht⟩) hS.2.2 d_S_mergeUp_359
end
section
theorem dn_dec {u : Nat} (h : 1 ≤ u) : nI u - nI 1 + Int32.ofInt (-1) = nI (u - 1) - nI 1 := by
  rw [pk_sub h, Int32.sub_eq_add_neg]
  rfl
theorem dn_lt {u x : Nat} (hu : u < 2 ^ 30) (hx : x < 2 ^ 30) : nI u - nI 1 < nI x ↔ u ≤ x := by
  rw [i32_ltI, pk_sub_toInt hu (by decide), nI_toInt (by omega)]
  omega
theorem dn_0 {u : Nat} (hu : u < 2 ^ 30) : nI u - nI 1 < 0 ↔ u = 0 := by
  rw [sub_lt0 hu (by decide)]
  omega
theorem dn_1 (u : Nat) : nI (u + 1) - nI 1 = nI u := pk_sub (by omega)
section PMD
variable {K : Int32 → Int}
theorem MD.cmpR {f0 f s : Nat → Int32} {a n b m lo mid hi u v : Nat} (h : MD K f0 f s a n b m lo hi (u + 1) (v + 1)) (il : In f0 a b lo mid) (ir : In f0 b (b + m) mid hi) (hh : hi ≤ 2000) (hu : a ≤ u) (hc : K (f u) ≤ K (s v)) : LT K (f u) (s v) := by
  obtain ⟨h1, h2, h3, h4, h5, h6, h7, h8, h9, h10⟩ := h
  obtain ⟨p, p1, p2, p3⟩ := il u hu (by omega)
  obtain ⟨q, q1, q2, q3⟩ := ir (b + v) (by omega) (by omega)
  exact lt_lo ((h5 u hu (by omega)).trans p3) ((h4 v (by omega)).trans q3) (by omega) (by omega) hc
theorem MD.vdS {f0 f s : Nat → Int32} {a n b m lo mid hi u v : Nat} (h : MD K f0 f s a n b m lo hi u v) (ir : In f0 b (b + m) mid hi) (hh : hi ≤ 2000) {t : Nat} (ht : t < m) : vp_in (s t) 2000 := by
  rw [h.2.2.2.1 t ht]
  exact ir.vd hh (by omega) (by omega)
theorem MD.vdF {f0 f s : Nat → Int32} {a n b m lo mid hi u v : Nat} (h : MD K f0 f s a n b m lo hi u v) (il : In f0 a b lo mid) (hh : mid ≤ 2000) {t : Nat} (ht : a ≤ t) (ht2 : t < u) : vp_in (f t) 2000 := by
  rw [h.2.2.2.2.1 t ht ht2]
  exact il.vd hh ht (Nat.lt_of_lt_of_le ht2 h.2.1)
end PMD
section SMD
variable {D : va_G} {cI cJ cO : ClassId} {p : Program} {l : Launch} {e : Env} {R : Room} {s : State} {m : MethodId} {args : Array Value} {below : List Frame} {meth : Method} {c : Code} {cells slots : Nat} {Q : State → Prop}
variable {a : Nat → Nat} {hB k : Nat} {g : Nat → Int32} {rn : Int32} {fF fL : Nat → Int32} {A : Nat → Prop} {H0 : Heap}
set_option maxHeartbeats 4000000 in
theorem l_md0 {x0 n1 y0 n2 lo mid hi : Nat} {f0 : Nat → Int32} (X : Cx D cI cJ cO p s m c b_S_mergeDown 9 R_S) (hk : k < 4) (hR : 2 ≤ R.frames ∧ 180 ≤ R.locals) (hf : cells ≤ R.cells ∧ slots ≤ R.slots) (hxy : x0 + n1 = y0) (hyn : y0 + n2 ≤ 2000) (sl : Sg (Ky k g) f0 x0 y0) (sr : Sg (Ky k g) f0 y0 (y0 + n2)) (il : In f0 x0 y0 lo mid) (ir : In f0 y0 (y0 + n2) mid hi) (hmid : lo ≤ mid ∧ mid ≤ hi ∧ hi ≤ 2000) {gl : Int32} (kk : ∀ (sp : Nat → Int32) (H : Heap) (locs : List Loc) (ls : Array Slot), (∀ q, q < n2 → sp q = f0 (y0 + q)) → va_P D vCL (WS cI a hB k g rn gl f0 sp fF fL) H → va_D A (WS cI a hB k g rn gl f0 sp fF fL) → va_S A H0 H locs → lv_has ls 9 [(0, .ref (a 10)), (1, .int (nI x0)), (2, .int (nI n1)), (3, .int (nI y0)), (4, .int (nI n2))] → W p l e R s m args below meth c H locs cells slots Q (F0 m 32 ls [])) : ∀ (fuel i : Nat) (sp : Nat → Int32) (H : Heap) (locs : List Loc) (ls : Array Slot), n2 - i < fuel → i ≤ n2 → (∀ q, q < i → sp q = f0 (y0 + q)) → va_P D vCL (WS cI a hB k g rn gl f0 sp fF fL) H → va_D A (WS cI a hB k g rn gl f0 sp fF fL) → va_S A H0 H locs → lv_has ls 9 [(0, .ref (a 10)), (1, .int (nI x0)), (2, .int (nI n1)), (3, .int (nI y0)), (4, .int (nI n2)), (5, .int (nI i))] → W p l e R s m args below meth c H locs cells slots Q (F0 m 3 ls []) := by
  have hx := X.x
  have hb := X.b
  intro fuel
  induction fuel with
  | zero => intro i sp H locs ls h; omega
  | succ fuel ih =>
    intro i sp H locs ls hfu hi1 hall hP hD hS hl
    refine lv_iload hx hb d_S_mergeDown_3 (lv_at hl 5 rfl) ?_
    refine lv_iload hx hb d_S_mergeDown_5 (lv_at hl 4 rfl) ?_
    refine w_icmp_ge (tgt := 32) hx hb d_S_mergeDown_7 (by decide) ⟨by omega, by omega⟩ (fun h1 => ?_) (fun h1 => ?_)
    · exact kk sp H locs ls (fun q hq => hall q (by omega)) hP hD hS (lv_sub hl [0, 1, 2, 3, 4] rfl)
    · refine lv_aload_n hx hb d_S_mergeDown_10 rfl (lv_at hl 0 rfl) ?_
      refine g_S_spare X hP 3 rfl rfl d_S_mergeDown_11 ?_
      refine lv_iload hx hb d_S_mergeDown_14 (lv_at hl 5 rfl) ?_
      refine lv_aload_n hx hb d_S_mergeDown_16 rfl (lv_at hl 0 rfl) ?_
      refine g_S_cells X hP 3 rfl rfl d_S_mergeDown_17 ?_
      refine lv_iload_n hx hb d_S_mergeDown_20 rfl (lv_at hl 3 rfl) ?_
      refine lv_iload hx hb d_S_mergeDown_21 (lv_at hl 5 rfl) ?_
      refine w_add hx hb d_S_mergeDown_23 ?_
      refine w_ald X hP 4 rfl (by omega) (by decide) d_S_mergeDown_24 ?_
      refine w_ast (ws' := WS cI a hB k g rn gl f0 (upd sp i (f0 (y0 + i))) fF fL) X hP hD hS 2 rfl (by omega) (by decide) rfl d_S_mergeDown_25 ?_
      clear hP hD hS; intro H locs hP hD hS
      refine w_inc (k := 5) (lv' := [(5, .int (nI (i + 1))), (0, .ref (a 10)), (1, .int (nI x0)), (2, .int (nI n1)), (3, .int (nI y0)), (4, .int (nI n2))]) hx hb d_S_mergeDown_26 hl rfl (by decide) rfl ?_
      clear hl; intro ls hl
      refine lv_goto (tgt := 3) hx hb d_S_mergeDown_29 (by decide) ?_
      refine ih (i + 1) _ H locs ls (by omega) (by omega) (fun q hq => ?_) hP hD hS (lv_sub hl [1, 2, 3, 4, 5, 0] rfl)
      rcases Nat.lt_or_ge q i with z | z
      · rw [pk_un (by omega)]; exact hall q z
      · rw [show q = i by omega, pk_us]
set_option maxHeartbeats 4000000 in
theorem l_md9 {x0 n1 y0 n2 lo mid hi : Nat} {f0 : Nat → Int32} (X : Cx D cI cJ cO p s m c b_S_mergeDown 9 R_S) (hk : k < 4) (hR : 2 ≤ R.frames ∧ 180 ≤ R.locals) (hf : cells ≤ R.cells ∧ slots ≤ R.slots) (hxy : x0 + n1 = y0) (hyn : y0 + n2 ≤ 2000) (sl : Sg (Ky k g) f0 x0 y0) (sr : Sg (Ky k g) f0 y0 (y0 + n2)) (il : In f0 x0 y0 lo mid) (ir : In f0 y0 (y0 + n2) mid hi) (hmid : lo ≤ mid ∧ mid ≤ hi ∧ hi ≤ 2000) {gl : Int32} {sp : Nat → Int32} {u : Nat} (kk : ∀ (f : Nat → Int32) (H : Heap) (locs : List Loc) (ls : Array Slot), MD (Ky k g) f0 f sp x0 n1 y0 n2 lo hi u 0 → va_P D vCL (WS cI a hB k g rn gl f sp fF fL) H → va_D A (WS cI a hB k g rn gl f sp fF fL) → va_S A H0 H locs → lv_has ls 9 [(0, .ref (a 10))] → W p l e R s m args below meth c H locs cells slots Q (F0 m 166 ls [])) : ∀ (fuel v : Nat) (f : Nat → Int32) (H : Heap) (locs : List Loc) (ls : Array Slot), v < fuel → (0 < v → u = x0) → MD (Ky k g) f0 f sp x0 n1 y0 n2 lo hi u v → va_P D vCL (WS cI a hB k g rn gl f sp fF fL) H → va_D A (WS cI a hB k g rn gl f sp fF fL) → va_S A H0 H locs → lv_has ls 9 [(0, .ref (a 10)), (6, .int (nI v - nI 1)), (7, .int (nI (u + v) - nI 1))] → W p l e R s m args below meth c H locs cells slots Q (F0 m 138 ls []) := by
  have hx := X.x
  have hb := X.b
  intro fuel
  induction fuel with
  | zero => intro v f H locs ls h; omega
  | succ fuel ih =>
    intro v f H locs ls hfu hue hM hP hD hS hl
    have hb1 := hM.2.2.1
    have hb2 := hM.2.1
    refine lv_iload hx hb d_S_mergeDown_138 (lv_at hl 1 rfl) ?_
    refine lv_if_lt (tgt := 166) hx hb d_S_mergeDown_140 (by decide) (fun h1 => ?_) (fun h1 => ?_)
    · have e : v = 0 := (dn_0 (by omega)).mp h1
      subst e
      exact kk f H locs ls hM hP hD hS (lv_sub hl [0] rfl)
    · have h1 : v ≠ 0 := fun z => h1 ((dn_0 (by omega)).mpr z)
      have hu := hue (by omega)
      obtain ⟨v1, rfl⟩ : ∃ v1, v = v1 + 1 := ⟨v - 1, by omega⟩
      refine lv_aload_n hx hb d_S_mergeDown_143 rfl (lv_at hl 0 rfl) ?_
      refine g_S_cells X hP 3 rfl rfl d_S_mergeDown_144 ?_
      refine lv_iload hx hb d_S_mergeDown_147 (lv_at hl 2 rfl) ?_
      refine w_to (y := nI (u + v1)) (dn_1 (u + v1)) ?_
      refine lv_iinc (k := 2) (v := nI (u + v1) - nI 1) (lv' := [(7, .int (nI (u + v1) - nI 1)), (0, .ref (a 10)), (6, .int (nI (v1 + 1) - nI 1))]) hx hb d_S_mergeDown_149 hl rfl (dn_dec (by omega)) (by decide) rfl ?_
      clear hl; intro ls hl
      refine lv_aload_n hx hb d_S_mergeDown_152 rfl (lv_at hl 1 rfl) ?_
      refine g_S_spare X hP 3 rfl rfl d_S_mergeDown_153 ?_
      refine lv_iload hx hb d_S_mergeDown_156 (lv_at hl 2 rfl) ?_
      refine w_to (y := nI v1) (dn_1 v1) ?_
      refine lv_iinc (k := 2) (v := nI v1 - nI 1) (lv' := [(6, .int (nI v1 - nI 1)), (7, .int (nI (u + v1) - nI 1)), (0, .ref (a 10))]) hx hb d_S_mergeDown_158 hl rfl (dn_dec (by omega)) (by decide) rfl ?_
      clear hl; intro ls hl
      refine w_ald X hP 2 rfl (by omega) (by decide) d_S_mergeDown_161 ?_
      refine w_ast (ws' := WS cI a hB k g rn gl (upd f (u + v1) (sp v1)) sp fF fL) X hP hD hS 4 rfl (by omega) (by decide) rfl d_S_mergeDown_162 ?_
      clear hP hD hS; intro H locs hP hD hS
      refine lv_goto (tgt := 138) hx hb d_S_mergeDown_163 (by decide) ?_
      exact ih v1 _ H locs ls (by omega) (fun _ => hu) (hM.takeR hxy sl sr (ir.part (Nat.le_refl _) (Nat.le_refl _) hmid.1 (Nat.le_refl _)) (fun z => by omega)) hP hD hS (lv_sub hl [2, 0, 1] rfl)
set_option maxHeartbeats 4000000 in
theorem l_md1 {x0 n1 y0 n2 lo mid hi : Nat} {f0 : Nat → Int32} (X : Cx D cI cJ cO p s m c b_S_mergeDown 9 R_S) (hk : k < 4) (hR : 2 ≤ R.frames ∧ 180 ≤ R.locals) (hf : cells ≤ R.cells ∧ slots ≤ R.slots) (hxy : x0 + n1 = y0) (hyn : y0 + n2 ≤ 2000) (sl : Sg (Ky k g) f0 x0 y0) (sr : Sg (Ky k g) f0 y0 (y0 + n2)) (il : In f0 x0 y0 lo mid) (ir : In f0 y0 (y0 + n2) mid hi) (hmid : lo ≤ mid ∧ mid ≤ hi ∧ hi ≤ 2000) {gl : Int32} {sp : Nat → Int32} (kk : ∀ (u v : Nat) (f : Nat → Int32) (H : Heap) (locs : List Loc) (ls : Array Slot), (0 < v → u = x0) → MD (Ky k g) f0 f sp x0 n1 y0 n2 lo hi u v → va_P D vCL (WS cI a hB k g rn gl f sp fF fL) H → va_D A (WS cI a hB k g rn gl f sp fF fL) → va_S A H0 H locs → lv_has ls 9 [(0, .ref (a 10)), (6, .int (nI v - nI 1)), (7, .int (nI (u + v) - nI 1))] → W p l e R s m args below meth c H locs cells slots Q (F0 m 138 ls [])) : ∀ (fuel u v : Nat) (f : Nat → Int32) (H : Heap) (locs : List Loc) (ls : Array Slot), u + v < fuel → MD (Ky k g) f0 f sp x0 n1 y0 n2 lo hi u v → va_P D vCL (WS cI a hB k g rn gl f sp fF fL) H → va_D A (WS cI a hB k g rn gl f sp fF fL) → va_S A H0 H locs → lv_has ls 9 [(0, .ref (a 10)), (1, .int (nI x0)), (2, .int (nI n1)), (3, .int (nI y0)), (4, .int (nI n2)), (5, .int (nI u - nI 1)), (6, .int (nI v - nI 1)), (7, .int (nI (u + v) - nI 1))] → W p l e R s m args below meth c H locs cells slots Q (F0 m 53 ls []) := by
  have hx := X.x
  have hb := X.b
  intro fuel
  induction fuel with
  | zero => intro u v f H locs ls h; omega
  | succ fuel ih =>
    intro u v f H locs ls hfu hM hP hD hS hl
    have hb0 := hM.1
    have hb1 := hM.2.2.1
    have hb2 := hM.2.1
    refine lv_iload hx hb d_S_mergeDown_53 (lv_at hl 5 rfl) ?_
    refine lv_iload_n hx hb d_S_mergeDown_55 rfl (lv_at hl 1 rfl) ?_
    refine lv_icmp_lt (tgt := 138) hx hb d_S_mergeDown_56 (by decide) (fun h1 => ?_) (fun h1 => ?_)
    · have h1 := (dn_lt (by omega) (by omega)).mp h1
      exact kk u v f H locs ls (fun _ => by omega) hM hP hD hS (lv_sub hl [0, 6, 7] rfl)
    · have h1 : x0 < u := Nat.lt_of_not_le fun z => h1 ((dn_lt (by omega) (by omega)).mpr z)
      refine lv_iload hx hb d_S_mergeDown_59 (lv_at hl 6 rfl) ?_
      refine lv_if_lt (tgt := 138) hx hb d_S_mergeDown_61 (by decide) (fun h2 => ?_) (fun h2 => ?_)
      · have h2 := (dn_0 (by omega)).mp h2
        exact kk u v f H locs ls (fun _ => by omega) hM hP hD hS (lv_sub hl [0, 6, 7] rfl)
      · have h2 : v ≠ 0 := fun z => h2 ((dn_0 (by omega)).mpr z)
        obtain ⟨v1, rfl⟩ : ∃ v1, v = v1 + 1 := ⟨v - 1, by omega⟩
        obtain ⟨u1, rfl⟩ : ∃ u1, u = u1 + 1 := ⟨u - 1, by omega⟩
        refine lv_aload_n hx hb d_S_mergeDown_64 rfl (lv_at hl 0 rfl) ?_
        refine g_S_order X hP 3 rfl rfl d_S_mergeDown_65 ?_
        refine lv_aload_n hx hb d_S_mergeDown_68 rfl (lv_at hl 0 rfl) ?_
        refine g_S_spare X hP 3 rfl rfl d_S_mergeDown_69 ?_
        refine lv_iload hx hb d_S_mergeDown_72 (lv_at hl 6 rfl) ?_
        refine w_to (y := nI v1) (dn_1 v1) ?_
        refine w_ald X hP 2 rfl (by omega) (by decide) d_S_mergeDown_74 ?_
        refine lv_aload_n hx hb d_S_mergeDown_75 rfl (lv_at hl 0 rfl) ?_
        refine g_S_cells X hP 3 rfl rfl d_S_mergeDown_76 ?_
        refine lv_iload hx hb d_S_mergeDown_79 (lv_at hl 5 rfl) ?_
        refine w_to (y := nI u1) (dn_1 u1) ?_
        refine w_ald X hP 4 rfl (by omega) (by decide) d_S_mergeDown_81 ?_
        refine cS_cmp X hk hP hR hf hl.1 (hM.vdS ir hmid.2.2 (by omega)) (hM.vdF il (by omega) (by omega) (by omega)) (by decide) d_S_mergeDown_82 (fun rr hrr => ?_)
        refine lv_if_ge (tgt := 94) hx hb d_S_mergeDown_87 (by decide) (fun h3 => ?_) (fun h3 => ?_)
        · refine lv_iconst (v := nI 0) hx hb d_S_mergeDown_94 (by decide) ?_
          refine lv_istore (lv' := [(8, .int (nI 0)), (0, .ref (a 10)), (1, .int (nI x0)), (2, .int (nI n1)), (3, .int (nI y0)), (4, .int (nI n2)), (5, .int (nI (u1 + 1) - nI 1)), (6, .int (nI (v1 + 1) - nI 1)), (7, .int (nI (u1 + 1 + (v1 + 1)) - nI 1))]) hx hb d_S_mergeDown_95 hl (by decide) rfl ?_
          clear hl; intro ls hl
          refine lv_aload_n hx hb d_S_mergeDown_97 rfl (lv_at hl 1 rfl) ?_
          refine g_S_cells X hP 3 rfl rfl d_S_mergeDown_98 ?_
          refine lv_iload hx hb d_S_mergeDown_101 (lv_at hl 8 rfl) ?_
          refine w_to (y := nI (u1 + 1 + v1)) (dn_1 (u1 + 1 + v1)) ?_
          refine lv_iload hx hb d_S_mergeDown_103 (lv_at hl 0 rfl) ?_
          refine w_if_eq (tgt := 121) hx hb d_S_mergeDown_105 (by decide) (by omega) (fun h4 => ?_) (fun h4 => ?_)
          · refine lv_aload_n hx hb d_S_mergeDown_121 rfl (lv_at hl 1 rfl) ?_
            refine g_S_spare X hP 3 rfl rfl d_S_mergeDown_122 ?_
            refine lv_iload hx hb d_S_mergeDown_125 (lv_at hl 7 rfl) ?_
            refine w_to (y := nI v1) (dn_1 v1) ?_
            refine lv_iinc (k := 7) (v := nI v1 - nI 1) (lv' := [(6, .int (nI v1 - nI 1)), (8, .int (nI 0)), (0, .ref (a 10)), (1, .int (nI x0)), (2, .int (nI n1)), (3, .int (nI y0)), (4, .int (nI n2)), (5, .int (nI (u1 + 1) - nI 1)), (7, .int (nI (u1 + 1 + (v1 + 1)) - nI 1))]) hx hb d_S_mergeDown_127 hl rfl (dn_dec (by omega)) (by decide) rfl ?_
            clear hl; intro ls hl
            refine w_ald X hP 2 rfl (by omega) (by decide) d_S_mergeDown_130 ?_
            refine w_ast (ws' := WS cI a hB k g rn gl (upd f (u1 + 1 + v1) (sp v1)) sp fF fL) X hP hD hS 4 rfl (by omega) (by decide) rfl d_S_mergeDown_131 ?_
            clear hP hD hS; intro H locs hP hD hS
            refine lv_iinc (k := 8) (v := nI (u1 + 1 + v1) - nI 1) (lv' := [(7, .int (nI (u1 + 1 + v1) - nI 1)), (6, .int (nI v1 - nI 1)), (8, .int (nI 0)), (0, .ref (a 10)), (1, .int (nI x0)), (2, .int (nI n1)), (3, .int (nI y0)), (4, .int (nI n2)), (5, .int (nI (u1 + 1) - nI 1))]) hx hb d_S_mergeDown_132 hl rfl (dn_dec (by omega)) (by decide) rfl ?_
            clear hl; intro ls hl
            refine lv_goto (tgt := 53) hx hb d_S_mergeDown_135 (by decide) ?_
            exact ih (u1 + 1) v1 _ H locs ls (by omega) (hM.takeR hxy sl sr (ir.part (Nat.le_refl _) (Nat.le_refl _) hmid.1 (Nat.le_refl _)) (fun _ => hM.cmpR il ir hmid.2.2 (by omega) (hrr.ge.mp h3))) hP hD hS (lv_sub hl [3, 4, 5, 6, 7, 8, 1, 0] rfl)
          · exact absurd rfl h4
        · refine lv_iconst (v := nI 1) hx hb d_S_mergeDown_90 (by decide) ?_
          refine lv_goto (tgt := 95) hx hb d_S_mergeDown_91 (by decide) ?_
          refine lv_istore (lv' := [(8, .int (nI 1)), (0, .ref (a 10)), (1, .int (nI x0)), (2, .int (nI n1)), (3, .int (nI y0)), (4, .int (nI n2)), (5, .int (nI (u1 + 1) - nI 1)), (6, .int (nI (v1 + 1) - nI 1)), (7, .int (nI (u1 + 1 + (v1 + 1)) - nI 1))]) hx hb d_S_mergeDown_95 hl (by decide) rfl ?_
          clear hl; intro ls hl
          refine lv_aload_n hx hb d_S_mergeDown_97 rfl (lv_at hl 1 rfl) ?_
          refine g_S_cells X hP 3 rfl rfl d_S_mergeDown_98 ?_
          refine lv_iload hx hb d_S_mergeDown_101 (lv_at hl 8 rfl) ?_
          refine w_to (y := nI (u1 + (v1 + 1))) ((pk_sub (by omega)).trans (congrArg nI (by omega))) ?_
          refine lv_iload hx hb d_S_mergeDown_103 (lv_at hl 0 rfl) ?_
          refine w_if_eq (tgt := 121) hx hb d_S_mergeDown_105 (by decide) (by omega) (fun h4 => ?_) (fun h4 => ?_)
          · exact absurd h4 (by decide)
          · refine lv_aload_n hx hb d_S_mergeDown_108 rfl (lv_at hl 1 rfl) ?_
            refine g_S_cells X hP 3 rfl rfl d_S_mergeDown_109 ?_
            refine lv_iload hx hb d_S_mergeDown_112 (lv_at hl 6 rfl) ?_
            refine w_to (y := nI u1) (dn_1 u1) ?_
            refine lv_iinc (k := 6) (v := nI u1 - nI 1) (lv' := [(5, .int (nI u1 - nI 1)), (8, .int (nI 1)), (0, .ref (a 10)), (1, .int (nI x0)), (2, .int (nI n1)), (3, .int (nI y0)), (4, .int (nI n2)), (6, .int (nI (v1 + 1) - nI 1)), (7, .int (nI (u1 + 1 + (v1 + 1)) - nI 1))]) hx hb d_S_mergeDown_114 hl rfl (dn_dec (by omega)) (by decide) rfl ?_
            clear hl; intro ls hl
            refine w_ald X hP 4 rfl (by omega) (by decide) d_S_mergeDown_117 ?_
            refine lv_goto (tgt := 131) hx hb d_S_mergeDown_118 (by decide) ?_
            refine w_ast (ws' := WS cI a hB k g rn gl (upd f (u1 + (v1 + 1)) (f u1)) sp fF fL) X hP hD hS 4 rfl (by omega) (by decide) rfl d_S_mergeDown_131 ?_
            clear hP hD hS; intro H locs hP hD hS
            refine lv_iinc (k := 8) (v := nI (u1 + (v1 + 1)) - nI 1) (lv' := [(7, .int (nI (u1 + (v1 + 1)) - nI 1)), (5, .int (nI u1 - nI 1)), (8, .int (nI 1)), (0, .ref (a 10)), (1, .int (nI x0)), (2, .int (nI n1)), (3, .int (nI y0)), (4, .int (nI n2)), (6, .int (nI (v1 + 1) - nI 1))]) hx hb d_S_mergeDown_132 hl rfl ((dn_dec (by omega)).trans (by rw [show u1 + 1 + (v1 + 1) - 1 = u1 + (v1 + 1) by omega])) (by decide) rfl ?_
            clear hl; intro ls hl
            refine lv_goto (tgt := 53) hx hb d_S_mergeDown_135 (by decide) ?_
            exact ih u1 (v1 + 1) _ H locs ls (by omega) (hM.takeL hxy (by omega) sl sr (il.part (Nat.le_refl _) (Nat.le_refl _) (Nat.le_refl _) hmid.2.1) (fun _ => Or.inl (hrr.nge h3))) hP hD hS (lv_sub hl [3, 4, 5, 6, 7, 1, 8, 0] rfl)
end SMD
set_option maxHeartbeats 4000000 in
/-- mergeDown(x0, n1, y0, n2) -/
theorem c_S_mergeDown (l : Launch) (D : va_G) (cI cJ cO : ClassId) (a : Nat → Nat) (hB k : Nat) (g : Nat → Int32) (rn gl : Int32) (f0 fSp fF fL : Nat → Int32) (sz x0 n1 y0 n2 lo mid hi : Nat) (hk : k < 4) (hxy : x0 + n1 = y0) (hyn : y0 + n2 ≤ 2000) (sl : Sg (Ky k g) f0 x0 y0) (sr : Sg (Ky k g) f0 y0 (y0 + n2)) (il : In f0 x0 y0 lo mid) (ir : In f0 y0 (y0 + n2) mid hi) (hmid : lo ≤ mid ∧ mid ≤ hi ∧ hi ≤ 2000) : Met l y_S_mergeDown [Cond.code y_S_mergeDown b_S_mergeDown 9 none] (rk 2 0 0) (PW D cI cJ cO [.ref (a 10), .int (nI x0), .int (nI n1), .int (nI y0), .int (nI n2)] sz (WS cI a hB k g rn gl f0 fSp fF fL)) (va_Qv (fun u : (Nat → Int32) × (Nat → Int32) × Int32 => Sg (Ky k g) u.1 x0 (y0 + n2) ∧ Iv f0 u.1 x0 (y0 + n2) x0 (y0 + n2) ∧ ∀ q, (q < x0 ∨ y0 + n2 ≤ q) → u.1 q = f0 q) (BW D (va_A (WS cI a hB k g rn gl f0 fSp fF fL) sz) (fun u => WS cI a hB k g rn u.2.2 u.1 u.2.1 fF fL)) (va_A (WS cI a hB k g rn gl f0 fSp fF fL) sz)) 0 0 (va_A (WS cI a hB k g rn gl f0 fSp fF fL) sz) := by
  refine entW (by decide) (Nat.le_of_ble_eq_true rfl) ?_
  intro p e s m below meth c ls X hr hlocks hnm hsz hP hD hA hl
  have hx := X.x
  have hb := X.b
  have hR : 2 ≤ (rk 2 0 0).frames ∧ 180 ≤ (rk 2 0 0).locals := by decide
  have hf : 0 ≤ (rk 2 0 0).cells ∧ 0 ≤ (rk 2 0 0).slots := by decide
  have hS : va_S (va_A (WS cI a hB k g rn gl f0 fSp fF fL) sz) s.heap s.heap [] := va_S.rf
  have hl : lv_has ls 9 [(0, .ref (a 10)), (1, .int (nI x0)), (2, .int (nI n1)), (3, .int (nI y0)), (4, .int (nI n2))] := hl
  refine lv_iconst (v := nI 0) hx hb d_S_mergeDown_0 (by decide) ?_
  refine lv_istore (lv' := [(5, .int (nI 0)), (0, .ref (a 10)), (1, .int (nI x0)), (2, .int (nI n1)), (3, .int (nI y0)), (4, .int (nI n2))]) hx hb d_S_mergeDown_1 hl (by decide) rfl ?_
  clear hl; intro ls hl
  refine l_md0 X hk hR hf hxy hyn sl sr il ir hmid ?_ (n2 + 1) 0 fSp _ _ ls (by omega) (by omega) (fun q h => by omega) hP hD hS (lv_sub hl [1, 2, 3, 4, 5, 0] rfl)
  clear hP hD hS hl ls; intro sp H locs ls hsp hP hD hS hl
  refine lv_iload_n hx hb d_S_mergeDown_32 rfl (lv_at hl 1 rfl) ?_
  refine lv_iload_n hx hb d_S_mergeDown_33 rfl (lv_at hl 2 rfl) ?_
  refine w_add hx hb d_S_mergeDown_34 ?_
  refine lv_iconst (v := nI 1) hx hb d_S_mergeDown_35 (by decide) ?_
  refine lv_isub hx hb d_S_mergeDown_36 ?_
  refine lv_istore (lv' := [(5, .int ((nI (x0 + n1)) - (nI 1))), (0, .ref (a 10)), (1, .int (nI x0)), (2, .int (nI n1)), (3, .int (nI y0)), (4, .int (nI n2))]) hx hb d_S_mergeDown_37 hl (by decide) rfl ?_
  clear hl; intro ls hl
  refine lv_iload hx hb d_S_mergeDown_39 (lv_at hl 5 rfl) ?_
  refine lv_iconst (v := nI 1) hx hb d_S_mergeDown_41 (by decide) ?_
  refine lv_isub hx hb d_S_mergeDown_42 ?_
  refine lv_istore (lv' := [(6, .int ((nI n2) - (nI 1))), (5, .int ((nI (x0 + n1)) - (nI 1))), (0, .ref (a 10)), (1, .int (nI x0)), (2, .int (nI n1)), (3, .int (nI y0)), (4, .int (nI n2))]) hx hb d_S_mergeDown_43 hl (by decide) rfl ?_
  clear hl; intro ls hl
  refine lv_iload_n hx hb d_S_mergeDown_45 rfl (lv_at hl 5 rfl) ?_
  refine lv_iload hx hb d_S_mergeDown_46 (lv_at hl 6 rfl) ?_
  refine w_add hx hb d_S_mergeDown_48 ?_
  refine lv_iconst (v := nI 1) hx hb d_S_mergeDown_49 (by decide) ?_
  refine lv_isub hx hb d_S_mergeDown_50 ?_
  refine lv_istore (lv' := [(7, .int ((nI (y0 + n2)) - (nI 1))), (6, .int ((nI n2) - (nI 1))), (5, .int ((nI (x0 + n1)) - (nI 1))), (0, .ref (a 10)), (1, .int (nI x0)), (2, .int (nI n1)), (3, .int (nI y0)), (4, .int (nI n2))]) hx hb d_S_mergeDown_51 hl (by decide) rfl ?_
  clear hl; intro ls hl
  rw [hxy] at hl
  refine l_md1 X hk hR hf hxy hyn sl sr il ir hmid (sp := sp) ?_ (y0 + n2 + 1) y0 n2 _ H locs ls (by omega) (MD.start hxy hsp) hP hD hS (lv_sub hl [3, 4, 5, 6, 7, 2, 1, 0] rfl)
  clear hP hD hS hl ls locs H; intro u v f1 H locs ls hij hM hP hD hS hl
  refine l_md9 X hk hR hf hxy hyn sl sr il ir hmid ?_ (v + 1) v _ H locs ls (by omega) hij hM hP hD hS hl
  clear hM hP hD hS hl ls locs H; intro f H locs ls hM hP hD hS hl
  obtain ⟨h1, h2, h3⟩ := hM.done hxy sl (il.part (Nat.le_refl _) (Nat.le_refl _) (Nat.le_refl _) hmid.2.1)
  exact W.vret hx hb hr (fun t ht hW => ⟨⟨(f, sp, gl), rfl, ⟨h1, h2, h3⟩, by rw [ht]; exact hP, hD⟩, hS.F ht⟩) hS.2.2 d_S_mergeDown_166
end
section
/-! pure rows: insertion, a run found, a run turned round -/
section P2
variable {K : Int32 → Int}
theorem ins_done {f h : Nat → Int32} {low i pos : Nat} (hR : Rn K f low i) (hi : i < 2000) (hfi : f i = nI i) (h1 : low ≤ pos) (h2 : pos ≤ i) (hlo : ∀ q, low ≤ q → q < pos → K (f q) ≤ K (f i)) (hhi : ∀ q, pos ≤ q → q < i → K (f i) < K (f q)) (hh : ∀ q, h q = if pos < q ∧ q ≤ i then f (q - 1) else f q) :
    Rn K (upd h pos (f i)) low (i + 1) ∧ ∀ q, (q < low ∨ i < q) → upd h pos (f i) q = f q := by
  obtain ⟨hs, hn⟩ := hR
  have e1 : ∀ q, q < pos → upd h pos (f i) q = f q := fun q hq => by rw [pk_un (by omega), hh, if_neg (by omega)]
  have e2 : ∀ q, pos < q → q ≤ i → upd h pos (f i) q = f (q - 1) := fun q hq hq2 => by rw [pk_un (by omega), hh, if_pos (by omega)]
  have e3 : upd h pos (f i) pos = f i := pk_us
  refine ⟨⟨fun x y q1 q2 q3 => ?_, fun x q1 q2 => ?_⟩, fun q hq => ?_⟩
  · rcases Nat.lt_trichotomy x pos with z | z | z
    · rw [e1 x z]
      obtain ⟨p, p1, p2, p3⟩ := hn x q1 (by omega)
      rcases Nat.lt_trichotomy y pos with w | w | w
      · rw [e1 y w]; exact hs x y q1 q2 (by omega)
      · rw [w, e3]; exact lt_lo p3 hfi p2 (by omega) (hlo x q1 z)
      · rw [e2 y w (by omega)]; exact hs x (y - 1) q1 (by omega) (by omega)
    · rw [z, e3, e2 y (by omega) (by omega)]; exact Or.inl (hhi (y - 1) (by omega) (by omega))
    · rw [e2 x z (by omega), e2 y (by omega) (by omega)]; exact hs (x - 1) (y - 1) (by omega) (by omega) (by omega)
  · rcases Nat.lt_trichotomy x pos with z | z | z
    · rw [e1 x z]
      obtain ⟨p, p1, p2, p3⟩ := hn x q1 (by omega)
      exact ⟨p, p1, by omega, p3⟩
    · rw [z, e3]; exact ⟨i, by omega, by omega, hfi⟩
    · rw [e2 x z (by omega)]
      obtain ⟨p, p1, p2, p3⟩ := hn (x - 1) (by omega) (by omega)
      exact ⟨p, p1, by omega, p3⟩
  · rcases hq with z | z
    · exact e1 q (by omega)
    · rw [pk_un (by omega), hh, if_neg (by omega)]
theorem sh_step {f h : Nat → Int32} {i t : Nat} (h1 : 1 ≤ t) (h2 : t ≤ i) (hh : ∀ q, h q = if t < q ∧ q ≤ i then f (q - 1) else f q) : ∀ q, upd h t (h (t - 1)) q = if t - 1 < q ∧ q ≤ i then f (q - 1) else f q := fun q => by
  rcases Nat.lt_trichotomy q t with z | z | z
  · rw [pk_un (by omega), hh, if_neg (by omega), if_neg (by omega)]
  · rw [z, pk_us, hh, if_neg (by omega), if_pos (by omega)]
  · rw [pk_un (by omega), hh]
    rcases Nat.lt_or_ge i q with y | y
    · rw [if_neg (by omega), if_neg (by omega)]
    · rw [if_pos (by omega), if_pos (by omega)]
theorem up_all {f : Nat → Int32} {a b : Nat} (h : ∀ q, a < q → q < b → K (f (q - 1)) ≤ K (f q)) : ∀ i j, a ≤ i → i ≤ j → j < b → K (f i) ≤ K (f j) := fun i j => by
  induction j with
  | zero => intro h1 h2 h3; rw [show i = 0 by omega]; exact Int.le_refl _
  | succ j ih =>
    intro h1 h2 h3
    rcases Nat.lt_or_ge i (j + 1) with z | z
    · exact Int.le_trans (ih h1 (by omega) (by omega)) (h (j + 1) (by omega) h3)
    · rw [show i = j + 1 by omega]; exact Int.le_refl _
theorem down_all {f : Nat → Int32} {a b : Nat} (h : ∀ q, a < q → q < b → K (f q) < K (f (q - 1))) : ∀ i j, a ≤ i → i < j → j < b → K (f j) < K (f i) := fun i j => by
  induction j with
  | zero => intro h1 h2 h3; omega
  | succ j ih =>
    intro h1 h2 h3
    have h4 : K (f (j + 1)) < K (f j) := h (j + 1) (by omega) h3
    rcases Nat.lt_or_ge i j with z | z
    · exact Int.lt_trans h4 (ih h1 z (by omega))
    · rw [show i = j by omega]; exact h4
theorem run_up {f : Nat → Int32} {a b : Nat} (hb : b ≤ 2000) (hf : ∀ q, a ≤ q → q < b → f q = nI q) (h : ∀ q, a < q → q < b → K (f (q - 1)) ≤ K (f q)) : Rn K f a b :=
  ⟨fun i j h1 h2 h3 => lt_lo (hf i h1 (by omega)) (hf j (by omega) h3) h2 (by omega) (up_all h i j h1 (by omega) h3), fun i h1 h2 => ⟨i, h1, h2, hf i h1 h2⟩⟩
theorem run_down {f h : Nat → Int32} {a b : Nat} (hf : ∀ q, a ≤ q → q < b → f q = nI q) (hd : ∀ q, a < q → q < b → K (f q) < K (f (q - 1))) (hh : ∀ q, a ≤ q → q < b → h q = f (a + b - 1 - q)) : Rn K h a b :=
  ⟨fun i j h1 h2 h3 => by rw [hh i h1 (by omega), hh j (by omega) h3]; exact Or.inl (down_all hd _ _ (by omega) (by omega) (by omega)), fun i h1 h2 => ⟨a + b - 1 - i, by omega, by omega, by rw [hh i h1 h2]; exact hf _ (by omega) (by omega)⟩⟩
theorem rev_step {f h : Nat → Int32} {a b i j : Nat} (hij : i + j + 1 = a + b) (h1 : a ≤ i) (h2 : i < j) (hh : ∀ q, h q = if (a ≤ q ∧ q < i) ∨ (j < q ∧ q < b) then f (a + b - 1 - q) else f q) : ∀ q, upd (upd h i (h j)) j (h i) q = if (a ≤ q ∧ q < i + 1) ∨ (j - 1 < q ∧ q < b) then f (a + b - 1 - q) else f q := fun q => by
  by_cases hqj : q = j
  · rw [hqj, pk_us, hh, if_neg (by omega), if_pos (by omega), show a + b - 1 - j = i by omega]
  · rw [pk_un hqj]
    by_cases hqi : q = i
    · rw [hqi, pk_us, hh, if_neg (by omega), if_pos (by omega), show a + b - 1 - i = j by omega]
    · rw [pk_un hqi, hh]
      by_cases hc : (a ≤ q ∧ q < i) ∨ (j < q ∧ q < b)
      · rw [if_pos hc, if_pos (by omega)]
      · rw [if_neg hc, if_neg (by omega)]
theorem rev_done {f h : Nat → Int32} {a b i j : Nat} (hij : i + j + 1 = a + b) (h1 : a ≤ i) (h2 : j ≤ i) (h3 : i ≤ j + 1) (hh : ∀ q, h q = if (a ≤ q ∧ q < i) ∨ (j < q ∧ q < b) then f (a + b - 1 - q) else f q) : (∀ q, a ≤ q → q < b → h q = f (a + b - 1 - q)) ∧ ∀ q, (q < a ∨ b ≤ q) → h q = f q :=
  ⟨fun q q1 q2 => by
    rw [hh]
    by_cases hc : (a ≤ q ∧ q < i) ∨ (j < q ∧ q < b)
    · rw [if_pos hc]
    · rw [if_neg hc, show a + b - 1 - q = q by omega], fun q q1 => by rw [hh, if_neg (by omega)]⟩
theorem or_bit {x y : Nat} (hx : x ≤ 1) (hy : y ≤ 1) : ∃ z, z ≤ 1 ∧ nI x ||| nI y = nI z := by
  rcases (show x = 0 ∨ x = 1 by omega) with rfl | rfl <;> rcases (show y = 0 ∨ y = 1 by omega) with rfl | rfl
  · exact ⟨0, by omega, by decide⟩
  · exact ⟨1, by omega, by decide⟩
  · exact ⟨1, by omega, by decide⟩
  · exact ⟨1, by omega, by decide⟩
end P2
end
section
section SH
variable {D : va_G} {cI cJ cO : ClassId} {p : Program} {l : Launch} {e : Env} {R : Room} {s : State} {m : MethodId} {args : Array Value} {below : List Frame} {meth : Method} {c : Code} {H : Heap} {locs : List Loc} {cells slots : Nat} {Q : State → Prop}
set_option maxHeartbeats 4000000 in
theorem l_shortest (X : Cx D cI cJ cO p s m c b_S_shortest 3 R_S) (kk : ∀ (r1 m1 : Nat) (ls : Array Slot), r1 ≤ 1 → m1 < 32 → lv_has ls 3 [(1, .int (nI r1)), (2, .int (nI m1))] → W p l e R s m args below meth c H locs cells slots Q (F0 m 23 ls [])) : ∀ (fuel r1 m1 : Nat) (ls : Array Slot), m1 < fuel → m1 ≤ 2000 → r1 ≤ 1 → lv_has ls 3 [(1, .int (nI r1)), (2, .int (nI m1))] → W p l e R s m args below meth c H locs cells slots Q (F0 m 4 ls []) := by
  have hx := X.x
  have hb := X.b
  intro fuel
  induction fuel with
  | zero => intro r1 m1 ls h; omega
  | succ fuel ih =>
    intro r1 m1 ls hfu hm hr1 hl
    refine lv_iload_n hx hb d_S_shortest_4 rfl (lv_at hl 1 rfl) ?_
    refine lv_bipush (v := nI 32) hx hb d_S_shortest_5 (by decide) ?_
    refine w_icmp_lt (tgt := 23) hx hb d_S_shortest_7 (by decide) ⟨by omega, by omega⟩ (fun h1 => ?_) (fun h1 => ?_)
    · exact kk r1 m1 ls hr1 h1 hl
    · refine lv_iload_n hx hb d_S_shortest_10 rfl (lv_at hl 0 rfl) ?_
      refine lv_iload_n hx hb d_S_shortest_11 rfl (lv_at hl 1 rfl) ?_
      refine lv_iconst (v := nI 1) hx hb d_S_shortest_12 (by decide) ?_
      refine lv_iand hx hb d_S_shortest_13 ?_
      refine lv_ior hx hb d_S_shortest_14 ?_
      have e1 : nI m1 &&& nI 1 = nI (m1 % 2) := pk_andN (by omega) 1 (by decide)
      obtain ⟨z, hz, e2⟩ := or_bit hr1 (show m1 % 2 ≤ 1 by omega)
      refine w_to (y := nI z) (by rw [e1, e2]) ?_
      refine lv_istore_n (lv' := [(1, .int (nI z)), (2, .int (nI m1))]) hx hb d_S_shortest_15 rfl hl (by decide) rfl ?_
      clear hl; intro ls hl
      refine lv_iload_n hx hb d_S_shortest_16 rfl (lv_at hl 1 rfl) ?_
      refine lv_iconst (v := nI 1) hx hb d_S_shortest_17 (by decide) ?_
      refine w_shr1 hx hb d_S_shortest_18 (by omega) ?_
      refine lv_istore_n (lv' := [(2, .int (nI (m1 / 2))), (1, .int (nI z))]) hx hb d_S_shortest_19 rfl hl (by decide) rfl ?_
      clear hl; intro ls hl
      refine lv_goto (tgt := 4) hx hb d_S_shortest_20 (by decide) ?_
      exact ih z (m1 / 2) ls (by omega) (by omega) hz (lv_sub hl [1, 0] rfl)
end SH
set_option maxHeartbeats 4000000 in
/-- shortest(n): at most 32 -/
theorem c_S_shortest (l : Launch) (D : va_G) (cI cJ cO : ClassId) (n : Nat) (hn : n ≤ 2000) : Met l y_S_shortest [Cond.code y_S_shortest b_S_shortest 3 (some .int)] (rk 0 0 0) (PR D cI cJ cO [.int (nI n)] []) (vp_Si (fun r => ∃ q, r = nI q ∧ q ≤ 32)) 0 0 (fun _ => False) := by
  refine entR (by decide) (Nat.le_of_ble_eq_true rfl) ?_
  intro p e s m below meth c ls X hr hlocks hP hl
  have hx := X.x
  have hb := X.b
  have hl : lv_has ls 3 [(0, .int (nI n))] := hl
  refine lv_iconst (v := nI 0) hx hb d_S_shortest_0 (by decide) ?_
  refine lv_istore_n (lv' := [(1, .int (nI 0)), (0, .int (nI n))]) hx hb d_S_shortest_1 rfl hl (by decide) rfl ?_
  clear hl; intro ls hl
  refine lv_iload_n hx hb d_S_shortest_2 rfl (lv_at hl 1 rfl) ?_
  refine lv_istore_n (lv' := [(2, .int (nI n)), (1, .int (nI 0)), (0, .int (nI n))]) hx hb d_S_shortest_3 rfl hl (by decide) rfl ?_
  clear hl; intro ls hl
  refine l_shortest X ?_ (n + 1) 0 n ls (by omega) (by omega) (by omega) (lv_sub hl [1, 0] rfl)
  clear hl ls; intro r1 m1 ls h1 h2 hl
  refine lv_iload_n hx hb d_S_shortest_23 rfl (lv_at hl 1 rfl) ?_
  refine lv_iload_n hx hb d_S_shortest_24 rfl (lv_at hl 0 rfl) ?_
  refine w_add hx hb d_S_shortest_25 ?_
  exact W.iret (v := nI (m1 + r1)) hx hb hr (fun t ht _ => ⟨nI (m1 + r1), rfl, ⟨m1 + r1, rfl, by omega⟩, ht⟩) (fun q h => by cases h) d_S_shortest_26
section SI
variable {D : va_G} {cI cJ cO : ClassId} {p : Program} {l : Launch} {e : Env} {R : Room} {s : State} {m : MethodId} {args : Array Value} {below : List Frame} {meth : Method} {c : Code} {H : Heap} {locs : List Loc} {cells slots : Nat} {Q : State → Prop}
variable {a : Nat → Nat} {hB k : Nat} {g : Nat → Int32} {rn gl : Int32} {fC fSp fF fL : Nat → Int32}
set_option maxHeartbeats 4000000 in
theorem l_insb {low end_ i : Nat} (X : Cx D cI cJ cO p s m c b_S_insertion 9 R_S) (hk : k < 4) (hR : 2 ≤ R.frames ∧ 180 ≤ R.locals) (hf : cells ≤ R.cells ∧ slots ≤ R.slots) (hP : va_P D vCL (WS cI a hB k g rn gl fC fSp fF fL) H) (hi : i < 2000) (hin : In fC low i low i) (hfi : fC i = nI i) (mono : ∀ x y, low ≤ x → x ≤ y → y < i → Ky k g (fC x) ≤ Ky k g (fC y)) (kk : ∀ (pos : Nat) (ls : Array Slot), low ≤ pos → pos ≤ i → (∀ q, low ≤ q → q < pos → Ky k g (fC q) ≤ Ky k g (fC i)) → (∀ q, pos ≤ q → q < i → Ky k g (fC i) < Ky k g (fC q)) → lv_has ls 9 [(0, .ref (a 10)), (1, .int (nI low)), (3, .int (nI end_)), (4, .int (nI i)), (5, .int (fC i)), (6, .int (nI pos))] → W p l e R s m args below meth c H locs cells slots Q (F0 m 78 ls [])) : ∀ (fuel lo2 hi2 : Nat) (ls : Array Slot), hi2 - lo2 < fuel → low ≤ lo2 → lo2 ≤ hi2 → hi2 ≤ i → (∀ q, low ≤ q → q < lo2 → Ky k g (fC q) ≤ Ky k g (fC i)) → (∀ q, hi2 ≤ q → q < i → Ky k g (fC i) < Ky k g (fC q)) → lv_has ls 9 [(0, .ref (a 10)), (1, .int (nI low)), (3, .int (nI end_)), (4, .int (nI i)), (5, .int (fC i)), (6, .int (nI lo2)), (7, .int (nI hi2))] → W p l e R s m args below meth c H locs cells slots Q (F0 m 25 ls []) := by
  have hx := X.x
  have hb := X.b
  intro fuel
  induction fuel with
  | zero => intro lo2 hi2 ls h; omega
  | succ fuel ih =>
    intro lo2 hi2 ls hfu h1 h2 h3 hlo hhi hl
    refine lv_iload hx hb d_S_insertion_25 (lv_at hl 5 rfl) ?_
    refine lv_iload hx hb d_S_insertion_27 (lv_at hl 6 rfl) ?_
    refine w_icmp_ge (tgt := 78) hx hb d_S_insertion_29 (by decide) ⟨by omega, by omega⟩ (fun h4 => ?_) (fun h4 => ?_)
    · have e : lo2 = hi2 := by omega
      subst e
      exact kk lo2 ls h1 h3 hlo hhi (lv_sub hl [0, 1, 2, 3, 4, 5] rfl)
    · refine lv_iload hx hb d_S_insertion_32 (lv_at hl 5 rfl) ?_
      refine lv_iload hx hb d_S_insertion_34 (lv_at hl 6 rfl) ?_
      refine w_add hx hb d_S_insertion_36 ?_
      refine lv_iconst (v := nI 1) hx hb d_S_insertion_37 (by decide) ?_
      refine w_ushr1 hx hb d_S_insertion_38 (by omega) ?_
      generalize hm : (lo2 + hi2) / 2 = mid at *
      have hm1 : lo2 ≤ mid ∧ mid < hi2 := by omega
      refine lv_istore (lv' := [(8, .int (nI mid)), (0, .ref (a 10)), (1, .int (nI low)), (3, .int (nI end_)), (4, .int (nI i)), (5, .int (fC i)), (6, .int (nI lo2)), (7, .int (nI hi2))]) hx hb d_S_insertion_39 hl (by decide) rfl ?_
      clear hl; intro ls hl
      refine lv_aload_n hx hb d_S_insertion_41 rfl (lv_at hl 1 rfl) ?_
      refine g_S_order X hP 3 rfl rfl d_S_insertion_42 ?_
      refine lv_iload hx hb d_S_insertion_45 (lv_at hl 5 rfl) ?_
      refine lv_aload_n hx hb d_S_insertion_47 rfl (lv_at hl 1 rfl) ?_
      refine g_S_cells X hP 3 rfl rfl d_S_insertion_48 ?_
      refine lv_iload hx hb d_S_insertion_51 (lv_at hl 0 rfl) ?_
      refine w_ald X hP 4 rfl (by omega) (by decide) d_S_insertion_53 ?_
      refine cS_cmp X hk hP hR hf hl.1 (by rw [hfi]; exact vp_in_nI hi (by decide)) (hin.vd (by omega) (by omega) (by omega)) (by decide) d_S_insertion_54 (fun rr hrr => ?_)
      refine lv_if_ge (tgt := 69) hx hb d_S_insertion_59 (by decide) (fun h5 => ?_) (fun h5 => ?_)
      · refine lv_iload hx hb d_S_insertion_69 (lv_at hl 0 rfl) ?_
        refine lv_iconst (v := nI 1) hx hb d_S_insertion_71 (by decide) ?_
        refine w_add hx hb d_S_insertion_72 ?_
        refine lv_istore (lv' := [(6, .int (nI (mid + 1))), (8, .int (nI mid)), (0, .ref (a 10)), (1, .int (nI low)), (3, .int (nI end_)), (4, .int (nI i)), (5, .int (fC i)), (7, .int (nI hi2))]) hx hb d_S_insertion_73 hl (by decide) rfl ?_
        clear hl; intro ls hl
        refine lv_goto (tgt := 25) hx hb d_S_insertion_75 (by decide) ?_
        exact ih (mid + 1) hi2 ls (by omega) (by omega) (by omega) h3 (fun q q1 q2 => Int.le_trans (mono _ _ q1 (by omega) (by omega)) (hrr.ge.mp h5)) hhi (lv_sub hl [2, 3, 4, 5, 6, 0, 7] rfl)
      · refine lv_iload hx hb d_S_insertion_62 (lv_at hl 0 rfl) ?_
        refine lv_istore (lv' := [(7, .int (nI mid)), (8, .int (nI mid)), (0, .ref (a 10)), (1, .int (nI low)), (3, .int (nI end_)), (4, .int (nI i)), (5, .int (fC i)), (6, .int (nI lo2))]) hx hb d_S_insertion_64 hl (by decide) rfl ?_
        clear hl; intro ls hl
        refine lv_goto (tgt := 75) hx hb d_S_insertion_66 (by decide) ?_
        refine lv_goto (tgt := 25) hx hb d_S_insertion_75 (by decide) ?_
        exact ih lo2 mid ls (by omega) h1 (by omega) (by omega) hlo (fun q q1 q2 => Int.lt_of_lt_of_le (hrr.nge h5) (mono _ _ (by omega) q1 q2)) (lv_sub hl [2, 3, 4, 5, 6, 7, 0] rfl)
end SI
section SI2
variable {D : va_G} {cI cJ cO : ClassId} {p : Program} {l : Launch} {e : Env} {R : Room} {s : State} {m : MethodId} {args : Array Value} {below : List Frame} {meth : Method} {c : Code} {cells slots : Nat} {Q : State → Prop}
variable {a : Nat → Nat} {hB k : Nat} {g : Nat → Int32} {rn : Int32} {fF fL : Nat → Int32} {A : Nat → Prop} {H0 : Heap}
set_option maxHeartbeats 4000000 in
theorem l_inss {low end_ i : Nat} (X : Cx D cI cJ cO p s m c b_S_insertion 9 R_S) (hk : k < 4) (hR : 2 ≤ R.frames ∧ 180 ≤ R.locals) (hf : cells ≤ R.cells ∧ slots ≤ R.slots) {gl u : Int32} {fSp f : Nat → Int32} {pos : Nat} (hi : i < 2000) (kk : ∀ (h : Nat → Int32) (H : Heap) (locs : List Loc) (ls : Array Slot), (∀ q, h q = if pos < q ∧ q ≤ i then f (q - 1) else f q) → va_P D vCL (WS cI a hB k g rn gl h fSp fF fL) H → va_D A (WS cI a hB k g rn gl h fSp fF fL) → va_S A H0 H locs → lv_has ls 9 [(0, .ref (a 10)), (1, .int (nI low)), (3, .int (nI end_)), (4, .int (nI i)), (5, .int u), (6, .int (nI pos))] → W p l e R s m args below meth c H locs cells slots Q (F0 m 111 ls [])) : ∀ (fuel t : Nat) (h : Nat → Int32) (H : Heap) (locs : List Loc) (ls : Array Slot), t - pos < fuel → pos ≤ t → t ≤ i → (∀ q, h q = if t < q ∧ q ≤ i then f (q - 1) else f q) → va_P D vCL (WS cI a hB k g rn gl h fSp fF fL) H → va_D A (WS cI a hB k g rn gl h fSp fF fL) → va_S A H0 H locs → lv_has ls 9 [(0, .ref (a 10)), (1, .int (nI low)), (3, .int (nI end_)), (4, .int (nI i)), (5, .int u), (6, .int (nI pos)), (8, .int (nI t))] → W p l e R s m args below meth c H locs cells slots Q (F0 m 82 ls []) := by
  have hx := X.x
  have hb := X.b
  intro fuel
  induction fuel with
  | zero => intro t h H locs ls h; omega
  | succ fuel ih =>
    intro t h H locs ls hfu h1 h2 hh hP hD hS hl
    refine lv_iload hx hb d_S_insertion_82 (lv_at hl 6 rfl) ?_
    refine lv_iload hx hb d_S_insertion_84 (lv_at hl 5 rfl) ?_
    refine w_icmp_le (tgt := 111) hx hb d_S_insertion_86 (by decide) ⟨by omega, by omega⟩ (fun h3 => ?_) (fun h3 => ?_)
    · have e : t = pos := by omega
      subst e
      exact kk h H locs ls hh hP hD hS (lv_sub hl [0, 1, 2, 3, 4, 5] rfl)
    · refine lv_aload_n hx hb d_S_insertion_89 rfl (lv_at hl 0 rfl) ?_
      refine g_S_cells X hP 3 rfl rfl d_S_insertion_90 ?_
      refine lv_iload hx hb d_S_insertion_93 (lv_at hl 6 rfl) ?_
      refine lv_aload_n hx hb d_S_insertion_95 rfl (lv_at hl 0 rfl) ?_
      refine g_S_cells X hP 3 rfl rfl d_S_insertion_96 ?_
      refine lv_iload hx hb d_S_insertion_99 (lv_at hl 6 rfl) ?_
      refine lv_iconst (v := nI 1) hx hb d_S_insertion_101 (by decide) ?_
      refine w_sub hx hb d_S_insertion_102 (by omega) ?_
      refine w_ald X hP 4 rfl (by omega) (by decide) d_S_insertion_103 ?_
      refine w_ast (ws' := WS cI a hB k g rn gl (upd h t (h (t - 1))) fSp fF fL) X hP hD hS 4 rfl (by omega) (by decide) rfl d_S_insertion_104 ?_
      clear hP hD hS; intro H locs hP hD hS
      refine w_dec (k := 6) (lv' := [(8, .int (nI (t - 1))), (0, .ref (a 10)), (1, .int (nI low)), (3, .int (nI end_)), (4, .int (nI i)), (5, .int u), (6, .int (nI pos))]) hx hb d_S_insertion_105 hl rfl (by decide) (by omega) rfl ?_
      clear hl; intro ls hl
      refine lv_goto (tgt := 82) hx hb d_S_insertion_108 (by decide) ?_
      exact ih (t - 1) _ H locs ls (by omega) (by omega) (by omega) (sh_step (by omega) h2 hh) hP hD hS (lv_sub hl [1, 2, 3, 4, 5, 6, 0] rfl)
set_option maxHeartbeats 4000000 in
theorem l_inso {low end_ : Nat} (X : Cx D cI cJ cO p s m c b_S_insertion 9 R_S) (hk : k < 4) (hR : 2 ≤ R.frames ∧ 180 ≤ R.locals) (hf : cells ≤ R.cells ∧ slots ≤ R.slots) {gl : Int32} {fSp f0 : Nat → Int32} (he : end_ ≤ 2000) (kk : ∀ (f : Nat → Int32) (H : Heap) (locs : List Loc) (ls : Array Slot), Rn (Ky k g) f low end_ → (∀ q, (q < low ∨ end_ ≤ q) → f q = f0 q) → va_P D vCL (WS cI a hB k g rn gl f fSp fF fL) H → va_D A (WS cI a hB k g rn gl f fSp fF fL) → va_S A H0 H locs → lv_has ls 9 [(0, .ref (a 10))] → W p l e R s m args below meth c H locs cells slots Q (F0 m 126 ls [])) : ∀ (fuel i : Nat) (f : Nat → Int32) (H : Heap) (locs : List Loc) (ls : Array Slot), end_ - i < fuel → low ≤ i → i ≤ end_ → Rn (Ky k g) f low i → (∀ q, i ≤ q → q < end_ → f q = nI q) → (∀ q, (q < low ∨ end_ ≤ q) → f q = f0 q) → va_P D vCL (WS cI a hB k g rn gl f fSp fF fL) H → va_D A (WS cI a hB k g rn gl f fSp fF fL) → va_S A H0 H locs → lv_has ls 9 [(0, .ref (a 10)), (1, .int (nI low)), (3, .int (nI end_)), (4, .int (nI i))] → W p l e R s m args below meth c H locs cells slots Q (F0 m 3 ls []) := by
  have hx := X.x
  have hb := X.b
  intro fuel
  induction fuel with
  | zero => intro i f H locs ls h; omega
  | succ fuel ih =>
    intro i f H locs ls hfu h1 h2 hRn hid hout hP hD hS hl
    refine lv_iload hx hb d_S_insertion_3 (lv_at hl 3 rfl) ?_
    refine lv_iload_n hx hb d_S_insertion_5 rfl (lv_at hl 2 rfl) ?_
    refine w_icmp_ge (tgt := 126) hx hb d_S_insertion_6 (by decide) ⟨by omega, by omega⟩ (fun h3 => ?_) (fun h3 => ?_)
    · have e : i = end_ := by omega
      subst e
      exact kk f H locs ls hRn hout hP hD hS (lv_sub hl [0] rfl)
    · refine lv_aload_n hx hb d_S_insertion_9 rfl (lv_at hl 0 rfl) ?_
      refine g_S_cells X hP 3 rfl rfl d_S_insertion_10 ?_
      refine lv_iload hx hb d_S_insertion_13 (lv_at hl 3 rfl) ?_
      refine w_ald X hP 4 rfl (by omega) (by decide) d_S_insertion_15 ?_
      refine lv_istore (lv' := [(5, .int (f i)), (0, .ref (a 10)), (1, .int (nI low)), (3, .int (nI end_)), (4, .int (nI i))]) hx hb d_S_insertion_16 hl (by decide) rfl ?_
      clear hl; intro ls hl
      refine lv_iload_n hx hb d_S_insertion_18 rfl (lv_at hl 2 rfl) ?_
      refine lv_istore (lv' := [(6, .int (nI low)), (5, .int (f i)), (0, .ref (a 10)), (1, .int (nI low)), (3, .int (nI end_)), (4, .int (nI i))]) hx hb d_S_insertion_19 hl (by decide) rfl ?_
      clear hl; intro ls hl
      refine lv_iload hx hb d_S_insertion_21 (lv_at hl 5 rfl) ?_
      refine lv_istore (lv' := [(7, .int (nI i)), (6, .int (nI low)), (5, .int (f i)), (0, .ref (a 10)), (1, .int (nI low)), (3, .int (nI end_)), (4, .int (nI i))]) hx hb d_S_insertion_23 hl (by decide) rfl ?_
      clear hl; intro ls hl
      have hfi := hid i (Nat.le_refl _) h3
      refine l_insb X hk hR hf hP (by omega) hRn.2 hfi (fun x y q1 q2 q3 => hRn.1.mono q1 q2 q3) ?_ (i - low + 1) low i ls (by omega) (by omega) (by omega) (by omega) (fun q q1 q2 => by omega) (fun q q1 q2 => by omega) (lv_sub hl [3, 4, 5, 6, 2, 1, 0] rfl)
      clear hl ls; intro pos ls hp1 hp2 hlo hhi hl
      refine lv_iload hx hb d_S_insertion_78 (lv_at hl 3 rfl) ?_
      refine lv_istore (lv' := [(8, .int (nI i)), (0, .ref (a 10)), (1, .int (nI low)), (3, .int (nI end_)), (4, .int (nI i)), (5, .int (f i)), (6, .int (nI pos))]) hx hb d_S_insertion_80 hl (by decide) rfl ?_
      clear hl; intro ls hl
      refine l_inss X hk hR hf (f := f) (by omega) ?_ (i - pos + 1) i f H locs ls (by omega) hp2 (Nat.le_refl _) (fun q => by rw [if_neg (by omega)]) hP hD hS (lv_sub hl [1, 2, 3, 4, 5, 6, 0] rfl)
      clear hP hD hS hl ls locs H; intro h H locs ls hh hP hD hS hl
      refine lv_aload_n hx hb d_S_insertion_111 rfl (lv_at hl 0 rfl) ?_
      refine g_S_cells X hP 3 rfl rfl d_S_insertion_112 ?_
      refine lv_iload hx hb d_S_insertion_115 (lv_at hl 5 rfl) ?_
      refine lv_iload hx hb d_S_insertion_117 (lv_at hl 4 rfl) ?_
      refine w_ast (ws' := WS cI a hB k g rn gl (upd h pos (f i)) fSp fF fL) X hP hD hS 4 rfl (by omega) (by decide) rfl d_S_insertion_119 ?_
      clear hP hD hS; intro H locs hP hD hS
      refine w_inc (k := 3) (lv' := [(4, .int (nI (i + 1))), (0, .ref (a 10)), (1, .int (nI low)), (3, .int (nI end_)), (5, .int (f i)), (6, .int (nI pos))]) hx hb d_S_insertion_120 hl rfl (by decide) rfl ?_
      clear hl; intro ls hl
      refine lv_goto (tgt := 3) hx hb d_S_insertion_123 (by decide) ?_
      obtain ⟨r1, r2⟩ := ins_done hRn (by omega) hfi hp1 hp2 hlo hhi hh
      exact ih (i + 1) _ H locs ls (by omega) (by omega) (by omega) r1 (fun q q1 q2 => (r2 q (by omega)).trans (hid q (by omega) q2)) (fun q q1 => (r2 q (by omega)).trans (hout q q1)) hP hD hS (lv_sub hl [1, 2, 3, 0] rfl)
end SI2
set_option maxHeartbeats 4000000 in
/-- insertion(low, sorted, end) -/
theorem c_S_insertion (l : Launch) (D : va_G) (cI cJ cO : ClassId) (a : Nat → Nat) (hB k : Nat) (g : Nat → Int32) (rn gl : Int32) (f0 fSp fF fL : Nat → Int32) (sz low srt end_ : Nat) (hk : k < 4) (h1 : low ≤ srt) (h2 : srt ≤ end_) (he : end_ ≤ 2000) (hRn : Rn (Ky k g) f0 low srt) (hid : ∀ q, srt ≤ q → q < end_ → f0 q = nI q) : Met l y_S_insertion [Cond.code y_S_insertion b_S_insertion 9 none] (rk 2 0 0) (PW D cI cJ cO [.ref (a 10), .int (nI low), .int (nI srt), .int (nI end_)] sz (WS cI a hB k g rn gl f0 fSp fF fL)) (va_Qv (fun u : Nat → Int32 => Rn (Ky k g) u low end_ ∧ ∀ q, (q < low ∨ end_ ≤ q) → u q = f0 q) (BW D (va_A (WS cI a hB k g rn gl f0 fSp fF fL) sz) (fun u => WS cI a hB k g rn gl u fSp fF fL)) (va_A (WS cI a hB k g rn gl f0 fSp fF fL) sz)) 0 0 (va_A (WS cI a hB k g rn gl f0 fSp fF fL) sz) := by
  refine entW (by decide) (Nat.le_of_ble_eq_true rfl) ?_
  intro p e s m below meth c ls X hr hlocks hnm hsz hP hD hA hl
  have hx := X.x
  have hb := X.b
  have hR : 2 ≤ (rk 2 0 0).frames ∧ 180 ≤ (rk 2 0 0).locals := by decide
  have hf : 0 ≤ (rk 2 0 0).cells ∧ 0 ≤ (rk 2 0 0).slots := by decide
  have hS : va_S (va_A (WS cI a hB k g rn gl f0 fSp fF fL) sz) s.heap s.heap [] := va_S.rf
  have hl : lv_has ls 9 [(0, .ref (a 10)), (1, .int (nI low)), (2, .int (nI srt)), (3, .int (nI end_))] := hl
  refine lv_iload_n hx hb d_S_insertion_0 rfl (lv_at hl 2 rfl) ?_
  refine lv_istore (lv' := [(4, .int (nI srt)), (0, .ref (a 10)), (1, .int (nI low)), (2, .int (nI srt)), (3, .int (nI end_))]) hx hb d_S_insertion_1 hl (by decide) rfl ?_
  clear hl; intro ls hl
  refine l_inso X hk hR hf he ?_ (end_ - srt + 1) srt f0 _ _ ls (by omega) h1 h2 hRn hid (fun _ _ => rfl) hP hD hS (lv_sub hl [1, 2, 4, 0] rfl)
  clear hP hD hS hl ls; intro f H locs ls q1 q2 hP hD hS hl
  exact W.vret hx hb hr (fun t ht hW => ⟨⟨f, rfl, ⟨q1, q2⟩, by rw [ht]; exact hP, hD⟩, hS.F ht⟩) hS.2.2 d_S_insertion_126
section SR1
variable {D : va_G} {cI cJ cO : ClassId} {p : Program} {l : Launch} {e : Env} {R : Room} {s : State} {m : MethodId} {args : Array Value} {below : List Frame} {meth : Method} {c : Code} {H : Heap} {locs : List Loc} {cells slots : Nat} {Q : State → Prop}
variable {a : Nat → Nat} {hB k : Nat} {g : Nat → Int32} {rn gl : Int32} {fC fSp fF fL : Nat → Int32}
set_option maxHeartbeats 4000000 in
theorem l_run1 {at_ n : Nat} (X : Cx D cI cJ cO p s m c b_S_run 8 R_S) (hk : k < 4) (hR : 2 ≤ R.frames ∧ 180 ≤ R.locals) (hf : cells ≤ R.cells ∧ slots ≤ R.slots) (hn : n ≤ 2000) (hP : va_P D vCL (WS cI a hB k g rn gl fC fSp fF fL) H) (hid : ∀ q, at_ ≤ q → q < n → fC q = nI q) {fl : Nat} (hfl : fl ≤ 1) (kk : ∀ (en : Nat) (ls : Array Slot), at_ + 2 ≤ en → en ≤ n → (∀ q, at_ < q → q < en → (fl = 1 ↔ Ky k g (fC q) < Ky k g (fC (q - 1)))) → lv_has ls 8 [(0, .ref (a 10)), (1, .int (nI at_)), (2, .int (nI n)), (3, .int (nI en)), (4, .int (nI fl))] → W p l e R s m args below meth c H locs cells slots Q (F0 m 92 ls [])) : ∀ (fuel en : Nat) (ls : Array Slot), n - en < fuel → at_ + 2 ≤ en → en ≤ n → (∀ q, at_ < q → q < en → (fl = 1 ↔ Ky k g (fC q) < Ky k g (fC (q - 1)))) → lv_has ls 8 [(0, .ref (a 10)), (1, .int (nI at_)), (2, .int (nI n)), (3, .int (nI en)), (4, .int (nI fl))] → W p l e R s m args below meth c H locs cells slots Q (F0 m 45 ls []) := by
  have hx := X.x
  have hb := X.b
  intro fuel
  induction fuel with
  | zero => intro en ls h; omega
  | succ fuel ih =>
    intro en ls hfu h1 h2 hall hl
    refine lv_iload_n hx hb d_S_run_45 rfl (lv_at hl 3 rfl) ?_
    refine lv_iload_n hx hb d_S_run_46 rfl (lv_at hl 2 rfl) ?_
    refine w_icmp_ge (tgt := 92) hx hb d_S_run_47 (by decide) ⟨by omega, by omega⟩ (fun h3 => ?_) (fun h3 => ?_)
    · exact kk en ls h1 h2 hall hl
    · refine lv_aload_n hx hb d_S_run_50 rfl (lv_at hl 0 rfl) ?_
      refine g_S_order X hP 3 rfl rfl d_S_run_51 ?_
      refine lv_aload_n hx hb d_S_run_54 rfl (lv_at hl 0 rfl) ?_
      refine g_S_cells X hP 3 rfl rfl d_S_run_55 ?_
      refine lv_iload_n hx hb d_S_run_58 rfl (lv_at hl 3 rfl) ?_
      refine w_ald X hP 4 rfl (by omega) (by decide) d_S_run_59 ?_
      refine lv_aload_n hx hb d_S_run_60 rfl (lv_at hl 0 rfl) ?_
      refine g_S_cells X hP 3 rfl rfl d_S_run_61 ?_
      refine lv_iload_n hx hb d_S_run_64 rfl (lv_at hl 3 rfl) ?_
      refine lv_iconst (v := nI 1) hx hb d_S_run_65 (by decide) ?_
      refine w_sub hx hb d_S_run_66 (by omega) ?_
      refine w_ald X hP 4 rfl (by omega) (by decide) d_S_run_67 ?_
      have vd : ∀ q, at_ ≤ q → q < n → vp_in (fC q) 2000 := fun q q1 q2 => by rw [hid q q1 q2]; exact vp_in_nI (by omega) (by decide)
      refine cS_cmp X hk hP hR hf hl.1 (vd en (by omega) h3) (vd (en - 1) (by omega) (by omega)) (by decide) d_S_run_68 (fun rr hrr => ?_)
      refine lv_if_ge (tgt := 80) hx hb d_S_run_73 (by decide) (fun h4 => ?_) (fun h4 => ?_)
      · refine lv_iconst (v := nI 0) hx hb d_S_run_80 (by decide) ?_
        refine lv_iload hx hb d_S_run_81 (lv_at hl 4 rfl) ?_
        refine w_icmp_ne (tgt := 92) hx hb d_S_run_83 (by decide) ⟨by omega, by omega⟩ (fun h5 => ?_) (fun h5 => ?_)
        · exact kk en ls h1 h2 hall hl
        · refine w_inc (k := 3) (lv' := [(3, .int (nI (en + 1))), (0, .ref (a 10)), (1, .int (nI at_)), (2, .int (nI n)), (4, .int (nI fl))]) hx hb d_S_run_86 hl rfl (by decide) rfl ?_
          clear hl; intro ls hl
          refine lv_goto (tgt := 45) hx hb d_S_run_89 (by decide) ?_
          refine ih (en + 1) ls (by omega) (by omega) (by omega) (fun q q1 q2 => ?_) (lv_sub hl [1, 2, 3, 0, 4] rfl)
          rcases Nat.lt_or_ge q en with z | z
          · exact hall q q1 z
          · rw [show q = en by omega]
            exact ⟨fun z => by omega, fun z => by have := hrr.ge.mp h4; omega⟩
      · refine lv_iconst (v := nI 1) hx hb d_S_run_76 (by decide) ?_
        refine lv_goto (tgt := 81) hx hb d_S_run_77 (by decide) ?_
        refine lv_iload hx hb d_S_run_81 (lv_at hl 4 rfl) ?_
        refine w_icmp_ne (tgt := 92) hx hb d_S_run_83 (by decide) ⟨by omega, by omega⟩ (fun h5 => ?_) (fun h5 => ?_)
        · exact kk en ls h1 h2 hall hl
        · refine w_inc (k := 3) (lv' := [(3, .int (nI (en + 1))), (0, .ref (a 10)), (1, .int (nI at_)), (2, .int (nI n)), (4, .int (nI fl))]) hx hb d_S_run_86 hl rfl (by decide) rfl ?_
          clear hl; intro ls hl
          refine lv_goto (tgt := 45) hx hb d_S_run_89 (by decide) ?_
          refine ih (en + 1) ls (by omega) (by omega) (by omega) (fun q q1 q2 => ?_) (lv_sub hl [1, 2, 3, 0, 4] rfl)
          rcases Nat.lt_or_ge q en with z | z
          · exact hall q q1 z
          · rw [show q = en by omega]
            exact ⟨fun _ => hrr.nge h4, fun _ => h5.symm⟩
end SR1
section SR2
variable {D : va_G} {cI cJ cO : ClassId} {p : Program} {l : Launch} {e : Env} {R : Room} {s : State} {m : MethodId} {args : Array Value} {below : List Frame} {meth : Method} {c : Code} {cells slots : Nat} {Q : State → Prop}
variable {a : Nat → Nat} {hB k : Nat} {g : Nat → Int32} {rn : Int32} {fF fL : Nat → Int32} {A : Nat → Prop} {H0 : Heap}
set_option maxHeartbeats 4000000 in
theorem l_run2 {at_ n : Nat} (X : Cx D cI cJ cO p s m c b_S_run 8 R_S) (hk : k < 4) (hR : 2 ≤ R.frames ∧ 180 ≤ R.locals) (hf : cells ≤ R.cells ∧ slots ≤ R.slots) (hn : n ≤ 2000) {gl : Int32} {fSp f : Nat → Int32} {en : Nat} (hen : en ≤ n) (kk : ∀ (i j : Nat) (h : Nat → Int32) (H : Heap) (locs : List Loc) (ls : Array Slot), i + j + 1 = at_ + en → at_ ≤ i → i ≤ j + 1 → j ≤ i → (∀ q, h q = if (at_ ≤ q ∧ q < i) ∨ (j < q ∧ q < en) then f (at_ + en - 1 - q) else f q) → va_P D vCL (WS cI a hB k g rn gl h fSp fF fL) H → va_D A (WS cI a hB k g rn gl h fSp fF fL) → va_S A H0 H locs → lv_has ls 8 [(0, .ref (a 10)), (1, .int (nI at_)), (3, .int (nI en))] → W p l e R s m args below meth c H locs cells slots Q (F0 m 153 ls [])) : ∀ (fuel i j : Nat) (h : Nat → Int32) (H : Heap) (locs : List Loc) (ls : Array Slot), j - i < fuel → i + j + 1 = at_ + en → at_ ≤ i → i ≤ j + 1 → (∀ q, h q = if (at_ ≤ q ∧ q < i) ∨ (j < q ∧ q < en) then f (at_ + en - 1 - q) else f q) → va_P D vCL (WS cI a hB k g rn gl h fSp fF fL) H → va_D A (WS cI a hB k g rn gl h fSp fF fL) → va_S A H0 H locs → lv_has ls 8 [(0, .ref (a 10)), (1, .int (nI at_)), (2, .int (nI n)), (3, .int (nI en)), (5, .int (nI i)), (6, .int (nI j))] → W p l e R s m args below meth c H locs cells slots Q (F0 m 105 ls []) := by
  have hx := X.x
  have hb := X.b
  intro fuel
  induction fuel with
  | zero => intro i j h H locs ls h; omega
  | succ fuel ih =>
    intro i j h H locs ls hfu hij h1 h2 hh hP hD hS hl
    refine lv_iload hx hb d_S_run_105 (lv_at hl 4 rfl) ?_
    refine lv_iload hx hb d_S_run_107 (lv_at hl 5 rfl) ?_
    refine w_icmp_ge (tgt := 153) hx hb d_S_run_109 (by decide) ⟨by omega, by omega⟩ (fun h3 => ?_) (fun h3 => ?_)
    · exact kk i j h H locs ls hij h1 h2 h3 hh hP hD hS (lv_sub hl [0, 1, 3] rfl)
    · refine lv_aload_n hx hb d_S_run_112 rfl (lv_at hl 0 rfl) ?_
      refine g_S_cells X hP 3 rfl rfl d_S_run_113 ?_
      refine lv_iload hx hb d_S_run_116 (lv_at hl 4 rfl) ?_
      refine w_ald X hP 4 rfl (by omega) (by decide) d_S_run_118 ?_
      refine lv_istore (lv' := [(7, .int (h i)), (0, .ref (a 10)), (1, .int (nI at_)), (2, .int (nI n)), (3, .int (nI en)), (5, .int (nI i)), (6, .int (nI j))]) hx hb d_S_run_119 hl (by decide) rfl ?_
      clear hl; intro ls hl
      refine lv_aload_n hx hb d_S_run_121 rfl (lv_at hl 1 rfl) ?_
      refine g_S_cells X hP 3 rfl rfl d_S_run_122 ?_
      refine lv_iload hx hb d_S_run_125 (lv_at hl 5 rfl) ?_
      refine lv_aload_n hx hb d_S_run_127 rfl (lv_at hl 1 rfl) ?_
      refine g_S_cells X hP 3 rfl rfl d_S_run_128 ?_
      refine lv_iload hx hb d_S_run_131 (lv_at hl 6 rfl) ?_
      refine w_ald X hP 4 rfl (by omega) (by decide) d_S_run_133 ?_
      refine w_ast (ws' := WS cI a hB k g rn gl (upd h i (h j)) fSp fF fL) X hP hD hS 4 rfl (by omega) (by decide) rfl d_S_run_134 ?_
      clear hP hD hS; intro H locs hP hD hS
      refine lv_aload_n hx hb d_S_run_135 rfl (lv_at hl 1 rfl) ?_
      refine g_S_cells X hP 3 rfl rfl d_S_run_136 ?_
      refine lv_iload hx hb d_S_run_139 (lv_at hl 6 rfl) ?_
      refine lv_iload hx hb d_S_run_141 (lv_at hl 0 rfl) ?_
      refine w_ast (ws' := WS cI a hB k g rn gl (upd (upd h i (h j)) j (h i)) fSp fF fL) X hP hD hS 4 rfl (by omega) (by decide) rfl d_S_run_143 ?_
      clear hP hD hS; intro H locs hP hD hS
      refine w_inc (k := 5) (lv' := [(5, .int (nI (i + 1))), (7, .int (h i)), (0, .ref (a 10)), (1, .int (nI at_)), (2, .int (nI n)), (3, .int (nI en)), (6, .int (nI j))]) hx hb d_S_run_144 hl rfl (by decide) rfl ?_
      clear hl; intro ls hl
      refine w_dec (k := 6) (lv' := [(6, .int (nI (j - 1))), (5, .int (nI (i + 1))), (7, .int (h i)), (0, .ref (a 10)), (1, .int (nI at_)), (2, .int (nI n)), (3, .int (nI en))]) hx hb d_S_run_147 hl rfl (by decide) (by omega) rfl ?_
      clear hl; intro ls hl
      refine lv_goto (tgt := 105) hx hb d_S_run_150 (by decide) ?_
      exact ih (i + 1) (j - 1) _ H locs ls (by omega) (by omega) (by omega) (by omega) (rev_step hij h1 h3 hh) hP hD hS (lv_sub hl [3, 4, 5, 6, 1, 0] rfl)
end SR2
set_option maxHeartbeats 4000000 in
/-- run(at, n): the run at a place; one that falls is turned round -/
theorem c_S_run (l : Launch) (D : va_G) (cI cJ cO : ClassId) (a : Nat → Nat) (hB k : Nat) (g : Nat → Int32) (rn gl : Int32) (f0 fSp fF fL : Nat → Int32) (sz at_ n : Nat) (hk : k < 4) (h1 : at_ < n) (hn : n ≤ 2000) (hid : ∀ q, at_ ≤ q → q < n → f0 q = nI q) : Met l y_S_run [Cond.code y_S_run b_S_run 8 (some .int)] (rk 2 0 0) (PW D cI cJ cO [.ref (a 10), .int (nI at_), .int (nI n)] sz (WS cI a hB k g rn gl f0 fSp fF fL)) (va_Qi (fun (r : Int32) (u : Nat → Int32) => ∃ q, r = nI q ∧ 1 ≤ q ∧ at_ + q ≤ n ∧ Rn (Ky k g) u at_ (at_ + q) ∧ ∀ t, (t < at_ ∨ at_ + q ≤ t) → u t = f0 t) (BW D (va_A (WS cI a hB k g rn gl f0 fSp fF fL) sz) (fun u => WS cI a hB k g rn gl u fSp fF fL)) (va_A (WS cI a hB k g rn gl f0 fSp fF fL) sz)) 0 0 (va_A (WS cI a hB k g rn gl f0 fSp fF fL) sz) := by
  refine entW (by decide) (Nat.le_of_ble_eq_true rfl) ?_
  intro p e s m below meth c ls X hr hlocks hnm hsz hP hD hA hl
  have hx := X.x
  have hb := X.b
  have hR : 2 ≤ (rk 2 0 0).frames ∧ 180 ≤ (rk 2 0 0).locals := by decide
  have hf : 0 ≤ (rk 2 0 0).cells ∧ 0 ≤ (rk 2 0 0).slots := by decide
  have hS : va_S (va_A (WS cI a hB k g rn gl f0 fSp fF fL) sz) s.heap s.heap [] := va_S.rf
  have hl : lv_has ls 8 [(0, .ref (a 10)), (1, .int (nI at_)), (2, .int (nI n))] := hl
  refine lv_iload_n hx hb d_S_run_0 rfl (lv_at hl 1 rfl) ?_
  refine lv_iconst (v := nI 1) hx hb d_S_run_1 (by decide) ?_
  refine w_add hx hb d_S_run_2 ?_
  refine lv_istore_n (lv' := [(3, .int (nI (at_ + 1))), (0, .ref (a 10)), (1, .int (nI at_)), (2, .int (nI n))]) hx hb d_S_run_3 rfl hl (by decide) rfl ?_
  clear hl; intro ls hl
  refine lv_iload_n hx hb d_S_run_4 rfl (lv_at hl 0 rfl) ?_
  refine lv_iload_n hx hb d_S_run_5 rfl (lv_at hl 3 rfl) ?_
  refine w_icmp_ne (tgt := 11) hx hb d_S_run_6 (by decide) ⟨by omega, by omega⟩ (fun h2 => ?_) (fun h2 => ?_)
  · refine lv_aload_n hx hb d_S_run_11 rfl (lv_at hl 1 rfl) ?_
    refine g_S_order X hP 3 rfl rfl d_S_run_12 ?_
    refine lv_aload_n hx hb d_S_run_15 rfl (lv_at hl 1 rfl) ?_
    refine g_S_cells X hP 3 rfl rfl d_S_run_16 ?_
    refine lv_iload_n hx hb d_S_run_19 rfl (lv_at hl 0 rfl) ?_
    refine w_ald X hP 4 rfl (by omega) (by decide) d_S_run_20 ?_
    refine lv_aload_n hx hb d_S_run_21 rfl (lv_at hl 1 rfl) ?_
    refine g_S_cells X hP 3 rfl rfl d_S_run_22 ?_
    refine lv_iload_n hx hb d_S_run_25 rfl (lv_at hl 2 rfl) ?_
    refine w_ald X hP 4 rfl (by omega) (by decide) d_S_run_26 ?_
    have vd : ∀ q, at_ ≤ q → q < n → vp_in (f0 q) 2000 := fun q q1 q2 => by rw [hid q q1 q2]; exact vp_in_nI (by omega) (by decide)
    refine cS_cmp X hk hP hR hf hl.1 (vd (at_ + 1) (by omega) (by omega)) (vd at_ (by omega) (by omega)) (by decide) d_S_run_27 (fun rr hrr => ?_)
    refine lv_if_ge (tgt := 39) hx hb d_S_run_32 (by decide) (fun h3 => ?_) (fun h3 => ?_)
    · refine lv_iconst (v := nI 0) hx hb d_S_run_39 (by decide) ?_
      refine lv_istore (lv' := [(4, .int (nI 0)), (3, .int (nI (at_ + 1))), (0, .ref (a 10)), (1, .int (nI at_)), (2, .int (nI n))]) hx hb d_S_run_40 hl (by decide) rfl ?_
      clear hl; intro ls hl
      refine w_inc (k := 1) (lv' := [(3, .int (nI (at_ + 1 + 1))), (4, .int (nI 0)), (0, .ref (a 10)), (1, .int (nI at_)), (2, .int (nI n))]) hx hb d_S_run_42 hl rfl (by decide) rfl ?_
      clear hl; intro ls hl
      refine l_run1 X hk hR hf hn hP hid (fl := 0) (by omega) ?_ (n + 1) (at_ + 1 + 1) ls (by omega) (by omega) (by omega) (fun q q1 q2 => ?_) (lv_sub hl [2, 3, 4, 0, 1] rfl)
      · clear hl ls; intro en ls e1 e2 hall hl
        refine lv_iload hx hb d_S_run_92 (lv_at hl 4 rfl) ?_
        refine w_if_eq (tgt := 153) hx hb d_S_run_94 (by decide) (by omega) (fun h4 => ?_) (fun h4 => ?_)
        · refine lv_iload_n hx hb d_S_run_153 rfl (lv_at hl 3 rfl) ?_
          refine lv_iload_n hx hb d_S_run_154 rfl (lv_at hl 1 rfl) ?_
          refine w_sub hx hb d_S_run_155 (by omega) ?_
          exact W.iret (v := nI (en - at_)) hx hb hr (fun t ht hW => ⟨⟨nI (en - at_), f0, rfl, ⟨en - at_, rfl, by omega, by omega, by rw [show at_ + (en - at_) = en by omega]; exact run_up (by omega) (fun q q1 q2 => hid q q1 (by omega)) (fun q q1 q2 => Int.not_lt.mp fun z => absurd ((hall q q1 q2).mpr z) (by decide)), fun _ _ => rfl⟩, by rw [ht]; exact hP, hD⟩, hS.F ht⟩) hS.2.2 d_S_run_156
        · exact absurd rfl h4
      · rw [show q = at_ + 1 by omega, show at_ + 1 - 1 = at_ by omega]
        exact ⟨fun z => absurd z (by decide), fun z => by have := hrr.ge.mp h3; omega⟩
    · refine lv_iconst (v := nI 1) hx hb d_S_run_35 (by decide) ?_
      refine lv_goto (tgt := 40) hx hb d_S_run_36 (by decide) ?_
      refine lv_istore (lv' := [(4, .int (nI 1)), (3, .int (nI (at_ + 1))), (0, .ref (a 10)), (1, .int (nI at_)), (2, .int (nI n))]) hx hb d_S_run_40 hl (by decide) rfl ?_
      clear hl; intro ls hl
      refine w_inc (k := 1) (lv' := [(3, .int (nI (at_ + 1 + 1))), (4, .int (nI 1)), (0, .ref (a 10)), (1, .int (nI at_)), (2, .int (nI n))]) hx hb d_S_run_42 hl rfl (by decide) rfl ?_
      clear hl; intro ls hl
      refine l_run1 X hk hR hf hn hP hid (fl := 1) (by omega) ?_ (n + 1) (at_ + 1 + 1) ls (by omega) (by omega) (by omega) (fun q q1 q2 => ?_) (lv_sub hl [2, 3, 4, 0, 1] rfl)
      · clear hl ls; intro en ls e1 e2 hall hl
        refine lv_iload hx hb d_S_run_92 (lv_at hl 4 rfl) ?_
        refine w_if_eq (tgt := 153) hx hb d_S_run_94 (by decide) (by omega) (fun h4 => ?_) (fun h4 => ?_)
        · exact absurd h4 (by decide)
        · refine lv_iload_n hx hb d_S_run_97 rfl (lv_at hl 1 rfl) ?_
          refine lv_istore (lv' := [(5, .int (nI at_)), (0, .ref (a 10)), (1, .int (nI at_)), (2, .int (nI n)), (3, .int (nI en)), (4, .int (nI 1))]) hx hb d_S_run_98 hl (by decide) rfl ?_
          clear hl; intro ls hl
          refine lv_iload_n hx hb d_S_run_100 rfl (lv_at hl 4 rfl) ?_
          refine lv_iconst (v := nI 1) hx hb d_S_run_101 (by decide) ?_
          refine w_sub hx hb d_S_run_102 (by omega) ?_
          refine lv_istore (lv' := [(6, .int (nI (en - 1))), (5, .int (nI at_)), (0, .ref (a 10)), (1, .int (nI at_)), (2, .int (nI n)), (3, .int (nI en)), (4, .int (nI 1))]) hx hb d_S_run_103 hl (by decide) rfl ?_
          clear hl; intro ls hl
          refine l_run2 X hk hR hf hn (f := f0) (en := en) e2 ?_ (en + 1) at_ (en - 1) f0 _ _ ls (by omega) (by omega) (by omega) (by omega) (fun q => by rw [if_neg (by omega)]) hP hD hS (lv_sub hl [2, 3, 4, 5, 1, 0] rfl)
          clear hP hD hS hl ls; intro i j h H locs ls j1 j2 j3 j4 hh hP hD hS hl
          obtain ⟨w1, w2⟩ := rev_done j1 j2 j4 j3 hh
          refine lv_iload_n hx hb d_S_run_153 rfl (lv_at hl 2 rfl) ?_
          refine lv_iload_n hx hb d_S_run_154 rfl (lv_at hl 1 rfl) ?_
          refine w_sub hx hb d_S_run_155 (by omega) ?_
          exact W.iret (v := nI (en - at_)) hx hb hr (fun t ht hW => ⟨⟨nI (en - at_), h, rfl, ⟨en - at_, rfl, by omega, by omega, by rw [show at_ + (en - at_) = en by omega]; exact run_down (fun q q1 q2 => hid q q1 (by omega)) (fun q q1 q2 => (hall q q1 q2).mp rfl) w1, fun q hq => w2 q (by omega)⟩, by rw [ht]; exact hP, hD⟩, hS.F ht⟩) hS.2.2 d_S_run_156
      · rw [show q = at_ + 1 by omega, show at_ + 1 - 1 = at_ by omega]
        exact ⟨fun _ => hrr.nge h3, fun _ => rfl⟩
  · refine lv_iconst (v := nI 1) hx hb d_S_run_9 (by decide) ?_
    exact W.iret (v := nI 1) hx hb hr (fun t ht hW => ⟨⟨nI 1, f0, rfl, ⟨1, rfl, by omega, by omega, ⟨fun i j q1 q2 q3 => by omega, fun i q1 q2 => ⟨i, q1, q2, hid i q1 (by omega)⟩⟩, fun _ _ => rfl⟩, by rw [ht]; exact hP, hD⟩, hS.F ht⟩) hS.2.2 d_S_run_10
end
section
/-! pure rows: two runs merged; the stack of runs; how many there can be -/
section P3
variable {K : Int32 → Int}
theorem cross_lt {f : Nat → Int32} {x0 y0 e i j : Nat} (hL : Rn K f x0 y0) (hR : Rn K f y0 e) (he : e ≤ 2000) (h1 : x0 ≤ i) (h2 : i < y0) (h3 : y0 ≤ j) (h4 : j < e) (h : K (f i) ≤ K (f j)) : LT K (f i) (f j) := by
  obtain ⟨p, p1, p2, p3⟩ := hL.2 i h1 h2
  obtain ⟨q, q1, q2, q3⟩ := hR.2 j h3 h4
  exact lt_lo p3 q3 (by omega) (by omega) h
theorem mg_done {f f' : Nat → Int32} {x0 n1 y0 n2 q m' : Nat} (hxy : x0 + n1 = y0) (hyn : y0 + n2 ≤ 2000) (hL : Rn K f x0 y0) (hR : Rn K f y0 (y0 + n2)) (hn1 : 1 ≤ n1) (hn2 : 1 ≤ n2) (hq : q ≤ n1) (hm : m' ≤ n2) (ha : ∀ i, i < q → K (f (x0 + i)) ≤ K (f y0)) (hb : ∀ i, m' ≤ i → i < n2 → K (f (y0 - 1)) ≤ K (f (y0 + i)))
    (hs : Sg K f' (x0 + q) (y0 + m')) (hv : Iv f f' (x0 + q) (y0 + m') (x0 + q) (y0 + m')) (ho : ∀ t, (t < x0 + q ∨ y0 + m' ≤ t) → f' t = f t) : Rn K f' x0 (y0 + n2) ∧ ∀ t, (t < x0 ∨ y0 + n2 ≤ t) → f' t = f t := by
  have hA : ∀ i, x0 ≤ i → i < x0 + q → ∀ j, y0 ≤ j → j < y0 + n2 → LT K (f i) (f j) := fun i h1 h2 j h3 h4 =>
    cross_lt hL hR hyn h1 (by omega) h3 h4 (Int.le_trans (by have := ha (i - x0) (by omega); rwa [show x0 + (i - x0) = i by omega] at this) (hR.1.mono (Nat.le_refl _) h3 h4))
  have hB : ∀ i, x0 ≤ i → i < y0 → ∀ j, y0 + m' ≤ j → j < y0 + n2 → LT K (f i) (f j) := fun i h1 h2 j h3 h4 =>
    cross_lt hL hR hyn h1 h2 (by omega) h4 (Int.le_trans (hL.1.mono (j := y0 - 1) h1 (by omega) (by omega)) (by have := hb (j - y0) (by omega) (by omega); rwa [show y0 + (j - y0) = j by omega] at this))
  refine ⟨⟨fun x y q1 q2 q3 => ?_, fun x q1 q2 => ?_⟩, fun t ht => ho t (by omega)⟩
  · rcases Nat.lt_or_ge x (x0 + q) with hx | hx
    · rw [ho x (Or.inl hx)]
      rcases Nat.lt_or_ge y (x0 + q) with hy | hy
      · rw [ho y (Or.inl hy)]; exact hL.1 x y q1 q2 (by omega)
      · rcases Nat.lt_or_ge y (y0 + m') with hy2 | hy2
        · obtain ⟨t, t1, t2, t3⟩ := hv y hy hy2
          rw [t3]
          rcases Nat.lt_or_ge t y0 with z | z
          · exact hL.1 x t q1 (by omega) z
          · exact hA x q1 hx t z (by omega)
        · rw [ho y (Or.inr hy2)]; exact hB x q1 (by omega) y hy2 q3
    · rcases Nat.lt_or_ge y (y0 + m') with hy | hy
      · exact hs x y hx q2 hy
      · rw [ho y (Or.inr hy)]
        rcases Nat.lt_or_ge x (y0 + m') with hx2 | hx2
        · obtain ⟨t, t1, t2, t3⟩ := hv x hx hx2
          rw [t3]
          rcases Nat.lt_or_ge t y0 with z | z
          · exact hB t (by omega) z y hy q3
          · exact hR.1 t y z (by omega) q3
        · rw [ho x (Or.inr hx2)]; exact hR.1 x y (by omega) q2 q3
  · have hin : ∀ t, x0 ≤ t → t < y0 + n2 → ∃ p, x0 ≤ p ∧ p < y0 + n2 ∧ f t = nI p := fun t t1 t2 => by
      rcases Nat.lt_or_ge t y0 with z | z
      · obtain ⟨p, p1, p2, p3⟩ := hL.2 t t1 z
        exact ⟨p, p1, by omega, p3⟩
      · obtain ⟨p, p1, p2, p3⟩ := hR.2 t z t2
        exact ⟨p, by omega, p2, p3⟩
    by_cases hc : x < x0 + q ∨ y0 + m' ≤ x
    · rw [ho x hc]; exact hin x q1 q2
    · obtain ⟨t, t1, t2, t3⟩ := hv x (by omega) (by omega)
      rw [t3]; exact hin t (by omega) (by omega)
/-- the stack of runs -/
def St (K : Int32 → Int) (f : Nat → Int32) (fr ln : Nat → Nat) (r e : Nat) : Prop :=
  (∀ i, i < r → 1 ≤ ln i) ∧ (0 < r → fr 0 = 0) ∧ (∀ i, i + 1 < r → fr (i + 1) = fr i + ln i) ∧ (r = 0 → e = 0) ∧ (0 < r → fr (r - 1) + ln (r - 1) = e) ∧ (∀ i, i < r → Rn K f (fr i) (fr i + ln i))
def Ar (fF fL : Nat → Int32) (fr ln : Nat → Nat) (r : Nat) : Prop := ∀ i, i < r → fF i = nI (fr i) ∧ fL i = nI (ln i)
theorem St.mono {f : Nat → Int32} {fr ln : Nat → Nat} {r e : Nat} (h : St K f fr ln r e) : ∀ j i, i < j → j < r → fr i + ln i ≤ fr j := fun j => by
  induction j with
  | zero => intro i h1; omega
  | succ j ih =>
    intro i h1 h2
    have h3 := h.2.2.1 j h2
    rcases Nat.lt_or_ge i j with z | z
    · have := ih i z (by omega); omega
    · rw [show i = j by omega]; omega
theorem St.le {f : Nat → Int32} {fr ln : Nat → Nat} {r e : Nat} (h : St K f fr ln r e) {i : Nat} (hi : i < r) : fr i + ln i ≤ e := by
  have h1 := h.2.2.2.2.1 (by omega)
  rcases Nat.lt_or_ge i (r - 1) with z | z
  · have := h.mono (r - 1) i z (by omega); omega
  · rw [show i = r - 1 by omega]; omega
def mfr (fr : Nat → Nat) (kx : Nat) : Nat → Nat := fun q => if kx < q then fr (q + 1) else fr q
def mln (ln : Nat → Nat) (kx : Nat) : Nat → Nat := fun q => if kx < q then ln (q + 1) else if q = kx then ln kx + ln (kx + 1) else ln q
theorem St.merge {f f' : Nat → Int32} {fr ln : Nat → Nat} {r e kx : Nat} (h : St K f fr ln r e) (hk : kx + 1 < r) (h1 : Rn K f' (fr kx) (fr (kx + 1) + ln (kx + 1))) (h2 : ∀ t, (t < fr kx ∨ fr (kx + 1) + ln (kx + 1) ≤ t) → f' t = f t) : St K f' (mfr fr kx) (mln ln kx) (r - 1) e := by
  have hm := h.mono
  obtain ⟨a1, a2, a3, a4, a5, a6⟩ := h
  have e0 := a3 kx hk
  refine ⟨fun i hi => ?_, fun hr => ?_, fun i hi => ?_, fun hr => by omega, fun hr => ?_, fun i hi => ?_⟩
  · unfold mln
    split
    · exact a1 _ (by omega)
    · split
      · have := a1 kx (by omega); omega
      · exact a1 _ (by omega)
  · unfold mfr
    rw [if_neg (by omega)]; exact a2 (by omega)
  · unfold mfr mln
    rcases Nat.lt_trichotomy i kx with z | z | z
    · rw [if_neg (by omega), if_neg (by omega), if_neg (by omega), if_neg (by omega)]; exact a3 i (by omega)
    · subst z
      rw [if_pos (by omega), if_neg (by omega), if_neg (by omega), if_pos rfl, a3 (i + 1) (by omega)]; omega
    · rw [if_pos (by omega), if_pos z, if_pos z]; exact a3 (i + 1) (by omega)
  · have a5 := a5 (by omega)
    unfold mfr mln
    rcases Nat.lt_or_ge kx (r - 1 - 1) with z | z
    · rw [if_pos z, if_pos z, show r - 1 - 1 + 1 = r - 1 by omega]; exact a5
    · rw [show r - 1 - 1 = kx by omega, if_neg (by omega), if_neg (by omega), if_pos rfl]
      rw [show r - 1 = kx + 1 by omega] at a5
      omega
  · unfold mfr mln
    rcases Nat.lt_trichotomy i kx with z | z | z
    · rw [if_neg (by omega), if_neg (by omega), if_neg (by omega)]
      have h3 := hm kx i z (by omega)
      exact (a6 i (by omega)).cong fun t t1 t2 => h2 t (by omega)
    · subst z
      rw [if_neg (by omega), if_neg (by omega), if_pos rfl, show fr i + (ln i + ln (i + 1)) = fr (i + 1) + ln (i + 1) by omega]
      exact h1
    · rw [if_pos z, if_pos z]
      have h3 := hm (i + 1) (kx + 1) (by omega) (by omega)
      exact (a6 (i + 1) (by omega)).cong fun t t1 t2 => h2 t (by omega)
theorem Ar.merge {fF fL fF' fL' : Nat → Int32} {fr ln : Nat → Nat} {r kx : Nat} (h : Ar fF fL fr ln r) (hk : kx + 1 < r) (h1 : ∀ q, fF' q = if kx < q ∧ q + 1 < r then fF (q + 1) else fF q) (h2 : ∀ q, fL' q = if kx < q ∧ q + 1 < r then fL (q + 1) else if q = kx then nI (ln kx + ln (kx + 1)) else fL q) : Ar fF' fL' (mfr fr kx) (mln ln kx) (r - 1) := fun i hi => by
  unfold mfr mln
  rw [h1, h2]
  rcases Nat.lt_trichotomy i kx with z | z | z
  · rw [if_neg (by omega), if_neg (by omega), if_neg (by omega), if_neg (by omega), if_neg (by omega), if_neg (by omega)]; exact h i (by omega)
  · rw [if_neg (by omega), if_neg (by omega), if_neg (by omega), if_pos z, if_neg (by omega), if_pos z]; exact ⟨(h i (by omega)).1, rfl⟩
  · have c1 : kx < i ∧ i + 1 < r := by omega
    rw [if_pos c1, if_pos c1, if_pos z, if_pos z]; exact h (i + 1) (by omega)
/-- each run longer than the next, and than the next two -/
def Lw (ln : Nat → Nat) (r : Nat) : Prop := (∀ i, i + 2 < r → ln (i + 1) + ln (i + 2) < ln i) ∧ ∀ i, i + 1 < r → ln (i + 1) < ln i
theorem Lw.less {ln ln' : Nat → Nat} {r r' : Nat} (h : Lw ln r) (hr : r' ≤ r) (e : ∀ i, i < r' → ln' i = ln i) : Lw ln' r' :=
  ⟨fun i hi => by rw [e i (by omega), e (i + 1) (by omega), e (i + 2) hi]; exact h.1 i (by omega), fun i hi => by rw [e i (by omega), e (i + 1) hi]; exact h.2 i (by omega)⟩
theorem Lw.merge {ln : Nat → Nat} {r kx : Nat} (h : Lw ln (r - 2)) (hk : kx + 1 < r) (h2 : r ≤ kx + 3) : Lw (mln ln kx) (r - 1 - 2) := h.less (by omega) fun i hi => by
  unfold mln
  rw [if_neg (by omega), if_neg (by omega)]
theorem Lw.done {ln : Nat → Nat} {r : Nat} (h : Lw ln (r - 2)) (hr : 2 ≤ r) (h1 : ln (r - 2 + 1) < ln (r - 2)) (h2 : 0 < r - 2 → ln (r - 2) + ln (r - 2 + 1) < ln (r - 2 - 1)) (h3 : 1 < r - 2 → ln (r - 2 - 1) + ln (r - 2) < ln (r - 2 - 2)) : Lw ln r := by
  refine ⟨fun i hi => ?_, fun i hi => ?_⟩
  · rcases Nat.lt_trichotomy (i + 2) (r - 2) with z | z | z
    · exact h.1 i z
    · have h3 := h3 (by omega)
      rw [← z, show i + 2 - 1 = i + 1 by omega, show i + 2 - 2 = i by omega] at h3
      exact h3
    · have h2 := h2 (by omega)
      rw [show r - 2 = i + 1 by omega, show i + 1 - 1 = i by omega] at h2
      exact h2
  · rcases Nat.lt_trichotomy (i + 1) (r - 2) with z | z | z
    · exact h.2 i z
    · have h2 := h2 (by omega)
      rw [← z, show i + 1 - 1 = i by omega] at h2
      omega
    · rw [show r - 2 = i by omega] at h1; exact h1
theorem Lw.bound {ln : Nat → Nat} {r : Nat} (h : Lw ln r) (h1 : ∀ i, i < r → 1 ≤ ln i) (h2 : ∀ i, i < r → ln i ≤ 2000) : r ≤ 22 := by
  rcases Nat.lt_or_ge 22 r with z | z
  · exfalso
    have key : ∀ j, 2 * j < r → 2 ^ j ≤ ln (r - 1 - 2 * j) := fun j => by
      induction j with
      | zero => intro hj; exact h1 _ (by omega)
      | succ j ih =>
        intro hj
        have a := ih (by omega)
        have b := h.1 (r - 1 - 2 * (j + 1)) (by omega)
        have c := h.2 (r - 1 - 2 * (j + 1) + 1) (by omega)
        rw [show r - 1 - 2 * (j + 1) + 1 + 1 = r - 1 - 2 * j by omega] at c
        rw [show r - 1 - 2 * (j + 1) + 2 = r - 1 - 2 * j by omega] at b
        rw [Nat.pow_succ]
        omega
    have a := key 11 (by omega)
    have b := h2 (r - 1 - 2 * 11) (by omega)
    have e : 2 ^ 11 = 2048 := by decide
    omega
  · exact z
/-- a new run on the stack -/
def pfr (fr : Nat → Nat) (r v : Nat) : Nat → Nat := fun q => if q = r then v else fr q
theorem St.push {f f' : Nat → Int32} {fr ln : Nat → Nat} {r e q : Nat} (h : St K f fr ln r e) (hq : 1 ≤ q) (h1 : Rn K f' e (e + q)) (h2 : ∀ t, (t < e ∨ e + q ≤ t) → f' t = f t) : St K f' (pfr fr r e) (pfr ln r q) (r + 1) (e + q) := by
  have hle := fun (i : Nat) (hi : i < r) => h.le hi
  obtain ⟨a1, a2, a3, a4, a5, a6⟩ := h
  unfold pfr
  refine ⟨fun i hi => ?_, fun _ => ?_, fun i hi => ?_, fun hr => by omega, fun _ => ?_, fun i hi => ?_⟩
  · show 1 ≤ if i = r then q else ln i
    split
    · exact hq
    · exact a1 i (by omega)
  · show (if 0 = r then e else fr 0) = 0
    split
    · exact a4 (by omega)
    · exact a2 (by omega)
  · show (if i + 1 = r then e else fr (i + 1)) = (if i = r then e else fr i) + (if i = r then q else ln i)
    rw [if_neg (show ¬ i = r by omega), if_neg (show ¬ i = r by omega)]
    split
    · have := a5 (by omega)
      rw [show r - 1 = i by omega] at this
      omega
    · exact a3 i (by omega)
  · show (if r + 1 - 1 = r then e else fr (r + 1 - 1)) + (if r + 1 - 1 = r then q else ln (r + 1 - 1)) = e + q
    rw [if_pos (by omega), if_pos (by omega)]
  · show Rn K f' (if i = r then e else fr i) ((if i = r then e else fr i) + (if i = r then q else ln i))
    by_cases z : i = r
    · rw [if_pos z, if_pos z]; exact h1
    · rw [if_neg z, if_neg z]
      have := hle i (by omega)
      exact (a6 i (by omega)).cong fun t t1 t2 => h2 t (by omega)
theorem Ar.push {fF fL : Nat → Int32} {fr ln : Nat → Nat} {r v q : Nat} (h : Ar fF fL fr ln r) : Ar (upd fF r (nI v)) (upd fL r (nI q)) (pfr fr r v) (pfr ln r q) (r + 1) := fun i hi => by
  unfold pfr
  show upd fF r (nI v) i = nI (if i = r then v else fr i) ∧ upd fL r (nI q) i = nI (if i = r then q else ln i)
  by_cases z : i = r
  · rw [if_pos z, if_pos z, z, pk_us, pk_us]; exact ⟨rfl, rfl⟩
  · rw [if_neg z, if_neg z, pk_un z, pk_un z]; exact h i (by omega)
theorem Lw.push {ln : Nat → Nat} {r q : Nat} (h : Lw ln r) : Lw (pfr ln r q) (r + 1 - 2) := h.less (by omega) fun i hi => by
  unfold pfr
  rw [if_neg (by omega)]
end P3
/-- an injective map of [0, n) into itself is onto -/
theorem pigeon : ∀ (n : Nat) (f : Nat → Nat), (∀ i, i < n → f i < n) → (∀ i j, i < n → j < n → f i = f j → i = j) → ∀ y, y < n → ∃ i, i < n ∧ f i = y := fun n => by
  induction n with
  | zero => intro f _ _ y hy; omega
  | succ n ih =>
    intro f h1 h2 y hy
    have hv := h1 n (by omega)
    have key : ∀ z, z < n → ∃ i, i < n ∧ (if f i = n then f n else f i) = z := ih (fun i => if f i = n then f n else f i) (fun i hi => by
        show (if f i = n then f n else f i) < n
        split
        · rename_i q
          rcases Nat.lt_or_ge (f n) n with w | w
          · exact w
          · have := h2 i n (by omega) (by omega) (by omega); omega
        · have := h1 i (by omega); omega) (fun i j hi hj e => by
        have e : (if f i = n then f n else f i) = (if f j = n then f n else f j) := e
        by_cases qi : f i = n
        · by_cases qj : f j = n
          · exact h2 i j (by omega) (by omega) (by omega)
          · rw [if_pos qi, if_neg qj] at e
            have := h2 n j (by omega) (by omega) e; omega
        · by_cases qj : f j = n
          · rw [if_neg qi, if_pos qj] at e
            have := h2 i n (by omega) (by omega) e; omega
          · rw [if_neg qi, if_neg qj] at e
            exact h2 i j (by omega) (by omega) e)
    by_cases hy1 : f n = y
    · exact ⟨n, by omega, hy1⟩
    · rcases Nat.lt_or_ge y n with w | w
      · obtain ⟨i, hi, e⟩ := key y w
        split at e
        · omega
        · exact ⟨i, by omega, e⟩
      · have hyn : y = n := by omega
        obtain ⟨i, hi, e⟩ := key (f n) (by omega)
        split at e
        · rename_i q; exact ⟨i, by omega, by omega⟩
        · have := h2 i n (by omega) (by omega) e; omega
/-- strictly sorted maps of [0, n) into itself are one -/
theorem uniq {n : Nat} {R : Nat → Nat → Prop} (tr : ∀ x y z, R x y → R y z → R x z) (ir : ∀ x, ¬ R x x) {P Q : Nat → Nat} (hP : ∀ i, i < n → P i < n) (hQ : ∀ i, i < n → Q i < n) (sP : ∀ i j, i < j → j < n → R (P i) (P j)) (sQ : ∀ i j, i < j → j < n → R (Q i) (Q j)) : ∀ i, i < n → P i = Q i := by
  have inj : ∀ {F : Nat → Nat}, (∀ i j, i < j → j < n → R (F i) (F j)) → ∀ i j, i < n → j < n → F i = F j → i = j := fun {F} sF i j hi hj e => by
    rcases Nat.lt_trichotomy i j with z | z | z
    · have := sF i j z hj; rw [e] at this; exact absurd this (ir _)
    · exact z
    · have := sF j i z hi; rw [e] at this; exact absurd this (ir _)
  intro i
  induction i using Nat.strongRecOn with
  | _ i ih =>
    intro hi
    obtain ⟨a, ha, ea⟩ := pigeon n Q hQ (inj sQ) (P i) (hP i hi)
    obtain ⟨b, hb, eb⟩ := pigeon n P hP (inj sP) (Q i) (hQ i hi)
    have a1 : i ≤ a := Nat.le_of_not_lt fun z => by
      have h1 := ih a z ha
      have h2 := inj sP a i ha hi (h1.trans ea)
      omega
    have b1 : i ≤ b := Nat.le_of_not_lt fun z => by
      have h1 := ih b z hb
      have h2 := inj sQ b i hb hi (h1.symm.trans eb)
      omega
    rcases Nat.lt_or_ge i a with z | z
    · exfalso
      have h1 := sQ i a z ha
      rw [ea] at h1
      rcases Nat.lt_or_ge i b with w | w
      · have h2 := sP i b w hb
        rw [eb] at h2
        exact ir _ (tr _ _ _ h2 h1)
      · rw [show b = i by omega] at eb
        rw [eb] at h1
        exact ir _ h1
    · rw [show a = i by omega] at ea
      exact ea.symm
end
section
theorem mv_step {F f : Nat → Int32} {kx i : Nat} (h1 : kx < i) (hh : ∀ q, F q = if kx < q ∧ q < i then f (q + 1) else f q) : ∀ q, upd F i (F (i + 1)) q = if kx < q ∧ q < i + 1 then f (q + 1) else f q := fun q => by
  by_cases z : q = i
  · rw [z, pk_us, hh, if_neg (by omega), if_pos (by omega)]
  · rw [pk_un z, hh]
    by_cases c1 : kx < q ∧ q < i
    · rw [if_pos c1, if_pos (by omega)]
    · rw [if_neg c1, if_neg (by omega)]
section SM
variable {D : va_G} {cI cJ cO : ClassId} {p : Program} {l : Launch} {e : Env} {R : Room} {s : State} {m : MethodId} {args : Array Value} {below : List Frame} {meth : Method} {c : Code} {cells slots : Nat} {Q : State → Prop}
variable {a : Nat → Nat} {hB k : Nat} {g : Nat → Int32} {A : Nat → Prop} {H0 : Heap}
set_option maxHeartbeats 4000000 in
theorem l_mg {kx r1 x0 n1 y0 n2 : Nat} (X : Cx D cI cJ cO p s m c b_S_merge 7 R_S) (hk1 : kx + 1 < r1) (hr : r1 ≤ 40) {gl : Int32} {f fSp fF fL : Nat → Int32} (kk : ∀ (F L : Nat → Int32) (H : Heap) (locs : List Loc) (ls : Array Slot), (∀ q, F q = if kx < q ∧ q < r1 - 1 then fF (q + 1) else fF q) → (∀ q, L q = if kx < q ∧ q < r1 - 1 then fL (q + 1) else fL q) → va_P D vCL (WS cI a hB k g (nI r1) gl f fSp F L) H → va_D A (WS cI a hB k g (nI r1) gl f fSp F L) → va_S A H0 H locs → lv_has ls 7 [(0, .ref (a 10)), (1, .int (nI kx)), (2, .int (nI x0)), (3, .int (nI n1)), (4, .int (nI y0)), (5, .int (nI n2))] → W p l e R s m args below meth c H locs cells slots Q (F0 m 98 ls [])) : ∀ (fuel i : Nat) (F L : Nat → Int32) (H : Heap) (locs : List Loc) (ls : Array Slot), r1 - i < fuel → kx + 1 ≤ i → i < r1 → (∀ q, F q = if kx < q ∧ q < i then fF (q + 1) else fF q) → (∀ q, L q = if kx < q ∧ q < i then fL (q + 1) else fL q) → va_P D vCL (WS cI a hB k g (nI r1) gl f fSp F L) H → va_D A (WS cI a hB k g (nI r1) gl f fSp F L) → va_S A H0 H locs → lv_has ls 7 [(0, .ref (a 10)), (1, .int (nI kx)), (2, .int (nI x0)), (3, .int (nI n1)), (4, .int (nI y0)), (5, .int (nI n2)), (6, .int (nI i))] → W p l e R s m args below meth c H locs cells slots Q (F0 m 49 ls []) := by
  have hx := X.x
  have hb := X.b
  intro fuel
  induction fuel with
  | zero => intro i F L H locs ls h; omega
  | succ fuel ih =>
    intro i F L H locs ls hfu h1 h2 hF hL hP hD hS hl
    refine lv_iload hx hb d_S_merge_49 (lv_at hl 6 rfl) ?_
    refine lv_iconst (v := nI 1) hx hb d_S_merge_51 (by decide) ?_
    refine w_add hx hb d_S_merge_52 ?_
    refine lv_aload_n hx hb d_S_merge_53 rfl (lv_at hl 0 rfl) ?_
    refine g_S_runs X hP 3 rfl rfl d_S_merge_54 ?_
    refine w_icmp_ge (tgt := 98) hx hb d_S_merge_57 (by decide) ⟨by omega, by omega⟩ (fun h3 => ?_) (fun h3 => ?_)
    · have e : r1 - 1 = i := by omega
      exact kk F L H locs ls (by rw [e]; exact hF) (by rw [e]; exact hL) hP hD hS (lv_sub hl [0, 1, 2, 3, 4, 5] rfl)
    · refine lv_aload_n hx hb d_S_merge_60 rfl (lv_at hl 0 rfl) ?_
      refine g_S_from X hP 3 rfl rfl d_S_merge_61 ?_
      refine lv_iload hx hb d_S_merge_64 (lv_at hl 6 rfl) ?_
      refine lv_aload_n hx hb d_S_merge_66 rfl (lv_at hl 0 rfl) ?_
      refine g_S_from X hP 3 rfl rfl d_S_merge_67 ?_
      refine lv_iload hx hb d_S_merge_70 (lv_at hl 6 rfl) ?_
      refine lv_iconst (v := nI 1) hx hb d_S_merge_72 (by decide) ?_
      refine w_add hx hb d_S_merge_73 ?_
      refine w_ald X hP 0 rfl (by omega) (by decide) d_S_merge_74 ?_
      refine w_ast (ws' := WS cI a hB k g (nI r1) gl f fSp (upd F i (F (i + 1))) L) X hP hD hS 0 rfl (by omega) (by decide) rfl d_S_merge_75 ?_
      clear hP hD hS; intro H locs hP hD hS
      refine lv_aload_n hx hb d_S_merge_76 rfl (lv_at hl 0 rfl) ?_
      refine g_S_length X hP 3 rfl rfl d_S_merge_77 ?_
      refine lv_iload hx hb d_S_merge_80 (lv_at hl 6 rfl) ?_
      refine lv_aload_n hx hb d_S_merge_82 rfl (lv_at hl 0 rfl) ?_
      refine g_S_length X hP 3 rfl rfl d_S_merge_83 ?_
      refine lv_iload hx hb d_S_merge_86 (lv_at hl 6 rfl) ?_
      refine lv_iconst (v := nI 1) hx hb d_S_merge_88 (by decide) ?_
      refine w_add hx hb d_S_merge_89 ?_
      refine w_ald X hP 1 rfl (by omega) (by decide) d_S_merge_90 ?_
      refine w_ast (ws' := WS cI a hB k g (nI r1) gl f fSp (upd F i (F (i + 1))) (upd L i (L (i + 1)))) X hP hD hS 1 rfl (by omega) (by decide) rfl d_S_merge_91 ?_
      clear hP hD hS; intro H locs hP hD hS
      refine w_inc (k := 6) (lv' := [(6, .int (nI (i + 1))), (0, .ref (a 10)), (1, .int (nI kx)), (2, .int (nI x0)), (3, .int (nI n1)), (4, .int (nI y0)), (5, .int (nI n2))]) hx hb d_S_merge_92 hl rfl (by decide) rfl ?_
      clear hl; intro ls hl
      refine lv_goto (tgt := 49) hx hb d_S_merge_95 (by decide) ?_
      exact ih (i + 1) _ _ H locs ls (by omega) (by omega) (by omega) (mv_step (by omega) hF) (mv_step (by omega) hL) hP hD hS (lv_sub hl [1, 2, 3, 4, 5, 6, 0] rfl)
end SM
set_option maxHeartbeats 8000000 in
/-- merge(kx): the runs kx and kx + 1 become one -/
theorem c_S_merge (l : Launch) (D : va_G) (cI cJ cO : ClassId) (a : Nat → Nat) (hB k : Nat) (g : Nat → Int32) (r0 gl : Int32) (f0 fSp fF fL : Nat → Int32) (sz kx r1 x0 n1 y0 n2 : Nat) (hr0 : r0 = nI r1) (hk : k < 4) (hk1 : kx + 1 < r1) (hr1 : r1 ≤ 40) (hxy : x0 + n1 = y0) (hyn : y0 + n2 ≤ 2000) (hn1 : 1 ≤ n1) (hn2 : 1 ≤ n2) (e1 : fF kx = nI x0) (e2 : fL kx = nI n1) (e3 : fF (kx + 1) = nI y0) (e4 : fL (kx + 1) = nI n2) (hRL : Rn (Ky k g) f0 x0 y0) (hRR : Rn (Ky k g) f0 y0 (y0 + n2)) : Met l y_S_merge [Cond.code y_S_merge b_S_merge 7 none] (rk 4 0 0) (PW D cI cJ cO [.ref (a 10), .int (nI kx)] sz (WS cI a hB k g r0 gl f0 fSp fF fL)) (va_Qv (fun u : (Nat → Int32) × (Nat → Int32) × Int32 × (Nat → Int32) × (Nat → Int32) => (Rn (Ky k g) u.1 x0 (y0 + n2) ∧ ∀ t, (t < x0 ∨ y0 + n2 ≤ t) → u.1 t = f0 t) ∧ (∀ q, u.2.2.2.1 q = if kx < q ∧ q + 1 < r1 then fF (q + 1) else fF q) ∧ (∀ q, u.2.2.2.2 q = if kx < q ∧ q + 1 < r1 then fL (q + 1) else if q = kx then nI (n1 + n2) else fL q)) (BW D (va_A (WS cI a hB k g r0 gl f0 fSp fF fL) sz) (fun u => WS cI a hB k g (nI (r1 - 1)) u.2.2.1 u.1 u.2.1 u.2.2.2.1 u.2.2.2.2)) (va_A (WS cI a hB k g r0 gl f0 fSp fF fL) sz)) 0 0 (va_A (WS cI a hB k g r0 gl f0 fSp fF fL) sz) := by
  subst hr0
  refine entW (by decide) (Nat.le_of_ble_eq_true rfl) ?_
  intro p e s m below meth c ls X hr hlocks hnm hsz hP hD hA hl
  have hx := X.x
  have hb := X.b
  have hR : 4 ≤ (rk 4 0 0).frames ∧ 260 ≤ (rk 4 0 0).locals := by decide
  have hf : 0 ≤ (rk 4 0 0).cells ∧ 0 ≤ (rk 4 0 0).slots := by decide
  have hS : va_S (va_A (WS cI a hB k g (nI r1) gl f0 fSp fF fL) sz) s.heap s.heap [] := va_S.rf
  generalize hAe : va_A (WS cI a hB k g (nI r1) gl f0 fSp fF fL) sz = A at hP hD hA hS ⊢
  have hl : lv_has ls 7 [(0, .ref (a 10)), (1, .int (nI kx))] := hl
  refine lv_aload_n hx hb d_S_merge_0 rfl (lv_at hl 0 rfl) ?_
  refine g_S_from X hP 3 rfl rfl d_S_merge_1 ?_
  refine lv_iload_n hx hb d_S_merge_4 rfl (lv_at hl 1 rfl) ?_
  refine w_ald X hP 0 rfl (by omega) (by decide) d_S_merge_5 ?_
  refine w_to (y := nI x0) (e1) ?_
  refine lv_istore_n (lv' := [(2, .int (nI x0)), (0, .ref (a 10)), (1, .int (nI kx))]) hx hb d_S_merge_6 rfl hl (by decide) rfl ?_
  clear hl; intro ls hl
  refine lv_aload_n hx hb d_S_merge_7 rfl (lv_at hl 1 rfl) ?_
  refine g_S_length X hP 3 rfl rfl d_S_merge_8 ?_
  refine lv_iload_n hx hb d_S_merge_11 rfl (lv_at hl 2 rfl) ?_
  refine w_ald X hP 1 rfl (by omega) (by decide) d_S_merge_12 ?_
  refine w_to (y := nI n1) (e2) ?_
  refine lv_istore_n (lv' := [(3, .int (nI n1)), (2, .int (nI x0)), (0, .ref (a 10)), (1, .int (nI kx))]) hx hb d_S_merge_13 rfl hl (by decide) rfl ?_
  clear hl; intro ls hl
  refine lv_aload_n hx hb d_S_merge_14 rfl (lv_at hl 2 rfl) ?_
  refine g_S_from X hP 3 rfl rfl d_S_merge_15 ?_
  refine lv_iload_n hx hb d_S_merge_18 rfl (lv_at hl 3 rfl) ?_
  refine lv_iconst (v := nI 1) hx hb d_S_merge_19 (by decide) ?_
  refine w_add hx hb d_S_merge_20 ?_
  refine w_ald X hP 0 rfl (by omega) (by decide) d_S_merge_21 ?_
  refine w_to (y := nI y0) (e3) ?_
  refine lv_istore (lv' := [(4, .int (nI y0)), (3, .int (nI n1)), (2, .int (nI x0)), (0, .ref (a 10)), (1, .int (nI kx))]) hx hb d_S_merge_22 hl (by decide) rfl ?_
  clear hl; intro ls hl
  refine lv_aload_n hx hb d_S_merge_24 rfl (lv_at hl 3 rfl) ?_
  refine g_S_length X hP 3 rfl rfl d_S_merge_25 ?_
  refine lv_iload_n hx hb d_S_merge_28 rfl (lv_at hl 4 rfl) ?_
  refine lv_iconst (v := nI 1) hx hb d_S_merge_29 (by decide) ?_
  refine w_add hx hb d_S_merge_30 ?_
  refine w_ald X hP 1 rfl (by omega) (by decide) d_S_merge_31 ?_
  refine w_to (y := nI n2) (e4) ?_
  refine lv_istore (lv' := [(5, .int (nI n2)), (4, .int (nI y0)), (3, .int (nI n1)), (2, .int (nI x0)), (0, .ref (a 10)), (1, .int (nI kx))]) hx hb d_S_merge_32 hl (by decide) rfl ?_
  clear hl; intro ls hl
  refine lv_aload_n hx hb d_S_merge_34 rfl (lv_at hl 4 rfl) ?_
  refine g_S_length X hP 3 rfl rfl d_S_merge_35 ?_
  refine lv_iload_n hx hb d_S_merge_38 rfl (lv_at hl 5 rfl) ?_
  refine lv_iload_n hx hb d_S_merge_39 rfl (lv_at hl 2 rfl) ?_
  refine lv_iload hx hb d_S_merge_40 (lv_at hl 0 rfl) ?_
  refine w_add hx hb d_S_merge_42 ?_
  refine w_ast (ws' := WS cI a hB k g (nI r1) gl f0 fSp fF (upd fL kx (nI (n1 + n2)))) X hP hD hS 1 rfl (by omega) (by decide) rfl d_S_merge_43 ?_
  clear hP hD hS; intro H locs hP hD hS
  refine lv_iload_n hx hb d_S_merge_44 rfl (lv_at hl 5 rfl) ?_
  refine lv_iconst (v := nI 1) hx hb d_S_merge_45 (by decide) ?_
  refine w_add hx hb d_S_merge_46 ?_
  refine lv_istore (lv' := [(6, .int (nI (kx + 1))), (5, .int (nI n2)), (4, .int (nI y0)), (3, .int (nI n1)), (2, .int (nI x0)), (0, .ref (a 10)), (1, .int (nI kx))]) hx hb d_S_merge_47 hl (by decide) rfl ?_
  clear hl; intro ls hl
  refine l_mg X hk1 hr1 ?_ (r1 + 1) (kx + 1) fF _ _ _ ls (by omega) (by omega) (by omega) (fun q => by rw [if_neg (by omega)]) (fun q => by rw [if_neg (by omega)]) hP hD hS (lv_sub hl [5, 6, 4, 3, 2, 1, 0] rfl)
  clear hP hD hS hl ls; clear locs H; intro F L H locs ls hF hL hP hD hS hl
  have hF2 : ∀ q, F q = if kx < q ∧ q + 1 < r1 then fF (q + 1) else fF q := fun q => by
    rw [hF q]
    by_cases z : kx < q ∧ q < r1 - 1
    · rw [if_pos z, if_pos (by omega)]
    · rw [if_neg z, if_neg (by omega)]
  have hL2 : ∀ q, L q = if kx < q ∧ q + 1 < r1 then fL (q + 1) else if q = kx then nI (n1 + n2) else fL q := fun q => by
    rw [hL q]
    by_cases z : kx < q ∧ q < r1 - 1
    · rw [if_pos z, if_pos (by omega), pk_un (by omega)]
    · rw [if_neg z, if_neg (by omega)]
      by_cases y : q = kx
      · rw [y, pk_us, if_pos rfl]
      · rw [pk_un y, if_neg y]
  refine lv_aload_n hx hb d_S_merge_98 rfl (lv_at hl 0 rfl) ?_
  refine lv_dup hx hb d_S_merge_99 rfl ?_
  refine g_S_runs X hP 3 rfl rfl d_S_merge_100 ?_
  refine lv_iconst (v := nI 1) hx hb d_S_merge_103 (by decide) ?_
  refine w_sub hx hb d_S_merge_104 (by omega) ?_
  refine p_S_runs (ws' := WS cI a hB k g (nI (r1 - 1)) gl f0 fSp F L) X hP hD hS 3 rfl (Nat.le_of_ble_eq_true rfl) rfl d_S_merge_105 ?_
  clear hP hD hS; intro H locs hP hD hS
  refine lv_aload_n hx hb d_S_merge_108 rfl (lv_at hl 0 rfl) ?_
  refine lv_aload_n hx hb d_S_merge_109 rfl (lv_at hl 0 rfl) ?_
  refine g_S_cells X hP 3 rfl rfl d_S_merge_110 ?_
  refine lv_iload hx hb d_S_merge_113 (lv_at hl 4 rfl) ?_
  refine w_ald X hP 4 rfl (by omega) (by decide) d_S_merge_115 ?_
  refine lv_iload_n hx hb d_S_merge_116 rfl (lv_at hl 2 rfl) ?_
  refine lv_iload_n hx hb d_S_merge_117 rfl (lv_at hl 3 rfl) ?_
  refine rd_V (C := R_S) X (c_S_behind l D cI cJ cO a hB k g (nI (r1 - 1)) gl f0 fSp F L _ _ _ hk (hRR.2.vd (by omega) (Nat.le_refl _) (by omega)) (by omega) (by rw [hxy]; exact hRL.2.part (Nat.le_refl _) (Nat.le_refl _) (Nat.zero_le _) (by omega)) (fun i j z1 z2 z3 => hRL.1.mono z1 z2 (by omega))) (cx_B X _ wk_S_59 wi_S_behind wc_S_behind wd_S_behind ⟨by omega, by omega⟩) wm_S_behind wl_S_behind hP (rcv X hP (ci := 1) (q0 := 3) rfl rfl) rfl hl.1 rfl (Nat.le_of_ble_eq_true rfl) d_S_merge_118 hf (fun rr hrr => ?_)
  obtain ⟨q, rfl, hq1, hq2, hq3⟩ := hrr
  refine lv_istore (lv' := [(6, .int (nI q)), (0, .ref (a 10)), (1, .int (nI kx)), (2, .int (nI x0)), (3, .int (nI n1)), (4, .int (nI y0)), (5, .int (nI n2))]) hx hb d_S_merge_121 hl (by decide) rfl ?_
  clear hl; intro ls hl
  refine lv_iload_n hx hb d_S_merge_123 rfl (lv_at hl 3 rfl) ?_
  refine lv_iload hx hb d_S_merge_124 (lv_at hl 0 rfl) ?_
  refine w_add hx hb d_S_merge_126 ?_
  refine lv_istore_n (lv' := [(2, .int (nI (x0 + q))), (6, .int (nI q)), (0, .ref (a 10)), (1, .int (nI kx)), (3, .int (nI n1)), (4, .int (nI y0)), (5, .int (nI n2))]) hx hb d_S_merge_127 rfl hl (by decide) rfl ?_
  clear hl; intro ls hl
  refine lv_iload_n hx hb d_S_merge_128 rfl (lv_at hl 4 rfl) ?_
  refine lv_iload hx hb d_S_merge_129 (lv_at hl 1 rfl) ?_
  refine w_sub hx hb d_S_merge_131 (by omega) ?_
  refine lv_istore_n (lv' := [(3, .int (nI (n1 - q))), (2, .int (nI (x0 + q))), (6, .int (nI q)), (0, .ref (a 10)), (1, .int (nI kx)), (4, .int (nI y0)), (5, .int (nI n2))]) hx hb d_S_merge_132 rfl hl (by decide) rfl ?_
  clear hl; intro ls hl
  refine lv_iload_n hx hb d_S_merge_133 rfl (lv_at hl 0 rfl) ?_
  refine w_if_ne (tgt := 138) hx hb d_S_merge_134 (by decide) (by omega) (fun h1 => ?_) (fun h1 => ?_)
  · refine lv_aload_n hx hb d_S_merge_138 rfl (lv_at hl 3 rfl) ?_
    refine lv_aload_n hx hb d_S_merge_139 rfl (lv_at hl 3 rfl) ?_
    refine g_S_cells X hP 3 rfl rfl d_S_merge_140 ?_
    refine lv_iload_n hx hb d_S_merge_143 rfl (lv_at hl 1 rfl) ?_
    refine lv_iload_n hx hb d_S_merge_144 rfl (lv_at hl 0 rfl) ?_
    refine w_add hx hb d_S_merge_145 ?_
    refine lv_iconst (v := nI 1) hx hb d_S_merge_146 (by decide) ?_
    refine w_sub hx hb d_S_merge_147 (by omega) ?_
    refine w_ald X hP 4 rfl (by omega) (by decide) d_S_merge_148 ?_
    refine lv_iload hx hb d_S_merge_149 (lv_at hl 5 rfl) ?_
    refine lv_iload hx hb d_S_merge_151 (lv_at hl 6 rfl) ?_
    have ex : x0 + q + (n1 - q) - 1 = y0 - 1 := by omega
    refine rd_V (C := R_S) X (c_S_notBefore l D cI cJ cO a hB k g (nI (r1 - 1)) gl f0 fSp F L _ _ _ hk (hRL.2.vd (by omega) (by omega) (by omega)) (by omega) (hRR.2.part (Nat.le_refl _) (Nat.le_refl _) (Nat.zero_le _) (by omega)) (fun i j z1 z2 z3 => hRR.1.mono z1 z2 z3)) (cx_B X _ wk_S_63 wi_S_notBefore wc_S_notBefore wd_S_notBefore ⟨by omega, by omega⟩) wm_S_notBefore wl_S_notBefore hP (rcv X hP (ci := 1) (q0 := 3) rfl rfl) rfl hl.1 rfl (Nat.le_of_ble_eq_true rfl) d_S_merge_153 hf (fun rr hrr => ?_)
    obtain ⟨m2, rfl, hm1, hm2, hm3⟩ := hrr
    rw [ex] at hm2 hm3
    refine lv_istore (lv' := [(5, .int (nI m2)), (3, .int (nI (n1 - q))), (2, .int (nI (x0 + q))), (6, .int (nI q)), (0, .ref (a 10)), (1, .int (nI kx)), (4, .int (nI y0))]) hx hb d_S_merge_156 hl (by decide) rfl ?_
    clear hl; intro ls hl
    refine lv_iload hx hb d_S_merge_158 (lv_at hl 0 rfl) ?_
    refine w_if_ne (tgt := 164) hx hb d_S_merge_160 (by decide) (by omega) (fun h2 => ?_) (fun h2 => ?_)
    · refine lv_iload_n hx hb d_S_merge_164 rfl (lv_at hl 1 rfl) ?_
      refine lv_iload hx hb d_S_merge_165 (lv_at hl 0 rfl) ?_
      refine w_icmp_gt (tgt := 183) hx hb d_S_merge_167 (by decide) ⟨by omega, by omega⟩ (fun h3 => ?_) (fun h3 => ?_)
      · refine lv_aload_n hx hb d_S_merge_183 rfl (lv_at hl 4 rfl) ?_
        refine lv_iload_n hx hb d_S_merge_184 rfl (lv_at hl 2 rfl) ?_
        refine lv_iload_n hx hb d_S_merge_185 rfl (lv_at hl 1 rfl) ?_
        refine lv_iload hx hb d_S_merge_186 (lv_at hl 6 rfl) ?_
        refine lv_iload hx hb d_S_merge_188 (lv_at hl 0 rfl) ?_
        refine wr_v (wr := []) (run_V (C := R_S) X (c_S_mergeDown l D cI cJ cO a hB k g (nI (r1 - 1)) gl f0 fSp F L H.size (x0 + q) (n1 - q) y0 m2 x0 y0 (y0 + n2) hk (by omega) (by omega) (hRL.1.part (by omega) (Nat.le_refl _)) (hRR.1.part (Nat.le_refl _) (by omega)) (hRL.2.part (by omega) (Nat.le_refl _) (Nat.le_refl _) (Nat.le_refl _)) (hRR.2.part (Nat.le_refl _) (by omega) (Nat.le_refl _) (Nat.le_refl _)) ⟨by omega, by omega, by omega⟩) (cx_B X _ wk_S_70 wi_S_mergeDown wc_S_mergeDown wd_S_mergeDown ⟨by omega, by omega⟩) wm_S_mergeDown wl_S_mergeDown hP hD [0, 1, 2, 3, 4, 5, 6, 7, 8, 9, 10] rfl (by decide) (rcv X hP (ci := 1) (q0 := 3) rfl rfl) rfl hl.1 rfl (Nat.le_of_ble_eq_true rfl) d_S_merge_190 hf) hP hD hS hA [0, 1, 2, 3, 4, 5, 6, 7, 8, 9, 10] [] rfl rfl (by decide) (fun i h => by cases h) ?_
        clear hP hD hS; intro u H locs hpost hP hD hS _
        obtain ⟨f, sp, gl2⟩ := u
        obtain ⟨g1, g2, g3⟩ := hpost
        have hdone := mg_done hxy hyn hRL hRR hn1 hn2 hq1 hm1 hq2 hm3 g1 g2 g3
        exact W.vret hx hb hr (fun t ht hW => ⟨⟨(f, sp, gl2, F, L), rfl, ⟨hdone, hF2, hL2⟩, by rw [ht]; exact hP, hD⟩, hS.F ht⟩) hS.2.2 d_S_merge_193
      · refine lv_aload_n hx hb d_S_merge_170 rfl (lv_at hl 4 rfl) ?_
        refine lv_iload_n hx hb d_S_merge_171 rfl (lv_at hl 2 rfl) ?_
        refine lv_iload_n hx hb d_S_merge_172 rfl (lv_at hl 1 rfl) ?_
        refine lv_iload hx hb d_S_merge_173 (lv_at hl 6 rfl) ?_
        refine lv_iload hx hb d_S_merge_175 (lv_at hl 0 rfl) ?_
        refine wr_v (wr := []) (run_V (C := R_S) X (c_S_mergeUp l D cI cJ cO a hB k g (nI (r1 - 1)) gl f0 fSp F L H.size (x0 + q) (n1 - q) y0 m2 x0 y0 (y0 + n2) hk (by omega) (by omega) (hRL.1.part (by omega) (Nat.le_refl _)) (hRR.1.part (Nat.le_refl _) (by omega)) (hRL.2.part (by omega) (Nat.le_refl _) (Nat.le_refl _) (Nat.le_refl _)) (hRR.2.part (Nat.le_refl _) (by omega) (Nat.le_refl _) (Nat.le_refl _)) ⟨by omega, by omega, by omega⟩) (cx_B X _ wk_S_66 wi_S_mergeUp wc_S_mergeUp wd_S_mergeUp ⟨by omega, by omega⟩) wm_S_mergeUp wl_S_mergeUp hP hD [0, 1, 2, 3, 4, 5, 6, 7, 8, 9, 10] rfl (by decide) (rcv X hP (ci := 1) (q0 := 3) rfl rfl) rfl hl.1 rfl (Nat.le_of_ble_eq_true rfl) d_S_merge_177 hf) hP hD hS hA [0, 1, 2, 3, 4, 5, 6, 7, 8, 9, 10] [] rfl rfl (by decide) (fun i h => by cases h) ?_
        clear hP hD hS; intro u H locs hpost hP hD hS _
        obtain ⟨f, sp, gl2⟩ := u
        obtain ⟨g1, g2, g3⟩ := hpost
        refine lv_goto (tgt := 193) hx hb d_S_merge_180 (by decide) ?_
        have hdone := mg_done hxy hyn hRL hRR hn1 hn2 hq1 hm1 hq2 hm3 g1 g2 g3
        exact W.vret hx hb hr (fun t ht hW => ⟨⟨(f, sp, gl2, F, L), rfl, ⟨hdone, hF2, hL2⟩, by rw [ht]; exact hP, hD⟩, hS.F ht⟩) hS.2.2 d_S_merge_193
    · subst h2
      have hdone := mg_done (f' := f0) hxy hyn hRL hRR hn1 hn2 hq1 hm1 hq2 hm3 (hRL.1.part (by omega) (by omega)) (fun i i1 i2 => ⟨i, i1, i2, rfl⟩) (fun _ _ => rfl)
      exact W.vret hx hb hr (fun t ht hW => ⟨⟨(f0, fSp, gl, F, L), rfl, ⟨hdone, hF2, hL2⟩, by rw [ht]; exact hP, hD⟩, hS.F ht⟩) hS.2.2 d_S_merge_163
  · have eq : q = n1 := by omega
    have hdone := mg_done (f' := f0) (m' := n2) hxy hyn hRL hRR hn1 hn2 hq1 (Nat.le_refl _) hq2 (fun i i1 i2 => by omega) (hRR.1.part (by omega) (Nat.le_refl _)) (fun i i1 i2 => ⟨i, i1, i2, rfl⟩) (fun _ _ => rfl)
    exact W.vret hx hb hr (fun t ht hW => ⟨⟨(f0, fSp, gl, F, L), rfl, ⟨hdone, hF2, hL2⟩, by rw [ht]; exact hP, hD⟩, hS.F ht⟩) hS.2.2 d_S_merge_137
end
section
section P4
variable {K : Int32 → Int}
theorem St.pair {f : Nat → Int32} {fr ln : Nat → Nat} {r e kx : Nat} (h : St K f fr ln r e) (hk : kx + 1 < r) : fr kx + ln kx = fr (kx + 1) ∧ fr (kx + 1) + ln (kx + 1) ≤ e ∧ 1 ≤ ln kx ∧ 1 ≤ ln (kx + 1) ∧ Rn K f (fr kx) (fr (kx + 1)) ∧ Rn K f (fr (kx + 1)) (fr (kx + 1) + ln (kx + 1)) := by
  have e1 := h.2.2.1 kx hk
  refine ⟨e1.symm, h.le hk, h.1 kx (by omega), h.1 _ hk, ?_, h.2.2.2.2.2 _ hk⟩
  rw [e1]
  exact h.2.2.2.2.2 kx (by omega)
end P4
def WT (cI : ClassId) (a : Nat → Nat) (hB k : Nat) (g : Nat → Int32) (ov : Value) (rn gl : Int32) (fC fSp fF fL : Nat → Int32) : va_W := (a 13, .inl (cI, 40, .inl fF)) :: (a 14, .inl (cI, 40, .inl fL)) :: (a 12, .inl (cI, 2000, .inl fSp)) :: (a 10, .inr (1, [.ref (a 11), .ref (a 12), .ref (a 13), .ref (a 14), .int rn, .int gl, ov])) :: (a 11, .inl (cI, 2000, .inl fC)) :: WC cI a hB k g
section SS
variable {D : va_G} {cI cJ cO : ClassId} {p : Program} {l : Launch} {e : Env} {R : Room} {s : State} {m : MethodId} {args : Array Value} {below : List Frame} {meth : Method} {c : Code} {cells slots : Nat} {Q : State → Prop}
variable {a : Nat → Nat} {hB k : Nat} {g : Nat → Int32} {A : Nat → Prop} {H0 : Heap}
set_option maxHeartbeats 8000000 in
theorem l_settle {e9 : Nat} {f0 : Nat → Int32} (X : Cx D cI cJ cO p s m c b_S_settle 3 R_S) (hk : k < 4) (hR : 5 ≤ R.frames ∧ 300 ≤ R.locals) (hf : cells ≤ R.cells ∧ slots ≤ R.slots) (hA : ∀ q, H0.size ≤ q → A q) (he : e9 ≤ 2000) (kk : ∀ (r : Nat) (gl : Int32) (f sp F L : Nat → Int32) (fr ln : Nat → Nat) (H : Heap) (locs : List Loc) (ls : Array Slot) (pcx : Nat), 1 ≤ r → r ≤ 40 → Ar F L fr ln r → St (Ky k g) f fr ln r e9 → Lw ln (r) → (∀ q, e9 ≤ q → f q = f0 q) → va_P D vCL (WS cI a hB k g (nI r) gl f sp F L) H → va_D A (WS cI a hB k g (nI r) gl f sp F L) → va_S A H0 H locs → decode b_S_settle pcx = .ok (.return_, 1) → W p l e R s m args below meth c H locs cells slots Q (F0 m pcx ls [])) : ∀ (fuel : Nat) (r : Nat) (gl : Int32) (f sp F L : Nat → Int32) (fr ln : Nat → Nat) (H : Heap) (locs : List Loc) (ls : Array Slot), r < fuel → 1 ≤ r → r ≤ 40 → Ar F L fr ln r → St (Ky k g) f fr ln r e9 → Lw ln (r - 2) → (∀ q, e9 ≤ q → f q = f0 q) → va_P D vCL (WS cI a hB k g (nI r) gl f sp F L) H → va_D A (WS cI a hB k g (nI r) gl f sp F L) → va_S A H0 H locs → lv_has ls 3 [(0, .ref (a 10))] → W p l e R s m args below meth c H locs cells slots Q (F0 m 0 ls []) := by
  have hx := X.x
  have hb := X.b
  intro fuel
  induction fuel with
  | zero => intro r gl f sp F L fr ln H locs ls h; omega
  | succ fuel ih =>
    intro r gl f sp F L fr ln H locs ls hfu h1 h2 hAr hSt hLw hkeep hP hD hS hl
    have hln : ∀ i, i < r → ln i ≤ 2000 := fun i hi => by have := hSt.le hi; omega
    refine lv_aload_n hx hb d_S_settle_0 rfl (lv_at hl 0 rfl) ?_
    refine g_S_runs X hP 3 rfl rfl d_S_settle_1 ?_
    refine lv_iconst (v := nI 1) hx hb d_S_settle_4 (by decide) ?_
    refine w_icmp_le (tgt := 148) hx hb d_S_settle_5 (by decide) ⟨by omega, by omega⟩ (fun c1 => ?_) (fun c1 => ?_)
    · exact kk r gl f sp F L fr ln H locs ls 148 h1 h2 hAr hSt ⟨fun i hi => by omega, fun i hi => by omega⟩ hkeep hP hD hS d_S_settle_148
    · refine lv_aload_n hx hb d_S_settle_8 rfl (lv_at hl 0 rfl) ?_
      refine g_S_runs X hP 3 rfl rfl d_S_settle_9 ?_
      refine lv_iconst (v := nI 2) hx hb d_S_settle_12 (by decide) ?_
      refine w_sub hx hb d_S_settle_13 (by omega) ?_
      refine lv_istore_n (lv' := [(1, .int (nI (r - 2))), (0, .ref (a 10))]) hx hb d_S_settle_14 rfl hl (by decide) rfl ?_
      clear hl; intro ls hl
      refine lv_iload_n hx hb d_S_settle_15 rfl (lv_at hl 0 rfl) ?_
      refine w_if_le (tgt := 45) hx hb d_S_settle_16 (by decide) (by omega) (fun c2 => ?_) (fun c2 => ?_)
      · refine lv_iload_n hx hb d_S_settle_45 rfl (lv_at hl 0 rfl) ?_
        refine lv_iconst (v := nI 1) hx hb d_S_settle_46 (by decide) ?_
        refine w_icmp_le (tgt := 80) hx hb d_S_settle_47 (by decide) ⟨by omega, by omega⟩ (fun c4 => ?_) (fun c4 => ?_)
        · refine lv_iconst (v := nI 0) hx hb d_S_settle_80 (by decide) ?_
          refine lv_istore_n (lv' := [(2, .int (nI 0)), (1, .int (nI (r - 2))), (0, .ref (a 10))]) hx hb d_S_settle_81 rfl hl (by decide) rfl ?_
          clear hl; intro ls hl
          refine lv_iload_n hx hb d_S_settle_82 rfl (lv_at hl 0 rfl) ?_
          refine w_if_eq (tgt := 119) hx hb d_S_settle_83 (by decide) (by omega) (fun c7 => ?_) (fun c7 => ?_)
          · refine lv_aload_n hx hb d_S_settle_119 rfl (lv_at hl 2 rfl) ?_
            refine g_S_length X hP 3 rfl rfl d_S_settle_120 ?_
            refine lv_iload_n hx hb d_S_settle_123 rfl (lv_at hl 1 rfl) ?_
            refine w_ald X hP 1 rfl (by omega) (by decide) d_S_settle_124 ?_
            refine w_to (y := nI (ln (r - 2))) ((hAr (r - 2) (by omega)).2) ?_
            have := hln (r - 2) (by omega)
            refine lv_aload_n hx hb d_S_settle_125 rfl (lv_at hl 2 rfl) ?_
            refine g_S_length X hP 3 rfl rfl d_S_settle_126 ?_
            refine lv_iload_n hx hb d_S_settle_129 rfl (lv_at hl 1 rfl) ?_
            refine lv_iconst (v := nI 1) hx hb d_S_settle_130 (by decide) ?_
            refine w_add hx hb d_S_settle_131 ?_
            refine w_ald X hP 1 rfl (by omega) (by decide) d_S_settle_132 ?_
            refine w_to (y := nI (ln (r - 2 + 1))) ((hAr (r - 2 + 1) (by omega)).2) ?_
            have := hln (r - 2 + 1) (by omega)
            refine w_icmp_gt (tgt := 144) hx hb d_S_settle_133 (by decide) ⟨by omega, by omega⟩ (fun c8 => ?_) (fun c8 => ?_)
            · exact kk r gl f sp F L fr ln H locs ls 144 h1 h2 hAr hSt (hLw.done (by omega) c8 (fun q => by omega) (fun q => by omega)) hkeep hP hD hS d_S_settle_144
            · refine lv_aload_n hx hb d_S_settle_136 rfl (lv_at hl 2 rfl) ?_
              refine lv_iload_n hx hb d_S_settle_137 rfl (lv_at hl 1 rfl) ?_
              obtain ⟨m1, m2, m3, m4, m5, m6⟩ := hSt.pair (kx := r - 2) (by omega)
              refine wr_v (wr := []) (run_V (C := R_S) X (c_S_merge l D cI cJ cO a hB k g (nI r) gl f sp F L H.size (r - 2) r _ _ _ _ rfl hk (by omega) (by omega) m1 (by omega) m3 m4 (hAr (r - 2) (by omega)).1 (hAr (r - 2) (by omega)).2 (hAr (r - 2 + 1) (by omega)).1 (hAr (r - 2 + 1) (by omega)).2 m5 m6) (cx_B X _ wk_S_50 wi_S_merge wc_S_merge wd_S_merge ⟨by omega, by omega⟩) wm_S_merge wl_S_merge hP hD [0, 1, 2, 3, 4, 5, 6, 7, 8, 9, 10] rfl (by decide) (rcv X hP (ci := 1) (q0 := 3) rfl rfl) rfl hl.1 rfl (Nat.le_of_ble_eq_true rfl) d_S_settle_138 hf) hP hD hS hA [0, 1, 2, 3, 4, 5, 6, 7, 8, 9, 10] [] rfl rfl (by decide) (fun i h => by cases h) ?_
              clear hP hD hS; intro u H locs hpost hP hD hS _
              obtain ⟨f2, sp2, gl2, F2, L2⟩ := u
              obtain ⟨⟨g1, g2⟩, g3, g4⟩ := hpost
              have hSt2 := hSt.merge (kx := r - 2) (by omega) g1 g2
              have hAr2 := hAr.merge (kx := r - 2) (by omega) g3 g4
              refine lv_goto (tgt := 145) hx hb d_S_settle_141 (by decide) ?_
              refine lv_goto (tgt := 0) hx hb d_S_settle_145 (by decide) ?_
              exact ih (r - 1) _ _ _ _ _ _ _ H locs ls (by omega) (by omega) (by omega) hAr2 hSt2 (hLw.merge (kx := r - 2) (by omega) (by omega)) (fun q hq => (g2 q (Or.inr (by omega))).trans (hkeep q hq)) hP hD hS (lv_sub hl [2] rfl)
          · exact absurd rfl c7
        · refine lv_aload_n hx hb d_S_settle_50 rfl (lv_at hl 1 rfl) ?_
          refine g_S_length X hP 3 rfl rfl d_S_settle_51 ?_
          refine lv_iload_n hx hb d_S_settle_54 rfl (lv_at hl 0 rfl) ?_
          refine lv_iconst (v := nI 2) hx hb d_S_settle_55 (by decide) ?_
          refine w_sub hx hb d_S_settle_56 (by omega) ?_
          refine w_ald X hP 1 rfl (by omega) (by decide) d_S_settle_57 ?_
          refine w_to (y := nI (ln (r - 2 - 2))) ((hAr (r - 2 - 2) (by omega)).2) ?_
          have := hln (r - 2 - 2) (by omega)
          refine lv_aload_n hx hb d_S_settle_58 rfl (lv_at hl 1 rfl) ?_
          refine g_S_length X hP 3 rfl rfl d_S_settle_59 ?_
          refine lv_iload_n hx hb d_S_settle_62 rfl (lv_at hl 0 rfl) ?_
          refine lv_iconst (v := nI 1) hx hb d_S_settle_63 (by decide) ?_
          refine w_sub hx hb d_S_settle_64 (by omega) ?_
          refine w_ald X hP 1 rfl (by omega) (by decide) d_S_settle_65 ?_
          refine w_to (y := nI (ln (r - 2 - 1))) ((hAr (r - 2 - 1) (by omega)).2) ?_
          have := hln (r - 2 - 1) (by omega)
          refine lv_aload_n hx hb d_S_settle_66 rfl (lv_at hl 1 rfl) ?_
          refine g_S_length X hP 3 rfl rfl d_S_settle_67 ?_
          refine lv_iload_n hx hb d_S_settle_70 rfl (lv_at hl 0 rfl) ?_
          refine w_ald X hP 1 rfl (by omega) (by decide) d_S_settle_71 ?_
          refine w_to (y := nI (ln (r - 2))) ((hAr (r - 2) (by omega)).2) ?_
          have := hln (r - 2) (by omega)
          refine w_add hx hb d_S_settle_72 ?_
          refine w_icmp_gt (tgt := 80) hx hb d_S_settle_73 (by decide) ⟨by omega, by omega⟩ (fun c5 => ?_) (fun c5 => ?_)
          · refine lv_iconst (v := nI 0) hx hb d_S_settle_80 (by decide) ?_
            refine lv_istore_n (lv' := [(2, .int (nI 0)), (1, .int (nI (r - 2))), (0, .ref (a 10))]) hx hb d_S_settle_81 rfl hl (by decide) rfl ?_
            clear hl; intro ls hl
            refine lv_iload_n hx hb d_S_settle_82 rfl (lv_at hl 0 rfl) ?_
            refine w_if_eq (tgt := 119) hx hb d_S_settle_83 (by decide) (by omega) (fun c7 => ?_) (fun c7 => ?_)
            · refine lv_aload_n hx hb d_S_settle_119 rfl (lv_at hl 2 rfl) ?_
              refine g_S_length X hP 3 rfl rfl d_S_settle_120 ?_
              refine lv_iload_n hx hb d_S_settle_123 rfl (lv_at hl 1 rfl) ?_
              refine w_ald X hP 1 rfl (by omega) (by decide) d_S_settle_124 ?_
              refine w_to (y := nI (ln (r - 2))) ((hAr (r - 2) (by omega)).2) ?_
              have := hln (r - 2) (by omega)
              refine lv_aload_n hx hb d_S_settle_125 rfl (lv_at hl 2 rfl) ?_
              refine g_S_length X hP 3 rfl rfl d_S_settle_126 ?_
              refine lv_iload_n hx hb d_S_settle_129 rfl (lv_at hl 1 rfl) ?_
              refine lv_iconst (v := nI 1) hx hb d_S_settle_130 (by decide) ?_
              refine w_add hx hb d_S_settle_131 ?_
              refine w_ald X hP 1 rfl (by omega) (by decide) d_S_settle_132 ?_
              refine w_to (y := nI (ln (r - 2 + 1))) ((hAr (r - 2 + 1) (by omega)).2) ?_
              have := hln (r - 2 + 1) (by omega)
              refine w_icmp_gt (tgt := 144) hx hb d_S_settle_133 (by decide) ⟨by omega, by omega⟩ (fun c8 => ?_) (fun c8 => ?_)
              · exact kk r gl f sp F L fr ln H locs ls 144 h1 h2 hAr hSt (hLw.done (by omega) c8 (fun q => by omega) (fun _ => c5)) hkeep hP hD hS d_S_settle_144
              · refine lv_aload_n hx hb d_S_settle_136 rfl (lv_at hl 2 rfl) ?_
                refine lv_iload_n hx hb d_S_settle_137 rfl (lv_at hl 1 rfl) ?_
                obtain ⟨m1, m2, m3, m4, m5, m6⟩ := hSt.pair (kx := r - 2) (by omega)
                refine wr_v (wr := []) (run_V (C := R_S) X (c_S_merge l D cI cJ cO a hB k g (nI r) gl f sp F L H.size (r - 2) r _ _ _ _ rfl hk (by omega) (by omega) m1 (by omega) m3 m4 (hAr (r - 2) (by omega)).1 (hAr (r - 2) (by omega)).2 (hAr (r - 2 + 1) (by omega)).1 (hAr (r - 2 + 1) (by omega)).2 m5 m6) (cx_B X _ wk_S_50 wi_S_merge wc_S_merge wd_S_merge ⟨by omega, by omega⟩) wm_S_merge wl_S_merge hP hD [0, 1, 2, 3, 4, 5, 6, 7, 8, 9, 10] rfl (by decide) (rcv X hP (ci := 1) (q0 := 3) rfl rfl) rfl hl.1 rfl (Nat.le_of_ble_eq_true rfl) d_S_settle_138 hf) hP hD hS hA [0, 1, 2, 3, 4, 5, 6, 7, 8, 9, 10] [] rfl rfl (by decide) (fun i h => by cases h) ?_
                clear hP hD hS; intro u H locs hpost hP hD hS _
                obtain ⟨f2, sp2, gl2, F2, L2⟩ := u
                obtain ⟨⟨g1, g2⟩, g3, g4⟩ := hpost
                have hSt2 := hSt.merge (kx := r - 2) (by omega) g1 g2
                have hAr2 := hAr.merge (kx := r - 2) (by omega) g3 g4
                refine lv_goto (tgt := 145) hx hb d_S_settle_141 (by decide) ?_
                refine lv_goto (tgt := 0) hx hb d_S_settle_145 (by decide) ?_
                exact ih (r - 1) _ _ _ _ _ _ _ H locs ls (by omega) (by omega) (by omega) hAr2 hSt2 (hLw.merge (kx := r - 2) (by omega) (by omega)) (fun q hq => (g2 q (Or.inr (by omega))).trans (hkeep q hq)) hP hD hS (lv_sub hl [2] rfl)
            · exact absurd rfl c7
          · refine lv_iconst (v := nI 1) hx hb d_S_settle_76 (by decide) ?_
            refine lv_goto (tgt := 81) hx hb d_S_settle_77 (by decide) ?_
            refine lv_istore_n (lv' := [(2, .int (nI 1)), (1, .int (nI (r - 2))), (0, .ref (a 10))]) hx hb d_S_settle_81 rfl hl (by decide) rfl ?_
            clear hl; intro ls hl
            refine lv_iload_n hx hb d_S_settle_82 rfl (lv_at hl 0 rfl) ?_
            refine w_if_eq (tgt := 119) hx hb d_S_settle_83 (by decide) (by omega) (fun c7 => ?_) (fun c7 => ?_)
            · exact absurd c7 (by decide)
            · refine lv_aload_n hx hb d_S_settle_86 rfl (lv_at hl 2 rfl) ?_
              refine lv_aload_n hx hb d_S_settle_87 rfl (lv_at hl 2 rfl) ?_
              refine g_S_length X hP 3 rfl rfl d_S_settle_88 ?_
              refine lv_iload_n hx hb d_S_settle_91 rfl (lv_at hl 1 rfl) ?_
              refine lv_iconst (v := nI 1) hx hb d_S_settle_92 (by decide) ?_
              refine w_sub hx hb d_S_settle_93 (by omega) ?_
              refine w_ald X hP 1 rfl (by omega) (by decide) d_S_settle_94 ?_
              refine w_to (y := nI (ln (r - 2 - 1))) ((hAr (r - 2 - 1) (by omega)).2) ?_
              have := hln (r - 2 - 1) (by omega)
              refine lv_aload_n hx hb d_S_settle_95 rfl (lv_at hl 2 rfl) ?_
              refine g_S_length X hP 3 rfl rfl d_S_settle_96 ?_
              refine lv_iload_n hx hb d_S_settle_99 rfl (lv_at hl 1 rfl) ?_
              refine lv_iconst (v := nI 1) hx hb d_S_settle_100 (by decide) ?_
              refine w_add hx hb d_S_settle_101 ?_
              refine w_ald X hP 1 rfl (by omega) (by decide) d_S_settle_102 ?_
              refine w_to (y := nI (ln (r - 2 + 1))) ((hAr (r - 2 + 1) (by omega)).2) ?_
              have := hln (r - 2 + 1) (by omega)
              refine w_icmp_ge (tgt := 112) hx hb d_S_settle_103 (by decide) ⟨by omega, by omega⟩ (fun c8 => ?_) (fun c8 => ?_)
              · refine lv_iload_n hx hb d_S_settle_112 rfl (lv_at hl 1 rfl) ?_
                obtain ⟨m1, m2, m3, m4, m5, m6⟩ := hSt.pair (kx := r - 2) (by omega)
                refine wr_v (wr := []) (run_V (C := R_S) X (c_S_merge l D cI cJ cO a hB k g (nI r) gl f sp F L H.size (r - 2) r _ _ _ _ rfl hk (by omega) (by omega) m1 (by omega) m3 m4 (hAr (r - 2) (by omega)).1 (hAr (r - 2) (by omega)).2 (hAr (r - 2 + 1) (by omega)).1 (hAr (r - 2 + 1) (by omega)).2 m5 m6) (cx_B X _ wk_S_50 wi_S_merge wc_S_merge wd_S_merge ⟨by omega, by omega⟩) wm_S_merge wl_S_merge hP hD [0, 1, 2, 3, 4, 5, 6, 7, 8, 9, 10] rfl (by decide) (rcv X hP (ci := 1) (q0 := 3) rfl rfl) rfl hl.1 rfl (Nat.le_of_ble_eq_true rfl) d_S_settle_113 hf) hP hD hS hA [0, 1, 2, 3, 4, 5, 6, 7, 8, 9, 10] [] rfl rfl (by decide) (fun i h => by cases h) ?_
                clear hP hD hS; intro u H locs hpost hP hD hS _
                obtain ⟨f2, sp2, gl2, F2, L2⟩ := u
                obtain ⟨⟨g1, g2⟩, g3, g4⟩ := hpost
                have hSt2 := hSt.merge (kx := r - 2) (by omega) g1 g2
                have hAr2 := hAr.merge (kx := r - 2) (by omega) g3 g4
                refine lv_goto (tgt := 145) hx hb d_S_settle_116 (by decide) ?_
                refine lv_goto (tgt := 0) hx hb d_S_settle_145 (by decide) ?_
                exact ih (r - 1) _ _ _ _ _ _ _ H locs ls (by omega) (by omega) (by omega) hAr2 hSt2 (hLw.merge (kx := r - 2) (by omega) (by omega)) (fun q hq => (g2 q (Or.inr (by omega))).trans (hkeep q hq)) hP hD hS (lv_sub hl [2] rfl)
              · refine lv_iload_n hx hb d_S_settle_106 rfl (lv_at hl 1 rfl) ?_
                refine lv_iconst (v := nI 1) hx hb d_S_settle_107 (by decide) ?_
                refine w_sub hx hb d_S_settle_108 (by omega) ?_
                refine lv_goto (tgt := 113) hx hb d_S_settle_109 (by decide) ?_
                obtain ⟨m1, m2, m3, m4, m5, m6⟩ := hSt.pair (kx := r - 2 - 1) (by omega)
                refine wr_v (wr := []) (run_V (C := R_S) X (c_S_merge l D cI cJ cO a hB k g (nI r) gl f sp F L H.size (r - 2 - 1) r _ _ _ _ rfl hk (by omega) (by omega) m1 (by omega) m3 m4 (hAr (r - 2 - 1) (by omega)).1 (hAr (r - 2 - 1) (by omega)).2 (hAr (r - 2 - 1 + 1) (by omega)).1 (hAr (r - 2 - 1 + 1) (by omega)).2 m5 m6) (cx_B X _ wk_S_50 wi_S_merge wc_S_merge wd_S_merge ⟨by omega, by omega⟩) wm_S_merge wl_S_merge hP hD [0, 1, 2, 3, 4, 5, 6, 7, 8, 9, 10] rfl (by decide) (rcv X hP (ci := 1) (q0 := 3) rfl rfl) rfl hl.1 rfl (Nat.le_of_ble_eq_true rfl) d_S_settle_113 hf) hP hD hS hA [0, 1, 2, 3, 4, 5, 6, 7, 8, 9, 10] [] rfl rfl (by decide) (fun i h => by cases h) ?_
                clear hP hD hS; intro u H locs hpost hP hD hS _
                obtain ⟨f2, sp2, gl2, F2, L2⟩ := u
                obtain ⟨⟨g1, g2⟩, g3, g4⟩ := hpost
                have hSt2 := hSt.merge (kx := r - 2 - 1) (by omega) g1 g2
                have hAr2 := hAr.merge (kx := r - 2 - 1) (by omega) g3 g4
                refine lv_goto (tgt := 145) hx hb d_S_settle_116 (by decide) ?_
                refine lv_goto (tgt := 0) hx hb d_S_settle_145 (by decide) ?_
                exact ih (r - 1) _ _ _ _ _ _ _ H locs ls (by omega) (by omega) (by omega) hAr2 hSt2 (hLw.merge (kx := r - 2 - 1) (by omega) (by omega)) (fun q hq => (g2 q (Or.inr (by omega))).trans (hkeep q hq)) hP hD hS (lv_sub hl [2] rfl)
      · refine lv_aload_n hx hb d_S_settle_19 rfl (lv_at hl 1 rfl) ?_
        refine g_S_length X hP 3 rfl rfl d_S_settle_20 ?_
        refine lv_iload_n hx hb d_S_settle_23 rfl (lv_at hl 0 rfl) ?_
        refine lv_iconst (v := nI 1) hx hb d_S_settle_24 (by decide) ?_
        refine w_sub hx hb d_S_settle_25 (by omega) ?_
        refine w_ald X hP 1 rfl (by omega) (by decide) d_S_settle_26 ?_
        refine w_to (y := nI (ln (r - 2 - 1))) ((hAr (r - 2 - 1) (by omega)).2) ?_
        have := hln (r - 2 - 1) (by omega)
        refine lv_aload_n hx hb d_S_settle_27 rfl (lv_at hl 1 rfl) ?_
        refine g_S_length X hP 3 rfl rfl d_S_settle_28 ?_
        refine lv_iload_n hx hb d_S_settle_31 rfl (lv_at hl 0 rfl) ?_
        refine w_ald X hP 1 rfl (by omega) (by decide) d_S_settle_32 ?_
        refine w_to (y := nI (ln (r - 2))) ((hAr (r - 2) (by omega)).2) ?_
        have := hln (r - 2) (by omega)
        refine lv_aload_n hx hb d_S_settle_33 rfl (lv_at hl 1 rfl) ?_
        refine g_S_length X hP 3 rfl rfl d_S_settle_34 ?_
        refine lv_iload_n hx hb d_S_settle_37 rfl (lv_at hl 0 rfl) ?_
        refine lv_iconst (v := nI 1) hx hb d_S_settle_38 (by decide) ?_
        refine w_add hx hb d_S_settle_39 ?_
        refine w_ald X hP 1 rfl (by omega) (by decide) d_S_settle_40 ?_
        refine w_to (y := nI (ln (r - 2 + 1))) ((hAr (r - 2 + 1) (by omega)).2) ?_
        have := hln (r - 2 + 1) (by omega)
        refine w_add hx hb d_S_settle_41 ?_
        refine w_icmp_le (tgt := 76) hx hb d_S_settle_42 (by decide) ⟨by omega, by omega⟩ (fun c3 => ?_) (fun c3 => ?_)
        · refine lv_iconst (v := nI 1) hx hb d_S_settle_76 (by decide) ?_
          refine lv_goto (tgt := 81) hx hb d_S_settle_77 (by decide) ?_
          refine lv_istore_n (lv' := [(2, .int (nI 1)), (1, .int (nI (r - 2))), (0, .ref (a 10))]) hx hb d_S_settle_81 rfl hl (by decide) rfl ?_
          clear hl; intro ls hl
          refine lv_iload_n hx hb d_S_settle_82 rfl (lv_at hl 0 rfl) ?_
          refine w_if_eq (tgt := 119) hx hb d_S_settle_83 (by decide) (by omega) (fun c7 => ?_) (fun c7 => ?_)
          · exact absurd c7 (by decide)
          · refine lv_aload_n hx hb d_S_settle_86 rfl (lv_at hl 2 rfl) ?_
            refine lv_aload_n hx hb d_S_settle_87 rfl (lv_at hl 2 rfl) ?_
            refine g_S_length X hP 3 rfl rfl d_S_settle_88 ?_
            refine lv_iload_n hx hb d_S_settle_91 rfl (lv_at hl 1 rfl) ?_
            refine lv_iconst (v := nI 1) hx hb d_S_settle_92 (by decide) ?_
            refine w_sub hx hb d_S_settle_93 (by omega) ?_
            refine w_ald X hP 1 rfl (by omega) (by decide) d_S_settle_94 ?_
            refine w_to (y := nI (ln (r - 2 - 1))) ((hAr (r - 2 - 1) (by omega)).2) ?_
            have := hln (r - 2 - 1) (by omega)
            refine lv_aload_n hx hb d_S_settle_95 rfl (lv_at hl 2 rfl) ?_
            refine g_S_length X hP 3 rfl rfl d_S_settle_96 ?_
            refine lv_iload_n hx hb d_S_settle_99 rfl (lv_at hl 1 rfl) ?_
            refine lv_iconst (v := nI 1) hx hb d_S_settle_100 (by decide) ?_
            refine w_add hx hb d_S_settle_101 ?_
            refine w_ald X hP 1 rfl (by omega) (by decide) d_S_settle_102 ?_
            refine w_to (y := nI (ln (r - 2 + 1))) ((hAr (r - 2 + 1) (by omega)).2) ?_
            have := hln (r - 2 + 1) (by omega)
            refine w_icmp_ge (tgt := 112) hx hb d_S_settle_103 (by decide) ⟨by omega, by omega⟩ (fun c8 => ?_) (fun c8 => ?_)
            · refine lv_iload_n hx hb d_S_settle_112 rfl (lv_at hl 1 rfl) ?_
              obtain ⟨m1, m2, m3, m4, m5, m6⟩ := hSt.pair (kx := r - 2) (by omega)
              refine wr_v (wr := []) (run_V (C := R_S) X (c_S_merge l D cI cJ cO a hB k g (nI r) gl f sp F L H.size (r - 2) r _ _ _ _ rfl hk (by omega) (by omega) m1 (by omega) m3 m4 (hAr (r - 2) (by omega)).1 (hAr (r - 2) (by omega)).2 (hAr (r - 2 + 1) (by omega)).1 (hAr (r - 2 + 1) (by omega)).2 m5 m6) (cx_B X _ wk_S_50 wi_S_merge wc_S_merge wd_S_merge ⟨by omega, by omega⟩) wm_S_merge wl_S_merge hP hD [0, 1, 2, 3, 4, 5, 6, 7, 8, 9, 10] rfl (by decide) (rcv X hP (ci := 1) (q0 := 3) rfl rfl) rfl hl.1 rfl (Nat.le_of_ble_eq_true rfl) d_S_settle_113 hf) hP hD hS hA [0, 1, 2, 3, 4, 5, 6, 7, 8, 9, 10] [] rfl rfl (by decide) (fun i h => by cases h) ?_
              clear hP hD hS; intro u H locs hpost hP hD hS _
              obtain ⟨f2, sp2, gl2, F2, L2⟩ := u
              obtain ⟨⟨g1, g2⟩, g3, g4⟩ := hpost
              have hSt2 := hSt.merge (kx := r - 2) (by omega) g1 g2
              have hAr2 := hAr.merge (kx := r - 2) (by omega) g3 g4
              refine lv_goto (tgt := 145) hx hb d_S_settle_116 (by decide) ?_
              refine lv_goto (tgt := 0) hx hb d_S_settle_145 (by decide) ?_
              exact ih (r - 1) _ _ _ _ _ _ _ H locs ls (by omega) (by omega) (by omega) hAr2 hSt2 (hLw.merge (kx := r - 2) (by omega) (by omega)) (fun q hq => (g2 q (Or.inr (by omega))).trans (hkeep q hq)) hP hD hS (lv_sub hl [2] rfl)
            · refine lv_iload_n hx hb d_S_settle_106 rfl (lv_at hl 1 rfl) ?_
              refine lv_iconst (v := nI 1) hx hb d_S_settle_107 (by decide) ?_
              refine w_sub hx hb d_S_settle_108 (by omega) ?_
              refine lv_goto (tgt := 113) hx hb d_S_settle_109 (by decide) ?_
              obtain ⟨m1, m2, m3, m4, m5, m6⟩ := hSt.pair (kx := r - 2 - 1) (by omega)
              refine wr_v (wr := []) (run_V (C := R_S) X (c_S_merge l D cI cJ cO a hB k g (nI r) gl f sp F L H.size (r - 2 - 1) r _ _ _ _ rfl hk (by omega) (by omega) m1 (by omega) m3 m4 (hAr (r - 2 - 1) (by omega)).1 (hAr (r - 2 - 1) (by omega)).2 (hAr (r - 2 - 1 + 1) (by omega)).1 (hAr (r - 2 - 1 + 1) (by omega)).2 m5 m6) (cx_B X _ wk_S_50 wi_S_merge wc_S_merge wd_S_merge ⟨by omega, by omega⟩) wm_S_merge wl_S_merge hP hD [0, 1, 2, 3, 4, 5, 6, 7, 8, 9, 10] rfl (by decide) (rcv X hP (ci := 1) (q0 := 3) rfl rfl) rfl hl.1 rfl (Nat.le_of_ble_eq_true rfl) d_S_settle_113 hf) hP hD hS hA [0, 1, 2, 3, 4, 5, 6, 7, 8, 9, 10] [] rfl rfl (by decide) (fun i h => by cases h) ?_
              clear hP hD hS; intro u H locs hpost hP hD hS _
              obtain ⟨f2, sp2, gl2, F2, L2⟩ := u
              obtain ⟨⟨g1, g2⟩, g3, g4⟩ := hpost
              have hSt2 := hSt.merge (kx := r - 2 - 1) (by omega) g1 g2
              have hAr2 := hAr.merge (kx := r - 2 - 1) (by omega) g3 g4
              refine lv_goto (tgt := 145) hx hb d_S_settle_116 (by decide) ?_
              refine lv_goto (tgt := 0) hx hb d_S_settle_145 (by decide) ?_
              exact ih (r - 1) _ _ _ _ _ _ _ H locs ls (by omega) (by omega) (by omega) hAr2 hSt2 (hLw.merge (kx := r - 2 - 1) (by omega) (by omega)) (fun q hq => (g2 q (Or.inr (by omega))).trans (hkeep q hq)) hP hD hS (lv_sub hl [2] rfl)
        · refine lv_iload_n hx hb d_S_settle_45 rfl (lv_at hl 0 rfl) ?_
          refine lv_iconst (v := nI 1) hx hb d_S_settle_46 (by decide) ?_
          refine w_icmp_le (tgt := 80) hx hb d_S_settle_47 (by decide) ⟨by omega, by omega⟩ (fun c4 => ?_) (fun c4 => ?_)
          · refine lv_iconst (v := nI 0) hx hb d_S_settle_80 (by decide) ?_
            refine lv_istore_n (lv' := [(2, .int (nI 0)), (1, .int (nI (r - 2))), (0, .ref (a 10))]) hx hb d_S_settle_81 rfl hl (by decide) rfl ?_
            clear hl; intro ls hl
            refine lv_iload_n hx hb d_S_settle_82 rfl (lv_at hl 0 rfl) ?_
            refine w_if_eq (tgt := 119) hx hb d_S_settle_83 (by decide) (by omega) (fun c7 => ?_) (fun c7 => ?_)
            · refine lv_aload_n hx hb d_S_settle_119 rfl (lv_at hl 2 rfl) ?_
              refine g_S_length X hP 3 rfl rfl d_S_settle_120 ?_
              refine lv_iload_n hx hb d_S_settle_123 rfl (lv_at hl 1 rfl) ?_
              refine w_ald X hP 1 rfl (by omega) (by decide) d_S_settle_124 ?_
              refine w_to (y := nI (ln (r - 2))) ((hAr (r - 2) (by omega)).2) ?_
              have := hln (r - 2) (by omega)
              refine lv_aload_n hx hb d_S_settle_125 rfl (lv_at hl 2 rfl) ?_
              refine g_S_length X hP 3 rfl rfl d_S_settle_126 ?_
              refine lv_iload_n hx hb d_S_settle_129 rfl (lv_at hl 1 rfl) ?_
              refine lv_iconst (v := nI 1) hx hb d_S_settle_130 (by decide) ?_
              refine w_add hx hb d_S_settle_131 ?_
              refine w_ald X hP 1 rfl (by omega) (by decide) d_S_settle_132 ?_
              refine w_to (y := nI (ln (r - 2 + 1))) ((hAr (r - 2 + 1) (by omega)).2) ?_
              have := hln (r - 2 + 1) (by omega)
              refine w_icmp_gt (tgt := 144) hx hb d_S_settle_133 (by decide) ⟨by omega, by omega⟩ (fun c8 => ?_) (fun c8 => ?_)
              · exact kk r gl f sp F L fr ln H locs ls 144 h1 h2 hAr hSt (hLw.done (by omega) c8 (fun _ => c3) (fun q => by omega)) hkeep hP hD hS d_S_settle_144
              · refine lv_aload_n hx hb d_S_settle_136 rfl (lv_at hl 2 rfl) ?_
                refine lv_iload_n hx hb d_S_settle_137 rfl (lv_at hl 1 rfl) ?_
                obtain ⟨m1, m2, m3, m4, m5, m6⟩ := hSt.pair (kx := r - 2) (by omega)
                refine wr_v (wr := []) (run_V (C := R_S) X (c_S_merge l D cI cJ cO a hB k g (nI r) gl f sp F L H.size (r - 2) r _ _ _ _ rfl hk (by omega) (by omega) m1 (by omega) m3 m4 (hAr (r - 2) (by omega)).1 (hAr (r - 2) (by omega)).2 (hAr (r - 2 + 1) (by omega)).1 (hAr (r - 2 + 1) (by omega)).2 m5 m6) (cx_B X _ wk_S_50 wi_S_merge wc_S_merge wd_S_merge ⟨by omega, by omega⟩) wm_S_merge wl_S_merge hP hD [0, 1, 2, 3, 4, 5, 6, 7, 8, 9, 10] rfl (by decide) (rcv X hP (ci := 1) (q0 := 3) rfl rfl) rfl hl.1 rfl (Nat.le_of_ble_eq_true rfl) d_S_settle_138 hf) hP hD hS hA [0, 1, 2, 3, 4, 5, 6, 7, 8, 9, 10] [] rfl rfl (by decide) (fun i h => by cases h) ?_
                clear hP hD hS; intro u H locs hpost hP hD hS _
                obtain ⟨f2, sp2, gl2, F2, L2⟩ := u
                obtain ⟨⟨g1, g2⟩, g3, g4⟩ := hpost
                have hSt2 := hSt.merge (kx := r - 2) (by omega) g1 g2
                have hAr2 := hAr.merge (kx := r - 2) (by omega) g3 g4
                refine lv_goto (tgt := 145) hx hb d_S_settle_141 (by decide) ?_
                refine lv_goto (tgt := 0) hx hb d_S_settle_145 (by decide) ?_
                exact ih (r - 1) _ _ _ _ _ _ _ H locs ls (by omega) (by omega) (by omega) hAr2 hSt2 (hLw.merge (kx := r - 2) (by omega) (by omega)) (fun q hq => (g2 q (Or.inr (by omega))).trans (hkeep q hq)) hP hD hS (lv_sub hl [2] rfl)
            · exact absurd rfl c7
          · refine lv_aload_n hx hb d_S_settle_50 rfl (lv_at hl 1 rfl) ?_
            refine g_S_length X hP 3 rfl rfl d_S_settle_51 ?_
            refine lv_iload_n hx hb d_S_settle_54 rfl (lv_at hl 0 rfl) ?_
            refine lv_iconst (v := nI 2) hx hb d_S_settle_55 (by decide) ?_
            refine w_sub hx hb d_S_settle_56 (by omega) ?_
            refine w_ald X hP 1 rfl (by omega) (by decide) d_S_settle_57 ?_
            refine w_to (y := nI (ln (r - 2 - 2))) ((hAr (r - 2 - 2) (by omega)).2) ?_
            have := hln (r - 2 - 2) (by omega)
            refine lv_aload_n hx hb d_S_settle_58 rfl (lv_at hl 1 rfl) ?_
            refine g_S_length X hP 3 rfl rfl d_S_settle_59 ?_
            refine lv_iload_n hx hb d_S_settle_62 rfl (lv_at hl 0 rfl) ?_
            refine lv_iconst (v := nI 1) hx hb d_S_settle_63 (by decide) ?_
            refine w_sub hx hb d_S_settle_64 (by omega) ?_
            refine w_ald X hP 1 rfl (by omega) (by decide) d_S_settle_65 ?_
            refine w_to (y := nI (ln (r - 2 - 1))) ((hAr (r - 2 - 1) (by omega)).2) ?_
            have := hln (r - 2 - 1) (by omega)
            refine lv_aload_n hx hb d_S_settle_66 rfl (lv_at hl 1 rfl) ?_
            refine g_S_length X hP 3 rfl rfl d_S_settle_67 ?_
            refine lv_iload_n hx hb d_S_settle_70 rfl (lv_at hl 0 rfl) ?_
            refine w_ald X hP 1 rfl (by omega) (by decide) d_S_settle_71 ?_
            refine w_to (y := nI (ln (r - 2))) ((hAr (r - 2) (by omega)).2) ?_
            have := hln (r - 2) (by omega)
            refine w_add hx hb d_S_settle_72 ?_
            refine w_icmp_gt (tgt := 80) hx hb d_S_settle_73 (by decide) ⟨by omega, by omega⟩ (fun c5 => ?_) (fun c5 => ?_)
            · refine lv_iconst (v := nI 0) hx hb d_S_settle_80 (by decide) ?_
              refine lv_istore_n (lv' := [(2, .int (nI 0)), (1, .int (nI (r - 2))), (0, .ref (a 10))]) hx hb d_S_settle_81 rfl hl (by decide) rfl ?_
              clear hl; intro ls hl
              refine lv_iload_n hx hb d_S_settle_82 rfl (lv_at hl 0 rfl) ?_
              refine w_if_eq (tgt := 119) hx hb d_S_settle_83 (by decide) (by omega) (fun c7 => ?_) (fun c7 => ?_)
              · refine lv_aload_n hx hb d_S_settle_119 rfl (lv_at hl 2 rfl) ?_
                refine g_S_length X hP 3 rfl rfl d_S_settle_120 ?_
                refine lv_iload_n hx hb d_S_settle_123 rfl (lv_at hl 1 rfl) ?_
                refine w_ald X hP 1 rfl (by omega) (by decide) d_S_settle_124 ?_
                refine w_to (y := nI (ln (r - 2))) ((hAr (r - 2) (by omega)).2) ?_
                have := hln (r - 2) (by omega)
                refine lv_aload_n hx hb d_S_settle_125 rfl (lv_at hl 2 rfl) ?_
                refine g_S_length X hP 3 rfl rfl d_S_settle_126 ?_
                refine lv_iload_n hx hb d_S_settle_129 rfl (lv_at hl 1 rfl) ?_
                refine lv_iconst (v := nI 1) hx hb d_S_settle_130 (by decide) ?_
                refine w_add hx hb d_S_settle_131 ?_
                refine w_ald X hP 1 rfl (by omega) (by decide) d_S_settle_132 ?_
                refine w_to (y := nI (ln (r - 2 + 1))) ((hAr (r - 2 + 1) (by omega)).2) ?_
                have := hln (r - 2 + 1) (by omega)
                refine w_icmp_gt (tgt := 144) hx hb d_S_settle_133 (by decide) ⟨by omega, by omega⟩ (fun c8 => ?_) (fun c8 => ?_)
                · exact kk r gl f sp F L fr ln H locs ls 144 h1 h2 hAr hSt (hLw.done (by omega) c8 (fun _ => c3) (fun _ => c5)) hkeep hP hD hS d_S_settle_144
                · refine lv_aload_n hx hb d_S_settle_136 rfl (lv_at hl 2 rfl) ?_
                  refine lv_iload_n hx hb d_S_settle_137 rfl (lv_at hl 1 rfl) ?_
                  obtain ⟨m1, m2, m3, m4, m5, m6⟩ := hSt.pair (kx := r - 2) (by omega)
                  refine wr_v (wr := []) (run_V (C := R_S) X (c_S_merge l D cI cJ cO a hB k g (nI r) gl f sp F L H.size (r - 2) r _ _ _ _ rfl hk (by omega) (by omega) m1 (by omega) m3 m4 (hAr (r - 2) (by omega)).1 (hAr (r - 2) (by omega)).2 (hAr (r - 2 + 1) (by omega)).1 (hAr (r - 2 + 1) (by omega)).2 m5 m6) (cx_B X _ wk_S_50 wi_S_merge wc_S_merge wd_S_merge ⟨by omega, by omega⟩) wm_S_merge wl_S_merge hP hD [0, 1, 2, 3, 4, 5, 6, 7, 8, 9, 10] rfl (by decide) (rcv X hP (ci := 1) (q0 := 3) rfl rfl) rfl hl.1 rfl (Nat.le_of_ble_eq_true rfl) d_S_settle_138 hf) hP hD hS hA [0, 1, 2, 3, 4, 5, 6, 7, 8, 9, 10] [] rfl rfl (by decide) (fun i h => by cases h) ?_
                  clear hP hD hS; intro u H locs hpost hP hD hS _
                  obtain ⟨f2, sp2, gl2, F2, L2⟩ := u
                  obtain ⟨⟨g1, g2⟩, g3, g4⟩ := hpost
                  have hSt2 := hSt.merge (kx := r - 2) (by omega) g1 g2
                  have hAr2 := hAr.merge (kx := r - 2) (by omega) g3 g4
                  refine lv_goto (tgt := 145) hx hb d_S_settle_141 (by decide) ?_
                  refine lv_goto (tgt := 0) hx hb d_S_settle_145 (by decide) ?_
                  exact ih (r - 1) _ _ _ _ _ _ _ H locs ls (by omega) (by omega) (by omega) hAr2 hSt2 (hLw.merge (kx := r - 2) (by omega) (by omega)) (fun q hq => (g2 q (Or.inr (by omega))).trans (hkeep q hq)) hP hD hS (lv_sub hl [2] rfl)
              · exact absurd rfl c7
            · refine lv_iconst (v := nI 1) hx hb d_S_settle_76 (by decide) ?_
              refine lv_goto (tgt := 81) hx hb d_S_settle_77 (by decide) ?_
              refine lv_istore_n (lv' := [(2, .int (nI 1)), (1, .int (nI (r - 2))), (0, .ref (a 10))]) hx hb d_S_settle_81 rfl hl (by decide) rfl ?_
              clear hl; intro ls hl
              refine lv_iload_n hx hb d_S_settle_82 rfl (lv_at hl 0 rfl) ?_
              refine w_if_eq (tgt := 119) hx hb d_S_settle_83 (by decide) (by omega) (fun c7 => ?_) (fun c7 => ?_)
              · exact absurd c7 (by decide)
              · refine lv_aload_n hx hb d_S_settle_86 rfl (lv_at hl 2 rfl) ?_
                refine lv_aload_n hx hb d_S_settle_87 rfl (lv_at hl 2 rfl) ?_
                refine g_S_length X hP 3 rfl rfl d_S_settle_88 ?_
                refine lv_iload_n hx hb d_S_settle_91 rfl (lv_at hl 1 rfl) ?_
                refine lv_iconst (v := nI 1) hx hb d_S_settle_92 (by decide) ?_
                refine w_sub hx hb d_S_settle_93 (by omega) ?_
                refine w_ald X hP 1 rfl (by omega) (by decide) d_S_settle_94 ?_
                refine w_to (y := nI (ln (r - 2 - 1))) ((hAr (r - 2 - 1) (by omega)).2) ?_
                have := hln (r - 2 - 1) (by omega)
                refine lv_aload_n hx hb d_S_settle_95 rfl (lv_at hl 2 rfl) ?_
                refine g_S_length X hP 3 rfl rfl d_S_settle_96 ?_
                refine lv_iload_n hx hb d_S_settle_99 rfl (lv_at hl 1 rfl) ?_
                refine lv_iconst (v := nI 1) hx hb d_S_settle_100 (by decide) ?_
                refine w_add hx hb d_S_settle_101 ?_
                refine w_ald X hP 1 rfl (by omega) (by decide) d_S_settle_102 ?_
                refine w_to (y := nI (ln (r - 2 + 1))) ((hAr (r - 2 + 1) (by omega)).2) ?_
                have := hln (r - 2 + 1) (by omega)
                refine w_icmp_ge (tgt := 112) hx hb d_S_settle_103 (by decide) ⟨by omega, by omega⟩ (fun c8 => ?_) (fun c8 => ?_)
                · refine lv_iload_n hx hb d_S_settle_112 rfl (lv_at hl 1 rfl) ?_
                  obtain ⟨m1, m2, m3, m4, m5, m6⟩ := hSt.pair (kx := r - 2) (by omega)
                  refine wr_v (wr := []) (run_V (C := R_S) X (c_S_merge l D cI cJ cO a hB k g (nI r) gl f sp F L H.size (r - 2) r _ _ _ _ rfl hk (by omega) (by omega) m1 (by omega) m3 m4 (hAr (r - 2) (by omega)).1 (hAr (r - 2) (by omega)).2 (hAr (r - 2 + 1) (by omega)).1 (hAr (r - 2 + 1) (by omega)).2 m5 m6) (cx_B X _ wk_S_50 wi_S_merge wc_S_merge wd_S_merge ⟨by omega, by omega⟩) wm_S_merge wl_S_merge hP hD [0, 1, 2, 3, 4, 5, 6, 7, 8, 9, 10] rfl (by decide) (rcv X hP (ci := 1) (q0 := 3) rfl rfl) rfl hl.1 rfl (Nat.le_of_ble_eq_true rfl) d_S_settle_113 hf) hP hD hS hA [0, 1, 2, 3, 4, 5, 6, 7, 8, 9, 10] [] rfl rfl (by decide) (fun i h => by cases h) ?_
                  clear hP hD hS; intro u H locs hpost hP hD hS _
                  obtain ⟨f2, sp2, gl2, F2, L2⟩ := u
                  obtain ⟨⟨g1, g2⟩, g3, g4⟩ := hpost
                  have hSt2 := hSt.merge (kx := r - 2) (by omega) g1 g2
                  have hAr2 := hAr.merge (kx := r - 2) (by omega) g3 g4
                  refine lv_goto (tgt := 145) hx hb d_S_settle_116 (by decide) ?_
                  refine lv_goto (tgt := 0) hx hb d_S_settle_145 (by decide) ?_
                  exact ih (r - 1) _ _ _ _ _ _ _ H locs ls (by omega) (by omega) (by omega) hAr2 hSt2 (hLw.merge (kx := r - 2) (by omega) (by omega)) (fun q hq => (g2 q (Or.inr (by omega))).trans (hkeep q hq)) hP hD hS (lv_sub hl [2] rfl)
                · refine lv_iload_n hx hb d_S_settle_106 rfl (lv_at hl 1 rfl) ?_
                  refine lv_iconst (v := nI 1) hx hb d_S_settle_107 (by decide) ?_
                  refine w_sub hx hb d_S_settle_108 (by omega) ?_
                  refine lv_goto (tgt := 113) hx hb d_S_settle_109 (by decide) ?_
                  obtain ⟨m1, m2, m3, m4, m5, m6⟩ := hSt.pair (kx := r - 2 - 1) (by omega)
                  refine wr_v (wr := []) (run_V (C := R_S) X (c_S_merge l D cI cJ cO a hB k g (nI r) gl f sp F L H.size (r - 2 - 1) r _ _ _ _ rfl hk (by omega) (by omega) m1 (by omega) m3 m4 (hAr (r - 2 - 1) (by omega)).1 (hAr (r - 2 - 1) (by omega)).2 (hAr (r - 2 - 1 + 1) (by omega)).1 (hAr (r - 2 - 1 + 1) (by omega)).2 m5 m6) (cx_B X _ wk_S_50 wi_S_merge wc_S_merge wd_S_merge ⟨by omega, by omega⟩) wm_S_merge wl_S_merge hP hD [0, 1, 2, 3, 4, 5, 6, 7, 8, 9, 10] rfl (by decide) (rcv X hP (ci := 1) (q0 := 3) rfl rfl) rfl hl.1 rfl (Nat.le_of_ble_eq_true rfl) d_S_settle_113 hf) hP hD hS hA [0, 1, 2, 3, 4, 5, 6, 7, 8, 9, 10] [] rfl rfl (by decide) (fun i h => by cases h) ?_
                  clear hP hD hS; intro u H locs hpost hP hD hS _
                  obtain ⟨f2, sp2, gl2, F2, L2⟩ := u
                  obtain ⟨⟨g1, g2⟩, g3, g4⟩ := hpost
                  have hSt2 := hSt.merge (kx := r - 2 - 1) (by omega) g1 g2
                  have hAr2 := hAr.merge (kx := r - 2 - 1) (by omega) g3 g4
                  refine lv_goto (tgt := 145) hx hb d_S_settle_116 (by decide) ?_
                  refine lv_goto (tgt := 0) hx hb d_S_settle_145 (by decide) ?_
                  exact ih (r - 1) _ _ _ _ _ _ _ H locs ls (by omega) (by omega) (by omega) hAr2 hSt2 (hLw.merge (kx := r - 2 - 1) (by omega) (by omega)) (fun q hq => (g2 q (Or.inr (by omega))).trans (hkeep q hq)) hP hD hS (lv_sub hl [2] rfl)
end SS
set_option maxHeartbeats 4000000 in
/-- settle(): merges until each run is longer than the next, and than the next two -/
theorem c_S_settle (l : Launch) (D : va_G) (cI cJ cO : ClassId) (a : Nat → Nat) (hB k : Nat) (g : Nat → Int32) (r0 gl : Int32) (f0 fSp fF fL : Nat → Int32) (sz : Nat) (fr ln : Nat → Nat) (r e9 : Nat) (hr0 : r0 = nI r) (hk : k < 4) (h1 : 1 ≤ r) (h2 : r ≤ 40) (he : e9 ≤ 2000) (hAr : Ar fF fL fr ln r) (hSt : St (Ky k g) f0 fr ln r e9) (hLw : Lw ln (r - 2)) : Met l y_S_settle [Cond.code y_S_settle b_S_settle 3 none] (rk 5 0 0) (PW D cI cJ cO [.ref (a 10)] sz (WS cI a hB k g r0 gl f0 fSp fF fL)) (va_Qv (fun u : (Nat → Int32) × (Nat → Int32) × Int32 × (Nat → Int32) × (Nat → Int32) × (Nat → Nat) × (Nat → Nat) × Nat => (1 ≤ u.2.2.2.2.2.2.2 ∧ u.2.2.2.2.2.2.2 ≤ 40) ∧ Ar u.2.2.2.1 u.2.2.2.2.1 u.2.2.2.2.2.1 u.2.2.2.2.2.2.1 u.2.2.2.2.2.2.2 ∧ St (Ky k g) u.1 u.2.2.2.2.2.1 u.2.2.2.2.2.2.1 u.2.2.2.2.2.2.2 e9 ∧ Lw u.2.2.2.2.2.2.1 u.2.2.2.2.2.2.2 ∧ (∀ q, e9 ≤ q → u.1 q = f0 q)) (BW D (va_A (WS cI a hB k g r0 gl f0 fSp fF fL) sz) (fun u => WS cI a hB k g (nI u.2.2.2.2.2.2.2) u.2.2.1 u.1 u.2.1 u.2.2.2.1 u.2.2.2.2.1)) (va_A (WS cI a hB k g r0 gl f0 fSp fF fL) sz)) 0 0 (va_A (WS cI a hB k g r0 gl f0 fSp fF fL) sz) := by
  subst hr0
  refine entW (by decide) (Nat.le_of_ble_eq_true rfl) ?_
  intro p e s m below meth c ls X hr hlocks hnm hsz hP hD hA hl
  have hx := X.x
  have hb := X.b
  have hR : 5 ≤ (rk 5 0 0).frames ∧ 300 ≤ (rk 5 0 0).locals := by decide
  have hf : 0 ≤ (rk 5 0 0).cells ∧ 0 ≤ (rk 5 0 0).slots := by decide
  have hS : va_S (va_A (WS cI a hB k g (nI r) gl f0 fSp fF fL) sz) s.heap s.heap [] := va_S.rf
  generalize hAe : va_A (WS cI a hB k g (nI r) gl f0 fSp fF fL) sz = A at hP hD hA hS ⊢
  refine l_settle X hk hR hf hA he ?_ (r + 1) r gl f0 fSp fF fL fr ln _ _ ls (by omega) h1 h2 hAr hSt hLw (fun _ _ => rfl) hP hD hS hl
  clear hP hD hS hl ls
  intro r gl f sp F L fr ln H locs ls pcx h1 h2 hAr hSt hLw hkeep hP hD hS hdg
  exact W.vret hx hb hr (fun t ht hW => ⟨⟨(f, sp, gl, F, L, fr, ln, r), rfl, ⟨⟨h1, h2⟩, hAr, hSt, hLw, hkeep⟩, by rw [ht]; exact hP, hD⟩, hS.F ht⟩) hS.2.2 hdg
end
section
section ST
variable {D : va_G} {cI cJ cO : ClassId} {p : Program} {l : Launch} {e : Env} {R : Room} {s : State} {m : MethodId} {args : Array Value} {below : List Frame} {meth : Method} {c : Code} {cells slots : Nat} {Q : State → Prop}
variable {a : Nat → Nat} {hB k : Nat} {g : Nat → Int32} {A : Nat → Prop} {H0 : Heap}
set_option maxHeartbeats 8000000 in
theorem l_sort2 {n : Nat} (X : Cx D cI cJ cO p s m c b_S_sort 7 R_S) (hk : k < 4) (hR : 6 ≤ R.frames ∧ 340 ≤ R.locals) (hf : cells ≤ R.cells ∧ slots ≤ R.slots) (hA : ∀ q, H0.size ≤ q → A q) (hn : n ≤ 2000) (kk : ∀ (r : Nat) (gl : Int32) (f sp F L : Nat → Int32) (fr ln : Nat → Nat) (H : Heap) (locs : List Loc) (ls : Array Slot), r ≤ 1 → Ar F L fr ln r → St (Ky k g) f fr ln r n → va_P D vCL (WS cI a hB k g (nI r) gl f sp F L) H → va_D A (WS cI a hB k g (nI r) gl f sp F L) → va_S A H0 H locs → W p l e R s m args below meth c H locs cells slots Q (F0 m 192 ls [])) : ∀ (fuel : Nat) (r : Nat) (gl : Int32) (f sp F L : Nat → Int32) (fr ln : Nat → Nat) (H : Heap) (locs : List Loc) (ls : Array Slot), r < fuel → r ≤ 40 → Ar F L fr ln r → St (Ky k g) f fr ln r n → va_P D vCL (WS cI a hB k g (nI r) gl f sp F L) H → va_D A (WS cI a hB k g (nI r) gl f sp F L) → va_S A H0 H locs → lv_has ls 7 [(0, .ref (a 10))] → W p l e R s m args below meth c H locs cells slots Q (F0 m 129 ls []) := by
  have hx := X.x
  have hb := X.b
  intro fuel
  induction fuel with
  | zero => intro r gl f sp F L fr ln H locs ls h; omega
  | succ fuel ih =>
    intro r gl f sp F L fr ln H locs ls hfu h2 hAr hSt hP hD hS hl
    have hln : ∀ i, i < r → ln i ≤ 2000 := fun i hi => by have := hSt.le hi; omega
    refine lv_aload_n hx hb d_S_sort_129 rfl (lv_at hl 0 rfl) ?_
    refine g_S_runs X hP 3 rfl rfl d_S_sort_130 ?_
    refine lv_iconst (v := nI 1) hx hb d_S_sort_133 (by decide) ?_
    refine w_icmp_le (tgt := 192) hx hb d_S_sort_134 (by decide) ⟨by omega, by omega⟩ (fun c1 => ?_) (fun c1 => ?_)
    · exact kk r gl f sp F L fr ln H locs ls c1 hAr hSt hP hD hS
    · refine lv_aload_n hx hb d_S_sort_137 rfl (lv_at hl 0 rfl) ?_
      refine lv_aload_n hx hb d_S_sort_138 rfl (lv_at hl 0 rfl) ?_
      refine g_S_runs X hP 3 rfl rfl d_S_sort_139 ?_
      refine lv_iconst (v := nI 2) hx hb d_S_sort_142 (by decide) ?_
      refine w_icmp_le (tgt := 180) hx hb d_S_sort_143 (by decide) ⟨by omega, by omega⟩ (fun c2 => ?_) (fun c2 => ?_)
      · refine lv_aload_n hx hb d_S_sort_180 rfl (lv_at hl 0 rfl) ?_
        refine g_S_runs X hP 3 rfl rfl d_S_sort_181 ?_
        refine lv_iconst (v := nI 2) hx hb d_S_sort_184 (by decide) ?_
        refine w_sub hx hb d_S_sort_185 (by omega) ?_
        obtain ⟨m1, m2, m3, m4, m5, m6⟩ := hSt.pair (kx := r - 2) (by omega)
        refine wr_v (wr := []) (run_V (C := R_S) X (c_S_merge l D cI cJ cO a hB k g (nI r) gl f sp F L H.size (r - 2) r _ _ _ _ rfl hk (by omega) (by omega) m1 (by omega) m3 m4 (hAr (r - 2) (by omega)).1 (hAr (r - 2) (by omega)).2 (hAr (r - 2 + 1) (by omega)).1 (hAr (r - 2 + 1) (by omega)).2 m5 m6) (cx_B X _ wk_S_50 wi_S_merge wc_S_merge wd_S_merge ⟨by omega, by omega⟩) wm_S_merge wl_S_merge hP hD [0, 1, 2, 3, 4, 5, 6, 7, 8, 9, 10] rfl (by decide) (rcv X hP (ci := 1) (q0 := 3) rfl rfl) rfl hl.1 rfl (Nat.le_of_ble_eq_true rfl) d_S_sort_186 hf) hP hD hS hA [0, 1, 2, 3, 4, 5, 6, 7, 8, 9, 10] [] rfl rfl (by decide) (fun i h => by cases h) ?_
        clear hP hD hS; intro u H locs hpost hP hD hS _
        obtain ⟨f2, sp2, gl2, F2, L2⟩ := u
        obtain ⟨⟨g1, g2⟩, g3, g4⟩ := hpost
        have hSt2 := hSt.merge (kx := r - 2) (by omega) g1 g2
        have hAr2 := hAr.merge (kx := r - 2) (by omega) g3 g4
        refine lv_goto (tgt := 129) hx hb d_S_sort_189 (by decide) ?_
        exact ih (r - 1) _ _ _ _ _ _ _ H locs ls (by omega) (by omega) hAr2 hSt2 hP hD hS hl
      · refine lv_aload_n hx hb d_S_sort_146 rfl (lv_at hl 0 rfl) ?_
        refine g_S_length X hP 3 rfl rfl d_S_sort_147 ?_
        refine lv_aload_n hx hb d_S_sort_150 rfl (lv_at hl 0 rfl) ?_
        refine g_S_runs X hP 3 rfl rfl d_S_sort_151 ?_
        refine lv_iconst (v := nI 3) hx hb d_S_sort_154 (by decide) ?_
        refine w_sub hx hb d_S_sort_155 (by omega) ?_
        refine w_ald X hP 1 rfl (by omega) (by decide) d_S_sort_156 ?_
        refine w_to (y := nI (ln (r - 3))) ((hAr (r - 3) (by omega)).2) ?_
        have := hln (r - 3) (by omega)
        refine lv_aload_n hx hb d_S_sort_157 rfl (lv_at hl 0 rfl) ?_
        refine g_S_length X hP 3 rfl rfl d_S_sort_158 ?_
        refine lv_aload_n hx hb d_S_sort_161 rfl (lv_at hl 0 rfl) ?_
        refine g_S_runs X hP 3 rfl rfl d_S_sort_162 ?_
        refine lv_iconst (v := nI 1) hx hb d_S_sort_165 (by decide) ?_
        refine w_sub hx hb d_S_sort_166 (by omega) ?_
        refine w_ald X hP 1 rfl (by omega) (by decide) d_S_sort_167 ?_
        refine w_to (y := nI (ln (r - 1))) ((hAr (r - 1) (by omega)).2) ?_
        have := hln (r - 1) (by omega)
        refine w_icmp_ge (tgt := 180) hx hb d_S_sort_168 (by decide) ⟨by omega, by omega⟩ (fun c3 => ?_) (fun c3 => ?_)
        · refine lv_aload_n hx hb d_S_sort_180 rfl (lv_at hl 0 rfl) ?_
          refine g_S_runs X hP 3 rfl rfl d_S_sort_181 ?_
          refine lv_iconst (v := nI 2) hx hb d_S_sort_184 (by decide) ?_
          refine w_sub hx hb d_S_sort_185 (by omega) ?_
          obtain ⟨m1, m2, m3, m4, m5, m6⟩ := hSt.pair (kx := r - 2) (by omega)
          refine wr_v (wr := []) (run_V (C := R_S) X (c_S_merge l D cI cJ cO a hB k g (nI r) gl f sp F L H.size (r - 2) r _ _ _ _ rfl hk (by omega) (by omega) m1 (by omega) m3 m4 (hAr (r - 2) (by omega)).1 (hAr (r - 2) (by omega)).2 (hAr (r - 2 + 1) (by omega)).1 (hAr (r - 2 + 1) (by omega)).2 m5 m6) (cx_B X _ wk_S_50 wi_S_merge wc_S_merge wd_S_merge ⟨by omega, by omega⟩) wm_S_merge wl_S_merge hP hD [0, 1, 2, 3, 4, 5, 6, 7, 8, 9, 10] rfl (by decide) (rcv X hP (ci := 1) (q0 := 3) rfl rfl) rfl hl.1 rfl (Nat.le_of_ble_eq_true rfl) d_S_sort_186 hf) hP hD hS hA [0, 1, 2, 3, 4, 5, 6, 7, 8, 9, 10] [] rfl rfl (by decide) (fun i h => by cases h) ?_
          clear hP hD hS; intro u H locs hpost hP hD hS _
          obtain ⟨f2, sp2, gl2, F2, L2⟩ := u
          obtain ⟨⟨g1, g2⟩, g3, g4⟩ := hpost
          have hSt2 := hSt.merge (kx := r - 2) (by omega) g1 g2
          have hAr2 := hAr.merge (kx := r - 2) (by omega) g3 g4
          refine lv_goto (tgt := 129) hx hb d_S_sort_189 (by decide) ?_
          exact ih (r - 1) _ _ _ _ _ _ _ H locs ls (by omega) (by omega) hAr2 hSt2 hP hD hS hl
        · refine lv_aload_n hx hb d_S_sort_171 rfl (lv_at hl 0 rfl) ?_
          refine g_S_runs X hP 3 rfl rfl d_S_sort_172 ?_
          refine lv_iconst (v := nI 3) hx hb d_S_sort_175 (by decide) ?_
          refine w_sub hx hb d_S_sort_176 (by omega) ?_
          refine lv_goto (tgt := 186) hx hb d_S_sort_177 (by decide) ?_
          obtain ⟨m1, m2, m3, m4, m5, m6⟩ := hSt.pair (kx := r - 3) (by omega)
          refine wr_v (wr := []) (run_V (C := R_S) X (c_S_merge l D cI cJ cO a hB k g (nI r) gl f sp F L H.size (r - 3) r _ _ _ _ rfl hk (by omega) (by omega) m1 (by omega) m3 m4 (hAr (r - 3) (by omega)).1 (hAr (r - 3) (by omega)).2 (hAr (r - 3 + 1) (by omega)).1 (hAr (r - 3 + 1) (by omega)).2 m5 m6) (cx_B X _ wk_S_50 wi_S_merge wc_S_merge wd_S_merge ⟨by omega, by omega⟩) wm_S_merge wl_S_merge hP hD [0, 1, 2, 3, 4, 5, 6, 7, 8, 9, 10] rfl (by decide) (rcv X hP (ci := 1) (q0 := 3) rfl rfl) rfl hl.1 rfl (Nat.le_of_ble_eq_true rfl) d_S_sort_186 hf) hP hD hS hA [0, 1, 2, 3, 4, 5, 6, 7, 8, 9, 10] [] rfl rfl (by decide) (fun i h => by cases h) ?_
          clear hP hD hS; intro u H locs hpost hP hD hS _
          obtain ⟨f2, sp2, gl2, F2, L2⟩ := u
          obtain ⟨⟨g1, g2⟩, g3, g4⟩ := hpost
          have hSt2 := hSt.merge (kx := r - 3) (by omega) g1 g2
          have hAr2 := hAr.merge (kx := r - 3) (by omega) g3 g4
          refine lv_goto (tgt := 129) hx hb d_S_sort_189 (by decide) ?_
          exact ih (r - 1) _ _ _ _ _ _ _ H locs ls (by omega) (by omega) hAr2 hSt2 hP hD hS hl
set_option maxHeartbeats 8000000 in
theorem l_sort1 {n : Nat} (X : Cx D cI cJ cO p s m c b_S_sort 7 R_S) (hk : k < 4) (hR : 6 ≤ R.frames ∧ 340 ≤ R.locals) (hf : cells ≤ R.cells ∧ slots ≤ R.slots) (hA : ∀ q, H0.size ≤ q → A q) (hn : n ≤ 2000) {least : Nat} (hle : least ≤ 32) (kk : ∀ (r : Nat) (gl : Int32) (f sp F L : Nat → Int32) (fr ln : Nat → Nat) (H : Heap) (locs : List Loc) (ls : Array Slot), r ≤ 40 → Ar F L fr ln r → St (Ky k g) f fr ln r n → va_P D vCL (WS cI a hB k g (nI r) gl f sp F L) H → va_D A (WS cI a hB k g (nI r) gl f sp F L) → va_S A H0 H locs → lv_has ls 7 [(0, .ref (a 10))] → W p l e R s m args below meth c H locs cells slots Q (F0 m 129 ls [])) : ∀ (fuel e9 : Nat) (r : Nat) (gl : Int32) (f sp F L : Nat → Int32) (fr ln : Nat → Nat) (H : Heap) (locs : List Loc) (ls : Array Slot), n - e9 < fuel → e9 ≤ n → r ≤ 40 → Ar F L fr ln r → St (Ky k g) f fr ln r e9 → Lw ln r → (∀ q, e9 ≤ q → q < n → f q = nI q) → va_P D vCL (WS cI a hB k g (nI r) gl f sp F L) H → va_D A (WS cI a hB k g (nI r) gl f sp F L) → va_S A H0 H locs → lv_has ls 7 [(0, .ref (a 10)), (1, .int (nI n)), (3, .int (nI least)), (4, .int (nI e9))] → W p l e R s m args below meth c H locs cells slots Q (F0 m 24 ls []) := by
  have hx := X.x
  have hb := X.b
  intro fuel
  induction fuel with
  | zero => intro e9 r gl f sp F L fr ln H locs ls h; omega
  | succ fuel ih =>
    intro e9 r gl f sp F L fr ln H locs ls hfu h1 h2 hAr hSt hLw hid hP hD hS hl
    have hr22 : r ≤ 22 := hLw.bound hSt.1 (fun i hi => by have := hSt.le hi; omega)
    refine lv_iload hx hb d_S_sort_24 (lv_at hl 3 rfl) ?_
    refine lv_iload_n hx hb d_S_sort_26 rfl (lv_at hl 1 rfl) ?_
    refine w_icmp_ge (tgt := 129) hx hb d_S_sort_27 (by decide) ⟨by omega, by omega⟩ (fun c1 => ?_) (fun c1 => ?_)
    · have ee : e9 = n := by omega
      subst ee
      exact kk r gl f sp F L fr ln H locs ls h2 hAr hSt hP hD hS (lv_sub hl [0] rfl)
    · refine lv_aload_n hx hb d_S_sort_30 rfl (lv_at hl 0 rfl) ?_
      refine lv_iload hx hb d_S_sort_31 (lv_at hl 3 rfl) ?_
      refine lv_iload_n hx hb d_S_sort_33 rfl (lv_at hl 1 rfl) ?_
      refine wr_i (wr := []) (run_V (C := R_S) X (c_S_run l D cI cJ cO a hB k g (nI r) gl f sp F L H.size e9 n hk c1 hn hid) (cx_B X _ wk_S_39 wi_S_run wc_S_run wd_S_run ⟨by omega, by omega⟩) wm_S_run wl_S_run hP hD [0, 1, 2, 3, 4, 5, 6, 7, 8, 9, 10] rfl (by decide) (rcv X hP (ci := 1) (q0 := 3) rfl rfl) rfl hl.1 rfl (Nat.le_of_ble_eq_true rfl) d_S_sort_34 hf) hP hD hS hA [0, 1, 2, 3, 4, 5, 6, 7, 8, 9, 10] [] rfl rfl (by decide) (fun i h => by cases h) ?_
      clear hP hD hS; intro rr f1 H locs hpost hP hD hS _
      obtain ⟨q, rfl, q1, q2, q3, q4⟩ := hpost
      refine lv_istore (lv' := [(5, .int (nI q)), (0, .ref (a 10)), (1, .int (nI n)), (3, .int (nI least)), (4, .int (nI e9))]) hx hb d_S_sort_37 hl (by decide) rfl ?_
      clear hl; intro ls hl
      refine lv_iload hx hb d_S_sort_39 (lv_at hl 0 rfl) ?_
      refine lv_iload_n hx hb d_S_sort_41 rfl (lv_at hl 3 rfl) ?_
      refine w_icmp_ge (tgt := 83) hx hb d_S_sort_42 (by decide) ⟨by omega, by omega⟩ (fun c2 => ?_) (fun c2 => ?_)
      · refine lv_aload_n hx hb d_S_sort_83 rfl (lv_at hl 1 rfl) ?_
        refine g_S_from X hP 3 rfl rfl d_S_sort_84 ?_
        refine lv_aload_n hx hb d_S_sort_87 rfl (lv_at hl 1 rfl) ?_
        refine g_S_runs X hP 3 rfl rfl d_S_sort_88 ?_
        refine lv_iload hx hb d_S_sort_91 (lv_at hl 4 rfl) ?_
        refine w_ast (ws' := WS cI a hB k g (nI r) gl f1 sp (upd F r (nI e9)) L) X hP hD hS 0 rfl (by omega) (by decide) rfl d_S_sort_93 ?_
        clear hP hD hS; intro H locs hP hD hS
        refine lv_aload_n hx hb d_S_sort_94 rfl (lv_at hl 1 rfl) ?_
        refine g_S_length X hP 3 rfl rfl d_S_sort_95 ?_
        refine lv_aload_n hx hb d_S_sort_98 rfl (lv_at hl 1 rfl) ?_
        refine g_S_runs X hP 3 rfl rfl d_S_sort_99 ?_
        refine lv_iload hx hb d_S_sort_102 (lv_at hl 0 rfl) ?_
        refine w_ast (ws' := WS cI a hB k g (nI r) gl f1 sp (upd F r (nI e9)) (upd L r (nI q))) X hP hD hS 1 rfl (by omega) (by decide) rfl d_S_sort_104 ?_
        clear hP hD hS; intro H locs hP hD hS
        refine lv_aload_n hx hb d_S_sort_105 rfl (lv_at hl 1 rfl) ?_
        refine lv_dup hx hb d_S_sort_106 rfl ?_
        refine g_S_runs X hP 3 rfl rfl d_S_sort_107 ?_
        refine lv_iconst (v := nI 1) hx hb d_S_sort_110 (by decide) ?_
        refine w_add hx hb d_S_sort_111 ?_
        refine p_S_runs (ws' := WS cI a hB k g (nI (r + 1)) gl f1 sp (upd F r (nI e9)) (upd L r (nI q))) X hP hD hS 3 rfl (Nat.le_of_ble_eq_true rfl) rfl d_S_sort_112 ?_
        clear hP hD hS; intro H locs hP hD hS
        refine lv_iload hx hb d_S_sort_115 (lv_at hl 4 rfl) ?_
        refine lv_iload hx hb d_S_sort_117 (lv_at hl 0 rfl) ?_
        refine w_add hx hb d_S_sort_119 ?_
        refine lv_istore (lv' := [(4, .int (nI (e9 + q))), (5, .int (nI q)), (0, .ref (a 10)), (1, .int (nI n)), (3, .int (nI least))]) hx hb d_S_sort_120 hl (by decide) rfl ?_
        clear hl; intro ls hl
        refine lv_aload_n hx hb d_S_sort_122 rfl (lv_at hl 2 rfl) ?_
        have hSt2 := hSt.push (q := q) (by omega) q3 q4
        have hAr2 := hAr.push (v := e9) (q := q)
        have hLw2 := hLw.push (q := q)
        refine wr_v (wr := []) (run_V (C := R_S) X (c_S_settle l D cI cJ cO a hB k g (nI (r + 1)) gl f1 sp (upd F r (nI e9)) (upd L r (nI q)) H.size _ _ (r + 1) (e9 + q) rfl hk (by omega) (by omega) (by omega) hAr2 hSt2 hLw2) (cx_B X _ wk_S_47 wi_S_settle wc_S_settle wd_S_settle ⟨by omega, by omega⟩) wm_S_settle wl_S_settle hP hD [0, 1, 2, 3, 4, 5, 6, 7, 8, 9, 10] rfl (by decide) (rcv X hP (ci := 1) (q0 := 3) rfl rfl) rfl hl.1 rfl (Nat.le_of_ble_eq_true rfl) d_S_sort_123 hf) hP hD hS hA [0, 1, 2, 3, 4, 5, 6, 7, 8, 9, 10] [] rfl rfl (by decide) (fun i h => by cases h) ?_
        clear hP hD hS; intro u H locs hpost hP hD hS _
        obtain ⟨f3, sp3, gl3, F3, L3, fr3, ln3, r3⟩ := u
        obtain ⟨⟨s1, s2⟩, s3, s4, s5, s6⟩ := hpost
        refine lv_goto (tgt := 24) hx hb d_S_sort_126 (by decide) ?_
        exact ih (e9 + q) r3 _ _ _ _ _ _ _ H locs ls (by omega) (by omega) s2 s3 s4 s5 (fun t t1 t2 => (s6 t t1).trans ((q4 t (Or.inr (by omega))).trans (hid t (by omega) t2))) hP hD hS (lv_sub hl [2, 3, 4, 0] rfl)
      · refine lv_iload hx hb d_S_sort_45 (lv_at hl 4 rfl) ?_
        refine lv_iload_n hx hb d_S_sort_47 rfl (lv_at hl 3 rfl) ?_
        refine w_add hx hb d_S_sort_48 ?_
        refine lv_iload_n hx hb d_S_sort_49 rfl (lv_at hl 2 rfl) ?_
        refine w_icmp_ge (tgt := 60) hx hb d_S_sort_50 (by decide) ⟨by omega, by omega⟩ (fun c3 => ?_) (fun c3 => ?_)
        · refine lv_iload_n hx hb d_S_sort_60 rfl (lv_at hl 2 rfl) ?_
          refine lv_istore (lv' := [(6, .int (nI n)), (5, .int (nI q)), (0, .ref (a 10)), (1, .int (nI n)), (3, .int (nI least)), (4, .int (nI e9))]) hx hb d_S_sort_61 hl (by decide) rfl ?_
          clear hl; intro ls hl
          refine lv_aload_n hx hb d_S_sort_63 rfl (lv_at hl 2 rfl) ?_
          refine lv_iload hx hb d_S_sort_64 (lv_at hl 5 rfl) ?_
          refine lv_iload hx hb d_S_sort_66 (lv_at hl 5 rfl) ?_
          refine lv_iload hx hb d_S_sort_68 (lv_at hl 1 rfl) ?_
          refine w_add hx hb d_S_sort_70 ?_
          refine lv_iload hx hb d_S_sort_71 (lv_at hl 0 rfl) ?_
          refine wr_v (wr := []) (run_V (C := R_S) X (c_S_insertion l D cI cJ cO a hB k g (nI r) gl f1 sp F L H.size e9 (e9 + q) (n) hk (by omega) (by omega) (by omega) q3 (fun t t1 t2 => (q4 t (Or.inr t1)).trans (hid t (by omega) (by omega)))) (cx_B X _ wk_S_43 wi_S_insertion wc_S_insertion wd_S_insertion ⟨by omega, by omega⟩) wm_S_insertion wl_S_insertion hP hD [0, 1, 2, 3, 4, 5, 6, 7, 8, 9, 10] rfl (by decide) (rcv X hP (ci := 1) (q0 := 3) rfl rfl) rfl hl.1 rfl (Nat.le_of_ble_eq_true rfl) d_S_sort_73 hf) hP hD hS hA [0, 1, 2, 3, 4, 5, 6, 7, 8, 9, 10] [] rfl rfl (by decide) (fun i h => by cases h) ?_
          clear hP hD hS; intro f2 H locs hpost hP hD hS _
          obtain ⟨i1, i2⟩ := hpost
          have ho : ∀ t, (t < e9 ∨ e9 + (n - e9) ≤ t) → f2 t = f t := fun t ht => (i2 t (by omega)).trans (q4 t (by omega))
          refine lv_iload hx hb d_S_sort_76 (lv_at hl 0 rfl) ?_
          refine lv_iload hx hb d_S_sort_78 (lv_at hl 5 rfl) ?_
          refine w_sub hx hb d_S_sort_80 (by omega) ?_
          refine lv_istore (lv' := [(5, .int (nI (n - e9))), (6, .int (nI n)), (0, .ref (a 10)), (1, .int (nI n)), (3, .int (nI least)), (4, .int (nI e9))]) hx hb d_S_sort_81 hl (by decide) rfl ?_
          clear hl; intro ls hl
          refine lv_aload_n hx hb d_S_sort_83 rfl (lv_at hl 2 rfl) ?_
          refine g_S_from X hP 3 rfl rfl d_S_sort_84 ?_
          refine lv_aload_n hx hb d_S_sort_87 rfl (lv_at hl 2 rfl) ?_
          refine g_S_runs X hP 3 rfl rfl d_S_sort_88 ?_
          refine lv_iload hx hb d_S_sort_91 (lv_at hl 5 rfl) ?_
          refine w_ast (ws' := WS cI a hB k g (nI r) gl f2 sp (upd F r (nI e9)) L) X hP hD hS 0 rfl (by omega) (by decide) rfl d_S_sort_93 ?_
          clear hP hD hS; intro H locs hP hD hS
          refine lv_aload_n hx hb d_S_sort_94 rfl (lv_at hl 2 rfl) ?_
          refine g_S_length X hP 3 rfl rfl d_S_sort_95 ?_
          refine lv_aload_n hx hb d_S_sort_98 rfl (lv_at hl 2 rfl) ?_
          refine g_S_runs X hP 3 rfl rfl d_S_sort_99 ?_
          refine lv_iload hx hb d_S_sort_102 (lv_at hl 0 rfl) ?_
          refine w_ast (ws' := WS cI a hB k g (nI r) gl f2 sp (upd F r (nI e9)) (upd L r (nI (n - e9)))) X hP hD hS 1 rfl (by omega) (by decide) rfl d_S_sort_104 ?_
          clear hP hD hS; intro H locs hP hD hS
          refine lv_aload_n hx hb d_S_sort_105 rfl (lv_at hl 2 rfl) ?_
          refine lv_dup hx hb d_S_sort_106 rfl ?_
          refine g_S_runs X hP 3 rfl rfl d_S_sort_107 ?_
          refine lv_iconst (v := nI 1) hx hb d_S_sort_110 (by decide) ?_
          refine w_add hx hb d_S_sort_111 ?_
          refine p_S_runs (ws' := WS cI a hB k g (nI (r + 1)) gl f2 sp (upd F r (nI e9)) (upd L r (nI (n - e9)))) X hP hD hS 3 rfl (Nat.le_of_ble_eq_true rfl) rfl d_S_sort_112 ?_
          clear hP hD hS; intro H locs hP hD hS
          refine lv_iload hx hb d_S_sort_115 (lv_at hl 5 rfl) ?_
          refine lv_iload hx hb d_S_sort_117 (lv_at hl 0 rfl) ?_
          refine w_add hx hb d_S_sort_119 ?_
          refine lv_istore (lv' := [(4, .int (nI (e9 + (n - e9)))), (5, .int (nI (n - e9))), (6, .int (nI n)), (0, .ref (a 10)), (1, .int (nI n)), (3, .int (nI least))]) hx hb d_S_sort_120 hl (by decide) rfl ?_
          clear hl; intro ls hl
          refine lv_aload_n hx hb d_S_sort_122 rfl (lv_at hl 3 rfl) ?_
          have hSt2 := hSt.push (q := n - e9) (by omega) (by rw [show e9 + (n - e9) = n by omega]; exact i1) ho
          have hAr2 := hAr.push (v := e9) (q := n - e9)
          have hLw2 := hLw.push (q := n - e9)
          refine wr_v (wr := []) (run_V (C := R_S) X (c_S_settle l D cI cJ cO a hB k g (nI (r + 1)) gl f2 sp (upd F r (nI e9)) (upd L r (nI (n - e9))) H.size _ _ (r + 1) (e9 + (n - e9)) rfl hk (by omega) (by omega) (by omega) hAr2 hSt2 hLw2) (cx_B X _ wk_S_47 wi_S_settle wc_S_settle wd_S_settle ⟨by omega, by omega⟩) wm_S_settle wl_S_settle hP hD [0, 1, 2, 3, 4, 5, 6, 7, 8, 9, 10] rfl (by decide) (rcv X hP (ci := 1) (q0 := 3) rfl rfl) rfl hl.1 rfl (Nat.le_of_ble_eq_true rfl) d_S_sort_123 hf) hP hD hS hA [0, 1, 2, 3, 4, 5, 6, 7, 8, 9, 10] [] rfl rfl (by decide) (fun i h => by cases h) ?_
          clear hP hD hS; intro u H locs hpost hP hD hS _
          obtain ⟨f3, sp3, gl3, F3, L3, fr3, ln3, r3⟩ := u
          obtain ⟨⟨s1, s2⟩, s3, s4, s5, s6⟩ := hpost
          refine lv_goto (tgt := 24) hx hb d_S_sort_126 (by decide) ?_
          exact ih (e9 + (n - e9)) r3 _ _ _ _ _ _ _ H locs ls (by omega) (by omega) s2 s3 s4 s5 (fun t t1 t2 => (s6 t t1).trans ((ho t (Or.inr (by omega))).trans (hid t (by omega) t2))) hP hD hS (lv_sub hl [3, 4, 5, 0] rfl)
        · refine lv_iload hx hb d_S_sort_53 (lv_at hl 4 rfl) ?_
          refine lv_iload_n hx hb d_S_sort_55 rfl (lv_at hl 3 rfl) ?_
          refine w_add hx hb d_S_sort_56 ?_
          refine lv_goto (tgt := 61) hx hb d_S_sort_57 (by decide) ?_
          refine lv_istore (lv' := [(6, .int (nI (e9 + least))), (5, .int (nI q)), (0, .ref (a 10)), (1, .int (nI n)), (3, .int (nI least)), (4, .int (nI e9))]) hx hb d_S_sort_61 hl (by decide) rfl ?_
          clear hl; intro ls hl
          refine lv_aload_n hx hb d_S_sort_63 rfl (lv_at hl 2 rfl) ?_
          refine lv_iload hx hb d_S_sort_64 (lv_at hl 5 rfl) ?_
          refine lv_iload hx hb d_S_sort_66 (lv_at hl 5 rfl) ?_
          refine lv_iload hx hb d_S_sort_68 (lv_at hl 1 rfl) ?_
          refine w_add hx hb d_S_sort_70 ?_
          refine lv_iload hx hb d_S_sort_71 (lv_at hl 0 rfl) ?_
          refine wr_v (wr := []) (run_V (C := R_S) X (c_S_insertion l D cI cJ cO a hB k g (nI r) gl f1 sp F L H.size e9 (e9 + q) (e9 + least) hk (by omega) (by omega) (by omega) q3 (fun t t1 t2 => (q4 t (Or.inr t1)).trans (hid t (by omega) (by omega)))) (cx_B X _ wk_S_43 wi_S_insertion wc_S_insertion wd_S_insertion ⟨by omega, by omega⟩) wm_S_insertion wl_S_insertion hP hD [0, 1, 2, 3, 4, 5, 6, 7, 8, 9, 10] rfl (by decide) (rcv X hP (ci := 1) (q0 := 3) rfl rfl) rfl hl.1 rfl (Nat.le_of_ble_eq_true rfl) d_S_sort_73 hf) hP hD hS hA [0, 1, 2, 3, 4, 5, 6, 7, 8, 9, 10] [] rfl rfl (by decide) (fun i h => by cases h) ?_
          clear hP hD hS; intro f2 H locs hpost hP hD hS _
          obtain ⟨i1, i2⟩ := hpost
          have ho : ∀ t, (t < e9 ∨ e9 + ((e9 + least) - e9) ≤ t) → f2 t = f t := fun t ht => (i2 t (by omega)).trans (q4 t (by omega))
          refine lv_iload hx hb d_S_sort_76 (lv_at hl 0 rfl) ?_
          refine lv_iload hx hb d_S_sort_78 (lv_at hl 5 rfl) ?_
          refine w_sub hx hb d_S_sort_80 (by omega) ?_
          refine lv_istore (lv' := [(5, .int (nI (e9 + least - e9))), (6, .int (nI (e9 + least))), (0, .ref (a 10)), (1, .int (nI n)), (3, .int (nI least)), (4, .int (nI e9))]) hx hb d_S_sort_81 hl (by decide) rfl ?_
          clear hl; intro ls hl
          refine lv_aload_n hx hb d_S_sort_83 rfl (lv_at hl 2 rfl) ?_
          refine g_S_from X hP 3 rfl rfl d_S_sort_84 ?_
          refine lv_aload_n hx hb d_S_sort_87 rfl (lv_at hl 2 rfl) ?_
          refine g_S_runs X hP 3 rfl rfl d_S_sort_88 ?_
          refine lv_iload hx hb d_S_sort_91 (lv_at hl 5 rfl) ?_
          refine w_ast (ws' := WS cI a hB k g (nI r) gl f2 sp (upd F r (nI e9)) L) X hP hD hS 0 rfl (by omega) (by decide) rfl d_S_sort_93 ?_
          clear hP hD hS; intro H locs hP hD hS
          refine lv_aload_n hx hb d_S_sort_94 rfl (lv_at hl 2 rfl) ?_
          refine g_S_length X hP 3 rfl rfl d_S_sort_95 ?_
          refine lv_aload_n hx hb d_S_sort_98 rfl (lv_at hl 2 rfl) ?_
          refine g_S_runs X hP 3 rfl rfl d_S_sort_99 ?_
          refine lv_iload hx hb d_S_sort_102 (lv_at hl 0 rfl) ?_
          refine w_ast (ws' := WS cI a hB k g (nI r) gl f2 sp (upd F r (nI e9)) (upd L r (nI (e9 + least - e9)))) X hP hD hS 1 rfl (by omega) (by decide) rfl d_S_sort_104 ?_
          clear hP hD hS; intro H locs hP hD hS
          refine lv_aload_n hx hb d_S_sort_105 rfl (lv_at hl 2 rfl) ?_
          refine lv_dup hx hb d_S_sort_106 rfl ?_
          refine g_S_runs X hP 3 rfl rfl d_S_sort_107 ?_
          refine lv_iconst (v := nI 1) hx hb d_S_sort_110 (by decide) ?_
          refine w_add hx hb d_S_sort_111 ?_
          refine p_S_runs (ws' := WS cI a hB k g (nI (r + 1)) gl f2 sp (upd F r (nI e9)) (upd L r (nI (e9 + least - e9)))) X hP hD hS 3 rfl (Nat.le_of_ble_eq_true rfl) rfl d_S_sort_112 ?_
          clear hP hD hS; intro H locs hP hD hS
          refine lv_iload hx hb d_S_sort_115 (lv_at hl 5 rfl) ?_
          refine lv_iload hx hb d_S_sort_117 (lv_at hl 0 rfl) ?_
          refine w_add hx hb d_S_sort_119 ?_
          refine lv_istore (lv' := [(4, .int (nI (e9 + (e9 + least - e9)))), (5, .int (nI (e9 + least - e9))), (6, .int (nI (e9 + least))), (0, .ref (a 10)), (1, .int (nI n)), (3, .int (nI least))]) hx hb d_S_sort_120 hl (by decide) rfl ?_
          clear hl; intro ls hl
          refine lv_aload_n hx hb d_S_sort_122 rfl (lv_at hl 3 rfl) ?_
          have hSt2 := hSt.push (q := (e9 + least) - e9) (by omega) (by rw [show e9 + ((e9 + least) - e9) = e9 + least by omega]; exact i1) ho
          have hAr2 := hAr.push (v := e9) (q := (e9 + least) - e9)
          have hLw2 := hLw.push (q := (e9 + least) - e9)
          refine wr_v (wr := []) (run_V (C := R_S) X (c_S_settle l D cI cJ cO a hB k g (nI (r + 1)) gl f2 sp (upd F r (nI e9)) (upd L r (nI (e9 + least - e9))) H.size _ _ (r + 1) (e9 + ((e9 + least) - e9)) rfl hk (by omega) (by omega) (by omega) hAr2 hSt2 hLw2) (cx_B X _ wk_S_47 wi_S_settle wc_S_settle wd_S_settle ⟨by omega, by omega⟩) wm_S_settle wl_S_settle hP hD [0, 1, 2, 3, 4, 5, 6, 7, 8, 9, 10] rfl (by decide) (rcv X hP (ci := 1) (q0 := 3) rfl rfl) rfl hl.1 rfl (Nat.le_of_ble_eq_true rfl) d_S_sort_123 hf) hP hD hS hA [0, 1, 2, 3, 4, 5, 6, 7, 8, 9, 10] [] rfl rfl (by decide) (fun i h => by cases h) ?_
          clear hP hD hS; intro u H locs hpost hP hD hS _
          obtain ⟨f3, sp3, gl3, F3, L3, fr3, ln3, r3⟩ := u
          obtain ⟨⟨s1, s2⟩, s3, s4, s5, s6⟩ := hpost
          refine lv_goto (tgt := 24) hx hb d_S_sort_126 (by decide) ?_
          exact ih (e9 + ((e9 + least) - e9)) r3 _ _ _ _ _ _ _ H locs ls (by omega) (by omega) s2 s3 s4 s5 (fun t t1 t2 => (s6 t t1).trans ((ho t (Or.inr (by omega))).trans (hid t (by omega) t2))) hP hD hS (lv_sub hl [3, 4, 5, 0] rfl)
end ST
set_option maxHeartbeats 4000000 in
/-- Sorter.sort(n, order): the first n cells, places 0 .. n - 1, come into their order -/
theorem c_S_sort (l : Launch) (D : va_G) (cI cJ cO : ClassId) (a : Nat → Nat) (hB k : Nat) (g : Nat → Int32) (ov : Value) (r0 gl : Int32) (f0 fSp fF fL : Nat → Int32) (sz n : Nat) (hk : k < 4) (hn : n ≤ 2000) (hid : ∀ q, q < n → f0 q = nI q) : Met l y_S_sort [Cond.code y_S_sort b_S_sort 7 none] (rk 6 0 0) (PW D cI cJ cO [.ref (a 10), .int (nI n), .ref hB] sz (WT cI a hB k g ov r0 gl f0 fSp fF fL)) (va_Qv (fun u : (Nat → Int32) × (Nat → Int32) × Int32 × (Nat → Int32) × (Nat → Int32) × Int32 => Sg (Ky k g) u.1 0 n ∧ In u.1 0 n 0 n) (BW D (va_A (WT cI a hB k g ov r0 gl f0 fSp fF fL) sz) (fun u => WS cI a hB k g u.2.2.2.2.2 u.2.2.1 u.1 u.2.1 u.2.2.2.1 u.2.2.2.2.1)) (va_A (WT cI a hB k g ov r0 gl f0 fSp fF fL) sz)) 0 0 (va_A (WT cI a hB k g ov r0 gl f0 fSp fF fL) sz) := by
  refine entW (by decide) (Nat.le_of_ble_eq_true rfl) ?_
  intro p e s m below meth c ls X hr hlocks hnm hsz hP hD hA hl
  have hx := X.x
  have hb := X.b
  have hR : 6 ≤ (rk 6 0 0).frames ∧ 340 ≤ (rk 6 0 0).locals := by decide
  have hf : 0 ≤ (rk 6 0 0).cells ∧ 0 ≤ (rk 6 0 0).slots := by decide
  have hS : va_S (va_A (WT cI a hB k g ov r0 gl f0 fSp fF fL) sz) s.heap s.heap [] := va_S.rf
  generalize hAe : va_A (WT cI a hB k g ov r0 gl f0 fSp fF fL) sz = A at hP hD hA hS ⊢
  have hl : lv_has ls 7 [(0, .ref (a 10)), (1, .int (nI n)), (2, .ref hB)] := hl
  refine lv_aload_n hx hb d_S_sort_0 rfl (lv_at hl 0 rfl) ?_
  refine lv_aload_n hx hb d_S_sort_1 rfl (lv_at hl 2 rfl) ?_
  refine p_S_order (ws' := WS cI a hB k g r0 gl f0 fSp fF fL) X hP hD hS 3 rfl (Nat.le_of_ble_eq_true rfl) rfl d_S_sort_2 ?_
  clear hP hD hS; intro H locs hP hD hS
  refine lv_aload_n hx hb d_S_sort_5 rfl (lv_at hl 0 rfl) ?_
  refine lv_iconst (v := nI 0) hx hb d_S_sort_6 (by decide) ?_
  refine p_S_runs (ws' := WS cI a hB k g (nI 0) gl f0 fSp fF fL) X hP hD hS 3 rfl (Nat.le_of_ble_eq_true rfl) rfl d_S_sort_7 ?_
  clear hP hD hS; intro H locs hP hD hS
  refine lv_aload_n hx hb d_S_sort_10 rfl (lv_at hl 0 rfl) ?_
  refine lv_bipush (v := nI 7) hx hb d_S_sort_11 (by decide) ?_
  refine p_S_gallop (ws' := WS cI a hB k g (nI 0) (nI 7) f0 fSp fF fL) X hP hD hS 3 rfl (Nat.le_of_ble_eq_true rfl) rfl d_S_sort_13 ?_
  clear hP hD hS; intro H locs hP hD hS
  refine lv_iload_n hx hb d_S_sort_16 rfl (lv_at hl 1 rfl) ?_
  refine rd_S X (c_S_shortest l D cI cJ cO n hn) (cx_B X _ wk_S_35 wi_S_shortest wc_S_shortest wd_S_shortest ⟨by omega, by omega⟩) ws_S_shortest P_nil rfl hl.1 rfl (Nat.le_of_ble_eq_true rfl) d_S_sort_17 hf (fun rr hrr => ?_)
  obtain ⟨least, rfl, hle⟩ := hrr
  refine lv_istore_n (lv' := [(3, .int (nI least)), (0, .ref (a 10)), (1, .int (nI n)), (2, .ref hB)]) hx hb d_S_sort_20 rfl hl (by decide) rfl ?_
  clear hl; intro ls hl
  refine lv_iconst (v := nI 0) hx hb d_S_sort_21 (by decide) ?_
  refine lv_istore (lv' := [(4, .int (nI 0)), (3, .int (nI least)), (0, .ref (a 10)), (1, .int (nI n)), (2, .ref hB)]) hx hb d_S_sort_22 hl (by decide) rfl ?_
  clear hl; intro ls hl
  refine l_sort1 X hk hR hf hA hn hle ?_ (n + 1) 0 0 _ f0 fSp fF fL (fun _ => 0) (fun _ => 0) _ _ ls (by omega) (by omega) (by omega) (fun i hi => by omega) ⟨fun i hi => by omega, fun h => by omega, fun i hi => by omega, fun _ => rfl, fun h => by omega, fun i hi => by omega⟩ ⟨fun i hi => by omega, fun i hi => by omega⟩ (fun q _ hq => hid q hq) hP hD hS (lv_sub hl [2, 3, 1, 0] rfl)
  clear hP hD hS hl; intro r gl f sp F L fr ln H locs ls h2 hAr hSt hP hD hS hl
  refine l_sort2 X hk hR hf hA hn ?_ (r + 1) r gl f sp F L fr ln H locs ls (by omega) h2 hAr hSt hP hD hS hl
  clear h2 hAr hSt hP hD hS hl; intro r gl f sp F L fr ln H locs ls h2 hAr hSt hP hD hS
  have hfin : Rn (Ky k g) f 0 n := by
    rcases (show r = 0 ∨ r = 1 by omega) with rfl | rfl
    · have e0 := hSt.2.2.2.1 rfl
      subst e0
      exact ⟨fun i j _ _ h => by omega, fun i _ h => by omega⟩
    · have e1 := hSt.2.1 (by omega)
      have e2 : fr 0 + ln 0 = n := hSt.2.2.2.2.1 (by omega)
      have e3 : Rn (Ky k g) f (fr 0) (fr 0 + ln 0) := hSt.2.2.2.2.2 0 (by omega)
      rw [e2, e1] at e3
      exact e3
  exact W.vret hx hb hr (fun t ht hW => ⟨⟨(f, sp, gl, F, L, nI r), rfl, hfin, by rw [ht]; exact hP, hD⟩, hS.F ht⟩) hS.2.2 d_S_sort_192
end
section
/-! the guards in and within: they pass, or they throw -/
def IAE : String := "java/lang/IllegalArgumentException"
def IOB : String := "java/lang/IndexOutOfBoundsException"
def zl : List Cond := [Cond.laysStatic "java/lang/Throwable" "UNASSIGNED_STACK" "[Ljava/lang/StackTraceElement;", Cond.laysStatic "java/lang/Throwable" "SUPPRESSED_SENTINEL" "Ljava/util/List;", Cond.isRef (.static "java/lang/Throwable" "UNASSIGNED_STACK" "[Ljava/lang/StackTraceElement;"), Cond.isRef (.static "java/lang/Throwable" "SUPPRESSED_SENTINEL" "Ljava/util/List;")]
theorem zl_any {U : State} (h : zs U) (A : Array Value) : ∀ w ∈ zl, w.before A U = true := by
  intro w hw
  simp only [zl, List.mem_cons, List.not_mem_nil, or_false] at hw
  rcases hw with rfl | rfl | rfl | rfl
  · exact h.1
  · exact h.2.1
  · exact h.2.2.1
  · exact h.2.2.2
def exN : List String := ["java/lang/RuntimeException", "java/lang/Exception"]
set_option maxRecDepth 20000 in
theorem oa_in : ((Bundle.ownAtoms0 R_R 49 IAE exN).all fun w => decide (w ∈ am_l) || decide (w ∈ zl)) = true := by decide +kernel
set_option maxRecDepth 20000 in
theorem oa_within : ((Bundle.ownAtoms0 R_R 52 IOB exN).all fun w => decide (w ∈ am_l) || decide (w ∈ zl)) = true := by decide +kernel
theorem oa_use {L : List Cond} (h : (L.all fun w => decide (w ∈ am_l) || decide (w ∈ zl)) = true) {s : State} (hA : AM s) (hz : zs s) (args : Array Value) : ∀ w ∈ L, w.before args s = true := fun w hw => by
  have h1 := List.all_eq_true.mp h w hw
  simp only [Bool.or_eq_true, decide_eq_true_eq] at h1
  rcases h1 with h1 | h1
  · exact hA.use args w h1
  · exact zl_any hz args w h1
theorem fit_n : ∀ x ∈ exN, Bundle.fit x = true := by decide +kernel
theorem fit_IAE : Bundle.fit IAE = true := by decide +kernel
theorem fit_IOB : Bundle.fit IOB = true := by decide +kernel
/-- a thrower's start -/
def PT (D : va_G) (cI cJ cO : ClassId) (av : List Value) (ws : va_W) : Array Value → State → Prop := va_Pc av (fun U => va_P D vCL ws U.heap ∧ va_K D vCL (vTY cI cJ cO) U ∧ AM U ∧ zs U)
theorem PT.blind {D : va_G} {cI cJ cO : ClassId} {av : List Value} {ws : va_W} : FrameBlind (PT D cI cJ cO av ws) := fun a U g mk q => by
  obtain ⟨q0, qP, qK, qA, qz⟩ := q
  exact ⟨q0, qP, va_K.moved (u := U) (U := U.calling g mk a) (Vm.Alike.refl U.vm) qK, qA.blind, zs.move (s := U) (U := U.calling g mk a) (Vm.Alike.refl U.vm) (fun _ _ h => h) qz⟩
theorem PT.at {D : va_G} {cI cJ cO : ClassId} {av : List Value} {ws : va_W} {s : State} {H : Heap} (hP : va_P D vCL ws H) (hK : va_K D vCL (vTY cI cJ cO) s) (hA : AM s) (hz : zs s) (hh : ∀ (q : Nat) (c : Cell), s.heap[q]? = some c → H[q]? = some c) : ∀ U : State, U.heap = H → s.WarmedH U.vm → PT D cI cJ cO av ws av.toArray U :=
  fun U hU hW => ⟨rfl, by rw [hU]; exact hP, va_K.moved hW.alike hK, AM.warm hW hA, zs.move hW.alike (by rw [hU]; exact hh) hz⟩
theorem entT {l : Launch} {y : MethodName} {cc : ByteArray} {maxL : Nat} {ret : Option FieldType} {rm : Room} {D : va_G} {cI cJ cO : ClassId} {av : List Value} {ws : va_W} {Xn : String} {mc ms : Nat} (hy : plainName y.cls = true) (hlen : (lg_sl av).length ≤ maxL)
    (body : ∀ (p : Program) (e : Env) (s : State) (m : MethodId) (below : List Frame) (meth : Method) (c : Code) (ls : Array Slot), Cx D cI cJ cO p s m c cc maxL y.cls → meth.locks = false → c.exceptionTable.isEmpty = true → zs s → va_P D vCL ws s.heap → lv_has ls maxL (lv_args 0 av) →
      W p l e rm s m av.toArray below meth c s.heap [] 0 0 (TQ below Xn s mc ms) (F0 m 0 ls [])) : MetT l y [Cond.code y cc maxL ret] rm (PT D cI cJ cO av ws) Xn mc ms := by
  refine MetT.ofW hy ?_
  intro p e s m args below meth c s₁ B hml hv
  obtain ⟨rfl, hP, hK, hA, hz⟩ := hv
  have hl := lv_entry av (n := maxL) hlen
  rw [lg_entry_eq]
  exact body p e s m below meth c _ ⟨B.exec, B.bytes, hml, findClass_of_methodNamed B.named, hK, hA⟩ B.notSynchronized (B.noHandlers (atoms_spec (ws := [Cond.code y cc maxL ret]) B.pre _ List.mem_cons_self)) hz hP hl
theorem c_R_in (l : Launch) (D : va_G) (cI cJ cO : ClassId) (v lo hi : Int32) (h1 : ¬ v < lo) (h2 : v ≤ hi) : Met l y_R_in [Cond.code y_R_in b_R_in 3 none] (rk 8 0 0) (PR D cI cJ cO [.int v, .int lo, .int hi] []) (va_Sv (fun _ => True)) 0 0 (fun _ => False) := by
  refine entR (by decide) (Nat.le_of_ble_eq_true rfl) ?_
  intro p e s m below meth c ls X hr hlocks hP hl
  have hx := X.x
  have hb := X.b
  have hl : lv_has ls 3 [(0, .int v), (1, .int lo), (2, .int hi)] := hl
  refine lv_iload_n hx hb d_R_in_0 rfl (lv_at hl 0 rfl) ?_
  refine lv_iload_n hx hb d_R_in_1 rfl (lv_at hl 1 rfl) ?_
  refine lv_icmp_lt (tgt := 10) hx hb d_R_in_2 (by decide) (fun c1 => ?_) (fun c1 => ?_)
  · exact absurd c1 h1
  · refine lv_iload_n hx hb d_R_in_5 rfl (lv_at hl 0 rfl) ?_
    refine lv_iload_n hx hb d_R_in_6 rfl (lv_at hl 2 rfl) ?_
    refine lv_icmp_le (tgt := 18) hx hb d_R_in_7 (by decide) (fun c2 => ?_) (fun c2 => ?_)
    · exact W.vret hx hb hr (fun t ht _ => ⟨rfl, trivial, ht⟩) (fun q h => by cases h) d_R_in_18
    · exact absurd h2 c2
theorem c_R_within (l : Launch) (D : va_G) (cI cJ cO : ClassId) (v : Int32) (h1 : ¬ v = 0) : Met l y_R_within [Cond.code y_R_within b_R_within 1 none] (rk 8 0 0) (PR D cI cJ cO [.int v] []) (va_Sv (fun _ => True)) 0 0 (fun _ => False) := by
  refine entR (by decide) (Nat.le_of_ble_eq_true rfl) ?_
  intro p e s m below meth c ls X hr hlocks hP hl
  have hx := X.x
  have hb := X.b
  have hl : lv_has ls 1 [(0, .int v)] := hl
  refine lv_iload_n hx hb d_R_within_0 rfl (lv_at hl 0 rfl) ?_
  refine lv_if_ne (tgt := 12) hx hb d_R_within_1 (by decide) (fun c1 => ?_) (fun c1 => ?_)
  · exact W.vret hx hb hr (fun t ht _ => ⟨rfl, trivial, ht⟩) (fun q h => by cases h) d_R_within_12
  · exact absurd c1 h1
theorem t_R_in (l : Launch) (D : va_G) (cI cJ cO : ClassId) (hfl : l.flags = flags0) (v lo hi : Int32) (h1 : v < lo ∨ ¬ v ≤ hi) : MetT l y_R_in [Cond.code y_R_in b_R_in 3 none] (rk 8 1 6) (PT D cI cJ cO [.int v, .int lo, .int hi] []) IAE 1 6 := by
  refine entT (by decide) (Nat.le_of_ble_eq_true rfl) ?_
  intro p e s m below meth c ls X hlocks htab hz hP hl
  have hx := X.x
  have hb := X.b
  have hl : lv_has ls 3 [(0, .int v), (1, .int lo), (2, .int hi)] := hl
  refine lv_iload_n hx hb d_R_in_0 rfl (lv_at hl 0 rfl) ?_
  refine lv_iload_n hx hb d_R_in_1 rfl (lv_at hl 1 rfl) ?_
  refine lv_icmp_lt (tgt := 10) hx hb d_R_in_2 (by decide) (fun c1 => ?_) (fun c1 => ?_)
  · exact ex_throw (ci := 47) (ic := 49) (names := exN) hx hb hfl X.o fit_IAE fit_n (oa_use oa_in X.am hz _) (X.w q_123 _) (X.w q_124 _) (X.w q_11 _) htab (hl.1.trans X.ml.symm) hlocks d_R_in_10 d_R_in_13 d_R_in_14 d_R_in_17 (by decide) (by decide) (by decide)
  · refine lv_iload_n hx hb d_R_in_5 rfl (lv_at hl 0 rfl) ?_
    refine lv_iload_n hx hb d_R_in_6 rfl (lv_at hl 2 rfl) ?_
    refine lv_icmp_le (tgt := 18) hx hb d_R_in_7 (by decide) (fun c2 => ?_) (fun c2 => ?_)
    · exact absurd h1 (fun z => z.elim c1 (fun y => y c2))
    · exact ex_throw (ci := 47) (ic := 49) (names := exN) hx hb hfl X.o fit_IAE fit_n (oa_use oa_in X.am hz _) (X.w q_123 _) (X.w q_124 _) (X.w q_11 _) htab (hl.1.trans X.ml.symm) hlocks d_R_in_10 d_R_in_13 d_R_in_14 d_R_in_17 (by decide) (by decide) (by decide)
theorem t_R_within (l : Launch) (D : va_G) (cI cJ cO : ClassId) (hfl : l.flags = flags0) (v : Int32) (h1 : v = 0) : MetT l y_R_within [Cond.code y_R_within b_R_within 1 none] (rk 8 1 6) (PT D cI cJ cO [.int v] []) IOB 1 6 := by
  refine entT (by decide) (Nat.le_of_ble_eq_true rfl) ?_
  intro p e s m below meth c ls X hlocks htab hz hP hl
  have hx := X.x
  have hb := X.b
  have hl : lv_has ls 1 [(0, .int v)] := hl
  refine lv_iload_n hx hb d_R_within_0 rfl (lv_at hl 0 rfl) ?_
  refine lv_if_ne (tgt := 12) hx hb d_R_within_1 (by decide) (fun c1 => ?_) (fun c1 => ?_)
  · exact absurd h1 c1
  · exact ex_throw (ci := 50) (ic := 52) (names := exN) hx hb hfl X.o fit_IOB fit_n (oa_use oa_within X.am hz _) (X.w q_188 _) (X.w q_189 _) (X.w q_12 _) htab (hl.1.trans X.ml.symm) hlocks d_R_within_4 d_R_within_7 d_R_within_8 d_R_within_11 (by decide) (by decide) (by decide)
end
section
/-! RunSorter's small members: add, fill, scatter, get, tag, set, clear, hash -/
def WN (cI : ClassId) (a : Nat → Nat) (sz : Nat) (fN fT : Nat → Int32) : va_W := [(a 0, .inr (0, [.ref (a 5), .ref (a 10), .ref (a 1), .ref (a 2), .ref (a 3), .ref (a 4), .int (nI sz)])), (a 1, .inl (cI, 2000, .inl fN)), (a 2, .inl (cI, 2000, .inl fT))]
def og (a : Nat → Nat) : Nat → Option Nat := va_up (va_up (va_up (va_up (fun _ => none) 0 (some (a 6))) 1 (some (a 7))) 2 (some (a 8))) 3 (some (a 9))
def WU (cI cO : ClassId) (a : Nat → Nat) (sz : Nat) (fN fT : Nat → Int32) : va_W := [(a 0, .inr (0, [.ref (a 5), .ref (a 10), .ref (a 1), .ref (a 2), .ref (a 3), .ref (a 4), .int (nI sz)])), (a 1, .inl (cI, 2000, .inl fN)), (a 2, .inl (cI, 2000, .inl fT)), (a 5, .inl (cO, 4, .inr (.inr (.inr (.inr (og a)))))), (a 6, .inr (3, [])), (a 7, .inr (4, [])), (a 8, .inr (5, [])), (a 9, .inr (6, []))]
def FL (f : Nat → Int32) (sz n : Nat) (h : Nat → Int32) (q : Nat) : Int32 := if sz ≤ q ∧ q < sz + n then h (q - sz) else f q
theorem FL_0 {f h : Nat → Int32} {sz : Nat} : ∀ q, f q = FL f sz 0 h q := fun q => by unfold FL; rw [if_neg (by omega)]
theorem FL_step {f f' h : Nat → Int32} {sz i : Nat} (hh : ∀ q, f' q = FL f sz i h q) {v : Int32} (hv : v = h i) : ∀ q, upd f' (sz + i) v q = FL f sz (i + 1) h q := fun q => by
  rcases Nat.lt_trichotomy q (sz + i) with z | z | z
  · rw [pk_un (by omega), hh]
    unfold FL
    rcases Nat.lt_or_ge q sz with y | y
    · rw [if_neg (by omega), if_neg (by omega)]
    · rw [if_pos (by omega), if_pos (by omega)]
  · rw [z, pk_us]
    unfold FL
    rw [if_pos (by omega), hv]
    congr 1
    omega
  · rw [pk_un (by omega), hh]
    unfold FL
    rw [if_neg (by omega), if_neg (by omega)]
def sc (v : Int32) : Nat → Int32
  | 0 => v
  | i + 1 => 1664525 * sc v i + 1013904223
def sv (bt s : Int32) : Int32 := (s.toUInt32 >>> ((nI 16).toUInt32 &&& Int32.toUInt32 31)).toInt32 &&& ((nI 1 <<< (bt &&& 31)) - nI 1)
def hs (f t : Nat → Int32) : Nat → Int32
  | 0 => nI 1
  | i + 1 => nI 31 * (nI 31 * hs f t i + f i) + t i
theorem hs_eq {f t f' t' : Nat → Int32} : ∀ n : Nat, (∀ q, q < n → f q = f' q) → (∀ q, q < n → t q = t' q) → hs f t n = hs f' t' n := fun n => by
  induction n with
  | zero => intro _ _; rfl
  | succ n ih => intro h1 h2; show nI 31 * (nI 31 * hs f t n + f n) + t n = nI 31 * (nI 31 * hs f' t' n + f' n) + t' n; rw [ih (fun q hq => h1 q (by omega)) (fun q hq => h2 q (by omega)), h1 n (by omega), h2 n (by omega)]
theorem c_R_add (l : Launch) (D : va_G) (cI cJ cO : ClassId) (a : Nat → Nat) (sz9 sz : Nat) (fN fT : Nat → Int32) (v : Int32) (hsz0 : sz < 2000) : Met l y_R_add [Cond.code y_R_add b_R_add 2 none] (rk 8 0 0) (PW D cI cJ cO [.ref (a 0), .int v] sz9 (WN cI a sz fN fT)) (va_Qv (fun _ : Unit => True) (BW D (va_A (WN cI a sz fN fT) sz9) (fun _ => WN cI a (sz + 1) (upd fN sz v) (upd fT sz (nI sz)))) (va_A (WN cI a sz fN fT) sz9)) 0 0 (va_A (WN cI a sz fN fT) sz9) := by
  refine entW (by decide) (Nat.le_of_ble_eq_true rfl) ?_
  intro p e s m below meth c ls X hr hlocks hnm hsz hP hD hA hl
  have hx := X.x
  have hb := X.b
  have hR : 8 ≤ (rk 8 0 0).frames ∧ 420 ≤ (rk 8 0 0).locals := by decide
  have hf : 0 ≤ (rk 8 0 0).cells ∧ 0 ≤ (rk 8 0 0).slots := by decide
  have hS : va_S (va_A (WN cI a sz fN fT) sz9) s.heap s.heap [] := va_S.rf
  generalize hAe : va_A (WN cI a sz fN fT) sz9 = A at hP hD hA hS ⊢
  have hl : lv_has ls 2 [(0, .ref (a 0)), (1, .int v)] := hl
  refine lv_aload_n hx hb d_R_add_0 rfl (lv_at hl 0 rfl) ?_
  refine g_R_numbers X hP 0 rfl rfl d_R_add_1 ?_
  refine lv_aload_n hx hb d_R_add_4 rfl (lv_at hl 0 rfl) ?_
  refine g_R_size X hP 0 rfl rfl d_R_add_5 ?_
  refine lv_iload_n hx hb d_R_add_8 rfl (lv_at hl 1 rfl) ?_
  refine w_ast (ws' := WN cI a sz (upd fN sz v) fT) X hP hD hS 1 rfl (by omega) (by decide) rfl d_R_add_9 ?_
  clear hP hD hS; intro H locs hP hD hS
  refine lv_aload_n hx hb d_R_add_10 rfl (lv_at hl 0 rfl) ?_
  refine g_R_tags X hP 0 rfl rfl d_R_add_11 ?_
  refine lv_aload_n hx hb d_R_add_14 rfl (lv_at hl 0 rfl) ?_
  refine g_R_size X hP 0 rfl rfl d_R_add_15 ?_
  refine lv_aload_n hx hb d_R_add_18 rfl (lv_at hl 0 rfl) ?_
  refine g_R_size X hP 0 rfl rfl d_R_add_19 ?_
  refine w_ast (ws' := WN cI a sz (upd fN sz v) (upd fT sz (nI sz))) X hP hD hS 2 rfl (by omega) (by decide) rfl d_R_add_22 ?_
  clear hP hD hS; intro H locs hP hD hS
  refine lv_aload_n hx hb d_R_add_23 rfl (lv_at hl 0 rfl) ?_
  refine lv_dup hx hb d_R_add_24 rfl ?_
  refine g_R_size X hP 0 rfl rfl d_R_add_25 ?_
  refine lv_iconst (v := nI 1) hx hb d_R_add_28 (by decide) ?_
  refine w_add hx hb d_R_add_29 ?_
  refine p_R_size (ws' := WN cI a (sz + 1) (upd fN sz v) (upd fT sz (nI sz))) X hP hD hS 0 rfl (Nat.le_of_ble_eq_true rfl) rfl d_R_add_30 ?_
  clear hP hD hS; intro H locs hP hD hS
  exact W.vret hx hb hr (fun t9 ht hW => ⟨⟨(), rfl, trivial, by rw [ht]; exact hP, hD⟩, hS.F ht⟩) hS.2.2 d_R_add_33
section SM
variable {D : va_G} {cI cJ cO : ClassId} {p : Program} {l : Launch} {e : Env} {R : Room} {s : State} {m : MethodId} {args : Array Value} {below : List Frame} {meth : Method} {c : Code} {cells slots : Nat} {Q : State → Prop}
variable {a : Nat → Nat} {A : Nat → Prop} {H0 : Heap}
set_option maxHeartbeats 4000000 in
theorem l_R_fill {sz n : Nat} {v st : Int32} {fN fT : Nat → Int32} (X : Cx D cI cJ cO p s m c b_R_fill 5 R_R) (hR : 9 ≤ R.frames ∧ 460 ≤ R.locals) (hf : cells ≤ R.cells ∧ slots ≤ R.slots) (hA : ∀ q, H0.size ≤ q → A q) (hn : sz + n ≤ 2000) (kk : ∀ (f t : Nat → Int32) (H : Heap) (locs : List Loc) (ls : Array Slot), (∀ q, f q = FL fN sz n (fun j => v + nI j * st) q) → (∀ q, t q = FL fT sz n (fun j => nI (sz + j)) q) → va_P D vCL (WN cI a (sz + n) f t) H → va_D A (WN cI a (sz + n) f t) → va_S A H0 H locs → lv_has ls 5 [(0, .ref (a 0))] → W p l e R s m args below meth c H locs cells slots Q (F0 m 53 ls [])) : ∀ (fuel : Nat) (i : Nat) (f t : Nat → Int32) (H : Heap) (locs : List Loc) (ls : Array Slot), n - i < fuel → i ≤ n → (∀ q, f q = FL fN sz i (fun j => v + nI j * st) q) → (∀ q, t q = FL fT sz i (fun j => nI (sz + j)) q) → va_P D vCL (WN cI a (sz + i) f t) H → va_D A (WN cI a (sz + i) f t) → va_S A H0 H locs → lv_has ls 5 [(0, .ref (a 0)), (1, .int v), (2, .int st), (3, .int (nI n)), (4, .int (nI i))] → W p l e R s m args below meth c H locs cells slots Q (F0 m 31 ls []) := by
  have hx := X.x
  have hb := X.b
  intro fuel
  induction fuel with
  | zero => intro i f t H locs ls h; omega
  | succ fuel ih =>
    intro i f t H locs ls hfu hi h1 h2 hP hD hS hl
    refine lv_iload hx hb d_R_fill_31 (lv_at hl 4 rfl) ?_
    refine lv_iload_n hx hb d_R_fill_33 rfl (lv_at hl 3 rfl) ?_
    refine w_icmp_ge (tgt := 53) hx hb d_R_fill_34 (by decide) ⟨by omega, by omega⟩ (fun c1 => ?_) (fun c1 => ?_)
    · have ee : i = n := by omega
      subst ee
      exact kk f t H locs ls h1 h2 hP hD hS (lv_sub hl [0] rfl)
    · refine lv_aload_n hx hb d_R_fill_37 rfl (lv_at hl 0 rfl) ?_
      refine lv_iload_n hx hb d_R_fill_38 rfl (lv_at hl 1 rfl) ?_
      refine lv_iload hx hb d_R_fill_39 (lv_at hl 4 rfl) ?_
      refine lv_iload_n hx hb d_R_fill_41 rfl (lv_at hl 2 rfl) ?_
      refine lv_imul hx hb d_R_fill_42 ?_
      refine lv_iadd hx hb d_R_fill_43 ?_
      refine wr_v (wr := []) (run_V (C := R_R) X (c_R_add l D cI cJ cO a H.size (sz + i) f t (v + ((nI i) * st)) (by omega)) (cx_B X _ wk_R_65 wi_R_add wc_R_add wd_R_add ⟨by omega, by omega⟩) wm_R_add wl_R_add hP hD [0, 1, 2] rfl (by decide) (rcv X hP (ci := 0) (q0 := 0) rfl rfl) rfl hl.1 rfl (Nat.le_of_ble_eq_true rfl) d_R_fill_44 hf) hP hD hS hA [0, 1, 2] [] rfl rfl (by decide) (fun i h => by cases h) ?_
      clear hP hD hS; intro _ H locs _ hP hD hS _
      refine w_inc (k := 4) (lv' := [(4, .int (nI (i + 1))), (0, .ref (a 0)), (1, .int v), (2, .int st), (3, .int (nI n))]) hx hb d_R_fill_47 hl rfl (by decide) rfl ?_
      clear hl; intro ls hl
      refine lv_goto (tgt := 31) hx hb d_R_fill_50 (by decide) ?_
      exact ih (i + 1) _ _ H locs ls (by omega) (by omega) (FL_step h1 rfl) (FL_step h2 rfl) hP hD hS (lv_sub hl [1, 2, 3, 4, 0] rfl)
set_option maxHeartbeats 4000000 in
theorem l_R_scatter {sz n : Nat} {v bt : Int32} {fN fT : Nat → Int32} (X : Cx D cI cJ cO p s m c b_R_scatter 6 R_R) (hR : 9 ≤ R.frames ∧ 460 ≤ R.locals) (hf : cells ≤ R.cells ∧ slots ≤ R.slots) (hA : ∀ q, H0.size ≤ q → A q) (hn : sz + n ≤ 2000) (kk : ∀ (f t : Nat → Int32) (H : Heap) (locs : List Loc) (ls : Array Slot), (∀ q, f q = FL fN sz n (fun j => sv bt (sc v (j + 1))) q) → (∀ q, t q = FL fT sz n (fun j => nI (sz + j)) q) → va_P D vCL (WN cI a (sz + n) f t) H → va_D A (WN cI a (sz + n) f t) → va_S A H0 H locs → lv_has ls 6 [(0, .ref (a 0))] → W p l e R s m args below meth c H locs cells slots Q (F0 m 78 ls [])) : ∀ (fuel : Nat) (i : Nat) (f t : Nat → Int32) (H : Heap) (locs : List Loc) (ls : Array Slot), n - i < fuel → i ≤ n → (∀ q, f q = FL fN sz i (fun j => sv bt (sc v (j + 1))) q) → (∀ q, t q = FL fT sz i (fun j => nI (sz + j)) q) → va_P D vCL (WN cI a (sz + i) f t) H → va_D A (WN cI a (sz + i) f t) → va_S A H0 H locs → lv_has ls 6 [(0, .ref (a 0)), (2, .int bt), (3, .int (nI n)), (4, .int (sc v i)), (5, .int (nI i))] → W p l e R s m args below meth c H locs cells slots Q (F0 m 41 ls []) := by
  have hx := X.x
  have hb := X.b
  intro fuel
  induction fuel with
  | zero => intro i f t H locs ls h; omega
  | succ fuel ih =>
    intro i f t H locs ls hfu hi h1 h2 hP hD hS hl
    refine lv_iload hx hb d_R_scatter_41 (lv_at hl 4 rfl) ?_
    refine lv_iload_n hx hb d_R_scatter_43 rfl (lv_at hl 2 rfl) ?_
    refine w_icmp_ge (tgt := 78) hx hb d_R_scatter_44 (by decide) ⟨by omega, by omega⟩ (fun c1 => ?_) (fun c1 => ?_)
    · have ee : i = n := by omega
      subst ee
      exact kk f t H locs ls h1 h2 hP hD hS (lv_sub hl [0] rfl)
    · refine lv_ldc (v := 1664525) hx hb X.o (X.w q_214 _) d_R_scatter_47 ?_
      refine lv_iload hx hb d_R_scatter_49 (lv_at hl 3 rfl) ?_
      refine lv_imul hx hb d_R_scatter_51 ?_
      refine lv_ldc (v := 1013904223) hx hb X.o (X.w q_215 _) d_R_scatter_52 ?_
      refine lv_iadd hx hb d_R_scatter_54 ?_
      refine w_to (y := sc v (i + 1)) (rfl) ?_
      refine lv_istore (lv' := [(4, .int (sc v (i + 1))), (0, .ref (a 0)), (2, .int bt), (3, .int (nI n)), (5, .int (nI i))]) hx hb d_R_scatter_55 hl (by decide) rfl ?_
      clear hl; intro ls hl
      refine lv_aload_n hx hb d_R_scatter_57 rfl (lv_at hl 1 rfl) ?_
      refine lv_iload hx hb d_R_scatter_58 (lv_at hl 0 rfl) ?_
      refine lv_bipush (v := nI 16) hx hb d_R_scatter_60 (by decide) ?_
      refine lv_iushr hx hb d_R_scatter_62 rfl ?_
      refine lv_iconst (v := nI 1) hx hb d_R_scatter_63 (by decide) ?_
      refine lv_iload_n hx hb d_R_scatter_64 rfl (lv_at hl 2 rfl) ?_
      refine lv_ishl hx hb d_R_scatter_65 ?_
      refine lv_iconst (v := nI 1) hx hb d_R_scatter_66 (by decide) ?_
      refine lv_isub hx hb d_R_scatter_67 ?_
      refine lv_iand hx hb d_R_scatter_68 ?_
      refine w_to (y := sv bt (sc v (i + 1))) (rfl) ?_
      refine wr_v (wr := []) (run_V (C := R_R) X (c_R_add l D cI cJ cO a H.size (sz + i) f t (sv bt (sc v (i + 1))) (by omega)) (cx_B X _ wk_R_65 wi_R_add wc_R_add wd_R_add ⟨by omega, by omega⟩) wm_R_add wl_R_add hP hD [0, 1, 2] rfl (by decide) (rcv X hP (ci := 0) (q0 := 0) rfl rfl) rfl hl.1 rfl (Nat.le_of_ble_eq_true rfl) d_R_scatter_69 hf) hP hD hS hA [0, 1, 2] [] rfl rfl (by decide) (fun i h => by cases h) ?_
      clear hP hD hS; intro _ H locs _ hP hD hS _
      refine w_inc (k := 4) (lv' := [(5, .int (nI (i + 1))), (4, .int (sc v (i + 1))), (0, .ref (a 0)), (2, .int bt), (3, .int (nI n))]) hx hb d_R_scatter_72 hl rfl (by decide) rfl ?_
      clear hl; intro ls hl
      refine lv_goto (tgt := 41) hx hb d_R_scatter_75 (by decide) ?_
      exact ih (i + 1) _ _ H locs ls (by omega) (by omega) (FL_step h1 rfl) (FL_step h2 rfl) hP hD hS (lv_sub hl [2, 3, 4, 1, 0] rfl)
set_option maxHeartbeats 4000000 in
theorem l_R_hash {sz : Nat} {fN fT : Nat → Int32} {H : Heap} {locs : List Loc} (X : Cx D cI cJ cO p s m c b_R_hash 3 R_R) (hsz0 : sz ≤ 2000) (hP : va_P D vCL (WN cI a sz fN fT) H) (kk : ∀ (ls : Array Slot), lv_has ls 3 [(1, .int (hs fN fT sz))] → W p l e R s m args below meth c H locs cells slots Q (F0 m 40 ls [])) : ∀ (fuel i : Nat) (ls : Array Slot), sz - i < fuel → i ≤ sz → lv_has ls 3 [(0, .ref (a 0)), (1, .int (hs fN fT i)), (2, .int (nI i))] → W p l e R s m args below meth c H locs cells slots Q (F0 m 4 ls []) := by
  have hx := X.x
  have hb := X.b
  intro fuel
  induction fuel with
  | zero => intro i ls h; omega
  | succ fuel ih =>
    intro i ls hfu hi hl
    refine lv_iload_n hx hb d_R_hash_4 rfl (lv_at hl 2 rfl) ?_
    refine lv_aload_n hx hb d_R_hash_5 rfl (lv_at hl 0 rfl) ?_
    refine g_R_size X hP 0 rfl rfl d_R_hash_6 ?_
    refine w_icmp_ge (tgt := 40) hx hb d_R_hash_9 (by decide) ⟨by omega, by omega⟩ (fun c1 => ?_) (fun c1 => ?_)
    · have ee : i = sz := by omega
      subst ee
      exact kk ls (lv_sub hl [1] rfl)
    · refine lv_bipush (v := nI 31) hx hb d_R_hash_12 (by decide) ?_
      refine lv_bipush (v := nI 31) hx hb d_R_hash_14 (by decide) ?_
      refine lv_iload_n hx hb d_R_hash_16 rfl (lv_at hl 1 rfl) ?_
      refine lv_imul hx hb d_R_hash_17 ?_
      refine lv_aload_n hx hb d_R_hash_18 rfl (lv_at hl 0 rfl) ?_
      refine g_R_numbers X hP 0 rfl rfl d_R_hash_19 ?_
      refine lv_iload_n hx hb d_R_hash_22 rfl (lv_at hl 2 rfl) ?_
      refine w_ald X hP 1 rfl (by omega) (by decide) d_R_hash_23 ?_
      refine lv_iadd hx hb d_R_hash_24 ?_
      refine lv_imul hx hb d_R_hash_25 ?_
      refine lv_aload_n hx hb d_R_hash_26 rfl (lv_at hl 0 rfl) ?_
      refine g_R_tags X hP 0 rfl rfl d_R_hash_27 ?_
      refine lv_iload_n hx hb d_R_hash_30 rfl (lv_at hl 2 rfl) ?_
      refine w_ald X hP 2 rfl (by omega) (by decide) d_R_hash_31 ?_
      refine lv_iadd hx hb d_R_hash_32 ?_
      refine w_to (y := hs fN fT (i + 1)) (rfl) ?_
      refine lv_istore_n (lv' := [(1, .int (hs fN fT (i + 1))), (0, .ref (a 0)), (2, .int (nI i))]) hx hb d_R_hash_33 rfl hl (by decide) rfl ?_
      clear hl; intro ls hl
      refine w_inc (k := 2) (lv' := [(2, .int (nI (i + 1))), (1, .int (hs fN fT (i + 1))), (0, .ref (a 0))]) hx hb d_R_hash_34 hl rfl (by decide) rfl ?_
      clear hl; intro ls hl
      refine lv_goto (tgt := 4) hx hb d_R_hash_37 (by decide) ?_
      exact ih (i + 1) ls (by omega) (by omega) (lv_sub hl [2, 1, 0] rfl)
end SM
theorem c_R_fill (l : Launch) (D : va_G) (cI cJ cO : ClassId) (a : Nat → Nat) (sz9 sz : Nat) (fN fT : Nat → Int32) (v st : Int32) (n : Nat) (hn : sz + n ≤ 2000) : Met l y_R_fill [Cond.code y_R_fill b_R_fill 5 (some .int)] (rk 9 0 0) (PW D cI cJ cO [.ref (a 0), .int v, .int st, .int (nI n)] sz9 (WN cI a sz fN fT)) (va_Qi (fun (r : Int32) (u : (Nat → Int32) × (Nat → Int32)) => r = nI (sz + n) ∧ (∀ q, u.1 q = FL fN sz n (fun j => v + nI j * st) q) ∧ ∀ q, u.2 q = FL fT sz n (fun j => nI (sz + j)) q) (BW D (va_A (WN cI a sz fN fT) sz9) (fun u => WN cI a (sz + n) u.1 u.2)) (va_A (WN cI a sz fN fT) sz9)) 0 0 (va_A (WN cI a sz fN fT) sz9) := by
  refine entW (by decide) (Nat.le_of_ble_eq_true rfl) ?_
  intro p e s m below meth c ls X hr hlocks hnm hsz hP hD hA hl
  have hx := X.x
  have hb := X.b
  have hR : 9 ≤ (rk 9 0 0).frames ∧ 460 ≤ (rk 9 0 0).locals := by decide
  have hf : 0 ≤ (rk 9 0 0).cells ∧ 0 ≤ (rk 9 0 0).slots := by decide
  have hS : va_S (va_A (WN cI a sz fN fT) sz9) s.heap s.heap [] := va_S.rf
  generalize hAe : va_A (WN cI a sz fN fT) sz9 = A at hP hD hA hS ⊢
  have hl : lv_has ls 5 [(0, .ref (a 0)), (1, .int v), (2, .int st), (3, .int (nI n))] := hl
  refine lv_iload_n hx hb d_R_fill_0 rfl (lv_at hl 3 rfl) ?_
  refine lv_iconst (v := nI 0) hx hb d_R_fill_1 (by decide) ?_
  refine lv_sipush (v := nI 2000) hx hb d_R_fill_2 (by decide) ?_
  refine rv_S X (c_R_in l D cI cJ cO _ _ _ (nI_nlt (by omega) (by omega)) (nI_le (by omega) (by omega))) (cx_B X _ wk_R_57 wi_R_in wc_R_in wd_R_in ⟨by omega, by omega⟩) ws_R_in P_nil rfl hl.1 rfl (Nat.le_of_ble_eq_true rfl) d_R_fill_5 hf ?_
  refine lv_aload_n hx hb d_R_fill_8 rfl (lv_at hl 0 rfl) ?_
  refine g_R_size X hP 0 rfl rfl d_R_fill_9 ?_
  refine lv_iload_n hx hb d_R_fill_12 rfl (lv_at hl 3 rfl) ?_
  refine w_add hx hb d_R_fill_13 ?_
  refine lv_sipush (v := nI 2000) hx hb d_R_fill_14 (by decide) ?_
  refine w_icmp_gt (tgt := 24) hx hb d_R_fill_17 (by decide) ⟨by omega, by omega⟩ (fun c1 => ?_) (fun c1 => ?_)
  · omega
  · refine lv_iconst (v := nI 1) hx hb d_R_fill_20 (by decide) ?_
    refine lv_goto (tgt := 25) hx hb d_R_fill_21 (by decide) ?_
    refine rv_S X (c_R_within l D cI cJ cO _ (by decide)) (cx_B X _ wk_R_61 wi_R_within wc_R_within wd_R_within ⟨by omega, by omega⟩) ws_R_within P_nil rfl hl.1 rfl (Nat.le_of_ble_eq_true rfl) d_R_fill_25 hf ?_
    refine lv_iconst (v := nI 0) hx hb d_R_fill_28 (by decide) ?_
    refine lv_istore (lv' := [(4, .int (nI 0)), (0, .ref (a 0)), (1, .int v), (2, .int st), (3, .int (nI n))]) hx hb d_R_fill_29 hl (by decide) rfl ?_
    clear hl; intro ls hl
    refine l_R_fill X hR hf hA hn ?_ (n + 1) 0 fN fT _ _ ls (by omega) (by omega) FL_0 FL_0 hP hD hS (lv_sub hl [1, 2, 3, 4, 0] rfl)
    clear hP hD hS hl; intro f t H locs ls h1 h2 hP hD hS hl
    refine lv_aload_n hx hb d_R_fill_53 rfl (lv_at hl 0 rfl) ?_
    refine g_R_size X hP 0 rfl rfl d_R_fill_54 ?_
    exact W.iret (v := nI (sz + n)) hx hb hr (fun t9 ht hW => ⟨⟨nI (sz + n), (f, t), rfl, ⟨rfl, h1, h2⟩, by rw [ht]; exact hP, hD⟩, hS.F ht⟩) hS.2.2 d_R_fill_57
theorem c_R_scatter (l : Launch) (D : va_G) (cI cJ cO : ClassId) (a : Nat → Nat) (sz9 sz : Nat) (fN fT : Nat → Int32) (v bt : Int32) (n : Nat) (hb1 : ¬ bt < nI 1) (hb2 : bt ≤ nI 16) (hn : sz + n ≤ 2000) : Met l y_R_scatter [Cond.code y_R_scatter b_R_scatter 6 (some .int)] (rk 9 0 0) (PW D cI cJ cO [.ref (a 0), .int v, .int bt, .int (nI n)] sz9 (WN cI a sz fN fT)) (va_Qi (fun (r : Int32) (u : (Nat → Int32) × (Nat → Int32)) => r = nI (sz + n) ∧ (∀ q, u.1 q = FL fN sz n (fun j => sv bt (sc v (j + 1))) q) ∧ ∀ q, u.2 q = FL fT sz n (fun j => nI (sz + j)) q) (BW D (va_A (WN cI a sz fN fT) sz9) (fun u => WN cI a (sz + n) u.1 u.2)) (va_A (WN cI a sz fN fT) sz9)) 0 0 (va_A (WN cI a sz fN fT) sz9) := by
  refine entW (by decide) (Nat.le_of_ble_eq_true rfl) ?_
  intro p e s m below meth c ls X hr hlocks hnm hsz hP hD hA hl
  have hx := X.x
  have hb := X.b
  have hR : 9 ≤ (rk 9 0 0).frames ∧ 460 ≤ (rk 9 0 0).locals := by decide
  have hf : 0 ≤ (rk 9 0 0).cells ∧ 0 ≤ (rk 9 0 0).slots := by decide
  have hS : va_S (va_A (WN cI a sz fN fT) sz9) s.heap s.heap [] := va_S.rf
  generalize hAe : va_A (WN cI a sz fN fT) sz9 = A at hP hD hA hS ⊢
  have hl : lv_has ls 6 [(0, .ref (a 0)), (1, .int v), (2, .int bt), (3, .int (nI n))] := hl
  refine lv_iload_n hx hb d_R_scatter_0 rfl (lv_at hl 2 rfl) ?_
  refine lv_iconst (v := nI 1) hx hb d_R_scatter_1 (by decide) ?_
  refine lv_bipush (v := nI 16) hx hb d_R_scatter_2 (by decide) ?_
  refine rv_S X (c_R_in l D cI cJ cO _ _ _ hb1 hb2) (cx_B X _ wk_R_57 wi_R_in wc_R_in wd_R_in ⟨by omega, by omega⟩) ws_R_in P_nil rfl hl.1 rfl (Nat.le_of_ble_eq_true rfl) d_R_scatter_4 hf ?_
  refine lv_iload_n hx hb d_R_scatter_7 rfl (lv_at hl 3 rfl) ?_
  refine lv_iconst (v := nI 0) hx hb d_R_scatter_8 (by decide) ?_
  refine lv_sipush (v := nI 2000) hx hb d_R_scatter_9 (by decide) ?_
  refine rv_S X (c_R_in l D cI cJ cO _ _ _ (nI_nlt (by omega) (by omega)) (nI_le (by omega) (by omega))) (cx_B X _ wk_R_57 wi_R_in wc_R_in wd_R_in ⟨by omega, by omega⟩) ws_R_in P_nil rfl hl.1 rfl (Nat.le_of_ble_eq_true rfl) d_R_scatter_12 hf ?_
  refine lv_aload_n hx hb d_R_scatter_15 rfl (lv_at hl 0 rfl) ?_
  refine g_R_size X hP 0 rfl rfl d_R_scatter_16 ?_
  refine lv_iload_n hx hb d_R_scatter_19 rfl (lv_at hl 3 rfl) ?_
  refine w_add hx hb d_R_scatter_20 ?_
  refine lv_sipush (v := nI 2000) hx hb d_R_scatter_21 (by decide) ?_
  refine w_icmp_gt (tgt := 31) hx hb d_R_scatter_24 (by decide) ⟨by omega, by omega⟩ (fun c1 => ?_) (fun c1 => ?_)
  · omega
  · refine lv_iconst (v := nI 1) hx hb d_R_scatter_27 (by decide) ?_
    refine lv_goto (tgt := 32) hx hb d_R_scatter_28 (by decide) ?_
    refine rv_S X (c_R_within l D cI cJ cO _ (by decide)) (cx_B X _ wk_R_61 wi_R_within wc_R_within wd_R_within ⟨by omega, by omega⟩) ws_R_within P_nil rfl hl.1 rfl (Nat.le_of_ble_eq_true rfl) d_R_scatter_32 hf ?_
    refine lv_iload_n hx hb d_R_scatter_35 rfl (lv_at hl 1 rfl) ?_
    refine lv_istore (lv' := [(4, .int v), (0, .ref (a 0)), (1, .int v), (2, .int bt), (3, .int (nI n))]) hx hb d_R_scatter_36 hl (by decide) rfl ?_
    clear hl; intro ls hl
    refine lv_iconst (v := nI 0) hx hb d_R_scatter_38 (by decide) ?_
    refine lv_istore (lv' := [(5, .int (nI 0)), (4, .int v), (0, .ref (a 0)), (1, .int v), (2, .int bt), (3, .int (nI n))]) hx hb d_R_scatter_39 hl (by decide) rfl ?_
    clear hl; intro ls hl
    refine l_R_scatter (v := v) X hR hf hA hn ?_ (n + 1) 0 fN fT _ _ ls (by omega) (by omega) FL_0 FL_0 hP hD hS (lv_sub hl [2, 4, 5, 1, 0] rfl)
    clear hP hD hS hl; intro f t H locs ls h1 h2 hP hD hS hl
    refine lv_aload_n hx hb d_R_scatter_78 rfl (lv_at hl 0 rfl) ?_
    refine g_R_size X hP 0 rfl rfl d_R_scatter_79 ?_
    exact W.iret (v := nI (sz + n)) hx hb hr (fun t9 ht hW => ⟨⟨nI (sz + n), (f, t), rfl, ⟨rfl, h1, h2⟩, by rw [ht]; exact hP, hD⟩, hS.F ht⟩) hS.2.2 d_R_scatter_82
theorem c_R_get (l : Launch) (D : va_G) (cI cJ cO : ClassId) (a : Nat → Nat) (sz : Nat) (fN fT : Nat → Int32) (q : Nat) (hq : q < sz) (hsz0 : sz ≤ 2000) : Met l y_R_get [Cond.code y_R_get b_R_get 2 (some .int)] (rk 9 0 0) (PR D cI cJ cO [.ref (a 0), .int (nI q)] (WN cI a sz fN fT)) (vp_Si (fun r => r = fN q)) 0 0 (fun _ => False) := by
  refine entR (by decide) (Nat.le_of_ble_eq_true rfl) ?_
  intro p e s m below meth c ls X hr hlocks hP hl
  have hx := X.x
  have hb := X.b
  have hR : 9 ≤ (rk 9 0 0).frames ∧ 460 ≤ (rk 9 0 0).locals := by decide
  have hf : 0 ≤ (rk 9 0 0).cells ∧ 0 ≤ (rk 9 0 0).slots := by decide
  have hl : lv_has ls 2 [(0, .ref (a 0)), (1, .int (nI q))] := hl
  refine lv_iload_n hx hb d_R_get_0 rfl (lv_at hl 1 rfl) ?_
  refine lv_if_lt (tgt := 16) hx hb d_R_get_1 (by decide) (fun c1 => ?_) (fun c1 => ?_)
  · exact absurd c1 (nI_pos (by omega))
  · refine lv_iload_n hx hb d_R_get_4 rfl (lv_at hl 1 rfl) ?_
    refine lv_aload_n hx hb d_R_get_5 rfl (lv_at hl 0 rfl) ?_
    refine g_R_size X hP 0 rfl rfl d_R_get_6 ?_
    refine w_icmp_ge (tgt := 16) hx hb d_R_get_9 (by decide) ⟨by omega, by omega⟩ (fun c2 => ?_) (fun c2 => ?_)
    · omega
    · refine lv_iconst (v := nI 1) hx hb d_R_get_12 (by decide) ?_
      refine lv_goto (tgt := 17) hx hb d_R_get_13 (by decide) ?_
      refine rv_S X (c_R_within l D cI cJ cO _ (by decide)) (cx_B X _ wk_R_61 wi_R_within wc_R_within wd_R_within ⟨by omega, by omega⟩) ws_R_within P_nil rfl hl.1 rfl (Nat.le_of_ble_eq_true rfl) d_R_get_17 hf ?_
      refine lv_aload_n hx hb d_R_get_20 rfl (lv_at hl 0 rfl) ?_
      refine g_R_numbers X hP 0 rfl rfl d_R_get_21 ?_
      refine lv_iload_n hx hb d_R_get_24 rfl (lv_at hl 1 rfl) ?_
      refine w_ald X hP 1 rfl (by omega) (by decide) d_R_get_25 ?_
      exact W.iret (v := fN q) hx hb hr (fun t ht _ => ⟨fN q, rfl, rfl, ht⟩) (fun q h => by cases h) d_R_get_26
theorem c_R_tag (l : Launch) (D : va_G) (cI cJ cO : ClassId) (a : Nat → Nat) (sz : Nat) (fN fT : Nat → Int32) (q : Nat) (hq : q < sz) (hsz0 : sz ≤ 2000) : Met l y_R_tag [Cond.code y_R_tag b_R_tag 2 (some .int)] (rk 9 0 0) (PR D cI cJ cO [.ref (a 0), .int (nI q)] (WN cI a sz fN fT)) (vp_Si (fun r => r = fT q)) 0 0 (fun _ => False) := by
  refine entR (by decide) (Nat.le_of_ble_eq_true rfl) ?_
  intro p e s m below meth c ls X hr hlocks hP hl
  have hx := X.x
  have hb := X.b
  have hR : 9 ≤ (rk 9 0 0).frames ∧ 460 ≤ (rk 9 0 0).locals := by decide
  have hf : 0 ≤ (rk 9 0 0).cells ∧ 0 ≤ (rk 9 0 0).slots := by decide
  have hl : lv_has ls 2 [(0, .ref (a 0)), (1, .int (nI q))] := hl
  refine lv_iload_n hx hb d_R_tag_0 rfl (lv_at hl 1 rfl) ?_
  refine lv_if_lt (tgt := 16) hx hb d_R_tag_1 (by decide) (fun c1 => ?_) (fun c1 => ?_)
  · exact absurd c1 (nI_pos (by omega))
  · refine lv_iload_n hx hb d_R_tag_4 rfl (lv_at hl 1 rfl) ?_
    refine lv_aload_n hx hb d_R_tag_5 rfl (lv_at hl 0 rfl) ?_
    refine g_R_size X hP 0 rfl rfl d_R_tag_6 ?_
    refine w_icmp_ge (tgt := 16) hx hb d_R_tag_9 (by decide) ⟨by omega, by omega⟩ (fun c2 => ?_) (fun c2 => ?_)
    · omega
    · refine lv_iconst (v := nI 1) hx hb d_R_tag_12 (by decide) ?_
      refine lv_goto (tgt := 17) hx hb d_R_tag_13 (by decide) ?_
      refine rv_S X (c_R_within l D cI cJ cO _ (by decide)) (cx_B X _ wk_R_61 wi_R_within wc_R_within wd_R_within ⟨by omega, by omega⟩) ws_R_within P_nil rfl hl.1 rfl (Nat.le_of_ble_eq_true rfl) d_R_tag_17 hf ?_
      refine lv_aload_n hx hb d_R_tag_20 rfl (lv_at hl 0 rfl) ?_
      refine g_R_tags X hP 0 rfl rfl d_R_tag_21 ?_
      refine lv_iload_n hx hb d_R_tag_24 rfl (lv_at hl 1 rfl) ?_
      refine w_ald X hP 2 rfl (by omega) (by decide) d_R_tag_25 ?_
      exact W.iret (v := fT q) hx hb hr (fun t ht _ => ⟨fT q, rfl, rfl, ht⟩) (fun q h => by cases h) d_R_tag_26
theorem c_R_set (l : Launch) (D : va_G) (cI cJ cO : ClassId) (a : Nat → Nat) (sz9 sz : Nat) (fN fT : Nat → Int32) (q : Nat) (v : Int32) (hq : q < sz) (hsz0 : sz ≤ 2000) : Met l y_R_set [Cond.code y_R_set b_R_set 4 (some .int)] (rk 9 0 0) (PW D cI cJ cO [.ref (a 0), .int (nI q), .int v] sz9 (WN cI a sz fN fT)) (va_Qi (fun (r : Int32) (_ : Unit) => r = fN q) (BW D (va_A (WN cI a sz fN fT) sz9) (fun _ => WN cI a sz (upd fN q v) fT)) (va_A (WN cI a sz fN fT) sz9)) 0 0 (va_A (WN cI a sz fN fT) sz9) := by
  refine entW (by decide) (Nat.le_of_ble_eq_true rfl) ?_
  intro p e s m below meth c ls X hr hlocks hnm hsz hP hD hA hl
  have hx := X.x
  have hb := X.b
  have hR : 9 ≤ (rk 9 0 0).frames ∧ 460 ≤ (rk 9 0 0).locals := by decide
  have hf : 0 ≤ (rk 9 0 0).cells ∧ 0 ≤ (rk 9 0 0).slots := by decide
  have hS : va_S (va_A (WN cI a sz fN fT) sz9) s.heap s.heap [] := va_S.rf
  generalize hAe : va_A (WN cI a sz fN fT) sz9 = A at hP hD hA hS ⊢
  have hl : lv_has ls 4 [(0, .ref (a 0)), (1, .int (nI q)), (2, .int v)] := hl
  refine lv_iload_n hx hb d_R_set_0 rfl (lv_at hl 1 rfl) ?_
  refine lv_if_lt (tgt := 16) hx hb d_R_set_1 (by decide) (fun c1 => ?_) (fun c1 => ?_)
  · exact absurd c1 (nI_pos (by omega))
  · refine lv_iload_n hx hb d_R_set_4 rfl (lv_at hl 1 rfl) ?_
    refine lv_aload_n hx hb d_R_set_5 rfl (lv_at hl 0 rfl) ?_
    refine g_R_size X hP 0 rfl rfl d_R_set_6 ?_
    refine w_icmp_ge (tgt := 16) hx hb d_R_set_9 (by decide) ⟨by omega, by omega⟩ (fun c2 => ?_) (fun c2 => ?_)
    · omega
    · refine lv_iconst (v := nI 1) hx hb d_R_set_12 (by decide) ?_
      refine lv_goto (tgt := 17) hx hb d_R_set_13 (by decide) ?_
      refine rv_S X (c_R_within l D cI cJ cO _ (by decide)) (cx_B X _ wk_R_61 wi_R_within wc_R_within wd_R_within ⟨by omega, by omega⟩) ws_R_within P_nil rfl hl.1 rfl (Nat.le_of_ble_eq_true rfl) d_R_set_17 hf ?_
      refine lv_aload_n hx hb d_R_set_20 rfl (lv_at hl 0 rfl) ?_
      refine g_R_numbers X hP 0 rfl rfl d_R_set_21 ?_
      refine lv_iload_n hx hb d_R_set_24 rfl (lv_at hl 1 rfl) ?_
      refine w_ald X hP 1 rfl (by omega) (by decide) d_R_set_25 ?_
      refine lv_istore_n (lv' := [(3, .int (fN q)), (0, .ref (a 0)), (1, .int (nI q)), (2, .int v)]) hx hb d_R_set_26 rfl hl (by decide) rfl ?_
      clear hl; intro ls hl
      refine lv_aload_n hx hb d_R_set_27 rfl (lv_at hl 1 rfl) ?_
      refine g_R_numbers X hP 0 rfl rfl d_R_set_28 ?_
      refine lv_iload_n hx hb d_R_set_31 rfl (lv_at hl 2 rfl) ?_
      refine lv_iload_n hx hb d_R_set_32 rfl (lv_at hl 3 rfl) ?_
      refine w_ast (ws' := WN cI a sz (upd fN q v) fT) X hP hD hS 1 rfl (by omega) (by decide) rfl d_R_set_33 ?_
      clear hP hD hS; intro H locs hP hD hS
      refine lv_iload_n hx hb d_R_set_34 rfl (lv_at hl 0 rfl) ?_
      exact W.iret (v := fN q) hx hb hr (fun t9 ht hW => ⟨⟨fN q, (), rfl, rfl, by rw [ht]; exact hP, hD⟩, hS.F ht⟩) hS.2.2 d_R_set_35
theorem c_R_clear (l : Launch) (D : va_G) (cI cJ cO : ClassId) (a : Nat → Nat) (sz9 sz : Nat) (fN fT : Nat → Int32) : Met l y_R_clear [Cond.code y_R_clear b_R_clear 2 (some .int)] (rk 9 0 0) (PW D cI cJ cO [.ref (a 0)] sz9 (WN cI a sz fN fT)) (va_Qi (fun (r : Int32) (_ : Unit) => r = nI sz) (BW D (va_A (WN cI a sz fN fT) sz9) (fun _ => WN cI a 0 fN fT)) (va_A (WN cI a sz fN fT) sz9)) 0 0 (va_A (WN cI a sz fN fT) sz9) := by
  refine entW (by decide) (Nat.le_of_ble_eq_true rfl) ?_
  intro p e s m below meth c ls X hr hlocks hnm hsz hP hD hA hl
  have hx := X.x
  have hb := X.b
  have hR : 9 ≤ (rk 9 0 0).frames ∧ 460 ≤ (rk 9 0 0).locals := by decide
  have hf : 0 ≤ (rk 9 0 0).cells ∧ 0 ≤ (rk 9 0 0).slots := by decide
  have hS : va_S (va_A (WN cI a sz fN fT) sz9) s.heap s.heap [] := va_S.rf
  generalize hAe : va_A (WN cI a sz fN fT) sz9 = A at hP hD hA hS ⊢
  have hl : lv_has ls 2 [(0, .ref (a 0))] := hl
  refine lv_aload_n hx hb d_R_clear_0 rfl (lv_at hl 0 rfl) ?_
  refine g_R_size X hP 0 rfl rfl d_R_clear_1 ?_
  refine lv_istore_n (lv' := [(1, .int (nI sz)), (0, .ref (a 0))]) hx hb d_R_clear_4 rfl hl (by decide) rfl ?_
  clear hl; intro ls hl
  refine lv_aload_n hx hb d_R_clear_5 rfl (lv_at hl 1 rfl) ?_
  refine lv_iconst (v := nI 0) hx hb d_R_clear_6 (by decide) ?_
  refine p_R_size (ws' := WN cI a 0 fN fT) X hP hD hS 0 rfl (Nat.le_of_ble_eq_true rfl) rfl d_R_clear_7 ?_
  clear hP hD hS; intro H locs hP hD hS
  refine lv_iload_n hx hb d_R_clear_10 rfl (lv_at hl 0 rfl) ?_
  exact W.iret (v := nI sz) hx hb hr (fun t9 ht hW => ⟨⟨nI sz, (), rfl, rfl, by rw [ht]; exact hP, hD⟩, hS.F ht⟩) hS.2.2 d_R_clear_11
theorem c_R_hash (l : Launch) (D : va_G) (cI cJ cO : ClassId) (a : Nat → Nat) (sz : Nat) (fN fT : Nat → Int32) (hsz0 : sz ≤ 2000) : Met l y_R_hash [Cond.code y_R_hash b_R_hash 3 (some .int)] (rk 9 0 0) (PR D cI cJ cO [.ref (a 0)] (WN cI a sz fN fT)) (vp_Si (fun r => r = hs fN fT sz)) 0 0 (fun _ => False) := by
  refine entR (by decide) (Nat.le_of_ble_eq_true rfl) ?_
  intro p e s m below meth c ls X hr hlocks hP hl
  have hx := X.x
  have hb := X.b
  have hR : 9 ≤ (rk 9 0 0).frames ∧ 460 ≤ (rk 9 0 0).locals := by decide
  have hf : 0 ≤ (rk 9 0 0).cells ∧ 0 ≤ (rk 9 0 0).slots := by decide
  have hl : lv_has ls 3 [(0, .ref (a 0))] := hl
  refine lv_iconst (v := nI 1) hx hb d_R_hash_0 (by decide) ?_
  refine lv_istore_n (lv' := [(1, .int (nI 1)), (0, .ref (a 0))]) hx hb d_R_hash_1 rfl hl (by decide) rfl ?_
  clear hl; intro ls hl
  refine lv_iconst (v := nI 0) hx hb d_R_hash_2 (by decide) ?_
  refine lv_istore_n (lv' := [(2, .int (nI 0)), (1, .int (nI 1)), (0, .ref (a 0))]) hx hb d_R_hash_3 rfl hl (by decide) rfl ?_
  clear hl; intro ls hl
  refine l_R_hash X hsz0 hP ?_ (sz + 1) 0 ls (by omega) (by omega) (lv_sub hl [2, 1, 0] rfl)
  clear hl; intro ls hl
  refine lv_iload_n hx hb d_R_hash_40 rfl (lv_at hl 0 rfl) ?_
  exact W.iret (v := hs fN fT sz) hx hb hr (fun t ht _ => ⟨hs fN fT sz, rfl, rfl, ht⟩) (fun q h => by cases h) d_R_hash_41
end
