/-! the guards in and within: they pass, or they throw -/
def IAE : String := "java/lang/IllegalArgumentException"
def IOB : String := "java/lang/IndexOutOfBoundsException"
def zl : List Cond := [Cond.laysStatic "java/lang/Throwable" "UNASSIGNED_STACK" "[Ljava/lang/StackTraceElement;", Cond.laysStatic "java/lang/Throwable" "SUPPRESSED_SENTINEL" "Ljava/util/List;", Cond.isRef (.static "java/lang/Throwable" "UNASSIGNED_STACK" "[Ljava/lang/StackTraceElement;"), Cond.isRef (.static "java/lang/Throwable" "SUPPRESSED_SENTINEL" "Ljava/util/List;")]
theorem zl_any {U : State} (h : zs U) (A : Array Value) : ∀ w ∈ zl, w.before A U = true := by
  intro w hw
  simp only [zl, List.mem_cons, List.not_mem_nil, or_false] at hw
  rcases hw with rfl | rfl | rfl | rfl
  · exact h.1
  · exact h.2.1
  · exact h.2.2.1
  · exact h.2.2.2
def exN : List String := ["java/lang/RuntimeException", "java/lang/Exception"]
set_option maxRecDepth 20000 in
theorem oa_in : ((Bundle.ownAtoms0 R_R 49 IAE exN).all fun w => decide (w ∈ am_l) || decide (w ∈ zl)) = true := by decide +kernel
set_option maxRecDepth 20000 in
theorem oa_within : ((Bundle.ownAtoms0 R_R 52 IOB exN).all fun w => decide (w ∈ am_l) || decide (w ∈ zl)) = true := by decide +kernel
theorem oa_use {L : List Cond} (h : (L.all fun w => decide (w ∈ am_l) || decide (w ∈ zl)) = true) {s : State} (hA : AM s) (hz : zs s) (args : Array Value) : ∀ w ∈ L, w.before args s = true := fun w hw => by
  have h1 := List.all_eq_true.mp h w hw
  simp only [Bool.or_eq_true, decide_eq_true_eq] at h1
  rcases h1 with h1 | h1
  · exact hA.use args w h1
  · exact zl_any hz args w h1
theorem fit_n : ∀ x ∈ exN, Bundle.fit x = true := by decide +kernel
theorem fit_IAE : Bundle.fit IAE = true := by decide +kernel
theorem fit_IOB : Bundle.fit IOB = true := by decide +kernel
/-- a thrower's start -/
def PT (D : va_G) (cI cJ cO : ClassId) (av : List Value) (ws : va_W) : Array Value → State → Prop := va_Pc av (fun U => va_P D vCL ws U.heap ∧ va_K D vCL (vTY cI cJ cO) U ∧ AM U ∧ zs U)
theorem PT.blind {D : va_G} {cI cJ cO : ClassId} {av : List Value} {ws : va_W} : FrameBlind (PT D cI cJ cO av ws) := fun a U g mk q => by
  obtain ⟨q0, qP, qK, qA, qz⟩ := q
  exact ⟨q0, qP, va_K.moved (u := U) (U := U.calling g mk a) (Vm.Alike.refl U.vm) qK, qA.blind, zs.move (s := U) (U := U.calling g mk a) (Vm.Alike.refl U.vm) (fun _ _ h => h) qz⟩
theorem PT.at {D : va_G} {cI cJ cO : ClassId} {av : List Value} {ws : va_W} {s : State} {H : Heap} (hP : va_P D vCL ws H) (hK : va_K D vCL (vTY cI cJ cO) s) (hA : AM s) (hz : zs s) (hh : ∀ (q : Nat) (c : Cell), s.heap[q]? = some c → H[q]? = some c) : ∀ U : State, U.heap = H → s.WarmedH U.vm → PT D cI cJ cO av ws av.toArray U :=
  fun U hU hW => ⟨rfl, by rw [hU]; exact hP, va_K.moved hW.alike hK, AM.warm hW hA, zs.move hW.alike (by rw [hU]; exact hh) hz⟩
theorem entT {l : Launch} {y : MethodName} {cc : ByteArray} {maxL : Nat} {ret : Option FieldType} {rm : Room} {D : va_G} {cI cJ cO : ClassId} {av : List Value} {ws : va_W} {Xn : String} {mc ms : Nat} (hy : plainName y.cls = true) (hlen : (lg_sl av).length ≤ maxL)
    (body : ∀ (p : Program) (e : Env) (s : State) (m : MethodId) (below : List Frame) (meth : Method) (c : Code) (ls : Array Slot), Cx D cI cJ cO p s m c cc maxL y.cls → meth.locks = false → c.exceptionTable.isEmpty = true → zs s → va_P D vCL ws s.heap → lv_has ls maxL (lv_args 0 av) →
      W p l e rm s m av.toArray below meth c s.heap [] 0 0 (TQ below Xn s mc ms) (F0 m 0 ls [])) : MetT l y [Cond.code y cc maxL ret] rm (PT D cI cJ cO av ws) Xn mc ms := by
  refine MetT.ofW hy ?_
  intro p e s m args below meth c s₁ B hml hv
  obtain ⟨rfl, hP, hK, hA, hz⟩ := hv
  have hl := lv_entry av (n := maxL) hlen
  rw [lg_entry_eq]
  exact body p e s m below meth c _ ⟨B.exec, B.bytes, hml, findClass_of_methodNamed B.named, hK, hA⟩ B.notSynchronized (B.noHandlers (atoms_spec (ws := [Cond.code y cc maxL ret]) B.pre _ List.mem_cons_self)) hz hP hl
theorem c_R_in (l : Launch) (D : va_G) (cI cJ cO : ClassId) (v lo hi : Int32) (h1 : ¬ v < lo) (h2 : v ≤ hi) : Met l y_R_in [Cond.code y_R_in b_R_in 3 none] (rk 8 0 0) (PR D cI cJ cO [.int v, .int lo, .int hi] []) (va_Sv (fun _ => True)) 0 0 (fun _ => False) := by
  refine entR (by decide) (Nat.le_of_ble_eq_true rfl) ?_
  intro p e s m below meth c ls X hr hlocks hP hl
  have hx := X.x
  have hb := X.b
  have hl : lv_has ls 3 [(0, .int v), (1, .int lo), (2, .int hi)] := hl
  refine lv_iload_n hx hb d_R_in_0 rfl (lv_at hl 0 rfl) ?_
  refine lv_iload_n hx hb d_R_in_1 rfl (lv_at hl 1 rfl) ?_
  refine lv_icmp_lt (tgt := 10) hx hb d_R_in_2 (by decide) (fun c1 => ?_) (fun c1 => ?_)
  · exact absurd c1 h1
  · refine lv_iload_n hx hb d_R_in_5 rfl (lv_at hl 0 rfl) ?_
    refine lv_iload_n hx hb d_R_in_6 rfl (lv_at hl 2 rfl) ?_
    refine lv_icmp_le (tgt := 18) hx hb d_R_in_7 (by decide) (fun c2 => ?_) (fun c2 => ?_)
    · exact W.vret hx hb hr (fun t ht _ => ⟨rfl, trivial, ht⟩) (fun q h => by cases h) d_R_in_18
    · exact absurd h2 c2
theorem c_R_within (l : Launch) (D : va_G) (cI cJ cO : ClassId) (v : Int32) (h1 : ¬ v = 0) : Met l y_R_within [Cond.code y_R_within b_R_within 1 none] (rk 8 0 0) (PR D cI cJ cO [.int v] []) (va_Sv (fun _ => True)) 0 0 (fun _ => False) := by
  refine entR (by decide) (Nat.le_of_ble_eq_true rfl) ?_
  intro p e s m below meth c ls X hr hlocks hP hl
  have hx := X.x
  have hb := X.b
  have hl : lv_has ls 1 [(0, .int v)] := hl
  refine lv_iload_n hx hb d_R_within_0 rfl (lv_at hl 0 rfl) ?_
  refine lv_if_ne (tgt := 12) hx hb d_R_within_1 (by decide) (fun c1 => ?_) (fun c1 => ?_)
  · exact W.vret hx hb hr (fun t ht _ => ⟨rfl, trivial, ht⟩) (fun q h => by cases h) d_R_within_12
  · exact absurd c1 h1
theorem t_R_in (l : Launch) (D : va_G) (cI cJ cO : ClassId) (hfl : l.flags = flags0) (v lo hi : Int32) (h1 : v < lo ∨ ¬ v ≤ hi) : MetT l y_R_in [Cond.code y_R_in b_R_in 3 none] (rk 8 1 6) (PT D cI cJ cO [.int v, .int lo, .int hi] []) IAE 1 6 := by
  refine entT (by decide) (Nat.le_of_ble_eq_true rfl) ?_
  intro p e s m below meth c ls X hlocks htab hz hP hl
  have hx := X.x
  have hb := X.b
  have hl : lv_has ls 3 [(0, .int v), (1, .int lo), (2, .int hi)] := hl
  refine lv_iload_n hx hb d_R_in_0 rfl (lv_at hl 0 rfl) ?_
  refine lv_iload_n hx hb d_R_in_1 rfl (lv_at hl 1 rfl) ?_
  refine lv_icmp_lt (tgt := 10) hx hb d_R_in_2 (by decide) (fun c1 => ?_) (fun c1 => ?_)
  · exact ex_throw (ci := 47) (ic := 49) (names := exN) hx hb hfl X.o fit_IAE fit_n (oa_use oa_in X.am hz _) (X.w q_123 _) (X.w q_124 _) (X.w q_11 _) htab (hl.1.trans X.ml.symm) hlocks d_R_in_10 d_R_in_13 d_R_in_14 d_R_in_17 (by decide) (by decide) (by decide)
  · refine lv_iload_n hx hb d_R_in_5 rfl (lv_at hl 0 rfl) ?_
    refine lv_iload_n hx hb d_R_in_6 rfl (lv_at hl 2 rfl) ?_
    refine lv_icmp_le (tgt := 18) hx hb d_R_in_7 (by decide) (fun c2 => ?_) (fun c2 => ?_)
    · exact absurd h1 (fun z => z.elim c1 (fun y => y c2))
    · exact ex_throw (ci := 47) (ic := 49) (names := exN) hx hb hfl X.o fit_IAE fit_n (oa_use oa_in X.am hz _) (X.w q_123 _) (X.w q_124 _) (X.w q_11 _) htab (hl.1.trans X.ml.symm) hlocks d_R_in_10 d_R_in_13 d_R_in_14 d_R_in_17 (by decide) (by decide) (by decide)
theorem t_R_within (l : Launch) (D : va_G) (cI cJ cO : ClassId) (hfl : l.flags = flags0) (v : Int32) (h1 : v = 0) : MetT l y_R_within [Cond.code y_R_within b_R_within 1 none] (rk 8 1 6) (PT D cI cJ cO [.int v] []) IOB 1 6 := by
  refine entT (by decide) (Nat.le_of_ble_eq_true rfl) ?_
  intro p e s m below meth c ls X hlocks htab hz hP hl
  have hx := X.x
  have hb := X.b
  have hl : lv_has ls 1 [(0, .int v)] := hl
  refine lv_iload_n hx hb d_R_within_0 rfl (lv_at hl 0 rfl) ?_
  refine lv_if_ne (tgt := 12) hx hb d_R_within_1 (by decide) (fun c1 => ?_) (fun c1 => ?_)
  · exact absurd h1 c1
  · exact ex_throw (ci := 50) (ic := 52) (names := exN) hx hb hfl X.o fit_IOB fit_n (oa_use oa_within X.am hz _) (X.w q_188 _) (X.w q_189 _) (X.w q_12 _) htab (hl.1.trans X.ml.symm) hlocks d_R_within_4 d_R_within_7 d_R_within_8 d_R_within_11 (by decide) (by decide) (by decide)
