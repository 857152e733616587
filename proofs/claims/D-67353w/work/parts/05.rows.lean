/-! rows of our own: numbers by their Nat, the bundle of what holds all through a method, entries, calls -/
abbrev vTY (cI cJ cO : ClassId) : List (ClassId × FieldType) := [(cI, .int), (cJ, .long), (cO, .object "RunSorter$Order")]
def rk (d mc ms : Nat) : Room := { frames := d, cells := mc, slots := ms, locals := 100 + 40 * d }
/-- all through a method: the machine, its code, its class, the classes' numbers, the tables' words -/
def Cx (D : va_G) (cI cJ cO : ClassId) (p : Program) (s : State) (m : MethodId) (c : Code) (cc : ByteArray) (nL : Nat) (own : String) : Prop :=
  p.tables.exec = Jvm.exec ∧ c.code = cc ∧ c.maxLocals = nL ∧ s.vm.findClass own = some m.cls ∧ va_K D vCL (vTY cI cJ cO) s ∧ AM s
section CX
variable {D : va_G} {cI cJ cO : ClassId} {p : Program} {s : State} {m : MethodId} {c : Code} {cc : ByteArray} {nL : Nat} {own : String}
theorem Cx.x (X : Cx D cI cJ cO p s m c cc nL own) : p.tables.exec = Jvm.exec := X.1
theorem Cx.b (X : Cx D cI cJ cO p s m c cc nL own) : c.code = cc := X.2.1
theorem Cx.ml (X : Cx D cI cJ cO p s m c cc nL own) : c.maxLocals = nL := X.2.2.1
theorem Cx.o (X : Cx D cI cJ cO p s m c cc nL own) : s.vm.findClass own = some m.cls := X.2.2.2.1
theorem Cx.K (X : Cx D cI cJ cO p s m c cc nL own) : va_K D vCL (vTY cI cJ cO) s := X.2.2.2.2.1
theorem Cx.am (X : Cx D cI cJ cO p s m c cc nL own) : AM s := X.2.2.2.2.2
theorem Cx.w (X : Cx D cI cJ cO p s m c cc nL own) {w : Cond} (h : w ∈ am_l) (args : Array Value) : w.before args s = true := X.am.use args w h
theorem Cx.fix (X : Cx D cI cJ cO p s m c cc nL own) (args : Array Value) : CallFix p m c cc nL s args am_l own := ⟨X.x, X.b, X.ml, X.o, X.am.use args⟩
end CX
/-- a reader's start: its cells, the classes, the words -/
def PR (D : va_G) (cI cJ cO : ClassId) (av : List Value) (ws : va_W) : Array Value → State → Prop := va_Pc av (fun U => va_P D vCL ws U.heap ∧ va_K D vCL (vTY cI cJ cO) U ∧ AM U)
/-- a writer's start: the same, its cells apart, the heap's size named -/
def PW (D : va_G) (cI cJ cO : ClassId) (av : List Value) (sz : Nat) (ws : va_W) : Array Value → State → Prop := va_Pc av (fun U => U.heap.size = sz ∧ va_P D vCL ws U.heap ∧ va_K D vCL (vTY cI cJ cO) U ∧ AM U ∧ va_D (fun _ => True) ws)
theorem PR.blind {D : va_G} {cI cJ cO : ClassId} {av : List Value} {ws : va_W} : FrameBlind (PR D cI cJ cO av ws) := fun a U g mk q => by
  obtain ⟨q0, qP, qK, qA⟩ := q
  exact ⟨q0, qP, va_K.moved (u := U) (U := U.calling g mk a) (Vm.Alike.refl U.vm) qK, qA.blind⟩
theorem PW.blind {D : va_G} {cI cJ cO : ClassId} {av : List Value} {sz : Nat} {ws : va_W} : FrameBlind (PW D cI cJ cO av sz ws) := fun a U g mk q => by
  obtain ⟨q0, q1, qP, qK, qA, qD⟩ := q
  exact ⟨q0, q1, qP, va_K.moved (u := U) (U := U.calling g mk a) (Vm.Alike.refl U.vm) qK, qA.blind, qD⟩
theorem PR.at {D : va_G} {cI cJ cO : ClassId} {av : List Value} {ws : va_W} {s : State} {H : Heap} (hP : va_P D vCL ws H) (hK : va_K D vCL (vTY cI cJ cO) s) (hA : AM s) : ∀ U : State, U.heap = H → s.WarmedH U.vm → PR D cI cJ cO av ws av.toArray U :=
  fun U hU hW => ⟨rfl, by rw [hU]; exact hP, va_K.moved hW.alike hK, AM.warm hW hA⟩
theorem PW.at {D : va_G} {cI cJ cO : ClassId} {av : List Value} {ws : va_W} {s : State} {H : Heap} {A : Nat → Prop} (hP : va_P D vCL ws H) (hK : va_K D vCL (vTY cI cJ cO) s) (hA : AM s) (hD : va_D A ws) : ∀ U : State, U.heap = H → s.WarmedH U.vm → PW D cI cJ cO av H.size ws av.toArray U :=
  fun U hU hW => ⟨rfl, by rw [hU], by rw [hU]; exact hP, va_K.moved hW.alike hK, AM.warm hW hA, hD.weaken (fun _ _ _ _ => trivial)⟩
section ENT
variable {l : Launch} {y : MethodName} {cc : ByteArray} {maxL : Nat} {ret : Option FieldType} {rm : Room} {D : va_G} {cI cJ cO : ClassId} {av : List Value} {sz : Nat} {ws : va_W} {Qc : Array Value → State → Outcome → State → Prop} {mc ms : Nat} {free : Addr → Prop}
theorem entW (hy : plainName y.cls = true) (hlen : (lg_sl av).length ≤ maxL)
    (body : ∀ (p : Program) (e : Env) (s : State) (m : MethodId) (below : List Frame) (meth : Method) (c : Code) (ls : Array Slot), Cx D cI cJ cO p s m c cc maxL y.cls → meth.sig.returnType = ret → meth.locks = false → meth.name = y.name → s.heap.size = sz → va_P D vCL ws s.heap → va_D (va_A ws sz) ws → (∀ q : Nat, s.heap.size ≤ q → va_A ws sz q) → lv_has ls maxL (lv_args 0 av) →
      W p l e rm s m av.toArray below meth c s.heap [] 0 0 (MQ below Qc av.toArray s mc ms free) (F0 m 0 ls [])) : Met l y [Cond.code y cc maxL ret] rm (PW D cI cJ cO av sz ws) Qc mc ms free := by
  refine Met.ofW (cc := cc) (maxL := maxL) (ret := ret) hy rfl ?_
  intro p e s m args below meth c s₁ B hml hv
  obtain ⟨rfl, hsz, hP, hK, hA, hD0⟩ := hv
  have hl := lv_entry av (n := maxL) hlen
  rw [lg_entry_eq]
  exact body p e s m below meth c _ ⟨B.exec, B.bytes, hml, findClass_of_methodNamed B.named, hK, hA⟩ B.returns B.notSynchronized (name_of_methodNamed B.named B.method).1 hsz hP hD0.self (fun q h => Or.inr (hsz ▸ h)) hl
theorem entR (hy : plainName y.cls = true) (hlen : (lg_sl av).length ≤ maxL)
    (body : ∀ (p : Program) (e : Env) (s : State) (m : MethodId) (below : List Frame) (meth : Method) (c : Code) (ls : Array Slot), Cx D cI cJ cO p s m c cc maxL y.cls → meth.sig.returnType = ret → meth.locks = false → va_P D vCL ws s.heap → lv_has ls maxL (lv_args 0 av) →
      W p l e rm s m av.toArray below meth c s.heap [] 0 0 (MQ below Qc av.toArray s mc ms free) (F0 m 0 ls [])) : Met l y [Cond.code y cc maxL ret] rm (PR D cI cJ cO av ws) Qc mc ms free := by
  refine Met.ofW (cc := cc) (maxL := maxL) (ret := ret) hy rfl ?_
  intro p e s m args below meth c s₁ B hml hv
  obtain ⟨rfl, hP, hK, hA⟩ := hv
  have hl := lv_entry av (n := maxL) hlen
  rw [lg_entry_eq]
  exact body p e s m below meth c _ ⟨B.exec, B.bytes, hml, findClass_of_methodNamed B.named, hK, hA⟩ B.returns B.notSynchronized hP hl
end ENT
section NUM
variable {p : Program} {l : Launch} {e : Env} {R : Room} {s : State} {m : MethodId} {args : Array Value} {below : List Frame} {meth : Method} {c : Code} {H : Heap} {locs : List Loc} {cells slots : Nat} {Q : State → Prop}
variable {cc : ByteArray} {pc : Nat} {ls : Array Slot} {rest : List Value}
theorem w_to {x y : Int32} (h : x = y) (k : W p l e R s m args below meth c H locs cells slots Q (F0 m pc ls (.int y :: rest))) : W p l e R s m args below meth c H locs cells slots Q (F0 m pc ls (.int x :: rest)) := by rw [h]; exact k
theorem w_to2 {x y : Int32} {v : Value} (h : x = y) (k : W p l e R s m args below meth c H locs cells slots Q (F0 m pc ls (v :: .int y :: rest))) : W p l e R s m args below meth c H locs cells slots Q (F0 m pc ls (v :: .int x :: rest)) := by rw [h]; exact k
theorem w_ls {ls' : Array Slot} (h : ls = ls') (k : W p l e R s m args below meth c H locs cells slots Q (F0 m pc ls' rest)) : W p l e R s m args below meth c H locs cells slots Q (F0 m pc ls rest) := by rw [h]; exact k
theorem w_add (hexec : p.tables.exec = Jvm.exec) (hb : c.code = cc) {a b : Nat} (hdg : decode cc pc = .ok (.iadd, 1)) (k : W p l e R s m args below meth c H locs cells slots Q (F0 m (pc + 1) ls (.int (nI (a + b)) :: rest))) : W p l e R s m args below meth c H locs cells slots Q (F0 m pc ls (.int (nI b) :: .int (nI a) :: rest)) := lv_iadd hexec hb hdg (w_to (nI_add a b) k)
theorem w_sub (hexec : p.tables.exec = Jvm.exec) (hb : c.code = cc) {a b : Nat} (hdg : decode cc pc = .ok (.isub, 1)) (h : b ≤ a) (k : W p l e R s m args below meth c H locs cells slots Q (F0 m (pc + 1) ls (.int (nI (a - b)) :: rest))) : W p l e R s m args below meth c H locs cells slots Q (F0 m pc ls (.int (nI b) :: .int (nI a) :: rest)) := lv_isub hexec hb hdg (w_to (pk_sub h) k)
theorem w_mul (hexec : p.tables.exec = Jvm.exec) (hb : c.code = cc) {a b : Nat} (hdg : decode cc pc = .ok (.imul, 1)) (k : W p l e R s m args below meth c H locs cells slots Q (F0 m (pc + 1) ls (.int (nI (a * b)) :: rest))) : W p l e R s m args below meth c H locs cells slots Q (F0 m pc ls (.int (nI b) :: .int (nI a) :: rest)) := lv_imul hexec hb hdg (w_to (pk_mul a b) k)
theorem w_ushr1 (hexec : p.tables.exec = Jvm.exec) (hb : c.code = cc) {a : Nat} (hdg : decode cc pc = .ok (.iushr, 1)) (h : a < 2 ^ 31) (k : W p l e R s m args below meth c H locs cells slots Q (F0 m (pc + 1) ls (.int (nI (a / 2)) :: rest))) : W p l e R s m args below meth c H locs cells slots Q (F0 m pc ls (.int (nI 1) :: .int (nI a) :: rest)) := lv_iushr hexec hb hdg (pk_ushrN (by omega) (nI 1) 1 (by decide)) k
theorem w_shr1 (hexec : p.tables.exec = Jvm.exec) (hb : c.code = cc) {a : Nat} (hdg : decode cc pc = .ok (.ishr, 1)) (h : a < 2 ^ 31) (k : W p l e R s m args below meth c H locs cells slots Q (F0 m (pc + 1) ls (.int (nI (a / 2)) :: rest))) : W p l e R s m args below meth c H locs cells slots Q (F0 m pc ls (.int (nI 1) :: .int (nI a) :: rest)) := lv_ishr hexec hb hdg (w_to (pk_shrN h (nI 1 &&& 31) 1 (by decide)) k)
theorem w_inc (hexec : p.tables.exec = Jvm.exec) (hb : c.code = cc) {i nL k a : Nat} {lv lv' : List (Nat × Value)} (hdg : decode cc pc = .ok (.iinc i 1, 3)) (h : lv_has ls nL lv) (hk : lv[k]? = some (i, .int (nI a))) (hn : i < nL) (hl : (i, Value.int (nI (a + 1))) :: lv.filter (fun q => !(q.1 == i) && !(q.1 + 1 == i && q.2.category == 2)) = lv')
    (kk : ∀ ls' : Array Slot, lv_has ls' nL lv' → W p l e R s m args below meth c H locs cells slots Q (F0 m (pc + 3) ls' rest)) : W p l e R s m args below meth c H locs cells slots Q (F0 m pc ls rest) := lv_iinc hexec hb hdg h hk (by rw [show Int32.ofInt 1 = nI 1 from rfl, nI_add]) hn hl kk
theorem w_dec (hexec : p.tables.exec = Jvm.exec) (hb : c.code = cc) {i nL k a : Nat} {lv lv' : List (Nat × Value)} (hdg : decode cc pc = .ok (.iinc i (-1), 3)) (h : lv_has ls nL lv) (hk : lv[k]? = some (i, .int (nI a))) (hn : i < nL) (ha : 1 ≤ a) (hl : (i, Value.int (nI (a - 1))) :: lv.filter (fun q => !(q.1 == i) && !(q.1 + 1 == i && q.2.category == 2)) = lv')
    (kk : ∀ ls' : Array Slot, lv_has ls' nL lv' → W p l e R s m args below meth c H locs cells slots Q (F0 m (pc + 3) ls' rest)) : W p l e R s m args below meth c H locs cells slots Q (F0 m pc ls rest) := lv_iinc hexec hb hdg h hk (by rw [show Int32.ofInt (-1) = -1 from rfl]; exact sb_m1 ha) hn hl kk
theorem w_icmp_lt (hexec : p.tables.exec = Jvm.exec) (hb : c.code = cc) {x y : Nat} {off : Int} {tgt : Nat} (hdg : decode cc pc = .ok (.if_icmp .lt off, 3)) (ht : (pc : Int) + off = (tgt : Int)) (h : x < 2 ^ 31 ∧ y < 2 ^ 31)
    (kt : x < y → W p l e R s m args below meth c H locs cells slots Q (F0 m tgt ls rest)) (kf : y ≤ x → W p l e R s m args below meth c H locs cells slots Q (F0 m (pc + 3) ls rest)) : W p l e R s m args below meth c H locs cells slots Q (F0 m pc ls (.int (nI y) :: .int (nI x) :: rest)) :=
  lv_icmp_lt hexec hb hdg ht (fun q => kt ((nI_ltI h.1 h.2).mp q)) (fun q => kf (Nat.le_of_not_lt fun z => q ((nI_ltI h.1 h.2).mpr z)))
theorem w_icmp_ge (hexec : p.tables.exec = Jvm.exec) (hb : c.code = cc) {x y : Nat} {off : Int} {tgt : Nat} (hdg : decode cc pc = .ok (.if_icmp .ge off, 3)) (ht : (pc : Int) + off = (tgt : Int)) (h : x < 2 ^ 31 ∧ y < 2 ^ 31)
    (kt : y ≤ x → W p l e R s m args below meth c H locs cells slots Q (F0 m tgt ls rest)) (kf : x < y → W p l e R s m args below meth c H locs cells slots Q (F0 m (pc + 3) ls rest)) : W p l e R s m args below meth c H locs cells slots Q (F0 m pc ls (.int (nI y) :: .int (nI x) :: rest)) :=
  lv_icmp_ge hexec hb hdg ht (fun q => kt ((nI_leI h.2 h.1).mp q)) (fun q => kf (Nat.lt_of_not_le fun z => q ((nI_leI h.2 h.1).mpr z)))
theorem w_icmp_gt (hexec : p.tables.exec = Jvm.exec) (hb : c.code = cc) {x y : Nat} {off : Int} {tgt : Nat} (hdg : decode cc pc = .ok (.if_icmp .gt off, 3)) (ht : (pc : Int) + off = (tgt : Int)) (h : x < 2 ^ 31 ∧ y < 2 ^ 31)
    (kt : y < x → W p l e R s m args below meth c H locs cells slots Q (F0 m tgt ls rest)) (kf : x ≤ y → W p l e R s m args below meth c H locs cells slots Q (F0 m (pc + 3) ls rest)) : W p l e R s m args below meth c H locs cells slots Q (F0 m pc ls (.int (nI y) :: .int (nI x) :: rest)) :=
  lv_icmp_gt hexec hb hdg ht (fun q => kt ((nI_ltI h.2 h.1).mp q)) (fun q => kf (Nat.le_of_not_lt fun z => q ((nI_ltI h.2 h.1).mpr z)))
theorem w_icmp_le (hexec : p.tables.exec = Jvm.exec) (hb : c.code = cc) {x y : Nat} {off : Int} {tgt : Nat} (hdg : decode cc pc = .ok (.if_icmp .le off, 3)) (ht : (pc : Int) + off = (tgt : Int)) (h : x < 2 ^ 31 ∧ y < 2 ^ 31)
    (kt : x ≤ y → W p l e R s m args below meth c H locs cells slots Q (F0 m tgt ls rest)) (kf : y < x → W p l e R s m args below meth c H locs cells slots Q (F0 m (pc + 3) ls rest)) : W p l e R s m args below meth c H locs cells slots Q (F0 m pc ls (.int (nI y) :: .int (nI x) :: rest)) :=
  lv_icmp_le hexec hb hdg ht (fun q => kt ((nI_leI h.1 h.2).mp q)) (fun q => kf (Nat.lt_of_not_le fun z => q ((nI_leI h.1 h.2).mpr z)))
theorem w_icmp_eq (hexec : p.tables.exec = Jvm.exec) (hb : c.code = cc) {x y : Nat} {off : Int} {tgt : Nat} (hdg : decode cc pc = .ok (.if_icmp .eq off, 3)) (ht : (pc : Int) + off = (tgt : Int)) (h : x < 2 ^ 31 ∧ y < 2 ^ 31)
    (kt : x = y → W p l e R s m args below meth c H locs cells slots Q (F0 m tgt ls rest)) (kf : x ≠ y → W p l e R s m args below meth c H locs cells slots Q (F0 m (pc + 3) ls rest)) : W p l e R s m args below meth c H locs cells slots Q (F0 m pc ls (.int (nI y) :: .int (nI x) :: rest)) :=
  lv_icmp_eq hexec hb hdg ht (fun q => kt ((nI_eq h.1 h.2).mp q)) (fun q => kf (fun z => q ((nI_eq h.1 h.2).mpr z)))
theorem w_icmp_ne (hexec : p.tables.exec = Jvm.exec) (hb : c.code = cc) {x y : Nat} {off : Int} {tgt : Nat} (hdg : decode cc pc = .ok (.if_icmp .ne off, 3)) (ht : (pc : Int) + off = (tgt : Int)) (h : x < 2 ^ 31 ∧ y < 2 ^ 31)
    (kt : x ≠ y → W p l e R s m args below meth c H locs cells slots Q (F0 m tgt ls rest)) (kf : x = y → W p l e R s m args below meth c H locs cells slots Q (F0 m (pc + 3) ls rest)) : W p l e R s m args below meth c H locs cells slots Q (F0 m pc ls (.int (nI y) :: .int (nI x) :: rest)) :=
  lv_icmp_ne hexec hb hdg ht (fun q => kt (fun z => q ((nI_eq h.1 h.2).mpr z))) (fun q => kf ((nI_eq h.1 h.2).mp q))
theorem w_if_eq (hexec : p.tables.exec = Jvm.exec) (hb : c.code = cc) {x : Nat} {off : Int} {tgt : Nat} (hdg : decode cc pc = .ok (.ifCond .eq off, 3)) (ht : (pc : Int) + off = (tgt : Int)) (h : x < 2 ^ 31)
    (kt : x = 0 → W p l e R s m args below meth c H locs cells slots Q (F0 m tgt ls rest)) (kf : x ≠ 0 → W p l e R s m args below meth c H locs cells slots Q (F0 m (pc + 3) ls rest)) : W p l e R s m args below meth c H locs cells slots Q (F0 m pc ls (.int (nI x) :: rest)) :=
  lv_if_eq hexec hb hdg ht (fun q => kt ((nI_eq h (by decide : 0 < 2 ^ 31)).mp q)) (fun q => kf (fun z => q (by rw [z]; rfl)))
theorem w_if_ne (hexec : p.tables.exec = Jvm.exec) (hb : c.code = cc) {x : Nat} {off : Int} {tgt : Nat} (hdg : decode cc pc = .ok (.ifCond .ne off, 3)) (ht : (pc : Int) + off = (tgt : Int)) (h : x < 2 ^ 31)
    (kt : x ≠ 0 → W p l e R s m args below meth c H locs cells slots Q (F0 m tgt ls rest)) (kf : x = 0 → W p l e R s m args below meth c H locs cells slots Q (F0 m (pc + 3) ls rest)) : W p l e R s m args below meth c H locs cells slots Q (F0 m pc ls (.int (nI x) :: rest)) :=
  lv_if_ne hexec hb hdg ht (fun q => kt (fun z => q (by rw [z]; rfl))) (fun q => kf ((nI_eq h (by decide : 0 < 2 ^ 31)).mp q))
theorem w_if_le (hexec : p.tables.exec = Jvm.exec) (hb : c.code = cc) {x : Nat} {off : Int} {tgt : Nat} (hdg : decode cc pc = .ok (.ifCond .le off, 3)) (ht : (pc : Int) + off = (tgt : Int)) (h : x < 2 ^ 31)
    (kt : x = 0 → W p l e R s m args below meth c H locs cells slots Q (F0 m tgt ls rest)) (kf : 0 < x → W p l e R s m args below meth c H locs cells slots Q (F0 m (pc + 3) ls rest)) : W p l e R s m args below meth c H locs cells slots Q (F0 m pc ls (.int (nI x) :: rest)) :=
  lv_if_le hexec hb hdg ht (fun q => kt (Nat.le_zero.mp ((nI_leI h (by decide : 0 < 2 ^ 31)).mp q))) (fun q => kf (Nat.pos_of_ne_zero fun z => q (by rw [z]; exact (nI_leI (by decide) (by decide)).mpr (Nat.le_refl 0))))
theorem w_goto (hexec : p.tables.exec = Jvm.exec) (hb : c.code = cc) {off : Int} {tgt : Nat} (hdg : decode cc pc = .ok (.goto off, 3)) (ht : (pc : Int) + off = (tgt : Int)) (k : W p l e R s m args below meth c H locs cells slots Q (F0 m tgt ls rest)) : W p l e R s m args below meth c H locs cells slots Q (F0 m pc ls rest) := lv_goto hexec hb hdg ht k
variable {D : va_G} {cI cJ cO : ClassId} {nL : Nat} {own : String} {ws : va_W} {a : Nat} {A : Nat → Prop} {H0 : Heap}
theorem w_ald (X : Cx D cI cJ cO p s m c cc nL own) (hP : va_P D vCL ws H) (q0 : Nat) {n : Nat} {f : Nat → Int32} (ha : ws[q0]? = some (a, .inl (cI, n, .inl f))) {i : Nat} (hi : i < n) (hn : n < 2 ^ 31) (hdg : decode cc pc = .ok (.iaload, 1))
    (kk : W p l e R s m args below meth c H locs cells slots Q (F0 m (pc + 1) ls (.int (f i) :: rest))) : W p l e R s m args below meth c H locs cells slots Q (F0 m pc ls (.int (nI i) :: .ref a :: rest)) :=
  va_iald X.x X.b X.K hP q0 0 ha rfl (vp_in_nI hi hn) hdg (by rw [nI_clamp (by omega)]; exact kk)
theorem w_ast (X : Cx D cI cJ cO p s m c cc nL own) (hP : va_P D vCL ws H) (hD : va_D A ws) (hS : va_S A H0 H locs) (q0 : Nat) {n : Nat} {f : Nat → Int32} (ha : ws[q0]? = some (a, .inl (cI, n, .inl f))) {i : Nat} {x : Int32} (hi : i < n) (hn : n < 2 ^ 31) {ws' : va_W} (hws : ws.set q0 (a, .inl (cI, n, .inl (upd f i x))) = ws') (hdg : decode cc pc = .ok (.iastore, 1))
    (kk : ∀ (H1 : Heap) (locs1 : List Loc), va_P D vCL ws' H1 → va_D A ws' → va_S A H0 H1 locs1 → W p l e R s m args below meth c H1 locs1 cells slots Q (F0 m (pc + 1) ls rest)) : W p l e R s m args below meth c H locs cells slots Q (F0 m pc ls (.int x :: .int (nI i) :: .ref a :: rest)) := by
  subst hws
  refine va_iast X.x X.b X.K hP hD hS q0 0 ha rfl (vp_in_nI hi hn) hdg (fun H1 locs1 => ?_)
  rw [nI_clamp (by omega)]
  exact kk H1 locs1
end NUM
