/-! throwing and catching: a method that throws a new object and leaves all else as it was; a call of it; a handler -/
def xc (X : String) (x : Addr) (t : State) : Prop := ∃ ce : Cell, t.heap[x]? = some ce ∧ ce.vm = .none ∧ t.vm.findClass X = some ce.cls
def MetT (l : Launch) (y : MethodName) (ws : List Cond) (rm : Room) (Pc : Array Value → State → Prop) (X : String) (mc ms : Nat) : Prop :=
  MetFree l y (headSpec ws rm) Pc (fun _ _ _ _ _ => True) (fun _ st o t => ∃ x : Addr, o = .threw x ∧ xc X x t ∧ st.WarmedH t.vm ∧ st.sameButNew ({ t with vm := st.vm } : State) [] mc ms)
def TQ (below : List Frame) (X : String) (s : State) (mc ms : Nat) : State → Prop := fun t => ∃ x : Addr, t.status = .running ∧ Ended t below (.threw x) ∧ xc X x t ∧ s.WarmedH t.vm ∧ s.sameButNew ({ t with vm := s.vm } : State) [] mc ms
theorem MetT.ofW {l : Launch} {y : MethodName} {rm : Room} {Pc : Array Value → State → Prop} {X : String} {mc ms : Nat} {cc : ByteArray} {maxL : Nat} {ret : Option FieldType}
    (hy : plainName y.cls = true)
    (body : ∀ p e s m args below meth c s₁, BodyLoose p l y (headSpec [Cond.code y cc maxL ret] rm) cc maxL ret e s m args below meth c s₁ → c.maxLocals = maxL → Pc args s →
      W p l e rm s m args below meth c s.heap [] 0 0 (TQ below X s mc ms) (entryFrame m args maxL)) : MetT l y [Cond.code y cc maxL ret] rm Pc X mc ms := by
  refine MetFree.of_bodyS (code := cc) (maxLocals := maxL) (ret := ret) hy ?_ ?_
  · intro args s m h hn
    obtain ⟨meth, c, h1, h2, h3, h4, h5, h6, -, -⟩ := Cond.code_spec hn (atoms_spec (ws := [Cond.code y cc maxL ret]) h _ List.mem_cons_self)
    exact ⟨meth, c, h1, h2, h3, h4, h5, h6⟩
  · intro p e s m args below meth c s₁ B hml hP _
    have hh0 : s₁.heap = s.heap := by rw [B.state]; rfl
    obtain ⟨t, a1, x, b1, b2, b3, b4, b5⟩ := body p e s m args below meth c s₁ B hml hP s₁ hh0 (Stand.of_body B)
    exact ⟨t, .threw x, a1, b1, b2, x, rfl, b3, b4, b5⟩
/-- nothing old has changed -/
theorem same_old {s t : State} {mc ms : Nat} (h : s.sameButNew t [] mc ms) {q : Nat} (hq : q < s.heap.size) : t.heap[q]? = s.heap[q]? := by
  obtain ⟨c', h1, h2, h3, h4⟩ := h.2.2.2.2.2 q _ (Array.getElem?_eq_getElem hq)
  rw [Array.getElem?_eq_getElem hq, h1]
  have h5 : c'.slots = (s.heap[q]).slots := Array.ext_getElem? fun i => h4 i (by simp)
  rw [h2, h5]
/-- the statics that an exception's maker reads -/
def zs (U : State) : Prop := (Cond.laysStatic "java/lang/Throwable" "UNASSIGNED_STACK" "[Ljava/lang/StackTraceElement;").before #[] U = true ∧ (Cond.laysStatic "java/lang/Throwable" "SUPPRESSED_SENTINEL" "Ljava/util/List;").before #[] U = true ∧
  (Cond.isRef (.static "java/lang/Throwable" "UNASSIGNED_STACK" "[Ljava/lang/StackTraceElement;")).before #[] U = true ∧ (Cond.isRef (.static "java/lang/Throwable" "SUPPRESSED_SENTINEL" "Ljava/util/List;")).before #[] U = true
theorem zs_lays {C n d : String} {s U : State} (hvm : s.vm.Alike U.vm) (hh : ∀ (q : Nat) (c : Cell), s.heap[q]? = some c → U.heap[q]? = some c) (h1 : (Cond.laysStatic C n d).before #[] s = true) : (Cond.laysStatic C n d).before #[] U = true := by
  obtain ⟨c, k, i, f, a, cell, hc, hi, hst, ha, hcell, hs, hcls, hlt, hty⟩ := Cond.laysStatic_spec h1
  obtain ⟨k', hi', he⟩ := State.fieldFound?_setVm hvm hi
  exact Cond.laysStatic_of (s := U) (by rw [hvm.findClass]; exact hc) hi' hst (by rw [he]; exact ha) (hh _ _ hcell) hs hcls hlt (by rw [he]; exact hty)
theorem zs_ref {C n d : String} {s U : State} (hvm : s.vm.Alike U.vm) (hh : ∀ (q : Nat) (c : Cell), s.heap[q]? = some c → U.heap[q]? = some c) (h1 : (Cond.laysStatic C n d).before #[] s = true) (h2 : (Cond.isRef (.static C n d)).before #[] s = true) : (Cond.isRef (.static C n d)).before #[] U = true := by
  obtain ⟨c, k, i, f, a, cell, hc, hi, hst, ha, hcell, hs, hcls, hlt, hty⟩ := Cond.laysStatic_spec h1
  obtain ⟨k', hi', he⟩ := State.fieldFound?_setVm hvm hi
  have hi2 : U.fieldFound? C n d = some (c, k', i, f) := hi'
  have ha2 : k'.statics = some a := by rw [he]; exact ha
  have hcell2 := hh _ _ hcell
  have e1 : (Term.static C n d).eval #[] s none [] s = cell.slots[f.slot]? := by simp [Term.eval, State.fieldNamed?, hi, hst, ha, hcell, hs]
  have e2 : (Term.static C n d).eval #[] U none [] U = cell.slots[f.slot]? := by simp [Term.eval, State.fieldNamed?, hi2, hst, ha2, hcell2, hs]
  simp only [Cond.before, Cond.holds, Cond.value, e1] at h2
  simp only [Cond.before, Cond.holds, Cond.value, e2]
  exact h2
theorem zs.move {s U : State} (hvm : s.vm.Alike U.vm) (hh : ∀ (q : Nat) (c : Cell), s.heap[q]? = some c → U.heap[q]? = some c) (h : zs s) : zs U :=
  ⟨zs_lays hvm hh h.1, zs_lays hvm hh h.2.1, zs_ref hvm hh h.1 h.2.2.1, zs_ref hvm hh h.2.1 h.2.2.2⟩
theorem static_any {C n d : String} {U : State} {A A' : Array Value} (h : (Cond.isRef (.static C n d)).before A U = true) : (Cond.isRef (.static C n d)).before A' U = true := h
section EX
variable {p : Program} {l : Launch} {e : Env} {R : Room} {s : State} {m : MethodId} {args : Array Value} {below : List Frame} {meth : Method} {c : Code} {H : Heap} {locs : List Loc} {cells slots : Nat} {Q : State → Prop}
variable {cc : ByteArray} {pc : Nat} {ls : Array Slot} {rest : List Value}
/-- throw new X() in a method without handlers that has changed nothing -/
theorem ex_throw {own cls : String} {names : List String} {ci ic : Nat} (hexec : p.tables.exec = Jvm.exec) (hb : c.code = cc) (hfl : l.flags = pinnedFlags ++ [noTraceFlag]) (hown : s.vm.findClass own = some m.cls) (hcls : Bundle.fit cls = true) (hnames : ∀ n ∈ names, Bundle.fit n = true) (h : ∀ a ∈ Bundle.ownAtoms0 own ic cls names, a.before args s = true)
    (hcl : (Cond.classLink own ci cls).before args s = true) (hins : (Cond.instantiable cls 6).before args s = true) (hini : (Cond.initialized cls).before args s = true) (htab : c.exceptionTable.isEmpty = true) (hl : ls.size = c.maxLocals) (hlocks : meth.locks = false)
    (hd0 : decode cc pc = .ok (.new ci, 3)) (hd3 : decode cc (pc + 3) = .ok (.dup, 1)) (hd4 : decode cc (pc + 4) = .ok (.invokespecial ic, 3)) (hd7 : decode cc (pc + 7) = .ok (.athrow, 1)) (hRc : 1 ≤ R.cells ∧ 6 ≤ R.slots) (hRf : names.length + 3 < R.frames) (hRl : 1 + (13 * (names.length + 1) + 41) ≤ R.locals) :
    W p l e R s m args below meth c s.heap [] 0 0 (TQ below cls s 1 6) (F0 m pc ls []) := by
  obtain ⟨cC, kX, hcC, hk, hord, -, -, hn6⟩ := Cond.instantiable_spec hins
  refine W.newcK hexec hb hown hcl hins hini rfl hd0 (by omega) (by omega) hcC rfl fun H1 kC hkC e1 z1 o1 => ?_
  refine lv_dup hexec hb hd3 rfl ?_
  intro T hT X
  obtain ⟨U, st, hrun, hend, hW, hsame, ce, hce, hO⟩ := X.ctorThrow0 hexec (Launch.traces_off hfl X.admits) (ic := ic) (names := names) hown hcls hnames h (fun x hx => by cases hx) hcC hkC (by rw [hT]; exact e1) (Nat.le_refl _) (g := F0 m (pc + 3 + 1) ls [.ref s.heap.size, .ref s.heap.size]) rfl hl rfl rfl (rest := []) rfl (by rw [hb]; exact hd4) (by rw [hb]; exact hd7) (fun x hx => by
      have h0 : c.exceptionTable.toList = [] := by
        have : c.exceptionTable.size = 0 := by simpa [Array.isEmpty] using htab
        exact List.eq_nil_of_length_eq_zero (by simpa using this)
      rw [h0] at hx
      cases hx) hRf (by simpa [JFrame.monitorRoom, Value.category] using hRl)
  refine ⟨U, st, s.heap.size, hrun, hend, ⟨ce, hce, hO.vm, ?_⟩, hW, by simpa using hsame⟩
  rw [hW.alike.findClass]
  exact hO.cls
/-- a call that throws: the machine comes to the note over the caller's frame -/
def ThrRun (p : Program) (l : Launch) (e : Env) (R : Room) (s : State) (m : MethodId) (args : Array Value) (below : List Frame) (meth : Method) (c : Code) (H : Heap) (locs : List Loc) (cells slots mc ms : Nat) (g : JFrame) (rest : List Value) (Xn : String) : Prop :=
  ∀ T : State, T.heap = H → Stand p l e R s m args below meth c T locs cells slots → ∃ (x : Addr) (T' : State), Stand p l e R s m args below meth c T' locs (cells + mc) (slots + ms) ∧ xc Xn x T' ∧ H.size ≤ T'.heap.size ∧ (∀ q : Nat, q < H.size → T'.heap[q]? = H[q]?) ∧
    ∀ target, Steps p.tables e below ((T'.setTop { g with stack := rest }).pushFrame (.throwing x)) target → Steps p.tables e below (T.setTop g) target
variable {y : MethodName} {bytes : ByteArray} {maxL : Nat} {ret : Option FieldType} {rm : Room} {Pc : Array Value → State → Prop} {Xn : String} {mc ms : Nat}
theorem thr_back {T : State} (X : Stand p l e R s m args below meth c T locs cells slots) (hM : MetT l y [Cond.code y bytes maxL ret] rm Pc Xn mc ms) (hbl : FrameBlind Pc) (hrc : rm.cells = mc) (hrs : rm.slots = ms) (hfr : rm.frames + 1 ≤ R.frames) (hlo : 8 + (maxL + 11) + rm.locals ≤ R.locals) {a : Array Value}
    (hcode : (Cond.code y bytes maxL ret).before a T = true) (hini : (Cond.initialized y.cls).before a T = true) (hf : cells + mc ≤ R.cells ∧ slots + ms ≤ R.slots) (hP : Pc a T) {g : JFrame} (hg : g.method = m) (hsize : g.locals.size = c.maxLocals) {ig : Instr} {len : Nat} (hdg : decode c.code g.pc = .ok (ig, len)) (hW : 2 * g.monitorRoom + (g.stack.map fun v => v.category).sum ≤ 8) {mk : MethodId} (hn : T.methodNamed? y = some mk) :
    ∃ (x : Addr) (T' : State), Stand p l e R s m args below meth c T' locs (cells + mc) (slots + ms) ∧ xc Xn x T' ∧ T.heap.size ≤ T'.heap.size ∧ (∀ q : Nat, q < T.heap.size → T'.heap[q]? = T.heap[q]?) ∧ Steps p.tables e below (doInvoke e (T.setTop g) [] mk a).1 ((T'.setTop g).pushFrame (.throwing x)) := by
  obtain ⟨methY, cY, hmY, hcY, -, hlY, -, -, -, -⟩ := Cond.code_spec hn hcode
  obtain ⟨kY, hkY, -⟩ := className_of_methodNamed hn
  have hinitY : kY.init = .initialized := Cond.initialized_spec (findClass_of_methodNamed hn) hkY hini
  have h : At T g.method c below := by rw [hg]; exact X.here
  have hpre : (headSpec [Cond.code y bytes maxL ret] rm).pre.before a T = true := atoms_intro fun w hw => by rw [List.mem_singleton] at hw; subst hw; exact hcode
  have happ : (headSpec [Cond.code y bytes maxL ret] rm).appliesLoose y e.platform (T.calling g mk a) = true :=
    Spec.appliesLoose_calling (g := g) h hdg hn hkY hinitY
      (X.room_calling (g := g) (R' := rm) hsize hmY hcY hfr (by rw [hlY]; omega) (by rw [hrc]; exact hf.1) (by rw [hrs]; exact hf.2)) hpre
  obtain ⟨mid, hmid⟩ := h.above
  have hfrm : (T.setTop g).frames = (.java g :: mid) ++ below := by rw [State.frames_setTop' g h.top, hmid]; rfl
  obtain ⟨o, s₂, hsteps, -, hend, x, rfl, hxc, hW₂, hsame⟩ := Steps.callFree hM p X.admits X.cas X.clock (acts := []) hfrm happ (hbl _ _ _ _ hP) trivial
  rw [State.frames_setTop' g h.top, X.tail] at hend
  have hsame' : (T.calling g mk a).sameButNew ({ s₂ with vm := (T.calling g mk a).vm } : State) [] mc ms := hsame
  have hW' : (T.calling g mk a).WarmedH s₂.vm := hW₂
  obtain ⟨T', X', hWT, hsT, ht⟩ := X.outOfThrown hg hend hW' hsame'
  rw [List.append_nil] at X'
  have hheap : s₂.heap = T'.heap := by rw [ht]; exact Stand.throwing_heap T' g x
  have hvm : s₂.vm = T'.vm := by rw [ht]; exact Stand.throwing_vm T' g x
  refine ⟨x, T', X', ?_, ?_, ?_, ?_⟩
  · obtain ⟨ce, h1, h2, h3⟩ := hxc
    exact ⟨ce, by rw [← hheap]; exact h1, h2, by rw [← hvm]; exact h3⟩
  · exact hsT.2.1
  · intro q hq
    exact same_old hsT hq
  · rw [← ht]; exact hsteps
theorem thr_V {own C : String} {index n : Nat} {b : Addr} {As : List Value} {st0 : List Value} {nL : Nat} {D : va_G} {cI cJ cO : ClassId} (X : Cx D cI cJ cO p s m c cc nL own) (hM : MetT l y [Cond.code y bytes maxL ret] rm Pc Xn mc ms) (cb : CallB R s args own index y bytes maxL ret [Cond.code y bytes maxL ret] rm mc ms n) (w2 : Cond.instanceMethod y ∈ am_l) (w3 : Cond.selects C y y ∈ am_l) (hp : PreV s H C b Pc As)
    (hn : As.length = n) (hl : ls.size = nL) (hst : st0 = As.reverse ++ .ref b :: rest) (hW : (rest.map fun v => v.category).sum ≤ 8) (hdg : decode cc pc = .ok (.invokevirtual index, 3)) (hf : cells + mc ≤ R.cells ∧ slots + ms ≤ R.slots) :
    ThrRun p l e R s m args below meth c H locs cells slots mc ms (F0 m pc ls st0) rest Xn := by
  intro T hT XT
  obtain ⟨hrc, hrs, hfr, hlo, hws, hcw, hcode, hini, hy, hlen, hlk⟩ := cb
  obtain ⟨hbl, ⟨cellB, hcB, hoB, hclB⟩, hPc⟩ := hp
  have hinst := X.w w2 args
  have hsel := X.w w3 args
  obtain ⟨mk, methM, hnamed, hmethM, hstM, habM⟩ := Cond.instanceMethod_spec hinst
  obtain ⟨methM', cM, hmethM', -, -, -, -, -, -, hsigM⟩ := Cond.code_spec hnamed hcode
  cases hmethM.symm.trans hmethM'
  obtain ⟨c2, r2, m2, q1, q2, q3, q4, kP, hkP, hkPi⟩ := Cond.selects_spec hsel
  cases hclB.symm.trans q1
  cases (State.methodFound?_of_named hnamed hy).symm.trans q2
  cases hnamed.symm.trans q3
  have hselP : selectMethod e.platform s.vm cellB.cls mk = .method mk := by rw [Launch.admits_selectMethod XT.admits]; exact q4
  obtain ⟨vm₁, X₁, hstep₁⟩ := XT.invokevirtual X.x X.o hlk hnamed hmethM hstM hkP hkPi hy (a := b) (cell := cellB) (by rw [hT]; exact hcB)
    (fun z h => by rw [h] at hoB; cases hoB) hselP hmethM habM hkP hkPi (g := F0 m pc ls st0) rfl (argsL := As) (rest := rest) (hn.trans (hlen _ hsigM)) hst (by rw [X.b]; exact hdg)
  obtain ⟨x, T', X', h1, h2, h3, h4⟩ := thr_back X₁ hM hbl hrc hrs hfr hlo (a := (Value.ref b :: As).toArray) (hws _ hcw _ _ X₁.warmed) (word_at X₁.warmed (Or.inl (by first | rfl | simp [Cond.onTables, Cond.keeps, Cond.steady])) hini) hf (hPc (T.setVm vm₁) hT X₁.warmed) (g := F0 m pc ls rest) rfl (hl.trans X.ml.symm) (by rw [X.b]; exact hdg) (lv_room hW) (X₁.named hnamed)
  have hh : (T.setVm vm₁).heap = H := hT
  rw [hh] at h2 h3
  exact ⟨x, T', X', h1, h2, h3, fun target h => hstep₁ _ fun acts => by rw [doInvoke_state]; exact h4.trans h⟩
theorem thr_S {own : String} {index n : Nat} {As : List Value} {st0 : List Value} {nL : Nat} {D : va_G} {cI cJ cO : ClassId} (X : Cx D cI cJ cO p s m c cc nL own) (hM : MetT l y [Cond.code y bytes maxL ret] rm Pc Xn mc ms) (cb : CallB R s args own index y bytes maxL ret [Cond.code y bytes maxL ret] rm mc ms n) (w2 : Cond.static y ∈ am_l) (hp : PreS s H Pc As)
    (hn : As.length = n) (hl : ls.size = nL) (hst : st0 = As.reverse ++ rest) (hW : (rest.map fun v => v.category).sum ≤ 8) (hdg : decode cc pc = .ok (.invokestatic index, 3)) (hf : cells + mc ≤ R.cells ∧ slots + ms ≤ R.slots) :
    ThrRun p l e R s m args below meth c H locs cells slots mc ms (F0 m pc ls st0) rest Xn := by
  intro T hT XT
  obtain ⟨hrc, hrs, hfr, hlo, hws, hcw, hcode, hini, hy, hlen, hlk⟩ := cb
  obtain ⟨hbl, hPc⟩ := hp
  have hstat := X.w w2 args
  obtain ⟨mk, hnamed⟩ := Cond.code_named hcode
  obtain ⟨methM, cM, hmethM, -, -, -, -, -, -, hsigM⟩ := Cond.code_spec hnamed hcode
  have hstatic : methM.isStatic = true := Cond.static_spec hnamed hmethM hstat
  obtain ⟨kP, hkP, -⟩ := className_of_methodNamed hnamed
  have hinitP : kP.init = .initialized := Cond.initialized_spec (findClass_of_methodNamed hnamed) hkP hini
  obtain ⟨vm₁, X₁, hstep₁⟩ := XT.invokestatic X.x X.o hlk hnamed hmethM hstatic hkP hinitP hy (g := F0 m pc ls st0) rfl (argsL := As) (rest := rest) (hn.trans (hlen _ hsigM)) hst (by rw [X.b]; exact hdg)
  obtain ⟨x, T', X', h1, h2, h3, h4⟩ := thr_back X₁ hM hbl hrc hrs hfr hlo (a := As.toArray) (hws _ hcw _ _ X₁.warmed) (word_at X₁.warmed (Or.inl (by first | rfl | simp [Cond.onTables, Cond.keeps, Cond.steady])) hini) hf (hPc (T.setVm vm₁) hT X₁.warmed) (g := F0 m pc ls rest) rfl (hl.trans X.ml.symm) (by rw [X.b]; exact hdg) (lv_room hW) (X₁.named hnamed)
  have hh : (T.setVm vm₁).heap = H := hT
  rw [hh] at h2 h3
  exact ⟨x, T', X', h1, h2, h3, fun target h => hstep₁ _ fun acts => by rw [doInvoke_state]; exact h4.trans h⟩
/-- .. and is not caught: the caller throws too -/
theorem thr_out {st0 : List Value} (hr : ThrRun p l e R s m args below meth c H [] cells slots mc ms (F0 m pc ls st0) rest Xn) (htab : c.exceptionTable.isEmpty = true) (hlocks : meth.locks = false) : W p l e R s m args below meth c H [] cells slots (TQ below Xn s (cells + mc) (slots + ms)) (F0 m pc ls st0) := by
  intro T hT X
  obtain ⟨x, T', X', hxc, -, -, st⟩ := hr T hT X
  have hout : ∀ z ∈ c.exceptionTable.toList, covers z pc = false := fun z hz => by
    have h0 : c.exceptionTable.toList = [] := by
      have : c.exceptionTable.size = 0 := by simpa [Array.isEmpty] using htab
      exact List.eq_nil_of_length_eq_zero (by simpa using this)
    rw [h0] at hz
    cases hz
  obtain ⟨h1, h2, h3, h4, h5⟩ := X'.leaveThrown x (g := F0 m pc ls rest) rfl rfl rfl hout hlocks
  exact ⟨T'.setFrames (.throwing x :: below), st _ h1, x, h2, h3, hxc, h4, h5⟩
/-- the search for a handler where the entry's class may be unresolved yet -/
theorem go_cold {E : CtlPost} {d : Bool} {acts : List Action} {S0 : State} {f : JFrame} {a : Addr} {Qh : Handler → Pre} {x : ExceptionTableEntry} {t : List ExceptionTableEntry} {c0 : ClassId} {vm' : Vm} {cell : Cell} (hx : covers x f.pc = true) (h0 : x.catchType ≠ 0) (hg : (Jvm.resolveClass f.method.cls x.catchType).Gives e.toSetting S0.vm (.ok c0) vm') (hr : vm'.classReady f.method.cls x.catchType c0) (hsz : vm'.classes.size ≤ S0.vm.classes.size)
    (hcell : S0.heap[a]? = some cell) (hobj : ∀ k, cell.vm ≠ .statics k) (hk : ∃ k, vm'.classes[cell.cls]? = some k) (hc : ∃ k, vm'.classes[c0]? = some k) :
    wp (findHandler.go f a (x :: t)) Qh E e d acts S0 ↔ if vm'.assignable cell.cls c0 = true then Qh (.found x.handlerPc) d acts (S0.setVm vm') else wp (findHandler.go f a t) Qh E e d acts (S0.setVm vm') := by
  simp only [covers] at hx
  obtain ⟨ha, ht⟩ := hg.op (op := VmOp.resolveClass f.method.cls x.catchType) rfl
  cases hfit : vm'.assignable cell.cls c0 <;>
    simp [findHandler.go, hx, h0, ha, ht, hsz, hcell, hobj, hk, hc, hfit, VmOp.dirties, VmOp.acts]
/-- what the search gives, and the tables behind it -/
def FindsV (e : Env) (S0 : State) (f : JFrame) (a : Addr) (h : Handler) (vm' : Vm) : Prop := ∀ (Qh : Handler → Pre) (E : CtlPost) (d : Bool) (acts : List Action), wp (findHandler f a) Qh E e d acts S0 ↔ Qh h d acts (S0.setVm vm')
theorem step_catch {S0 : State} {a : Addr} {f : JFrame} {r : List Frame} {hp : Nat} {vm' : Vm} (hfind : FindsV e S0 f a (.found hp) vm') :
    (stepThrowing e S0 a (.java f :: r)).Is ((S0.setVm vm').setFrames (.java { f with pc := hp, stack := [.ref a] } :: r)) [] := by
  simp only [stepThrowing, searchFrame, vmDo]
  generalize hr : Sem.go _ e false [] S0 = res
  obtain ⟨as, rfl, ha⟩ := Sem.eq_ok_of hr (a := Handler.found hp) (s' := S0.setVm vm') (acts' := []) (by simp [hfind _ _ _ _])
  exact ⟨rfl, ha⟩
theorem steps_catch {tb : Tables} {S0 target : State} {g : JFrame} {a : Addr} {hp : Nat} {vm' : Vm} (h : At S0 g.method c below) (ha : S0.vm.Alike vm') (hfind : FindsV e ((S0.setTop g).pushFrame (.throwing a)) g a (.found hp) vm')
    (hrest : Steps tb e below ((S0.setVm vm').setTop { g with pc := hp, stack := [.ref a] }) target) : Steps tb e below ((S0.setTop g).pushFrame (.throwing a)) target := by
  obtain ⟨hgo, hw⟩ := h.throwing a
  refine Steps.head hgo hw ?_
  rw [stepThread_throwing (frames_entered h.top _), (step_catch (S0 := (S0.setTop g).pushFrame (.throwing a)) hfind).1]
  obtain ⟨g₀, hg⟩ := Option.isSome_iff_exists.mp h.top
  obtain ⟨r, hr⟩ := State.topJava?_eq_some.mp hg
  have hr' : (S0.setVm vm').frames = .java g₀ :: r := hr
  rw [State.setTop_of_frames _ hr'] at hrest
  rw [State.pushFrame, State.setTop_of_frames _ hr, State.setFrames_setFrames]
  have e1 : ((S0.setFrames (Frame.throwing a :: (S0.setFrames (Frame.java g :: r)).frames)).setVm vm').setFrames (Frame.java { g with pc := hp, stack := [.ref a] } :: S0.frames.tail) = (S0.setVm vm').setFrames (Frame.java { g with pc := hp, stack := [.ref a] } :: r) := by
    have e2 : ∀ fs : List Frame, (S0.setFrames fs).setVm vm' = (S0.setVm vm').setFrames fs := fun _ => rfl
    rw [e2, State.setFrames_setFrames, hr]
    rfl
  first
    | (rw [e1]; exact hrest)
    | (simp only [hr, List.tail_cons] at e1 ⊢; rw [e1]; exact hrest)
/-- the first entry takes it -/
theorem cat1 {T : State} (X : Stand p l e R s m args below meth c T locs cells slots) {own name : String} (hown : s.vm.findClass own = some m.cls) {x : ExceptionTableEntry} {t : List ExceptionTableEntry} (htab : c.exceptionTable.toList = x :: t) (h0 : x.catchType ≠ 0) (hlink : (Cond.classLink own x.catchType name).before args s = true)
    {a : Addr} {cell : Cell} {cT : ClassId} (hcell : T.heap[a]? = some cell) (hobj : cell.vm = .none) (hcT : s.vm.findClass name = some cT) (hasg : s.vm.assignable cell.cls cT = true) {g : JFrame} (hg : g.method = m) (hx : covers x g.pc = true) :
    ∃ vm', Stand p l e R s m args below meth c (T.setVm vm') locs cells slots ∧ ∀ target, Steps p.tables e below ((T.setVm vm').setTop { g with pc := x.handlerPc, stack := [.ref a] }) target → Steps p.tables e below ((T.setTop g).pushFrame (.throwing a)) target := by
  have hpl : e.platform.magicAccessors = ({} : Platform).magicAccessors := by rw [X.admits.platform]
  obtain ⟨c', hc', hcl⟩ := Cond.classLink_spec hown hlink e.platform hpl
  cases hcT.symm.trans hc'
  obtain ⟨dk, _, _, kt, hd, _, _, _, _, hkt, _, hopen⟩ := hcl.here
  obtain ⟨ks, hks⟩ := Vm.classAt_of_assignable hasg ⟨kt, hkt⟩
  have hcl₀ := X.warmed.classLinks hcl
  have hW' : s.WarmedH (T.vm.noted m.cls x.catchType (.cls cT)) := X.warmed.noted hd hopen (State.rightAt_cls hcl)
  obtain ⟨ks', hks', -⟩ := hW'.alike.2.2 _ _ hks
  obtain ⟨kt', hkt', -⟩ := hW'.alike.2.2 _ _ hkt
  refine ⟨_, X.noted hW', fun target hrest => ?_⟩
  subst hg
  refine steps_catch (c := c) (vm' := T.vm.noted g.method.cls x.catchType (.cls cT)) X.here (X.warmed.alike.symm.trans hW'.alike) ?_ hrest
  intro Qh E d acts
  have hvm : ((T.setTop g).pushFrame (.throwing a)).vm = T.vm := Stand.throwing_vm T g a
  have hhp : ((T.setTop g).pushFrame (.throwing a)).heap = T.heap := Stand.throwing_heap T g a
  rw [W.findHandler_eq (meth := meth) (code := c) (by rw [hvm]; exact X.method') X.code, htab]
  rw [go_cold (c0 := cT) (vm' := T.vm.noted g.method.cls x.catchType (.cls cT)) (cell := cell) hx h0 (by rw [hvm]; exact resolveClass_links e.toSetting hcl₀) hcl₀.ready (by rw [hvm]; simp) (by rw [hhp]; exact hcell) (fun k hk => by rw [hobj] at hk; cases hk) ⟨ks', hks'⟩ ⟨kt', hkt'⟩, if_pos (by rw [hW'.alike.assignable]; exact hasg)]
/-- the first passes it, the second takes it -/
theorem cat2 {T : State} (X : Stand p l e R s m args below meth c T locs cells slots) {own name1 name2 : String} (hown : s.vm.findClass own = some m.cls) {x1 x2 : ExceptionTableEntry} {t : List ExceptionTableEntry} (htab : c.exceptionTable.toList = x1 :: x2 :: t) (h01 : x1.catchType ≠ 0) (h02 : x2.catchType ≠ 0) (hlink1 : (Cond.classLink own x1.catchType name1).before args s = true) (hlink2 : (Cond.classLink own x2.catchType name2).before args s = true)
    {a : Addr} {cell : Cell} {cT1 cT2 : ClassId} (hcell : T.heap[a]? = some cell) (hobj : cell.vm = .none) (hcT1 : s.vm.findClass name1 = some cT1) (hno : s.vm.assignable cell.cls cT1 = false) (hcT2 : s.vm.findClass name2 = some cT2) (hasg : s.vm.assignable cell.cls cT2 = true) {g : JFrame} (hg : g.method = m) (hx1 : covers x1 g.pc = true) (hx2 : covers x2 g.pc = true) :
    ∃ vm', Stand p l e R s m args below meth c (T.setVm vm') locs cells slots ∧ ∀ target, Steps p.tables e below ((T.setVm vm').setTop { g with pc := x2.handlerPc, stack := [.ref a] }) target → Steps p.tables e below ((T.setTop g).pushFrame (.throwing a)) target := by
  have hpl : e.platform.magicAccessors = ({} : Platform).magicAccessors := by rw [X.admits.platform]
  obtain ⟨c1, hc1, hcl1⟩ := Cond.classLink_spec hown hlink1 e.platform hpl
  cases hcT1.symm.trans hc1
  obtain ⟨c2, hc2, hcl2⟩ := Cond.classLink_spec hown hlink2 e.platform hpl
  cases hcT2.symm.trans hc2
  obtain ⟨dk1, _, _, kt1, hd1, _, _, _, _, hkt1, _, hopen1⟩ := hcl1.here
  obtain ⟨dk2, _, _, kt2, hd2, _, _, _, _, hkt2, _, hopen2⟩ := hcl2.here
  obtain ⟨ks, hks⟩ := Vm.classAt_of_assignable hasg ⟨kt2, hkt2⟩
  have hl1 := X.warmed.classLinks hcl1
  have hW1 : s.WarmedH (T.vm.noted m.cls x1.catchType (.cls cT1)) := X.warmed.noted hd1 hopen1 (State.rightAt_cls hcl1)
  have hl2 := hW1.classLinks hcl2
  have hW2 : s.WarmedH ((T.vm.noted m.cls x1.catchType (.cls cT1)).noted m.cls x2.catchType (.cls cT2)) := hW1.noted hd2 hopen2 (State.rightAt_cls hcl2)
  obtain ⟨ks1, hks1, -⟩ := hW1.alike.2.2 _ _ hks
  obtain ⟨kt1', hkt1', -⟩ := hW1.alike.2.2 _ _ hkt1
  obtain ⟨ks2, hks2, -⟩ := hW2.alike.2.2 _ _ hks
  obtain ⟨kt2', hkt2', -⟩ := hW2.alike.2.2 _ _ hkt2
  refine ⟨_, X.noted hW2, fun target hrest => ?_⟩
  subst hg
  refine steps_catch (c := c) (vm' := (T.vm.noted g.method.cls x1.catchType (.cls cT1)).noted g.method.cls x2.catchType (.cls cT2)) X.here (X.warmed.alike.symm.trans hW2.alike) ?_ hrest
  intro Qh E d acts
  have hvm : ((T.setTop g).pushFrame (.throwing a)).vm = T.vm := Stand.throwing_vm T g a
  have hhp : ((T.setTop g).pushFrame (.throwing a)).heap = T.heap := Stand.throwing_heap T g a
  rw [W.findHandler_eq (meth := meth) (code := c) (by rw [hvm]; exact X.method') X.code, htab]
  rw [go_cold (c0 := cT1) (vm' := T.vm.noted g.method.cls x1.catchType (.cls cT1)) (cell := cell) hx1 h01 (by rw [hvm]; exact resolveClass_links e.toSetting hl1) hl1.ready (by rw [hvm]; simp) (by rw [hhp]; exact hcell) (fun k hk => by rw [hobj] at hk; cases hk) ⟨ks1, hks1⟩ ⟨kt1', hkt1'⟩, if_neg (by rw [hW1.alike.assignable, hno]; decide)]
  rw [go_cold (S0 := ((T.setTop g).pushFrame (.throwing a)).setVm (T.vm.noted g.method.cls x1.catchType (.cls cT1))) (c0 := cT2) (vm' := (T.vm.noted g.method.cls x1.catchType (.cls cT1)).noted g.method.cls x2.catchType (.cls cT2)) (cell := cell) hx2 h02 (resolveClass_links e.toSetting hl2) hl2.ready (by simp) (by show ((T.setTop g).pushFrame (.throwing a)).heap[a]? = some cell; rw [hhp]; exact hcell) (fun k hk => by rw [hobj] at hk; cases hk) ⟨ks2, hks2⟩ ⟨kt2', hkt2'⟩, if_pos (by rw [hW2.alike.assignable]; exact hasg)]
  rfl
/-- a thrown call caught by the first entry: on at its handler, the reference alone on the stack -/
theorem thr_cat1 {own : String} {st0 : List Value} (hr : ThrRun p l e R s m args below meth c H locs cells slots mc ms (F0 m pc ls st0) rest Xn) (hown : s.vm.findClass own = some m.cls) {x : ExceptionTableEntry} {t : List ExceptionTableEntry} (htab : c.exceptionTable.toList = x :: t) (h0 : x.catchType ≠ 0) (hlink : (Cond.classLink own x.catchType Xn).before args s = true) (hself : (Cond.castable Xn Xn).before args s = true) (hx : covers x pc = true)
    (kk : ∀ (a : Addr) (H1 : Heap), H.size ≤ H1.size → (∀ q : Nat, q < H.size → H1[q]? = H[q]?) → W p l e R s m args below meth c H1 locs (cells + mc) (slots + ms) Q (F0 m x.handlerPc ls [.ref a])) : W p l e R s m args below meth c H locs cells slots Q (F0 m pc ls st0) := by
  intro T hT X
  obtain ⟨a, T', X', ⟨ce, h1, h2, h3⟩, h4, h5, st⟩ := hr T hT X
  obtain ⟨c1, c2, hc1, hc2, hasg⟩ := Cond.castable_spec hself
  cases hc1.symm.trans hc2
  have hce : s.vm.findClass Xn = some ce.cls := by rw [← X'.warmed.alike.findClass]; exact h3
  cases hc1.symm.trans hce
  obtain ⟨vm', X2, st2⟩ := cat1 X' hown htab h0 hlink h1 h2 hce hasg (g := F0 m pc ls rest) rfl hx
  obtain ⟨t2, a1, b1⟩ := kk a T'.heap h4 h5 (T'.setVm vm') rfl X2
  exact ⟨t2, st _ (st2 _ a1), b1⟩
theorem thr_cat2 {own X1 : String} {st0 : List Value} (hr : ThrRun p l e R s m args below meth c H locs cells slots mc ms (F0 m pc ls st0) rest Xn) (hown : s.vm.findClass own = some m.cls) {x1 x2 : ExceptionTableEntry} {t : List ExceptionTableEntry} (htab : c.exceptionTable.toList = x1 :: x2 :: t) (h01 : x1.catchType ≠ 0) (h02 : x2.catchType ≠ 0) (hlink1 : (Cond.classLink own x1.catchType X1).before args s = true) (hlink2 : (Cond.classLink own x2.catchType Xn).before args s = true) (hself : (Cond.castable Xn Xn).before args s = true) (hno : va_Nc Xn X1 s) (hx1 : covers x1 pc = true) (hx2 : covers x2 pc = true)
    (kk : ∀ (a : Addr) (H1 : Heap), H.size ≤ H1.size → (∀ q : Nat, q < H.size → H1[q]? = H[q]?) → W p l e R s m args below meth c H1 locs (cells + mc) (slots + ms) Q (F0 m x2.handlerPc ls [.ref a])) : W p l e R s m args below meth c H locs cells slots Q (F0 m pc ls st0) := by
  intro T hT X
  obtain ⟨a, T', X', ⟨ce, h1, h2, h3⟩, h4, h5, st⟩ := hr T hT X
  obtain ⟨c1, c2, hc1, hc2, hasg⟩ := Cond.castable_spec hself
  cases hc1.symm.trans hc2
  have hce : s.vm.findClass Xn = some ce.cls := by rw [← X'.warmed.alike.findClass]; exact h3
  cases hc1.symm.trans hce
  obtain ⟨d1, d2, hd1, hd2, hna⟩ := hno
  cases hce.symm.trans hd1
  obtain ⟨vm', X2, st2⟩ := cat2 X' hown htab h01 h02 hlink1 hlink2 h1 h2 hd2 hna hce hasg (g := F0 m pc ls rest) rfl hx1 hx2
  obtain ⟨t2, a1, b1⟩ := kk a T'.heap h4 h5 (T'.setVm vm') rfl X2
  exact ⟨t2, st _ (st2 _ a1), b1⟩
end EX
