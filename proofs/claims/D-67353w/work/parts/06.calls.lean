/-! calls: a callee's contract has its own code word alone; everything else rides in the tables' words (AM) -/
theorem sub_P {D : va_G} {ws wc : va_W} {H : Heap} (hP : va_P D vCL ws H) (is : List Nat) (hs : is.map (fun i => ws[i]?) = wc.map some) : va_P D vCL wc H := fun k q hk => by
  obtain ⟨i, -, hi⟩ := va_in_of is hs hk
  exact hP i q hi
abbrev okD (y : MethodName) (n : Nat) : Prop := y.cls ≠ "java/lang/invoke/MethodHandle" ∧ y.cls ≠ "java/lang/invoke/VarHandle" ∧ (parseMethodDescriptor y.desc).map (fun d => d.parameters.length) = some n
/-- the cells behind a writer -/
def BW (D : va_G) {S : Type} (A : Nat → Prop) (w : S → va_W) : S → State → Prop := fun u t => va_P D vCL (w u) t.heap ∧ va_D A (w u)
section CALL
variable {D : va_G} {cI cJ cO : ClassId} {p : Program} {l : Launch} {e : Env} {R : Room} {s : State} {m : MethodId} {args : Array Value} {below : List Frame} {meth : Method} {c : Code} {H : Heap} {locs : List Loc} {cells slots : Nat} {Q : State → Prop}
variable {cc : ByteArray} {pc : Nat} {ls : Array Slot} {rest : List Value} {nL : Nat} {own : String} {y : MethodName} {index maxL d mc ms : Nat} {bytes : ByteArray} {ret : Option FieldType}
theorem cx_B {n : Nat} (X : Cx D cI cJ cO p s m c cc nL own) (args : Array Value) (w1 : Cond.methodLink own index y ∈ am_l) (w4 : Cond.initialized y.cls ∈ am_l) (w5 : Cond.code y bytes maxL ret ∈ am_l) (hd : okD y n) (hR : d + 1 ≤ R.frames ∧ 8 + (maxL + 11) + (100 + 40 * d) ≤ R.locals) : CallB R s args own index y bytes maxL ret [Cond.code y bytes maxL ret] (rk d mc ms) mc ms n :=
  ⟨rfl, rfl, hR.1, hR.2, fun w hw a' U hW => by rw [List.mem_singleton] at hw; subst hw; exact (AM.warm hW X.am).use a' _ w5, List.mem_singleton.mpr rfl, X.w w5 args, X.w w4 args, ⟨hd.1, hd.2.1⟩, fun sig h => by
    have h2 := hd.2.2
    rw [h] at h2
    exact (Option.some.inj h2).symm, X.w w1 args⟩
theorem cx_N {n : Nat} {host : String} (X : Cx D cI cJ cO p s m c cc nL own) (args : Array Value) (w1 : Cond.methodLinkNest own index y host ∈ am_l) (w4 : Cond.initialized y.cls ∈ am_l) (w5 : Cond.code y bytes maxL ret ∈ am_l) (hd : okD y n) (hR : d + 1 ≤ R.frames ∧ 8 + (maxL + 11) + (100 + 40 * d) ≤ R.locals) : va_CN R s args own index y host bytes maxL ret [Cond.code y bytes maxL ret] (rk d mc ms) mc ms n :=
  ⟨⟨rfl, rfl, hR.1, hR.2, fun w hw a' U hW => by rw [List.mem_singleton] at hw; subst hw; exact (AM.warm hW X.am).use a' _ w5, List.mem_singleton.mpr rfl⟩, X.w w5 args, X.w w4 args, ⟨hd.1, hd.2.1⟩, fun sig h => by
    have h2 := hd.2.2
    rw [h] at h2
    exact (Option.some.inj h2).symm, X.w w1 args⟩
theorem cx_F {n : Nat} {C : String} {x : MethodName} (X : Cx D cI cJ cO p s m c cc nL own) (args : Array Value) (w1 : Cond.methodLink own index x ∈ am_l) (w2 : Cond.declares x ∈ am_l) (w3 : Cond.interfaceMethod x.cls x.cls x.name x.desc ∈ am_l) (w4 : Cond.selects C x y ∈ am_l) (w5 : Cond.instanceMethod y ∈ am_l) (w6 : Cond.publicMethod y ∈ am_l) (w7 : Cond.unhidden C x.name x.desc ∈ am_l) (w8 : Cond.castable C x.cls ∈ am_l) (w9 : Cond.initialized y.cls ∈ am_l) (w10 : Cond.code y bytes maxL ret ∈ am_l) (hd : okD x n) (hR : d + 1 ≤ R.frames ∧ 8 + (maxL + 11) + (100 + 40 * d) ≤ R.locals) : va_CI R s args own C index x y bytes maxL ret [Cond.code y bytes maxL ret] (rk d mc ms) mc ms n :=
  ⟨⟨rfl, rfl, hR.1, hR.2, fun w hw a' U hW => by rw [List.mem_singleton] at hw; subst hw; exact (AM.warm hW X.am).use a' _ w10, List.mem_singleton.mpr rfl⟩, X.w w1 args, X.w w2 args, X.w w3 args, X.w w4 args, X.w w5 args, X.w w6 args, X.w w7 args, X.w w8 args, X.w w9 args, X.w w10 args, ⟨hd.1, hd.2.1⟩, fun sig h => by
    have h2 := hd.2.2
    rw [h] at h2
    exact (Option.some.inj h2).symm⟩
variable {b : Nat} {As : List Value} {wc ws wr : va_W} {A : Nat → Prop} {H0 : Heap}
/-- a reader, by invokevirtual -/
theorem rd_V {C : String} {n : Nat} {post : Int32 → Prop} {st0 : List Value} (X : Cx D cI cJ cO p s m c cc nL own) (hM : Met l y [Cond.code y bytes maxL ret] (rk d 0 0) (PR D cI cJ cO (.ref b :: As) wc) (vp_Si post) 0 0 (fun _ => False)) (cb : CallB R s args own index y bytes maxL ret [Cond.code y bytes maxL ret] (rk d 0 0) 0 0 n) (w2 : Cond.instanceMethod y ∈ am_l) (w3 : Cond.selects C y y ∈ am_l)
    (hP : va_P D vCL wc H) (hrc : ∃ cellB : Cell, H[b]? = some cellB ∧ cellB.vm.isStatics = false ∧ s.vm.findClass C = some cellB.cls) (hn : As.length = n) (hl : ls.size = nL) (hst : st0 = As.reverse ++ .ref b :: rest) (hW : (rest.map fun v => v.category).sum ≤ 8) (hdg : decode cc pc = .ok (.invokevirtual index, 3)) (hf : cells ≤ R.cells ∧ slots ≤ R.slots)
    (kk : ∀ r : Int32, post r → W p l e R s m args below meth c H locs cells slots Q (F0 m (pc + 3) ls (.int r :: rest))) : W p l e R s m args below meth c H locs cells slots Q (F0 m pc ls st0) :=
  vp_callSi (W.runV (g := F0 m pc ls st0) (C := C) (X.fix args) hM ⟨cb, X.w w2 args, X.w w3 args⟩ ⟨PR.blind, hrc, PR.at hP X.K X.am⟩ rfl hn hl hst (lv_room hW) hdg hf) kk
/-- a reader, by invokestatic -/
theorem rd_S {n : Nat} {post : Int32 → Prop} {st0 : List Value} (X : Cx D cI cJ cO p s m c cc nL own) (hM : Met l y [Cond.code y bytes maxL ret] (rk d 0 0) (PR D cI cJ cO As wc) (vp_Si post) 0 0 (fun _ => False)) (cb : CallB R s args own index y bytes maxL ret [Cond.code y bytes maxL ret] (rk d 0 0) 0 0 n) (w2 : Cond.static y ∈ am_l)
    (hP : va_P D vCL wc H) (hn : As.length = n) (hl : ls.size = nL) (hst : st0 = As.reverse ++ rest) (hW : (rest.map fun v => v.category).sum ≤ 8) (hdg : decode cc pc = .ok (.invokestatic index, 3)) (hf : cells ≤ R.cells ∧ slots ≤ R.slots)
    (kk : ∀ r : Int32, post r → W p l e R s m args below meth c H locs cells slots Q (F0 m (pc + 3) ls (.int r :: rest))) : W p l e R s m args below meth c H locs cells slots Q (F0 m pc ls st0) :=
  vp_callSi (W.runS (g := F0 m pc ls st0) (X.fix args) hM ⟨cb, X.w w2 args⟩ ⟨PR.blind, PR.at hP X.K X.am⟩ rfl hn hl hst (lv_room hW) hdg hf) kk
/-- a void reader (a check), by invokestatic -/
theorem rv_S {n : Nat} {st0 : List Value} (X : Cx D cI cJ cO p s m c cc nL own) (hM : Met l y [Cond.code y bytes maxL ret] (rk d 0 0) (PR D cI cJ cO As wc) (va_Sv (fun _ => True)) 0 0 (fun _ => False)) (cb : CallB R s args own index y bytes maxL ret [Cond.code y bytes maxL ret] (rk d 0 0) 0 0 n) (w2 : Cond.static y ∈ am_l)
    (hP : va_P D vCL wc H) (hn : As.length = n) (hl : ls.size = nL) (hst : st0 = As.reverse ++ rest) (hW : (rest.map fun v => v.category).sum ≤ 8) (hdg : decode cc pc = .ok (.invokestatic index, 3)) (hf : cells ≤ R.cells ∧ slots ≤ R.slots)
    (kk : W p l e R s m args below meth c H locs cells slots Q (F0 m (pc + 3) ls rest)) : W p l e R s m args below meth c H locs cells slots Q (F0 m pc ls st0) :=
  va_csv (W.runS (g := F0 m pc ls st0) (X.fix args) hM ⟨cb, X.w w2 args⟩ ⟨PR.blind, PR.at hP X.K X.am⟩ rfl hn hl hst (lv_room hW) hdg hf) (fun _ => kk)
/-- a reader that hands back a reference, by invokevirtual -/
theorem rr_V {C : String} {n : Nat} {post : Nat → Prop} {ad : Nat → Value} {st0 : List Value} (X : Cx D cI cJ cO p s m c cc nL own) (hM : Met l y [Cond.code y bytes maxL ret] (rk d 0 0) (PR D cI cJ cO (.ref b :: As) wc) (va_Sr post ad) 0 0 (fun _ => False)) (cb : CallB R s args own index y bytes maxL ret [Cond.code y bytes maxL ret] (rk d 0 0) 0 0 n) (w2 : Cond.instanceMethod y ∈ am_l) (w3 : Cond.selects C y y ∈ am_l)
    (hP : va_P D vCL wc H) (hrc : ∃ cellB : Cell, H[b]? = some cellB ∧ cellB.vm.isStatics = false ∧ s.vm.findClass C = some cellB.cls) (hn : As.length = n) (hl : ls.size = nL) (hst : st0 = As.reverse ++ .ref b :: rest) (hW : (rest.map fun v => v.category).sum ≤ 8) (hdg : decode cc pc = .ok (.invokevirtual index, 3)) (hf : cells ≤ R.cells ∧ slots ≤ R.slots)
    (kk : ∀ k : Nat, post k → W p l e R s m args below meth c H locs cells slots Q (F0 m (pc + 3) ls (ad k :: rest))) : W p l e R s m args below meth c H locs cells slots Q (F0 m pc ls st0) :=
  va_csr (W.runV (g := F0 m pc ls st0) (C := C) (X.fix args) hM ⟨cb, X.w w2 args, X.w w3 args⟩ ⟨PR.blind, hrc, PR.at hP X.K X.am⟩ rfl hn hl hst (lv_room hW) hdg hf) kk
/-- a reader, by invokeinterface on a receiver of a known class -/
theorem rd_F {C : String} {cC : ClassId} {x : MethodName} {n count : Nat} {post : Int32 → Prop} {st0 : List Value} (X : Cx D cI cJ cO p s m c cc nL own) (hat : ClassAt s C cC) (hM : Met l y [Cond.code y bytes maxL ret] (rk d 0 0) (PR D cI cJ cO (.ref b :: As) wc) (vp_Si post) 0 0 (fun _ => False)) (cb : va_CI R s args own C index x y bytes maxL ret [Cond.code y bytes maxL ret] (rk d 0 0) 0 0 n)
    (hP : va_P D vCL wc H) (hrc : ∃ cellB : Cell, H[b]? = some cellB ∧ cellB.vm.isStatics = false ∧ s.vm.findClass C = some cellB.cls) (hn : As.length = n) (hl : ls.size = nL) (hst : st0 = As.reverse ++ .ref b :: rest) (hW : (rest.map fun v => v.category).sum ≤ 8) (hdg : decode cc pc = .ok (.invokeinterface index count, 5)) (hf : cells ≤ R.cells ∧ slots ≤ R.slots)
    (kk : ∀ r : Int32, post r → W p l e R s m args below meth c H locs cells slots Q (F0 m (pc + 5) ls (.int r :: rest))) : W p l e R s m args below meth c H locs cells slots Q (F0 m pc ls st0) :=
  va_csFi (va_runF (g := F0 m pc ls st0) hat (X.fix args) hM cb ⟨PR.blind, hrc, PR.at hP X.K X.am⟩ rfl hn hl hst (lv_room hW) hdg hf) kk
/-- what a writer's run gives: the frame rule, packed -/
theorem wr_v {S : Type} {post : S → Prop} {w1 : S → va_W} {st0 : List Value} {a : Array Value} (hr : va_Run p l e R s m args below meth c H locs cells slots mc ms (F0 m pc ls st0) rest (va_Qv post (BW D (va_A wc H.size) w1) (va_A wc H.size) a) (va_A wc H.size)) (hP : va_P D vCL ws H) (hD : va_D A ws) (hS : va_S A H0 H locs) (hA : ∀ q, H0.size ≤ q → A q) (isC isR : List Nat) (hC : isC.map (fun i => ws[i]?) = wc.map some) (hRr : isR.map (fun i => ws[i]?) = wr.map some) (hn : va_nd isR = true) (hdis : ∀ i ∈ isR, i ∉ isC)
    (kk : ∀ (u : S) (H1 : Heap) (locs1 : List Loc), post u → va_P D vCL (wr ++ w1 u) H1 → va_D A (wr ++ w1 u) → va_S A H0 H1 locs1 → H.size ≤ H1.size → W p l e R s m args below meth c H1 locs1 (cells + mc) (slots + ms) Q (F0 m (pc + 3) ls rest)) : W p l e R s m args below meth c H locs cells slots Q (F0 m pc ls st0) := by
  have hFc := va_free (wc := wc) hD hS hA isC hC
  refine va_callv hr hS (fun q _ h => hFc q h) hFc (fun u t H1 locs1 ht hvm hp hB hz1 hk1 hS1 => ?_)
  obtain ⟨hP1, hD1⟩ := hB
  rw [ht] at hP1
  obtain ⟨hP2, hD2⟩ := va_join (wr := wr) (w1 := w1 u) hP hD isC isR hC hRr hn hdis hk1 hFc hP1 hD1
  exact kk u H1 locs1 hp hP2 hD2 hS1 hz1
theorem wr_i {S : Type} {post : Int32 → S → Prop} {w1 : S → va_W} {st0 : List Value} {a : Array Value} (hr : va_Run p l e R s m args below meth c H locs cells slots mc ms (F0 m pc ls st0) rest (va_Qi post (BW D (va_A wc H.size) w1) (va_A wc H.size) a) (va_A wc H.size)) (hP : va_P D vCL ws H) (hD : va_D A ws) (hS : va_S A H0 H locs) (hA : ∀ q, H0.size ≤ q → A q) (isC isR : List Nat) (hC : isC.map (fun i => ws[i]?) = wc.map some) (hRr : isR.map (fun i => ws[i]?) = wr.map some) (hn : va_nd isR = true) (hdis : ∀ i ∈ isR, i ∉ isC)
    (kk : ∀ (r : Int32) (u : S) (H1 : Heap) (locs1 : List Loc), post r u → va_P D vCL (wr ++ w1 u) H1 → va_D A (wr ++ w1 u) → va_S A H0 H1 locs1 → H.size ≤ H1.size → W p l e R s m args below meth c H1 locs1 (cells + mc) (slots + ms) Q (F0 m (pc + 3) ls (.int r :: rest))) : W p l e R s m args below meth c H locs cells slots Q (F0 m pc ls st0) := by
  have hFc := va_free (wc := wc) hD hS hA isC hC
  refine va_calli hr hS (fun q _ h => hFc q h) hFc (fun r u t H1 locs1 ht hvm hp hB hz1 hk1 hS1 => ?_)
  obtain ⟨hP1, hD1⟩ := hB
  rw [ht] at hP1
  obtain ⟨hP2, hD2⟩ := va_join (wr := wr) (w1 := w1 u) hP hD isC isR hC hRr hn hdis hk1 hFc hP1 hD1
  exact kk r u H1 locs1 hp hP2 hD2 hS1 hz1
variable {Qc : Array Value → State → Outcome → State → Prop} {free : Addr → Prop}
theorem run_V {C : String} {n : Nat} {st0 : List Value} (X : Cx D cI cJ cO p s m c cc nL own) (hM : Met l y [Cond.code y bytes maxL ret] (rk d mc ms) (PW D cI cJ cO (.ref b :: As) H.size wc) Qc mc ms free) (cb : CallB R s args own index y bytes maxL ret [Cond.code y bytes maxL ret] (rk d mc ms) mc ms n) (w2 : Cond.instanceMethod y ∈ am_l) (w3 : Cond.selects C y y ∈ am_l)
    (hP : va_P D vCL ws H) (hD : va_D A ws) (isC : List Nat) (hC : isC.map (fun i => ws[i]?) = wc.map some) (hnC : va_nd isC = true) (hrc : ∃ cellB : Cell, H[b]? = some cellB ∧ cellB.vm.isStatics = false ∧ s.vm.findClass C = some cellB.cls) (hn : As.length = n) (hl : ls.size = nL) (hst : st0 = As.reverse ++ .ref b :: rest) (hW : (rest.map fun v => v.category).sum ≤ 8) (hdg : decode cc pc = .ok (.invokevirtual index, 3)) (hf : cells + mc ≤ R.cells ∧ slots + ms ≤ R.slots) :
    va_Run p l e R s m args below meth c H locs cells slots mc ms (F0 m pc ls st0) rest (Qc (Value.ref b :: As).toArray) free :=
  va_runV (g := F0 m pc ls st0) (C := C) (X.fix args) hM ⟨cb, X.w w2 args, X.w w3 args⟩ ⟨PW.blind, hrc, PW.at (sub_P hP isC hC) X.K X.am (hD.sub isC hnC hC)⟩ rfl hn hl hst (lv_room hW) hdg hf
theorem run_I {n : Nat} {st0 : List Value} (X : Cx D cI cJ cO p s m c cc nL own) (hM : Met l y [Cond.code y bytes maxL none] (rk d mc ms) (PW D cI cJ cO (.ref b :: As) H.size wc) Qc mc ms free) (cb : CallB R s args own index y bytes maxL none [Cond.code y bytes maxL none] (rk d mc ms) mc ms n) (hy : y.name = "<init>") (w2 : Cond.instanceMethod y ∈ am_l)
    (hP : va_P D vCL ws H) (hD : va_D A ws) (isC : List Nat) (hC : isC.map (fun i => ws[i]?) = wc.map some) (hnC : va_nd isC = true) (hn : As.length = n) (hl : ls.size = nL) (hst : st0 = As.reverse ++ .ref b :: rest) (hW : (rest.map fun v => v.category).sum ≤ 8) (hdg : decode cc pc = .ok (.invokespecial index, 3)) (hf : cells + mc ≤ R.cells ∧ slots + ms ≤ R.slots) :
    va_Run p l e R s m args below meth c H locs cells slots mc ms (F0 m pc ls st0) rest (Qc (Value.ref b :: As).toArray) free :=
  va_runI (g := F0 m pc ls st0) (X.fix args) hM ⟨cb, hy, X.w w2 args⟩ ⟨PW.blind, PW.at (sub_P hP isC hC) X.K X.am (hD.sub isC hnC hC)⟩ rfl hn hl hst (lv_room hW) hdg hf
theorem run_IN {n : Nat} {host : String} {st0 : List Value} (X : Cx D cI cJ cO p s m c cc nL own) (hM : Met l y [Cond.code y bytes maxL none] (rk d mc ms) (PW D cI cJ cO (.ref b :: As) H.size wc) Qc mc ms free) (cb : va_CN R s args own index y host bytes maxL none [Cond.code y bytes maxL none] (rk d mc ms) mc ms n) (hy : y.name = "<init>") (w2 : Cond.instanceMethod y ∈ am_l)
    (hP : va_P D vCL ws H) (hD : va_D A ws) (isC : List Nat) (hC : isC.map (fun i => ws[i]?) = wc.map some) (hnC : va_nd isC = true) (hn : As.length = n) (hl : ls.size = nL) (hst : st0 = As.reverse ++ .ref b :: rest) (hW : (rest.map fun v => v.category).sum ≤ 8) (hdg : decode cc pc = .ok (.invokespecial index, 3)) (hf : cells + mc ≤ R.cells ∧ slots + ms ≤ R.slots) :
    va_Run p l e R s m args below meth c H locs cells slots mc ms (F0 m pc ls st0) rest (Qc (Value.ref b :: As).toArray) free :=
  va_runIN (g := F0 m pc ls st0) (X.fix args) hM ⟨cb, hy, X.w w2 args⟩ ⟨PW.blind, PW.at (sub_P hP isC hC) X.K X.am (hD.sub isC hnC hC)⟩ rfl hn hl hst (lv_room hW) hdg hf
theorem run_S {n : Nat} {st0 : List Value} (X : Cx D cI cJ cO p s m c cc nL own) (hM : Met l y [Cond.code y bytes maxL ret] (rk d mc ms) (PW D cI cJ cO As H.size wc) Qc mc ms free) (cb : CallB R s args own index y bytes maxL ret [Cond.code y bytes maxL ret] (rk d mc ms) mc ms n) (w2 : Cond.static y ∈ am_l)
    (hP : va_P D vCL ws H) (hD : va_D A ws) (isC : List Nat) (hC : isC.map (fun i => ws[i]?) = wc.map some) (hnC : va_nd isC = true) (hn : As.length = n) (hl : ls.size = nL) (hst : st0 = As.reverse ++ rest) (hW : (rest.map fun v => v.category).sum ≤ 8) (hdg : decode cc pc = .ok (.invokestatic index, 3)) (hf : cells + mc ≤ R.cells ∧ slots + ms ≤ R.slots) :
    va_Run p l e R s m args below meth c H locs cells slots mc ms (F0 m pc ls st0) rest (Qc As.toArray) free :=
  va_runS (g := F0 m pc ls st0) (X.fix args) hM ⟨cb, X.w w2 args⟩ ⟨PW.blind, PW.at (sub_P hP isC hC) X.K X.am (hD.sub isC hnC hC)⟩ rfl hn hl hst (lv_room hW) hdg hf
/-- the receiver's class, by its place in the world -/
theorem rcv {ci q0 a : Nat} {fs : List Value} {q : vw_C} (X : Cx D cI cJ cO p s m c cc nL own) (hP : va_P D vCL ws H) (hc : vCL[ci]? = some q) (he : ws[q0]? = some (a, .inr (ci, fs))) : ∃ cell : Cell, H[a]? = some cell ∧ cell.vm.isStatics = false ∧ s.vm.findClass q.1 = some cell.cls := va_recv X.K hP hc he
end CALL
