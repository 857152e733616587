/-! rows of the fields, a row a field: getfield g_<class>_<field>, putfield p_<class>_<field>; calls' words k_<index> -/
section FLD
variable {D : va_G} {cI cJ cO : ClassId} {p : Program} {l : Launch} {e : Env} {R : Room} {s : State} {m : MethodId} {args : Array Value} {below : List Frame} {meth : Method} {c : Code} {H : Heap} {locs : List Loc} {cells slots : Nat} {Q : State → Prop}
variable {cc : ByteArray} {pc : Nat} {ls : Array Slot} {rest : List Value} {nL : Nat} {ws ws' : va_W} {a : Nat} {A : Nat → Prop} {H0 : Heap} {fs : List Value}
theorem p_R_orders (X : Cx D cI cJ cO p s m c cc nL R_R) (hin : meth.name = "<init>") (hP : va_P D vCL ws H) (hD : va_D A ws) (hS : va_S A H0 H locs) (q0 : Nat) {x : Nat} (he : ws[q0]? = some (a, .inr (0, fs))) (hlen : 0 < fs.length) (hws : ws.set q0 (a, .inr (0, fs.set 0 (.ref x))) = ws') (hdg : decode cc pc = .ok (.putfield 21, 3)) (kk : ∀ (H1 : Heap) (locs1 : List Loc), va_P D vCL ws' H1 → va_D A ws' → va_S A H0 H1 locs1 → W p l e R s m args below meth c H1 locs1 cells slots Q (F0 m (pc + 3) ls rest)) : W p l e R s m args below meth c H locs cells slots Q (F0 m pc ls (.ref x :: .ref a :: rest)) := by
  subst hws
  exact va_putF (D := D) (ci := 0) (v := .ref x) (ty := .array (.object "RunSorter$Order")) (C := R_R) (T := F_R) (N := 7) X.x X.b (X.am.use args) in_R t_R t_R_ok n_R X.o X.K hP hD hS q0 he rfl 0 (by decide) (X.w q_81 args) (fun _ h9 => h9) rfl hin rfl (by decide +kernel) rfl rfl hlen hdg kk
theorem p_R_sorter (X : Cx D cI cJ cO p s m c cc nL R_R) (hin : meth.name = "<init>") (hP : va_P D vCL ws H) (hD : va_D A ws) (hS : va_S A H0 H locs) (q0 : Nat) {x : Nat} (he : ws[q0]? = some (a, .inr (0, fs))) (hlen : 1 < fs.length) (hws : ws.set q0 (a, .inr (0, fs.set 1 (.ref x))) = ws') (hdg : decode cc pc = .ok (.putfield 30, 3)) (kk : ∀ (H1 : Heap) (locs1 : List Loc), va_P D vCL ws' H1 → va_D A ws' → va_S A H0 H1 locs1 → W p l e R s m args below meth c H1 locs1 cells slots Q (F0 m (pc + 3) ls rest)) : W p l e R s m args below meth c H locs cells slots Q (F0 m pc ls (.ref x :: .ref a :: rest)) := by
  subst hws
  exact va_putF (D := D) (ci := 0) (v := .ref x) (ty := .object "RunSorter$Sorter") (C := R_R) (T := F_R) (N := 7) X.x X.b (X.am.use args) in_R t_R t_R_ok n_R X.o X.K hP hD hS q0 he rfl 1 (by decide) (X.w q_82 args) (fun _ h9 => h9) rfl hin rfl (by decide +kernel) rfl rfl hlen hdg kk
theorem p_R_numbers (X : Cx D cI cJ cO p s m c cc nL R_R) (hin : meth.name = "<init>") (hP : va_P D vCL ws H) (hD : va_D A ws) (hS : va_S A H0 H locs) (q0 : Nat) {x : Nat} (he : ws[q0]? = some (a, .inr (0, fs))) (hlen : 2 < fs.length) (hws : ws.set q0 (a, .inr (0, fs.set 2 (.ref x))) = ws') (hdg : decode cc pc = .ok (.putfield 34, 3)) (kk : ∀ (H1 : Heap) (locs1 : List Loc), va_P D vCL ws' H1 → va_D A ws' → va_S A H0 H1 locs1 → W p l e R s m args below meth c H1 locs1 cells slots Q (F0 m (pc + 3) ls rest)) : W p l e R s m args below meth c H locs cells slots Q (F0 m pc ls (.ref x :: .ref a :: rest)) := by
  subst hws
  exact va_putF (D := D) (ci := 0) (v := .ref x) (ty := .array .int) (C := R_R) (T := F_R) (N := 7) X.x X.b (X.am.use args) in_R t_R t_R_ok n_R X.o X.K hP hD hS q0 he rfl 2 (by decide) (X.w q_83 args) (fun _ h9 => h9) rfl hin rfl (by decide +kernel) rfl rfl hlen hdg kk
theorem p_R_tags (X : Cx D cI cJ cO p s m c cc nL R_R) (hin : meth.name = "<init>") (hP : va_P D vCL ws H) (hD : va_D A ws) (hS : va_S A H0 H locs) (q0 : Nat) {x : Nat} (he : ws[q0]? = some (a, .inr (0, fs))) (hlen : 3 < fs.length) (hws : ws.set q0 (a, .inr (0, fs.set 3 (.ref x))) = ws') (hdg : decode cc pc = .ok (.putfield 38, 3)) (kk : ∀ (H1 : Heap) (locs1 : List Loc), va_P D vCL ws' H1 → va_D A ws' → va_S A H0 H1 locs1 → W p l e R s m args below meth c H1 locs1 cells slots Q (F0 m (pc + 3) ls rest)) : W p l e R s m args below meth c H locs cells slots Q (F0 m pc ls (.ref x :: .ref a :: rest)) := by
  subst hws
  exact va_putF (D := D) (ci := 0) (v := .ref x) (ty := .array .int) (C := R_R) (T := F_R) (N := 7) X.x X.b (X.am.use args) in_R t_R t_R_ok n_R X.o X.K hP hD hS q0 he rfl 3 (by decide) (X.w q_84 args) (fun _ h9 => h9) rfl hin rfl (by decide +kernel) rfl rfl hlen hdg kk
theorem p_R_old (X : Cx D cI cJ cO p s m c cc nL R_R) (hin : meth.name = "<init>") (hP : va_P D vCL ws H) (hD : va_D A ws) (hS : va_S A H0 H locs) (q0 : Nat) {x : Nat} (he : ws[q0]? = some (a, .inr (0, fs))) (hlen : 4 < fs.length) (hws : ws.set q0 (a, .inr (0, fs.set 4 (.ref x))) = ws') (hdg : decode cc pc = .ok (.putfield 41, 3)) (kk : ∀ (H1 : Heap) (locs1 : List Loc), va_P D vCL ws' H1 → va_D A ws' → va_S A H0 H1 locs1 → W p l e R s m args below meth c H1 locs1 cells slots Q (F0 m (pc + 3) ls rest)) : W p l e R s m args below meth c H locs cells slots Q (F0 m pc ls (.ref x :: .ref a :: rest)) := by
  subst hws
  exact va_putF (D := D) (ci := 0) (v := .ref x) (ty := .array .int) (C := R_R) (T := F_R) (N := 7) X.x X.b (X.am.use args) in_R t_R t_R_ok n_R X.o X.K hP hD hS q0 he rfl 4 (by decide) (X.w q_85 args) (fun _ h9 => h9) rfl hin rfl (by decide +kernel) rfl rfl hlen hdg kk
theorem p_R_oldTags (X : Cx D cI cJ cO p s m c cc nL R_R) (hin : meth.name = "<init>") (hP : va_P D vCL ws H) (hD : va_D A ws) (hS : va_S A H0 H locs) (q0 : Nat) {x : Nat} (he : ws[q0]? = some (a, .inr (0, fs))) (hlen : 5 < fs.length) (hws : ws.set q0 (a, .inr (0, fs.set 5 (.ref x))) = ws') (hdg : decode cc pc = .ok (.putfield 44, 3)) (kk : ∀ (H1 : Heap) (locs1 : List Loc), va_P D vCL ws' H1 → va_D A ws' → va_S A H0 H1 locs1 → W p l e R s m args below meth c H1 locs1 cells slots Q (F0 m (pc + 3) ls rest)) : W p l e R s m args below meth c H locs cells slots Q (F0 m pc ls (.ref x :: .ref a :: rest)) := by
  subst hws
  exact va_putF (D := D) (ci := 0) (v := .ref x) (ty := .array .int) (C := R_R) (T := F_R) (N := 7) X.x X.b (X.am.use args) in_R t_R t_R_ok n_R X.o X.K hP hD hS q0 he rfl 5 (by decide) (X.w q_86 args) (fun _ h9 => h9) rfl hin rfl (by decide +kernel) rfl rfl hlen hdg kk
theorem g_R_numbers (X : Cx D cI cJ cO p s m c cc nL R_R) (hP : va_P D vCL ws H) (q0 : Nat) {v : Value} (he : ws[q0]? = some (a, .inr (0, fs))) (hv : fs[2]? = some v) (hdg : decode cc pc = .ok (.getfield 34, 3)) (kk : W p l e R s m args below meth c H locs cells slots Q (F0 m (pc + 3) ls (v :: rest))) : W p l e R s m args below meth c H locs cells slots Q (F0 m pc ls (.ref a :: rest)) :=
  va_get (D := D) (ci := 0) (v := v) (C := R_R) (T := F_R) (N := 7) X.x X.b (X.am.use args) in_R X.o X.K hP q0 he rfl 2 (by decide) (X.w q_83 args) (fun _ h9 => h9) hv hdg kk
theorem g_R_size (X : Cx D cI cJ cO p s m c cc nL R_R) (hP : va_P D vCL ws H) (q0 : Nat) {v : Value} (he : ws[q0]? = some (a, .inr (0, fs))) (hv : fs[6]? = some v) (hdg : decode cc pc = .ok (.getfield 53, 3)) (kk : W p l e R s m args below meth c H locs cells slots Q (F0 m (pc + 3) ls (v :: rest))) : W p l e R s m args below meth c H locs cells slots Q (F0 m pc ls (.ref a :: rest)) :=
  va_get (D := D) (ci := 0) (v := v) (C := R_R) (T := F_R) (N := 7) X.x X.b (X.am.use args) in_R X.o X.K hP q0 he rfl 6 (by decide) (X.w q_87 args) (fun _ h9 => h9) hv hdg kk
theorem g_R_tags (X : Cx D cI cJ cO p s m c cc nL R_R) (hP : va_P D vCL ws H) (q0 : Nat) {v : Value} (he : ws[q0]? = some (a, .inr (0, fs))) (hv : fs[3]? = some v) (hdg : decode cc pc = .ok (.getfield 38, 3)) (kk : W p l e R s m args below meth c H locs cells slots Q (F0 m (pc + 3) ls (v :: rest))) : W p l e R s m args below meth c H locs cells slots Q (F0 m pc ls (.ref a :: rest)) :=
  va_get (D := D) (ci := 0) (v := v) (C := R_R) (T := F_R) (N := 7) X.x X.b (X.am.use args) in_R X.o X.K hP q0 he rfl 3 (by decide) (X.w q_84 args) (fun _ h9 => h9) hv hdg kk
theorem p_R_size (X : Cx D cI cJ cO p s m c cc nL R_R) (hP : va_P D vCL ws H) (hD : va_D A ws) (hS : va_S A H0 H locs) (q0 : Nat) {x : Int32} (he : ws[q0]? = some (a, .inr (0, fs))) (hlen : 6 < fs.length) (hws : ws.set q0 (a, .inr (0, fs.set 6 (.int x))) = ws') (hdg : decode cc pc = .ok (.putfield 53, 3)) (kk : ∀ (H1 : Heap) (locs1 : List Loc), va_P D vCL ws' H1 → va_D A ws' → va_S A H0 H1 locs1 → W p l e R s m args below meth c H1 locs1 cells slots Q (F0 m (pc + 3) ls rest)) : W p l e R s m args below meth c H locs cells slots Q (F0 m pc ls (.int x :: .ref a :: rest)) := by
  subst hws
  exact va_put (D := D) (ci := 0) (v := .int x) (ty := .int) (C := R_R) (T := F_R) (N := 7) X.x X.b (X.am.use args) in_R t_R t_R_ok n_R X.o X.K hP hD hS q0 he rfl 6 (by decide) (X.w q_87 args) (fun _ h9 => h9) rfl (by decide +kernel) rfl rfl hlen hdg kk
theorem g_R_sorter (X : Cx D cI cJ cO p s m c cc nL R_R) (hP : va_P D vCL ws H) (q0 : Nat) {v : Value} (he : ws[q0]? = some (a, .inr (0, fs))) (hv : fs[1]? = some v) (hdg : decode cc pc = .ok (.getfield 30, 3)) (kk : W p l e R s m args below meth c H locs cells slots Q (F0 m (pc + 3) ls (v :: rest))) : W p l e R s m args below meth c H locs cells slots Q (F0 m pc ls (.ref a :: rest)) :=
  va_get (D := D) (ci := 0) (v := v) (C := R_R) (T := F_R) (N := 7) X.x X.b (X.am.use args) in_R X.o X.K hP q0 he rfl 1 (by decide) (X.w q_82 args) (fun _ h9 => h9) hv hdg kk
theorem g_R_old (X : Cx D cI cJ cO p s m c cc nL R_R) (hP : va_P D vCL ws H) (q0 : Nat) {v : Value} (he : ws[q0]? = some (a, .inr (0, fs))) (hv : fs[4]? = some v) (hdg : decode cc pc = .ok (.getfield 41, 3)) (kk : W p l e R s m args below meth c H locs cells slots Q (F0 m (pc + 3) ls (v :: rest))) : W p l e R s m args below meth c H locs cells slots Q (F0 m pc ls (.ref a :: rest)) :=
  va_get (D := D) (ci := 0) (v := v) (C := R_R) (T := F_R) (N := 7) X.x X.b (X.am.use args) in_R X.o X.K hP q0 he rfl 4 (by decide) (X.w q_85 args) (fun _ h9 => h9) hv hdg kk
theorem g_R_oldTags (X : Cx D cI cJ cO p s m c cc nL R_R) (hP : va_P D vCL ws H) (q0 : Nat) {v : Value} (he : ws[q0]? = some (a, .inr (0, fs))) (hv : fs[5]? = some v) (hdg : decode cc pc = .ok (.getfield 44, 3)) (kk : W p l e R s m args below meth c H locs cells slots Q (F0 m (pc + 3) ls (v :: rest))) : W p l e R s m args below meth c H locs cells slots Q (F0 m pc ls (.ref a :: rest)) :=
  va_get (D := D) (ci := 0) (v := v) (C := R_R) (T := F_R) (N := 7) X.x X.b (X.am.use args) in_R X.o X.K hP q0 he rfl 5 (by decide) (X.w q_86 args) (fun _ h9 => h9) hv hdg kk
theorem g_R_orders (X : Cx D cI cJ cO p s m c cc nL R_R) (hP : va_P D vCL ws H) (q0 : Nat) {v : Value} (he : ws[q0]? = some (a, .inr (0, fs))) (hv : fs[0]? = some v) (hdg : decode cc pc = .ok (.getfield 21, 3)) (kk : W p l e R s m args below meth c H locs cells slots Q (F0 m (pc + 3) ls (v :: rest))) : W p l e R s m args below meth c H locs cells slots Q (F0 m pc ls (.ref a :: rest)) :=
  va_get (D := D) (ci := 0) (v := v) (C := R_R) (T := F_R) (N := 7) X.x X.b (X.am.use args) in_R X.o X.K hP q0 he rfl 0 (by decide) (X.w q_81 args) (fun _ h9 => h9) hv hdg kk
theorem p_M_row (X : Cx D cI cJ cO p s m c cc nL R_M) (hin : meth.name = "<init>") (hP : va_P D vCL ws H) (hD : va_D A ws) (hS : va_S A H0 H locs) (q0 : Nat) {x : Nat} (he : ws[q0]? = some (a, .inr (7, fs))) (hlen : 2 < fs.length) (hws : ws.set q0 (a, .inr (7, fs.set 2 (.ref x))) = ws') (hdg : decode cc pc = .ok (.putfield 7, 3)) (kk : ∀ (H1 : Heap) (locs1 : List Loc), va_P D vCL ws' H1 → va_D A ws' → va_S A H0 H1 locs1 → W p l e R s m args below meth c H1 locs1 cells slots Q (F0 m (pc + 3) ls rest)) : W p l e R s m args below meth c H locs cells slots Q (F0 m pc ls (.ref x :: .ref a :: rest)) := by
  subst hws
  exact va_putF (D := D) (ci := 7) (v := .ref x) (ty := .array .int) (C := R_M) (T := F_M) (N := 4) X.x X.b (X.am.use args) in_M t_M t_M_ok n_M X.o X.K hP hD hS q0 he rfl 2 (by decide) (X.w q_365 args) (fun _ h9 => h9) rfl hin rfl (by decide +kernel) rfl rfl hlen hdg kk
theorem p_M_tags (X : Cx D cI cJ cO p s m c cc nL R_M) (hin : meth.name = "<init>") (hP : va_P D vCL ws H) (hD : va_D A ws) (hS : va_S A H0 H locs) (q0 : Nat) {x : Nat} (he : ws[q0]? = some (a, .inr (7, fs))) (hlen : 3 < fs.length) (hws : ws.set q0 (a, .inr (7, fs.set 3 (.ref x))) = ws') (hdg : decode cc pc = .ok (.putfield 13, 3)) (kk : ∀ (H1 : Heap) (locs1 : List Loc), va_P D vCL ws' H1 → va_D A ws' → va_S A H0 H1 locs1 → W p l e R s m args below meth c H1 locs1 cells slots Q (F0 m (pc + 3) ls rest)) : W p l e R s m args below meth c H locs cells slots Q (F0 m pc ls (.ref x :: .ref a :: rest)) := by
  subst hws
  exact va_putF (D := D) (ci := 7) (v := .ref x) (ty := .array .int) (C := R_M) (T := F_M) (N := 4) X.x X.b (X.am.use args) in_M t_M t_M_ok n_M X.o X.K hP hD hS q0 he rfl 3 (by decide) (X.w q_366 args) (fun _ h9 => h9) rfl hin rfl (by decide +kernel) rfl rfl hlen hdg kk
theorem g_M_failed (X : Cx D cI cJ cO p s m c cc nL R_M) (hP : va_P D vCL ws H) (q0 : Nat) {v : Value} (he : ws[q0]? = some (a, .inr (7, fs))) (hv : fs[0]? = some v) (hdg : decode cc pc = .ok (.getfield 16, 3)) (kk : W p l e R s m args below meth c H locs cells slots Q (F0 m (pc + 3) ls (v :: rest))) : W p l e R s m args below meth c H locs cells slots Q (F0 m pc ls (.ref a :: rest)) :=
  va_get (D := D) (ci := 7) (v := v) (C := R_M) (T := F_M) (N := 4) X.x X.b (X.am.use args) in_M X.o X.K hP q0 he rfl 0 (by decide) (X.w q_363 args) (fun _ h9 => h9) hv hdg kk
theorem p_M_failed (X : Cx D cI cJ cO p s m c cc nL R_M) (hP : va_P D vCL ws H) (hD : va_D A ws) (hS : va_S A H0 H locs) (q0 : Nat) {x : Int32} (he : ws[q0]? = some (a, .inr (7, fs))) (hlen : 0 < fs.length) (hws : ws.set q0 (a, .inr (7, fs.set 0 (.int x))) = ws') (hdg : decode cc pc = .ok (.putfield 16, 3)) (kk : ∀ (H1 : Heap) (locs1 : List Loc), va_P D vCL ws' H1 → va_D A ws' → va_S A H0 H1 locs1 → W p l e R s m args below meth c H1 locs1 cells slots Q (F0 m (pc + 3) ls rest)) : W p l e R s m args below meth c H locs cells slots Q (F0 m pc ls (.int x :: .ref a :: rest)) := by
  subst hws
  exact va_put (D := D) (ci := 7) (v := .int x) (ty := .int) (C := R_M) (T := F_M) (N := 4) X.x X.b (X.am.use args) in_M t_M t_M_ok n_M X.o X.K hP hD hS q0 he rfl 0 (by decide) (X.w q_363 args) (fun _ h9 => h9) rfl (by decide +kernel) rfl rfl hlen hdg kk
theorem g_M_row (X : Cx D cI cJ cO p s m c cc nL R_M) (hP : va_P D vCL ws H) (q0 : Nat) {v : Value} (he : ws[q0]? = some (a, .inr (7, fs))) (hv : fs[2]? = some v) (hdg : decode cc pc = .ok (.getfield 7, 3)) (kk : W p l e R s m args below meth c H locs cells slots Q (F0 m (pc + 3) ls (v :: rest))) : W p l e R s m args below meth c H locs cells slots Q (F0 m pc ls (.ref a :: rest)) :=
  va_get (D := D) (ci := 7) (v := v) (C := R_M) (T := F_M) (N := 4) X.x X.b (X.am.use args) in_M X.o X.K hP q0 he rfl 2 (by decide) (X.w q_365 args) (fun _ h9 => h9) hv hdg kk
theorem g_M_size (X : Cx D cI cJ cO p s m c cc nL R_M) (hP : va_P D vCL ws H) (q0 : Nat) {v : Value} (he : ws[q0]? = some (a, .inr (7, fs))) (hv : fs[1]? = some v) (hdg : decode cc pc = .ok (.getfield 21, 3)) (kk : W p l e R s m args below meth c H locs cells slots Q (F0 m (pc + 3) ls (v :: rest))) : W p l e R s m args below meth c H locs cells slots Q (F0 m pc ls (.ref a :: rest)) :=
  va_get (D := D) (ci := 7) (v := v) (C := R_M) (T := F_M) (N := 4) X.x X.b (X.am.use args) in_M X.o X.K hP q0 he rfl 1 (by decide) (X.w q_364 args) (fun _ h9 => h9) hv hdg kk
theorem g_M_tags (X : Cx D cI cJ cO p s m c cc nL R_M) (hP : va_P D vCL ws H) (q0 : Nat) {v : Value} (he : ws[q0]? = some (a, .inr (7, fs))) (hv : fs[3]? = some v) (hdg : decode cc pc = .ok (.getfield 13, 3)) (kk : W p l e R s m args below meth c H locs cells slots Q (F0 m (pc + 3) ls (v :: rest))) : W p l e R s m args below meth c H locs cells slots Q (F0 m pc ls (.ref a :: rest)) :=
  va_get (D := D) (ci := 7) (v := v) (C := R_M) (T := F_M) (N := 4) X.x X.b (X.am.use args) in_M X.o X.K hP q0 he rfl 3 (by decide) (X.w q_366 args) (fun _ h9 => h9) hv hdg kk
theorem p_M_size (X : Cx D cI cJ cO p s m c cc nL R_M) (hP : va_P D vCL ws H) (hD : va_D A ws) (hS : va_S A H0 H locs) (q0 : Nat) {x : Int32} (he : ws[q0]? = some (a, .inr (7, fs))) (hlen : 1 < fs.length) (hws : ws.set q0 (a, .inr (7, fs.set 1 (.int x))) = ws') (hdg : decode cc pc = .ok (.putfield 21, 3)) (kk : ∀ (H1 : Heap) (locs1 : List Loc), va_P D vCL ws' H1 → va_D A ws' → va_S A H0 H1 locs1 → W p l e R s m args below meth c H1 locs1 cells slots Q (F0 m (pc + 3) ls rest)) : W p l e R s m args below meth c H locs cells slots Q (F0 m pc ls (.int x :: .ref a :: rest)) := by
  subst hws
  exact va_put (D := D) (ci := 7) (v := .int x) (ty := .int) (C := R_M) (T := F_M) (N := 4) X.x X.b (X.am.use args) in_M t_M t_M_ok n_M X.o X.K hP hD hS q0 he rfl 1 (by decide) (X.w q_364 args) (fun _ h9 => h9) rfl (by decide +kernel) rfl rfl hlen hdg kk
theorem p_B_order (X : Cx D cI cJ cO p s m c cc nL R_B) (hin : meth.name = "<init>") (hP : va_P D vCL ws H) (hD : va_D A ws) (hS : va_S A H0 H locs) (q0 : Nat) {x : Nat} (he : ws[q0]? = some (a, .inr (2, fs))) (hlen : 0 < fs.length) (hws : ws.set q0 (a, .inr (2, fs.set 0 (.ref x))) = ws') (hdg : decode cc pc = .ok (.putfield 7, 3)) (kk : ∀ (H1 : Heap) (locs1 : List Loc), va_P D vCL ws' H1 → va_D A ws' → va_S A H0 H1 locs1 → W p l e R s m args below meth c H1 locs1 cells slots Q (F0 m (pc + 3) ls rest)) : W p l e R s m args below meth c H locs cells slots Q (F0 m pc ls (.ref x :: .ref a :: rest)) := by
  subst hws
  exact va_putF (D := D) (ci := 2) (v := .ref x) (ty := .object "RunSorter$Order") (C := R_B) (T := F_B) (N := 2) X.x X.b (X.am.use args) in_B t_B t_B_ok n_B X.o X.K hP hD hS q0 he rfl 0 (by decide) (X.w q_233 args) (fun _ h9 => h9) rfl hin rfl (by decide +kernel) rfl rfl hlen hdg kk
theorem p_B_numbers (X : Cx D cI cJ cO p s m c cc nL R_B) (hin : meth.name = "<init>") (hP : va_P D vCL ws H) (hD : va_D A ws) (hS : va_S A H0 H locs) (q0 : Nat) {x : Nat} (he : ws[q0]? = some (a, .inr (2, fs))) (hlen : 1 < fs.length) (hws : ws.set q0 (a, .inr (2, fs.set 1 (.ref x))) = ws') (hdg : decode cc pc = .ok (.putfield 13, 3)) (kk : ∀ (H1 : Heap) (locs1 : List Loc), va_P D vCL ws' H1 → va_D A ws' → va_S A H0 H1 locs1 → W p l e R s m args below meth c H1 locs1 cells slots Q (F0 m (pc + 3) ls rest)) : W p l e R s m args below meth c H locs cells slots Q (F0 m pc ls (.ref x :: .ref a :: rest)) := by
  subst hws
  exact va_putF (D := D) (ci := 2) (v := .ref x) (ty := .array .int) (C := R_B) (T := F_B) (N := 2) X.x X.b (X.am.use args) in_B t_B t_B_ok n_B X.o X.K hP hD hS q0 he rfl 1 (by decide) (X.w q_234 args) (fun _ h9 => h9) rfl hin rfl (by decide +kernel) rfl rfl hlen hdg kk
theorem g_B_order (X : Cx D cI cJ cO p s m c cc nL R_B) (hP : va_P D vCL ws H) (q0 : Nat) {v : Value} (he : ws[q0]? = some (a, .inr (2, fs))) (hv : fs[0]? = some v) (hdg : decode cc pc = .ok (.getfield 7, 3)) (kk : W p l e R s m args below meth c H locs cells slots Q (F0 m (pc + 3) ls (v :: rest))) : W p l e R s m args below meth c H locs cells slots Q (F0 m pc ls (.ref a :: rest)) :=
  va_get (D := D) (ci := 2) (v := v) (C := R_B) (T := F_B) (N := 2) X.x X.b (X.am.use args) in_B X.o X.K hP q0 he rfl 0 (by decide) (X.w q_233 args) (fun _ h9 => h9) hv hdg kk
theorem g_B_numbers (X : Cx D cI cJ cO p s m c cc nL R_B) (hP : va_P D vCL ws H) (q0 : Nat) {v : Value} (he : ws[q0]? = some (a, .inr (2, fs))) (hv : fs[1]? = some v) (hdg : decode cc pc = .ok (.getfield 13, 3)) (kk : W p l e R s m args below meth c H locs cells slots Q (F0 m (pc + 3) ls (v :: rest))) : W p l e R s m args below meth c H locs cells slots Q (F0 m pc ls (.ref a :: rest)) :=
  va_get (D := D) (ci := 2) (v := v) (C := R_B) (T := F_B) (N := 2) X.x X.b (X.am.use args) in_B X.o X.K hP q0 he rfl 1 (by decide) (X.w q_234 args) (fun _ h9 => h9) hv hdg kk
theorem p_S_cells (X : Cx D cI cJ cO p s m c cc nL R_S) (hin : meth.name = "<init>") (hP : va_P D vCL ws H) (hD : va_D A ws) (hS : va_S A H0 H locs) (q0 : Nat) {x : Nat} (he : ws[q0]? = some (a, .inr (1, fs))) (hlen : 0 < fs.length) (hws : ws.set q0 (a, .inr (1, fs.set 0 (.ref x))) = ws') (hdg : decode cc pc = .ok (.putfield 9, 3)) (kk : ∀ (H1 : Heap) (locs1 : List Loc), va_P D vCL ws' H1 → va_D A ws' → va_S A H0 H1 locs1 → W p l e R s m args below meth c H1 locs1 cells slots Q (F0 m (pc + 3) ls rest)) : W p l e R s m args below meth c H locs cells slots Q (F0 m pc ls (.ref x :: .ref a :: rest)) := by
  subst hws
  exact va_putF (D := D) (ci := 1) (v := .ref x) (ty := .array .int) (C := R_S) (T := F_S) (N := 7) X.x X.b (X.am.use args) in_S t_S t_S_ok n_S X.o X.K hP hD hS q0 he rfl 0 (by decide) (X.w q_58 args) (fun _ h9 => h9) rfl hin rfl (by decide +kernel) rfl rfl hlen hdg kk
theorem p_S_spare (X : Cx D cI cJ cO p s m c cc nL R_S) (hin : meth.name = "<init>") (hP : va_P D vCL ws H) (hD : va_D A ws) (hS : va_S A H0 H locs) (q0 : Nat) {x : Nat} (he : ws[q0]? = some (a, .inr (1, fs))) (hlen : 1 < fs.length) (hws : ws.set q0 (a, .inr (1, fs.set 1 (.ref x))) = ws') (hdg : decode cc pc = .ok (.putfield 15, 3)) (kk : ∀ (H1 : Heap) (locs1 : List Loc), va_P D vCL ws' H1 → va_D A ws' → va_S A H0 H1 locs1 → W p l e R s m args below meth c H1 locs1 cells slots Q (F0 m (pc + 3) ls rest)) : W p l e R s m args below meth c H locs cells slots Q (F0 m pc ls (.ref x :: .ref a :: rest)) := by
  subst hws
  exact va_putF (D := D) (ci := 1) (v := .ref x) (ty := .array .int) (C := R_S) (T := F_S) (N := 7) X.x X.b (X.am.use args) in_S t_S t_S_ok n_S X.o X.K hP hD hS q0 he rfl 1 (by decide) (X.w q_59 args) (fun _ h9 => h9) rfl hin rfl (by decide +kernel) rfl rfl hlen hdg kk
theorem p_S_from (X : Cx D cI cJ cO p s m c cc nL R_S) (hin : meth.name = "<init>") (hP : va_P D vCL ws H) (hD : va_D A ws) (hS : va_S A H0 H locs) (q0 : Nat) {x : Nat} (he : ws[q0]? = some (a, .inr (1, fs))) (hlen : 2 < fs.length) (hws : ws.set q0 (a, .inr (1, fs.set 2 (.ref x))) = ws') (hdg : decode cc pc = .ok (.putfield 18, 3)) (kk : ∀ (H1 : Heap) (locs1 : List Loc), va_P D vCL ws' H1 → va_D A ws' → va_S A H0 H1 locs1 → W p l e R s m args below meth c H1 locs1 cells slots Q (F0 m (pc + 3) ls rest)) : W p l e R s m args below meth c H locs cells slots Q (F0 m pc ls (.ref x :: .ref a :: rest)) := by
  subst hws
  exact va_putF (D := D) (ci := 1) (v := .ref x) (ty := .array .int) (C := R_S) (T := F_S) (N := 7) X.x X.b (X.am.use args) in_S t_S t_S_ok n_S X.o X.K hP hD hS q0 he rfl 2 (by decide) (X.w q_60 args) (fun _ h9 => h9) rfl hin rfl (by decide +kernel) rfl rfl hlen hdg kk
theorem p_S_length (X : Cx D cI cJ cO p s m c cc nL R_S) (hin : meth.name = "<init>") (hP : va_P D vCL ws H) (hD : va_D A ws) (hS : va_S A H0 H locs) (q0 : Nat) {x : Nat} (he : ws[q0]? = some (a, .inr (1, fs))) (hlen : 3 < fs.length) (hws : ws.set q0 (a, .inr (1, fs.set 3 (.ref x))) = ws') (hdg : decode cc pc = .ok (.putfield 21, 3)) (kk : ∀ (H1 : Heap) (locs1 : List Loc), va_P D vCL ws' H1 → va_D A ws' → va_S A H0 H1 locs1 → W p l e R s m args below meth c H1 locs1 cells slots Q (F0 m (pc + 3) ls rest)) : W p l e R s m args below meth c H locs cells slots Q (F0 m pc ls (.ref x :: .ref a :: rest)) := by
  subst hws
  exact va_putF (D := D) (ci := 1) (v := .ref x) (ty := .array .int) (C := R_S) (T := F_S) (N := 7) X.x X.b (X.am.use args) in_S t_S t_S_ok n_S X.o X.K hP hD hS q0 he rfl 3 (by decide) (X.w q_61 args) (fun _ h9 => h9) rfl hin rfl (by decide +kernel) rfl rfl hlen hdg kk
theorem g_S_cells (X : Cx D cI cJ cO p s m c cc nL R_S) (hP : va_P D vCL ws H) (q0 : Nat) {v : Value} (he : ws[q0]? = some (a, .inr (1, fs))) (hv : fs[0]? = some v) (hdg : decode cc pc = .ok (.getfield 9, 3)) (kk : W p l e R s m args below meth c H locs cells slots Q (F0 m (pc + 3) ls (v :: rest))) : W p l e R s m args below meth c H locs cells slots Q (F0 m pc ls (.ref a :: rest)) :=
  va_get (D := D) (ci := 1) (v := v) (C := R_S) (T := F_S) (N := 7) X.x X.b (X.am.use args) in_S X.o X.K hP q0 he rfl 0 (by decide) (X.w q_58 args) (fun _ h9 => h9) hv hdg kk
theorem p_S_order (X : Cx D cI cJ cO p s m c cc nL R_S) (hP : va_P D vCL ws H) (hD : va_D A ws) (hS : va_S A H0 H locs) (q0 : Nat) {x : Nat} (he : ws[q0]? = some (a, .inr (1, fs))) (hlen : 6 < fs.length) (hws : ws.set q0 (a, .inr (1, fs.set 6 (.ref x))) = ws') (hdg : decode cc pc = .ok (.putfield 24, 3)) (kk : ∀ (H1 : Heap) (locs1 : List Loc), va_P D vCL ws' H1 → va_D A ws' → va_S A H0 H1 locs1 → W p l e R s m args below meth c H1 locs1 cells slots Q (F0 m (pc + 3) ls rest)) : W p l e R s m args below meth c H locs cells slots Q (F0 m pc ls (.ref x :: .ref a :: rest)) := by
  subst hws
  exact va_put (D := D) (ci := 1) (v := .ref x) (ty := .object "RunSorter$Order") (C := R_S) (T := F_S) (N := 7) X.x X.b (X.am.use args) in_S t_S t_S_ok n_S X.o X.K hP hD hS q0 he rfl 6 (by decide) (X.w q_64 args) (fun _ h9 => h9) rfl (by decide +kernel) rfl rfl hlen hdg kk
theorem p_S_runs (X : Cx D cI cJ cO p s m c cc nL R_S) (hP : va_P D vCL ws H) (hD : va_D A ws) (hS : va_S A H0 H locs) (q0 : Nat) {x : Int32} (he : ws[q0]? = some (a, .inr (1, fs))) (hlen : 4 < fs.length) (hws : ws.set q0 (a, .inr (1, fs.set 4 (.int x))) = ws') (hdg : decode cc pc = .ok (.putfield 28, 3)) (kk : ∀ (H1 : Heap) (locs1 : List Loc), va_P D vCL ws' H1 → va_D A ws' → va_S A H0 H1 locs1 → W p l e R s m args below meth c H1 locs1 cells slots Q (F0 m (pc + 3) ls rest)) : W p l e R s m args below meth c H locs cells slots Q (F0 m pc ls (.int x :: .ref a :: rest)) := by
  subst hws
  exact va_put (D := D) (ci := 1) (v := .int x) (ty := .int) (C := R_S) (T := F_S) (N := 7) X.x X.b (X.am.use args) in_S t_S t_S_ok n_S X.o X.K hP hD hS q0 he rfl 4 (by decide) (X.w q_62 args) (fun _ h9 => h9) rfl (by decide +kernel) rfl rfl hlen hdg kk
theorem p_S_gallop (X : Cx D cI cJ cO p s m c cc nL R_S) (hP : va_P D vCL ws H) (hD : va_D A ws) (hS : va_S A H0 H locs) (q0 : Nat) {x : Int32} (he : ws[q0]? = some (a, .inr (1, fs))) (hlen : 5 < fs.length) (hws : ws.set q0 (a, .inr (1, fs.set 5 (.int x))) = ws') (hdg : decode cc pc = .ok (.putfield 32, 3)) (kk : ∀ (H1 : Heap) (locs1 : List Loc), va_P D vCL ws' H1 → va_D A ws' → va_S A H0 H1 locs1 → W p l e R s m args below meth c H1 locs1 cells slots Q (F0 m (pc + 3) ls rest)) : W p l e R s m args below meth c H locs cells slots Q (F0 m pc ls (.int x :: .ref a :: rest)) := by
  subst hws
  exact va_put (D := D) (ci := 1) (v := .int x) (ty := .int) (C := R_S) (T := F_S) (N := 7) X.x X.b (X.am.use args) in_S t_S t_S_ok n_S X.o X.K hP hD hS q0 he rfl 5 (by decide) (X.w q_63 args) (fun _ h9 => h9) rfl (by decide +kernel) rfl rfl hlen hdg kk
theorem g_S_from (X : Cx D cI cJ cO p s m c cc nL R_S) (hP : va_P D vCL ws H) (q0 : Nat) {v : Value} (he : ws[q0]? = some (a, .inr (1, fs))) (hv : fs[2]? = some v) (hdg : decode cc pc = .ok (.getfield 18, 3)) (kk : W p l e R s m args below meth c H locs cells slots Q (F0 m (pc + 3) ls (v :: rest))) : W p l e R s m args below meth c H locs cells slots Q (F0 m pc ls (.ref a :: rest)) :=
  va_get (D := D) (ci := 1) (v := v) (C := R_S) (T := F_S) (N := 7) X.x X.b (X.am.use args) in_S X.o X.K hP q0 he rfl 2 (by decide) (X.w q_60 args) (fun _ h9 => h9) hv hdg kk
theorem g_S_runs (X : Cx D cI cJ cO p s m c cc nL R_S) (hP : va_P D vCL ws H) (q0 : Nat) {v : Value} (he : ws[q0]? = some (a, .inr (1, fs))) (hv : fs[4]? = some v) (hdg : decode cc pc = .ok (.getfield 28, 3)) (kk : W p l e R s m args below meth c H locs cells slots Q (F0 m (pc + 3) ls (v :: rest))) : W p l e R s m args below meth c H locs cells slots Q (F0 m pc ls (.ref a :: rest)) :=
  va_get (D := D) (ci := 1) (v := v) (C := R_S) (T := F_S) (N := 7) X.x X.b (X.am.use args) in_S X.o X.K hP q0 he rfl 4 (by decide) (X.w q_62 args) (fun _ h9 => h9) hv hdg kk
theorem g_S_length (X : Cx D cI cJ cO p s m c cc nL R_S) (hP : va_P D vCL ws H) (q0 : Nat) {v : Value} (he : ws[q0]? = some (a, .inr (1, fs))) (hv : fs[3]? = some v) (hdg : decode cc pc = .ok (.getfield 21, 3)) (kk : W p l e R s m args below meth c H locs cells slots Q (F0 m (pc + 3) ls (v :: rest))) : W p l e R s m args below meth c H locs cells slots Q (F0 m pc ls (.ref a :: rest)) :=
  va_get (D := D) (ci := 1) (v := v) (C := R_S) (T := F_S) (N := 7) X.x X.b (X.am.use args) in_S X.o X.K hP q0 he rfl 3 (by decide) (X.w q_61 args) (fun _ h9 => h9) hv hdg kk
theorem g_S_order (X : Cx D cI cJ cO p s m c cc nL R_S) (hP : va_P D vCL ws H) (q0 : Nat) {v : Value} (he : ws[q0]? = some (a, .inr (1, fs))) (hv : fs[6]? = some v) (hdg : decode cc pc = .ok (.getfield 24, 3)) (kk : W p l e R s m args below meth c H locs cells slots Q (F0 m (pc + 3) ls (v :: rest))) : W p l e R s m args below meth c H locs cells slots Q (F0 m pc ls (.ref a :: rest)) :=
  va_get (D := D) (ci := 1) (v := v) (C := R_S) (T := F_S) (N := 7) X.x X.b (X.am.use args) in_S X.o X.K hP q0 he rfl 6 (by decide) (X.w q_64 args) (fun _ h9 => h9) hv hdg kk
theorem g_S_spare (X : Cx D cI cJ cO p s m c cc nL R_S) (hP : va_P D vCL ws H) (q0 : Nat) {v : Value} (he : ws[q0]? = some (a, .inr (1, fs))) (hv : fs[1]? = some v) (hdg : decode cc pc = .ok (.getfield 15, 3)) (kk : W p l e R s m args below meth c H locs cells slots Q (F0 m (pc + 3) ls (v :: rest))) : W p l e R s m args below meth c H locs cells slots Q (F0 m pc ls (.ref a :: rest)) :=
  va_get (D := D) (ci := 1) (v := v) (C := R_S) (T := F_S) (N := 7) X.x X.b (X.am.use args) in_S X.o X.K hP q0 he rfl 1 (by decide) (X.w q_59 args) (fun _ h9 => h9) hv hdg kk
theorem g_S_gallop (X : Cx D cI cJ cO p s m c cc nL R_S) (hP : va_P D vCL ws H) (q0 : Nat) {v : Value} (he : ws[q0]? = some (a, .inr (1, fs))) (hv : fs[5]? = some v) (hdg : decode cc pc = .ok (.getfield 32, 3)) (kk : W p l e R s m args below meth c H locs cells slots Q (F0 m (pc + 3) ls (v :: rest))) : W p l e R s m args below meth c H locs cells slots Q (F0 m pc ls (.ref a :: rest)) :=
  va_get (D := D) (ci := 1) (v := v) (C := R_S) (T := F_S) (N := 7) X.x X.b (X.am.use args) in_S X.o X.K hP q0 he rfl 5 (by decide) (X.w q_63 args) (fun _ h9 => h9) hv hdg kk
end FLD
theorem wc_R_init : Cond.code y_R_init b_R_init 1 none ∈ am_l := q_18
theorem wi_R_init : Cond.initialized y_R_init.cls ∈ am_l := q_1
theorem wm_R_init : Cond.instanceMethod y_R_init ∈ am_l := q_17
theorem wd_R_init : okD y_R_init 0 := by decide +kernel
theorem wc_R_in : Cond.code y_R_in b_R_in 3 none ∈ am_l := q_122
theorem wi_R_in : Cond.initialized y_R_in.cls ∈ am_l := q_1
theorem ws_R_in : Cond.static y_R_in ∈ am_l := q_121
theorem wd_R_in : okD y_R_in 3 := by decide +kernel
theorem wc_R_within : Cond.code y_R_within b_R_within 1 none ∈ am_l := q_187
theorem wi_R_within : Cond.initialized y_R_within.cls ∈ am_l := q_1
theorem ws_R_within : Cond.static y_R_within ∈ am_l := q_186
theorem wd_R_within : okD y_R_within 1 := by decide +kernel
theorem wc_R_add : Cond.code y_R_add b_R_add 2 none ∈ am_l := q_206
theorem wi_R_add : Cond.initialized y_R_add.cls ∈ am_l := q_1
theorem wm_R_add : Cond.instanceMethod y_R_add ∈ am_l := q_205
theorem wl_R_add : Cond.selects R_R y_R_add y_R_add ∈ am_l := q_s1
theorem wd_R_add : okD y_R_add 1 := by decide +kernel
theorem wc_R_fill : Cond.code y_R_fill b_R_fill 5 (some .int) ∈ am_l := q_119
theorem wi_R_fill : Cond.initialized y_R_fill.cls ∈ am_l := q_1
theorem wm_R_fill : Cond.instanceMethod y_R_fill ∈ am_l := q_117
theorem wl_R_fill : Cond.selects R_R y_R_fill y_R_fill ∈ am_l := q_118
theorem wd_R_fill : okD y_R_fill 3 := by decide +kernel
theorem wc_R_scatter : Cond.code y_R_scatter b_R_scatter 6 (some .int) ∈ am_l := q_213
theorem wi_R_scatter : Cond.initialized y_R_scatter.cls ∈ am_l := q_1
theorem wm_R_scatter : Cond.instanceMethod y_R_scatter ∈ am_l := q_211
theorem wl_R_scatter : Cond.selects R_R y_R_scatter y_R_scatter ∈ am_l := q_212
theorem wd_R_scatter : okD y_R_scatter 3 := by decide +kernel
theorem wc_R_sort : Cond.code y_R_sort b_R_sort 7 (some .int) ∈ am_l := q_222
theorem wi_R_sort : Cond.initialized y_R_sort.cls ∈ am_l := q_1
theorem wm_R_sort : Cond.instanceMethod y_R_sort ∈ am_l := q_220
theorem wl_R_sort : Cond.selects R_R y_R_sort y_R_sort ∈ am_l := q_221
theorem wd_R_sort : okD y_R_sort 3 := by decide +kernel
theorem wc_R_get : Cond.code y_R_get b_R_get 2 (some .int) ∈ am_l := q_326
theorem wi_R_get : Cond.initialized y_R_get.cls ∈ am_l := q_1
theorem wm_R_get : Cond.instanceMethod y_R_get ∈ am_l := q_324
theorem wl_R_get : Cond.selects R_R y_R_get y_R_get ∈ am_l := q_325
theorem wd_R_get : okD y_R_get 1 := by decide +kernel
theorem wc_R_tag : Cond.code y_R_tag b_R_tag 2 (some .int) ∈ am_l := q_333
theorem wi_R_tag : Cond.initialized y_R_tag.cls ∈ am_l := q_1
theorem wm_R_tag : Cond.instanceMethod y_R_tag ∈ am_l := q_331
theorem wl_R_tag : Cond.selects R_R y_R_tag y_R_tag ∈ am_l := q_332
theorem wd_R_tag : okD y_R_tag 1 := by decide +kernel
theorem wc_R_set : Cond.code y_R_set b_R_set 4 (some .int) ∈ am_l := q_340
theorem wi_R_set : Cond.initialized y_R_set.cls ∈ am_l := q_1
theorem wm_R_set : Cond.instanceMethod y_R_set ∈ am_l := q_338
theorem wl_R_set : Cond.selects R_R y_R_set y_R_set ∈ am_l := q_339
theorem wd_R_set : okD y_R_set 2 := by decide +kernel
theorem wc_R_turn : Cond.code y_R_turn b_R_turn 7 (some .int) ∈ am_l := q_347
theorem wi_R_turn : Cond.initialized y_R_turn.cls ∈ am_l := q_1
theorem wm_R_turn : Cond.instanceMethod y_R_turn ∈ am_l := q_345
theorem wl_R_turn : Cond.selects R_R y_R_turn y_R_turn ∈ am_l := q_346
theorem wd_R_turn : okD y_R_turn 2 := by decide +kernel
theorem wc_R_upTo : Cond.code y_R_upTo b_R_upTo 6 (some .int) ∈ am_l := q_354
theorem wi_R_upTo : Cond.initialized y_R_upTo.cls ∈ am_l := q_1
theorem wm_R_upTo : Cond.instanceMethod y_R_upTo ∈ am_l := q_352
theorem wl_R_upTo : Cond.selects R_R y_R_upTo y_R_upTo ∈ am_l := q_353
theorem wd_R_upTo : okD y_R_upTo 3 := by decide +kernel
theorem wc_R_clear : Cond.code y_R_clear b_R_clear 2 (some .int) ∈ am_l := q_106
theorem wi_R_clear : Cond.initialized y_R_clear.cls ∈ am_l := q_1
theorem wm_R_clear : Cond.instanceMethod y_R_clear ∈ am_l := q_104
theorem wl_R_clear : Cond.selects R_R y_R_clear y_R_clear ∈ am_l := q_105
theorem wd_R_clear : okD y_R_clear 0 := by decide +kernel
theorem wc_R_hash : Cond.code y_R_hash b_R_hash 3 (some .int) ∈ am_l := q_110
theorem wi_R_hash : Cond.initialized y_R_hash.cls ∈ am_l := q_1
theorem wm_R_hash : Cond.instanceMethod y_R_hash ∈ am_l := q_108
theorem wl_R_hash : Cond.selects R_R y_R_hash y_R_hash ∈ am_l := q_109
theorem wd_R_hash : okD y_R_hash 0 := by decide +kernel
theorem wc_M_init : Cond.code y_M_init b_M_init 1 none ∈ am_l := q_361
theorem wi_M_init : Cond.initialized y_M_init.cls ∈ am_l := q_7
theorem wm_M_init : Cond.instanceMethod y_M_init ∈ am_l := q_360
theorem wd_M_init : okD y_M_init 0 := by decide +kernel
theorem wc_M_thrown : Cond.code y_M_thrown b_M_thrown 1 (some .int) ∈ am_l := q_379
theorem wi_M_thrown : Cond.initialized y_M_thrown.cls ∈ am_l := q_7
theorem wm_M_thrown : Cond.instanceMethod y_M_thrown ∈ am_l := q_377
theorem wl_M_thrown : Cond.selects R_M y_M_thrown y_M_thrown ∈ am_l := q_378
theorem wd_M_thrown : okD y_M_thrown 0 := by decide +kernel
theorem wc_M_fail : Cond.code y_M_fail b_M_fail 2 (some .int) ∈ am_l := q_387
theorem wi_M_fail : Cond.initialized y_M_fail.cls ∈ am_l := q_7
theorem wm_M_fail : Cond.instanceMethod y_M_fail ∈ am_l := q_386
theorem wl_M_fail : Cond.selects R_M y_M_fail y_M_fail ∈ am_l := q_s11
theorem wd_M_fail : okD y_M_fail 1 := by decide +kernel
theorem wc_M_rank : Cond.code y_M_rank b_M_rank 3 (some .int) ∈ am_l := q_409
theorem wi_M_rank : Cond.initialized y_M_rank.cls ∈ am_l := q_7
theorem wm_M_rank : Cond.instanceMethod y_M_rank ∈ am_l := q_408
theorem wl_M_rank : Cond.selects R_M y_M_rank y_M_rank ∈ am_l := q_s14
theorem wd_M_rank : okD y_M_rank 2 := by decide +kernel
theorem wc_M_append : Cond.code y_M_append b_M_append 2 none ∈ am_l := q_391
theorem wi_M_append : Cond.initialized y_M_append.cls ∈ am_l := q_7
theorem wm_M_append : Cond.instanceMethod y_M_append ∈ am_l := q_390
theorem wl_M_append : Cond.selects R_M y_M_append y_M_append ∈ am_l := q_s12
theorem wd_M_append : okD y_M_append 1 := by decide +kernel
theorem wc_M_fill : Cond.code y_M_fill b_M_fill 5 (some .int) ∈ am_l := q_383
theorem wi_M_fill : Cond.initialized y_M_fill.cls ∈ am_l := q_7
theorem wm_M_fill : Cond.instanceMethod y_M_fill ∈ am_l := q_381
theorem wl_M_fill : Cond.selects R_M y_M_fill y_M_fill ∈ am_l := q_382
theorem wd_M_fill : okD y_M_fill 3 := by decide +kernel
theorem wc_M_scatter : Cond.code y_M_scatter b_M_scatter 6 (some .int) ∈ am_l := q_395
theorem wi_M_scatter : Cond.initialized y_M_scatter.cls ∈ am_l := q_7
theorem wm_M_scatter : Cond.instanceMethod y_M_scatter ∈ am_l := q_393
theorem wl_M_scatter : Cond.selects R_M y_M_scatter y_M_scatter ∈ am_l := q_394
theorem wd_M_scatter : okD y_M_scatter 3 := by decide +kernel
theorem wc_M_bad : Cond.code y_M_bad b_M_bad 3 (some .boolean) ∈ am_l := q_405
theorem wi_M_bad : Cond.initialized y_M_bad.cls ∈ am_l := q_7
theorem wm_M_bad : Cond.instanceMethod y_M_bad ∈ am_l := q_404
theorem wl_M_bad : Cond.selects R_M y_M_bad y_M_bad ∈ am_l := q_s13
theorem wd_M_bad : okD y_M_bad 2 := by decide +kernel
theorem wc_M_sort : Cond.code y_M_sort b_M_sort 8 (some .int) ∈ am_l := q_401
theorem wi_M_sort : Cond.initialized y_M_sort.cls ∈ am_l := q_7
theorem wm_M_sort : Cond.instanceMethod y_M_sort ∈ am_l := q_399
theorem wl_M_sort : Cond.selects R_M y_M_sort y_M_sort ∈ am_l := q_400
theorem wd_M_sort : okD y_M_sort 3 := by decide +kernel
theorem wc_M_get : Cond.code y_M_get b_M_get 2 (some .int) ∈ am_l := q_414
theorem wi_M_get : Cond.initialized y_M_get.cls ∈ am_l := q_7
theorem wm_M_get : Cond.instanceMethod y_M_get ∈ am_l := q_412
theorem wl_M_get : Cond.selects R_M y_M_get y_M_get ∈ am_l := q_413
theorem wd_M_get : okD y_M_get 1 := by decide +kernel
theorem wc_M_tag : Cond.code y_M_tag b_M_tag 2 (some .int) ∈ am_l := q_418
theorem wi_M_tag : Cond.initialized y_M_tag.cls ∈ am_l := q_7
theorem wm_M_tag : Cond.instanceMethod y_M_tag ∈ am_l := q_416
theorem wl_M_tag : Cond.selects R_M y_M_tag y_M_tag ∈ am_l := q_417
theorem wd_M_tag : okD y_M_tag 1 := by decide +kernel
theorem wc_M_set : Cond.code y_M_set b_M_set 4 (some .int) ∈ am_l := q_422
theorem wi_M_set : Cond.initialized y_M_set.cls ∈ am_l := q_7
theorem wm_M_set : Cond.instanceMethod y_M_set ∈ am_l := q_420
theorem wl_M_set : Cond.selects R_M y_M_set y_M_set ∈ am_l := q_421
theorem wd_M_set : okD y_M_set 2 := by decide +kernel
theorem wc_M_turn : Cond.code y_M_turn b_M_turn 7 (some .int) ∈ am_l := q_426
theorem wi_M_turn : Cond.initialized y_M_turn.cls ∈ am_l := q_7
theorem wm_M_turn : Cond.instanceMethod y_M_turn ∈ am_l := q_424
theorem wl_M_turn : Cond.selects R_M y_M_turn y_M_turn ∈ am_l := q_425
theorem wd_M_turn : okD y_M_turn 2 := by decide +kernel
theorem wc_M_upTo : Cond.code y_M_upTo b_M_upTo 5 (some .int) ∈ am_l := q_430
theorem wi_M_upTo : Cond.initialized y_M_upTo.cls ∈ am_l := q_7
theorem wm_M_upTo : Cond.instanceMethod y_M_upTo ∈ am_l := q_428
theorem wl_M_upTo : Cond.selects R_M y_M_upTo y_M_upTo ∈ am_l := q_429
theorem wd_M_upTo : okD y_M_upTo 3 := by decide +kernel
theorem wc_M_clear : Cond.code y_M_clear b_M_clear 2 (some .int) ∈ am_l := q_434
theorem wi_M_clear : Cond.initialized y_M_clear.cls ∈ am_l := q_7
theorem wm_M_clear : Cond.instanceMethod y_M_clear ∈ am_l := q_432
theorem wl_M_clear : Cond.selects R_M y_M_clear y_M_clear ∈ am_l := q_433
theorem wd_M_clear : okD y_M_clear 0 := by decide +kernel
theorem wc_M_hash : Cond.code y_M_hash b_M_hash 3 (some .int) ∈ am_l := q_438
theorem wi_M_hash : Cond.initialized y_M_hash.cls ∈ am_l := q_7
theorem wm_M_hash : Cond.instanceMethod y_M_hash ∈ am_l := q_436
theorem wl_M_hash : Cond.selects R_M y_M_hash y_M_hash ∈ am_l := q_437
theorem wd_M_hash : okD y_M_hash 0 := by decide +kernel
theorem wc_B_init : Cond.code y_B_init b_B_init 3 none ∈ am_l := q_231
theorem wi_B_init : Cond.initialized y_B_init.cls ∈ am_l := q_13
theorem wm_B_init : Cond.instanceMethod y_B_init ∈ am_l := q_230
theorem wd_B_init : okD y_B_init 2 := by decide +kernel
theorem wc_B_compare : Cond.code y_B_compare b_B_compare 3 (some .int) ∈ am_l := q_260
theorem wi_B_compare : Cond.initialized y_B_compare.cls ∈ am_l := q_13
theorem wm_B_compare : Cond.instanceMethod y_B_compare ∈ am_l := q_258
theorem wd_B_compare : okD y_B_compare 2 := by decide +kernel
theorem wc_O1_init : Cond.code y_O1_init b_O1_init 1 none ∈ am_l := q_35
theorem wi_O1_init : Cond.initialized y_O1_init.cls ∈ am_l := q_3
theorem wm_O1_init : Cond.instanceMethod y_O1_init ∈ am_l := q_34
theorem wd_O1_init : okD y_O1_init 0 := by decide +kernel
theorem wc_O1_compare : Cond.code y_O1_compare b_O1_compare 3 (some .int) ∈ am_l := q_268
theorem wi_O1_compare : Cond.initialized y_O1_compare.cls ∈ am_l := q_3
theorem wm_O1_compare : Cond.instanceMethod y_O1_compare ∈ am_l := q_266
theorem wd_O1_compare : okD y_O1_compare 2 := by decide +kernel
theorem wc_O2_init : Cond.code y_O2_init b_O2_init 1 none ∈ am_l := q_42
theorem wi_O2_init : Cond.initialized y_O2_init.cls ∈ am_l := q_4
theorem wm_O2_init : Cond.instanceMethod y_O2_init ∈ am_l := q_41
theorem wd_O2_init : okD y_O2_init 0 := by decide +kernel
theorem wc_O2_compare : Cond.code y_O2_compare b_O2_compare 3 (some .int) ∈ am_l := q_274
theorem wi_O2_compare : Cond.initialized y_O2_compare.cls ∈ am_l := q_4
theorem wm_O2_compare : Cond.instanceMethod y_O2_compare ∈ am_l := q_272
theorem wd_O2_compare : okD y_O2_compare 2 := by decide +kernel
theorem wc_O0_init : Cond.code y_O0_init b_O0_init 1 none ∈ am_l := q_28
theorem wi_O0_init : Cond.initialized y_O0_init.cls ∈ am_l := q_2
theorem wm_O0_init : Cond.instanceMethod y_O0_init ∈ am_l := q_27
theorem wd_O0_init : okD y_O0_init 0 := by decide +kernel
theorem wc_O0_compare : Cond.code y_O0_compare b_O0_compare 3 (some .int) ∈ am_l := q_280
theorem wi_O0_compare : Cond.initialized y_O0_compare.cls ∈ am_l := q_2
theorem wm_O0_compare : Cond.instanceMethod y_O0_compare ∈ am_l := q_278
theorem wd_O0_compare : okD y_O0_compare 2 := by decide +kernel
theorem wc_S_init : Cond.code y_S_init b_S_init 1 none ∈ am_l := q_56
theorem wi_S_init : Cond.initialized y_S_init.cls ∈ am_l := q_6
theorem wm_S_init : Cond.instanceMethod y_S_init ∈ am_l := q_55
theorem wd_S_init : okD y_S_init 0 := by decide +kernel
theorem wc_S_cells : Cond.code y_S_cells b_S_cells 1 (some (.array .int)) ∈ am_l := q_226
theorem wi_S_cells : Cond.initialized y_S_cells.cls ∈ am_l := q_6
theorem wm_S_cells : Cond.instanceMethod y_S_cells ∈ am_l := q_224
theorem wl_S_cells : Cond.selects R_S y_S_cells y_S_cells ∈ am_l := q_225
theorem wd_S_cells : okD y_S_cells 0 := by decide +kernel
theorem wc_S_sort : Cond.code y_S_sort b_S_sort 7 none ∈ am_l := q_243
theorem wi_S_sort : Cond.initialized y_S_sort.cls ∈ am_l := q_6
theorem wm_S_sort : Cond.instanceMethod y_S_sort ∈ am_l := q_241
theorem wl_S_sort : Cond.selects R_S y_S_sort y_S_sort ∈ am_l := q_242
theorem wd_S_sort : okD y_S_sort 2 := by decide +kernel
theorem wc_S_shortest : Cond.code y_S_shortest b_S_shortest 3 (some .int) ∈ am_l := q_246
theorem wi_S_shortest : Cond.initialized y_S_shortest.cls ∈ am_l := q_6
theorem ws_S_shortest : Cond.static y_S_shortest ∈ am_l := q_245
theorem wd_S_shortest : okD y_S_shortest 1 := by decide +kernel
theorem wc_S_run : Cond.code y_S_run b_S_run 8 (some .int) ∈ am_l := q_250
theorem wi_S_run : Cond.initialized y_S_run.cls ∈ am_l := q_6
theorem wm_S_run : Cond.instanceMethod y_S_run ∈ am_l := q_249
theorem wl_S_run : Cond.selects R_S y_S_run y_S_run ∈ am_l := q_s2
theorem wd_S_run : okD y_S_run 2 := by decide +kernel
theorem wc_S_insertion : Cond.code y_S_insertion b_S_insertion 9 none ∈ am_l := q_291
theorem wi_S_insertion : Cond.initialized y_S_insertion.cls ∈ am_l := q_6
theorem wm_S_insertion : Cond.instanceMethod y_S_insertion ∈ am_l := q_290
theorem wl_S_insertion : Cond.selects R_S y_S_insertion y_S_insertion ∈ am_l := q_s3
theorem wd_S_insertion : okD y_S_insertion 3 := by decide +kernel
theorem wc_S_settle : Cond.code y_S_settle b_S_settle 3 none ∈ am_l := q_295
theorem wi_S_settle : Cond.initialized y_S_settle.cls ∈ am_l := q_6
theorem wm_S_settle : Cond.instanceMethod y_S_settle ∈ am_l := q_294
theorem wl_S_settle : Cond.selects R_S y_S_settle y_S_settle ∈ am_l := q_s4
theorem wd_S_settle : okD y_S_settle 0 := by decide +kernel
theorem wc_S_merge : Cond.code y_S_merge b_S_merge 7 none ∈ am_l := q_299
theorem wi_S_merge : Cond.initialized y_S_merge.cls ∈ am_l := q_6
theorem wm_S_merge : Cond.instanceMethod y_S_merge ∈ am_l := q_298
theorem wl_S_merge : Cond.selects R_S y_S_merge y_S_merge ∈ am_l := q_s5
theorem wd_S_merge : okD y_S_merge 1 := by decide +kernel
theorem wc_S_behind : Cond.code y_S_behind b_S_behind 8 (some .int) ∈ am_l := q_303
theorem wi_S_behind : Cond.initialized y_S_behind.cls ∈ am_l := q_6
theorem wm_S_behind : Cond.instanceMethod y_S_behind ∈ am_l := q_302
theorem wl_S_behind : Cond.selects R_S y_S_behind y_S_behind ∈ am_l := q_s6
theorem wd_S_behind : okD y_S_behind 3 := by decide +kernel
theorem wc_S_notBefore : Cond.code y_S_notBefore b_S_notBefore 8 (some .int) ∈ am_l := q_307
theorem wi_S_notBefore : Cond.initialized y_S_notBefore.cls ∈ am_l := q_6
theorem wm_S_notBefore : Cond.instanceMethod y_S_notBefore ∈ am_l := q_306
theorem wl_S_notBefore : Cond.selects R_S y_S_notBefore y_S_notBefore ∈ am_l := q_s7
theorem wd_S_notBefore : okD y_S_notBefore 3 := by decide +kernel
theorem wc_S_mergeUp : Cond.code y_S_mergeUp b_S_mergeUp 14 none ∈ am_l := q_311
theorem wi_S_mergeUp : Cond.initialized y_S_mergeUp.cls ∈ am_l := q_6
theorem wm_S_mergeUp : Cond.instanceMethod y_S_mergeUp ∈ am_l := q_310
theorem wl_S_mergeUp : Cond.selects R_S y_S_mergeUp y_S_mergeUp ∈ am_l := q_s8
theorem wd_S_mergeUp : okD y_S_mergeUp 4 := by decide +kernel
theorem wc_S_waiting : Cond.code y_S_waiting b_S_waiting 7 (some .int) ∈ am_l := q_315
theorem wi_S_waiting : Cond.initialized y_S_waiting.cls ∈ am_l := q_6
theorem wm_S_waiting : Cond.instanceMethod y_S_waiting ∈ am_l := q_314
theorem wl_S_waiting : Cond.selects R_S y_S_waiting y_S_waiting ∈ am_l := q_s9
theorem wd_S_waiting : okD y_S_waiting 3 := by decide +kernel
theorem wc_S_mergeDown : Cond.code y_S_mergeDown b_S_mergeDown 9 none ∈ am_l := q_319
theorem wi_S_mergeDown : Cond.initialized y_S_mergeDown.cls ∈ am_l := q_6
theorem wm_S_mergeDown : Cond.instanceMethod y_S_mergeDown ∈ am_l := q_318
theorem wl_S_mergeDown : Cond.selects R_S y_S_mergeDown y_S_mergeDown ∈ am_l := q_s10
theorem wd_S_mergeDown : okD y_S_mergeDown 4 := by decide +kernel
theorem wc_O3_init : Cond.code y_O3_init b_O3_init 1 none ∈ am_l := q_49
theorem wi_O3_init : Cond.initialized y_O3_init.cls ∈ am_l := q_5
theorem wm_O3_init : Cond.instanceMethod y_O3_init ∈ am_l := q_48
theorem wd_O3_init : okD y_O3_init 0 := by decide +kernel
theorem wc_O3_compare : Cond.code y_O3_compare b_O3_compare 3 (some .int) ∈ am_l := q_286
theorem wi_O3_compare : Cond.initialized y_O3_compare.cls ∈ am_l := q_5
theorem wm_O3_compare : Cond.instanceMethod y_O3_compare ∈ am_l := q_284
theorem wd_O3_compare : okD y_O3_compare 2 := by decide +kernel
theorem wc_L_fill : Cond.codeWith y_L_fill b_L_fill 6 (some .int) [(0, 12, 15, 13), (0, 12, 19, 15)] ∈ am_l := q_113
theorem wi_L_fill : Cond.initialized y_L_fill.cls ∈ am_l := q_0
theorem ws_L_fill : Cond.static y_L_fill ∈ am_l := q_112
theorem wd_L_fill : okD y_L_fill 5 := by decide +kernel
theorem wc_L_scatter : Cond.codeWith y_L_scatter b_L_scatter 6 (some .int) [(0, 12, 15, 13), (0, 12, 19, 15)] ∈ am_l := q_209
theorem wi_L_scatter : Cond.initialized y_L_scatter.cls ∈ am_l := q_0
theorem ws_L_scatter : Cond.static y_L_scatter ∈ am_l := q_208
theorem wd_L_scatter : okD y_L_scatter 5 := by decide +kernel
theorem wc_L_sort : Cond.codeWith y_L_sort b_L_sort 6 (some .int) [(0, 12, 15, 13)] ∈ am_l := q_218
theorem wi_L_sort : Cond.initialized y_L_sort.cls ∈ am_l := q_0
theorem ws_L_sort : Cond.static y_L_sort ∈ am_l := q_217
theorem wd_L_sort : okD y_L_sort 5 := by decide +kernel
theorem wc_L_get : Cond.codeWith y_L_get b_L_get 4 (some .int) [(0, 9, 12, 15)] ∈ am_l := q_322
theorem wi_L_get : Cond.initialized y_L_get.cls ∈ am_l := q_0
theorem ws_L_get : Cond.static y_L_get ∈ am_l := q_321
theorem wd_L_get : okD y_L_get 3 := by decide +kernel
theorem wc_L_tag : Cond.codeWith y_L_tag b_L_tag 4 (some .int) [(0, 9, 12, 15)] ∈ am_l := q_329
theorem wi_L_tag : Cond.initialized y_L_tag.cls ∈ am_l := q_0
theorem ws_L_tag : Cond.static y_L_tag ∈ am_l := q_328
theorem wd_L_tag : okD y_L_tag 3 := by decide +kernel
theorem wc_L_set : Cond.codeWith y_L_set b_L_set 5 (some .int) [(0, 10, 13, 15)] ∈ am_l := q_336
theorem wi_L_set : Cond.initialized y_L_set.cls ∈ am_l := q_0
theorem ws_L_set : Cond.static y_L_set ∈ am_l := q_335
theorem wd_L_set : okD y_L_set 4 := by decide +kernel
theorem wc_L_turn : Cond.codeWith y_L_turn b_L_turn 5 (some .int) [(0, 10, 13, 13)] ∈ am_l := q_343
theorem wi_L_turn : Cond.initialized y_L_turn.cls ∈ am_l := q_0
theorem ws_L_turn : Cond.static y_L_turn ∈ am_l := q_342
theorem wd_L_turn : okD y_L_turn 4 := by decide +kernel
theorem wc_L_upTo : Cond.codeWith y_L_upTo b_L_upTo 6 (some .int) [(0, 12, 15, 13)] ∈ am_l := q_350
theorem wi_L_upTo : Cond.initialized y_L_upTo.cls ∈ am_l := q_0
theorem ws_L_upTo : Cond.static y_L_upTo ∈ am_l := q_349
theorem wd_L_upTo : okD y_L_upTo 5 := by decide +kernel
theorem wk_L_41 : Cond.methodLink R_L 41 y_R_init ∈ am_l := q_16
theorem wk_R_11 : Cond.methodLinkNest R_R 11 y_O0_init "RunSorter" ∈ am_l := q_26
theorem wk_R_14 : Cond.methodLinkNest R_R 14 y_O1_init "RunSorter" ∈ am_l := q_33
theorem wk_R_17 : Cond.methodLinkNest R_R 17 y_O2_init "RunSorter" ∈ am_l := q_40
theorem wk_R_20 : Cond.methodLinkNest R_R 20 y_O3_init "RunSorter" ∈ am_l := q_47
theorem wk_R_29 : Cond.methodLinkNest R_R 29 y_S_init "RunSorter" ∈ am_l := q_54
theorem wk_L_79 : Cond.methodLink R_L 79 y_R_clear ∈ am_l := q_103
theorem wk_L_83 : Cond.methodLink R_L 83 y_R_hash ∈ am_l := q_107
theorem wk_L_45 : Cond.methodLink R_L 45 y_L_fill ∈ am_l := q_111
theorem wk_L_7 : Cond.methodLink R_L 7 y_R_fill ∈ am_l := q_116
theorem wk_R_57 : Cond.methodLink R_R 57 y_R_in ∈ am_l := q_120
theorem wk_R_61 : Cond.methodLink R_R 61 y_R_within ∈ am_l := q_185
theorem wk_R_65 : Cond.methodLink R_R 65 y_R_add ∈ am_l := q_203
theorem wk_L_55 : Cond.methodLink R_L 55 y_L_scatter ∈ am_l := q_207
theorem wk_L_17 : Cond.methodLink R_L 17 y_R_scatter ∈ am_l := q_210
theorem wk_L_58 : Cond.methodLink R_L 58 y_L_sort ∈ am_l := q_216
theorem wk_L_20 : Cond.methodLink R_L 20 y_R_sort ∈ am_l := q_219
theorem wk_R_71 : Cond.methodLink R_R 71 y_S_cells ∈ am_l := q_223
theorem wk_R_77 : Cond.methodLink R_R 77 y_B_init ∈ am_l := q_229
theorem wk_R_80 : Cond.methodLink R_R 80 y_S_sort ∈ am_l := q_240
theorem wk_S_35 : Cond.methodLink R_S 35 y_S_shortest ∈ am_l := q_244
theorem wk_S_39 : Cond.methodLink R_S 39 y_S_run ∈ am_l := q_247
theorem wk_S_43 : Cond.methodLink R_S 43 y_S_insertion ∈ am_l := q_288
theorem wk_S_47 : Cond.methodLink R_S 47 y_S_settle ∈ am_l := q_292
theorem wk_S_50 : Cond.methodLink R_S 50 y_S_merge ∈ am_l := q_296
theorem wk_S_59 : Cond.methodLink R_S 59 y_S_behind ∈ am_l := q_300
theorem wk_S_63 : Cond.methodLink R_S 63 y_S_notBefore ∈ am_l := q_304
theorem wk_S_66 : Cond.methodLink R_S 66 y_S_mergeUp ∈ am_l := q_308
theorem wk_S_73 : Cond.methodLink R_S 73 y_S_waiting ∈ am_l := q_312
theorem wk_S_70 : Cond.methodLink R_S 70 y_S_mergeDown ∈ am_l := q_316
theorem wk_L_61 : Cond.methodLink R_L 61 y_L_get ∈ am_l := q_320
theorem wk_L_23 : Cond.methodLink R_L 23 y_R_get ∈ am_l := q_323
theorem wk_L_65 : Cond.methodLink R_L 65 y_L_tag ∈ am_l := q_327
theorem wk_L_27 : Cond.methodLink R_L 27 y_R_tag ∈ am_l := q_330
theorem wk_L_68 : Cond.methodLink R_L 68 y_L_set ∈ am_l := q_334
theorem wk_L_30 : Cond.methodLink R_L 30 y_R_set ∈ am_l := q_337
theorem wk_L_72 : Cond.methodLink R_L 72 y_L_turn ∈ am_l := q_341
theorem wk_L_34 : Cond.methodLink R_L 34 y_R_turn ∈ am_l := q_344
theorem wk_L_75 : Cond.methodLink R_L 75 y_L_upTo ∈ am_l := q_348
theorem wk_L_37 : Cond.methodLink R_L 37 y_R_upTo ∈ am_l := q_351
theorem wk_L_44 : Cond.methodLink R_L 44 y_M_init ∈ am_l := q_359
theorem wk_L_51 : Cond.methodLink R_L 51 y_M_thrown ∈ am_l := q_376
theorem wk_L_50 : Cond.methodLink R_L 50 y_M_fill ∈ am_l := q_380
theorem wk_M_24 : Cond.methodLink R_M 24 y_M_fail ∈ am_l := q_384
theorem wk_M_28 : Cond.methodLink R_M 28 y_M_append ∈ am_l := q_388
theorem wk_L_57 : Cond.methodLink R_L 57 y_M_scatter ∈ am_l := q_392
theorem wk_L_60 : Cond.methodLink R_L 60 y_M_sort ∈ am_l := q_398
theorem wk_M_34 : Cond.methodLink R_M 34 y_M_bad ∈ am_l := q_402
theorem wk_M_38 : Cond.methodLink R_M 38 y_M_rank ∈ am_l := q_406
theorem wk_L_64 : Cond.methodLink R_L 64 y_M_get ∈ am_l := q_411
theorem wk_L_67 : Cond.methodLink R_L 67 y_M_tag ∈ am_l := q_415
theorem wk_L_71 : Cond.methodLink R_L 71 y_M_set ∈ am_l := q_419
theorem wk_L_74 : Cond.methodLink R_L 74 y_M_turn ∈ am_l := q_423
theorem wk_L_78 : Cond.methodLink R_L 78 y_M_upTo ∈ am_l := q_427
theorem wk_L_82 : Cond.methodLink R_L 82 y_M_clear ∈ am_l := q_431
theorem wk_L_86 : Cond.methodLink R_L 86 y_M_hash ∈ am_l := q_435
def y_cmp : MethodName := ⟨"RunSorter$Order", "compare", "(II)I"⟩
theorem wd_cmp : okD y_cmp 2 := by decide +kernel
theorem wk_S_54 : Cond.methodLink R_S 54 y_cmp ∈ am_l := q_252
theorem wk_B_17 : Cond.methodLink R_B 17 y_cmp ∈ am_l := q_262
theorem wk_R_84 : Cond.methodLink R_R 84 y_cmp ∈ am_l := q_356
theorem wf_decl : Cond.declares y_cmp ∈ am_l := q_254
theorem wf_face : Cond.interfaceMethod y_cmp.cls y_cmp.cls y_cmp.name y_cmp.desc ∈ am_l := q_253
theorem wf_sel_B : Cond.selects R_B y_cmp y_B_compare ∈ am_l := q_256
theorem wf_pub_B : Cond.publicMethod y_B_compare ∈ am_l := q_259
theorem wf_unh_B : Cond.unhidden R_B y_cmp.name y_cmp.desc ∈ am_l := q_257
theorem wf_cast_B : Cond.castable R_B y_cmp.cls ∈ am_l := q_255
theorem wf_sel_O0 : Cond.selects R_O0 y_cmp y_O0_compare ∈ am_l := q_276
theorem wf_pub_O0 : Cond.publicMethod y_O0_compare ∈ am_l := q_279
theorem wf_unh_O0 : Cond.unhidden R_O0 y_cmp.name y_cmp.desc ∈ am_l := q_277
theorem wf_cast_O0 : Cond.castable R_O0 y_cmp.cls ∈ am_l := q_275
theorem wf_sel_O1 : Cond.selects R_O1 y_cmp y_O1_compare ∈ am_l := q_264
theorem wf_pub_O1 : Cond.publicMethod y_O1_compare ∈ am_l := q_267
theorem wf_unh_O1 : Cond.unhidden R_O1 y_cmp.name y_cmp.desc ∈ am_l := q_265
theorem wf_cast_O1 : Cond.castable R_O1 y_cmp.cls ∈ am_l := q_263
theorem wf_sel_O2 : Cond.selects R_O2 y_cmp y_O2_compare ∈ am_l := q_270
theorem wf_pub_O2 : Cond.publicMethod y_O2_compare ∈ am_l := q_273
theorem wf_unh_O2 : Cond.unhidden R_O2 y_cmp.name y_cmp.desc ∈ am_l := q_271
theorem wf_cast_O2 : Cond.castable R_O2 y_cmp.cls ∈ am_l := q_269
theorem wf_sel_O3 : Cond.selects R_O3 y_cmp y_O3_compare ∈ am_l := q_282
theorem wf_pub_O3 : Cond.publicMethod y_O3_compare ∈ am_l := q_285
theorem wf_unh_O3 : Cond.unhidden R_O3 y_cmp.name y_cmp.desc ∈ am_l := q_283
theorem wf_cast_O3 : Cond.castable R_O3 y_cmp.cls ∈ am_l := q_281
