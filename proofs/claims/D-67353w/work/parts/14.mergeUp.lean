section PMU
variable {K : Int32 → Int}
theorem MU.cmpL {f0 f s : Nat → Int32} {a n b m lo mid hi i j : Nat} (h : MU K f0 f s a n b m lo hi i j) (il : In f0 a b lo mid) (ir : In f0 b (b + m) mid hi) (hab : a + n = b) (hh : hi ≤ 2000) (hi1 : i < n) (hj : j < b + m) (hc : K (s i) ≤ K (f j)) : LT K (s i) (f j) := by
  obtain ⟨h1, h2, h3, h4, h5, h6, h7, h8, h9, h10⟩ := h
  obtain ⟨p, p1, p2, p3⟩ := il (a + i) (by omega) (by omega)
  obtain ⟨q, q1, q2, q3⟩ := ir j h2 hj
  exact lt_lo ((h4 i hi1).trans p3) ((h5 j (Nat.le_refl _) hj).trans q3) (by omega) (by omega) hc
theorem MU.vdS {f0 f s : Nat → Int32} {a n b m lo mid hi i j : Nat} (h : MU K f0 f s a n b m lo hi i j) (il : In f0 a b lo mid) (hab : a + n = b) (hh : mid ≤ 2000) {t : Nat} (ht : t < n) : vp_in (s t) 2000 := by
  rw [h.2.2.2.1 t ht]
  exact il.vd hh (by omega) (by omega)
theorem MU.vdF {f0 f s : Nat → Int32} {a n b m lo mid hi i j : Nat} (h : MU K f0 f s a n b m lo hi i j) (ir : In f0 b (b + m) mid hi) (hh : hi ≤ 2000) {t : Nat} (ht : j ≤ t) (ht2 : t < b + m) : vp_in (f t) 2000 := by
  rw [h.2.2.2.2.1 t ht ht2]
  exact ir.vd hh (Nat.le_trans h.2.1 ht) ht2
theorem MU.moF {f0 f s : Nat → Int32} {a n b m lo hi i j : Nat} (h : MU K f0 f s a n b m lo hi i j) (sr : Sg K f0 b (b + m)) {x y : Nat} (h1 : j ≤ x) (h2 : x ≤ y) (h3 : y < b + m) : K (f x) ≤ K (f y) := by
  rw [h.2.2.2.2.1 x h1 (by omega), h.2.2.2.2.1 y (by omega) h3]
  exact sr.mono (Nat.le_trans h.2.1 h1) h2 h3
theorem MU.moS {f0 f s : Nat → Int32} {a n b m lo hi i j : Nat} (h : MU K f0 f s a n b m lo hi i j) (sl : Sg K f0 a b) (hab : a + n = b) {x y : Nat} (h2 : x ≤ y) (h3 : y < n) : K (s x) ≤ K (s y) := by
  rw [h.2.2.2.1 x (by omega), h.2.2.2.1 y h3]
  exact sl.mono (by omega) (by omega) (by omega)
end PMU
section SMU
variable {D : va_G} {cI cJ cO : ClassId} {p : Program} {l : Launch} {e : Env} {R : Room} {s : State} {m : MethodId} {args : Array Value} {below : List Frame} {meth : Method} {c : Code} {cells slots : Nat} {Q : State → Prop}
variable {a : Nat → Nat} {hB k : Nat} {g : Nat → Int32} {rn : Int32} {fF fL : Nat → Int32} {A : Nat → Prop} {H0 : Heap}
set_option maxHeartbeats 4000000 in
theorem l_mu0 {x0 n1 y0 n2 lo mid hi : Nat} {f0 : Nat → Int32} (X : Cx D cI cJ cO p s m c b_S_mergeUp 14 R_S) (hk : k < 4) (hR : 3 ≤ R.frames ∧ 220 ≤ R.locals) (hf : cells ≤ R.cells ∧ slots ≤ R.slots) (hxy : x0 + n1 = y0) (hyn : y0 + n2 ≤ 2000) (sl : Sg (Ky k g) f0 x0 y0) (sr : Sg (Ky k g) f0 y0 (y0 + n2)) (il : In f0 x0 y0 lo mid) (ir : In f0 y0 (y0 + n2) mid hi) (hmid : lo ≤ mid ∧ mid ≤ hi ∧ hi ≤ 2000) {gl : Int32} (kk : ∀ (sp : Nat → Int32) (H : Heap) (locs : List Loc) (ls : Array Slot), (∀ q, q < n1 → sp q = f0 (x0 + q)) → va_P D vCL (WS cI a hB k g rn gl f0 sp fF fL) H → va_D A (WS cI a hB k g rn gl f0 sp fF fL) → va_S A H0 H locs → lv_has ls 14 [(0, .ref (a 10)), (1, .int (nI x0)), (2, .int (nI n1)), (3, .int (nI y0)), (4, .int (nI n2))] → W p l e R s m args below meth c H locs cells slots Q (F0 m 31 ls [])) : ∀ (fuel i : Nat) (sp : Nat → Int32) (H : Heap) (locs : List Loc) (ls : Array Slot), n1 - i < fuel → i ≤ n1 → (∀ q, q < i → sp q = f0 (x0 + q)) → va_P D vCL (WS cI a hB k g rn gl f0 sp fF fL) H → va_D A (WS cI a hB k g rn gl f0 sp fF fL) → va_S A H0 H locs → lv_has ls 14 [(0, .ref (a 10)), (1, .int (nI x0)), (2, .int (nI n1)), (3, .int (nI y0)), (4, .int (nI n2)), (5, .int (nI i))] → W p l e R s m args below meth c H locs cells slots Q (F0 m 3 ls []) := by
  have hx := X.x
  have hb := X.b
  intro fuel
  induction fuel with
  | zero => intro i sp H locs ls h; omega
  | succ fuel ih =>
    intro i sp H locs ls hfu hi1 hall hP hD hS hl
    refine lv_iload hx hb d_S_mergeUp_3 (lv_at hl 5 rfl) ?_
    refine lv_iload_n hx hb d_S_mergeUp_5 rfl (lv_at hl 2 rfl) ?_
    refine w_icmp_ge (tgt := 31) hx hb d_S_mergeUp_6 (by decide) ⟨by omega, by omega⟩ (fun h1 => ?_) (fun h1 => ?_)
    · exact kk sp H locs ls (fun q hq => hall q (by omega)) hP hD hS (lv_sub hl [0, 1, 2, 3, 4] rfl)
    · refine lv_aload_n hx hb d_S_mergeUp_9 rfl (lv_at hl 0 rfl) ?_
      refine g_S_spare X hP 3 rfl rfl d_S_mergeUp_10 ?_
      refine lv_iload hx hb d_S_mergeUp_13 (lv_at hl 5 rfl) ?_
      refine lv_aload_n hx hb d_S_mergeUp_15 rfl (lv_at hl 0 rfl) ?_
      refine g_S_cells X hP 3 rfl rfl d_S_mergeUp_16 ?_
      refine lv_iload_n hx hb d_S_mergeUp_19 rfl (lv_at hl 1 rfl) ?_
      refine lv_iload hx hb d_S_mergeUp_20 (lv_at hl 5 rfl) ?_
      refine w_add hx hb d_S_mergeUp_22 ?_
      refine w_ald X hP 4 rfl (by omega) (by decide) d_S_mergeUp_23 ?_
      refine w_ast (ws' := WS cI a hB k g rn gl f0 (upd sp i (f0 (x0 + i))) fF fL) X hP hD hS 2 rfl (by omega) (by decide) rfl d_S_mergeUp_24 ?_
      clear hP hD hS; intro H locs hP hD hS
      refine w_inc (k := 5) (lv' := [(5, .int (nI (i + 1))), (0, .ref (a 10)), (1, .int (nI x0)), (2, .int (nI n1)), (3, .int (nI y0)), (4, .int (nI n2))]) hx hb d_S_mergeUp_25 hl rfl (by decide) rfl ?_
      clear hl; intro ls hl
      refine lv_goto (tgt := 3) hx hb d_S_mergeUp_28 (by decide) ?_
      refine ih (i + 1) _ H locs ls (by omega) (by omega) (fun q hq => ?_) hP hD hS (lv_sub hl [1, 2, 3, 4, 5, 0] rfl)
      rcases Nat.lt_or_ge q i with z | z
      · rw [pk_un (by omega)]; exact hall q z
      · rw [show q = i by omega, pk_us]
set_option maxHeartbeats 4000000 in
theorem l_mu9 {x0 n1 y0 n2 lo mid hi : Nat} {f0 : Nat → Int32} (X : Cx D cI cJ cO p s m c b_S_mergeUp 14 R_S) (hk : k < 4) (hR : 3 ≤ R.frames ∧ 220 ≤ R.locals) (hf : cells ≤ R.cells ∧ slots ≤ R.slots) (hxy : x0 + n1 = y0) (hyn : y0 + n2 ≤ 2000) (sl : Sg (Ky k g) f0 x0 y0) (sr : Sg (Ky k g) f0 y0 (y0 + n2)) (il : In f0 x0 y0 lo mid) (ir : In f0 y0 (y0 + n2) mid hi) (hmid : lo ≤ mid ∧ mid ≤ hi ∧ hi ≤ 2000) {gl : Int32} {sp : Nat → Int32} {j : Nat} (kk : ∀ (f : Nat → Int32) (H : Heap) (locs : List Loc) (ls : Array Slot), MU (Ky k g) f0 f sp x0 n1 y0 n2 lo hi n1 j → va_P D vCL (WS cI a hB k g rn gl f sp fF fL) H → va_D A (WS cI a hB k g rn gl f sp fF fL) → va_S A H0 H locs → lv_has ls 14 [(0, .ref (a 10))] → W p l e R s m args below meth c H locs cells slots Q (F0 m 359 ls [])) : ∀ (fuel i : Nat) (f : Nat → Int32) (H : Heap) (locs : List Loc) (ls : Array Slot), n1 - i < fuel → i ≤ n1 → (i < n1 → j = y0 + n2) → MU (Ky k g) f0 f sp x0 n1 y0 n2 lo hi i j → va_P D vCL (WS cI a hB k g rn gl f sp fF fL) H → va_D A (WS cI a hB k g rn gl f sp fF fL) → va_S A H0 H locs → lv_has ls 14 [(0, .ref (a 10)), (1, .int (nI x0)), (2, .int (nI n1)), (3, .int (nI y0)), (4, .int (nI n2)), (5, .int (nI i)), (8, .int (nI (x0 + i + (j - y0))))] → W p l e R s m args below meth c H locs cells slots Q (F0 m 330 ls []) := by
  have hx := X.x
  have hb := X.b
  intro fuel
  induction fuel with
  | zero => intro i f H locs ls h; omega
  | succ fuel ih =>
    intro i f H locs ls hfu hi1 hje hM hP hD hS hl
    refine lv_iload hx hb d_S_mergeUp_330 (lv_at hl 5 rfl) ?_
    refine lv_iload_n hx hb d_S_mergeUp_332 rfl (lv_at hl 2 rfl) ?_
    refine w_icmp_ge (tgt := 359) hx hb d_S_mergeUp_333 (by decide) ⟨by omega, by omega⟩ (fun h1 => ?_) (fun h1 => ?_)
    · have e : i = n1 := by omega
      subst e
      exact kk f H locs ls hM hP hD hS (lv_sub hl [0] rfl)
    · have hj := hje h1
      have hj3 := hM.2.1
      refine lv_aload_n hx hb d_S_mergeUp_336 rfl (lv_at hl 0 rfl) ?_
      refine g_S_cells X hP 3 rfl rfl d_S_mergeUp_337 ?_
      refine lv_iload hx hb d_S_mergeUp_340 (lv_at hl 6 rfl) ?_
      refine w_inc (k := 6) (lv' := [(8, .int (nI (x0 + i + (j - y0) + 1))), (0, .ref (a 10)), (1, .int (nI x0)), (2, .int (nI n1)), (3, .int (nI y0)), (4, .int (nI n2)), (5, .int (nI i))]) hx hb d_S_mergeUp_342 hl rfl (by decide) rfl ?_
      clear hl; intro ls hl
      refine lv_aload_n hx hb d_S_mergeUp_345 rfl (lv_at hl 1 rfl) ?_
      refine g_S_spare X hP 3 rfl rfl d_S_mergeUp_346 ?_
      refine lv_iload hx hb d_S_mergeUp_349 (lv_at hl 6 rfl) ?_
      refine w_inc (k := 6) (lv' := [(5, .int (nI (i + 1))), (8, .int (nI (x0 + i + (j - y0) + 1))), (0, .ref (a 10)), (1, .int (nI x0)), (2, .int (nI n1)), (3, .int (nI y0)), (4, .int (nI n2))]) hx hb d_S_mergeUp_351 hl rfl (by decide) rfl ?_
      clear hl; intro ls hl
      refine w_ald X hP 2 rfl (by omega) (by decide) d_S_mergeUp_354 ?_
      refine w_ast (ws' := WS cI a hB k g rn gl (upd f (x0 + i + (j - y0)) (sp i)) sp fF fL) X hP hD hS 4 rfl (by omega) (by decide) rfl d_S_mergeUp_355 ?_
      clear hP hD hS; intro H locs hP hD hS
      refine lv_goto (tgt := 330) hx hb d_S_mergeUp_356 (by decide) ?_
      refine ih (i + 1) _ H locs ls (by omega) (by omega) (fun _ => hj) (hM.takeL hxy h1 sl sr (il.part (Nat.le_refl _) (Nat.le_refl _) (Nat.le_refl _) hmid.2.1) (fun q => by omega)) hP hD hS (by rw [show x0 + (i + 1) + (j - y0) = x0 + i + (j - y0) + 1 by omega]; exact (lv_sub hl [2, 3, 4, 5, 6, 0, 1] rfl))
set_option maxHeartbeats 4000000 in
theorem l_mugr {x0 n1 y0 n2 lo mid hi : Nat} {f0 : Nat → Int32} (X : Cx D cI cJ cO p s m c b_S_mergeUp 14 R_S) (hk : k < 4) (hR : 3 ≤ R.frames ∧ 220 ≤ R.locals) (hf : cells ≤ R.cells ∧ slots ≤ R.slots) (hxy : x0 + n1 = y0) (hyn : y0 + n2 ≤ 2000) (sl : Sg (Ky k g) f0 x0 y0) (sr : Sg (Ky k g) f0 y0 (y0 + n2)) (il : In f0 x0 y0 lo mid) (ir : In f0 y0 (y0 + n2) mid hi) (hmid : lo ≤ mid ∧ mid ≤ hi ∧ hi ≤ 2000) {gl lf : Int32} {sp : Nat → Int32} {i j q : Nat} (hi1 : i < n1) (hjq : j + q ≤ y0 + n2) (hjy : y0 ≤ j) (hall : ∀ t, t < q → LT (Ky k g) (f0 (j + t)) (sp i)) (kk : ∀ (f : Nat → Int32) (H : Heap) (locs : List Loc) (ls : Array Slot), MU (Ky k g) f0 f sp x0 n1 y0 n2 lo hi i (j + q) → va_P D vCL (WS cI a hB k g rn gl f sp fF fL) H → va_D A (WS cI a hB k g rn gl f sp fF fL) → va_S A H0 H locs → lv_has ls 14 [(0, .ref (a 10)), (1, .int (nI x0)), (2, .int (nI n1)), (3, .int (nI y0)), (4, .int (nI n2)), (5, .int (nI i)), (6, .int (nI (j + q))), (7, .int (nI (y0 + n2))), (8, .int (nI (x0 + i + (j + q - y0)))), (10, .int lf), (12, .int (nI q))] → W p l e R s m args below meth c H locs cells slots Q (F0 m 286 ls [])) : ∀ (fuel t : Nat) (f : Nat → Int32) (H : Heap) (locs : List Loc) (ls : Array Slot), q - t < fuel → t ≤ q → MU (Ky k g) f0 f sp x0 n1 y0 n2 lo hi i (j + t) → va_P D vCL (WS cI a hB k g rn gl f sp fF fL) H → va_D A (WS cI a hB k g rn gl f sp fF fL) → va_S A H0 H locs → lv_has ls 14 [(0, .ref (a 10)), (1, .int (nI x0)), (2, .int (nI n1)), (3, .int (nI y0)), (4, .int (nI n2)), (5, .int (nI i)), (6, .int (nI (j + t))), (7, .int (nI (y0 + n2))), (8, .int (nI (x0 + i + (j + t - y0)))), (10, .int lf), (11, .int (nI 1)), (12, .int (nI q)), (13, .int (nI t))] → W p l e R s m args below meth c H locs cells slots Q (F0 m 235 ls []) := by
  have hx := X.x
  have hb := X.b
  intro fuel
  induction fuel with
  | zero => intro t f H locs ls h; omega
  | succ fuel ih =>
    intro t f H locs ls hfu ht hM hP hD hS hl
    refine lv_iload hx hb d_S_mergeUp_235 (lv_at hl 12 rfl) ?_
    refine lv_iload hx hb d_S_mergeUp_237 (lv_at hl 11 rfl) ?_
    refine w_icmp_ge (tgt := 286) hx hb d_S_mergeUp_239 (by decide) ⟨by omega, by omega⟩ (fun h1 => ?_) (fun h1 => ?_)
    · have e : t = q := by omega
      subst e
      exact kk f H locs ls hM hP hD hS (lv_sub hl [0, 1, 2, 3, 4, 5, 6, 7, 8, 9, 11] rfl)
    · refine lv_aload_n hx hb d_S_mergeUp_242 rfl (lv_at hl 0 rfl) ?_
      refine g_S_cells X hP 3 rfl rfl d_S_mergeUp_243 ?_
      refine lv_iload hx hb d_S_mergeUp_246 (lv_at hl 8 rfl) ?_
      refine lv_iload hx hb d_S_mergeUp_248 (lv_at hl 10 rfl) ?_
      refine w_if_eq (tgt := 266) hx hb d_S_mergeUp_250 (by decide) (by omega) (fun h2 => ?_) (fun h2 => ?_)
      · exact absurd h2 (by decide)
      · refine lv_aload_n hx hb d_S_mergeUp_253 rfl (lv_at hl 0 rfl) ?_
        refine g_S_cells X hP 3 rfl rfl d_S_mergeUp_254 ?_
        refine lv_iload hx hb d_S_mergeUp_257 (lv_at hl 6 rfl) ?_
        refine w_inc (k := 6) (lv' := [(6, .int (nI (j + t + 1))), (0, .ref (a 10)), (1, .int (nI x0)), (2, .int (nI n1)), (3, .int (nI y0)), (4, .int (nI n2)), (5, .int (nI i)), (7, .int (nI (y0 + n2))), (8, .int (nI (x0 + i + (j + t - y0)))), (10, .int lf), (11, .int (nI 1)), (12, .int (nI q)), (13, .int (nI t))]) hx hb d_S_mergeUp_259 hl rfl (by decide) rfl ?_
        clear hl; intro ls hl
        refine w_ald X hP 4 rfl (by omega) (by decide) d_S_mergeUp_262 ?_
        refine lv_goto (tgt := 276) hx hb d_S_mergeUp_263 (by decide) ?_
        have hc : LT (Ky k g) (f (j + t)) (sp i) := by rw [hM.2.2.2.2.1 (j + t) (Nat.le_refl _) (by omega)]; exact hall t h1
        have hM2 := hM.takeR hxy hi1 (by omega) sl sr (ir.part (Nat.le_refl _) (Nat.le_refl _) hmid.1 (Nat.le_refl _)) hc
        refine w_ast (ws' := WS cI a hB k g rn gl (upd f (x0 + i + (j + t - y0)) (f (j + t))) sp fF fL) X hP hD hS 4 rfl (by omega) (by decide) rfl d_S_mergeUp_276 ?_
        clear hP hD hS; intro H locs hP hD hS
        refine w_inc (k := 8) (lv' := [(8, .int (nI (x0 + i + (j + t - y0) + 1))), (6, .int (nI (j + t + 1))), (0, .ref (a 10)), (1, .int (nI x0)), (2, .int (nI n1)), (3, .int (nI y0)), (4, .int (nI n2)), (5, .int (nI i)), (7, .int (nI (y0 + n2))), (10, .int lf), (11, .int (nI 1)), (12, .int (nI q)), (13, .int (nI t))]) hx hb d_S_mergeUp_277 hl rfl (by decide) rfl ?_
        clear hl; intro ls hl
        refine w_inc (k := 12) (lv' := [(13, .int (nI (t + 1))), (8, .int (nI (x0 + i + (j + t - y0) + 1))), (6, .int (nI (j + t + 1))), (0, .ref (a 10)), (1, .int (nI x0)), (2, .int (nI n1)), (3, .int (nI y0)), (4, .int (nI n2)), (5, .int (nI i)), (7, .int (nI (y0 + n2))), (10, .int lf), (11, .int (nI 1)), (12, .int (nI q))]) hx hb d_S_mergeUp_280 hl rfl (by decide) rfl ?_
        clear hl; intro ls hl
        refine lv_goto (tgt := 235) hx hb d_S_mergeUp_283 (by decide) ?_
        refine ih (t + 1) _ H locs ls (by omega) (by omega) hM2 hP hD hS (by rw [show x0 + i + (j + (t + 1) - y0) = x0 + i + (j + t - y0) + 1 by omega]; exact (lv_sub hl [3, 4, 5, 6, 7, 8, 2, 9, 1, 10, 11, 12, 0] rfl))
set_option maxHeartbeats 4000000 in
theorem l_mugl {x0 n1 y0 n2 lo mid hi : Nat} {f0 : Nat → Int32} (X : Cx D cI cJ cO p s m c b_S_mergeUp 14 R_S) (hk : k < 4) (hR : 3 ≤ R.frames ∧ 220 ≤ R.locals) (hf : cells ≤ R.cells ∧ slots ≤ R.slots) (hxy : x0 + n1 = y0) (hyn : y0 + n2 ≤ 2000) (sl : Sg (Ky k g) f0 x0 y0) (sr : Sg (Ky k g) f0 y0 (y0 + n2)) (il : In f0 x0 y0 lo mid) (ir : In f0 y0 (y0 + n2) mid hi) (hmid : lo ≤ mid ∧ mid ≤ hi ∧ hi ≤ 2000) {gl lf : Int32} {sp : Nat → Int32} {i j q : Nat} (hj1 : j < y0 + n2) (hiq : i + q ≤ n1) (hjy : y0 ≤ j) (hall : ∀ t, i ≤ t → t < i + q → LT (Ky k g) (sp t) (f0 j)) (kk : ∀ (f : Nat → Int32) (H : Heap) (locs : List Loc) (ls : Array Slot), MU (Ky k g) f0 f sp x0 n1 y0 n2 lo hi (i + q) j → va_P D vCL (WS cI a hB k g rn gl f sp fF fL) H → va_D A (WS cI a hB k g rn gl f sp fF fL) → va_S A H0 H locs → lv_has ls 14 [(0, .ref (a 10)), (1, .int (nI x0)), (2, .int (nI n1)), (3, .int (nI y0)), (4, .int (nI n2)), (5, .int (nI (i + q))), (6, .int (nI j)), (7, .int (nI (y0 + n2))), (8, .int (nI (x0 + (i + q) + (j - y0)))), (10, .int lf), (12, .int (nI q))] → W p l e R s m args below meth c H locs cells slots Q (F0 m 286 ls [])) : ∀ (fuel t : Nat) (f : Nat → Int32) (H : Heap) (locs : List Loc) (ls : Array Slot), q - t < fuel → t ≤ q → MU (Ky k g) f0 f sp x0 n1 y0 n2 lo hi (i + t) j → va_P D vCL (WS cI a hB k g rn gl f sp fF fL) H → va_D A (WS cI a hB k g rn gl f sp fF fL) → va_S A H0 H locs → lv_has ls 14 [(0, .ref (a 10)), (1, .int (nI x0)), (2, .int (nI n1)), (3, .int (nI y0)), (4, .int (nI n2)), (5, .int (nI (i + t))), (6, .int (nI j)), (7, .int (nI (y0 + n2))), (8, .int (nI (x0 + (i + t) + (j - y0)))), (10, .int lf), (11, .int (nI 0)), (12, .int (nI q)), (13, .int (nI t))] → W p l e R s m args below meth c H locs cells slots Q (F0 m 235 ls []) := by
  have hx := X.x
  have hb := X.b
  intro fuel
  induction fuel with
  | zero => intro t f H locs ls h; omega
  | succ fuel ih =>
    intro t f H locs ls hfu ht hM hP hD hS hl
    refine lv_iload hx hb d_S_mergeUp_235 (lv_at hl 12 rfl) ?_
    refine lv_iload hx hb d_S_mergeUp_237 (lv_at hl 11 rfl) ?_
    refine w_icmp_ge (tgt := 286) hx hb d_S_mergeUp_239 (by decide) ⟨by omega, by omega⟩ (fun h1 => ?_) (fun h1 => ?_)
    · have e : t = q := by omega
      subst e
      exact kk f H locs ls hM hP hD hS (lv_sub hl [0, 1, 2, 3, 4, 5, 6, 7, 8, 9, 11] rfl)
    · refine lv_aload_n hx hb d_S_mergeUp_242 rfl (lv_at hl 0 rfl) ?_
      refine g_S_cells X hP 3 rfl rfl d_S_mergeUp_243 ?_
      refine lv_iload hx hb d_S_mergeUp_246 (lv_at hl 8 rfl) ?_
      refine lv_iload hx hb d_S_mergeUp_248 (lv_at hl 10 rfl) ?_
      refine w_if_eq (tgt := 266) hx hb d_S_mergeUp_250 (by decide) (by omega) (fun h2 => ?_) (fun h2 => ?_)
      · refine lv_aload_n hx hb d_S_mergeUp_266 rfl (lv_at hl 0 rfl) ?_
        refine g_S_spare X hP 3 rfl rfl d_S_mergeUp_267 ?_
        refine lv_iload hx hb d_S_mergeUp_270 (lv_at hl 5 rfl) ?_
        refine w_inc (k := 5) (lv' := [(5, .int (nI (i + t + 1))), (0, .ref (a 10)), (1, .int (nI x0)), (2, .int (nI n1)), (3, .int (nI y0)), (4, .int (nI n2)), (6, .int (nI j)), (7, .int (nI (y0 + n2))), (8, .int (nI (x0 + (i + t) + (j - y0)))), (10, .int lf), (11, .int (nI 0)), (12, .int (nI q)), (13, .int (nI t))]) hx hb d_S_mergeUp_272 hl rfl (by decide) rfl ?_
        clear hl; intro ls hl
        refine w_ald X hP 2 rfl (by omega) (by decide) d_S_mergeUp_275 ?_
        have hc : j < y0 + n2 → LT (Ky k g) (sp (i + t)) (f j) := fun _ => by rw [hM.2.2.2.2.1 j (Nat.le_refl _) hj1]; exact hall (i + t) (by omega) (by omega)
        have hM2 := hM.takeL hxy (by omega) sl sr (il.part (Nat.le_refl _) (Nat.le_refl _) (Nat.le_refl _) hmid.2.1) hc
        refine w_ast (ws' := WS cI a hB k g rn gl (upd f (x0 + (i + t) + (j - y0)) (sp (i + t))) sp fF fL) X hP hD hS 4 rfl (by omega) (by decide) rfl d_S_mergeUp_276 ?_
        clear hP hD hS; intro H locs hP hD hS
        refine w_inc (k := 8) (lv' := [(8, .int (nI (x0 + (i + t) + (j - y0) + 1))), (5, .int (nI (i + t + 1))), (0, .ref (a 10)), (1, .int (nI x0)), (2, .int (nI n1)), (3, .int (nI y0)), (4, .int (nI n2)), (6, .int (nI j)), (7, .int (nI (y0 + n2))), (10, .int lf), (11, .int (nI 0)), (12, .int (nI q)), (13, .int (nI t))]) hx hb d_S_mergeUp_277 hl rfl (by decide) rfl ?_
        clear hl; intro ls hl
        refine w_inc (k := 12) (lv' := [(13, .int (nI (t + 1))), (8, .int (nI (x0 + (i + t) + (j - y0) + 1))), (5, .int (nI (i + t + 1))), (0, .ref (a 10)), (1, .int (nI x0)), (2, .int (nI n1)), (3, .int (nI y0)), (4, .int (nI n2)), (6, .int (nI j)), (7, .int (nI (y0 + n2))), (10, .int lf), (11, .int (nI 0)), (12, .int (nI q))]) hx hb d_S_mergeUp_280 hl rfl (by decide) rfl ?_
        clear hl; intro ls hl
        refine lv_goto (tgt := 235) hx hb d_S_mergeUp_283 (by decide) ?_
        refine ih (t + 1) _ H locs ls (by omega) (by omega) hM2 hP hD hS (by rw [show x0 + (i + (t + 1)) + (j - y0) = x0 + (i + t) + (j - y0) + 1 by omega]; exact (lv_sub hl [3, 4, 5, 6, 7, 2, 8, 9, 1, 10, 11, 12, 0] rfl))
      · exact absurd rfl h2
set_option maxHeartbeats 8000000 in
set_option maxRecDepth 100000 in
theorem l_mu1 {x0 n1 y0 n2 lo mid hi : Nat} {f0 : Nat → Int32} (X : Cx D cI cJ cO p s m c b_S_mergeUp 14 R_S) (hk : k < 4) (hR : 3 ≤ R.frames ∧ 220 ≤ R.locals) (hf : cells ≤ R.cells ∧ slots ≤ R.slots) (hxy : x0 + n1 = y0) (hyn : y0 + n2 ≤ 2000) (sl : Sg (Ky k g) f0 x0 y0) (sr : Sg (Ky k g) f0 y0 (y0 + n2)) (il : In f0 x0 y0 lo mid) (ir : In f0 y0 (y0 + n2) mid hi) (hmid : lo ≤ mid ∧ mid ≤ hi ∧ hi ≤ 2000) {sp : Nat → Int32} (kk : ∀ (i j : Nat) (gl : Int32) (f : Nat → Int32) (H : Heap) (locs : List Loc) (ls : Array Slot), (i < n1 → j = y0 + n2) → MU (Ky k g) f0 f sp x0 n1 y0 n2 lo hi i j → va_P D vCL (WS cI a hB k g rn gl f sp fF fL) H → va_D A (WS cI a hB k g rn gl f sp fF fL) → va_S A H0 H locs → lv_has ls 14 [(0, .ref (a 10)), (1, .int (nI x0)), (2, .int (nI n1)), (3, .int (nI y0)), (4, .int (nI n2)), (5, .int (nI i)), (8, .int (nI (x0 + i + (j - y0))))] → W p l e R s m args below meth c H locs cells slots Q (F0 m 330 ls [])) : ∀ (fuel i j : Nat) (wn lf gl : Int32) (f : Nat → Int32) (H : Heap) (locs : List Loc) (ls : Array Slot), (n1 - i) + (y0 + n2 - j) < fuel → MU (Ky k g) f0 f sp x0 n1 y0 n2 lo hi i j → va_P D vCL (WS cI a hB k g rn gl f sp fF fL) H → va_D A (WS cI a hB k g rn gl f sp fF fL) → va_S A H0 H locs → lv_has ls 14 [(0, .ref (a 10)), (1, .int (nI x0)), (2, .int (nI n1)), (3, .int (nI y0)), (4, .int (nI n2)), (5, .int (nI i)), (6, .int (nI j)), (7, .int (nI (y0 + n2))), (8, .int (nI (x0 + i + (j - y0)))), (9, .int wn), (10, .int lf)] → W p l e R s m args below meth c H locs cells slots Q (F0 m 52 ls []) := by
  have hx := X.x
  have hb := X.b
  have hR2 : 2 ≤ R.frames ∧ 180 ≤ R.locals := by omega
  intro fuel
  induction fuel with
  | zero => intro i j wn lf gl f H locs ls h; omega
  | succ fuel ih =>
    intro i j wn lf gl f H locs ls hfu hM hP hD hS hl
    have hb1 := hM.1
    have hb2 := hM.2.1
    have hb3 := hM.2.2.1
    refine lv_iload hx hb d_S_mergeUp_52 (lv_at hl 5 rfl) ?_
    refine lv_iload_n hx hb d_S_mergeUp_54 rfl (lv_at hl 2 rfl) ?_
    refine w_icmp_ge (tgt := 330) hx hb d_S_mergeUp_55 (by decide) ⟨by omega, by omega⟩ (fun h1 => ?_) (fun h1 => ?_)
    · exact kk i j gl f H locs ls (fun q => by omega) hM hP hD hS (lv_sub hl [0, 1, 2, 3, 4, 5, 8] rfl)
    · refine lv_iload hx hb d_S_mergeUp_58 (lv_at hl 6 rfl) ?_
      refine lv_iload hx hb d_S_mergeUp_60 (lv_at hl 7 rfl) ?_
      refine w_icmp_ge (tgt := 330) hx hb d_S_mergeUp_62 (by decide) ⟨by omega, by omega⟩ (fun h2 => ?_) (fun h2 => ?_)
      · exact kk i j gl f H locs ls (fun q => by omega) hM hP hD hS (lv_sub hl [0, 1, 2, 3, 4, 5, 8] rfl)
      · refine lv_aload_n hx hb d_S_mergeUp_65 rfl (lv_at hl 0 rfl) ?_
        refine g_S_order X hP 3 rfl rfl d_S_mergeUp_66 ?_
        refine lv_aload_n hx hb d_S_mergeUp_69 rfl (lv_at hl 0 rfl) ?_
        refine g_S_cells X hP 3 rfl rfl d_S_mergeUp_70 ?_
        refine lv_iload hx hb d_S_mergeUp_73 (lv_at hl 6 rfl) ?_
        refine w_ald X hP 4 rfl (by omega) (by decide) d_S_mergeUp_75 ?_
        refine lv_aload_n hx hb d_S_mergeUp_76 rfl (lv_at hl 0 rfl) ?_
        refine g_S_spare X hP 3 rfl rfl d_S_mergeUp_77 ?_
        refine lv_iload hx hb d_S_mergeUp_80 (lv_at hl 5 rfl) ?_
        refine w_ald X hP 2 rfl (by omega) (by decide) d_S_mergeUp_82 ?_
        refine cS_cmp X hk hP hR2 hf hl.1 (hM.vdF ir hmid.2.2 (Nat.le_refl _) h2) (hM.vdS il hxy (by omega) h1) (by decide) d_S_mergeUp_83 (fun rr hrr => ?_)
        refine lv_if_ge (tgt := 95) hx hb d_S_mergeUp_88 (by decide) (fun h3 => ?_) (fun h3 => ?_)
        · refine lv_iconst (v := nI 0) hx hb d_S_mergeUp_95 (by decide) ?_
          refine lv_istore (lv' := [(11, .int (nI 0)), (0, .ref (a 10)), (1, .int (nI x0)), (2, .int (nI n1)), (3, .int (nI y0)), (4, .int (nI n2)), (5, .int (nI i)), (6, .int (nI j)), (7, .int (nI (y0 + n2))), (8, .int (nI (x0 + i + (j - y0)))), (9, .int wn), (10, .int lf)]) hx hb d_S_mergeUp_96 hl (by decide) rfl ?_
          clear hl; intro ls hl
          refine lv_aload_n hx hb d_S_mergeUp_98 rfl (lv_at hl 1 rfl) ?_
          refine g_S_cells X hP 3 rfl rfl d_S_mergeUp_99 ?_
          refine lv_iload hx hb d_S_mergeUp_102 (lv_at hl 9 rfl) ?_
          refine lv_iload hx hb d_S_mergeUp_104 (lv_at hl 0 rfl) ?_
          refine w_if_eq (tgt := 122) hx hb d_S_mergeUp_106 (by decide) (by omega) (fun h4 => ?_) (fun h4 => ?_)
          · refine lv_aload_n hx hb d_S_mergeUp_122 rfl (lv_at hl 1 rfl) ?_
            refine g_S_spare X hP 3 rfl rfl d_S_mergeUp_123 ?_
            refine lv_iload hx hb d_S_mergeUp_126 (lv_at hl 6 rfl) ?_
            refine w_inc (k := 6) (lv' := [(5, .int (nI (i + 1))), (11, .int (nI 0)), (0, .ref (a 10)), (1, .int (nI x0)), (2, .int (nI n1)), (3, .int (nI y0)), (4, .int (nI n2)), (6, .int (nI j)), (7, .int (nI (y0 + n2))), (8, .int (nI (x0 + i + (j - y0)))), (9, .int wn), (10, .int lf)]) hx hb d_S_mergeUp_128 hl rfl (by decide) rfl ?_
            clear hl; intro ls hl
            refine w_ald X hP 2 rfl (by omega) (by decide) d_S_mergeUp_131 ?_
            have hM2 := hM.takeL hxy h1 sl sr (il.part (Nat.le_refl _) (Nat.le_refl _) (Nat.le_refl _) hmid.2.1) (fun _ => hM.cmpL il ir hxy hmid.2.2 h1 h2 (hrr.ge.mp h3))
            refine w_ast (ws' := WS cI a hB k g rn gl (upd f (x0 + i + (j - y0)) (sp i)) sp fF fL) X hP hD hS 4 rfl (by omega) (by decide) rfl d_S_mergeUp_132 ?_
            clear hP hD hS; intro H locs hP hD hS
            refine w_inc (k := 9) (lv' := [(8, .int (nI (x0 + i + (j - y0) + 1))), (5, .int (nI (i + 1))), (11, .int (nI 0)), (0, .ref (a 10)), (1, .int (nI x0)), (2, .int (nI n1)), (3, .int (nI y0)), (4, .int (nI n2)), (6, .int (nI j)), (7, .int (nI (y0 + n2))), (9, .int wn), (10, .int lf)]) hx hb d_S_mergeUp_133 hl rfl (by decide) rfl ?_
            clear hl; intro ls hl
            refine lv_iload hx hb d_S_mergeUp_136 (lv_at hl 2 rfl) ?_
            refine lv_iload hx hb d_S_mergeUp_138 (lv_at hl 11 rfl) ?_
            refine lv_icmp_eq (tgt := 150) hx hb d_S_mergeUp_140 (by decide) (fun h5 => ?_) (fun h5 => ?_)
            · refine lv_iconst (v := nI 1) hx hb d_S_mergeUp_150 (by decide) ?_
              refine lv_istore (lv' := [(9, .int (nI 1)), (8, .int (nI (x0 + i + (j - y0) + 1))), (5, .int (nI (i + 1))), (11, .int (nI 0)), (0, .ref (a 10)), (1, .int (nI x0)), (2, .int (nI n1)), (3, .int (nI y0)), (4, .int (nI n2)), (6, .int (nI j)), (7, .int (nI (y0 + n2))), (10, .int lf)]) hx hb d_S_mergeUp_151 hl (by decide) rfl ?_
              clear hl; intro ls hl
              refine lv_iload hx hb d_S_mergeUp_153 (lv_at hl 3 rfl) ?_
              refine w_if_ne (tgt := 162) hx hb d_S_mergeUp_155 (by decide) (by omega) (fun h6 => ?_) (fun h6 => ?_)
              · exact absurd rfl h6
              · refine lv_iconst (v := nI 1) hx hb d_S_mergeUp_158 (by decide) ?_
                refine lv_goto (tgt := 163) hx hb d_S_mergeUp_159 (by decide) ?_
                refine lv_istore (lv' := [(10, .int (nI 1)), (9, .int (nI 1)), (8, .int (nI (x0 + i + (j - y0) + 1))), (5, .int (nI (i + 1))), (11, .int (nI 0)), (0, .ref (a 10)), (1, .int (nI x0)), (2, .int (nI n1)), (3, .int (nI y0)), (4, .int (nI n2)), (6, .int (nI j)), (7, .int (nI (y0 + n2)))]) hx hb d_S_mergeUp_163 hl (by decide) rfl ?_
                clear hl; intro ls hl
                refine lv_iload hx hb d_S_mergeUp_165 (lv_at hl 1 rfl) ?_
                refine lv_aload_n hx hb d_S_mergeUp_167 rfl (lv_at hl 5 rfl) ?_
                refine g_S_gallop X hP 3 rfl rfl d_S_mergeUp_168 ?_
                refine lv_icmp_lt (tgt := 52) hx hb d_S_mergeUp_171 (by decide) (fun h7 => ?_) (fun h7 => ?_)
                · exact ih (i + 1) (j) _ _ _ _ H locs ls (by omega) hM2 hP hD hS (by rw [show x0 + (i + 1) + (j - y0) = x0 + i + (j - y0) + 1 by omega]; exact (lv_sub hl [5, 6, 7, 8, 9, 3, 10, 11, 2, 1, 0] rfl))
                · refine lv_iload hx hb d_S_mergeUp_174 (lv_at hl 3 rfl) ?_
                  refine lv_iload_n hx hb d_S_mergeUp_176 rfl (lv_at hl 7 rfl) ?_
                  refine w_icmp_eq (tgt := 52) hx hb d_S_mergeUp_177 (by decide) ⟨by omega, by omega⟩ (fun h8 => ?_) (fun h8 => ?_)
                  · exact ih (i + 1) (j) _ _ _ _ H locs ls (by omega) hM2 hP hD hS (by rw [show x0 + (i + 1) + (j - y0) = x0 + i + (j - y0) + 1 by omega]; exact (lv_sub hl [5, 6, 7, 8, 9, 3, 10, 11, 2, 1, 0] rfl))
                  · refine lv_iload hx hb d_S_mergeUp_180 (lv_at hl 10 rfl) ?_
                    refine lv_iload hx hb d_S_mergeUp_182 (lv_at hl 11 rfl) ?_
                    refine w_icmp_ne (tgt := 190) hx hb d_S_mergeUp_184 (by decide) ⟨by omega, by omega⟩ (fun h9 => ?_) (fun h9 => ?_)
                    · refine lv_iload hx hb d_S_mergeUp_190 (lv_at hl 4 rfl) ?_
                      refine w_if_eq (tgt := 216) hx hb d_S_mergeUp_192 (by decide) (by omega) (fun h10 => ?_) (fun h10 => ?_)
                      · refine lv_aload_n hx hb d_S_mergeUp_216 rfl (lv_at hl 5 rfl) ?_
                        refine lv_aload_n hx hb d_S_mergeUp_217 rfl (lv_at hl 5 rfl) ?_
                        refine g_S_cells X hP 3 rfl rfl d_S_mergeUp_218 ?_
                        refine lv_iload hx hb d_S_mergeUp_221 (lv_at hl 10 rfl) ?_
                        refine w_ald X hP 4 rfl (by omega) (by decide) d_S_mergeUp_223 ?_
                        refine lv_iload hx hb d_S_mergeUp_224 (lv_at hl 3 rfl) ?_
                        refine lv_iload_n hx hb d_S_mergeUp_226 rfl (lv_at hl 7 rfl) ?_
                        refine rd_V (C := R_S) X (c_S_waiting l D cI cJ cO a hB k g rn gl (upd f (x0 + i + (j - y0)) (sp i)) sp fF fL _ _ _ hk (hM2.vdF ir hmid.2.2 (Nat.le_refl _) h2) (by omega) (by omega) (fun t t1 t2 => by obtain ⟨z, z1, z2, z3⟩ := il (x0 + t) (by omega) (by omega); exact ⟨z, Nat.zero_le _, by omega, (hM2.2.2.2.1 t t2).trans z3⟩) (fun t1 t2 z1 z2 z3 => hM2.moS sl hxy z2 z3)) (cx_B X _ wk_S_73 wi_S_waiting wc_S_waiting wd_S_waiting ⟨by omega, by omega⟩) wm_S_waiting wl_S_waiting hP (rcv X hP (ci := 1) (q0 := 3) rfl rfl) rfl hl.1 rfl (Nat.le_of_ble_eq_true rfl) d_S_mergeUp_227 hf (fun rr hrr => ?_)
                        obtain ⟨q, rfl, hq1, hq2, hq3⟩ := hrr
                        refine lv_istore (lv' := [(12, .int (nI q)), (10, .int (nI 1)), (9, .int (nI 1)), (8, .int (nI (x0 + i + (j - y0) + 1))), (5, .int (nI (i + 1))), (11, .int (nI 0)), (0, .ref (a 10)), (1, .int (nI x0)), (2, .int (nI n1)), (3, .int (nI y0)), (4, .int (nI n2)), (6, .int (nI j)), (7, .int (nI (y0 + n2)))]) hx hb d_S_mergeUp_230 hl (by decide) rfl ?_
                        clear hl; intro ls hl
                        refine lv_iconst (v := nI 0) hx hb d_S_mergeUp_232 (by decide) ?_
                        refine lv_istore (lv' := [(13, .int (nI 0)), (12, .int (nI q)), (10, .int (nI 1)), (9, .int (nI 1)), (8, .int (nI (x0 + i + (j - y0) + 1))), (5, .int (nI (i + 1))), (11, .int (nI 0)), (0, .ref (a 10)), (1, .int (nI x0)), (2, .int (nI n1)), (3, .int (nI y0)), (4, .int (nI n2)), (6, .int (nI j)), (7, .int (nI (y0 + n2)))]) hx hb d_S_mergeUp_233 hl (by decide) rfl ?_
                        clear hl; intro ls hl
                        refine l_mugl X hk hR hf hxy hyn sl sr il ir hmid (i := i + 1) (j := j) (q := q) h2 hq1 hb2 (fun t t1 t2 => by rw [← hM2.2.2.2.2.1 j (Nat.le_refl _) h2]; obtain ⟨z, z1, z2, z3⟩ := il (x0 + t) (by omega) (by omega); obtain ⟨y, y1, y2, y3⟩ := ir j hb2 h2; exact lt_lo ((hM2.2.2.2.1 t (by omega)).trans z3) ((hM2.2.2.2.2.1 j (Nat.le_refl _) h2).trans y3) (by omega) (by omega) (hq2 t t1 t2)) ?_ (q + 1) 0 _ H locs ls (by omega) (by omega) hM2 hP hD hS (by rw [show x0 + (i + 1 + 0) + (j - y0) = x0 + i + (j - y0) + 1 by omega]; exact (lv_sub hl [7, 8, 9, 10, 11, 5, 12, 13, 4, 2, 6, 1, 0] rfl))
                        clear hP hD hS hl ls locs H; intro f3 H locs ls hM3 hP hD hS hl
                        refine lv_aload_n hx hb d_S_mergeUp_286 rfl (lv_at hl 0 rfl) ?_
                        refine lv_iload hx hb d_S_mergeUp_287 (lv_at hl 10 rfl) ?_
                        refine lv_bipush (v := nI 7) hx hb d_S_mergeUp_289 (by decide) ?_
                        refine w_icmp_lt (tgt := 315) hx hb d_S_mergeUp_291 (by decide) ⟨by omega, by omega⟩ (fun h11 => ?_) (fun h11 => ?_)
                        · refine lv_aload_n hx hb d_S_mergeUp_315 rfl (lv_at hl 0 rfl) ?_
                          refine g_S_gallop X hP 3 rfl rfl d_S_mergeUp_316 ?_
                          refine lv_iconst (v := nI 2) hx hb d_S_mergeUp_319 (by decide) ?_
                          refine lv_iadd hx hb d_S_mergeUp_320 ?_
                          refine p_S_gallop (ws' := WS cI a hB k g rn (gl + (nI 2)) f3 sp fF fL) X hP hD hS 3 rfl (Nat.le_of_ble_eq_true rfl) rfl d_S_mergeUp_321 ?_
                          clear hP hD hS; intro H locs hP hD hS
                          refine lv_iconst (v := nI 0) hx hb d_S_mergeUp_324 (by decide) ?_
                          refine lv_istore (lv' := [(9, .int (nI 0)), (0, .ref (a 10)), (1, .int (nI x0)), (2, .int (nI n1)), (3, .int (nI y0)), (4, .int (nI n2)), (5, .int (nI (i + 1 + q))), (6, .int (nI j)), (7, .int (nI (y0 + n2))), (8, .int (nI (x0 + (i + 1 + q) + (j - y0)))), (10, .int (nI 1)), (12, .int (nI q))]) hx hb d_S_mergeUp_325 hl (by decide) rfl ?_
                          clear hl; intro ls hl
                          refine lv_goto (tgt := 52) hx hb d_S_mergeUp_327 (by decide) ?_
                          exact ih _ _ _ _ _ _ H locs ls (by omega) hM3 hP hD hS (lv_sub hl [1, 2, 3, 4, 5, 6, 7, 8, 9, 0, 10] rfl)
                        · refine lv_aload_n hx hb d_S_mergeUp_294 rfl (lv_at hl 0 rfl) ?_
                          refine g_S_gallop X hP 3 rfl rfl d_S_mergeUp_295 ?_
                          refine lv_iconst (v := nI 1) hx hb d_S_mergeUp_298 (by decide) ?_
                          refine lv_icmp_le (tgt := 311) hx hb d_S_mergeUp_299 (by decide) (fun h12 => ?_) (fun h12 => ?_)
                          · refine lv_iconst (v := nI 1) hx hb d_S_mergeUp_311 (by decide) ?_
                            refine lv_goto (tgt := 321) hx hb d_S_mergeUp_312 (by decide) ?_
                            refine p_S_gallop (ws' := WS cI a hB k g rn (nI 1) f3 sp fF fL) X hP hD hS 3 rfl (Nat.le_of_ble_eq_true rfl) rfl d_S_mergeUp_321 ?_
                            clear hP hD hS; intro H locs hP hD hS
                            refine lv_iconst (v := nI 0) hx hb d_S_mergeUp_324 (by decide) ?_
                            refine lv_istore (lv' := [(9, .int (nI 0)), (0, .ref (a 10)), (1, .int (nI x0)), (2, .int (nI n1)), (3, .int (nI y0)), (4, .int (nI n2)), (5, .int (nI (i + 1 + q))), (6, .int (nI j)), (7, .int (nI (y0 + n2))), (8, .int (nI (x0 + (i + 1 + q) + (j - y0)))), (10, .int (nI 1)), (12, .int (nI q))]) hx hb d_S_mergeUp_325 hl (by decide) rfl ?_
                            clear hl; intro ls hl
                            refine lv_goto (tgt := 52) hx hb d_S_mergeUp_327 (by decide) ?_
                            exact ih _ _ _ _ _ _ H locs ls (by omega) hM3 hP hD hS (lv_sub hl [1, 2, 3, 4, 5, 6, 7, 8, 9, 0, 10] rfl)
                          · refine lv_aload_n hx hb d_S_mergeUp_302 rfl (lv_at hl 0 rfl) ?_
                            refine g_S_gallop X hP 3 rfl rfl d_S_mergeUp_303 ?_
                            refine lv_iconst (v := nI 1) hx hb d_S_mergeUp_306 (by decide) ?_
                            refine lv_isub hx hb d_S_mergeUp_307 ?_
                            refine lv_goto (tgt := 321) hx hb d_S_mergeUp_308 (by decide) ?_
                            refine p_S_gallop (ws' := WS cI a hB k g rn (gl - (nI 1)) f3 sp fF fL) X hP hD hS 3 rfl (Nat.le_of_ble_eq_true rfl) rfl d_S_mergeUp_321 ?_
                            clear hP hD hS; intro H locs hP hD hS
                            refine lv_iconst (v := nI 0) hx hb d_S_mergeUp_324 (by decide) ?_
                            refine lv_istore (lv' := [(9, .int (nI 0)), (0, .ref (a 10)), (1, .int (nI x0)), (2, .int (nI n1)), (3, .int (nI y0)), (4, .int (nI n2)), (5, .int (nI (i + 1 + q))), (6, .int (nI j)), (7, .int (nI (y0 + n2))), (8, .int (nI (x0 + (i + 1 + q) + (j - y0)))), (10, .int (nI 1)), (12, .int (nI q))]) hx hb d_S_mergeUp_325 hl (by decide) rfl ?_
                            clear hl; intro ls hl
                            refine lv_goto (tgt := 52) hx hb d_S_mergeUp_327 (by decide) ?_
                            exact ih _ _ _ _ _ _ H locs ls (by omega) hM3 hP hD hS (lv_sub hl [1, 2, 3, 4, 5, 6, 7, 8, 9, 0, 10] rfl)
                      · exact absurd rfl h10
                    · refine lv_goto (tgt := 52) hx hb d_S_mergeUp_187 (by decide) ?_
                      exact ih (i + 1) (j) _ _ _ _ H locs ls (by omega) hM2 hP hD hS (by rw [show x0 + (i + 1) + (j - y0) = x0 + i + (j - y0) + 1 by omega]; exact (lv_sub hl [5, 6, 7, 8, 9, 3, 10, 11, 2, 1, 0] rfl))
            · refine lv_iload hx hb d_S_mergeUp_143 (lv_at hl 10 rfl) ?_
              refine lv_iconst (v := nI 1) hx hb d_S_mergeUp_145 (by decide) ?_
              refine lv_iadd hx hb d_S_mergeUp_146 ?_
              refine lv_goto (tgt := 151) hx hb d_S_mergeUp_147 (by decide) ?_
              refine lv_istore (lv' := [(9, .int (wn + (nI 1))), (8, .int (nI (x0 + i + (j - y0) + 1))), (5, .int (nI (i + 1))), (11, .int (nI 0)), (0, .ref (a 10)), (1, .int (nI x0)), (2, .int (nI n1)), (3, .int (nI y0)), (4, .int (nI n2)), (6, .int (nI j)), (7, .int (nI (y0 + n2))), (10, .int lf)]) hx hb d_S_mergeUp_151 hl (by decide) rfl ?_
              clear hl; intro ls hl
              refine lv_iload hx hb d_S_mergeUp_153 (lv_at hl 3 rfl) ?_
              refine w_if_ne (tgt := 162) hx hb d_S_mergeUp_155 (by decide) (by omega) (fun h6 => ?_) (fun h6 => ?_)
              · exact absurd rfl h6
              · refine lv_iconst (v := nI 1) hx hb d_S_mergeUp_158 (by decide) ?_
                refine lv_goto (tgt := 163) hx hb d_S_mergeUp_159 (by decide) ?_
                refine lv_istore (lv' := [(10, .int (nI 1)), (9, .int (wn + (nI 1))), (8, .int (nI (x0 + i + (j - y0) + 1))), (5, .int (nI (i + 1))), (11, .int (nI 0)), (0, .ref (a 10)), (1, .int (nI x0)), (2, .int (nI n1)), (3, .int (nI y0)), (4, .int (nI n2)), (6, .int (nI j)), (7, .int (nI (y0 + n2)))]) hx hb d_S_mergeUp_163 hl (by decide) rfl ?_
                clear hl; intro ls hl
                refine lv_iload hx hb d_S_mergeUp_165 (lv_at hl 1 rfl) ?_
                refine lv_aload_n hx hb d_S_mergeUp_167 rfl (lv_at hl 5 rfl) ?_
                refine g_S_gallop X hP 3 rfl rfl d_S_mergeUp_168 ?_
                refine lv_icmp_lt (tgt := 52) hx hb d_S_mergeUp_171 (by decide) (fun h7 => ?_) (fun h7 => ?_)
                · exact ih (i + 1) (j) _ _ _ _ H locs ls (by omega) hM2 hP hD hS (by rw [show x0 + (i + 1) + (j - y0) = x0 + i + (j - y0) + 1 by omega]; exact (lv_sub hl [5, 6, 7, 8, 9, 3, 10, 11, 2, 1, 0] rfl))
                · refine lv_iload hx hb d_S_mergeUp_174 (lv_at hl 3 rfl) ?_
                  refine lv_iload_n hx hb d_S_mergeUp_176 rfl (lv_at hl 7 rfl) ?_
                  refine w_icmp_eq (tgt := 52) hx hb d_S_mergeUp_177 (by decide) ⟨by omega, by omega⟩ (fun h8 => ?_) (fun h8 => ?_)
                  · exact ih (i + 1) (j) _ _ _ _ H locs ls (by omega) hM2 hP hD hS (by rw [show x0 + (i + 1) + (j - y0) = x0 + i + (j - y0) + 1 by omega]; exact (lv_sub hl [5, 6, 7, 8, 9, 3, 10, 11, 2, 1, 0] rfl))
                  · refine lv_iload hx hb d_S_mergeUp_180 (lv_at hl 10 rfl) ?_
                    refine lv_iload hx hb d_S_mergeUp_182 (lv_at hl 11 rfl) ?_
                    refine w_icmp_ne (tgt := 190) hx hb d_S_mergeUp_184 (by decide) ⟨by omega, by omega⟩ (fun h9 => ?_) (fun h9 => ?_)
                    · refine lv_iload hx hb d_S_mergeUp_190 (lv_at hl 4 rfl) ?_
                      refine w_if_eq (tgt := 216) hx hb d_S_mergeUp_192 (by decide) (by omega) (fun h10 => ?_) (fun h10 => ?_)
                      · refine lv_aload_n hx hb d_S_mergeUp_216 rfl (lv_at hl 5 rfl) ?_
                        refine lv_aload_n hx hb d_S_mergeUp_217 rfl (lv_at hl 5 rfl) ?_
                        refine g_S_cells X hP 3 rfl rfl d_S_mergeUp_218 ?_
                        refine lv_iload hx hb d_S_mergeUp_221 (lv_at hl 10 rfl) ?_
                        refine w_ald X hP 4 rfl (by omega) (by decide) d_S_mergeUp_223 ?_
                        refine lv_iload hx hb d_S_mergeUp_224 (lv_at hl 3 rfl) ?_
                        refine lv_iload_n hx hb d_S_mergeUp_226 rfl (lv_at hl 7 rfl) ?_
                        refine rd_V (C := R_S) X (c_S_waiting l D cI cJ cO a hB k g rn gl (upd f (x0 + i + (j - y0)) (sp i)) sp fF fL _ _ _ hk (hM2.vdF ir hmid.2.2 (Nat.le_refl _) h2) (by omega) (by omega) (fun t t1 t2 => by obtain ⟨z, z1, z2, z3⟩ := il (x0 + t) (by omega) (by omega); exact ⟨z, Nat.zero_le _, by omega, (hM2.2.2.2.1 t t2).trans z3⟩) (fun t1 t2 z1 z2 z3 => hM2.moS sl hxy z2 z3)) (cx_B X _ wk_S_73 wi_S_waiting wc_S_waiting wd_S_waiting ⟨by omega, by omega⟩) wm_S_waiting wl_S_waiting hP (rcv X hP (ci := 1) (q0 := 3) rfl rfl) rfl hl.1 rfl (Nat.le_of_ble_eq_true rfl) d_S_mergeUp_227 hf (fun rr hrr => ?_)
                        obtain ⟨q, rfl, hq1, hq2, hq3⟩ := hrr
                        refine lv_istore (lv' := [(12, .int (nI q)), (10, .int (nI 1)), (9, .int (wn + (nI 1))), (8, .int (nI (x0 + i + (j - y0) + 1))), (5, .int (nI (i + 1))), (11, .int (nI 0)), (0, .ref (a 10)), (1, .int (nI x0)), (2, .int (nI n1)), (3, .int (nI y0)), (4, .int (nI n2)), (6, .int (nI j)), (7, .int (nI (y0 + n2)))]) hx hb d_S_mergeUp_230 hl (by decide) rfl ?_
                        clear hl; intro ls hl
                        refine lv_iconst (v := nI 0) hx hb d_S_mergeUp_232 (by decide) ?_
                        refine lv_istore (lv' := [(13, .int (nI 0)), (12, .int (nI q)), (10, .int (nI 1)), (9, .int (wn + (nI 1))), (8, .int (nI (x0 + i + (j - y0) + 1))), (5, .int (nI (i + 1))), (11, .int (nI 0)), (0, .ref (a 10)), (1, .int (nI x0)), (2, .int (nI n1)), (3, .int (nI y0)), (4, .int (nI n2)), (6, .int (nI j)), (7, .int (nI (y0 + n2)))]) hx hb d_S_mergeUp_233 hl (by decide) rfl ?_
                        clear hl; intro ls hl
                        refine l_mugl X hk hR hf hxy hyn sl sr il ir hmid (i := i + 1) (j := j) (q := q) h2 hq1 hb2 (fun t t1 t2 => by rw [← hM2.2.2.2.2.1 j (Nat.le_refl _) h2]; obtain ⟨z, z1, z2, z3⟩ := il (x0 + t) (by omega) (by omega); obtain ⟨y, y1, y2, y3⟩ := ir j hb2 h2; exact lt_lo ((hM2.2.2.2.1 t (by omega)).trans z3) ((hM2.2.2.2.2.1 j (Nat.le_refl _) h2).trans y3) (by omega) (by omega) (hq2 t t1 t2)) ?_ (q + 1) 0 _ H locs ls (by omega) (by omega) hM2 hP hD hS (by rw [show x0 + (i + 1 + 0) + (j - y0) = x0 + i + (j - y0) + 1 by omega]; exact (lv_sub hl [7, 8, 9, 10, 11, 5, 12, 13, 4, 2, 6, 1, 0] rfl))
                        clear hP hD hS hl ls locs H; intro f3 H locs ls hM3 hP hD hS hl
                        refine lv_aload_n hx hb d_S_mergeUp_286 rfl (lv_at hl 0 rfl) ?_
                        refine lv_iload hx hb d_S_mergeUp_287 (lv_at hl 10 rfl) ?_
                        refine lv_bipush (v := nI 7) hx hb d_S_mergeUp_289 (by decide) ?_
                        refine w_icmp_lt (tgt := 315) hx hb d_S_mergeUp_291 (by decide) ⟨by omega, by omega⟩ (fun h11 => ?_) (fun h11 => ?_)
                        · refine lv_aload_n hx hb d_S_mergeUp_315 rfl (lv_at hl 0 rfl) ?_
                          refine g_S_gallop X hP 3 rfl rfl d_S_mergeUp_316 ?_
                          refine lv_iconst (v := nI 2) hx hb d_S_mergeUp_319 (by decide) ?_
                          refine lv_iadd hx hb d_S_mergeUp_320 ?_
                          refine p_S_gallop (ws' := WS cI a hB k g rn (gl + (nI 2)) f3 sp fF fL) X hP hD hS 3 rfl (Nat.le_of_ble_eq_true rfl) rfl d_S_mergeUp_321 ?_
                          clear hP hD hS; intro H locs hP hD hS
                          refine lv_iconst (v := nI 0) hx hb d_S_mergeUp_324 (by decide) ?_
                          refine lv_istore (lv' := [(9, .int (nI 0)), (0, .ref (a 10)), (1, .int (nI x0)), (2, .int (nI n1)), (3, .int (nI y0)), (4, .int (nI n2)), (5, .int (nI (i + 1 + q))), (6, .int (nI j)), (7, .int (nI (y0 + n2))), (8, .int (nI (x0 + (i + 1 + q) + (j - y0)))), (10, .int (nI 1)), (12, .int (nI q))]) hx hb d_S_mergeUp_325 hl (by decide) rfl ?_
                          clear hl; intro ls hl
                          refine lv_goto (tgt := 52) hx hb d_S_mergeUp_327 (by decide) ?_
                          exact ih _ _ _ _ _ _ H locs ls (by omega) hM3 hP hD hS (lv_sub hl [1, 2, 3, 4, 5, 6, 7, 8, 9, 0, 10] rfl)
                        · refine lv_aload_n hx hb d_S_mergeUp_294 rfl (lv_at hl 0 rfl) ?_
                          refine g_S_gallop X hP 3 rfl rfl d_S_mergeUp_295 ?_
                          refine lv_iconst (v := nI 1) hx hb d_S_mergeUp_298 (by decide) ?_
                          refine lv_icmp_le (tgt := 311) hx hb d_S_mergeUp_299 (by decide) (fun h12 => ?_) (fun h12 => ?_)
                          · refine lv_iconst (v := nI 1) hx hb d_S_mergeUp_311 (by decide) ?_
                            refine lv_goto (tgt := 321) hx hb d_S_mergeUp_312 (by decide) ?_
                            refine p_S_gallop (ws' := WS cI a hB k g rn (nI 1) f3 sp fF fL) X hP hD hS 3 rfl (Nat.le_of_ble_eq_true rfl) rfl d_S_mergeUp_321 ?_
                            clear hP hD hS; intro H locs hP hD hS
                            refine lv_iconst (v := nI 0) hx hb d_S_mergeUp_324 (by decide) ?_
                            refine lv_istore (lv' := [(9, .int (nI 0)), (0, .ref (a 10)), (1, .int (nI x0)), (2, .int (nI n1)), (3, .int (nI y0)), (4, .int (nI n2)), (5, .int (nI (i + 1 + q))), (6, .int (nI j)), (7, .int (nI (y0 + n2))), (8, .int (nI (x0 + (i + 1 + q) + (j - y0)))), (10, .int (nI 1)), (12, .int (nI q))]) hx hb d_S_mergeUp_325 hl (by decide) rfl ?_
                            clear hl; intro ls hl
                            refine lv_goto (tgt := 52) hx hb d_S_mergeUp_327 (by decide) ?_
                            exact ih _ _ _ _ _ _ H locs ls (by omega) hM3 hP hD hS (lv_sub hl [1, 2, 3, 4, 5, 6, 7, 8, 9, 0, 10] rfl)
                          · refine lv_aload_n hx hb d_S_mergeUp_302 rfl (lv_at hl 0 rfl) ?_
                            refine g_S_gallop X hP 3 rfl rfl d_S_mergeUp_303 ?_
                            refine lv_iconst (v := nI 1) hx hb d_S_mergeUp_306 (by decide) ?_
                            refine lv_isub hx hb d_S_mergeUp_307 ?_
                            refine lv_goto (tgt := 321) hx hb d_S_mergeUp_308 (by decide) ?_
                            refine p_S_gallop (ws' := WS cI a hB k g rn (gl - (nI 1)) f3 sp fF fL) X hP hD hS 3 rfl (Nat.le_of_ble_eq_true rfl) rfl d_S_mergeUp_321 ?_
                            clear hP hD hS; intro H locs hP hD hS
                            refine lv_iconst (v := nI 0) hx hb d_S_mergeUp_324 (by decide) ?_
                            refine lv_istore (lv' := [(9, .int (nI 0)), (0, .ref (a 10)), (1, .int (nI x0)), (2, .int (nI n1)), (3, .int (nI y0)), (4, .int (nI n2)), (5, .int (nI (i + 1 + q))), (6, .int (nI j)), (7, .int (nI (y0 + n2))), (8, .int (nI (x0 + (i + 1 + q) + (j - y0)))), (10, .int (nI 1)), (12, .int (nI q))]) hx hb d_S_mergeUp_325 hl (by decide) rfl ?_
                            clear hl; intro ls hl
                            refine lv_goto (tgt := 52) hx hb d_S_mergeUp_327 (by decide) ?_
                            exact ih _ _ _ _ _ _ H locs ls (by omega) hM3 hP hD hS (lv_sub hl [1, 2, 3, 4, 5, 6, 7, 8, 9, 0, 10] rfl)
                      · exact absurd rfl h10
                    · refine lv_goto (tgt := 52) hx hb d_S_mergeUp_187 (by decide) ?_
                      exact ih (i + 1) (j) _ _ _ _ H locs ls (by omega) hM2 hP hD hS (by rw [show x0 + (i + 1) + (j - y0) = x0 + i + (j - y0) + 1 by omega]; exact (lv_sub hl [5, 6, 7, 8, 9, 3, 10, 11, 2, 1, 0] rfl))
          · exact absurd rfl h4
        · refine lv_iconst (v := nI 1) hx hb d_S_mergeUp_91 (by decide) ?_
          refine lv_goto (tgt := 96) hx hb d_S_mergeUp_92 (by decide) ?_
          refine lv_istore (lv' := [(11, .int (nI 1)), (0, .ref (a 10)), (1, .int (nI x0)), (2, .int (nI n1)), (3, .int (nI y0)), (4, .int (nI n2)), (5, .int (nI i)), (6, .int (nI j)), (7, .int (nI (y0 + n2))), (8, .int (nI (x0 + i + (j - y0)))), (9, .int wn), (10, .int lf)]) hx hb d_S_mergeUp_96 hl (by decide) rfl ?_
          clear hl; intro ls hl
          refine lv_aload_n hx hb d_S_mergeUp_98 rfl (lv_at hl 1 rfl) ?_
          refine g_S_cells X hP 3 rfl rfl d_S_mergeUp_99 ?_
          refine lv_iload hx hb d_S_mergeUp_102 (lv_at hl 9 rfl) ?_
          refine lv_iload hx hb d_S_mergeUp_104 (lv_at hl 0 rfl) ?_
          refine w_if_eq (tgt := 122) hx hb d_S_mergeUp_106 (by decide) (by omega) (fun h4 => ?_) (fun h4 => ?_)
          · exact absurd h4 (by decide)
          · refine lv_aload_n hx hb d_S_mergeUp_109 rfl (lv_at hl 1 rfl) ?_
            refine g_S_cells X hP 3 rfl rfl d_S_mergeUp_110 ?_
            refine lv_iload hx hb d_S_mergeUp_113 (lv_at hl 7 rfl) ?_
            refine w_inc (k := 7) (lv' := [(6, .int (nI (j + 1))), (11, .int (nI 1)), (0, .ref (a 10)), (1, .int (nI x0)), (2, .int (nI n1)), (3, .int (nI y0)), (4, .int (nI n2)), (5, .int (nI i)), (7, .int (nI (y0 + n2))), (8, .int (nI (x0 + i + (j - y0)))), (9, .int wn), (10, .int lf)]) hx hb d_S_mergeUp_115 hl rfl (by decide) rfl ?_
            clear hl; intro ls hl
            refine w_ald X hP 4 rfl (by omega) (by decide) d_S_mergeUp_118 ?_
            refine lv_goto (tgt := 132) hx hb d_S_mergeUp_119 (by decide) ?_
            have hM2 := hM.takeR hxy h1 h2 sl sr (ir.part (Nat.le_refl _) (Nat.le_refl _) hmid.1 (Nat.le_refl _)) (Or.inl (hrr.nge h3))
            refine w_ast (ws' := WS cI a hB k g rn gl (upd f (x0 + i + (j - y0)) (f j)) sp fF fL) X hP hD hS 4 rfl (by omega) (by decide) rfl d_S_mergeUp_132 ?_
            clear hP hD hS; intro H locs hP hD hS
            refine w_inc (k := 9) (lv' := [(8, .int (nI (x0 + i + (j - y0) + 1))), (6, .int (nI (j + 1))), (11, .int (nI 1)), (0, .ref (a 10)), (1, .int (nI x0)), (2, .int (nI n1)), (3, .int (nI y0)), (4, .int (nI n2)), (5, .int (nI i)), (7, .int (nI (y0 + n2))), (9, .int wn), (10, .int lf)]) hx hb d_S_mergeUp_133 hl rfl (by decide) rfl ?_
            clear hl; intro ls hl
            refine lv_iload hx hb d_S_mergeUp_136 (lv_at hl 2 rfl) ?_
            refine lv_iload hx hb d_S_mergeUp_138 (lv_at hl 11 rfl) ?_
            refine lv_icmp_eq (tgt := 150) hx hb d_S_mergeUp_140 (by decide) (fun h5 => ?_) (fun h5 => ?_)
            · refine lv_iconst (v := nI 1) hx hb d_S_mergeUp_150 (by decide) ?_
              refine lv_istore (lv' := [(9, .int (nI 1)), (8, .int (nI (x0 + i + (j - y0) + 1))), (6, .int (nI (j + 1))), (11, .int (nI 1)), (0, .ref (a 10)), (1, .int (nI x0)), (2, .int (nI n1)), (3, .int (nI y0)), (4, .int (nI n2)), (5, .int (nI i)), (7, .int (nI (y0 + n2))), (10, .int lf)]) hx hb d_S_mergeUp_151 hl (by decide) rfl ?_
              clear hl; intro ls hl
              refine lv_iload hx hb d_S_mergeUp_153 (lv_at hl 3 rfl) ?_
              refine w_if_ne (tgt := 162) hx hb d_S_mergeUp_155 (by decide) (by omega) (fun h6 => ?_) (fun h6 => ?_)
              · refine lv_iconst (v := nI 0) hx hb d_S_mergeUp_162 (by decide) ?_
                refine lv_istore (lv' := [(10, .int (nI 0)), (9, .int (nI 1)), (8, .int (nI (x0 + i + (j - y0) + 1))), (6, .int (nI (j + 1))), (11, .int (nI 1)), (0, .ref (a 10)), (1, .int (nI x0)), (2, .int (nI n1)), (3, .int (nI y0)), (4, .int (nI n2)), (5, .int (nI i)), (7, .int (nI (y0 + n2)))]) hx hb d_S_mergeUp_163 hl (by decide) rfl ?_
                clear hl; intro ls hl
                refine lv_iload hx hb d_S_mergeUp_165 (lv_at hl 1 rfl) ?_
                refine lv_aload_n hx hb d_S_mergeUp_167 rfl (lv_at hl 5 rfl) ?_
                refine g_S_gallop X hP 3 rfl rfl d_S_mergeUp_168 ?_
                refine lv_icmp_lt (tgt := 52) hx hb d_S_mergeUp_171 (by decide) (fun h7 => ?_) (fun h7 => ?_)
                · exact ih (i) (j + 1) _ _ _ _ H locs ls (by omega) hM2 hP hD hS (by rw [show x0 + i + (j + 1 - y0) = x0 + i + (j - y0) + 1 by omega]; exact (lv_sub hl [5, 6, 7, 8, 9, 10, 3, 11, 2, 1, 0] rfl))
                · refine lv_iload hx hb d_S_mergeUp_174 (lv_at hl 10 rfl) ?_
                  refine lv_iload_n hx hb d_S_mergeUp_176 rfl (lv_at hl 7 rfl) ?_
                  refine w_icmp_eq (tgt := 52) hx hb d_S_mergeUp_177 (by decide) ⟨by omega, by omega⟩ (fun h8 => ?_) (fun h8 => ?_)
                  · exact ih (i) (j + 1) _ _ _ _ H locs ls (by omega) hM2 hP hD hS (by rw [show x0 + i + (j + 1 - y0) = x0 + i + (j - y0) + 1 by omega]; exact (lv_sub hl [5, 6, 7, 8, 9, 10, 3, 11, 2, 1, 0] rfl))
                  · refine lv_iload hx hb d_S_mergeUp_180 (lv_at hl 3 rfl) ?_
                    refine lv_iload hx hb d_S_mergeUp_182 (lv_at hl 11 rfl) ?_
                    refine w_icmp_ne (tgt := 190) hx hb d_S_mergeUp_184 (by decide) ⟨by omega, by omega⟩ (fun h9 => ?_) (fun h9 => ?_)
                    · refine lv_iload hx hb d_S_mergeUp_190 (lv_at hl 4 rfl) ?_
                      refine w_if_eq (tgt := 216) hx hb d_S_mergeUp_192 (by decide) (by omega) (fun h10 => ?_) (fun h10 => ?_)
                      · exact absurd h10 (by decide)
                      · refine lv_aload_n hx hb d_S_mergeUp_195 rfl (lv_at hl 5 rfl) ?_
                        refine lv_aload_n hx hb d_S_mergeUp_196 rfl (lv_at hl 5 rfl) ?_
                        refine g_S_spare X hP 3 rfl rfl d_S_mergeUp_197 ?_
                        refine lv_iload hx hb d_S_mergeUp_200 (lv_at hl 10 rfl) ?_
                        refine w_ald X hP 2 rfl (by omega) (by decide) d_S_mergeUp_202 ?_
                        refine lv_iload hx hb d_S_mergeUp_203 (lv_at hl 3 rfl) ?_
                        refine lv_iload hx hb d_S_mergeUp_205 (lv_at hl 11 rfl) ?_
                        refine lv_iload hx hb d_S_mergeUp_207 (lv_at hl 3 rfl) ?_
                        refine w_sub hx hb d_S_mergeUp_209 (by omega) ?_
                        refine rd_V (C := R_S) X (c_S_notBefore l D cI cJ cO a hB k g rn gl (upd f (x0 + i + (j - y0)) (f j)) sp fF fL _ _ _ hk (hM2.vdS il hxy (by omega) (by omega)) (by omega) (fun t t1 t2 => by obtain ⟨z, z1, z2, z3⟩ := ir t (by omega) (by omega); exact ⟨z, Nat.zero_le _, by omega, (hM2.2.2.2.2.1 t t1 (by omega)).trans z3⟩) (fun t1 t2 z1 z2 z3 => hM2.moF sr z1 z2 (by omega))) (cx_B X _ wk_S_63 wi_S_notBefore wc_S_notBefore wd_S_notBefore ⟨by omega, by omega⟩) wm_S_notBefore wl_S_notBefore hP (rcv X hP (ci := 1) (q0 := 3) rfl rfl) rfl hl.1 rfl (Nat.le_of_ble_eq_true rfl) d_S_mergeUp_210 hf (fun rr hrr => ?_)
                        obtain ⟨q, rfl, hq1, hq2, hq3⟩ := hrr
                        refine lv_goto (tgt := 230) hx hb d_S_mergeUp_213 (by decide) ?_
                        refine lv_istore (lv' := [(12, .int (nI q)), (10, .int (nI 0)), (9, .int (nI 1)), (8, .int (nI (x0 + i + (j - y0) + 1))), (6, .int (nI (j + 1))), (11, .int (nI 1)), (0, .ref (a 10)), (1, .int (nI x0)), (2, .int (nI n1)), (3, .int (nI y0)), (4, .int (nI n2)), (5, .int (nI i)), (7, .int (nI (y0 + n2)))]) hx hb d_S_mergeUp_230 hl (by decide) rfl ?_
                        clear hl; intro ls hl
                        refine lv_iconst (v := nI 0) hx hb d_S_mergeUp_232 (by decide) ?_
                        refine lv_istore (lv' := [(13, .int (nI 0)), (12, .int (nI q)), (10, .int (nI 0)), (9, .int (nI 1)), (8, .int (nI (x0 + i + (j - y0) + 1))), (6, .int (nI (j + 1))), (11, .int (nI 1)), (0, .ref (a 10)), (1, .int (nI x0)), (2, .int (nI n1)), (3, .int (nI y0)), (4, .int (nI n2)), (5, .int (nI i)), (7, .int (nI (y0 + n2)))]) hx hb d_S_mergeUp_233 hl (by decide) rfl ?_
                        clear hl; intro ls hl
                        refine l_mugr X hk hR hf hxy hyn sl sr il ir hmid (i := i) (j := j + 1) (q := q) h1 (by omega) (by omega) (fun t ht => Or.inl (by rw [← hM2.2.2.2.2.1 (j + 1 + t) (by omega) (by omega)]; exact hq2 t ht)) ?_ (q + 1) 0 _ H locs ls (by omega) (by omega) hM2 hP hD hS (by rw [show x0 + i + (j + 1 + 0 - y0) = x0 + i + (j - y0) + 1 by omega]; exact (lv_sub hl [7, 8, 9, 10, 11, 12, 5, 13, 4, 2, 6, 1, 0] rfl))
                        clear hP hD hS hl ls locs H; intro f3 H locs ls hM3 hP hD hS hl
                        refine lv_aload_n hx hb d_S_mergeUp_286 rfl (lv_at hl 0 rfl) ?_
                        refine lv_iload hx hb d_S_mergeUp_287 (lv_at hl 10 rfl) ?_
                        refine lv_bipush (v := nI 7) hx hb d_S_mergeUp_289 (by decide) ?_
                        refine w_icmp_lt (tgt := 315) hx hb d_S_mergeUp_291 (by decide) ⟨by omega, by omega⟩ (fun h11 => ?_) (fun h11 => ?_)
                        · refine lv_aload_n hx hb d_S_mergeUp_315 rfl (lv_at hl 0 rfl) ?_
                          refine g_S_gallop X hP 3 rfl rfl d_S_mergeUp_316 ?_
                          refine lv_iconst (v := nI 2) hx hb d_S_mergeUp_319 (by decide) ?_
                          refine lv_iadd hx hb d_S_mergeUp_320 ?_
                          refine p_S_gallop (ws' := WS cI a hB k g rn (gl + (nI 2)) f3 sp fF fL) X hP hD hS 3 rfl (Nat.le_of_ble_eq_true rfl) rfl d_S_mergeUp_321 ?_
                          clear hP hD hS; intro H locs hP hD hS
                          refine lv_iconst (v := nI 0) hx hb d_S_mergeUp_324 (by decide) ?_
                          refine lv_istore (lv' := [(9, .int (nI 0)), (0, .ref (a 10)), (1, .int (nI x0)), (2, .int (nI n1)), (3, .int (nI y0)), (4, .int (nI n2)), (5, .int (nI i)), (6, .int (nI (j + 1 + q))), (7, .int (nI (y0 + n2))), (8, .int (nI (x0 + i + (j + 1 + q - y0)))), (10, .int (nI 0)), (12, .int (nI q))]) hx hb d_S_mergeUp_325 hl (by decide) rfl ?_
                          clear hl; intro ls hl
                          refine lv_goto (tgt := 52) hx hb d_S_mergeUp_327 (by decide) ?_
                          exact ih _ _ _ _ _ _ H locs ls (by omega) hM3 hP hD hS (lv_sub hl [1, 2, 3, 4, 5, 6, 7, 8, 9, 0, 10] rfl)
                        · refine lv_aload_n hx hb d_S_mergeUp_294 rfl (lv_at hl 0 rfl) ?_
                          refine g_S_gallop X hP 3 rfl rfl d_S_mergeUp_295 ?_
                          refine lv_iconst (v := nI 1) hx hb d_S_mergeUp_298 (by decide) ?_
                          refine lv_icmp_le (tgt := 311) hx hb d_S_mergeUp_299 (by decide) (fun h12 => ?_) (fun h12 => ?_)
                          · refine lv_iconst (v := nI 1) hx hb d_S_mergeUp_311 (by decide) ?_
                            refine lv_goto (tgt := 321) hx hb d_S_mergeUp_312 (by decide) ?_
                            refine p_S_gallop (ws' := WS cI a hB k g rn (nI 1) f3 sp fF fL) X hP hD hS 3 rfl (Nat.le_of_ble_eq_true rfl) rfl d_S_mergeUp_321 ?_
                            clear hP hD hS; intro H locs hP hD hS
                            refine lv_iconst (v := nI 0) hx hb d_S_mergeUp_324 (by decide) ?_
                            refine lv_istore (lv' := [(9, .int (nI 0)), (0, .ref (a 10)), (1, .int (nI x0)), (2, .int (nI n1)), (3, .int (nI y0)), (4, .int (nI n2)), (5, .int (nI i)), (6, .int (nI (j + 1 + q))), (7, .int (nI (y0 + n2))), (8, .int (nI (x0 + i + (j + 1 + q - y0)))), (10, .int (nI 0)), (12, .int (nI q))]) hx hb d_S_mergeUp_325 hl (by decide) rfl ?_
                            clear hl; intro ls hl
                            refine lv_goto (tgt := 52) hx hb d_S_mergeUp_327 (by decide) ?_
                            exact ih _ _ _ _ _ _ H locs ls (by omega) hM3 hP hD hS (lv_sub hl [1, 2, 3, 4, 5, 6, 7, 8, 9, 0, 10] rfl)
                          · refine lv_aload_n hx hb d_S_mergeUp_302 rfl (lv_at hl 0 rfl) ?_
                            refine g_S_gallop X hP 3 rfl rfl d_S_mergeUp_303 ?_
                            refine lv_iconst (v := nI 1) hx hb d_S_mergeUp_306 (by decide) ?_
                            refine lv_isub hx hb d_S_mergeUp_307 ?_
                            refine lv_goto (tgt := 321) hx hb d_S_mergeUp_308 (by decide) ?_
                            refine p_S_gallop (ws' := WS cI a hB k g rn (gl - (nI 1)) f3 sp fF fL) X hP hD hS 3 rfl (Nat.le_of_ble_eq_true rfl) rfl d_S_mergeUp_321 ?_
                            clear hP hD hS; intro H locs hP hD hS
                            refine lv_iconst (v := nI 0) hx hb d_S_mergeUp_324 (by decide) ?_
                            refine lv_istore (lv' := [(9, .int (nI 0)), (0, .ref (a 10)), (1, .int (nI x0)), (2, .int (nI n1)), (3, .int (nI y0)), (4, .int (nI n2)), (5, .int (nI i)), (6, .int (nI (j + 1 + q))), (7, .int (nI (y0 + n2))), (8, .int (nI (x0 + i + (j + 1 + q - y0)))), (10, .int (nI 0)), (12, .int (nI q))]) hx hb d_S_mergeUp_325 hl (by decide) rfl ?_
                            clear hl; intro ls hl
                            refine lv_goto (tgt := 52) hx hb d_S_mergeUp_327 (by decide) ?_
                            exact ih _ _ _ _ _ _ H locs ls (by omega) hM3 hP hD hS (lv_sub hl [1, 2, 3, 4, 5, 6, 7, 8, 9, 0, 10] rfl)
                    · refine lv_goto (tgt := 52) hx hb d_S_mergeUp_187 (by decide) ?_
                      exact ih (i) (j + 1) _ _ _ _ H locs ls (by omega) hM2 hP hD hS (by rw [show x0 + i + (j + 1 - y0) = x0 + i + (j - y0) + 1 by omega]; exact (lv_sub hl [5, 6, 7, 8, 9, 10, 3, 11, 2, 1, 0] rfl))
              · exact absurd h6 (by decide)
            · refine lv_iload hx hb d_S_mergeUp_143 (lv_at hl 10 rfl) ?_
              refine lv_iconst (v := nI 1) hx hb d_S_mergeUp_145 (by decide) ?_
              refine lv_iadd hx hb d_S_mergeUp_146 ?_
              refine lv_goto (tgt := 151) hx hb d_S_mergeUp_147 (by decide) ?_
              refine lv_istore (lv' := [(9, .int (wn + (nI 1))), (8, .int (nI (x0 + i + (j - y0) + 1))), (6, .int (nI (j + 1))), (11, .int (nI 1)), (0, .ref (a 10)), (1, .int (nI x0)), (2, .int (nI n1)), (3, .int (nI y0)), (4, .int (nI n2)), (5, .int (nI i)), (7, .int (nI (y0 + n2))), (10, .int lf)]) hx hb d_S_mergeUp_151 hl (by decide) rfl ?_
              clear hl; intro ls hl
              refine lv_iload hx hb d_S_mergeUp_153 (lv_at hl 3 rfl) ?_
              refine w_if_ne (tgt := 162) hx hb d_S_mergeUp_155 (by decide) (by omega) (fun h6 => ?_) (fun h6 => ?_)
              · refine lv_iconst (v := nI 0) hx hb d_S_mergeUp_162 (by decide) ?_
                refine lv_istore (lv' := [(10, .int (nI 0)), (9, .int (wn + (nI 1))), (8, .int (nI (x0 + i + (j - y0) + 1))), (6, .int (nI (j + 1))), (11, .int (nI 1)), (0, .ref (a 10)), (1, .int (nI x0)), (2, .int (nI n1)), (3, .int (nI y0)), (4, .int (nI n2)), (5, .int (nI i)), (7, .int (nI (y0 + n2)))]) hx hb d_S_mergeUp_163 hl (by decide) rfl ?_
                clear hl; intro ls hl
                refine lv_iload hx hb d_S_mergeUp_165 (lv_at hl 1 rfl) ?_
                refine lv_aload_n hx hb d_S_mergeUp_167 rfl (lv_at hl 5 rfl) ?_
                refine g_S_gallop X hP 3 rfl rfl d_S_mergeUp_168 ?_
                refine lv_icmp_lt (tgt := 52) hx hb d_S_mergeUp_171 (by decide) (fun h7 => ?_) (fun h7 => ?_)
                · exact ih (i) (j + 1) _ _ _ _ H locs ls (by omega) hM2 hP hD hS (by rw [show x0 + i + (j + 1 - y0) = x0 + i + (j - y0) + 1 by omega]; exact (lv_sub hl [5, 6, 7, 8, 9, 10, 3, 11, 2, 1, 0] rfl))
                · refine lv_iload hx hb d_S_mergeUp_174 (lv_at hl 10 rfl) ?_
                  refine lv_iload_n hx hb d_S_mergeUp_176 rfl (lv_at hl 7 rfl) ?_
                  refine w_icmp_eq (tgt := 52) hx hb d_S_mergeUp_177 (by decide) ⟨by omega, by omega⟩ (fun h8 => ?_) (fun h8 => ?_)
                  · exact ih (i) (j + 1) _ _ _ _ H locs ls (by omega) hM2 hP hD hS (by rw [show x0 + i + (j + 1 - y0) = x0 + i + (j - y0) + 1 by omega]; exact (lv_sub hl [5, 6, 7, 8, 9, 10, 3, 11, 2, 1, 0] rfl))
                  · refine lv_iload hx hb d_S_mergeUp_180 (lv_at hl 3 rfl) ?_
                    refine lv_iload hx hb d_S_mergeUp_182 (lv_at hl 11 rfl) ?_
                    refine w_icmp_ne (tgt := 190) hx hb d_S_mergeUp_184 (by decide) ⟨by omega, by omega⟩ (fun h9 => ?_) (fun h9 => ?_)
                    · refine lv_iload hx hb d_S_mergeUp_190 (lv_at hl 4 rfl) ?_
                      refine w_if_eq (tgt := 216) hx hb d_S_mergeUp_192 (by decide) (by omega) (fun h10 => ?_) (fun h10 => ?_)
                      · exact absurd h10 (by decide)
                      · refine lv_aload_n hx hb d_S_mergeUp_195 rfl (lv_at hl 5 rfl) ?_
                        refine lv_aload_n hx hb d_S_mergeUp_196 rfl (lv_at hl 5 rfl) ?_
                        refine g_S_spare X hP 3 rfl rfl d_S_mergeUp_197 ?_
                        refine lv_iload hx hb d_S_mergeUp_200 (lv_at hl 10 rfl) ?_
                        refine w_ald X hP 2 rfl (by omega) (by decide) d_S_mergeUp_202 ?_
                        refine lv_iload hx hb d_S_mergeUp_203 (lv_at hl 3 rfl) ?_
                        refine lv_iload hx hb d_S_mergeUp_205 (lv_at hl 11 rfl) ?_
                        refine lv_iload hx hb d_S_mergeUp_207 (lv_at hl 3 rfl) ?_
                        refine w_sub hx hb d_S_mergeUp_209 (by omega) ?_
                        refine rd_V (C := R_S) X (c_S_notBefore l D cI cJ cO a hB k g rn gl (upd f (x0 + i + (j - y0)) (f j)) sp fF fL _ _ _ hk (hM2.vdS il hxy (by omega) (by omega)) (by omega) (fun t t1 t2 => by obtain ⟨z, z1, z2, z3⟩ := ir t (by omega) (by omega); exact ⟨z, Nat.zero_le _, by omega, (hM2.2.2.2.2.1 t t1 (by omega)).trans z3⟩) (fun t1 t2 z1 z2 z3 => hM2.moF sr z1 z2 (by omega))) (cx_B X _ wk_S_63 wi_S_notBefore wc_S_notBefore wd_S_notBefore ⟨by omega, by omega⟩) wm_S_notBefore wl_S_notBefore hP (rcv X hP (ci := 1) (q0 := 3) rfl rfl) rfl hl.1 rfl (Nat.le_of_ble_eq_true rfl) d_S_mergeUp_210 hf (fun rr hrr => ?_)
                        obtain ⟨q, rfl, hq1, hq2, hq3⟩ := hrr
                        refine lv_goto (tgt := 230) hx hb d_S_mergeUp_213 (by decide) ?_
                        refine lv_istore (lv' := [(12, .int (nI q)), (10, .int (nI 0)), (9, .int (wn + (nI 1))), (8, .int (nI (x0 + i + (j - y0) + 1))), (6, .int (nI (j + 1))), (11, .int (nI 1)), (0, .ref (a 10)), (1, .int (nI x0)), (2, .int (nI n1)), (3, .int (nI y0)), (4, .int (nI n2)), (5, .int (nI i)), (7, .int (nI (y0 + n2)))]) hx hb d_S_mergeUp_230 hl (by decide) rfl ?_
                        clear hl; intro ls hl
                        refine lv_iconst (v := nI 0) hx hb d_S_mergeUp_232 (by decide) ?_
                        refine lv_istore (lv' := [(13, .int (nI 0)), (12, .int (nI q)), (10, .int (nI 0)), (9, .int (wn + (nI 1))), (8, .int (nI (x0 + i + (j - y0) + 1))), (6, .int (nI (j + 1))), (11, .int (nI 1)), (0, .ref (a 10)), (1, .int (nI x0)), (2, .int (nI n1)), (3, .int (nI y0)), (4, .int (nI n2)), (5, .int (nI i)), (7, .int (nI (y0 + n2)))]) hx hb d_S_mergeUp_233 hl (by decide) rfl ?_
                        clear hl; intro ls hl
                        refine l_mugr X hk hR hf hxy hyn sl sr il ir hmid (i := i) (j := j + 1) (q := q) h1 (by omega) (by omega) (fun t ht => Or.inl (by rw [← hM2.2.2.2.2.1 (j + 1 + t) (by omega) (by omega)]; exact hq2 t ht)) ?_ (q + 1) 0 _ H locs ls (by omega) (by omega) hM2 hP hD hS (by rw [show x0 + i + (j + 1 + 0 - y0) = x0 + i + (j - y0) + 1 by omega]; exact (lv_sub hl [7, 8, 9, 10, 11, 12, 5, 13, 4, 2, 6, 1, 0] rfl))
                        clear hP hD hS hl ls locs H; intro f3 H locs ls hM3 hP hD hS hl
                        refine lv_aload_n hx hb d_S_mergeUp_286 rfl (lv_at hl 0 rfl) ?_
                        refine lv_iload hx hb d_S_mergeUp_287 (lv_at hl 10 rfl) ?_
                        refine lv_bipush (v := nI 7) hx hb d_S_mergeUp_289 (by decide) ?_
                        refine w_icmp_lt (tgt := 315) hx hb d_S_mergeUp_291 (by decide) ⟨by omega, by omega⟩ (fun h11 => ?_) (fun h11 => ?_)
                        · refine lv_aload_n hx hb d_S_mergeUp_315 rfl (lv_at hl 0 rfl) ?_
                          refine g_S_gallop X hP 3 rfl rfl d_S_mergeUp_316 ?_
                          refine lv_iconst (v := nI 2) hx hb d_S_mergeUp_319 (by decide) ?_
                          refine lv_iadd hx hb d_S_mergeUp_320 ?_
                          refine p_S_gallop (ws' := WS cI a hB k g rn (gl + (nI 2)) f3 sp fF fL) X hP hD hS 3 rfl (Nat.le_of_ble_eq_true rfl) rfl d_S_mergeUp_321 ?_
                          clear hP hD hS; intro H locs hP hD hS
                          refine lv_iconst (v := nI 0) hx hb d_S_mergeUp_324 (by decide) ?_
                          refine lv_istore (lv' := [(9, .int (nI 0)), (0, .ref (a 10)), (1, .int (nI x0)), (2, .int (nI n1)), (3, .int (nI y0)), (4, .int (nI n2)), (5, .int (nI i)), (6, .int (nI (j + 1 + q))), (7, .int (nI (y0 + n2))), (8, .int (nI (x0 + i + (j + 1 + q - y0)))), (10, .int (nI 0)), (12, .int (nI q))]) hx hb d_S_mergeUp_325 hl (by decide) rfl ?_
                          clear hl; intro ls hl
                          refine lv_goto (tgt := 52) hx hb d_S_mergeUp_327 (by decide) ?_
                          exact ih _ _ _ _ _ _ H locs ls (by omega) hM3 hP hD hS (lv_sub hl [1, 2, 3, 4, 5, 6, 7, 8, 9, 0, 10] rfl)
                        · refine lv_aload_n hx hb d_S_mergeUp_294 rfl (lv_at hl 0 rfl) ?_
                          refine g_S_gallop X hP 3 rfl rfl d_S_mergeUp_295 ?_
                          refine lv_iconst (v := nI 1) hx hb d_S_mergeUp_298 (by decide) ?_
                          refine lv_icmp_le (tgt := 311) hx hb d_S_mergeUp_299 (by decide) (fun h12 => ?_) (fun h12 => ?_)
                          · refine lv_iconst (v := nI 1) hx hb d_S_mergeUp_311 (by decide) ?_
                            refine lv_goto (tgt := 321) hx hb d_S_mergeUp_312 (by decide) ?_
                            refine p_S_gallop (ws' := WS cI a hB k g rn (nI 1) f3 sp fF fL) X hP hD hS 3 rfl (Nat.le_of_ble_eq_true rfl) rfl d_S_mergeUp_321 ?_
                            clear hP hD hS; intro H locs hP hD hS
                            refine lv_iconst (v := nI 0) hx hb d_S_mergeUp_324 (by decide) ?_
                            refine lv_istore (lv' := [(9, .int (nI 0)), (0, .ref (a 10)), (1, .int (nI x0)), (2, .int (nI n1)), (3, .int (nI y0)), (4, .int (nI n2)), (5, .int (nI i)), (6, .int (nI (j + 1 + q))), (7, .int (nI (y0 + n2))), (8, .int (nI (x0 + i + (j + 1 + q - y0)))), (10, .int (nI 0)), (12, .int (nI q))]) hx hb d_S_mergeUp_325 hl (by decide) rfl ?_
                            clear hl; intro ls hl
                            refine lv_goto (tgt := 52) hx hb d_S_mergeUp_327 (by decide) ?_
                            exact ih _ _ _ _ _ _ H locs ls (by omega) hM3 hP hD hS (lv_sub hl [1, 2, 3, 4, 5, 6, 7, 8, 9, 0, 10] rfl)
                          · refine lv_aload_n hx hb d_S_mergeUp_302 rfl (lv_at hl 0 rfl) ?_
                            refine g_S_gallop X hP 3 rfl rfl d_S_mergeUp_303 ?_
                            refine lv_iconst (v := nI 1) hx hb d_S_mergeUp_306 (by decide) ?_
                            refine lv_isub hx hb d_S_mergeUp_307 ?_
                            refine lv_goto (tgt := 321) hx hb d_S_mergeUp_308 (by decide) ?_
                            refine p_S_gallop (ws' := WS cI a hB k g rn (gl - (nI 1)) f3 sp fF fL) X hP hD hS 3 rfl (Nat.le_of_ble_eq_true rfl) rfl d_S_mergeUp_321 ?_
                            clear hP hD hS; intro H locs hP hD hS
                            refine lv_iconst (v := nI 0) hx hb d_S_mergeUp_324 (by decide) ?_
                            refine lv_istore (lv' := [(9, .int (nI 0)), (0, .ref (a 10)), (1, .int (nI x0)), (2, .int (nI n1)), (3, .int (nI y0)), (4, .int (nI n2)), (5, .int (nI i)), (6, .int (nI (j + 1 + q))), (7, .int (nI (y0 + n2))), (8, .int (nI (x0 + i + (j + 1 + q - y0)))), (10, .int (nI 0)), (12, .int (nI q))]) hx hb d_S_mergeUp_325 hl (by decide) rfl ?_
                            clear hl; intro ls hl
                            refine lv_goto (tgt := 52) hx hb d_S_mergeUp_327 (by decide) ?_
                            exact ih _ _ _ _ _ _ H locs ls (by omega) hM3 hP hD hS (lv_sub hl [1, 2, 3, 4, 5, 6, 7, 8, 9, 0, 10] rfl)
                    · refine lv_goto (tgt := 52) hx hb d_S_mergeUp_187 (by decide) ?_
                      exact ih (i) (j + 1) _ _ _ _ H locs ls (by omega) hM2 hP hD hS (by rw [show x0 + i + (j + 1 - y0) = x0 + i + (j - y0) + 1 by omega]; exact (lv_sub hl [5, 6, 7, 8, 9, 10, 3, 11, 2, 1, 0] rfl))
              · exact absurd h6 (by decide)
end SMU
set_option maxHeartbeats 4000000 in
/-- mergeUp(x0, n1, y0, n2): two sorted neighbours become one -/
theorem c_S_mergeUp (l : Launch) (D : va_G) (cI cJ cO : ClassId) (a : Nat → Nat) (hB k : Nat) (g : Nat → Int32) (rn gl : Int32) (f0 fSp fF fL : Nat → Int32) (sz x0 n1 y0 n2 lo mid hi : Nat) (hk : k < 4) (hxy : x0 + n1 = y0) (hyn : y0 + n2 ≤ 2000) (sl : Sg (Ky k g) f0 x0 y0) (sr : Sg (Ky k g) f0 y0 (y0 + n2)) (il : In f0 x0 y0 lo mid) (ir : In f0 y0 (y0 + n2) mid hi) (hmid : lo ≤ mid ∧ mid ≤ hi ∧ hi ≤ 2000) : Met l y_S_mergeUp [Cond.code y_S_mergeUp b_S_mergeUp 14 none] (rk 3 0 0) (PW D cI cJ cO [.ref (a 10), .int (nI x0), .int (nI n1), .int (nI y0), .int (nI n2)] sz (WS cI a hB k g rn gl f0 fSp fF fL)) (va_Qv (fun u : (Nat → Int32) × (Nat → Int32) × Int32 => Sg (Ky k g) u.1 x0 (y0 + n2) ∧ Iv f0 u.1 x0 (y0 + n2) x0 (y0 + n2) ∧ ∀ q, (q < x0 ∨ y0 + n2 ≤ q) → u.1 q = f0 q) (BW D (va_A (WS cI a hB k g rn gl f0 fSp fF fL) sz) (fun u => WS cI a hB k g rn u.2.2 u.1 u.2.1 fF fL)) (va_A (WS cI a hB k g rn gl f0 fSp fF fL) sz)) 0 0 (va_A (WS cI a hB k g rn gl f0 fSp fF fL) sz) := by
  refine entW (by decide) (Nat.le_of_ble_eq_true rfl) ?_
  intro p e s m below meth c ls X hr hlocks hnm hsz hP hD hA hl
  have hx := X.x
  have hb := X.b
  have hR : 3 ≤ (rk 3 0 0).frames ∧ 220 ≤ (rk 3 0 0).locals := by decide
  have hf : 0 ≤ (rk 3 0 0).cells ∧ 0 ≤ (rk 3 0 0).slots := by decide
  have hS : va_S (va_A (WS cI a hB k g rn gl f0 fSp fF fL) sz) s.heap s.heap [] := va_S.rf
  have hl : lv_has ls 14 [(0, .ref (a 10)), (1, .int (nI x0)), (2, .int (nI n1)), (3, .int (nI y0)), (4, .int (nI n2))] := hl
  refine lv_iconst (v := nI 0) hx hb d_S_mergeUp_0 (by decide) ?_
  refine lv_istore (lv' := [(5, .int (nI 0)), (0, .ref (a 10)), (1, .int (nI x0)), (2, .int (nI n1)), (3, .int (nI y0)), (4, .int (nI n2))]) hx hb d_S_mergeUp_1 hl (by decide) rfl ?_
  clear hl; intro ls hl
  refine l_mu0 X hk hR hf hxy hyn sl sr il ir hmid ?_ (n1 + 1) 0 fSp _ _ ls (by omega) (by omega) (fun q h => by omega) hP hD hS (lv_sub hl [1, 2, 3, 4, 5, 0] rfl)
  clear hP hD hS hl ls; intro sp H locs ls hsp hP hD hS hl
  refine lv_iconst (v := nI 0) hx hb d_S_mergeUp_31 (by decide) ?_
  refine lv_istore (lv' := [(5, .int (nI 0)), (0, .ref (a 10)), (1, .int (nI x0)), (2, .int (nI n1)), (3, .int (nI y0)), (4, .int (nI n2))]) hx hb d_S_mergeUp_32 hl (by decide) rfl ?_
  clear hl; intro ls hl
  refine lv_iload_n hx hb d_S_mergeUp_34 rfl (lv_at hl 4 rfl) ?_
  refine lv_istore (lv' := [(6, .int (nI y0)), (5, .int (nI 0)), (0, .ref (a 10)), (1, .int (nI x0)), (2, .int (nI n1)), (3, .int (nI y0)), (4, .int (nI n2))]) hx hb d_S_mergeUp_35 hl (by decide) rfl ?_
  clear hl; intro ls hl
  refine lv_iload_n hx hb d_S_mergeUp_37 rfl (lv_at hl 5 rfl) ?_
  refine lv_iload hx hb d_S_mergeUp_38 (lv_at hl 6 rfl) ?_
  refine w_add hx hb d_S_mergeUp_40 ?_
  refine lv_istore (lv' := [(7, .int (nI (y0 + n2))), (6, .int (nI y0)), (5, .int (nI 0)), (0, .ref (a 10)), (1, .int (nI x0)), (2, .int (nI n1)), (3, .int (nI y0)), (4, .int (nI n2))]) hx hb d_S_mergeUp_41 hl (by decide) rfl ?_
  clear hl; intro ls hl
  refine lv_iload_n hx hb d_S_mergeUp_43 rfl (lv_at hl 4 rfl) ?_
  refine lv_istore (lv' := [(8, .int (nI x0)), (7, .int (nI (y0 + n2))), (6, .int (nI y0)), (5, .int (nI 0)), (0, .ref (a 10)), (1, .int (nI x0)), (2, .int (nI n1)), (3, .int (nI y0)), (4, .int (nI n2))]) hx hb d_S_mergeUp_44 hl (by decide) rfl ?_
  clear hl; intro ls hl
  refine lv_iconst (v := nI 0) hx hb d_S_mergeUp_46 (by decide) ?_
  refine lv_istore (lv' := [(9, .int (nI 0)), (8, .int (nI x0)), (7, .int (nI (y0 + n2))), (6, .int (nI y0)), (5, .int (nI 0)), (0, .ref (a 10)), (1, .int (nI x0)), (2, .int (nI n1)), (3, .int (nI y0)), (4, .int (nI n2))]) hx hb d_S_mergeUp_47 hl (by decide) rfl ?_
  clear hl; intro ls hl
  refine lv_iconst (v := nI 1) hx hb d_S_mergeUp_49 (by decide) ?_
  refine lv_istore (lv' := [(10, .int (nI 1)), (9, .int (nI 0)), (8, .int (nI x0)), (7, .int (nI (y0 + n2))), (6, .int (nI y0)), (5, .int (nI 0)), (0, .ref (a 10)), (1, .int (nI x0)), (2, .int (nI n1)), (3, .int (nI y0)), (4, .int (nI n2))]) hx hb d_S_mergeUp_50 hl (by decide) rfl ?_
  clear hl; intro ls hl
  refine l_mu1 X hk hR hf hxy hyn sl sr il ir hmid (sp := sp) ?_ (n1 + n2 + 1) 0 y0 _ _ _ _ H locs ls (by omega) (MU.start hxy hsp) hP hD hS (by rw [show x0 + 0 + (y0 - y0) = x0 by omega]; exact (lv_sub hl [6, 7, 8, 9, 10, 5, 4, 3, 2, 1, 0] rfl))
  clear hP hD hS hl ls locs H; intro i j gl H1f H locs ls hij hM hP hD hS hl
  refine l_mu9 X hk hR hf hxy hyn sl sr il ir hmid ?_ (n1 + 1) i _ H locs ls (by omega) hM.1 hij hM hP hD hS hl
  clear hM hP hD hS hl ls locs H; intro f H locs ls hM hP hD hS hl
  obtain ⟨h1, h2, h3⟩ := hM.done hxy sr (ir.part (Nat.le_refl _) (Nat.le_refl _) hmid.1 (Nat.le_refl _))
  exact W.vret hx hb hr (fun t ht hW => ⟨⟨(f, sp, gl), rfl, ⟨h1, h2, h3⟩, by rw [ht]; exact hP, hD⟩, hS.F ht⟩) hS.2.2 d_S_mergeUp_359
