theorem dn_dec {u : Nat} (h : 1 ≤ u) : nI u - nI 1 + Int32.ofInt (-1) = nI (u - 1) - nI 1 := by
  rw [pk_sub h, Int32.sub_eq_add_neg]
  rfl
theorem dn_lt {u x : Nat} (hu : u < 2 ^ 30) (hx : x < 2 ^ 30) : nI u - nI 1 < nI x ↔ u ≤ x := by
  rw [i32_ltI, pk_sub_toInt hu (by decide), nI_toInt (by omega)]
  omega
theorem dn_0 {u : Nat} (hu : u < 2 ^ 30) : nI u - nI 1 < 0 ↔ u = 0 := by
  rw [sub_lt0 hu (by decide)]
  omega
theorem dn_1 (u : Nat) : nI (u + 1) - nI 1 = nI u := pk_sub (by omega)
section PMD
variable {K : Int32 → Int}
theorem MD.cmpR {f0 f s : Nat → Int32} {a n b m lo mid hi u v : Nat} (h : MD K f0 f s a n b m lo hi (u + 1) (v + 1)) (il : In f0 a b lo mid) (ir : In f0 b (b + m) mid hi) (hh : hi ≤ 2000) (hu : a ≤ u) (hc : K (f u) ≤ K (s v)) : LT K (f u) (s v) := by
  obtain ⟨h1, h2, h3, h4, h5, h6, h7, h8, h9, h10⟩ := h
  obtain ⟨p, p1, p2, p3⟩ := il u hu (by omega)
  obtain ⟨q, q1, q2, q3⟩ := ir (b + v) (by omega) (by omega)
  exact lt_lo ((h5 u hu (by omega)).trans p3) ((h4 v (by omega)).trans q3) (by omega) (by omega) hc
theorem MD.vdS {f0 f s : Nat → Int32} {a n b m lo mid hi u v : Nat} (h : MD K f0 f s a n b m lo hi u v) (ir : In f0 b (b + m) mid hi) (hh : hi ≤ 2000) {t : Nat} (ht : t < m) : vp_in (s t) 2000 := by
  rw [h.2.2.2.1 t ht]
  exact ir.vd hh (by omega) (by omega)
theorem MD.vdF {f0 f s : Nat → Int32} {a n b m lo mid hi u v : Nat} (h : MD K f0 f s a n b m lo hi u v) (il : In f0 a b lo mid) (hh : mid ≤ 2000) {t : Nat} (ht : a ≤ t) (ht2 : t < u) : vp_in (f t) 2000 := by
  rw [h.2.2.2.2.1 t ht ht2]
  exact il.vd hh ht (Nat.lt_of_lt_of_le ht2 h.2.1)
end PMD
section SMD
variable {D : va_G} {cI cJ cO : ClassId} {p : Program} {l : Launch} {e : Env} {R : Room} {s : State} {m : MethodId} {args : Array Value} {below : List Frame} {meth : Method} {c : Code} {cells slots : Nat} {Q : State → Prop}
variable {a : Nat → Nat} {hB k : Nat} {g : Nat → Int32} {rn : Int32} {fF fL : Nat → Int32} {A : Nat → Prop} {H0 : Heap}
set_option maxHeartbeats 4000000 in
theorem l_md0 {x0 n1 y0 n2 lo mid hi : Nat} {f0 : Nat → Int32} (X : Cx D cI cJ cO p s m c b_S_mergeDown 9 R_S) (hk : k < 4) (hR : 2 ≤ R.frames ∧ 180 ≤ R.locals) (hf : cells ≤ R.cells ∧ slots ≤ R.slots) (hxy : x0 + n1 = y0) (hyn : y0 + n2 ≤ 2000) (sl : Sg (Ky k g) f0 x0 y0) (sr : Sg (Ky k g) f0 y0 (y0 + n2)) (il : In f0 x0 y0 lo mid) (ir : In f0 y0 (y0 + n2) mid hi) (hmid : lo ≤ mid ∧ mid ≤ hi ∧ hi ≤ 2000) {gl : Int32} (kk : ∀ (sp : Nat → Int32) (H : Heap) (locs : List Loc) (ls : Array Slot), (∀ q, q < n2 → sp q = f0 (y0 + q)) → va_P D vCL (WS cI a hB k g rn gl f0 sp fF fL) H → va_D A (WS cI a hB k g rn gl f0 sp fF fL) → va_S A H0 H locs → lv_has ls 9 [(0, .ref (a 10)), (1, .int (nI x0)), (2, .int (nI n1)), (3, .int (nI y0)), (4, .int (nI n2))] → W p l e R s m args below meth c H locs cells slots Q (F0 m 32 ls [])) : ∀ (fuel i : Nat) (sp : Nat → Int32) (H : Heap) (locs : List Loc) (ls : Array Slot), n2 - i < fuel → i ≤ n2 → (∀ q, q < i → sp q = f0 (y0 + q)) → va_P D vCL (WS cI a hB k g rn gl f0 sp fF fL) H → va_D A (WS cI a hB k g rn gl f0 sp fF fL) → va_S A H0 H locs → lv_has ls 9 [(0, .ref (a 10)), (1, .int (nI x0)), (2, .int (nI n1)), (3, .int (nI y0)), (4, .int (nI n2)), (5, .int (nI i))] → W p l e R s m args below meth c H locs cells slots Q (F0 m 3 ls []) := by
  have hx := X.x
  have hb := X.b
  intro fuel
  induction fuel with
  | zero => intro i sp H locs ls h; omega
  | succ fuel ih =>
    intro i sp H locs ls hfu hi1 hall hP hD hS hl
    refine lv_iload hx hb d_S_mergeDown_3 (lv_at hl 5 rfl) ?_
    refine lv_iload hx hb d_S_mergeDown_5 (lv_at hl 4 rfl) ?_
    refine w_icmp_ge (tgt := 32) hx hb d_S_mergeDown_7 (by decide) ⟨by omega, by omega⟩ (fun h1 => ?_) (fun h1 => ?_)
    · exact kk sp H locs ls (fun q hq => hall q (by omega)) hP hD hS (lv_sub hl [0, 1, 2, 3, 4] rfl)
    · refine lv_aload_n hx hb d_S_mergeDown_10 rfl (lv_at hl 0 rfl) ?_
      refine g_S_spare X hP 3 rfl rfl d_S_mergeDown_11 ?_
      refine lv_iload hx hb d_S_mergeDown_14 (lv_at hl 5 rfl) ?_
      refine lv_aload_n hx hb d_S_mergeDown_16 rfl (lv_at hl 0 rfl) ?_
      refine g_S_cells X hP 3 rfl rfl d_S_mergeDown_17 ?_
      refine lv_iload_n hx hb d_S_mergeDown_20 rfl (lv_at hl 3 rfl) ?_
      refine lv_iload hx hb d_S_mergeDown_21 (lv_at hl 5 rfl) ?_
      refine w_add hx hb d_S_mergeDown_23 ?_
      refine w_ald X hP 4 rfl (by omega) (by decide) d_S_mergeDown_24 ?_
      refine w_ast (ws' := WS cI a hB k g rn gl f0 (upd sp i (f0 (y0 + i))) fF fL) X hP hD hS 2 rfl (by omega) (by decide) rfl d_S_mergeDown_25 ?_
      clear hP hD hS; intro H locs hP hD hS
      refine w_inc (k := 5) (lv' := [(5, .int (nI (i + 1))), (0, .ref (a 10)), (1, .int (nI x0)), (2, .int (nI n1)), (3, .int (nI y0)), (4, .int (nI n2))]) hx hb d_S_mergeDown_26 hl rfl (by decide) rfl ?_
      clear hl; intro ls hl
      refine lv_goto (tgt := 3) hx hb d_S_mergeDown_29 (by decide) ?_
      refine ih (i + 1) _ H locs ls (by omega) (by omega) (fun q hq => ?_) hP hD hS (lv_sub hl [1, 2, 3, 4, 5, 0] rfl)
      rcases Nat.lt_or_ge q i with z | z
      · rw [pk_un (by omega)]; exact hall q z
      · rw [show q = i by omega, pk_us]
set_option maxHeartbeats 4000000 in
theorem l_md9 {x0 n1 y0 n2 lo mid hi : Nat} {f0 : Nat → Int32} (X : Cx D cI cJ cO p s m c b_S_mergeDown 9 R_S) (hk : k < 4) (hR : 2 ≤ R.frames ∧ 180 ≤ R.locals) (hf : cells ≤ R.cells ∧ slots ≤ R.slots) (hxy : x0 + n1 = y0) (hyn : y0 + n2 ≤ 2000) (sl : Sg (Ky k g) f0 x0 y0) (sr : Sg (Ky k g) f0 y0 (y0 + n2)) (il : In f0 x0 y0 lo mid) (ir : In f0 y0 (y0 + n2) mid hi) (hmid : lo ≤ mid ∧ mid ≤ hi ∧ hi ≤ 2000) {gl : Int32} {sp : Nat → Int32} {u : Nat} (kk : ∀ (f : Nat → Int32) (H : Heap) (locs : List Loc) (ls : Array Slot), MD (Ky k g) f0 f sp x0 n1 y0 n2 lo hi u 0 → va_P D vCL (WS cI a hB k g rn gl f sp fF fL) H → va_D A (WS cI a hB k g rn gl f sp fF fL) → va_S A H0 H locs → lv_has ls 9 [(0, .ref (a 10))] → W p l e R s m args below meth c H locs cells slots Q (F0 m 166 ls [])) : ∀ (fuel v : Nat) (f : Nat → Int32) (H : Heap) (locs : List Loc) (ls : Array Slot), v < fuel → (0 < v → u = x0) → MD (Ky k g) f0 f sp x0 n1 y0 n2 lo hi u v → va_P D vCL (WS cI a hB k g rn gl f sp fF fL) H → va_D A (WS cI a hB k g rn gl f sp fF fL) → va_S A H0 H locs → lv_has ls 9 [(0, .ref (a 10)), (6, .int (nI v - nI 1)), (7, .int (nI (u + v) - nI 1))] → W p l e R s m args below meth c H locs cells slots Q (F0 m 138 ls []) := by
  have hx := X.x
  have hb := X.b
  intro fuel
  induction fuel with
  | zero => intro v f H locs ls h; omega
  | succ fuel ih =>
    intro v f H locs ls hfu hue hM hP hD hS hl
    have hb1 := hM.2.2.1
    have hb2 := hM.2.1
    refine lv_iload hx hb d_S_mergeDown_138 (lv_at hl 1 rfl) ?_
    refine lv_if_lt (tgt := 166) hx hb d_S_mergeDown_140 (by decide) (fun h1 => ?_) (fun h1 => ?_)
    · have e : v = 0 := (dn_0 (by omega)).mp h1
      subst e
      exact kk f H locs ls hM hP hD hS (lv_sub hl [0] rfl)
    · have h1 : v ≠ 0 := fun z => h1 ((dn_0 (by omega)).mpr z)
      have hu := hue (by omega)
      obtain ⟨v1, rfl⟩ : ∃ v1, v = v1 + 1 := ⟨v - 1, by omega⟩
      refine lv_aload_n hx hb d_S_mergeDown_143 rfl (lv_at hl 0 rfl) ?_
      refine g_S_cells X hP 3 rfl rfl d_S_mergeDown_144 ?_
      refine lv_iload hx hb d_S_mergeDown_147 (lv_at hl 2 rfl) ?_
      refine w_to (y := nI (u + v1)) (dn_1 (u + v1)) ?_
      refine lv_iinc (k := 2) (v := nI (u + v1) - nI 1) (lv' := [(7, .int (nI (u + v1) - nI 1)), (0, .ref (a 10)), (6, .int (nI (v1 + 1) - nI 1))]) hx hb d_S_mergeDown_149 hl rfl (dn_dec (by omega)) (by decide) rfl ?_
      clear hl; intro ls hl
      refine lv_aload_n hx hb d_S_mergeDown_152 rfl (lv_at hl 1 rfl) ?_
      refine g_S_spare X hP 3 rfl rfl d_S_mergeDown_153 ?_
      refine lv_iload hx hb d_S_mergeDown_156 (lv_at hl 2 rfl) ?_
      refine w_to (y := nI v1) (dn_1 v1) ?_
      refine lv_iinc (k := 2) (v := nI v1 - nI 1) (lv' := [(6, .int (nI v1 - nI 1)), (7, .int (nI (u + v1) - nI 1)), (0, .ref (a 10))]) hx hb d_S_mergeDown_158 hl rfl (dn_dec (by omega)) (by decide) rfl ?_
      clear hl; intro ls hl
      refine w_ald X hP 2 rfl (by omega) (by decide) d_S_mergeDown_161 ?_
      refine w_ast (ws' := WS cI a hB k g rn gl (upd f (u + v1) (sp v1)) sp fF fL) X hP hD hS 4 rfl (by omega) (by decide) rfl d_S_mergeDown_162 ?_
      clear hP hD hS; intro H locs hP hD hS
      refine lv_goto (tgt := 138) hx hb d_S_mergeDown_163 (by decide) ?_
      exact ih v1 _ H locs ls (by omega) (fun _ => hu) (hM.takeR hxy sl sr (ir.part (Nat.le_refl _) (Nat.le_refl _) hmid.1 (Nat.le_refl _)) (fun z => by omega)) hP hD hS (lv_sub hl [2, 0, 1] rfl)
set_option maxHeartbeats 4000000 in
theorem l_md1 {x0 n1 y0 n2 lo mid hi : Nat} {f0 : Nat → Int32} (X : Cx D cI cJ cO p s m c b_S_mergeDown 9 R_S) (hk : k < 4) (hR : 2 ≤ R.frames ∧ 180 ≤ R.locals) (hf : cells ≤ R.cells ∧ slots ≤ R.slots) (hxy : x0 + n1 = y0) (hyn : y0 + n2 ≤ 2000) (sl : Sg (Ky k g) f0 x0 y0) (sr : Sg (Ky k g) f0 y0 (y0 + n2)) (il : In f0 x0 y0 lo mid) (ir : In f0 y0 (y0 + n2) mid hi) (hmid : lo ≤ mid ∧ mid ≤ hi ∧ hi ≤ 2000) {gl : Int32} {sp : Nat → Int32} (kk : ∀ (u v : Nat) (f : Nat → Int32) (H : Heap) (locs : List Loc) (ls : Array Slot), (0 < v → u = x0) → MD (Ky k g) f0 f sp x0 n1 y0 n2 lo hi u v → va_P D vCL (WS cI a hB k g rn gl f sp fF fL) H → va_D A (WS cI a hB k g rn gl f sp fF fL) → va_S A H0 H locs → lv_has ls 9 [(0, .ref (a 10)), (6, .int (nI v - nI 1)), (7, .int (nI (u + v) - nI 1))] → W p l e R s m args below meth c H locs cells slots Q (F0 m 138 ls [])) : ∀ (fuel u v : Nat) (f : Nat → Int32) (H : Heap) (locs : List Loc) (ls : Array Slot), u + v < fuel → MD (Ky k g) f0 f sp x0 n1 y0 n2 lo hi u v → va_P D vCL (WS cI a hB k g rn gl f sp fF fL) H → va_D A (WS cI a hB k g rn gl f sp fF fL) → va_S A H0 H locs → lv_has ls 9 [(0, .ref (a 10)), (1, .int (nI x0)), (2, .int (nI n1)), (3, .int (nI y0)), (4, .int (nI n2)), (5, .int (nI u - nI 1)), (6, .int (nI v - nI 1)), (7, .int (nI (u + v) - nI 1))] → W p l e R s m args below meth c H locs cells slots Q (F0 m 53 ls []) := by
  have hx := X.x
  have hb := X.b
  intro fuel
  induction fuel with
  | zero => intro u v f H locs ls h; omega
  | succ fuel ih =>
    intro u v f H locs ls hfu hM hP hD hS hl
    have hb0 := hM.1
    have hb1 := hM.2.2.1
    have hb2 := hM.2.1
    refine lv_iload hx hb d_S_mergeDown_53 (lv_at hl 5 rfl) ?_
    refine lv_iload_n hx hb d_S_mergeDown_55 rfl (lv_at hl 1 rfl) ?_
    refine lv_icmp_lt (tgt := 138) hx hb d_S_mergeDown_56 (by decide) (fun h1 => ?_) (fun h1 => ?_)
    · have h1 := (dn_lt (by omega) (by omega)).mp h1
      exact kk u v f H locs ls (fun _ => by omega) hM hP hD hS (lv_sub hl [0, 6, 7] rfl)
    · have h1 : x0 < u := Nat.lt_of_not_le fun z => h1 ((dn_lt (by omega) (by omega)).mpr z)
      refine lv_iload hx hb d_S_mergeDown_59 (lv_at hl 6 rfl) ?_
      refine lv_if_lt (tgt := 138) hx hb d_S_mergeDown_61 (by decide) (fun h2 => ?_) (fun h2 => ?_)
      · have h2 := (dn_0 (by omega)).mp h2
        exact kk u v f H locs ls (fun _ => by omega) hM hP hD hS (lv_sub hl [0, 6, 7] rfl)
      · have h2 : v ≠ 0 := fun z => h2 ((dn_0 (by omega)).mpr z)
        obtain ⟨v1, rfl⟩ : ∃ v1, v = v1 + 1 := ⟨v - 1, by omega⟩
        obtain ⟨u1, rfl⟩ : ∃ u1, u = u1 + 1 := ⟨u - 1, by omega⟩
        refine lv_aload_n hx hb d_S_mergeDown_64 rfl (lv_at hl 0 rfl) ?_
        refine g_S_order X hP 3 rfl rfl d_S_mergeDown_65 ?_
        refine lv_aload_n hx hb d_S_mergeDown_68 rfl (lv_at hl 0 rfl) ?_
        refine g_S_spare X hP 3 rfl rfl d_S_mergeDown_69 ?_
        refine lv_iload hx hb d_S_mergeDown_72 (lv_at hl 6 rfl) ?_
        refine w_to (y := nI v1) (dn_1 v1) ?_
        refine w_ald X hP 2 rfl (by omega) (by decide) d_S_mergeDown_74 ?_
        refine lv_aload_n hx hb d_S_mergeDown_75 rfl (lv_at hl 0 rfl) ?_
        refine g_S_cells X hP 3 rfl rfl d_S_mergeDown_76 ?_
        refine lv_iload hx hb d_S_mergeDown_79 (lv_at hl 5 rfl) ?_
        refine w_to (y := nI u1) (dn_1 u1) ?_
        refine w_ald X hP 4 rfl (by omega) (by decide) d_S_mergeDown_81 ?_
        refine cS_cmp X hk hP hR hf hl.1 (hM.vdS ir hmid.2.2 (by omega)) (hM.vdF il (by omega) (by omega) (by omega)) (by decide) d_S_mergeDown_82 (fun rr hrr => ?_)
        refine lv_if_ge (tgt := 94) hx hb d_S_mergeDown_87 (by decide) (fun h3 => ?_) (fun h3 => ?_)
        · refine lv_iconst (v := nI 0) hx hb d_S_mergeDown_94 (by decide) ?_
          refine lv_istore (lv' := [(8, .int (nI 0)), (0, .ref (a 10)), (1, .int (nI x0)), (2, .int (nI n1)), (3, .int (nI y0)), (4, .int (nI n2)), (5, .int (nI (u1 + 1) - nI 1)), (6, .int (nI (v1 + 1) - nI 1)), (7, .int (nI (u1 + 1 + (v1 + 1)) - nI 1))]) hx hb d_S_mergeDown_95 hl (by decide) rfl ?_
          clear hl; intro ls hl
          refine lv_aload_n hx hb d_S_mergeDown_97 rfl (lv_at hl 1 rfl) ?_
          refine g_S_cells X hP 3 rfl rfl d_S_mergeDown_98 ?_
          refine lv_iload hx hb d_S_mergeDown_101 (lv_at hl 8 rfl) ?_
          refine w_to (y := nI (u1 + 1 + v1)) (dn_1 (u1 + 1 + v1)) ?_
          refine lv_iload hx hb d_S_mergeDown_103 (lv_at hl 0 rfl) ?_
          refine w_if_eq (tgt := 121) hx hb d_S_mergeDown_105 (by decide) (by omega) (fun h4 => ?_) (fun h4 => ?_)
          · refine lv_aload_n hx hb d_S_mergeDown_121 rfl (lv_at hl 1 rfl) ?_
            refine g_S_spare X hP 3 rfl rfl d_S_mergeDown_122 ?_
            refine lv_iload hx hb d_S_mergeDown_125 (lv_at hl 7 rfl) ?_
            refine w_to (y := nI v1) (dn_1 v1) ?_
            refine lv_iinc (k := 7) (v := nI v1 - nI 1) (lv' := [(6, .int (nI v1 - nI 1)), (8, .int (nI 0)), (0, .ref (a 10)), (1, .int (nI x0)), (2, .int (nI n1)), (3, .int (nI y0)), (4, .int (nI n2)), (5, .int (nI (u1 + 1) - nI 1)), (7, .int (nI (u1 + 1 + (v1 + 1)) - nI 1))]) hx hb d_S_mergeDown_127 hl rfl (dn_dec (by omega)) (by decide) rfl ?_
            clear hl; intro ls hl
            refine w_ald X hP 2 rfl (by omega) (by decide) d_S_mergeDown_130 ?_
            refine w_ast (ws' := WS cI a hB k g rn gl (upd f (u1 + 1 + v1) (sp v1)) sp fF fL) X hP hD hS 4 rfl (by omega) (by decide) rfl d_S_mergeDown_131 ?_
            clear hP hD hS; intro H locs hP hD hS
            refine lv_iinc (k := 8) (v := nI (u1 + 1 + v1) - nI 1) (lv' := [(7, .int (nI (u1 + 1 + v1) - nI 1)), (6, .int (nI v1 - nI 1)), (8, .int (nI 0)), (0, .ref (a 10)), (1, .int (nI x0)), (2, .int (nI n1)), (3, .int (nI y0)), (4, .int (nI n2)), (5, .int (nI (u1 + 1) - nI 1))]) hx hb d_S_mergeDown_132 hl rfl (dn_dec (by omega)) (by decide) rfl ?_
            clear hl; intro ls hl
            refine lv_goto (tgt := 53) hx hb d_S_mergeDown_135 (by decide) ?_
            exact ih (u1 + 1) v1 _ H locs ls (by omega) (hM.takeR hxy sl sr (ir.part (Nat.le_refl _) (Nat.le_refl _) hmid.1 (Nat.le_refl _)) (fun _ => hM.cmpR il ir hmid.2.2 (by omega) (hrr.ge.mp h3))) hP hD hS (lv_sub hl [3, 4, 5, 6, 7, 8, 1, 0] rfl)
          · exact absurd rfl h4
        · refine lv_iconst (v := nI 1) hx hb d_S_mergeDown_90 (by decide) ?_
          refine lv_goto (tgt := 95) hx hb d_S_mergeDown_91 (by decide) ?_
          refine lv_istore (lv' := [(8, .int (nI 1)), (0, .ref (a 10)), (1, .int (nI x0)), (2, .int (nI n1)), (3, .int (nI y0)), (4, .int (nI n2)), (5, .int (nI (u1 + 1) - nI 1)), (6, .int (nI (v1 + 1) - nI 1)), (7, .int (nI (u1 + 1 + (v1 + 1)) - nI 1))]) hx hb d_S_mergeDown_95 hl (by decide) rfl ?_
          clear hl; intro ls hl
          refine lv_aload_n hx hb d_S_mergeDown_97 rfl (lv_at hl 1 rfl) ?_
          refine g_S_cells X hP 3 rfl rfl d_S_mergeDown_98 ?_
          refine lv_iload hx hb d_S_mergeDown_101 (lv_at hl 8 rfl) ?_
          refine w_to (y := nI (u1 + (v1 + 1))) ((pk_sub (by omega)).trans (congrArg nI (by omega))) ?_
          refine lv_iload hx hb d_S_mergeDown_103 (lv_at hl 0 rfl) ?_
          refine w_if_eq (tgt := 121) hx hb d_S_mergeDown_105 (by decide) (by omega) (fun h4 => ?_) (fun h4 => ?_)
          · exact absurd h4 (by decide)
          · refine lv_aload_n hx hb d_S_mergeDown_108 rfl (lv_at hl 1 rfl) ?_
            refine g_S_cells X hP 3 rfl rfl d_S_mergeDown_109 ?_
            refine lv_iload hx hb d_S_mergeDown_112 (lv_at hl 6 rfl) ?_
            refine w_to (y := nI u1) (dn_1 u1) ?_
            refine lv_iinc (k := 6) (v := nI u1 - nI 1) (lv' := [(5, .int (nI u1 - nI 1)), (8, .int (nI 1)), (0, .ref (a 10)), (1, .int (nI x0)), (2, .int (nI n1)), (3, .int (nI y0)), (4, .int (nI n2)), (6, .int (nI (v1 + 1) - nI 1)), (7, .int (nI (u1 + 1 + (v1 + 1)) - nI 1))]) hx hb d_S_mergeDown_114 hl rfl (dn_dec (by omega)) (by decide) rfl ?_
            clear hl; intro ls hl
            refine w_ald X hP 4 rfl (by omega) (by decide) d_S_mergeDown_117 ?_
            refine lv_goto (tgt := 131) hx hb d_S_mergeDown_118 (by decide) ?_
            refine w_ast (ws' := WS cI a hB k g rn gl (upd f (u1 + (v1 + 1)) (f u1)) sp fF fL) X hP hD hS 4 rfl (by omega) (by decide) rfl d_S_mergeDown_131 ?_
            clear hP hD hS; intro H locs hP hD hS
            refine lv_iinc (k := 8) (v := nI (u1 + (v1 + 1)) - nI 1) (lv' := [(7, .int (nI (u1 + (v1 + 1)) - nI 1)), (5, .int (nI u1 - nI 1)), (8, .int (nI 1)), (0, .ref (a 10)), (1, .int (nI x0)), (2, .int (nI n1)), (3, .int (nI y0)), (4, .int (nI n2)), (6, .int (nI (v1 + 1) - nI 1))]) hx hb d_S_mergeDown_132 hl rfl ((dn_dec (by omega)).trans (by rw [show u1 + 1 + (v1 + 1) - 1 = u1 + (v1 + 1) by omega])) (by decide) rfl ?_
            clear hl; intro ls hl
            refine lv_goto (tgt := 53) hx hb d_S_mergeDown_135 (by decide) ?_
            exact ih u1 (v1 + 1) _ H locs ls (by omega) (hM.takeL hxy (by omega) sl sr (il.part (Nat.le_refl _) (Nat.le_refl _) (Nat.le_refl _) hmid.2.1) (fun _ => Or.inl (hrr.nge h3))) hP hD hS (lv_sub hl [3, 4, 5, 6, 7, 1, 8, 0] rfl)
end SMD
set_option maxHeartbeats 4000000 in
/-- mergeDown(x0, n1, y0, n2) -/
theorem c_S_mergeDown (l : Launch) (D : va_G) (cI cJ cO : ClassId) (a : Nat → Nat) (hB k : Nat) (g : Nat → Int32) (rn gl : Int32) (f0 fSp fF fL : Nat → Int32) (sz x0 n1 y0 n2 lo mid hi : Nat) (hk : k < 4) (hxy : x0 + n1 = y0) (hyn : y0 + n2 ≤ 2000) (sl : Sg (Ky k g) f0 x0 y0) (sr : Sg (Ky k g) f0 y0 (y0 + n2)) (il : In f0 x0 y0 lo mid) (ir : In f0 y0 (y0 + n2) mid hi) (hmid : lo ≤ mid ∧ mid ≤ hi ∧ hi ≤ 2000) : Met l y_S_mergeDown [Cond.code y_S_mergeDown b_S_mergeDown 9 none] (rk 2 0 0) (PW D cI cJ cO [.ref (a 10), .int (nI x0), .int (nI n1), .int (nI y0), .int (nI n2)] sz (WS cI a hB k g rn gl f0 fSp fF fL)) (va_Qv (fun u : (Nat → Int32) × (Nat → Int32) × Int32 => Sg (Ky k g) u.1 x0 (y0 + n2) ∧ Iv f0 u.1 x0 (y0 + n2) x0 (y0 + n2) ∧ ∀ q, (q < x0 ∨ y0 + n2 ≤ q) → u.1 q = f0 q) (BW D (va_A (WS cI a hB k g rn gl f0 fSp fF fL) sz) (fun u => WS cI a hB k g rn u.2.2 u.1 u.2.1 fF fL)) (va_A (WS cI a hB k g rn gl f0 fSp fF fL) sz)) 0 0 (va_A (WS cI a hB k g rn gl f0 fSp fF fL) sz) := by
  refine entW (by decide) (Nat.le_of_ble_eq_true rfl) ?_
  intro p e s m below meth c ls X hr hlocks hnm hsz hP hD hA hl
  have hx := X.x
  have hb := X.b
  have hR : 2 ≤ (rk 2 0 0).frames ∧ 180 ≤ (rk 2 0 0).locals := by decide
  have hf : 0 ≤ (rk 2 0 0).cells ∧ 0 ≤ (rk 2 0 0).slots := by decide
  have hS : va_S (va_A (WS cI a hB k g rn gl f0 fSp fF fL) sz) s.heap s.heap [] := va_S.rf
  have hl : lv_has ls 9 [(0, .ref (a 10)), (1, .int (nI x0)), (2, .int (nI n1)), (3, .int (nI y0)), (4, .int (nI n2))] := hl
  refine lv_iconst (v := nI 0) hx hb d_S_mergeDown_0 (by decide) ?_
  refine lv_istore (lv' := [(5, .int (nI 0)), (0, .ref (a 10)), (1, .int (nI x0)), (2, .int (nI n1)), (3, .int (nI y0)), (4, .int (nI n2))]) hx hb d_S_mergeDown_1 hl (by decide) rfl ?_
  clear hl; intro ls hl
  refine l_md0 X hk hR hf hxy hyn sl sr il ir hmid ?_ (n2 + 1) 0 fSp _ _ ls (by omega) (by omega) (fun q h => by omega) hP hD hS (lv_sub hl [1, 2, 3, 4, 5, 0] rfl)
  clear hP hD hS hl ls; intro sp H locs ls hsp hP hD hS hl
  refine lv_iload_n hx hb d_S_mergeDown_32 rfl (lv_at hl 1 rfl) ?_
  refine lv_iload_n hx hb d_S_mergeDown_33 rfl (lv_at hl 2 rfl) ?_
  refine w_add hx hb d_S_mergeDown_34 ?_
  refine lv_iconst (v := nI 1) hx hb d_S_mergeDown_35 (by decide) ?_
  refine lv_isub hx hb d_S_mergeDown_36 ?_
  refine lv_istore (lv' := [(5, .int ((nI (x0 + n1)) - (nI 1))), (0, .ref (a 10)), (1, .int (nI x0)), (2, .int (nI n1)), (3, .int (nI y0)), (4, .int (nI n2))]) hx hb d_S_mergeDown_37 hl (by decide) rfl ?_
  clear hl; intro ls hl
  refine lv_iload hx hb d_S_mergeDown_39 (lv_at hl 5 rfl) ?_
  refine lv_iconst (v := nI 1) hx hb d_S_mergeDown_41 (by decide) ?_
  refine lv_isub hx hb d_S_mergeDown_42 ?_
  refine lv_istore (lv' := [(6, .int ((nI n2) - (nI 1))), (5, .int ((nI (x0 + n1)) - (nI 1))), (0, .ref (a 10)), (1, .int (nI x0)), (2, .int (nI n1)), (3, .int (nI y0)), (4, .int (nI n2))]) hx hb d_S_mergeDown_43 hl (by decide) rfl ?_
  clear hl; intro ls hl
  refine lv_iload_n hx hb d_S_mergeDown_45 rfl (lv_at hl 5 rfl) ?_
  refine lv_iload hx hb d_S_mergeDown_46 (lv_at hl 6 rfl) ?_
  refine w_add hx hb d_S_mergeDown_48 ?_
  refine lv_iconst (v := nI 1) hx hb d_S_mergeDown_49 (by decide) ?_
  refine lv_isub hx hb d_S_mergeDown_50 ?_
  refine lv_istore (lv' := [(7, .int ((nI (y0 + n2)) - (nI 1))), (6, .int ((nI n2) - (nI 1))), (5, .int ((nI (x0 + n1)) - (nI 1))), (0, .ref (a 10)), (1, .int (nI x0)), (2, .int (nI n1)), (3, .int (nI y0)), (4, .int (nI n2))]) hx hb d_S_mergeDown_51 hl (by decide) rfl ?_
  clear hl; intro ls hl
  rw [hxy] at hl
  refine l_md1 X hk hR hf hxy hyn sl sr il ir hmid (sp := sp) ?_ (y0 + n2 + 1) y0 n2 _ H locs ls (by omega) (MD.start hxy hsp) hP hD hS (lv_sub hl [3, 4, 5, 6, 7, 2, 1, 0] rfl)
  clear hP hD hS hl ls locs H; intro u v f1 H locs ls hij hM hP hD hS hl
  refine l_md9 X hk hR hf hxy hyn sl sr il ir hmid ?_ (v + 1) v _ H locs ls (by omega) hij hM hP hD hS hl
  clear hM hP hD hS hl ls locs H; intro f H locs ls hM hP hD hS hl
  obtain ⟨h1, h2, h3⟩ := hM.done hxy sl (il.part (Nat.le_refl _) (Nat.le_refl _) (Nat.le_refl _) hmid.2.1)
  exact W.vret hx hb hr (fun t ht hW => ⟨⟨(f, sp, gl), rfl, ⟨h1, h2, h3⟩, by rw [ht]; exact hP, hD⟩, hS.F ht⟩) hS.2.2 d_S_mergeDown_166
