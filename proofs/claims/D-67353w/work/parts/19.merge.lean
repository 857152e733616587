theorem mv_step {F f : Nat → Int32} {kx i : Nat} (h1 : kx < i) (hh : ∀ q, F q = if kx < q ∧ q < i then f (q + 1) else f q) : ∀ q, upd F i (F (i + 1)) q = if kx < q ∧ q < i + 1 then f (q + 1) else f q := fun q => by
  by_cases z : q = i
  · rw [z, pk_us, hh, if_neg (by omega), if_pos (by omega)]
  · rw [pk_un z, hh]
    by_cases c1 : kx < q ∧ q < i
    · rw [if_pos c1, if_pos (by omega)]
    · rw [if_neg c1, if_neg (by omega)]
section SM
variable {D : va_G} {cI cJ cO : ClassId} {p : Program} {l : Launch} {e : Env} {R : Room} {s : State} {m : MethodId} {args : Array Value} {below : List Frame} {meth : Method} {c : Code} {cells slots : Nat} {Q : State → Prop}
variable {a : Nat → Nat} {hB k : Nat} {g : Nat → Int32} {A : Nat → Prop} {H0 : Heap}
set_option maxHeartbeats 4000000 in
theorem l_mg {kx r1 x0 n1 y0 n2 : Nat} (X : Cx D cI cJ cO p s m c b_S_merge 7 R_S) (hk1 : kx + 1 < r1) (hr : r1 ≤ 40) {gl : Int32} {f fSp fF fL : Nat → Int32} (kk : ∀ (F L : Nat → Int32) (H : Heap) (locs : List Loc) (ls : Array Slot), (∀ q, F q = if kx < q ∧ q < r1 - 1 then fF (q + 1) else fF q) → (∀ q, L q = if kx < q ∧ q < r1 - 1 then fL (q + 1) else fL q) → va_P D vCL (WS cI a hB k g (nI r1) gl f fSp F L) H → va_D A (WS cI a hB k g (nI r1) gl f fSp F L) → va_S A H0 H locs → lv_has ls 7 [(0, .ref (a 10)), (1, .int (nI kx)), (2, .int (nI x0)), (3, .int (nI n1)), (4, .int (nI y0)), (5, .int (nI n2))] → W p l e R s m args below meth c H locs cells slots Q (F0 m 98 ls [])) : ∀ (fuel i : Nat) (F L : Nat → Int32) (H : Heap) (locs : List Loc) (ls : Array Slot), r1 - i < fuel → kx + 1 ≤ i → i < r1 → (∀ q, F q = if kx < q ∧ q < i then fF (q + 1) else fF q) → (∀ q, L q = if kx < q ∧ q < i then fL (q + 1) else fL q) → va_P D vCL (WS cI a hB k g (nI r1) gl f fSp F L) H → va_D A (WS cI a hB k g (nI r1) gl f fSp F L) → va_S A H0 H locs → lv_has ls 7 [(0, .ref (a 10)), (1, .int (nI kx)), (2, .int (nI x0)), (3, .int (nI n1)), (4, .int (nI y0)), (5, .int (nI n2)), (6, .int (nI i))] → W p l e R s m args below meth c H locs cells slots Q (F0 m 49 ls []) := by
  have hx := X.x
  have hb := X.b
  intro fuel
  induction fuel with
  | zero => intro i F L H locs ls h; omega
  | succ fuel ih =>
    intro i F L H locs ls hfu h1 h2 hF hL hP hD hS hl
    refine lv_iload hx hb d_S_merge_49 (lv_at hl 6 rfl) ?_
    refine lv_iconst (v := nI 1) hx hb d_S_merge_51 (by decide) ?_
    refine w_add hx hb d_S_merge_52 ?_
    refine lv_aload_n hx hb d_S_merge_53 rfl (lv_at hl 0 rfl) ?_
    refine g_S_runs X hP 3 rfl rfl d_S_merge_54 ?_
    refine w_icmp_ge (tgt := 98) hx hb d_S_merge_57 (by decide) ⟨by omega, by omega⟩ (fun h3 => ?_) (fun h3 => ?_)
    · have e : r1 - 1 = i := by omega
      exact kk F L H locs ls (by rw [e]; exact hF) (by rw [e]; exact hL) hP hD hS (lv_sub hl [0, 1, 2, 3, 4, 5] rfl)
    · refine lv_aload_n hx hb d_S_merge_60 rfl (lv_at hl 0 rfl) ?_
      refine g_S_from X hP 3 rfl rfl d_S_merge_61 ?_
      refine lv_iload hx hb d_S_merge_64 (lv_at hl 6 rfl) ?_
      refine lv_aload_n hx hb d_S_merge_66 rfl (lv_at hl 0 rfl) ?_
      refine g_S_from X hP 3 rfl rfl d_S_merge_67 ?_
      refine lv_iload hx hb d_S_merge_70 (lv_at hl 6 rfl) ?_
      refine lv_iconst (v := nI 1) hx hb d_S_merge_72 (by decide) ?_
      refine w_add hx hb d_S_merge_73 ?_
      refine w_ald X hP 0 rfl (by omega) (by decide) d_S_merge_74 ?_
      refine w_ast (ws' := WS cI a hB k g (nI r1) gl f fSp (upd F i (F (i + 1))) L) X hP hD hS 0 rfl (by omega) (by decide) rfl d_S_merge_75 ?_
      clear hP hD hS; intro H locs hP hD hS
      refine lv_aload_n hx hb d_S_merge_76 rfl (lv_at hl 0 rfl) ?_
      refine g_S_length X hP 3 rfl rfl d_S_merge_77 ?_
      refine lv_iload hx hb d_S_merge_80 (lv_at hl 6 rfl) ?_
      refine lv_aload_n hx hb d_S_merge_82 rfl (lv_at hl 0 rfl) ?_
      refine g_S_length X hP 3 rfl rfl d_S_merge_83 ?_
      refine lv_iload hx hb d_S_merge_86 (lv_at hl 6 rfl) ?_
      refine lv_iconst (v := nI 1) hx hb d_S_merge_88 (by decide) ?_
      refine w_add hx hb d_S_merge_89 ?_
      refine w_ald X hP 1 rfl (by omega) (by decide) d_S_merge_90 ?_
      refine w_ast (ws' := WS cI a hB k g (nI r1) gl f fSp (upd F i (F (i + 1))) (upd L i (L (i + 1)))) X hP hD hS 1 rfl (by omega) (by decide) rfl d_S_merge_91 ?_
      clear hP hD hS; intro H locs hP hD hS
      refine w_inc (k := 6) (lv' := [(6, .int (nI (i + 1))), (0, .ref (a 10)), (1, .int (nI kx)), (2, .int (nI x0)), (3, .int (nI n1)), (4, .int (nI y0)), (5, .int (nI n2))]) hx hb d_S_merge_92 hl rfl (by decide) rfl ?_
      clear hl; intro ls hl
      refine lv_goto (tgt := 49) hx hb d_S_merge_95 (by decide) ?_
      exact ih (i + 1) _ _ H locs ls (by omega) (by omega) (by omega) (mv_step (by omega) hF) (mv_step (by omega) hL) hP hD hS (lv_sub hl [1, 2, 3, 4, 5, 6, 0] rfl)
end SM
set_option maxHeartbeats 8000000 in
/-- merge(kx): the runs kx and kx + 1 become one -/
theorem c_S_merge (l : Launch) (D : va_G) (cI cJ cO : ClassId) (a : Nat → Nat) (hB k : Nat) (g : Nat → Int32) (r0 gl : Int32) (f0 fSp fF fL : Nat → Int32) (sz kx r1 x0 n1 y0 n2 : Nat) (hr0 : r0 = nI r1) (hk : k < 4) (hk1 : kx + 1 < r1) (hr1 : r1 ≤ 40) (hxy : x0 + n1 = y0) (hyn : y0 + n2 ≤ 2000) (hn1 : 1 ≤ n1) (hn2 : 1 ≤ n2) (e1 : fF kx = nI x0) (e2 : fL kx = nI n1) (e3 : fF (kx + 1) = nI y0) (e4 : fL (kx + 1) = nI n2) (hRL : Rn (Ky k g) f0 x0 y0) (hRR : Rn (Ky k g) f0 y0 (y0 + n2)) : Met l y_S_merge [Cond.code y_S_merge b_S_merge 7 none] (rk 4 0 0) (PW D cI cJ cO [.ref (a 10), .int (nI kx)] sz (WS cI a hB k g r0 gl f0 fSp fF fL)) (va_Qv (fun u : (Nat → Int32) × (Nat → Int32) × Int32 × (Nat → Int32) × (Nat → Int32) => (Rn (Ky k g) u.1 x0 (y0 + n2) ∧ ∀ t, (t < x0 ∨ y0 + n2 ≤ t) → u.1 t = f0 t) ∧ (∀ q, u.2.2.2.1 q = if kx < q ∧ q + 1 < r1 then fF (q + 1) else fF q) ∧ (∀ q, u.2.2.2.2 q = if kx < q ∧ q + 1 < r1 then fL (q + 1) else if q = kx then nI (n1 + n2) else fL q)) (BW D (va_A (WS cI a hB k g r0 gl f0 fSp fF fL) sz) (fun u => WS cI a hB k g (nI (r1 - 1)) u.2.2.1 u.1 u.2.1 u.2.2.2.1 u.2.2.2.2)) (va_A (WS cI a hB k g r0 gl f0 fSp fF fL) sz)) 0 0 (va_A (WS cI a hB k g r0 gl f0 fSp fF fL) sz) := by
  subst hr0
  refine entW (by decide) (Nat.le_of_ble_eq_true rfl) ?_
  intro p e s m below meth c ls X hr hlocks hnm hsz hP hD hA hl
  have hx := X.x
  have hb := X.b
  have hR : 4 ≤ (rk 4 0 0).frames ∧ 260 ≤ (rk 4 0 0).locals := by decide
  have hf : 0 ≤ (rk 4 0 0).cells ∧ 0 ≤ (rk 4 0 0).slots := by decide
  have hS : va_S (va_A (WS cI a hB k g (nI r1) gl f0 fSp fF fL) sz) s.heap s.heap [] := va_S.rf
  generalize hAe : va_A (WS cI a hB k g (nI r1) gl f0 fSp fF fL) sz = A at hP hD hA hS ⊢
  have hl : lv_has ls 7 [(0, .ref (a 10)), (1, .int (nI kx))] := hl
  refine lv_aload_n hx hb d_S_merge_0 rfl (lv_at hl 0 rfl) ?_
  refine g_S_from X hP 3 rfl rfl d_S_merge_1 ?_
  refine lv_iload_n hx hb d_S_merge_4 rfl (lv_at hl 1 rfl) ?_
  refine w_ald X hP 0 rfl (by omega) (by decide) d_S_merge_5 ?_
  refine w_to (y := nI x0) (e1) ?_
  refine lv_istore_n (lv' := [(2, .int (nI x0)), (0, .ref (a 10)), (1, .int (nI kx))]) hx hb d_S_merge_6 rfl hl (by decide) rfl ?_
  clear hl; intro ls hl
  refine lv_aload_n hx hb d_S_merge_7 rfl (lv_at hl 1 rfl) ?_
  refine g_S_length X hP 3 rfl rfl d_S_merge_8 ?_
  refine lv_iload_n hx hb d_S_merge_11 rfl (lv_at hl 2 rfl) ?_
  refine w_ald X hP 1 rfl (by omega) (by decide) d_S_merge_12 ?_
  refine w_to (y := nI n1) (e2) ?_
  refine lv_istore_n (lv' := [(3, .int (nI n1)), (2, .int (nI x0)), (0, .ref (a 10)), (1, .int (nI kx))]) hx hb d_S_merge_13 rfl hl (by decide) rfl ?_
  clear hl; intro ls hl
  refine lv_aload_n hx hb d_S_merge_14 rfl (lv_at hl 2 rfl) ?_
  refine g_S_from X hP 3 rfl rfl d_S_merge_15 ?_
  refine lv_iload_n hx hb d_S_merge_18 rfl (lv_at hl 3 rfl) ?_
  refine lv_iconst (v := nI 1) hx hb d_S_merge_19 (by decide) ?_
  refine w_add hx hb d_S_merge_20 ?_
  refine w_ald X hP 0 rfl (by omega) (by decide) d_S_merge_21 ?_
  refine w_to (y := nI y0) (e3) ?_
  refine lv_istore (lv' := [(4, .int (nI y0)), (3, .int (nI n1)), (2, .int (nI x0)), (0, .ref (a 10)), (1, .int (nI kx))]) hx hb d_S_merge_22 hl (by decide) rfl ?_
  clear hl; intro ls hl
  refine lv_aload_n hx hb d_S_merge_24 rfl (lv_at hl 3 rfl) ?_
  refine g_S_length X hP 3 rfl rfl d_S_merge_25 ?_
  refine lv_iload_n hx hb d_S_merge_28 rfl (lv_at hl 4 rfl) ?_
  refine lv_iconst (v := nI 1) hx hb d_S_merge_29 (by decide) ?_
  refine w_add hx hb d_S_merge_30 ?_
  refine w_ald X hP 1 rfl (by omega) (by decide) d_S_merge_31 ?_
  refine w_to (y := nI n2) (e4) ?_
  refine lv_istore (lv' := [(5, .int (nI n2)), (4, .int (nI y0)), (3, .int (nI n1)), (2, .int (nI x0)), (0, .ref (a 10)), (1, .int (nI kx))]) hx hb d_S_merge_32 hl (by decide) rfl ?_
  clear hl; intro ls hl
  refine lv_aload_n hx hb d_S_merge_34 rfl (lv_at hl 4 rfl) ?_
  refine g_S_length X hP 3 rfl rfl d_S_merge_35 ?_
  refine lv_iload_n hx hb d_S_merge_38 rfl (lv_at hl 5 rfl) ?_
  refine lv_iload_n hx hb d_S_merge_39 rfl (lv_at hl 2 rfl) ?_
  refine lv_iload hx hb d_S_merge_40 (lv_at hl 0 rfl) ?_
  refine w_add hx hb d_S_merge_42 ?_
  refine w_ast (ws' := WS cI a hB k g (nI r1) gl f0 fSp fF (upd fL kx (nI (n1 + n2)))) X hP hD hS 1 rfl (by omega) (by decide) rfl d_S_merge_43 ?_
  clear hP hD hS; intro H locs hP hD hS
  refine lv_iload_n hx hb d_S_merge_44 rfl (lv_at hl 5 rfl) ?_
  refine lv_iconst (v := nI 1) hx hb d_S_merge_45 (by decide) ?_
  refine w_add hx hb d_S_merge_46 ?_
  refine lv_istore (lv' := [(6, .int (nI (kx + 1))), (5, .int (nI n2)), (4, .int (nI y0)), (3, .int (nI n1)), (2, .int (nI x0)), (0, .ref (a 10)), (1, .int (nI kx))]) hx hb d_S_merge_47 hl (by decide) rfl ?_
  clear hl; intro ls hl
  refine l_mg X hk1 hr1 ?_ (r1 + 1) (kx + 1) fF _ _ _ ls (by omega) (by omega) (by omega) (fun q => by rw [if_neg (by omega)]) (fun q => by rw [if_neg (by omega)]) hP hD hS (lv_sub hl [5, 6, 4, 3, 2, 1, 0] rfl)
  clear hP hD hS hl ls; clear locs H; intro F L H locs ls hF hL hP hD hS hl
  have hF2 : ∀ q, F q = if kx < q ∧ q + 1 < r1 then fF (q + 1) else fF q := fun q => by
    rw [hF q]
    by_cases z : kx < q ∧ q < r1 - 1
    · rw [if_pos z, if_pos (by omega)]
    · rw [if_neg z, if_neg (by omega)]
  have hL2 : ∀ q, L q = if kx < q ∧ q + 1 < r1 then fL (q + 1) else if q = kx then nI (n1 + n2) else fL q := fun q => by
    rw [hL q]
    by_cases z : kx < q ∧ q < r1 - 1
    · rw [if_pos z, if_pos (by omega), pk_un (by omega)]
    · rw [if_neg z, if_neg (by omega)]
      by_cases y : q = kx
      · rw [y, pk_us, if_pos rfl]
      · rw [pk_un y, if_neg y]
  refine lv_aload_n hx hb d_S_merge_98 rfl (lv_at hl 0 rfl) ?_
  refine lv_dup hx hb d_S_merge_99 rfl ?_
  refine g_S_runs X hP 3 rfl rfl d_S_merge_100 ?_
  refine lv_iconst (v := nI 1) hx hb d_S_merge_103 (by decide) ?_
  refine w_sub hx hb d_S_merge_104 (by omega) ?_
  refine p_S_runs (ws' := WS cI a hB k g (nI (r1 - 1)) gl f0 fSp F L) X hP hD hS 3 rfl (Nat.le_of_ble_eq_true rfl) rfl d_S_merge_105 ?_
  clear hP hD hS; intro H locs hP hD hS
  refine lv_aload_n hx hb d_S_merge_108 rfl (lv_at hl 0 rfl) ?_
  refine lv_aload_n hx hb d_S_merge_109 rfl (lv_at hl 0 rfl) ?_
  refine g_S_cells X hP 3 rfl rfl d_S_merge_110 ?_
  refine lv_iload hx hb d_S_merge_113 (lv_at hl 4 rfl) ?_
  refine w_ald X hP 4 rfl (by omega) (by decide) d_S_merge_115 ?_
  refine lv_iload_n hx hb d_S_merge_116 rfl (lv_at hl 2 rfl) ?_
  refine lv_iload_n hx hb d_S_merge_117 rfl (lv_at hl 3 rfl) ?_
  refine rd_V (C := R_S) X (c_S_behind l D cI cJ cO a hB k g (nI (r1 - 1)) gl f0 fSp F L _ _ _ hk (hRR.2.vd (by omega) (Nat.le_refl _) (by omega)) (by omega) (by rw [hxy]; exact hRL.2.part (Nat.le_refl _) (Nat.le_refl _) (Nat.zero_le _) (by omega)) (fun i j z1 z2 z3 => hRL.1.mono z1 z2 (by omega))) (cx_B X _ wk_S_59 wi_S_behind wc_S_behind wd_S_behind ⟨by omega, by omega⟩) wm_S_behind wl_S_behind hP (rcv X hP (ci := 1) (q0 := 3) rfl rfl) rfl hl.1 rfl (Nat.le_of_ble_eq_true rfl) d_S_merge_118 hf (fun rr hrr => ?_)
  obtain ⟨q, rfl, hq1, hq2, hq3⟩ := hrr
  refine lv_istore (lv' := [(6, .int (nI q)), (0, .ref (a 10)), (1, .int (nI kx)), (2, .int (nI x0)), (3, .int (nI n1)), (4, .int (nI y0)), (5, .int (nI n2))]) hx hb d_S_merge_121 hl (by decide) rfl ?_
  clear hl; intro ls hl
  refine lv_iload_n hx hb d_S_merge_123 rfl (lv_at hl 3 rfl) ?_
  refine lv_iload hx hb d_S_merge_124 (lv_at hl 0 rfl) ?_
  refine w_add hx hb d_S_merge_126 ?_
  refine lv_istore_n (lv' := [(2, .int (nI (x0 + q))), (6, .int (nI q)), (0, .ref (a 10)), (1, .int (nI kx)), (3, .int (nI n1)), (4, .int (nI y0)), (5, .int (nI n2))]) hx hb d_S_merge_127 rfl hl (by decide) rfl ?_
  clear hl; intro ls hl
  refine lv_iload_n hx hb d_S_merge_128 rfl (lv_at hl 4 rfl) ?_
  refine lv_iload hx hb d_S_merge_129 (lv_at hl 1 rfl) ?_
  refine w_sub hx hb d_S_merge_131 (by omega) ?_
  refine lv_istore_n (lv' := [(3, .int (nI (n1 - q))), (2, .int (nI (x0 + q))), (6, .int (nI q)), (0, .ref (a 10)), (1, .int (nI kx)), (4, .int (nI y0)), (5, .int (nI n2))]) hx hb d_S_merge_132 rfl hl (by decide) rfl ?_
  clear hl; intro ls hl
  refine lv_iload_n hx hb d_S_merge_133 rfl (lv_at hl 0 rfl) ?_
  refine w_if_ne (tgt := 138) hx hb d_S_merge_134 (by decide) (by omega) (fun h1 => ?_) (fun h1 => ?_)
  · refine lv_aload_n hx hb d_S_merge_138 rfl (lv_at hl 3 rfl) ?_
    refine lv_aload_n hx hb d_S_merge_139 rfl (lv_at hl 3 rfl) ?_
    refine g_S_cells X hP 3 rfl rfl d_S_merge_140 ?_
    refine lv_iload_n hx hb d_S_merge_143 rfl (lv_at hl 1 rfl) ?_
    refine lv_iload_n hx hb d_S_merge_144 rfl (lv_at hl 0 rfl) ?_
    refine w_add hx hb d_S_merge_145 ?_
    refine lv_iconst (v := nI 1) hx hb d_S_merge_146 (by decide) ?_
    refine w_sub hx hb d_S_merge_147 (by omega) ?_
    refine w_ald X hP 4 rfl (by omega) (by decide) d_S_merge_148 ?_
    refine lv_iload hx hb d_S_merge_149 (lv_at hl 5 rfl) ?_
    refine lv_iload hx hb d_S_merge_151 (lv_at hl 6 rfl) ?_
    have ex : x0 + q + (n1 - q) - 1 = y0 - 1 := by omega
    refine rd_V (C := R_S) X (c_S_notBefore l D cI cJ cO a hB k g (nI (r1 - 1)) gl f0 fSp F L _ _ _ hk (hRL.2.vd (by omega) (by omega) (by omega)) (by omega) (hRR.2.part (Nat.le_refl _) (Nat.le_refl _) (Nat.zero_le _) (by omega)) (fun i j z1 z2 z3 => hRR.1.mono z1 z2 z3)) (cx_B X _ wk_S_63 wi_S_notBefore wc_S_notBefore wd_S_notBefore ⟨by omega, by omega⟩) wm_S_notBefore wl_S_notBefore hP (rcv X hP (ci := 1) (q0 := 3) rfl rfl) rfl hl.1 rfl (Nat.le_of_ble_eq_true rfl) d_S_merge_153 hf (fun rr hrr => ?_)
    obtain ⟨m2, rfl, hm1, hm2, hm3⟩ := hrr
    rw [ex] at hm2 hm3
    refine lv_istore (lv' := [(5, .int (nI m2)), (3, .int (nI (n1 - q))), (2, .int (nI (x0 + q))), (6, .int (nI q)), (0, .ref (a 10)), (1, .int (nI kx)), (4, .int (nI y0))]) hx hb d_S_merge_156 hl (by decide) rfl ?_
    clear hl; intro ls hl
    refine lv_iload hx hb d_S_merge_158 (lv_at hl 0 rfl) ?_
    refine w_if_ne (tgt := 164) hx hb d_S_merge_160 (by decide) (by omega) (fun h2 => ?_) (fun h2 => ?_)
    · refine lv_iload_n hx hb d_S_merge_164 rfl (lv_at hl 1 rfl) ?_
      refine lv_iload hx hb d_S_merge_165 (lv_at hl 0 rfl) ?_
      refine w_icmp_gt (tgt := 183) hx hb d_S_merge_167 (by decide) ⟨by omega, by omega⟩ (fun h3 => ?_) (fun h3 => ?_)
      · refine lv_aload_n hx hb d_S_merge_183 rfl (lv_at hl 4 rfl) ?_
        refine lv_iload_n hx hb d_S_merge_184 rfl (lv_at hl 2 rfl) ?_
        refine lv_iload_n hx hb d_S_merge_185 rfl (lv_at hl 1 rfl) ?_
        refine lv_iload hx hb d_S_merge_186 (lv_at hl 6 rfl) ?_
        refine lv_iload hx hb d_S_merge_188 (lv_at hl 0 rfl) ?_
        refine wr_v (wr := []) (run_V (C := R_S) X (c_S_mergeDown l D cI cJ cO a hB k g (nI (r1 - 1)) gl f0 fSp F L H.size (x0 + q) (n1 - q) y0 m2 x0 y0 (y0 + n2) hk (by omega) (by omega) (hRL.1.part (by omega) (Nat.le_refl _)) (hRR.1.part (Nat.le_refl _) (by omega)) (hRL.2.part (by omega) (Nat.le_refl _) (Nat.le_refl _) (Nat.le_refl _)) (hRR.2.part (Nat.le_refl _) (by omega) (Nat.le_refl _) (Nat.le_refl _)) ⟨by omega, by omega, by omega⟩) (cx_B X _ wk_S_70 wi_S_mergeDown wc_S_mergeDown wd_S_mergeDown ⟨by omega, by omega⟩) wm_S_mergeDown wl_S_mergeDown hP hD [0, 1, 2, 3, 4, 5, 6, 7, 8, 9, 10] rfl (by decide) (rcv X hP (ci := 1) (q0 := 3) rfl rfl) rfl hl.1 rfl (Nat.le_of_ble_eq_true rfl) d_S_merge_190 hf) hP hD hS hA [0, 1, 2, 3, 4, 5, 6, 7, 8, 9, 10] [] rfl rfl (by decide) (fun i h => by cases h) ?_
        clear hP hD hS; intro u H locs hpost hP hD hS _
        obtain ⟨f, sp, gl2⟩ := u
        obtain ⟨g1, g2, g3⟩ := hpost
        have hdone := mg_done hxy hyn hRL hRR hn1 hn2 hq1 hm1 hq2 hm3 g1 g2 g3
        exact W.vret hx hb hr (fun t ht hW => ⟨⟨(f, sp, gl2, F, L), rfl, ⟨hdone, hF2, hL2⟩, by rw [ht]; exact hP, hD⟩, hS.F ht⟩) hS.2.2 d_S_merge_193
      · refine lv_aload_n hx hb d_S_merge_170 rfl (lv_at hl 4 rfl) ?_
        refine lv_iload_n hx hb d_S_merge_171 rfl (lv_at hl 2 rfl) ?_
        refine lv_iload_n hx hb d_S_merge_172 rfl (lv_at hl 1 rfl) ?_
        refine lv_iload hx hb d_S_merge_173 (lv_at hl 6 rfl) ?_
        refine lv_iload hx hb d_S_merge_175 (lv_at hl 0 rfl) ?_
        refine wr_v (wr := []) (run_V (C := R_S) X (c_S_mergeUp l D cI cJ cO a hB k g (nI (r1 - 1)) gl f0 fSp F L H.size (x0 + q) (n1 - q) y0 m2 x0 y0 (y0 + n2) hk (by omega) (by omega) (hRL.1.part (by omega) (Nat.le_refl _)) (hRR.1.part (Nat.le_refl _) (by omega)) (hRL.2.part (by omega) (Nat.le_refl _) (Nat.le_refl _) (Nat.le_refl _)) (hRR.2.part (Nat.le_refl _) (by omega) (Nat.le_refl _) (Nat.le_refl _)) ⟨by omega, by omega, by omega⟩) (cx_B X _ wk_S_66 wi_S_mergeUp wc_S_mergeUp wd_S_mergeUp ⟨by omega, by omega⟩) wm_S_mergeUp wl_S_mergeUp hP hD [0, 1, 2, 3, 4, 5, 6, 7, 8, 9, 10] rfl (by decide) (rcv X hP (ci := 1) (q0 := 3) rfl rfl) rfl hl.1 rfl (Nat.le_of_ble_eq_true rfl) d_S_merge_177 hf) hP hD hS hA [0, 1, 2, 3, 4, 5, 6, 7, 8, 9, 10] [] rfl rfl (by decide) (fun i h => by cases h) ?_
        clear hP hD hS; intro u H locs hpost hP hD hS _
        obtain ⟨f, sp, gl2⟩ := u
        obtain ⟨g1, g2, g3⟩ := hpost
        refine lv_goto (tgt := 193) hx hb d_S_merge_180 (by decide) ?_
        have hdone := mg_done hxy hyn hRL hRR hn1 hn2 hq1 hm1 hq2 hm3 g1 g2 g3
        exact W.vret hx hb hr (fun t ht hW => ⟨⟨(f, sp, gl2, F, L), rfl, ⟨hdone, hF2, hL2⟩, by rw [ht]; exact hP, hD⟩, hS.F ht⟩) hS.2.2 d_S_merge_193
    · subst h2
      have hdone := mg_done (f' := f0) hxy hyn hRL hRR hn1 hn2 hq1 hm1 hq2 hm3 (hRL.1.part (by omega) (by omega)) (fun i i1 i2 => ⟨i, i1, i2, rfl⟩) (fun _ _ => rfl)
      exact W.vret hx hb hr (fun t ht hW => ⟨⟨(f0, fSp, gl, F, L), rfl, ⟨hdone, hF2, hL2⟩, by rw [ht]; exact hP, hD⟩, hS.F ht⟩) hS.2.2 d_S_merge_163
  · have eq : q = n1 := by omega
    have hdone := mg_done (f' := f0) (m' := n2) hxy hyn hRL hRR hn1 hn2 hq1 (Nat.le_refl _) hq2 (fun i i1 i2 => by omega) (hRR.1.part (by omega) (Nat.le_refl _)) (fun i i1 i2 => ⟨i, i1, i2, rfl⟩) (fun _ _ => rfl)
    exact W.vret hx hb hr (fun t ht hW => ⟨⟨(f0, fSp, gl, F, L), rfl, ⟨hdone, hF2, hL2⟩, by rw [ht]; exact hP, hD⟩, hS.F ht⟩) hS.2.2 d_S_merge_137
