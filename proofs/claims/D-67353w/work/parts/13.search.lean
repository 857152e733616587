theorem sub_lt0 {x y : Nat} (hx : x < 2 ^ 30) (hy : y < 2 ^ 30) : nI x - nI y < 0 ↔ x < y := by rw [i32_ltI, Int32.toInt_zero, pk_sub_toInt hx hy]; omega
section SR
variable {D : va_G} {cI cJ cO : ClassId} {p : Program} {l : Launch} {e : Env} {R : Room} {s : State} {m : MethodId} {args : Array Value} {below : List Frame} {meth : Method} {c : Code} {H : Heap} {locs : List Loc} {cells slots : Nat} {Q : State → Prop}
variable {a : Nat → Nat} {hB k : Nat} {g : Nat → Int32} {rn gl : Int32} {fC fSp fF fL : Nat → Int32}
set_option maxHeartbeats 4000000 in
theorem l_notBefore1 {u : Int32} {at_ n : Nat} (X : Cx D cI cJ cO p s m c b_S_notBefore 8 R_S) (hk : k < 4) (hP : va_P D vCL (WS cI a hB k g rn gl fC fSp fF fL) H) (hR : 2 ≤ R.frames ∧ 180 ≤ R.locals) (hf : cells ≤ R.cells ∧ slots ≤ R.slots) (hu : vp_in u 2000) (hat : at_ + n ≤ 2000) (hin : In fC at_ (at_ + n) 0 2000) (mono : ∀ i j, at_ ≤ i → i ≤ j → j < at_ + n → Ky k g (fC i) ≤ Ky k g (fC j)) (kk : ∀ (high : Nat) (ls : Array Slot), high ≤ n → (∀ i, high ≤ i → i < n → Ky k g u ≤ Ky k g (fC (at_ + i))) → (n - high + 1 ≤ high → Ky k g (fC (at_ + (high - (n - high + 1)))) < Ky k g u) → lv_has ls 8 [(0, .ref (a 10)), (1, .int u), (2, .int (nI at_)), (3, .int (nI n)), (4, .int (nI (n - high + 1))), (5, .int (nI high))] → W p l e R s m args below meth c H locs cells slots Q (F0 m 55 ls [])) : ∀ (fuel high : Nat) (ls : Array Slot), high < fuel → high ≤ n → (∀ i, high ≤ i → i < n → Ky k g u ≤ Ky k g (fC (at_ + i))) → lv_has ls 8 [(0, .ref (a 10)), (1, .int u), (2, .int (nI at_)), (3, .int (nI n)), (4, .int (nI (n - high + 1))), (5, .int (nI high))] → W p l e R s m args below meth c H locs cells slots Q (F0 m 6 ls []) := by
  have hx := X.x
  have hb := X.b
  intro fuel
  induction fuel with
  | zero => intro high ls h; omega
  | succ fuel ih =>
    intro high ls hfu hhi hall hl
    refine lv_iload hx hb d_S_notBefore_6 (lv_at hl 5 rfl) ?_
    refine lv_iload hx hb d_S_notBefore_8 (lv_at hl 4 rfl) ?_
    refine lv_isub hx hb d_S_notBefore_10 ?_
    refine lv_if_lt (tgt := 55) hx hb d_S_notBefore_11 (by decide) (fun h1 => ?_) (fun h1 => ?_)
    · have h1 := (sub_lt0 (by omega) (by omega)).mp h1
      exact kk high ls hhi hall (fun h => by omega) hl
    · have h1 : n - high + 1 ≤ high := Nat.le_of_not_lt fun z => h1 ((sub_lt0 (by omega) (by omega)).mpr z)
      refine lv_aload_n hx hb d_S_notBefore_14 rfl (lv_at hl 0 rfl) ?_
      refine g_S_order X hP 3 rfl rfl d_S_notBefore_15 ?_
      refine lv_aload_n hx hb d_S_notBefore_18 rfl (lv_at hl 0 rfl) ?_
      refine g_S_cells X hP 3 rfl rfl d_S_notBefore_19 ?_
      refine lv_iload_n hx hb d_S_notBefore_22 rfl (lv_at hl 2 rfl) ?_
      refine lv_iload hx hb d_S_notBefore_23 (lv_at hl 5 rfl) ?_
      refine w_add hx hb d_S_notBefore_25 ?_
      refine lv_iload hx hb d_S_notBefore_26 (lv_at hl 4 rfl) ?_
      refine w_sub hx hb d_S_notBefore_28 (by omega) ?_
      refine w_to (y := nI (at_ + (high - (n - high + 1)))) (congrArg nI (by omega)) ?_
      refine w_ald X hP 4 rfl (by omega) (by decide) d_S_notBefore_29 ?_
      refine lv_iload_n hx hb d_S_notBefore_30 rfl (lv_at hl 1 rfl) ?_
      refine cS_cmp X hk hP hR hf hl.1 (hin.vd (Nat.le_refl _) (by omega) (by omega)) hu (by decide) d_S_notBefore_31 (fun rr hrr => ?_)
      refine lv_if_lt (tgt := 55) hx hb d_S_notBefore_36 (by decide) (fun h2 => ?_) (fun h2 => ?_)
      · exact kk high ls hhi hall (fun _ => hrr.1.mp h2) hl
      · refine lv_iload hx hb d_S_notBefore_39 (lv_at hl 5 rfl) ?_
        refine lv_iload hx hb d_S_notBefore_41 (lv_at hl 4 rfl) ?_
        refine w_sub hx hb d_S_notBefore_43 (by omega) ?_
        refine lv_istore (lv' := [(5, .int (nI (high - ((n - high + 1))))), (0, .ref (a 10)), (1, .int u), (2, .int (nI at_)), (3, .int (nI n)), (4, .int (nI (n - high + 1)))]) hx hb d_S_notBefore_44 hl (by decide) rfl ?_
        clear hl; intro ls hl
        refine lv_iload hx hb d_S_notBefore_46 (lv_at hl 5 rfl) ?_
        refine lv_iconst (v := nI 2) hx hb d_S_notBefore_48 (by decide) ?_
        refine w_mul hx hb d_S_notBefore_49 ?_
        refine w_to (y := nI (n - (high - (n - high + 1)) + 1)) (congrArg nI (by omega)) ?_
        refine lv_istore (lv' := [(4, .int (nI (n - (high - (n - high + 1)) + 1))), (5, .int (nI (high - ((n - high + 1))))), (0, .ref (a 10)), (1, .int u), (2, .int (nI at_)), (3, .int (nI n))]) hx hb d_S_notBefore_50 hl (by decide) rfl ?_
        clear hl; intro ls hl
        refine lv_goto (tgt := 6) hx hb d_S_notBefore_52 (by decide) ?_
        have h3 : Ky k g u ≤ Ky k g (fC (at_ + (high - (n - high + 1)))) := hrr.nlt h2
        refine ih (high - (n - high + 1)) ls (by omega) (by omega) (fun i q1 q2 => ?_) (lv_sub hl [2, 3, 4, 5, 0, 1] rfl)
        exact Int.le_trans h3 (mono _ _ (by omega) (by omega) (by omega))
set_option maxHeartbeats 4000000 in
theorem l_notBefore2 {u : Int32} {at_ n : Nat} (X : Cx D cI cJ cO p s m c b_S_notBefore 8 R_S) (hk : k < 4) (hP : va_P D vCL (WS cI a hB k g rn gl fC fSp fF fL) H) (hR : 2 ≤ R.frames ∧ 180 ≤ R.locals) (hf : cells ≤ R.cells ∧ slots ≤ R.slots) (hu : vp_in u 2000) (hat : at_ + n ≤ 2000) (hin : In fC at_ (at_ + n) 0 2000) (mono : ∀ i j, at_ ≤ i → i ≤ j → j < at_ + n → Ky k g (fC i) ≤ Ky k g (fC j)) (kk : ∀ (q : Nat) (ls : Array Slot), q ≤ n → (∀ i, i < q → Ky k g (fC (at_ + i)) < Ky k g u) → (∀ i, q ≤ i → i < n → Ky k g u ≤ Ky k g (fC (at_ + i))) → lv_has ls 8 [(0, .ref (a 10)), (6, .int (nI q))] → W p l e R s m args below meth c H locs cells slots Q (F0 m 130 ls [])) : ∀ (fuel low high : Nat) (ls : Array Slot), high - low < fuel → low ≤ high → high ≤ n → (∀ i, i < low → Ky k g (fC (at_ + i)) < Ky k g u) → (∀ i, high ≤ i → i < n → Ky k g u ≤ Ky k g (fC (at_ + i))) → lv_has ls 8 [(0, .ref (a 10)), (1, .int u), (2, .int (nI at_)), (3, .int (nI n)), (5, .int (nI high)), (6, .int (nI low))] → W p l e R s m args below meth c H locs cells slots Q (F0 m 76 ls []) := by
  have hx := X.x
  have hb := X.b
  intro fuel
  induction fuel with
  | zero => intro low high ls h; omega
  | succ fuel ih =>
    intro low high ls hfu hlow hhi hall hbig hl
    refine lv_iload hx hb d_S_notBefore_76 (lv_at hl 5 rfl) ?_
    refine lv_iload hx hb d_S_notBefore_78 (lv_at hl 4 rfl) ?_
    refine w_icmp_ge (tgt := 130) hx hb d_S_notBefore_80 (by decide) ⟨by omega, by omega⟩ (fun h1 => ?_) (fun h1 => ?_)
    · exact kk low ls (by omega) hall (fun i h2 h3 => hbig i (by omega) h3) (lv_sub hl [0, 5] rfl)
    · refine lv_iload hx hb d_S_notBefore_83 (lv_at hl 5 rfl) ?_
      refine lv_iload hx hb d_S_notBefore_85 (lv_at hl 4 rfl) ?_
      refine w_add hx hb d_S_notBefore_87 ?_
      refine lv_iconst (v := nI 1) hx hb d_S_notBefore_88 (by decide) ?_
      refine w_ushr1 hx hb d_S_notBefore_89 (by omega) ?_
      generalize hm : (low + high) / 2 = mid at *
      have hm1 : low ≤ mid ∧ mid < high := by omega
      refine lv_istore (lv' := [(7, .int (nI mid)), (0, .ref (a 10)), (1, .int u), (2, .int (nI at_)), (3, .int (nI n)), (5, .int (nI high)), (6, .int (nI low))]) hx hb d_S_notBefore_90 hl (by decide) rfl ?_
      clear hl; intro ls hl
      refine lv_aload_n hx hb d_S_notBefore_92 rfl (lv_at hl 1 rfl) ?_
      refine g_S_order X hP 3 rfl rfl d_S_notBefore_93 ?_
      refine lv_aload_n hx hb d_S_notBefore_96 rfl (lv_at hl 1 rfl) ?_
      refine g_S_cells X hP 3 rfl rfl d_S_notBefore_97 ?_
      refine lv_iload_n hx hb d_S_notBefore_100 rfl (lv_at hl 3 rfl) ?_
      refine lv_iload hx hb d_S_notBefore_101 (lv_at hl 0 rfl) ?_
      refine w_add hx hb d_S_notBefore_103 ?_
      refine w_ald X hP 4 rfl (by omega) (by decide) d_S_notBefore_104 ?_
      refine lv_iload_n hx hb d_S_notBefore_105 rfl (lv_at hl 2 rfl) ?_
      refine cS_cmp X hk hP hR hf hl.1 (hin.vd (Nat.le_refl _) (by omega) (by omega)) hu (by decide) d_S_notBefore_106 (fun rr hrr => ?_)
      refine lv_if_ge (tgt := 123) hx hb d_S_notBefore_111 (by decide) (fun h2 => ?_) (fun h2 => ?_)
      · refine lv_iload hx hb d_S_notBefore_123 (lv_at hl 0 rfl) ?_
        refine lv_istore (lv' := [(5, .int (nI mid)), (7, .int (nI mid)), (0, .ref (a 10)), (1, .int u), (2, .int (nI at_)), (3, .int (nI n)), (6, .int (nI low))]) hx hb d_S_notBefore_125 hl (by decide) rfl ?_
        clear hl; intro ls hl
        refine lv_goto (tgt := 76) hx hb d_S_notBefore_127 (by decide) ?_
        refine ih low mid ls (by omega) (by omega) (by omega) hall (fun i q1 q2 => ?_) (lv_sub hl [2, 3, 4, 5, 0, 6] rfl)
        exact Int.le_trans (hrr.ge.mp h2) (mono _ _ (by omega) (by omega) (by omega))
      · refine lv_iload hx hb d_S_notBefore_114 (lv_at hl 0 rfl) ?_
        refine lv_iconst (v := nI 1) hx hb d_S_notBefore_116 (by decide) ?_
        refine w_add hx hb d_S_notBefore_117 ?_
        refine lv_istore (lv' := [(6, .int (nI (mid + 1))), (7, .int (nI mid)), (0, .ref (a 10)), (1, .int u), (2, .int (nI at_)), (3, .int (nI n)), (5, .int (nI high))]) hx hb d_S_notBefore_118 hl (by decide) rfl ?_
        clear hl; intro ls hl
        refine lv_goto (tgt := 127) hx hb d_S_notBefore_120 (by decide) ?_
        refine lv_goto (tgt := 76) hx hb d_S_notBefore_127 (by decide) ?_
        refine ih (mid + 1) high ls (by omega) (by omega) (by omega) (fun i q1 => ?_) hbig (lv_sub hl [2, 3, 4, 5, 6, 0] rfl)
        exact Int.lt_of_le_of_lt (mono _ _ (by omega) (by omega) (by omega)) (hrr.nge h2)
set_option maxHeartbeats 4000000 in
theorem l_waiting {u : Int32} {at_ n : Nat} (X : Cx D cI cJ cO p s m c b_S_waiting 7 R_S) (hk : k < 4) (hP : va_P D vCL (WS cI a hB k g rn gl fC fSp fF fL) H) (hR : 2 ≤ R.frames ∧ 180 ≤ R.locals) (hf : cells ≤ R.cells ∧ slots ≤ R.slots) (hu : vp_in u 2000) (hat : n ≤ 2000) (hin : In fSp at_ n 0 2000) (mono : ∀ i j, at_ ≤ i → i ≤ j → j < n → Ky k g (fSp i) ≤ Ky k g (fSp j)) (kk : ∀ (q : Nat) (ls : Array Slot), at_ ≤ q → q ≤ n → (∀ i, at_ ≤ i → i < q → Ky k g (fSp i) ≤ Ky k g u) → (∀ i, q ≤ i → i < n → Ky k g u < Ky k g (fSp i)) → lv_has ls 7 [(0, .ref (a 10)), (2, .int (nI at_)), (4, .int (nI q))] → W p l e R s m args below meth c H locs cells slots Q (F0 m 58 ls [])) : ∀ (fuel low high : Nat) (ls : Array Slot), high - low < fuel → at_ ≤ low → low ≤ high → high ≤ n → (∀ i, at_ ≤ i → i < low → Ky k g (fSp i) ≤ Ky k g u) → (∀ i, high ≤ i → i < n → Ky k g u < Ky k g (fSp i)) → lv_has ls 7 [(0, .ref (a 10)), (1, .int u), (2, .int (nI at_)), (3, .int (nI n)), (4, .int (nI low)), (5, .int (nI high))] → W p l e R s m args below meth c H locs cells slots Q (F0 m 6 ls []) := by
  have hx := X.x
  have hb := X.b
  intro fuel
  induction fuel with
  | zero => intro low high ls h; omega
  | succ fuel ih =>
    intro low high ls hfu hal hlow hhi hall hbig hl
    refine lv_iload hx hb d_S_waiting_6 (lv_at hl 4 rfl) ?_
    refine lv_iload hx hb d_S_waiting_8 (lv_at hl 5 rfl) ?_
    refine w_icmp_ge (tgt := 58) hx hb d_S_waiting_10 (by decide) ⟨by omega, by omega⟩ (fun h1 => ?_) (fun h1 => ?_)
    · exact kk low ls hal (by omega) hall (fun i h2 h3 => hbig i (by omega) h3) (lv_sub hl [0, 2, 4] rfl)
    · refine lv_iload hx hb d_S_waiting_13 (lv_at hl 4 rfl) ?_
      refine lv_iload hx hb d_S_waiting_15 (lv_at hl 5 rfl) ?_
      refine w_add hx hb d_S_waiting_17 ?_
      refine lv_iconst (v := nI 1) hx hb d_S_waiting_18 (by decide) ?_
      refine w_ushr1 hx hb d_S_waiting_19 (by omega) ?_
      generalize hm : (low + high) / 2 = mid at *
      have hm1 : low ≤ mid ∧ mid < high := by omega
      refine lv_istore (lv' := [(6, .int (nI mid)), (0, .ref (a 10)), (1, .int u), (2, .int (nI at_)), (3, .int (nI n)), (4, .int (nI low)), (5, .int (nI high))]) hx hb d_S_waiting_20 hl (by decide) rfl ?_
      clear hl; intro ls hl
      refine lv_aload_n hx hb d_S_waiting_22 rfl (lv_at hl 1 rfl) ?_
      refine g_S_order X hP 3 rfl rfl d_S_waiting_23 ?_
      refine lv_iload_n hx hb d_S_waiting_26 rfl (lv_at hl 2 rfl) ?_
      refine lv_aload_n hx hb d_S_waiting_27 rfl (lv_at hl 1 rfl) ?_
      refine g_S_spare X hP 3 rfl rfl d_S_waiting_28 ?_
      refine lv_iload hx hb d_S_waiting_31 (lv_at hl 0 rfl) ?_
      refine w_ald X hP 2 rfl (by omega) (by decide) d_S_waiting_33 ?_
      refine cS_cmp X hk hP hR hf hl.1 hu (hin.vd (Nat.le_refl _) (by omega) (by omega)) (by decide) d_S_waiting_34 (fun rr hrr => ?_)
      refine lv_if_lt (tgt := 51) hx hb d_S_waiting_39 (by decide) (fun h2 => ?_) (fun h2 => ?_)
      · refine lv_iload hx hb d_S_waiting_51 (lv_at hl 0 rfl) ?_
        refine lv_istore (lv' := [(5, .int (nI mid)), (6, .int (nI mid)), (0, .ref (a 10)), (1, .int u), (2, .int (nI at_)), (3, .int (nI n)), (4, .int (nI low))]) hx hb d_S_waiting_53 hl (by decide) rfl ?_
        clear hl; intro ls hl
        refine lv_goto (tgt := 6) hx hb d_S_waiting_55 (by decide) ?_
        refine ih low mid ls (by omega) (by omega) (by omega) (by omega) hall (fun i q1 q2 => ?_) (lv_sub hl [2, 3, 4, 5, 6, 0] rfl)
        exact Int.lt_of_lt_of_le (hrr.1.mp h2) (mono _ _ (by omega) (by omega) (by omega))
      · refine lv_iload hx hb d_S_waiting_42 (lv_at hl 0 rfl) ?_
        refine lv_iconst (v := nI 1) hx hb d_S_waiting_44 (by decide) ?_
        refine w_add hx hb d_S_waiting_45 ?_
        refine lv_istore (lv' := [(4, .int (nI (mid + 1))), (6, .int (nI mid)), (0, .ref (a 10)), (1, .int u), (2, .int (nI at_)), (3, .int (nI n)), (5, .int (nI high))]) hx hb d_S_waiting_46 hl (by decide) rfl ?_
        clear hl; intro ls hl
        refine lv_goto (tgt := 55) hx hb d_S_waiting_48 (by decide) ?_
        refine lv_goto (tgt := 6) hx hb d_S_waiting_55 (by decide) ?_
        refine ih (mid + 1) high ls (by omega) (by omega) (by omega) (by omega) (fun i q1 q2 => ?_) hbig (lv_sub hl [2, 3, 4, 5, 0, 6] rfl)
        exact Int.le_trans (mono _ _ (by omega) (by omega) (by omega)) (hrr.nlt h2)
end SR
set_option maxHeartbeats 4000000 in
/-- notBefore(u, at, n): how many of the run are before u -/
theorem c_S_notBefore (l : Launch) (D : va_G) (cI cJ cO : ClassId) (a : Nat → Nat) (hB k : Nat) (g : Nat → Int32) (rn gl : Int32) (fC fSp fF fL : Nat → Int32) (u : Int32) (at_ n : Nat) (hk : k < 4) (hu : vp_in u 2000) (hat : at_ + n ≤ 2000) (hin : In fC at_ (at_ + n) 0 2000) (mono : ∀ i j, at_ ≤ i → i ≤ j → j < at_ + n → Ky k g (fC i) ≤ Ky k g (fC j)) : Met l y_S_notBefore [Cond.code y_S_notBefore b_S_notBefore 8 (some .int)] (rk 2 0 0) (PR D cI cJ cO [.ref (a 10), .int u, .int (nI at_), .int (nI n)] (WS cI a hB k g rn gl fC fSp fF fL)) (vp_Si (fun r => ∃ q, r = nI q ∧ q ≤ n ∧ (∀ i, i < q → Ky k g (fC (at_ + i)) < Ky k g u) ∧ (∀ i, q ≤ i → i < n → Ky k g u ≤ Ky k g (fC (at_ + i))))) 0 0 (fun _ => False) := by
  refine entR (by decide) (Nat.le_of_ble_eq_true rfl) ?_
  intro p e s m below meth c ls X hr hlocks hP hl
  have hx := X.x
  have hb := X.b
  have hR : 2 ≤ (rk 2 0 0).frames ∧ 180 ≤ (rk 2 0 0).locals := by decide
  have hf : 0 ≤ (rk 2 0 0).cells ∧ 0 ≤ (rk 2 0 0).slots := by decide
  have hl : lv_has ls 8 [(0, .ref (a 10)), (1, .int u), (2, .int (nI at_)), (3, .int (nI n))] := hl
  refine lv_iconst (v := nI 1) hx hb d_S_notBefore_0 (by decide) ?_
  refine lv_istore (lv' := [(4, .int (nI 1)), (0, .ref (a 10)), (1, .int u), (2, .int (nI at_)), (3, .int (nI n))]) hx hb d_S_notBefore_1 hl (by decide) rfl ?_
  clear hl; intro ls hl
  refine lv_iload_n hx hb d_S_notBefore_3 rfl (lv_at hl 4 rfl) ?_
  refine lv_istore (lv' := [(5, .int (nI n)), (4, .int (nI 1)), (0, .ref (a 10)), (1, .int u), (2, .int (nI at_)), (3, .int (nI n))]) hx hb d_S_notBefore_4 hl (by decide) rfl ?_
  clear hl; intro ls hl
  refine l_notBefore1 X hk hP hR hf hu hat hin mono ?_ (n + 1) n ls (by omega) (by omega) (fun i h => by omega) (by rw [show n - n + 1 = 1 by omega]; exact (lv_sub hl [2, 3, 4, 5, 1, 0] rfl))
  clear hl ls; intro high ls hhi hall hex hl
  refine lv_iload hx hb d_S_notBefore_55 (lv_at hl 5 rfl) ?_
  refine lv_iload hx hb d_S_notBefore_57 (lv_at hl 4 rfl) ?_
  refine lv_isub hx hb d_S_notBefore_59 ?_
  refine lv_if_lt (tgt := 73) hx hb d_S_notBefore_60 (by decide) (fun h1 => ?_) (fun h1 => ?_)
  · refine lv_iconst (v := nI 0) hx hb d_S_notBefore_73 (by decide) ?_
    refine lv_istore (lv' := [(6, .int (nI 0)), (0, .ref (a 10)), (1, .int u), (2, .int (nI at_)), (3, .int (nI n)), (4, .int (nI (n - high + 1))), (5, .int (nI high))]) hx hb d_S_notBefore_74 hl (by decide) rfl ?_
    clear hl; intro ls hl
    refine l_notBefore2 X hk hP hR hf hu hat hin mono ?_ (n + 1) _ high ls (by omega) (by omega) (by omega) ?_ hall (lv_sub hl [1, 2, 3, 4, 6, 0] rfl)
    · intro q ls hq h3 h4 hl
      refine lv_iload hx hb d_S_notBefore_130 (lv_at hl 1 rfl) ?_
      exact W.iret (v := nI q) hx hb hr (fun t ht _ => ⟨nI q, rfl, ⟨q, rfl, hq, h3, h4⟩, ht⟩) (fun q h => by cases h) d_S_notBefore_132
    · exact fun i h3 => by omega
  · have h1 : n - high + 1 ≤ high := Nat.le_of_not_lt fun z => h1 ((sub_lt0 (by omega) (by omega)).mpr z)
    refine lv_iload hx hb d_S_notBefore_63 (lv_at hl 5 rfl) ?_
    refine lv_iload hx hb d_S_notBefore_65 (lv_at hl 4 rfl) ?_
    refine w_sub hx hb d_S_notBefore_67 (by omega) ?_
    refine lv_iconst (v := nI 1) hx hb d_S_notBefore_68 (by decide) ?_
    refine w_add hx hb d_S_notBefore_69 ?_
    refine lv_goto (tgt := 74) hx hb d_S_notBefore_70 (by decide) ?_
    refine lv_istore (lv' := [(6, .int (nI (high - ((n - high + 1)) + 1))), (0, .ref (a 10)), (1, .int u), (2, .int (nI at_)), (3, .int (nI n)), (4, .int (nI (n - high + 1))), (5, .int (nI high))]) hx hb d_S_notBefore_74 hl (by decide) rfl ?_
    clear hl; intro ls hl
    refine l_notBefore2 X hk hP hR hf hu hat hin mono ?_ (n + 1) _ high ls (by omega) (by omega) (by omega) ?_ hall (lv_sub hl [1, 2, 3, 4, 6, 0] rfl)
    · intro q ls hq h3 h4 hl
      refine lv_iload hx hb d_S_notBefore_130 (lv_at hl 1 rfl) ?_
      exact W.iret (v := nI q) hx hb hr (fun t ht _ => ⟨nI q, rfl, ⟨q, rfl, hq, h3, h4⟩, ht⟩) (fun q h => by cases h) d_S_notBefore_132
    · exact fun i h3 => Int.lt_of_le_of_lt (mono _ _ (by omega) (by omega) (by omega)) (hex h1)
set_option maxHeartbeats 4000000 in
/-- waiting(u, at, n): how many of the waiting ones from at on are not behind u -/
theorem c_S_waiting (l : Launch) (D : va_G) (cI cJ cO : ClassId) (a : Nat → Nat) (hB k : Nat) (g : Nat → Int32) (rn gl : Int32) (fC fSp fF fL : Nat → Int32) (u : Int32) (at_ n : Nat) (hk : k < 4) (hu : vp_in u 2000) (han : at_ ≤ n) (hat : n ≤ 2000) (hin : In fSp at_ n 0 2000) (mono : ∀ i j, at_ ≤ i → i ≤ j → j < n → Ky k g (fSp i) ≤ Ky k g (fSp j)) : Met l y_S_waiting [Cond.code y_S_waiting b_S_waiting 7 (some .int)] (rk 2 0 0) (PR D cI cJ cO [.ref (a 10), .int u, .int (nI at_), .int (nI n)] (WS cI a hB k g rn gl fC fSp fF fL)) (vp_Si (fun r => ∃ q, r = nI q ∧ at_ + q ≤ n ∧ (∀ i, at_ ≤ i → i < at_ + q → Ky k g (fSp i) ≤ Ky k g u) ∧ (∀ i, at_ + q ≤ i → i < n → Ky k g u < Ky k g (fSp i)))) 0 0 (fun _ => False) := by
  refine entR (by decide) (Nat.le_of_ble_eq_true rfl) ?_
  intro p e s m below meth c ls X hr hlocks hP hl
  have hx := X.x
  have hb := X.b
  have hR : 2 ≤ (rk 2 0 0).frames ∧ 180 ≤ (rk 2 0 0).locals := by decide
  have hf : 0 ≤ (rk 2 0 0).cells ∧ 0 ≤ (rk 2 0 0).slots := by decide
  have hl : lv_has ls 7 [(0, .ref (a 10)), (1, .int u), (2, .int (nI at_)), (3, .int (nI n))] := hl
  refine lv_iload_n hx hb d_S_waiting_0 rfl (lv_at hl 2 rfl) ?_
  refine lv_istore (lv' := [(4, .int (nI at_)), (0, .ref (a 10)), (1, .int u), (2, .int (nI at_)), (3, .int (nI n))]) hx hb d_S_waiting_1 hl (by decide) rfl ?_
  clear hl; intro ls hl
  refine lv_iload_n hx hb d_S_waiting_3 rfl (lv_at hl 4 rfl) ?_
  refine lv_istore (lv' := [(5, .int (nI n)), (4, .int (nI at_)), (0, .ref (a 10)), (1, .int u), (2, .int (nI at_)), (3, .int (nI n))]) hx hb d_S_waiting_4 hl (by decide) rfl ?_
  clear hl; intro ls hl
  refine l_waiting X hk hP hR hf hu hat hin mono ?_ (n + 1) at_ n ls (by omega) (by omega) (by omega) (by omega) (fun i h => by omega) (fun i h => by omega) (lv_sub hl [2, 3, 4, 5, 1, 0] rfl)
  clear hl ls; intro q ls hq1 hq2 hall hbig hl
  refine lv_iload hx hb d_S_waiting_58 (lv_at hl 2 rfl) ?_
  refine lv_iload_n hx hb d_S_waiting_60 rfl (lv_at hl 1 rfl) ?_
  refine w_sub hx hb d_S_waiting_61 (by omega) ?_
  exact W.iret (v := nI (q - at_)) hx hb hr (fun t ht _ => ⟨nI (q - at_), rfl, ⟨q - at_, rfl, by omega, fun i h1 h2 => hall i h1 (by omega), fun i h1 h2 => hbig i (by omega) h2⟩, ht⟩) (fun q h => by cases h) d_S_waiting_62
