theorem cmpP.nlt {u v : Int} {r : Int32} (h : cmpP u v r) (q : ¬ r < 0) : v ≤ u := Int.not_lt.mp fun z => q (h.1.mpr z)
theorem cmpP.nge {u v : Int} {r : Int32} (h : cmpP u v r) (q : ¬ 0 ≤ r) : u < v := Int.not_le.mp fun z => q (h.ge.mpr z)
section SR
variable {D : va_G} {cI cJ cO : ClassId} {p : Program} {l : Launch} {e : Env} {R : Room} {s : State} {m : MethodId} {args : Array Value} {below : List Frame} {meth : Method} {c : Code} {H : Heap} {locs : List Loc} {cells slots : Nat} {Q : State → Prop}
variable {a : Nat → Nat} {hB k : Nat} {g : Nat → Int32} {rn gl : Int32} {fC fSp fF fL : Nat → Int32}
/-- order.compare(u, v) in the sorter: decides the keys -/
theorem cS_cmp {cc : ByteArray} {nL pc : Nat} {ls : Array Slot} {rest : List Value} {u v : Int32} (X : Cx D cI cJ cO p s m c cc nL R_S) (hk : k < 4) (hP : va_P D vCL (WS cI a hB k g rn gl fC fSp fF fL) H) (hR : 2 ≤ R.frames ∧ 180 ≤ R.locals) (hf : cells ≤ R.cells ∧ slots ≤ R.slots) (hl : ls.size = nL) (hu : vp_in u 2000) (hv : vp_in v 2000) (hW : (rest.map fun v => v.category).sum ≤ 8) (hdg : decode cc pc = .ok (.invokeinterface 54 3, 5))
    (kk : ∀ r : Int32, cmpP (Ky k g u) (Ky k g v) r → W p l e R s m args below meth c H locs cells slots Q (F0 m (pc + 5) ls (.int r :: rest))) : W p l e R s m args below meth c H locs cells slots Q (F0 m pc ls (.int v :: .int u :: .ref hB :: rest)) :=
  rd_F (C := R_B) (cC := D.1 2) (wc := WC cI a hB k g) X (X.K.1 2 _ rfl).2 (c_B_compare l D cI cJ cO a hB k g u v hk hu hv) (cx_F X _ wk_S_54 wf_decl wf_face wf_sel_B wm_B_compare wf_pub_B wf_unh_B wf_cast_B wi_B_compare wc_B_compare wd_cmp ⟨hR.1, by omega⟩) (sub_P hP [5, 6, 7, 8, 9, 10] rfl) (rcv X hP (ci := 2) (q0 := 5) rfl rfl) rfl hl rfl hW hdg hf kk
set_option maxHeartbeats 4000000 in
theorem l_behind1 {u : Int32} {at_ n : Nat} (X : Cx D cI cJ cO p s m c b_S_behind 8 R_S) (hk : k < 4) (hP : va_P D vCL (WS cI a hB k g rn gl fC fSp fF fL) H) (hR : 2 ≤ R.frames ∧ 180 ≤ R.locals) (hf : cells ≤ R.cells ∧ slots ≤ R.slots) (hu : vp_in u 2000) (hat : at_ + n ≤ 2000) (hin : In fC at_ (at_ + n) 0 2000) (mono : ∀ i j, at_ ≤ i → i ≤ j → j < at_ + n → Ky k g (fC i) ≤ Ky k g (fC j)) (kk : ∀ (low : Nat) (ls : Array Slot), low ≤ n → (∀ i, i < low → Ky k g (fC (at_ + i)) ≤ Ky k g u) → (low + (low + 1) ≤ n → Ky k g u < Ky k g (fC (at_ + (low + low)))) → lv_has ls 8 [(0, .ref (a 10)), (1, .int u), (2, .int (nI at_)), (3, .int (nI n)), (4, .int (nI (low + 1))), (5, .int (nI low))] → W p l e R s m args below meth c H locs cells slots Q (F0 m 58 ls [])) : ∀ (fuel low : Nat) (ls : Array Slot), n - low < fuel → low ≤ n → (∀ i, i < low → Ky k g (fC (at_ + i)) ≤ Ky k g u) → lv_has ls 8 [(0, .ref (a 10)), (1, .int u), (2, .int (nI at_)), (3, .int (nI n)), (4, .int (nI (low + 1))), (5, .int (nI low))] → W p l e R s m args below meth c H locs cells slots Q (F0 m 6 ls []) := by
  have hx := X.x
  have hb := X.b
  intro fuel
  induction fuel with
  | zero => intro low ls h; omega
  | succ fuel ih =>
    intro low ls hfu hlow hall hl
    refine lv_iload hx hb d_S_behind_6 (lv_at hl 5 rfl) ?_
    refine lv_iload hx hb d_S_behind_8 (lv_at hl 4 rfl) ?_
    refine w_add hx hb d_S_behind_10 ?_
    refine lv_iload_n hx hb d_S_behind_11 rfl (lv_at hl 3 rfl) ?_
    refine w_icmp_gt (tgt := 58) hx hb d_S_behind_12 (by decide) ⟨by omega, by omega⟩ (fun h1 => ?_) (fun h1 => ?_)
    · exact kk low ls hlow hall (fun h => by omega) hl
    · refine lv_aload_n hx hb d_S_behind_15 rfl (lv_at hl 0 rfl) ?_
      refine g_S_order X hP 3 rfl rfl d_S_behind_16 ?_
      refine lv_iload_n hx hb d_S_behind_19 rfl (lv_at hl 1 rfl) ?_
      refine lv_aload_n hx hb d_S_behind_20 rfl (lv_at hl 0 rfl) ?_
      refine g_S_cells X hP 3 rfl rfl d_S_behind_21 ?_
      refine lv_iload_n hx hb d_S_behind_24 rfl (lv_at hl 2 rfl) ?_
      refine lv_iload hx hb d_S_behind_25 (lv_at hl 5 rfl) ?_
      refine w_add hx hb d_S_behind_27 ?_
      refine lv_iload hx hb d_S_behind_28 (lv_at hl 4 rfl) ?_
      refine w_add hx hb d_S_behind_30 ?_
      refine lv_iconst (v := nI 1) hx hb d_S_behind_31 (by decide) ?_
      refine w_sub hx hb d_S_behind_32 (by omega) ?_
      refine w_to (y := nI (at_ + (low + low))) (congrArg nI (by omega)) ?_
      refine w_ald X hP 4 rfl (by omega) (by decide) d_S_behind_33 ?_
      refine cS_cmp X hk hP hR hf hl.1 hu (hin.vd (Nat.le_refl _) (by omega) (by omega)) (by decide) d_S_behind_34 (fun rr hrr => ?_)
      refine lv_if_lt (tgt := 58) hx hb d_S_behind_39 (by decide) (fun h2 => ?_) (fun h2 => ?_)
      · exact kk low ls hlow hall (fun _ => hrr.1.mp h2) hl
      · refine lv_iload hx hb d_S_behind_42 (lv_at hl 5 rfl) ?_
        refine lv_iload hx hb d_S_behind_44 (lv_at hl 4 rfl) ?_
        refine w_add hx hb d_S_behind_46 ?_
        refine lv_istore (lv' := [(5, .int (nI (low + (low + 1)))), (0, .ref (a 10)), (1, .int u), (2, .int (nI at_)), (3, .int (nI n)), (4, .int (nI (low + 1)))]) hx hb d_S_behind_47 hl (by decide) rfl ?_
        clear hl; intro ls hl
        refine lv_iload hx hb d_S_behind_49 (lv_at hl 5 rfl) ?_
        refine lv_iconst (v := nI 2) hx hb d_S_behind_51 (by decide) ?_
        refine w_mul hx hb d_S_behind_52 ?_
        refine w_to (y := nI (low + (low + 1) + 1)) (congrArg nI (by omega)) ?_
        refine lv_istore (lv' := [(4, .int (nI (low + (low + 1) + 1))), (5, .int (nI (low + (low + 1)))), (0, .ref (a 10)), (1, .int u), (2, .int (nI at_)), (3, .int (nI n))]) hx hb d_S_behind_53 hl (by decide) rfl ?_
        clear hl; intro ls hl
        refine lv_goto (tgt := 6) hx hb d_S_behind_55 (by decide) ?_
        refine ih (low + (low + 1)) ls (by omega) (by omega) (fun i hi => ?_) (lv_sub hl [2, 3, 4, 5, 0, 1] rfl)
        have h3 : Ky k g (fC (at_ + (low + low))) ≤ Ky k g u := hrr.nlt h2
        exact Int.le_trans (mono _ _ (by omega) (by omega) (by omega)) h3
set_option maxHeartbeats 4000000 in
theorem l_behind2 {u : Int32} {at_ n : Nat} (X : Cx D cI cJ cO p s m c b_S_behind 8 R_S) (hk : k < 4) (hP : va_P D vCL (WS cI a hB k g rn gl fC fSp fF fL) H) (hR : 2 ≤ R.frames ∧ 180 ≤ R.locals) (hf : cells ≤ R.cells ∧ slots ≤ R.slots) (hu : vp_in u 2000) (hat : at_ + n ≤ 2000) (hin : In fC at_ (at_ + n) 0 2000) (mono : ∀ i j, at_ ≤ i → i ≤ j → j < at_ + n → Ky k g (fC i) ≤ Ky k g (fC j)) (kk : ∀ (q : Nat) (ls : Array Slot), q ≤ n → (∀ i, i < q → Ky k g (fC (at_ + i)) ≤ Ky k g u) → (∀ i, q ≤ i → i < n → Ky k g u < Ky k g (fC (at_ + i))) → lv_has ls 8 [(0, .ref (a 10)), (5, .int (nI q))] → W p l e R s m args below meth c H locs cells slots Q (F0 m 134 ls [])) : ∀ (fuel low high : Nat) (ls : Array Slot), high - low < fuel → low ≤ high → high ≤ n → (∀ i, i < low → Ky k g (fC (at_ + i)) ≤ Ky k g u) → (∀ i, high ≤ i → i < n → Ky k g u < Ky k g (fC (at_ + i))) → lv_has ls 8 [(0, .ref (a 10)), (1, .int u), (2, .int (nI at_)), (3, .int (nI n)), (5, .int (nI low)), (6, .int (nI high))] → W p l e R s m args below meth c H locs cells slots Q (F0 m 80 ls []) := by
  have hx := X.x
  have hb := X.b
  intro fuel
  induction fuel with
  | zero => intro low high ls h; omega
  | succ fuel ih =>
    intro low high ls hfu hlow hhi hall hbig hl
    refine lv_iload hx hb d_S_behind_80 (lv_at hl 4 rfl) ?_
    refine lv_iload hx hb d_S_behind_82 (lv_at hl 5 rfl) ?_
    refine w_icmp_ge (tgt := 134) hx hb d_S_behind_84 (by decide) ⟨by omega, by omega⟩ (fun h1 => ?_) (fun h1 => ?_)
    · exact kk low ls (by omega) hall (fun i h2 h3 => hbig i (by omega) h3) (lv_sub hl [0, 4] rfl)
    · refine lv_iload hx hb d_S_behind_87 (lv_at hl 4 rfl) ?_
      refine lv_iload hx hb d_S_behind_89 (lv_at hl 5 rfl) ?_
      refine w_add hx hb d_S_behind_91 ?_
      refine lv_iconst (v := nI 1) hx hb d_S_behind_92 (by decide) ?_
      refine w_ushr1 hx hb d_S_behind_93 (by omega) ?_
      generalize hm : (low + high) / 2 = mid at *
      have hm1 : low ≤ mid ∧ mid < high := by omega
      refine lv_istore (lv' := [(7, .int (nI mid)), (0, .ref (a 10)), (1, .int u), (2, .int (nI at_)), (3, .int (nI n)), (5, .int (nI low)), (6, .int (nI high))]) hx hb d_S_behind_94 hl (by decide) rfl ?_
      clear hl; intro ls hl
      refine lv_aload_n hx hb d_S_behind_96 rfl (lv_at hl 1 rfl) ?_
      refine g_S_order X hP 3 rfl rfl d_S_behind_97 ?_
      refine lv_iload_n hx hb d_S_behind_100 rfl (lv_at hl 2 rfl) ?_
      refine lv_aload_n hx hb d_S_behind_101 rfl (lv_at hl 1 rfl) ?_
      refine g_S_cells X hP 3 rfl rfl d_S_behind_102 ?_
      refine lv_iload_n hx hb d_S_behind_105 rfl (lv_at hl 3 rfl) ?_
      refine lv_iload hx hb d_S_behind_106 (lv_at hl 0 rfl) ?_
      refine w_add hx hb d_S_behind_108 ?_
      refine w_ald X hP 4 rfl (by omega) (by decide) d_S_behind_109 ?_
      refine cS_cmp X hk hP hR hf hl.1 hu (hin.vd (Nat.le_refl _) (by omega) (by omega)) (by decide) d_S_behind_110 (fun rr hrr => ?_)
      refine lv_if_lt (tgt := 127) hx hb d_S_behind_115 (by decide) (fun h2 => ?_) (fun h2 => ?_)
      · refine lv_iload hx hb d_S_behind_127 (lv_at hl 0 rfl) ?_
        refine lv_istore (lv' := [(6, .int (nI mid)), (7, .int (nI mid)), (0, .ref (a 10)), (1, .int u), (2, .int (nI at_)), (3, .int (nI n)), (5, .int (nI low))]) hx hb d_S_behind_129 hl (by decide) rfl ?_
        clear hl; intro ls hl
        refine lv_goto (tgt := 80) hx hb d_S_behind_131 (by decide) ?_
        refine ih low mid ls (by omega) (by omega) (by omega) hall (fun i q1 q2 => ?_) (lv_sub hl [2, 3, 4, 5, 6, 0] rfl)
        exact Int.lt_of_lt_of_le (hrr.1.mp h2) (mono _ _ (by omega) (by omega) (by omega))
      · refine lv_iload hx hb d_S_behind_118 (lv_at hl 0 rfl) ?_
        refine lv_iconst (v := nI 1) hx hb d_S_behind_120 (by decide) ?_
        refine w_add hx hb d_S_behind_121 ?_
        refine lv_istore (lv' := [(5, .int (nI (mid + 1))), (7, .int (nI mid)), (0, .ref (a 10)), (1, .int u), (2, .int (nI at_)), (3, .int (nI n)), (6, .int (nI high))]) hx hb d_S_behind_122 hl (by decide) rfl ?_
        clear hl; intro ls hl
        refine lv_goto (tgt := 131) hx hb d_S_behind_124 (by decide) ?_
        refine lv_goto (tgt := 80) hx hb d_S_behind_131 (by decide) ?_
        have h3 : Ky k g (fC (at_ + mid)) ≤ Ky k g u := hrr.nlt h2
        refine ih (mid + 1) high ls (by omega) (by omega) (by omega) (fun i q1 => ?_) hbig (lv_sub hl [2, 3, 4, 5, 0, 6] rfl)
        exact Int.le_trans (mono _ _ (by omega) (by omega) (by omega)) h3
end SR
set_option maxHeartbeats 4000000 in
/-- behind(u, at, n): how many of the run are not behind u -/
theorem c_S_behind (l : Launch) (D : va_G) (cI cJ cO : ClassId) (a : Nat → Nat) (hB k : Nat) (g : Nat → Int32) (rn gl : Int32) (fC fSp fF fL : Nat → Int32) (u : Int32) (at_ n : Nat) (hk : k < 4) (hu : vp_in u 2000) (hat : at_ + n ≤ 2000) (hin : In fC at_ (at_ + n) 0 2000) (mono : ∀ i j, at_ ≤ i → i ≤ j → j < at_ + n → Ky k g (fC i) ≤ Ky k g (fC j)) : Met l y_S_behind [Cond.code y_S_behind b_S_behind 8 (some .int)] (rk 2 0 0) (PR D cI cJ cO [.ref (a 10), .int u, .int (nI at_), .int (nI n)] (WS cI a hB k g rn gl fC fSp fF fL)) (vp_Si (fun r => ∃ q, r = nI q ∧ q ≤ n ∧ (∀ i, i < q → Ky k g (fC (at_ + i)) ≤ Ky k g u) ∧ (∀ i, q ≤ i → i < n → Ky k g u < Ky k g (fC (at_ + i))))) 0 0 (fun _ => False) := by
  refine entR (by decide) (Nat.le_of_ble_eq_true rfl) ?_
  intro p e s m below meth c ls X hr hlocks hP hl
  have hx := X.x
  have hb := X.b
  have hR : 2 ≤ (rk 2 0 0).frames ∧ 180 ≤ (rk 2 0 0).locals := by decide
  have hf : 0 ≤ (rk 2 0 0).cells ∧ 0 ≤ (rk 2 0 0).slots := by decide
  have hl : lv_has ls 8 [(0, .ref (a 10)), (1, .int u), (2, .int (nI at_)), (3, .int (nI n))] := hl
  refine lv_iconst (v := nI 1) hx hb d_S_behind_0 (by decide) ?_
  refine lv_istore (lv' := [(4, .int (nI 1)), (0, .ref (a 10)), (1, .int u), (2, .int (nI at_)), (3, .int (nI n))]) hx hb d_S_behind_1 hl (by decide) rfl ?_
  clear hl; intro ls hl
  refine lv_iconst (v := nI 0) hx hb d_S_behind_3 (by decide) ?_
  refine lv_istore (lv' := [(5, .int (nI 0)), (4, .int (nI 1)), (0, .ref (a 10)), (1, .int u), (2, .int (nI at_)), (3, .int (nI n))]) hx hb d_S_behind_4 hl (by decide) rfl ?_
  clear hl; intro ls hl
  refine l_behind1 X hk hP hR hf hu hat hin mono ?_ (n + 1) 0 ls (by omega) (by omega) (fun i h => by omega) (lv_sub hl [2, 3, 4, 5, 1, 0] rfl)
  clear hl ls; intro low ls hlow hall hex hl
  refine lv_iload hx hb d_S_behind_58 (lv_at hl 5 rfl) ?_
  refine lv_iload hx hb d_S_behind_60 (lv_at hl 4 rfl) ?_
  refine w_add hx hb d_S_behind_62 ?_
  refine lv_iload_n hx hb d_S_behind_63 rfl (lv_at hl 3 rfl) ?_
  refine w_icmp_gt (tgt := 77) hx hb d_S_behind_64 (by decide) ⟨by omega, by omega⟩ (fun h1 => ?_) (fun h1 => ?_)
  · refine lv_iload_n hx hb d_S_behind_77 rfl (lv_at hl 3 rfl) ?_
    refine lv_istore (lv' := [(6, .int (nI n)), (0, .ref (a 10)), (1, .int u), (2, .int (nI at_)), (3, .int (nI n)), (4, .int (nI (low + 1))), (5, .int (nI low))]) hx hb d_S_behind_78 hl (by decide) rfl ?_
    clear hl; intro ls hl
    refine l_behind2 X hk hP hR hf hu hat hin mono ?_ (n + 1) low _ ls (by omega) (by omega) (by omega) hall ?_ (lv_sub hl [1, 2, 3, 4, 6, 0] rfl)
    · intro q ls hq h3 h4 hl
      refine lv_iload hx hb d_S_behind_134 (lv_at hl 1 rfl) ?_
      exact W.iret (v := nI q) hx hb hr (fun t ht _ => ⟨nI q, rfl, ⟨q, rfl, hq, h3, h4⟩, ht⟩) (fun q h => by cases h) d_S_behind_136
    · exact fun i h3 h4 => by omega
  · refine lv_iload hx hb d_S_behind_67 (lv_at hl 5 rfl) ?_
    refine lv_iload hx hb d_S_behind_69 (lv_at hl 4 rfl) ?_
    refine w_add hx hb d_S_behind_71 ?_
    refine lv_iconst (v := nI 1) hx hb d_S_behind_72 (by decide) ?_
    refine w_sub hx hb d_S_behind_73 (by omega) ?_
    refine lv_goto (tgt := 78) hx hb d_S_behind_74 (by decide) ?_
    refine lv_istore (lv' := [(6, .int (nI (low + (low + 1) - 1))), (0, .ref (a 10)), (1, .int u), (2, .int (nI at_)), (3, .int (nI n)), (4, .int (nI (low + 1))), (5, .int (nI low))]) hx hb d_S_behind_78 hl (by decide) rfl ?_
    clear hl; intro ls hl
    refine l_behind2 X hk hP hR hf hu hat hin mono ?_ (n + 1) low _ ls (by omega) (by omega) (by omega) hall ?_ (lv_sub hl [1, 2, 3, 4, 6, 0] rfl)
    · intro q ls hq h3 h4 hl
      refine lv_iload hx hb d_S_behind_134 (lv_at hl 1 rfl) ?_
      exact W.iret (v := nI q) hx hb hr (fun t ht _ => ⟨nI q, rfl, ⟨q, rfl, hq, h3, h4⟩, ht⟩) (fun q h => by cases h) d_S_behind_136
    · exact fun i h3 h4 => Int.lt_of_lt_of_le (hex (by omega)) (mono _ _ (by omega) (by omega) (by omega))
