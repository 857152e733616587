section ST
variable {D : va_G} {cI cJ cO : ClassId} {p : Program} {l : Launch} {e : Env} {R : Room} {s : State} {m : MethodId} {args : Array Value} {below : List Frame} {meth : Method} {c : Code} {cells slots : Nat} {Q : State → Prop}
variable {a : Nat → Nat} {hB k : Nat} {g : Nat → Int32} {A : Nat → Prop} {H0 : Heap}
set_option maxHeartbeats 8000000 in
theorem l_sort2 {n : Nat} (X : Cx D cI cJ cO p s m c b_S_sort 7 R_S) (hk : k < 4) (hR : 6 ≤ R.frames ∧ 340 ≤ R.locals) (hf : cells ≤ R.cells ∧ slots ≤ R.slots) (hA : ∀ q, H0.size ≤ q → A q) (hn : n ≤ 2000) (kk : ∀ (r : Nat) (gl : Int32) (f sp F L : Nat → Int32) (fr ln : Nat → Nat) (H : Heap) (locs : List Loc) (ls : Array Slot), r ≤ 1 → Ar F L fr ln r → St (Ky k g) f fr ln r n → va_P D vCL (WS cI a hB k g (nI r) gl f sp F L) H → va_D A (WS cI a hB k g (nI r) gl f sp F L) → va_S A H0 H locs → W p l e R s m args below meth c H locs cells slots Q (F0 m 192 ls [])) : ∀ (fuel : Nat) (r : Nat) (gl : Int32) (f sp F L : Nat → Int32) (fr ln : Nat → Nat) (H : Heap) (locs : List Loc) (ls : Array Slot), r < fuel → r ≤ 40 → Ar F L fr ln r → St (Ky k g) f fr ln r n → va_P D vCL (WS cI a hB k g (nI r) gl f sp F L) H → va_D A (WS cI a hB k g (nI r) gl f sp F L) → va_S A H0 H locs → lv_has ls 7 [(0, .ref (a 10))] → W p l e R s m args below meth c H locs cells slots Q (F0 m 129 ls []) := by
  have hx := X.x
  have hb := X.b
  intro fuel
  induction fuel with
  | zero => intro r gl f sp F L fr ln H locs ls h; omega
  | succ fuel ih =>
    intro r gl f sp F L fr ln H locs ls hfu h2 hAr hSt hP hD hS hl
    have hln : ∀ i, i < r → ln i ≤ 2000 := fun i hi => by have := hSt.le hi; omega
    refine lv_aload_n hx hb d_S_sort_129 rfl (lv_at hl 0 rfl) ?_
    refine g_S_runs X hP 3 rfl rfl d_S_sort_130 ?_
    refine lv_iconst (v := nI 1) hx hb d_S_sort_133 (by decide) ?_
    refine w_icmp_le (tgt := 192) hx hb d_S_sort_134 (by decide) ⟨by omega, by omega⟩ (fun c1 => ?_) (fun c1 => ?_)
    · exact kk r gl f sp F L fr ln H locs ls c1 hAr hSt hP hD hS
    · refine lv_aload_n hx hb d_S_sort_137 rfl (lv_at hl 0 rfl) ?_
      refine lv_aload_n hx hb d_S_sort_138 rfl (lv_at hl 0 rfl) ?_
      refine g_S_runs X hP 3 rfl rfl d_S_sort_139 ?_
      refine lv_iconst (v := nI 2) hx hb d_S_sort_142 (by decide) ?_
      refine w_icmp_le (tgt := 180) hx hb d_S_sort_143 (by decide) ⟨by omega, by omega⟩ (fun c2 => ?_) (fun c2 => ?_)
      · refine lv_aload_n hx hb d_S_sort_180 rfl (lv_at hl 0 rfl) ?_
        refine g_S_runs X hP 3 rfl rfl d_S_sort_181 ?_
        refine lv_iconst (v := nI 2) hx hb d_S_sort_184 (by decide) ?_
        refine w_sub hx hb d_S_sort_185 (by omega) ?_
        obtain ⟨m1, m2, m3, m4, m5, m6⟩ := hSt.pair (kx := r - 2) (by omega)
        refine wr_v (wr := []) (run_V (C := R_S) X (c_S_merge l D cI cJ cO a hB k g (nI r) gl f sp F L H.size (r - 2) r _ _ _ _ rfl hk (by omega) (by omega) m1 (by omega) m3 m4 (hAr (r - 2) (by omega)).1 (hAr (r - 2) (by omega)).2 (hAr (r - 2 + 1) (by omega)).1 (hAr (r - 2 + 1) (by omega)).2 m5 m6) (cx_B X _ wk_S_50 wi_S_merge wc_S_merge wd_S_merge ⟨by omega, by omega⟩) wm_S_merge wl_S_merge hP hD [0, 1, 2, 3, 4, 5, 6, 7, 8, 9, 10] rfl (by decide) (rcv X hP (ci := 1) (q0 := 3) rfl rfl) rfl hl.1 rfl (Nat.le_of_ble_eq_true rfl) d_S_sort_186 hf) hP hD hS hA [0, 1, 2, 3, 4, 5, 6, 7, 8, 9, 10] [] rfl rfl (by decide) (fun i h => by cases h) ?_
        clear hP hD hS; intro u H locs hpost hP hD hS _
        obtain ⟨f2, sp2, gl2, F2, L2⟩ := u
        obtain ⟨⟨g1, g2⟩, g3, g4⟩ := hpost
        have hSt2 := hSt.merge (kx := r - 2) (by omega) g1 g2
        have hAr2 := hAr.merge (kx := r - 2) (by omega) g3 g4
        refine lv_goto (tgt := 129) hx hb d_S_sort_189 (by decide) ?_
        exact ih (r - 1) _ _ _ _ _ _ _ H locs ls (by omega) (by omega) hAr2 hSt2 hP hD hS hl
      · refine lv_aload_n hx hb d_S_sort_146 rfl (lv_at hl 0 rfl) ?_
        refine g_S_length X hP 3 rfl rfl d_S_sort_147 ?_
        refine lv_aload_n hx hb d_S_sort_150 rfl (lv_at hl 0 rfl) ?_
        refine g_S_runs X hP 3 rfl rfl d_S_sort_151 ?_
        refine lv_iconst (v := nI 3) hx hb d_S_sort_154 (by decide) ?_
        refine w_sub hx hb d_S_sort_155 (by omega) ?_
        refine w_ald X hP 1 rfl (by omega) (by decide) d_S_sort_156 ?_
        refine w_to (y := nI (ln (r - 3))) ((hAr (r - 3) (by omega)).2) ?_
        have := hln (r - 3) (by omega)
        refine lv_aload_n hx hb d_S_sort_157 rfl (lv_at hl 0 rfl) ?_
        refine g_S_length X hP 3 rfl rfl d_S_sort_158 ?_
        refine lv_aload_n hx hb d_S_sort_161 rfl (lv_at hl 0 rfl) ?_
        refine g_S_runs X hP 3 rfl rfl d_S_sort_162 ?_
        refine lv_iconst (v := nI 1) hx hb d_S_sort_165 (by decide) ?_
        refine w_sub hx hb d_S_sort_166 (by omega) ?_
        refine w_ald X hP 1 rfl (by omega) (by decide) d_S_sort_167 ?_
        refine w_to (y := nI (ln (r - 1))) ((hAr (r - 1) (by omega)).2) ?_
        have := hln (r - 1) (by omega)
        refine w_icmp_ge (tgt := 180) hx hb d_S_sort_168 (by decide) ⟨by omega, by omega⟩ (fun c3 => ?_) (fun c3 => ?_)
        · refine lv_aload_n hx hb d_S_sort_180 rfl (lv_at hl 0 rfl) ?_
          refine g_S_runs X hP 3 rfl rfl d_S_sort_181 ?_
          refine lv_iconst (v := nI 2) hx hb d_S_sort_184 (by decide) ?_
          refine w_sub hx hb d_S_sort_185 (by omega) ?_
          obtain ⟨m1, m2, m3, m4, m5, m6⟩ := hSt.pair (kx := r - 2) (by omega)
          refine wr_v (wr := []) (run_V (C := R_S) X (c_S_merge l D cI cJ cO a hB k g (nI r) gl f sp F L H.size (r - 2) r _ _ _ _ rfl hk (by omega) (by omega) m1 (by omega) m3 m4 (hAr (r - 2) (by omega)).1 (hAr (r - 2) (by omega)).2 (hAr (r - 2 + 1) (by omega)).1 (hAr (r - 2 + 1) (by omega)).2 m5 m6) (cx_B X _ wk_S_50 wi_S_merge wc_S_merge wd_S_merge ⟨by omega, by omega⟩) wm_S_merge wl_S_merge hP hD [0, 1, 2, 3, 4, 5, 6, 7, 8, 9, 10] rfl (by decide) (rcv X hP (ci := 1) (q0 := 3) rfl rfl) rfl hl.1 rfl (Nat.le_of_ble_eq_true rfl) d_S_sort_186 hf) hP hD hS hA [0, 1, 2, 3, 4, 5, 6, 7, 8, 9, 10] [] rfl rfl (by decide) (fun i h => by cases h) ?_
          clear hP hD hS; intro u H locs hpost hP hD hS _
          obtain ⟨f2, sp2, gl2, F2, L2⟩ := u
          obtain ⟨⟨g1, g2⟩, g3, g4⟩ := hpost
          have hSt2 := hSt.merge (kx := r - 2) (by omega) g1 g2
          have hAr2 := hAr.merge (kx := r - 2) (by omega) g3 g4
          refine lv_goto (tgt := 129) hx hb d_S_sort_189 (by decide) ?_
          exact ih (r - 1) _ _ _ _ _ _ _ H locs ls (by omega) (by omega) hAr2 hSt2 hP hD hS hl
        · refine lv_aload_n hx hb d_S_sort_171 rfl (lv_at hl 0 rfl) ?_
          refine g_S_runs X hP 3 rfl rfl d_S_sort_172 ?_
          refine lv_iconst (v := nI 3) hx hb d_S_sort_175 (by decide) ?_
          refine w_sub hx hb d_S_sort_176 (by omega) ?_
          refine lv_goto (tgt := 186) hx hb d_S_sort_177 (by decide) ?_
          obtain ⟨m1, m2, m3, m4, m5, m6⟩ := hSt.pair (kx := r - 3) (by omega)
          refine wr_v (wr := []) (run_V (C := R_S) X (c_S_merge l D cI cJ cO a hB k g (nI r) gl f sp F L H.size (r - 3) r _ _ _ _ rfl hk (by omega) (by omega) m1 (by omega) m3 m4 (hAr (r - 3) (by omega)).1 (hAr (r - 3) (by omega)).2 (hAr (r - 3 + 1) (by omega)).1 (hAr (r - 3 + 1) (by omega)).2 m5 m6) (cx_B X _ wk_S_50 wi_S_merge wc_S_merge wd_S_merge ⟨by omega, by omega⟩) wm_S_merge wl_S_merge hP hD [0, 1, 2, 3, 4, 5, 6, 7, 8, 9, 10] rfl (by decide) (rcv X hP (ci := 1) (q0 := 3) rfl rfl) rfl hl.1 rfl (Nat.le_of_ble_eq_true rfl) d_S_sort_186 hf) hP hD hS hA [0, 1, 2, 3, 4, 5, 6, 7, 8, 9, 10] [] rfl rfl (by decide) (fun i h => by cases h) ?_
          clear hP hD hS; intro u H locs hpost hP hD hS _
          obtain ⟨f2, sp2, gl2, F2, L2⟩ := u
          obtain ⟨⟨g1, g2⟩, g3, g4⟩ := hpost
          have hSt2 := hSt.merge (kx := r - 3) (by omega) g1 g2
          have hAr2 := hAr.merge (kx := r - 3) (by omega) g3 g4
          refine lv_goto (tgt := 129) hx hb d_S_sort_189 (by decide) ?_
          exact ih (r - 1) _ _ _ _ _ _ _ H locs ls (by omega) (by omega) hAr2 hSt2 hP hD hS hl
set_option maxHeartbeats 8000000 in
theorem l_sort1 {n : Nat} (X : Cx D cI cJ cO p s m c b_S_sort 7 R_S) (hk : k < 4) (hR : 6 ≤ R.frames ∧ 340 ≤ R.locals) (hf : cells ≤ R.cells ∧ slots ≤ R.slots) (hA : ∀ q, H0.size ≤ q → A q) (hn : n ≤ 2000) {least : Nat} (hle : least ≤ 32) (kk : ∀ (r : Nat) (gl : Int32) (f sp F L : Nat → Int32) (fr ln : Nat → Nat) (H : Heap) (locs : List Loc) (ls : Array Slot), r ≤ 40 → Ar F L fr ln r → St (Ky k g) f fr ln r n → va_P D vCL (WS cI a hB k g (nI r) gl f sp F L) H → va_D A (WS cI a hB k g (nI r) gl f sp F L) → va_S A H0 H locs → lv_has ls 7 [(0, .ref (a 10))] → W p l e R s m args below meth c H locs cells slots Q (F0 m 129 ls [])) : ∀ (fuel e9 : Nat) (r : Nat) (gl : Int32) (f sp F L : Nat → Int32) (fr ln : Nat → Nat) (H : Heap) (locs : List Loc) (ls : Array Slot), n - e9 < fuel → e9 ≤ n → r ≤ 40 → Ar F L fr ln r → St (Ky k g) f fr ln r e9 → Lw ln r → (∀ q, e9 ≤ q → q < n → f q = nI q) → va_P D vCL (WS cI a hB k g (nI r) gl f sp F L) H → va_D A (WS cI a hB k g (nI r) gl f sp F L) → va_S A H0 H locs → lv_has ls 7 [(0, .ref (a 10)), (1, .int (nI n)), (3, .int (nI least)), (4, .int (nI e9))] → W p l e R s m args below meth c H locs cells slots Q (F0 m 24 ls []) := by
  have hx := X.x
  have hb := X.b
  intro fuel
  induction fuel with
  | zero => intro e9 r gl f sp F L fr ln H locs ls h; omega
  | succ fuel ih =>
    intro e9 r gl f sp F L fr ln H locs ls hfu h1 h2 hAr hSt hLw hid hP hD hS hl
    have hr22 : r ≤ 22 := hLw.bound hSt.1 (fun i hi => by have := hSt.le hi; omega)
    refine lv_iload hx hb d_S_sort_24 (lv_at hl 3 rfl) ?_
    refine lv_iload_n hx hb d_S_sort_26 rfl (lv_at hl 1 rfl) ?_
    refine w_icmp_ge (tgt := 129) hx hb d_S_sort_27 (by decide) ⟨by omega, by omega⟩ (fun c1 => ?_) (fun c1 => ?_)
    · have ee : e9 = n := by omega
      subst ee
      exact kk r gl f sp F L fr ln H locs ls h2 hAr hSt hP hD hS (lv_sub hl [0] rfl)
    · refine lv_aload_n hx hb d_S_sort_30 rfl (lv_at hl 0 rfl) ?_
      refine lv_iload hx hb d_S_sort_31 (lv_at hl 3 rfl) ?_
      refine lv_iload_n hx hb d_S_sort_33 rfl (lv_at hl 1 rfl) ?_
      refine wr_i (wr := []) (run_V (C := R_S) X (c_S_run l D cI cJ cO a hB k g (nI r) gl f sp F L H.size e9 n hk c1 hn hid) (cx_B X _ wk_S_39 wi_S_run wc_S_run wd_S_run ⟨by omega, by omega⟩) wm_S_run wl_S_run hP hD [0, 1, 2, 3, 4, 5, 6, 7, 8, 9, 10] rfl (by decide) (rcv X hP (ci := 1) (q0 := 3) rfl rfl) rfl hl.1 rfl (Nat.le_of_ble_eq_true rfl) d_S_sort_34 hf) hP hD hS hA [0, 1, 2, 3, 4, 5, 6, 7, 8, 9, 10] [] rfl rfl (by decide) (fun i h => by cases h) ?_
      clear hP hD hS; intro rr f1 H locs hpost hP hD hS _
      obtain ⟨q, rfl, q1, q2, q3, q4⟩ := hpost
      refine lv_istore (lv' := [(5, .int (nI q)), (0, .ref (a 10)), (1, .int (nI n)), (3, .int (nI least)), (4, .int (nI e9))]) hx hb d_S_sort_37 hl (by decide) rfl ?_
      clear hl; intro ls hl
      refine lv_iload hx hb d_S_sort_39 (lv_at hl 0 rfl) ?_
      refine lv_iload_n hx hb d_S_sort_41 rfl (lv_at hl 3 rfl) ?_
      refine w_icmp_ge (tgt := 83) hx hb d_S_sort_42 (by decide) ⟨by omega, by omega⟩ (fun c2 => ?_) (fun c2 => ?_)
      · refine lv_aload_n hx hb d_S_sort_83 rfl (lv_at hl 1 rfl) ?_
        refine g_S_from X hP 3 rfl rfl d_S_sort_84 ?_
        refine lv_aload_n hx hb d_S_sort_87 rfl (lv_at hl 1 rfl) ?_
        refine g_S_runs X hP 3 rfl rfl d_S_sort_88 ?_
        refine lv_iload hx hb d_S_sort_91 (lv_at hl 4 rfl) ?_
        refine w_ast (ws' := WS cI a hB k g (nI r) gl f1 sp (upd F r (nI e9)) L) X hP hD hS 0 rfl (by omega) (by decide) rfl d_S_sort_93 ?_
        clear hP hD hS; intro H locs hP hD hS
        refine lv_aload_n hx hb d_S_sort_94 rfl (lv_at hl 1 rfl) ?_
        refine g_S_length X hP 3 rfl rfl d_S_sort_95 ?_
        refine lv_aload_n hx hb d_S_sort_98 rfl (lv_at hl 1 rfl) ?_
        refine g_S_runs X hP 3 rfl rfl d_S_sort_99 ?_
        refine lv_iload hx hb d_S_sort_102 (lv_at hl 0 rfl) ?_
        refine w_ast (ws' := WS cI a hB k g (nI r) gl f1 sp (upd F r (nI e9)) (upd L r (nI q))) X hP hD hS 1 rfl (by omega) (by decide) rfl d_S_sort_104 ?_
        clear hP hD hS; intro H locs hP hD hS
        refine lv_aload_n hx hb d_S_sort_105 rfl (lv_at hl 1 rfl) ?_
        refine lv_dup hx hb d_S_sort_106 rfl ?_
        refine g_S_runs X hP 3 rfl rfl d_S_sort_107 ?_
        refine lv_iconst (v := nI 1) hx hb d_S_sort_110 (by decide) ?_
        refine w_add hx hb d_S_sort_111 ?_
        refine p_S_runs (ws' := WS cI a hB k g (nI (r + 1)) gl f1 sp (upd F r (nI e9)) (upd L r (nI q))) X hP hD hS 3 rfl (Nat.le_of_ble_eq_true rfl) rfl d_S_sort_112 ?_
        clear hP hD hS; intro H locs hP hD hS
        refine lv_iload hx hb d_S_sort_115 (lv_at hl 4 rfl) ?_
        refine lv_iload hx hb d_S_sort_117 (lv_at hl 0 rfl) ?_
        refine w_add hx hb d_S_sort_119 ?_
        refine lv_istore (lv' := [(4, .int (nI (e9 + q))), (5, .int (nI q)), (0, .ref (a 10)), (1, .int (nI n)), (3, .int (nI least))]) hx hb d_S_sort_120 hl (by decide) rfl ?_
        clear hl; intro ls hl
        refine lv_aload_n hx hb d_S_sort_122 rfl (lv_at hl 2 rfl) ?_
        have hSt2 := hSt.push (q := q) (by omega) q3 q4
        have hAr2 := hAr.push (v := e9) (q := q)
        have hLw2 := hLw.push (q := q)
        refine wr_v (wr := []) (run_V (C := R_S) X (c_S_settle l D cI cJ cO a hB k g (nI (r + 1)) gl f1 sp (upd F r (nI e9)) (upd L r (nI q)) H.size _ _ (r + 1) (e9 + q) rfl hk (by omega) (by omega) (by omega) hAr2 hSt2 hLw2) (cx_B X _ wk_S_47 wi_S_settle wc_S_settle wd_S_settle ⟨by omega, by omega⟩) wm_S_settle wl_S_settle hP hD [0, 1, 2, 3, 4, 5, 6, 7, 8, 9, 10] rfl (by decide) (rcv X hP (ci := 1) (q0 := 3) rfl rfl) rfl hl.1 rfl (Nat.le_of_ble_eq_true rfl) d_S_sort_123 hf) hP hD hS hA [0, 1, 2, 3, 4, 5, 6, 7, 8, 9, 10] [] rfl rfl (by decide) (fun i h => by cases h) ?_
        clear hP hD hS; intro u H locs hpost hP hD hS _
        obtain ⟨f3, sp3, gl3, F3, L3, fr3, ln3, r3⟩ := u
        obtain ⟨⟨s1, s2⟩, s3, s4, s5, s6⟩ := hpost
        refine lv_goto (tgt := 24) hx hb d_S_sort_126 (by decide) ?_
        exact ih (e9 + q) r3 _ _ _ _ _ _ _ H locs ls (by omega) (by omega) s2 s3 s4 s5 (fun t t1 t2 => (s6 t t1).trans ((q4 t (Or.inr (by omega))).trans (hid t (by omega) t2))) hP hD hS (lv_sub hl [2, 3, 4, 0] rfl)
      · refine lv_iload hx hb d_S_sort_45 (lv_at hl 4 rfl) ?_
        refine lv_iload_n hx hb d_S_sort_47 rfl (lv_at hl 3 rfl) ?_
        refine w_add hx hb d_S_sort_48 ?_
        refine lv_iload_n hx hb d_S_sort_49 rfl (lv_at hl 2 rfl) ?_
        refine w_icmp_ge (tgt := 60) hx hb d_S_sort_50 (by decide) ⟨by omega, by omega⟩ (fun c3 => ?_) (fun c3 => ?_)
        · refine lv_iload_n hx hb d_S_sort_60 rfl (lv_at hl 2 rfl) ?_
          refine lv_istore (lv' := [(6, .int (nI n)), (5, .int (nI q)), (0, .ref (a 10)), (1, .int (nI n)), (3, .int (nI least)), (4, .int (nI e9))]) hx hb d_S_sort_61 hl (by decide) rfl ?_
          clear hl; intro ls hl
          refine lv_aload_n hx hb d_S_sort_63 rfl (lv_at hl 2 rfl) ?_
          refine lv_iload hx hb d_S_sort_64 (lv_at hl 5 rfl) ?_
          refine lv_iload hx hb d_S_sort_66 (lv_at hl 5 rfl) ?_
          refine lv_iload hx hb d_S_sort_68 (lv_at hl 1 rfl) ?_
          refine w_add hx hb d_S_sort_70 ?_
          refine lv_iload hx hb d_S_sort_71 (lv_at hl 0 rfl) ?_
          refine wr_v (wr := []) (run_V (C := R_S) X (c_S_insertion l D cI cJ cO a hB k g (nI r) gl f1 sp F L H.size e9 (e9 + q) (n) hk (by omega) (by omega) (by omega) q3 (fun t t1 t2 => (q4 t (Or.inr t1)).trans (hid t (by omega) (by omega)))) (cx_B X _ wk_S_43 wi_S_insertion wc_S_insertion wd_S_insertion ⟨by omega, by omega⟩) wm_S_insertion wl_S_insertion hP hD [0, 1, 2, 3, 4, 5, 6, 7, 8, 9, 10] rfl (by decide) (rcv X hP (ci := 1) (q0 := 3) rfl rfl) rfl hl.1 rfl (Nat.le_of_ble_eq_true rfl) d_S_sort_73 hf) hP hD hS hA [0, 1, 2, 3, 4, 5, 6, 7, 8, 9, 10] [] rfl rfl (by decide) (fun i h => by cases h) ?_
          clear hP hD hS; intro f2 H locs hpost hP hD hS _
          obtain ⟨i1, i2⟩ := hpost
          have ho : ∀ t, (t < e9 ∨ e9 + (n - e9) ≤ t) → f2 t = f t := fun t ht => (i2 t (by omega)).trans (q4 t (by omega))
          refine lv_iload hx hb d_S_sort_76 (lv_at hl 0 rfl) ?_
          refine lv_iload hx hb d_S_sort_78 (lv_at hl 5 rfl) ?_
          refine w_sub hx hb d_S_sort_80 (by omega) ?_
          refine lv_istore (lv' := [(5, .int (nI (n - e9))), (6, .int (nI n)), (0, .ref (a 10)), (1, .int (nI n)), (3, .int (nI least)), (4, .int (nI e9))]) hx hb d_S_sort_81 hl (by decide) rfl ?_
          clear hl; intro ls hl
          refine lv_aload_n hx hb d_S_sort_83 rfl (lv_at hl 2 rfl) ?_
          refine g_S_from X hP 3 rfl rfl d_S_sort_84 ?_
          refine lv_aload_n hx hb d_S_sort_87 rfl (lv_at hl 2 rfl) ?_
          refine g_S_runs X hP 3 rfl rfl d_S_sort_88 ?_
          refine lv_iload hx hb d_S_sort_91 (lv_at hl 5 rfl) ?_
          refine w_ast (ws' := WS cI a hB k g (nI r) gl f2 sp (upd F r (nI e9)) L) X hP hD hS 0 rfl (by omega) (by decide) rfl d_S_sort_93 ?_
          clear hP hD hS; intro H locs hP hD hS
          refine lv_aload_n hx hb d_S_sort_94 rfl (lv_at hl 2 rfl) ?_
          refine g_S_length X hP 3 rfl rfl d_S_sort_95 ?_
          refine lv_aload_n hx hb d_S_sort_98 rfl (lv_at hl 2 rfl) ?_
          refine g_S_runs X hP 3 rfl rfl d_S_sort_99 ?_
          refine lv_iload hx hb d_S_sort_102 (lv_at hl 0 rfl) ?_
          refine w_ast (ws' := WS cI a hB k g (nI r) gl f2 sp (upd F r (nI e9)) (upd L r (nI (n - e9)))) X hP hD hS 1 rfl (by omega) (by decide) rfl d_S_sort_104 ?_
          clear hP hD hS; intro H locs hP hD hS
          refine lv_aload_n hx hb d_S_sort_105 rfl (lv_at hl 2 rfl) ?_
          refine lv_dup hx hb d_S_sort_106 rfl ?_
          refine g_S_runs X hP 3 rfl rfl d_S_sort_107 ?_
          refine lv_iconst (v := nI 1) hx hb d_S_sort_110 (by decide) ?_
          refine w_add hx hb d_S_sort_111 ?_
          refine p_S_runs (ws' := WS cI a hB k g (nI (r + 1)) gl f2 sp (upd F r (nI e9)) (upd L r (nI (n - e9)))) X hP hD hS 3 rfl (Nat.le_of_ble_eq_true rfl) rfl d_S_sort_112 ?_
          clear hP hD hS; intro H locs hP hD hS
          refine lv_iload hx hb d_S_sort_115 (lv_at hl 5 rfl) ?_
          refine lv_iload hx hb d_S_sort_117 (lv_at hl 0 rfl) ?_
          refine w_add hx hb d_S_sort_119 ?_
          refine lv_istore (lv' := [(4, .int (nI (e9 + (n - e9)))), (5, .int (nI (n - e9))), (6, .int (nI n)), (0, .ref (a 10)), (1, .int (nI n)), (3, .int (nI least))]) hx hb d_S_sort_120 hl (by decide) rfl ?_
          clear hl; intro ls hl
          refine lv_aload_n hx hb d_S_sort_122 rfl (lv_at hl 3 rfl) ?_
          have hSt2 := hSt.push (q := n - e9) (by omega) (by rw [show e9 + (n - e9) = n by omega]; exact i1) ho
          have hAr2 := hAr.push (v := e9) (q := n - e9)
          have hLw2 := hLw.push (q := n - e9)
          refine wr_v (wr := []) (run_V (C := R_S) X (c_S_settle l D cI cJ cO a hB k g (nI (r + 1)) gl f2 sp (upd F r (nI e9)) (upd L r (nI (n - e9))) H.size _ _ (r + 1) (e9 + (n - e9)) rfl hk (by omega) (by omega) (by omega) hAr2 hSt2 hLw2) (cx_B X _ wk_S_47 wi_S_settle wc_S_settle wd_S_settle ⟨by omega, by omega⟩) wm_S_settle wl_S_settle hP hD [0, 1, 2, 3, 4, 5, 6, 7, 8, 9, 10] rfl (by decide) (rcv X hP (ci := 1) (q0 := 3) rfl rfl) rfl hl.1 rfl (Nat.le_of_ble_eq_true rfl) d_S_sort_123 hf) hP hD hS hA [0, 1, 2, 3, 4, 5, 6, 7, 8, 9, 10] [] rfl rfl (by decide) (fun i h => by cases h) ?_
          clear hP hD hS; intro u H locs hpost hP hD hS _
          obtain ⟨f3, sp3, gl3, F3, L3, fr3, ln3, r3⟩ := u
          obtain ⟨⟨s1, s2⟩, s3, s4, s5, s6⟩ := hpost
          refine lv_goto (tgt := 24) hx hb d_S_sort_126 (by decide) ?_
          exact ih (e9 + (n - e9)) r3 _ _ _ _ _ _ _ H locs ls (by omega) (by omega) s2 s3 s4 s5 (fun t t1 t2 => (s6 t t1).trans ((ho t (Or.inr (by omega))).trans (hid t (by omega) t2))) hP hD hS (lv_sub hl [3, 4, 5, 0] rfl)
        · refine lv_iload hx hb d_S_sort_53 (lv_at hl 4 rfl) ?_
          refine lv_iload_n hx hb d_S_sort_55 rfl (lv_at hl 3 rfl) ?_
          refine w_add hx hb d_S_sort_56 ?_
          refine lv_goto (tgt := 61) hx hb d_S_sort_57 (by decide) ?_
          refine lv_istore (lv' := [(6, .int (nI (e9 + least))), (5, .int (nI q)), (0, .ref (a 10)), (1, .int (nI n)), (3, .int (nI least)), (4, .int (nI e9))]) hx hb d_S_sort_61 hl (by decide) rfl ?_
          clear hl; intro ls hl
          refine lv_aload_n hx hb d_S_sort_63 rfl (lv_at hl 2 rfl) ?_
          refine lv_iload hx hb d_S_sort_64 (lv_at hl 5 rfl) ?_
          refine lv_iload hx hb d_S_sort_66 (lv_at hl 5 rfl) ?_
          refine lv_iload hx hb d_S_sort_68 (lv_at hl 1 rfl) ?_
          refine w_add hx hb d_S_sort_70 ?_
          refine lv_iload hx hb d_S_sort_71 (lv_at hl 0 rfl) ?_
          refine wr_v (wr := []) (run_V (C := R_S) X (c_S_insertion l D cI cJ cO a hB k g (nI r) gl f1 sp F L H.size e9 (e9 + q) (e9 + least) hk (by omega) (by omega) (by omega) q3 (fun t t1 t2 => (q4 t (Or.inr t1)).trans (hid t (by omega) (by omega)))) (cx_B X _ wk_S_43 wi_S_insertion wc_S_insertion wd_S_insertion ⟨by omega, by omega⟩) wm_S_insertion wl_S_insertion hP hD [0, 1, 2, 3, 4, 5, 6, 7, 8, 9, 10] rfl (by decide) (rcv X hP (ci := 1) (q0 := 3) rfl rfl) rfl hl.1 rfl (Nat.le_of_ble_eq_true rfl) d_S_sort_73 hf) hP hD hS hA [0, 1, 2, 3, 4, 5, 6, 7, 8, 9, 10] [] rfl rfl (by decide) (fun i h => by cases h) ?_
          clear hP hD hS; intro f2 H locs hpost hP hD hS _
          obtain ⟨i1, i2⟩ := hpost
          have ho : ∀ t, (t < e9 ∨ e9 + ((e9 + least) - e9) ≤ t) → f2 t = f t := fun t ht => (i2 t (by omega)).trans (q4 t (by omega))
          refine lv_iload hx hb d_S_sort_76 (lv_at hl 0 rfl) ?_
          refine lv_iload hx hb d_S_sort_78 (lv_at hl 5 rfl) ?_
          refine w_sub hx hb d_S_sort_80 (by omega) ?_
          refine lv_istore (lv' := [(5, .int (nI (e9 + least - e9))), (6, .int (nI (e9 + least))), (0, .ref (a 10)), (1, .int (nI n)), (3, .int (nI least)), (4, .int (nI e9))]) hx hb d_S_sort_81 hl (by decide) rfl ?_
          clear hl; intro ls hl
          refine lv_aload_n hx hb d_S_sort_83 rfl (lv_at hl 2 rfl) ?_
          refine g_S_from X hP 3 rfl rfl d_S_sort_84 ?_
          refine lv_aload_n hx hb d_S_sort_87 rfl (lv_at hl 2 rfl) ?_
          refine g_S_runs X hP 3 rfl rfl d_S_sort_88 ?_
          refine lv_iload hx hb d_S_sort_91 (lv_at hl 5 rfl) ?_
          refine w_ast (ws' := WS cI a hB k g (nI r) gl f2 sp (upd F r (nI e9)) L) X hP hD hS 0 rfl (by omega) (by decide) rfl d_S_sort_93 ?_
          clear hP hD hS; intro H locs hP hD hS
          refine lv_aload_n hx hb d_S_sort_94 rfl (lv_at hl 2 rfl) ?_
          refine g_S_length X hP 3 rfl rfl d_S_sort_95 ?_
          refine lv_aload_n hx hb d_S_sort_98 rfl (lv_at hl 2 rfl) ?_
          refine g_S_runs X hP 3 rfl rfl d_S_sort_99 ?_
          refine lv_iload hx hb d_S_sort_102 (lv_at hl 0 rfl) ?_
          refine w_ast (ws' := WS cI a hB k g (nI r) gl f2 sp (upd F r (nI e9)) (upd L r (nI (e9 + least - e9)))) X hP hD hS 1 rfl (by omega) (by decide) rfl d_S_sort_104 ?_
          clear hP hD hS; intro H locs hP hD hS
          refine lv_aload_n hx hb d_S_sort_105 rfl (lv_at hl 2 rfl) ?_
          refine lv_dup hx hb d_S_sort_106 rfl ?_
          refine g_S_runs X hP 3 rfl rfl d_S_sort_107 ?_
          refine lv_iconst (v := nI 1) hx hb d_S_sort_110 (by decide) ?_
          refine w_add hx hb d_S_sort_111 ?_
          refine p_S_runs (ws' := WS cI a hB k g (nI (r + 1)) gl f2 sp (upd F r (nI e9)) (upd L r (nI (e9 + least - e9)))) X hP hD hS 3 rfl (Nat.le_of_ble_eq_true rfl) rfl d_S_sort_112 ?_
          clear hP hD hS; intro H locs hP hD hS
          refine lv_iload hx hb d_S_sort_115 (lv_at hl 5 rfl) ?_
          refine lv_iload hx hb d_S_sort_117 (lv_at hl 0 rfl) ?_
          refine w_add hx hb d_S_sort_119 ?_
          refine lv_istore (lv' := [(4, .int (nI (e9 + (e9 + least - e9)))), (5, .int (nI (e9 + least - e9))), (6, .int (nI (e9 + least))), (0, .ref (a 10)), (1, .int (nI n)), (3, .int (nI least))]) hx hb d_S_sort_120 hl (by decide) rfl ?_
          clear hl; intro ls hl
          refine lv_aload_n hx hb d_S_sort_122 rfl (lv_at hl 3 rfl) ?_
          have hSt2 := hSt.push (q := (e9 + least) - e9) (by omega) (by rw [show e9 + ((e9 + least) - e9) = e9 + least by omega]; exact i1) ho
          have hAr2 := hAr.push (v := e9) (q := (e9 + least) - e9)
          have hLw2 := hLw.push (q := (e9 + least) - e9)
          refine wr_v (wr := []) (run_V (C := R_S) X (c_S_settle l D cI cJ cO a hB k g (nI (r + 1)) gl f2 sp (upd F r (nI e9)) (upd L r (nI (e9 + least - e9))) H.size _ _ (r + 1) (e9 + ((e9 + least) - e9)) rfl hk (by omega) (by omega) (by omega) hAr2 hSt2 hLw2) (cx_B X _ wk_S_47 wi_S_settle wc_S_settle wd_S_settle ⟨by omega, by omega⟩) wm_S_settle wl_S_settle hP hD [0, 1, 2, 3, 4, 5, 6, 7, 8, 9, 10] rfl (by decide) (rcv X hP (ci := 1) (q0 := 3) rfl rfl) rfl hl.1 rfl (Nat.le_of_ble_eq_true rfl) d_S_sort_123 hf) hP hD hS hA [0, 1, 2, 3, 4, 5, 6, 7, 8, 9, 10] [] rfl rfl (by decide) (fun i h => by cases h) ?_
          clear hP hD hS; intro u H locs hpost hP hD hS _
          obtain ⟨f3, sp3, gl3, F3, L3, fr3, ln3, r3⟩ := u
          obtain ⟨⟨s1, s2⟩, s3, s4, s5, s6⟩ := hpost
          refine lv_goto (tgt := 24) hx hb d_S_sort_126 (by decide) ?_
          exact ih (e9 + ((e9 + least) - e9)) r3 _ _ _ _ _ _ _ H locs ls (by omega) (by omega) s2 s3 s4 s5 (fun t t1 t2 => (s6 t t1).trans ((ho t (Or.inr (by omega))).trans (hid t (by omega) t2))) hP hD hS (lv_sub hl [3, 4, 5, 0] rfl)
end ST
set_option maxHeartbeats 4000000 in
/-- Sorter.sort(n, order): the first n cells, places 0 .. n - 1, come into their order -/
theorem c_S_sort (l : Launch) (D : va_G) (cI cJ cO : ClassId) (a : Nat → Nat) (hB k : Nat) (g : Nat → Int32) (ov : Value) (r0 gl : Int32) (f0 fSp fF fL : Nat → Int32) (sz n : Nat) (hk : k < 4) (hn : n ≤ 2000) (hid : ∀ q, q < n → f0 q = nI q) : Met l y_S_sort [Cond.code y_S_sort b_S_sort 7 none] (rk 6 0 0) (PW D cI cJ cO [.ref (a 10), .int (nI n), .ref hB] sz (WT cI a hB k g ov r0 gl f0 fSp fF fL)) (va_Qv (fun u : (Nat → Int32) × (Nat → Int32) × Int32 × (Nat → Int32) × (Nat → Int32) × Int32 => Sg (Ky k g) u.1 0 n ∧ In u.1 0 n 0 n) (BW D (va_A (WT cI a hB k g ov r0 gl f0 fSp fF fL) sz) (fun u => WS cI a hB k g u.2.2.2.2.2 u.2.2.1 u.1 u.2.1 u.2.2.2.1 u.2.2.2.2.1)) (va_A (WT cI a hB k g ov r0 gl f0 fSp fF fL) sz)) 0 0 (va_A (WT cI a hB k g ov r0 gl f0 fSp fF fL) sz) := by
  refine entW (by decide) (Nat.le_of_ble_eq_true rfl) ?_
  intro p e s m below meth c ls X hr hlocks hnm hsz hP hD hA hl
  have hx := X.x
  have hb := X.b
  have hR : 6 ≤ (rk 6 0 0).frames ∧ 340 ≤ (rk 6 0 0).locals := by decide
  have hf : 0 ≤ (rk 6 0 0).cells ∧ 0 ≤ (rk 6 0 0).slots := by decide
  have hS : va_S (va_A (WT cI a hB k g ov r0 gl f0 fSp fF fL) sz) s.heap s.heap [] := va_S.rf
  generalize hAe : va_A (WT cI a hB k g ov r0 gl f0 fSp fF fL) sz = A at hP hD hA hS ⊢
  have hl : lv_has ls 7 [(0, .ref (a 10)), (1, .int (nI n)), (2, .ref hB)] := hl
  refine lv_aload_n hx hb d_S_sort_0 rfl (lv_at hl 0 rfl) ?_
  refine lv_aload_n hx hb d_S_sort_1 rfl (lv_at hl 2 rfl) ?_
  refine p_S_order (ws' := WS cI a hB k g r0 gl f0 fSp fF fL) X hP hD hS 3 rfl (Nat.le_of_ble_eq_true rfl) rfl d_S_sort_2 ?_
  clear hP hD hS; intro H locs hP hD hS
  refine lv_aload_n hx hb d_S_sort_5 rfl (lv_at hl 0 rfl) ?_
  refine lv_iconst (v := nI 0) hx hb d_S_sort_6 (by decide) ?_
  refine p_S_runs (ws' := WS cI a hB k g (nI 0) gl f0 fSp fF fL) X hP hD hS 3 rfl (Nat.le_of_ble_eq_true rfl) rfl d_S_sort_7 ?_
  clear hP hD hS; intro H locs hP hD hS
  refine lv_aload_n hx hb d_S_sort_10 rfl (lv_at hl 0 rfl) ?_
  refine lv_bipush (v := nI 7) hx hb d_S_sort_11 (by decide) ?_
  refine p_S_gallop (ws' := WS cI a hB k g (nI 0) (nI 7) f0 fSp fF fL) X hP hD hS 3 rfl (Nat.le_of_ble_eq_true rfl) rfl d_S_sort_13 ?_
  clear hP hD hS; intro H locs hP hD hS
  refine lv_iload_n hx hb d_S_sort_16 rfl (lv_at hl 1 rfl) ?_
  refine rd_S X (c_S_shortest l D cI cJ cO n hn) (cx_B X _ wk_S_35 wi_S_shortest wc_S_shortest wd_S_shortest ⟨by omega, by omega⟩) ws_S_shortest P_nil rfl hl.1 rfl (Nat.le_of_ble_eq_true rfl) d_S_sort_17 hf (fun rr hrr => ?_)
  obtain ⟨least, rfl, hle⟩ := hrr
  refine lv_istore_n (lv' := [(3, .int (nI least)), (0, .ref (a 10)), (1, .int (nI n)), (2, .ref hB)]) hx hb d_S_sort_20 rfl hl (by decide) rfl ?_
  clear hl; intro ls hl
  refine lv_iconst (v := nI 0) hx hb d_S_sort_21 (by decide) ?_
  refine lv_istore (lv' := [(4, .int (nI 0)), (3, .int (nI least)), (0, .ref (a 10)), (1, .int (nI n)), (2, .ref hB)]) hx hb d_S_sort_22 hl (by decide) rfl ?_
  clear hl; intro ls hl
  refine l_sort1 X hk hR hf hA hn hle ?_ (n + 1) 0 0 _ f0 fSp fF fL (fun _ => 0) (fun _ => 0) _ _ ls (by omega) (by omega) (by omega) (fun i hi => by omega) ⟨fun i hi => by omega, fun h => by omega, fun i hi => by omega, fun _ => rfl, fun h => by omega, fun i hi => by omega⟩ ⟨fun i hi => by omega, fun i hi => by omega⟩ (fun q _ hq => hid q hq) hP hD hS (lv_sub hl [2, 3, 1, 0] rfl)
  clear hP hD hS hl; intro r gl f sp F L fr ln H locs ls h2 hAr hSt hP hD hS hl
  refine l_sort2 X hk hR hf hA hn ?_ (r + 1) r gl f sp F L fr ln H locs ls (by omega) h2 hAr hSt hP hD hS hl
  clear h2 hAr hSt hP hD hS hl; intro r gl f sp F L fr ln H locs ls h2 hAr hSt hP hD hS
  have hfin : Rn (Ky k g) f 0 n := by
    rcases (show r = 0 ∨ r = 1 by omega) with rfl | rfl
    · have e0 := hSt.2.2.2.1 rfl
      subst e0
      exact ⟨fun i j _ _ h => by omega, fun i _ h => by omega⟩
    · have e1 := hSt.2.1 (by omega)
      have e2 : fr 0 + ln 0 = n := hSt.2.2.2.2.1 (by omega)
      have e3 : Rn (Ky k g) f (fr 0) (fr 0 + ln 0) := hSt.2.2.2.2.2 0 (by omega)
      rw [e2, e1] at e3
      exact e3
  exact W.vret hx hb hr (fun t ht hW => ⟨⟨(f, sp, gl, F, L, nI r), rfl, hfin, by rw [ht]; exact hP, hD⟩, hS.F ht⟩) hS.2.2 d_S_sort_192
