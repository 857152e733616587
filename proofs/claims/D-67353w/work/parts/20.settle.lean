section P4
variable {K : Int32 → Int}
theorem St.pair {f : Nat → Int32} {fr ln : Nat → Nat} {r e kx : Nat} (h : St K f fr ln r e) (hk : kx + 1 < r) : fr kx + ln kx = fr (kx + 1) ∧ fr (kx + 1) + ln (kx + 1) ≤ e ∧ 1 ≤ ln kx ∧ 1 ≤ ln (kx + 1) ∧ Rn K f (fr kx) (fr (kx + 1)) ∧ Rn K f (fr (kx + 1)) (fr (kx + 1) + ln (kx + 1)) := by
  have e1 := h.2.2.1 kx hk
  refine ⟨e1.symm, h.le hk, h.1 kx (by omega), h.1 _ hk, ?_, h.2.2.2.2.2 _ hk⟩
  rw [e1]
  exact h.2.2.2.2.2 kx (by omega)
end P4
def WT (cI : ClassId) (a : Nat → Nat) (hB k : Nat) (g : Nat → Int32) (ov : Value) (rn gl : Int32) (fC fSp fF fL : Nat → Int32) : va_W := (a 13, .inl (cI, 40, .inl fF)) :: (a 14, .inl (cI, 40, .inl fL)) :: (a 12, .inl (cI, 2000, .inl fSp)) :: (a 10, .inr (1, [.ref (a 11), .ref (a 12), .ref (a 13), .ref (a 14), .int rn, .int gl, ov])) :: (a 11, .inl (cI, 2000, .inl fC)) :: WC cI a hB k g
section SS
variable {D : va_G} {cI cJ cO : ClassId} {p : Program} {l : Launch} {e : Env} {R : Room} {s : State} {m : MethodId} {args : Array Value} {below : List Frame} {meth : Method} {c : Code} {cells slots : Nat} {Q : State → Prop}
variable {a : Nat → Nat} {hB k : Nat} {g : Nat → Int32} {A : Nat → Prop} {H0 : Heap}
set_option maxHeartbeats 8000000 in
theorem l_settle {e9 : Nat} {f0 : Nat → Int32} (X : Cx D cI cJ cO p s m c b_S_settle 3 R_S) (hk : k < 4) (hR : 5 ≤ R.frames ∧ 300 ≤ R.locals) (hf : cells ≤ R.cells ∧ slots ≤ R.slots) (hA : ∀ q, H0.size ≤ q → A q) (he : e9 ≤ 2000) (kk : ∀ (r : Nat) (gl : Int32) (f sp F L : Nat → Int32) (fr ln : Nat → Nat) (H : Heap) (locs : List Loc) (ls : Array Slot) (pcx : Nat), 1 ≤ r → r ≤ 40 → Ar F L fr ln r → St (Ky k g) f fr ln r e9 → Lw ln (r) → (∀ q, e9 ≤ q → f q = f0 q) → va_P D vCL (WS cI a hB k g (nI r) gl f sp F L) H → va_D A (WS cI a hB k g (nI r) gl f sp F L) → va_S A H0 H locs → decode b_S_settle pcx = .ok (.return_, 1) → W p l e R s m args below meth c H locs cells slots Q (F0 m pcx ls [])) : ∀ (fuel : Nat) (r : Nat) (gl : Int32) (f sp F L : Nat → Int32) (fr ln : Nat → Nat) (H : Heap) (locs : List Loc) (ls : Array Slot), r < fuel → 1 ≤ r → r ≤ 40 → Ar F L fr ln r → St (Ky k g) f fr ln r e9 → Lw ln (r - 2) → (∀ q, e9 ≤ q → f q = f0 q) → va_P D vCL (WS cI a hB k g (nI r) gl f sp F L) H → va_D A (WS cI a hB k g (nI r) gl f sp F L) → va_S A H0 H locs → lv_has ls 3 [(0, .ref (a 10))] → W p l e R s m args below meth c H locs cells slots Q (F0 m 0 ls []) := by
  have hx := X.x
  have hb := X.b
  intro fuel
  induction fuel with
  | zero => intro r gl f sp F L fr ln H locs ls h; omega
  | succ fuel ih =>
    intro r gl f sp F L fr ln H locs ls hfu h1 h2 hAr hSt hLw hkeep hP hD hS hl
    have hln : ∀ i, i < r → ln i ≤ 2000 := fun i hi => by have := hSt.le hi; omega
    refine lv_aload_n hx hb d_S_settle_0 rfl (lv_at hl 0 rfl) ?_
    refine g_S_runs X hP 3 rfl rfl d_S_settle_1 ?_
    refine lv_iconst (v := nI 1) hx hb d_S_settle_4 (by decide) ?_
    refine w_icmp_le (tgt := 148) hx hb d_S_settle_5 (by decide) ⟨by omega, by omega⟩ (fun c1 => ?_) (fun c1 => ?_)
    · exact kk r gl f sp F L fr ln H locs ls 148 h1 h2 hAr hSt ⟨fun i hi => by omega, fun i hi => by omega⟩ hkeep hP hD hS d_S_settle_148
    · refine lv_aload_n hx hb d_S_settle_8 rfl (lv_at hl 0 rfl) ?_
      refine g_S_runs X hP 3 rfl rfl d_S_settle_9 ?_
      refine lv_iconst (v := nI 2) hx hb d_S_settle_12 (by decide) ?_
      refine w_sub hx hb d_S_settle_13 (by omega) ?_
      refine lv_istore_n (lv' := [(1, .int (nI (r - 2))), (0, .ref (a 10))]) hx hb d_S_settle_14 rfl hl (by decide) rfl ?_
      clear hl; intro ls hl
      refine lv_iload_n hx hb d_S_settle_15 rfl (lv_at hl 0 rfl) ?_
      refine w_if_le (tgt := 45) hx hb d_S_settle_16 (by decide) (by omega) (fun c2 => ?_) (fun c2 => ?_)
      · refine lv_iload_n hx hb d_S_settle_45 rfl (lv_at hl 0 rfl) ?_
        refine lv_iconst (v := nI 1) hx hb d_S_settle_46 (by decide) ?_
        refine w_icmp_le (tgt := 80) hx hb d_S_settle_47 (by decide) ⟨by omega, by omega⟩ (fun c4 => ?_) (fun c4 => ?_)
        · refine lv_iconst (v := nI 0) hx hb d_S_settle_80 (by decide) ?_
          refine lv_istore_n (lv' := [(2, .int (nI 0)), (1, .int (nI (r - 2))), (0, .ref (a 10))]) hx hb d_S_settle_81 rfl hl (by decide) rfl ?_
          clear hl; intro ls hl
          refine lv_iload_n hx hb d_S_settle_82 rfl (lv_at hl 0 rfl) ?_
          refine w_if_eq (tgt := 119) hx hb d_S_settle_83 (by decide) (by omega) (fun c7 => ?_) (fun c7 => ?_)
          · refine lv_aload_n hx hb d_S_settle_119 rfl (lv_at hl 2 rfl) ?_
            refine g_S_length X hP 3 rfl rfl d_S_settle_120 ?_
            refine lv_iload_n hx hb d_S_settle_123 rfl (lv_at hl 1 rfl) ?_
            refine w_ald X hP 1 rfl (by omega) (by decide) d_S_settle_124 ?_
            refine w_to (y := nI (ln (r - 2))) ((hAr (r - 2) (by omega)).2) ?_
            have := hln (r - 2) (by omega)
            refine lv_aload_n hx hb d_S_settle_125 rfl (lv_at hl 2 rfl) ?_
            refine g_S_length X hP 3 rfl rfl d_S_settle_126 ?_
            refine lv_iload_n hx hb d_S_settle_129 rfl (lv_at hl 1 rfl) ?_
            refine lv_iconst (v := nI 1) hx hb d_S_settle_130 (by decide) ?_
            refine w_add hx hb d_S_settle_131 ?_
            refine w_ald X hP 1 rfl (by omega) (by decide) d_S_settle_132 ?_
            refine w_to (y := nI (ln (r - 2 + 1))) ((hAr (r - 2 + 1) (by omega)).2) ?_
            have := hln (r - 2 + 1) (by omega)
            refine w_icmp_gt (tgt := 144) hx hb d_S_settle_133 (by decide) ⟨by omega, by omega⟩ (fun c8 => ?_) (fun c8 => ?_)
            · exact kk r gl f sp F L fr ln H locs ls 144 h1 h2 hAr hSt (hLw.done (by omega) c8 (fun q => by omega) (fun q => by omega)) hkeep hP hD hS d_S_settle_144
            · refine lv_aload_n hx hb d_S_settle_136 rfl (lv_at hl 2 rfl) ?_
              refine lv_iload_n hx hb d_S_settle_137 rfl (lv_at hl 1 rfl) ?_
              obtain ⟨m1, m2, m3, m4, m5, m6⟩ := hSt.pair (kx := r - 2) (by omega)
              refine wr_v (wr := []) (run_V (C := R_S) X (c_S_merge l D cI cJ cO a hB k g (nI r) gl f sp F L H.size (r - 2) r _ _ _ _ rfl hk (by omega) (by omega) m1 (by omega) m3 m4 (hAr (r - 2) (by omega)).1 (hAr (r - 2) (by omega)).2 (hAr (r - 2 + 1) (by omega)).1 (hAr (r - 2 + 1) (by omega)).2 m5 m6) (cx_B X _ wk_S_50 wi_S_merge wc_S_merge wd_S_merge ⟨by omega, by omega⟩) wm_S_merge wl_S_merge hP hD [0, 1, 2, 3, 4, 5, 6, 7, 8, 9, 10] rfl (by decide) (rcv X hP (ci := 1) (q0 := 3) rfl rfl) rfl hl.1 rfl (Nat.le_of_ble_eq_true rfl) d_S_settle_138 hf) hP hD hS hA [0, 1, 2, 3, 4, 5, 6, 7, 8, 9, 10] [] rfl rfl (by decide) (fun i h => by cases h) ?_
              clear hP hD hS; intro u H locs hpost hP hD hS _
              obtain ⟨f2, sp2, gl2, F2, L2⟩ := u
              obtain ⟨⟨g1, g2⟩, g3, g4⟩ := hpost
              have hSt2 := hSt.merge (kx := r - 2) (by omega) g1 g2
              have hAr2 := hAr.merge (kx := r - 2) (by omega) g3 g4
              refine lv_goto (tgt := 145) hx hb d_S_settle_141 (by decide) ?_
              refine lv_goto (tgt := 0) hx hb d_S_settle_145 (by decide) ?_
              exact ih (r - 1) _ _ _ _ _ _ _ H locs ls (by omega) (by omega) (by omega) hAr2 hSt2 (hLw.merge (kx := r - 2) (by omega) (by omega)) (fun q hq => (g2 q (Or.inr (by omega))).trans (hkeep q hq)) hP hD hS (lv_sub hl [2] rfl)
          · exact absurd rfl c7
        · refine lv_aload_n hx hb d_S_settle_50 rfl (lv_at hl 1 rfl) ?_
          refine g_S_length X hP 3 rfl rfl d_S_settle_51 ?_
          refine lv_iload_n hx hb d_S_settle_54 rfl (lv_at hl 0 rfl) ?_
          refine lv_iconst (v := nI 2) hx hb d_S_settle_55 (by decide) ?_
          refine w_sub hx hb d_S_settle_56 (by omega) ?_
          refine w_ald X hP 1 rfl (by omega) (by decide) d_S_settle_57 ?_
          refine w_to (y := nI (ln (r - 2 - 2))) ((hAr (r - 2 - 2) (by omega)).2) ?_
          have := hln (r - 2 - 2) (by omega)
          refine lv_aload_n hx hb d_S_settle_58 rfl (lv_at hl 1 rfl) ?_
          refine g_S_length X hP 3 rfl rfl d_S_settle_59 ?_
          refine lv_iload_n hx hb d_S_settle_62 rfl (lv_at hl 0 rfl) ?_
          refine lv_iconst (v := nI 1) hx hb d_S_settle_63 (by decide) ?_
          refine w_sub hx hb d_S_settle_64 (by omega) ?_
          refine w_ald X hP 1 rfl (by omega) (by decide) d_S_settle_65 ?_
          refine w_to (y := nI (ln (r - 2 - 1))) ((hAr (r - 2 - 1) (by omega)).2) ?_
          have := hln (r - 2 - 1) (by omega)
          refine lv_aload_n hx hb d_S_settle_66 rfl (lv_at hl 1 rfl) ?_
          refine g_S_length X hP 3 rfl rfl d_S_settle_67 ?_
          refine lv_iload_n hx hb d_S_settle_70 rfl (lv_at hl 0 rfl) ?_
          refine w_ald X hP 1 rfl (by omega) (by decide) d_S_settle_71 ?_
          refine w_to (y := nI (ln (r - 2))) ((hAr (r - 2) (by omega)).2) ?_
          have := hln (r - 2) (by omega)
          refine w_add hx hb d_S_settle_72 ?_
          refine w_icmp_gt (tgt := 80) hx hb d_S_settle_73 (by decide) ⟨by omega, by omega⟩ (fun c5 => ?_) (fun c5 => ?_)
          · refine lv_iconst (v := nI 0) hx hb d_S_settle_80 (by decide) ?_
            refine lv_istore_n (lv' := [(2, .int (nI 0)), (1, .int (nI (r - 2))), (0, .ref (a 10))]) hx hb d_S_settle_81 rfl hl (by decide) rfl ?_
            clear hl; intro ls hl
            refine lv_iload_n hx hb d_S_settle_82 rfl (lv_at hl 0 rfl) ?_
            refine w_if_eq (tgt := 119) hx hb d_S_settle_83 (by decide) (by omega) (fun c7 => ?_) (fun c7 => ?_)
            · refine lv_aload_n hx hb d_S_settle_119 rfl (lv_at hl 2 rfl) ?_
              refine g_S_length X hP 3 rfl rfl d_S_settle_120 ?_
              refine lv_iload_n hx hb d_S_settle_123 rfl (lv_at hl 1 rfl) ?_
              refine w_ald X hP 1 rfl (by omega) (by decide) d_S_settle_124 ?_
              refine w_to (y := nI (ln (r - 2))) ((hAr (r - 2) (by omega)).2) ?_
              have := hln (r - 2) (by omega)
              refine lv_aload_n hx hb d_S_settle_125 rfl (lv_at hl 2 rfl) ?_
              refine g_S_length X hP 3 rfl rfl d_S_settle_126 ?_
              refine lv_iload_n hx hb d_S_settle_129 rfl (lv_at hl 1 rfl) ?_
              refine lv_iconst (v := nI 1) hx hb d_S_settle_130 (by decide) ?_
              refine w_add hx hb d_S_settle_131 ?_
              refine w_ald X hP 1 rfl (by omega) (by decide) d_S_settle_132 ?_
              refine w_to (y := nI (ln (r - 2 + 1))) ((hAr (r - 2 + 1) (by omega)).2) ?_
              have := hln (r - 2 + 1) (by omega)
              refine w_icmp_gt (tgt := 144) hx hb d_S_settle_133 (by decide) ⟨by omega, by omega⟩ (fun c8 => ?_) (fun c8 => ?_)
              · exact kk r gl f sp F L fr ln H locs ls 144 h1 h2 hAr hSt (hLw.done (by omega) c8 (fun q => by omega) (fun _ => c5)) hkeep hP hD hS d_S_settle_144
              · refine lv_aload_n hx hb d_S_settle_136 rfl (lv_at hl 2 rfl) ?_
                refine lv_iload_n hx hb d_S_settle_137 rfl (lv_at hl 1 rfl) ?_
                obtain ⟨m1, m2, m3, m4, m5, m6⟩ := hSt.pair (kx := r - 2) (by omega)
                refine wr_v (wr := []) (run_V (C := R_S) X (c_S_merge l D cI cJ cO a hB k g (nI r) gl f sp F L H.size (r - 2) r _ _ _ _ rfl hk (by omega) (by omega) m1 (by omega) m3 m4 (hAr (r - 2) (by omega)).1 (hAr (r - 2) (by omega)).2 (hAr (r - 2 + 1) (by omega)).1 (hAr (r - 2 + 1) (by omega)).2 m5 m6) (cx_B X _ wk_S_50 wi_S_merge wc_S_merge wd_S_merge ⟨by omega, by omega⟩) wm_S_merge wl_S_merge hP hD [0, 1, 2, 3, 4, 5, 6, 7, 8, 9, 10] rfl (by decide) (rcv X hP (ci := 1) (q0 := 3) rfl rfl) rfl hl.1 rfl (Nat.le_of_ble_eq_true rfl) d_S_settle_138 hf) hP hD hS hA [0, 1, 2, 3, 4, 5, 6, 7, 8, 9, 10] [] rfl rfl (by decide) (fun i h => by cases h) ?_
                clear hP hD hS; intro u H locs hpost hP hD hS _
                obtain ⟨f2, sp2, gl2, F2, L2⟩ := u
                obtain ⟨⟨g1, g2⟩, g3, g4⟩ := hpost
                have hSt2 := hSt.merge (kx := r - 2) (by omega) g1 g2
                have hAr2 := hAr.merge (kx := r - 2) (by omega) g3 g4
                refine lv_goto (tgt := 145) hx hb d_S_settle_141 (by decide) ?_
                refine lv_goto (tgt := 0) hx hb d_S_settle_145 (by decide) ?_
                exact ih (r - 1) _ _ _ _ _ _ _ H locs ls (by omega) (by omega) (by omega) hAr2 hSt2 (hLw.merge (kx := r - 2) (by omega) (by omega)) (fun q hq => (g2 q (Or.inr (by omega))).trans (hkeep q hq)) hP hD hS (lv_sub hl [2] rfl)
            · exact absurd rfl c7
          · refine lv_iconst (v := nI 1) hx hb d_S_settle_76 (by decide) ?_
            refine lv_goto (tgt := 81) hx hb d_S_settle_77 (by decide) ?_
            refine lv_istore_n (lv' := [(2, .int (nI 1)), (1, .int (nI (r - 2))), (0, .ref (a 10))]) hx hb d_S_settle_81 rfl hl (by decide) rfl ?_
            clear hl; intro ls hl
            refine lv_iload_n hx hb d_S_settle_82 rfl (lv_at hl 0 rfl) ?_
            refine w_if_eq (tgt := 119) hx hb d_S_settle_83 (by decide) (by omega) (fun c7 => ?_) (fun c7 => ?_)
            · exact absurd c7 (by decide)
            · refine lv_aload_n hx hb d_S_settle_86 rfl (lv_at hl 2 rfl) ?_
              refine lv_aload_n hx hb d_S_settle_87 rfl (lv_at hl 2 rfl) ?_
              refine g_S_length X hP 3 rfl rfl d_S_settle_88 ?_
              refine lv_iload_n hx hb d_S_settle_91 rfl (lv_at hl 1 rfl) ?_
              refine lv_iconst (v := nI 1) hx hb d_S_settle_92 (by decide) ?_
              refine w_sub hx hb d_S_settle_93 (by omega) ?_
              refine w_ald X hP 1 rfl (by omega) (by decide) d_S_settle_94 ?_
              refine w_to (y := nI (ln (r - 2 - 1))) ((hAr (r - 2 - 1) (by omega)).2) ?_
              have := hln (r - 2 - 1) (by omega)
              refine lv_aload_n hx hb d_S_settle_95 rfl (lv_at hl 2 rfl) ?_
              refine g_S_length X hP 3 rfl rfl d_S_settle_96 ?_
              refine lv_iload_n hx hb d_S_settle_99 rfl (lv_at hl 1 rfl) ?_
              refine lv_iconst (v := nI 1) hx hb d_S_settle_100 (by decide) ?_
              refine w_add hx hb d_S_settle_101 ?_
              refine w_ald X hP 1 rfl (by omega) (by decide) d_S_settle_102 ?_
              refine w_to (y := nI (ln (r - 2 + 1))) ((hAr (r - 2 + 1) (by omega)).2) ?_
              have := hln (r - 2 + 1) (by omega)
              refine w_icmp_ge (tgt := 112) hx hb d_S_settle_103 (by decide) ⟨by omega, by omega⟩ (fun c8 => ?_) (fun c8 => ?_)
              · refine lv_iload_n hx hb d_S_settle_112 rfl (lv_at hl 1 rfl) ?_
                obtain ⟨m1, m2, m3, m4, m5, m6⟩ := hSt.pair (kx := r - 2) (by omega)
                refine wr_v (wr := []) (run_V (C := R_S) X (c_S_merge l D cI cJ cO a hB k g (nI r) gl f sp F L H.size (r - 2) r _ _ _ _ rfl hk (by omega) (by omega) m1 (by omega) m3 m4 (hAr (r - 2) (by omega)).1 (hAr (r - 2) (by omega)).2 (hAr (r - 2 + 1) (by omega)).1 (hAr (r - 2 + 1) (by omega)).2 m5 m6) (cx_B X _ wk_S_50 wi_S_merge wc_S_merge wd_S_merge ⟨by omega, by omega⟩) wm_S_merge wl_S_merge hP hD [0, 1, 2, 3, 4, 5, 6, 7, 8, 9, 10] rfl (by decide) (rcv X hP (ci := 1) (q0 := 3) rfl rfl) rfl hl.1 rfl (Nat.le_of_ble_eq_true rfl) d_S_settle_113 hf) hP hD hS hA [0, 1, 2, 3, 4, 5, 6, 7, 8, 9, 10] [] rfl rfl (by decide) (fun i h => by cases h) ?_
                clear hP hD hS; intro u H locs hpost hP hD hS _
                obtain ⟨f2, sp2, gl2, F2, L2⟩ := u
                obtain ⟨⟨g1, g2⟩, g3, g4⟩ := hpost
                have hSt2 := hSt.merge (kx := r - 2) (by omega) g1 g2
                have hAr2 := hAr.merge (kx := r - 2) (by omega) g3 g4
                refine lv_goto (tgt := 145) hx hb d_S_settle_116 (by decide) ?_
                refine lv_goto (tgt := 0) hx hb d_S_settle_145 (by decide) ?_
                exact ih (r - 1) _ _ _ _ _ _ _ H locs ls (by omega) (by omega) (by omega) hAr2 hSt2 (hLw.merge (kx := r - 2) (by omega) (by omega)) (fun q hq => (g2 q (Or.inr (by omega))).trans (hkeep q hq)) hP hD hS (lv_sub hl [2] rfl)
              · refine lv_iload_n hx hb d_S_settle_106 rfl (lv_at hl 1 rfl) ?_
                refine lv_iconst (v := nI 1) hx hb d_S_settle_107 (by decide) ?_
                refine w_sub hx hb d_S_settle_108 (by omega) ?_
                refine lv_goto (tgt := 113) hx hb d_S_settle_109 (by decide) ?_
                obtain ⟨m1, m2, m3, m4, m5, m6⟩ := hSt.pair (kx := r - 2 - 1) (by omega)
                refine wr_v (wr := []) (run_V (C := R_S) X (c_S_merge l D cI cJ cO a hB k g (nI r) gl f sp F L H.size (r - 2 - 1) r _ _ _ _ rfl hk (by omega) (by omega) m1 (by omega) m3 m4 (hAr (r - 2 - 1) (by omega)).1 (hAr (r - 2 - 1) (by omega)).2 (hAr (r - 2 - 1 + 1) (by omega)).1 (hAr (r - 2 - 1 + 1) (by omega)).2 m5 m6) (cx_B X _ wk_S_50 wi_S_merge wc_S_merge wd_S_merge ⟨by omega, by omega⟩) wm_S_merge wl_S_merge hP hD [0, 1, 2, 3, 4, 5, 6, 7, 8, 9, 10] rfl (by decide) (rcv X hP (ci := 1) (q0 := 3) rfl rfl) rfl hl.1 rfl (Nat.le_of_ble_eq_true rfl) d_S_settle_113 hf) hP hD hS hA [0, 1, 2, 3, 4, 5, 6, 7, 8, 9, 10] [] rfl rfl (by decide) (fun i h => by cases h) ?_
                clear hP hD hS; intro u H locs hpost hP hD hS _
                obtain ⟨f2, sp2, gl2, F2, L2⟩ := u
                obtain ⟨⟨g1, g2⟩, g3, g4⟩ := hpost
                have hSt2 := hSt.merge (kx := r - 2 - 1) (by omega) g1 g2
                have hAr2 := hAr.merge (kx := r - 2 - 1) (by omega) g3 g4
                refine lv_goto (tgt := 145) hx hb d_S_settle_116 (by decide) ?_
                refine lv_goto (tgt := 0) hx hb d_S_settle_145 (by decide) ?_
                exact ih (r - 1) _ _ _ _ _ _ _ H locs ls (by omega) (by omega) (by omega) hAr2 hSt2 (hLw.merge (kx := r - 2 - 1) (by omega) (by omega)) (fun q hq => (g2 q (Or.inr (by omega))).trans (hkeep q hq)) hP hD hS (lv_sub hl [2] rfl)
      · refine lv_aload_n hx hb d_S_settle_19 rfl (lv_at hl 1 rfl) ?_
        refine g_S_length X hP 3 rfl rfl d_S_settle_20 ?_
        refine lv_iload_n hx hb d_S_settle_23 rfl (lv_at hl 0 rfl) ?_
        refine lv_iconst (v := nI 1) hx hb d_S_settle_24 (by decide) ?_
        refine w_sub hx hb d_S_settle_25 (by omega) ?_
        refine w_ald X hP 1 rfl (by omega) (by decide) d_S_settle_26 ?_
        refine w_to (y := nI (ln (r - 2 - 1))) ((hAr (r - 2 - 1) (by omega)).2) ?_
        have := hln (r - 2 - 1) (by omega)
        refine lv_aload_n hx hb d_S_settle_27 rfl (lv_at hl 1 rfl) ?_
        refine g_S_length X hP 3 rfl rfl d_S_settle_28 ?_
        refine lv_iload_n hx hb d_S_settle_31 rfl (lv_at hl 0 rfl) ?_
        refine w_ald X hP 1 rfl (by omega) (by decide) d_S_settle_32 ?_
        refine w_to (y := nI (ln (r - 2))) ((hAr (r - 2) (by omega)).2) ?_
        have := hln (r - 2) (by omega)
        refine lv_aload_n hx hb d_S_settle_33 rfl (lv_at hl 1 rfl) ?_
        refine g_S_length X hP 3 rfl rfl d_S_settle_34 ?_
        refine lv_iload_n hx hb d_S_settle_37 rfl (lv_at hl 0 rfl) ?_
        refine lv_iconst (v := nI 1) hx hb d_S_settle_38 (by decide) ?_
        refine w_add hx hb d_S_settle_39 ?_
        refine w_ald X hP 1 rfl (by omega) (by decide) d_S_settle_40 ?_
        refine w_to (y := nI (ln (r - 2 + 1))) ((hAr (r - 2 + 1) (by omega)).2) ?_
        have := hln (r - 2 + 1) (by omega)
        refine w_add hx hb d_S_settle_41 ?_
        refine w_icmp_le (tgt := 76) hx hb d_S_settle_42 (by decide) ⟨by omega, by omega⟩ (fun c3 => ?_) (fun c3 => ?_)
        · refine lv_iconst (v := nI 1) hx hb d_S_settle_76 (by decide) ?_
          refine lv_goto (tgt := 81) hx hb d_S_settle_77 (by decide) ?_
          refine lv_istore_n (lv' := [(2, .int (nI 1)), (1, .int (nI (r - 2))), (0, .ref (a 10))]) hx hb d_S_settle_81 rfl hl (by decide) rfl ?_
          clear hl; intro ls hl
          refine lv_iload_n hx hb d_S_settle_82 rfl (lv_at hl 0 rfl) ?_
          refine w_if_eq (tgt := 119) hx hb d_S_settle_83 (by decide) (by omega) (fun c7 => ?_) (fun c7 => ?_)
          · exact absurd c7 (by decide)
          · refine lv_aload_n hx hb d_S_settle_86 rfl (lv_at hl 2 rfl) ?_
            refine lv_aload_n hx hb d_S_settle_87 rfl (lv_at hl 2 rfl) ?_
            refine g_S_length X hP 3 rfl rfl d_S_settle_88 ?_
            refine lv_iload_n hx hb d_S_settle_91 rfl (lv_at hl 1 rfl) ?_
            refine lv_iconst (v := nI 1) hx hb d_S_settle_92 (by decide) ?_
            refine w_sub hx hb d_S_settle_93 (by omega) ?_
            refine w_ald X hP 1 rfl (by omega) (by decide) d_S_settle_94 ?_
            refine w_to (y := nI (ln (r - 2 - 1))) ((hAr (r - 2 - 1) (by omega)).2) ?_
            have := hln (r - 2 - 1) (by omega)
            refine lv_aload_n hx hb d_S_settle_95 rfl (lv_at hl 2 rfl) ?_
            refine g_S_length X hP 3 rfl rfl d_S_settle_96 ?_
            refine lv_iload_n hx hb d_S_settle_99 rfl (lv_at hl 1 rfl) ?_
            refine lv_iconst (v := nI 1) hx hb d_S_settle_100 (by decide) ?_
            refine w_add hx hb d_S_settle_101 ?_
            refine w_ald X hP 1 rfl (by omega) (by decide) d_S_settle_102 ?_
            refine w_to (y := nI (ln (r - 2 + 1))) ((hAr (r - 2 + 1) (by omega)).2) ?_
            have := hln (r - 2 + 1) (by omega)
            refine w_icmp_ge (tgt := 112) hx hb d_S_settle_103 (by decide) ⟨by omega, by omega⟩ (fun c8 => ?_) (fun c8 => ?_)
            · refine lv_iload_n hx hb d_S_settle_112 rfl (lv_at hl 1 rfl) ?_
              obtain ⟨m1, m2, m3, m4, m5, m6⟩ := hSt.pair (kx := r - 2) (by omega)
              refine wr_v (wr := []) (run_V (C := R_S) X (c_S_merge l D cI cJ cO a hB k g (nI r) gl f sp F L H.size (r - 2) r _ _ _ _ rfl hk (by omega) (by omega) m1 (by omega) m3 m4 (hAr (r - 2) (by omega)).1 (hAr (r - 2) (by omega)).2 (hAr (r - 2 + 1) (by omega)).1 (hAr (r - 2 + 1) (by omega)).2 m5 m6) (cx_B X _ wk_S_50 wi_S_merge wc_S_merge wd_S_merge ⟨by omega, by omega⟩) wm_S_merge wl_S_merge hP hD [0, 1, 2, 3, 4, 5, 6, 7, 8, 9, 10] rfl (by decide) (rcv X hP (ci := 1) (q0 := 3) rfl rfl) rfl hl.1 rfl (Nat.le_of_ble_eq_true rfl) d_S_settle_113 hf) hP hD hS hA [0, 1, 2, 3, 4, 5, 6, 7, 8, 9, 10] [] rfl rfl (by decide) (fun i h => by cases h) ?_
              clear hP hD hS; intro u H locs hpost hP hD hS _
              obtain ⟨f2, sp2, gl2, F2, L2⟩ := u
              obtain ⟨⟨g1, g2⟩, g3, g4⟩ := hpost
              have hSt2 := hSt.merge (kx := r - 2) (by omega) g1 g2
              have hAr2 := hAr.merge (kx := r - 2) (by omega) g3 g4
              refine lv_goto (tgt := 145) hx hb d_S_settle_116 (by decide) ?_
              refine lv_goto (tgt := 0) hx hb d_S_settle_145 (by decide) ?_
              exact ih (r - 1) _ _ _ _ _ _ _ H locs ls (by omega) (by omega) (by omega) hAr2 hSt2 (hLw.merge (kx := r - 2) (by omega) (by omega)) (fun q hq => (g2 q (Or.inr (by omega))).trans (hkeep q hq)) hP hD hS (lv_sub hl [2] rfl)
            · refine lv_iload_n hx hb d_S_settle_106 rfl (lv_at hl 1 rfl) ?_
              refine lv_iconst (v := nI 1) hx hb d_S_settle_107 (by decide) ?_
              refine w_sub hx hb d_S_settle_108 (by omega) ?_
              refine lv_goto (tgt := 113) hx hb d_S_settle_109 (by decide) ?_
              obtain ⟨m1, m2, m3, m4, m5, m6⟩ := hSt.pair (kx := r - 2 - 1) (by omega)
              refine wr_v (wr := []) (run_V (C := R_S) X (c_S_merge l D cI cJ cO a hB k g (nI r) gl f sp F L H.size (r - 2 - 1) r _ _ _ _ rfl hk (by omega) (by omega) m1 (by omega) m3 m4 (hAr (r - 2 - 1) (by omega)).1 (hAr (r - 2 - 1) (by omega)).2 (hAr (r - 2 - 1 + 1) (by omega)).1 (hAr (r - 2 - 1 + 1) (by omega)).2 m5 m6) (cx_B X _ wk_S_50 wi_S_merge wc_S_merge wd_S_merge ⟨by omega, by omega⟩) wm_S_merge wl_S_merge hP hD [0, 1, 2, 3, 4, 5, 6, 7, 8, 9, 10] rfl (by decide) (rcv X hP (ci := 1) (q0 := 3) rfl rfl) rfl hl.1 rfl (Nat.le_of_ble_eq_true rfl) d_S_settle_113 hf) hP hD hS hA [0, 1, 2, 3, 4, 5, 6, 7, 8, 9, 10] [] rfl rfl (by decide) (fun i h => by cases h) ?_
              clear hP hD hS; intro u H locs hpost hP hD hS _
              obtain ⟨f2, sp2, gl2, F2, L2⟩ := u
              obtain ⟨⟨g1, g2⟩, g3, g4⟩ := hpost
              have hSt2 := hSt.merge (kx := r - 2 - 1) (by omega) g1 g2
              have hAr2 := hAr.merge (kx := r - 2 - 1) (by omega) g3 g4
              refine lv_goto (tgt := 145) hx hb d_S_settle_116 (by decide) ?_
              refine lv_goto (tgt := 0) hx hb d_S_settle_145 (by decide) ?_
              exact ih (r - 1) _ _ _ _ _ _ _ H locs ls (by omega) (by omega) (by omega) hAr2 hSt2 (hLw.merge (kx := r - 2 - 1) (by omega) (by omega)) (fun q hq => (g2 q (Or.inr (by omega))).trans (hkeep q hq)) hP hD hS (lv_sub hl [2] rfl)
        · refine lv_iload_n hx hb d_S_settle_45 rfl (lv_at hl 0 rfl) ?_
          refine lv_iconst (v := nI 1) hx hb d_S_settle_46 (by decide) ?_
          refine w_icmp_le (tgt := 80) hx hb d_S_settle_47 (by decide) ⟨by omega, by omega⟩ (fun c4 => ?_) (fun c4 => ?_)
          · refine lv_iconst (v := nI 0) hx hb d_S_settle_80 (by decide) ?_
            refine lv_istore_n (lv' := [(2, .int (nI 0)), (1, .int (nI (r - 2))), (0, .ref (a 10))]) hx hb d_S_settle_81 rfl hl (by decide) rfl ?_
            clear hl; intro ls hl
            refine lv_iload_n hx hb d_S_settle_82 rfl (lv_at hl 0 rfl) ?_
            refine w_if_eq (tgt := 119) hx hb d_S_settle_83 (by decide) (by omega) (fun c7 => ?_) (fun c7 => ?_)
            · refine lv_aload_n hx hb d_S_settle_119 rfl (lv_at hl 2 rfl) ?_
              refine g_S_length X hP 3 rfl rfl d_S_settle_120 ?_
              refine lv_iload_n hx hb d_S_settle_123 rfl (lv_at hl 1 rfl) ?_
              refine w_ald X hP 1 rfl (by omega) (by decide) d_S_settle_124 ?_
              refine w_to (y := nI (ln (r - 2))) ((hAr (r - 2) (by omega)).2) ?_
              have := hln (r - 2) (by omega)
              refine lv_aload_n hx hb d_S_settle_125 rfl (lv_at hl 2 rfl) ?_
              refine g_S_length X hP 3 rfl rfl d_S_settle_126 ?_
              refine lv_iload_n hx hb d_S_settle_129 rfl (lv_at hl 1 rfl) ?_
              refine lv_iconst (v := nI 1) hx hb d_S_settle_130 (by decide) ?_
              refine w_add hx hb d_S_settle_131 ?_
              refine w_ald X hP 1 rfl (by omega) (by decide) d_S_settle_132 ?_
              refine w_to (y := nI (ln (r - 2 + 1))) ((hAr (r - 2 + 1) (by omega)).2) ?_
              have := hln (r - 2 + 1) (by omega)
              refine w_icmp_gt (tgt := 144) hx hb d_S_settle_133 (by decide) ⟨by omega, by omega⟩ (fun c8 => ?_) (fun c8 => ?_)
              · exact kk r gl f sp F L fr ln H locs ls 144 h1 h2 hAr hSt (hLw.done (by omega) c8 (fun _ => c3) (fun q => by omega)) hkeep hP hD hS d_S_settle_144
              · refine lv_aload_n hx hb d_S_settle_136 rfl (lv_at hl 2 rfl) ?_
                refine lv_iload_n hx hb d_S_settle_137 rfl (lv_at hl 1 rfl) ?_
                obtain ⟨m1, m2, m3, m4, m5, m6⟩ := hSt.pair (kx := r - 2) (by omega)
                refine wr_v (wr := []) (run_V (C := R_S) X (c_S_merge l D cI cJ cO a hB k g (nI r) gl f sp F L H.size (r - 2) r _ _ _ _ rfl hk (by omega) (by omega) m1 (by omega) m3 m4 (hAr (r - 2) (by omega)).1 (hAr (r - 2) (by omega)).2 (hAr (r - 2 + 1) (by omega)).1 (hAr (r - 2 + 1) (by omega)).2 m5 m6) (cx_B X _ wk_S_50 wi_S_merge wc_S_merge wd_S_merge ⟨by omega, by omega⟩) wm_S_merge wl_S_merge hP hD [0, 1, 2, 3, 4, 5, 6, 7, 8, 9, 10] rfl (by decide) (rcv X hP (ci := 1) (q0 := 3) rfl rfl) rfl hl.1 rfl (Nat.le_of_ble_eq_true rfl) d_S_settle_138 hf) hP hD hS hA [0, 1, 2, 3, 4, 5, 6, 7, 8, 9, 10] [] rfl rfl (by decide) (fun i h => by cases h) ?_
                clear hP hD hS; intro u H locs hpost hP hD hS _
                obtain ⟨f2, sp2, gl2, F2, L2⟩ := u
                obtain ⟨⟨g1, g2⟩, g3, g4⟩ := hpost
                have hSt2 := hSt.merge (kx := r - 2) (by omega) g1 g2
                have hAr2 := hAr.merge (kx := r - 2) (by omega) g3 g4
                refine lv_goto (tgt := 145) hx hb d_S_settle_141 (by decide) ?_
                refine lv_goto (tgt := 0) hx hb d_S_settle_145 (by decide) ?_
                exact ih (r - 1) _ _ _ _ _ _ _ H locs ls (by omega) (by omega) (by omega) hAr2 hSt2 (hLw.merge (kx := r - 2) (by omega) (by omega)) (fun q hq => (g2 q (Or.inr (by omega))).trans (hkeep q hq)) hP hD hS (lv_sub hl [2] rfl)
            · exact absurd rfl c7
          · refine lv_aload_n hx hb d_S_settle_50 rfl (lv_at hl 1 rfl) ?_
            refine g_S_length X hP 3 rfl rfl d_S_settle_51 ?_
            refine lv_iload_n hx hb d_S_settle_54 rfl (lv_at hl 0 rfl) ?_
            refine lv_iconst (v := nI 2) hx hb d_S_settle_55 (by decide) ?_
            refine w_sub hx hb d_S_settle_56 (by omega) ?_
            refine w_ald X hP 1 rfl (by omega) (by decide) d_S_settle_57 ?_
            refine w_to (y := nI (ln (r - 2 - 2))) ((hAr (r - 2 - 2) (by omega)).2) ?_
            have := hln (r - 2 - 2) (by omega)
            refine lv_aload_n hx hb d_S_settle_58 rfl (lv_at hl 1 rfl) ?_
            refine g_S_length X hP 3 rfl rfl d_S_settle_59 ?_
            refine lv_iload_n hx hb d_S_settle_62 rfl (lv_at hl 0 rfl) ?_
            refine lv_iconst (v := nI 1) hx hb d_S_settle_63 (by decide) ?_
            refine w_sub hx hb d_S_settle_64 (by omega) ?_
            refine w_ald X hP 1 rfl (by omega) (by decide) d_S_settle_65 ?_
            refine w_to (y := nI (ln (r - 2 - 1))) ((hAr (r - 2 - 1) (by omega)).2) ?_
            have := hln (r - 2 - 1) (by omega)
            refine lv_aload_n hx hb d_S_settle_66 rfl (lv_at hl 1 rfl) ?_
            refine g_S_length X hP 3 rfl rfl d_S_settle_67 ?_
            refine lv_iload_n hx hb d_S_settle_70 rfl (lv_at hl 0 rfl) ?_
            refine w_ald X hP 1 rfl (by omega) (by decide) d_S_settle_71 ?_
            refine w_to (y := nI (ln (r - 2))) ((hAr (r - 2) (by omega)).2) ?_
            have := hln (r - 2) (by omega)
            refine w_add hx hb d_S_settle_72 ?_
            refine w_icmp_gt (tgt := 80) hx hb d_S_settle_73 (by decide) ⟨by omega, by omega⟩ (fun c5 => ?_) (fun c5 => ?_)
            · refine lv_iconst (v := nI 0) hx hb d_S_settle_80 (by decide) ?_
              refine lv_istore_n (lv' := [(2, .int (nI 0)), (1, .int (nI (r - 2))), (0, .ref (a 10))]) hx hb d_S_settle_81 rfl hl (by decide) rfl ?_
              clear hl; intro ls hl
              refine lv_iload_n hx hb d_S_settle_82 rfl (lv_at hl 0 rfl) ?_
              refine w_if_eq (tgt := 119) hx hb d_S_settle_83 (by decide) (by omega) (fun c7 => ?_) (fun c7 => ?_)
              · refine lv_aload_n hx hb d_S_settle_119 rfl (lv_at hl 2 rfl) ?_
                refine g_S_length X hP 3 rfl rfl d_S_settle_120 ?_
                refine lv_iload_n hx hb d_S_settle_123 rfl (lv_at hl 1 rfl) ?_
                refine w_ald X hP 1 rfl (by omega) (by decide) d_S_settle_124 ?_
                refine w_to (y := nI (ln (r - 2))) ((hAr (r - 2) (by omega)).2) ?_
                have := hln (r - 2) (by omega)
                refine lv_aload_n hx hb d_S_settle_125 rfl (lv_at hl 2 rfl) ?_
                refine g_S_length X hP 3 rfl rfl d_S_settle_126 ?_
                refine lv_iload_n hx hb d_S_settle_129 rfl (lv_at hl 1 rfl) ?_
                refine lv_iconst (v := nI 1) hx hb d_S_settle_130 (by decide) ?_
                refine w_add hx hb d_S_settle_131 ?_
                refine w_ald X hP 1 rfl (by omega) (by decide) d_S_settle_132 ?_
                refine w_to (y := nI (ln (r - 2 + 1))) ((hAr (r - 2 + 1) (by omega)).2) ?_
                have := hln (r - 2 + 1) (by omega)
                refine w_icmp_gt (tgt := 144) hx hb d_S_settle_133 (by decide) ⟨by omega, by omega⟩ (fun c8 => ?_) (fun c8 => ?_)
                · exact kk r gl f sp F L fr ln H locs ls 144 h1 h2 hAr hSt (hLw.done (by omega) c8 (fun _ => c3) (fun _ => c5)) hkeep hP hD hS d_S_settle_144
                · refine lv_aload_n hx hb d_S_settle_136 rfl (lv_at hl 2 rfl) ?_
                  refine lv_iload_n hx hb d_S_settle_137 rfl (lv_at hl 1 rfl) ?_
                  obtain ⟨m1, m2, m3, m4, m5, m6⟩ := hSt.pair (kx := r - 2) (by omega)
                  refine wr_v (wr := []) (run_V (C := R_S) X (c_S_merge l D cI cJ cO a hB k g (nI r) gl f sp F L H.size (r - 2) r _ _ _ _ rfl hk (by omega) (by omega) m1 (by omega) m3 m4 (hAr (r - 2) (by omega)).1 (hAr (r - 2) (by omega)).2 (hAr (r - 2 + 1) (by omega)).1 (hAr (r - 2 + 1) (by omega)).2 m5 m6) (cx_B X _ wk_S_50 wi_S_merge wc_S_merge wd_S_merge ⟨by omega, by omega⟩) wm_S_merge wl_S_merge hP hD [0, 1, 2, 3, 4, 5, 6, 7, 8, 9, 10] rfl (by decide) (rcv X hP (ci := 1) (q0 := 3) rfl rfl) rfl hl.1 rfl (Nat.le_of_ble_eq_true rfl) d_S_settle_138 hf) hP hD hS hA [0, 1, 2, 3, 4, 5, 6, 7, 8, 9, 10] [] rfl rfl (by decide) (fun i h => by cases h) ?_
                  clear hP hD hS; intro u H locs hpost hP hD hS _
                  obtain ⟨f2, sp2, gl2, F2, L2⟩ := u
                  obtain ⟨⟨g1, g2⟩, g3, g4⟩ := hpost
                  have hSt2 := hSt.merge (kx := r - 2) (by omega) g1 g2
                  have hAr2 := hAr.merge (kx := r - 2) (by omega) g3 g4
                  refine lv_goto (tgt := 145) hx hb d_S_settle_141 (by decide) ?_
                  refine lv_goto (tgt := 0) hx hb d_S_settle_145 (by decide) ?_
                  exact ih (r - 1) _ _ _ _ _ _ _ H locs ls (by omega) (by omega) (by omega) hAr2 hSt2 (hLw.merge (kx := r - 2) (by omega) (by omega)) (fun q hq => (g2 q (Or.inr (by omega))).trans (hkeep q hq)) hP hD hS (lv_sub hl [2] rfl)
              · exact absurd rfl c7
            · refine lv_iconst (v := nI 1) hx hb d_S_settle_76 (by decide) ?_
              refine lv_goto (tgt := 81) hx hb d_S_settle_77 (by decide) ?_
              refine lv_istore_n (lv' := [(2, .int (nI 1)), (1, .int (nI (r - 2))), (0, .ref (a 10))]) hx hb d_S_settle_81 rfl hl (by decide) rfl ?_
              clear hl; intro ls hl
              refine lv_iload_n hx hb d_S_settle_82 rfl (lv_at hl 0 rfl) ?_
              refine w_if_eq (tgt := 119) hx hb d_S_settle_83 (by decide) (by omega) (fun c7 => ?_) (fun c7 => ?_)
              · exact absurd c7 (by decide)
              · refine lv_aload_n hx hb d_S_settle_86 rfl (lv_at hl 2 rfl) ?_
                refine lv_aload_n hx hb d_S_settle_87 rfl (lv_at hl 2 rfl) ?_
                refine g_S_length X hP 3 rfl rfl d_S_settle_88 ?_
                refine lv_iload_n hx hb d_S_settle_91 rfl (lv_at hl 1 rfl) ?_
                refine lv_iconst (v := nI 1) hx hb d_S_settle_92 (by decide) ?_
                refine w_sub hx hb d_S_settle_93 (by omega) ?_
                refine w_ald X hP 1 rfl (by omega) (by decide) d_S_settle_94 ?_
                refine w_to (y := nI (ln (r - 2 - 1))) ((hAr (r - 2 - 1) (by omega)).2) ?_
                have := hln (r - 2 - 1) (by omega)
                refine lv_aload_n hx hb d_S_settle_95 rfl (lv_at hl 2 rfl) ?_
                refine g_S_length X hP 3 rfl rfl d_S_settle_96 ?_
                refine lv_iload_n hx hb d_S_settle_99 rfl (lv_at hl 1 rfl) ?_
                refine lv_iconst (v := nI 1) hx hb d_S_settle_100 (by decide) ?_
                refine w_add hx hb d_S_settle_101 ?_
                refine w_ald X hP 1 rfl (by omega) (by decide) d_S_settle_102 ?_
                refine w_to (y := nI (ln (r - 2 + 1))) ((hAr (r - 2 + 1) (by omega)).2) ?_
                have := hln (r - 2 + 1) (by omega)
                refine w_icmp_ge (tgt := 112) hx hb d_S_settle_103 (by decide) ⟨by omega, by omega⟩ (fun c8 => ?_) (fun c8 => ?_)
                · refine lv_iload_n hx hb d_S_settle_112 rfl (lv_at hl 1 rfl) ?_
                  obtain ⟨m1, m2, m3, m4, m5, m6⟩ := hSt.pair (kx := r - 2) (by omega)
                  refine wr_v (wr := []) (run_V (C := R_S) X (c_S_merge l D cI cJ cO a hB k g (nI r) gl f sp F L H.size (r - 2) r _ _ _ _ rfl hk (by omega) (by omega) m1 (by omega) m3 m4 (hAr (r - 2) (by omega)).1 (hAr (r - 2) (by omega)).2 (hAr (r - 2 + 1) (by omega)).1 (hAr (r - 2 + 1) (by omega)).2 m5 m6) (cx_B X _ wk_S_50 wi_S_merge wc_S_merge wd_S_merge ⟨by omega, by omega⟩) wm_S_merge wl_S_merge hP hD [0, 1, 2, 3, 4, 5, 6, 7, 8, 9, 10] rfl (by decide) (rcv X hP (ci := 1) (q0 := 3) rfl rfl) rfl hl.1 rfl (Nat.le_of_ble_eq_true rfl) d_S_settle_113 hf) hP hD hS hA [0, 1, 2, 3, 4, 5, 6, 7, 8, 9, 10] [] rfl rfl (by decide) (fun i h => by cases h) ?_
                  clear hP hD hS; intro u H locs hpost hP hD hS _
                  obtain ⟨f2, sp2, gl2, F2, L2⟩ := u
                  obtain ⟨⟨g1, g2⟩, g3, g4⟩ := hpost
                  have hSt2 := hSt.merge (kx := r - 2) (by omega) g1 g2
                  have hAr2 := hAr.merge (kx := r - 2) (by omega) g3 g4
                  refine lv_goto (tgt := 145) hx hb d_S_settle_116 (by decide) ?_
                  refine lv_goto (tgt := 0) hx hb d_S_settle_145 (by decide) ?_
                  exact ih (r - 1) _ _ _ _ _ _ _ H locs ls (by omega) (by omega) (by omega) hAr2 hSt2 (hLw.merge (kx := r - 2) (by omega) (by omega)) (fun q hq => (g2 q (Or.inr (by omega))).trans (hkeep q hq)) hP hD hS (lv_sub hl [2] rfl)
                · refine lv_iload_n hx hb d_S_settle_106 rfl (lv_at hl 1 rfl) ?_
                  refine lv_iconst (v := nI 1) hx hb d_S_settle_107 (by decide) ?_
                  refine w_sub hx hb d_S_settle_108 (by omega) ?_
                  refine lv_goto (tgt := 113) hx hb d_S_settle_109 (by decide) ?_
                  obtain ⟨m1, m2, m3, m4, m5, m6⟩ := hSt.pair (kx := r - 2 - 1) (by omega)
                  refine wr_v (wr := []) (run_V (C := R_S) X (c_S_merge l D cI cJ cO a hB k g (nI r) gl f sp F L H.size (r - 2 - 1) r _ _ _ _ rfl hk (by omega) (by omega) m1 (by omega) m3 m4 (hAr (r - 2 - 1) (by omega)).1 (hAr (r - 2 - 1) (by omega)).2 (hAr (r - 2 - 1 + 1) (by omega)).1 (hAr (r - 2 - 1 + 1) (by omega)).2 m5 m6) (cx_B X _ wk_S_50 wi_S_merge wc_S_merge wd_S_merge ⟨by omega, by omega⟩) wm_S_merge wl_S_merge hP hD [0, 1, 2, 3, 4, 5, 6, 7, 8, 9, 10] rfl (by decide) (rcv X hP (ci := 1) (q0 := 3) rfl rfl) rfl hl.1 rfl (Nat.le_of_ble_eq_true rfl) d_S_settle_113 hf) hP hD hS hA [0, 1, 2, 3, 4, 5, 6, 7, 8, 9, 10] [] rfl rfl (by decide) (fun i h => by cases h) ?_
                  clear hP hD hS; intro u H locs hpost hP hD hS _
                  obtain ⟨f2, sp2, gl2, F2, L2⟩ := u
                  obtain ⟨⟨g1, g2⟩, g3, g4⟩ := hpost
                  have hSt2 := hSt.merge (kx := r - 2 - 1) (by omega) g1 g2
                  have hAr2 := hAr.merge (kx := r - 2 - 1) (by omega) g3 g4
                  refine lv_goto (tgt := 145) hx hb d_S_settle_116 (by decide) ?_
                  refine lv_goto (tgt := 0) hx hb d_S_settle_145 (by decide) ?_
                  exact ih (r - 1) _ _ _ _ _ _ _ H locs ls (by omega) (by omega) (by omega) hAr2 hSt2 (hLw.merge (kx := r - 2 - 1) (by omega) (by omega)) (fun q hq => (g2 q (Or.inr (by omega))).trans (hkeep q hq)) hP hD hS (lv_sub hl [2] rfl)
end SS
set_option maxHeartbeats 4000000 in
/-- settle(): merges until each run is longer than the next, and than the next two -/
theorem c_S_settle (l : Launch) (D : va_G) (cI cJ cO : ClassId) (a : Nat → Nat) (hB k : Nat) (g : Nat → Int32) (r0 gl : Int32) (f0 fSp fF fL : Nat → Int32) (sz : Nat) (fr ln : Nat → Nat) (r e9 : Nat) (hr0 : r0 = nI r) (hk : k < 4) (h1 : 1 ≤ r) (h2 : r ≤ 40) (he : e9 ≤ 2000) (hAr : Ar fF fL fr ln r) (hSt : St (Ky k g) f0 fr ln r e9) (hLw : Lw ln (r - 2)) : Met l y_S_settle [Cond.code y_S_settle b_S_settle 3 none] (rk 5 0 0) (PW D cI cJ cO [.ref (a 10)] sz (WS cI a hB k g r0 gl f0 fSp fF fL)) (va_Qv (fun u : (Nat → Int32) × (Nat → Int32) × Int32 × (Nat → Int32) × (Nat → Int32) × (Nat → Nat) × (Nat → Nat) × Nat => (1 ≤ u.2.2.2.2.2.2.2 ∧ u.2.2.2.2.2.2.2 ≤ 40) ∧ Ar u.2.2.2.1 u.2.2.2.2.1 u.2.2.2.2.2.1 u.2.2.2.2.2.2.1 u.2.2.2.2.2.2.2 ∧ St (Ky k g) u.1 u.2.2.2.2.2.1 u.2.2.2.2.2.2.1 u.2.2.2.2.2.2.2 e9 ∧ Lw u.2.2.2.2.2.2.1 u.2.2.2.2.2.2.2 ∧ (∀ q, e9 ≤ q → u.1 q = f0 q)) (BW D (va_A (WS cI a hB k g r0 gl f0 fSp fF fL) sz) (fun u => WS cI a hB k g (nI u.2.2.2.2.2.2.2) u.2.2.1 u.1 u.2.1 u.2.2.2.1 u.2.2.2.2.1)) (va_A (WS cI a hB k g r0 gl f0 fSp fF fL) sz)) 0 0 (va_A (WS cI a hB k g r0 gl f0 fSp fF fL) sz) := by
  subst hr0
  refine entW (by decide) (Nat.le_of_ble_eq_true rfl) ?_
  intro p e s m below meth c ls X hr hlocks hnm hsz hP hD hA hl
  have hx := X.x
  have hb := X.b
  have hR : 5 ≤ (rk 5 0 0).frames ∧ 300 ≤ (rk 5 0 0).locals := by decide
  have hf : 0 ≤ (rk 5 0 0).cells ∧ 0 ≤ (rk 5 0 0).slots := by decide
  have hS : va_S (va_A (WS cI a hB k g (nI r) gl f0 fSp fF fL) sz) s.heap s.heap [] := va_S.rf
  generalize hAe : va_A (WS cI a hB k g (nI r) gl f0 fSp fF fL) sz = A at hP hD hA hS ⊢
  refine l_settle X hk hR hf hA he ?_ (r + 1) r gl f0 fSp fF fL fr ln _ _ ls (by omega) h1 h2 hAr hSt hLw (fun _ _ => rfl) hP hD hS hl
  clear hP hD hS hl ls
  intro r gl f sp F L fr ln H locs ls pcx h1 h2 hAr hSt hLw hkeep hP hD hS hdg
  exact W.vret hx hb hr (fun t ht hW => ⟨⟨(f, sp, gl, F, L, fr, ln, r), rfl, ⟨⟨h1, h2⟩, hAr, hSt, hLw, hkeep⟩, by rw [ht]; exact hP, hD⟩, hS.F ht⟩) hS.2.2 hdg
