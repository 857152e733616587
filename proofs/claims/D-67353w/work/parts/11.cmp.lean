set_option maxHeartbeats 4000000 in
set_option maxRecDepth 100000 in
theorem c_O0_compare (l : Launch) (D : va_G) (cI cJ cO : ClassId) (o : Nat) (u v : Int32) : Met l y_O0_compare [Cond.code y_O0_compare b_O0_compare 3 (some .int)] (rk 0 0 0) (PR D cI cJ cO [.ref o, .int u, .int v] []) (vp_Si (cmpP (ky 0 u) (ky 0 v))) 0 0 (fun _ => False) := by
  refine entR (by decide) (Nat.le_of_ble_eq_true rfl) ?_
  intro p e s m below meth c ls X hr hlocks hP hl
  have hx := X.x
  have hb := X.b
  have hl : lv_has ls 3 [(0, .ref o), (1, .int u), (2, .int v)] := hl
  refine lv_iload_n hx hb d_O0_compare_0 rfl (lv_at hl 1 rfl) ?_
  refine lv_iload_n hx hb d_O0_compare_1 rfl (lv_at hl 2 rfl) ?_
  refine lv_icmp_ge (tgt := 9) hx hb d_O0_compare_2 (by decide) (fun h1 => ?_) (fun h1 => ?_)
  · refine lv_iload_n hx hb d_O0_compare_9 rfl (lv_at hl 1 rfl) ?_
    refine lv_iload_n hx hb d_O0_compare_10 rfl (lv_at hl 2 rfl) ?_
    refine lv_icmp_le (tgt := 18) hx hb d_O0_compare_11 (by decide) (fun h2 => ?_) (fun h2 => ?_)
    · refine lv_iconst (v := nI 0) hx hb d_O0_compare_18 (by decide) ?_
      exact W.iret (v := nI 0) hx hb hr (fun t ht _ => ⟨nI 0, rfl, cm_zero (by rw [i32_le] at *; rw [ky0, ky0]; omega), ht⟩) (fun q h => by cases h) d_O0_compare_19
    · refine lv_iconst (v := nI 1) hx hb d_O0_compare_14 (by decide) ?_
      refine lv_goto (tgt := 19) hx hb d_O0_compare_15 (by decide) ?_
      exact W.iret (v := nI 1) hx hb hr (fun t ht _ => ⟨nI 1, rfl, cm_pos (by rw [i32_le] at *; rw [ky0, ky0]; omega), ht⟩) (fun q h => by cases h) d_O0_compare_19
  · refine lv_iconst (v := -1) hx hb d_O0_compare_5 (by decide) ?_
    refine lv_goto (tgt := 19) hx hb d_O0_compare_6 (by decide) ?_
    exact W.iret (v := -1) hx hb hr (fun t ht _ => ⟨-1, rfl, cm_neg (by rw [i32_le] at *; rw [ky0, ky0]; omega), ht⟩) (fun q h => by cases h) d_O0_compare_19
set_option maxHeartbeats 4000000 in
set_option maxRecDepth 100000 in
theorem c_O1_compare (l : Launch) (D : va_G) (cI cJ cO : ClassId) (o : Nat) (u v : Int32) : Met l y_O1_compare [Cond.code y_O1_compare b_O1_compare 3 (some .int)] (rk 0 0 0) (PR D cI cJ cO [.ref o, .int u, .int v] []) (vp_Si (cmpP (ky 1 u) (ky 1 v))) 0 0 (fun _ => False) := by
  refine entR (by decide) (Nat.le_of_ble_eq_true rfl) ?_
  intro p e s m below meth c ls X hr hlocks hP hl
  have hx := X.x
  have hb := X.b
  have hl : lv_has ls 3 [(0, .ref o), (1, .int u), (2, .int v)] := hl
  refine lv_iload_n hx hb d_O1_compare_0 rfl (lv_at hl 1 rfl) ?_
  refine lv_iload_n hx hb d_O1_compare_1 rfl (lv_at hl 2 rfl) ?_
  refine lv_icmp_le (tgt := 9) hx hb d_O1_compare_2 (by decide) (fun h1 => ?_) (fun h1 => ?_)
  · refine lv_iload_n hx hb d_O1_compare_9 rfl (lv_at hl 1 rfl) ?_
    refine lv_iload_n hx hb d_O1_compare_10 rfl (lv_at hl 2 rfl) ?_
    refine lv_icmp_ge (tgt := 18) hx hb d_O1_compare_11 (by decide) (fun h2 => ?_) (fun h2 => ?_)
    · refine lv_iconst (v := nI 0) hx hb d_O1_compare_18 (by decide) ?_
      exact W.iret (v := nI 0) hx hb hr (fun t ht _ => ⟨nI 0, rfl, cm_zero (by rw [i32_le] at *; rw [ky1, ky1]; omega), ht⟩) (fun q h => by cases h) d_O1_compare_19
    · refine lv_iconst (v := nI 1) hx hb d_O1_compare_14 (by decide) ?_
      refine lv_goto (tgt := 19) hx hb d_O1_compare_15 (by decide) ?_
      exact W.iret (v := nI 1) hx hb hr (fun t ht _ => ⟨nI 1, rfl, cm_pos (by rw [i32_le] at *; rw [ky1, ky1]; omega), ht⟩) (fun q h => by cases h) d_O1_compare_19
  · refine lv_iconst (v := -1) hx hb d_O1_compare_5 (by decide) ?_
    refine lv_goto (tgt := 19) hx hb d_O1_compare_6 (by decide) ?_
    exact W.iret (v := -1) hx hb hr (fun t ht _ => ⟨-1, rfl, cm_neg (by rw [i32_le] at *; rw [ky1, ky1]; omega), ht⟩) (fun q h => by cases h) d_O1_compare_19
set_option maxHeartbeats 4000000 in
set_option maxRecDepth 100000 in
theorem c_O2_compare (l : Launch) (D : va_G) (cI cJ cO : ClassId) (o : Nat) (u v : Int32) : Met l y_O2_compare [Cond.code y_O2_compare b_O2_compare 3 (some .int)] (rk 0 0 0) (PR D cI cJ cO [.ref o, .int u, .int v] []) (vp_Si (cmpP (ky 2 u) (ky 2 v))) 0 0 (fun _ => False) := by
  refine entR (by decide) (Nat.le_of_ble_eq_true rfl) ?_
  intro p e s m below meth c ls X hr hlocks hP hl
  have hx := X.x
  have hb := X.b
  have hl : lv_has ls 3 [(0, .ref o), (1, .int u), (2, .int v)] := hl
  refine lv_iload_n hx hb d_O2_compare_0 rfl (lv_at hl 1 rfl) ?_
  refine lv_bipush (v := nI 15) hx hb d_O2_compare_1 (by decide) ?_
  refine lv_iand hx hb d_O2_compare_3 ?_
  refine lv_iload_n hx hb d_O2_compare_4 rfl (lv_at hl 2 rfl) ?_
  refine lv_bipush (v := nI 15) hx hb d_O2_compare_5 (by decide) ?_
  refine lv_iand hx hb d_O2_compare_7 ?_
  refine lv_isub hx hb d_O2_compare_8 ?_
  obtain ⟨i, i1, i2, i3⟩ := ky2 u
  obtain ⟨j, j1, j2, j3⟩ := ky2 v
  have hd : (nI i - nI j).toInt = (i : Int) - j := pk_sub_toInt (by omega) (by omega)
  exact W.iret (v := (u &&& (nI 15)) - (v &&& (nI 15))) hx hb hr (fun t ht _ => ⟨(u &&& (nI 15)) - (v &&& (nI 15)), rfl, by rw [i2, j2, i3, j3]; constructor <;> rw [i32_ltI, Int32.toInt_zero, hd] <;> omega, ht⟩) (fun q h => by cases h) d_O2_compare_9
set_option maxHeartbeats 4000000 in
set_option maxRecDepth 100000 in
theorem c_O3_compare (l : Launch) (D : va_G) (cI cJ cO : ClassId) (o : Nat) (u v : Int32) : Met l y_O3_compare [Cond.code y_O3_compare b_O3_compare 3 (some .int)] (rk 0 0 0) (PR D cI cJ cO [.ref o, .int u, .int v] []) (vp_Si (cmpP (ky 3 u) (ky 3 v))) 0 0 (fun _ => False) := by
  refine entR (by decide) (Nat.le_of_ble_eq_true rfl) ?_
  intro p e s m below meth c ls X hr hlocks hP hl
  have hx := X.x
  have hb := X.b
  have hl : lv_has ls 3 [(0, .ref o), (1, .int u), (2, .int v)] := hl
  refine lv_iload_n hx hb d_O3_compare_0 rfl (lv_at hl 1 rfl) ?_
  refine lv_ldc (v := (-2147483648)) hx hb X.o (X.w q_287 _) d_O3_compare_1 ?_
  refine lv_iadd hx hb d_O3_compare_3 ?_
  refine lv_iload_n hx hb d_O3_compare_4 rfl (lv_at hl 2 rfl) ?_
  refine lv_ldc (v := (-2147483648)) hx hb X.o (X.w q_287 _) d_O3_compare_5 ?_
  refine lv_iadd hx hb d_O3_compare_7 ?_
  refine lv_icmp_ge (tgt := 15) hx hb d_O3_compare_8 (by decide) (fun h1 => ?_) (fun h1 => ?_)
  · refine lv_iload_n hx hb d_O3_compare_15 rfl (lv_at hl 1 rfl) ?_
    refine lv_iload_n hx hb d_O3_compare_16 rfl (lv_at hl 2 rfl) ?_
    refine lv_icmp_ne (tgt := 24) hx hb d_O3_compare_17 (by decide) (fun h2 => ?_) (fun h2 => ?_)
    · refine lv_iconst (v := nI 1) hx hb d_O3_compare_24 (by decide) ?_
      exact W.iret (v := nI 1) hx hb hr (fun t ht _ => ⟨nI 1, rfl, cm_pos (by rw [i32_le, amn_int, amn_int] at h1; rw [ky3, ky3]; have h3 : u.toBitVec.toNat ≠ v.toBitVec.toNat := fun q => h2 (i32_nat_inj q); omega), ht⟩) (fun q h => by cases h) d_O3_compare_25
    · refine lv_iconst (v := nI 0) hx hb d_O3_compare_20 (by decide) ?_
      refine lv_goto (tgt := 25) hx hb d_O3_compare_21 (by decide) ?_
      exact W.iret (v := nI 0) hx hb hr (fun t ht _ => ⟨nI 0, rfl, cm_zero (by rw [h2]), ht⟩) (fun q h => by cases h) d_O3_compare_25
  · refine lv_iconst (v := -1) hx hb d_O3_compare_11 (by decide) ?_
    refine lv_goto (tgt := 25) hx hb d_O3_compare_12 (by decide) ?_
    exact W.iret (v := -1) hx hb hr (fun t ht _ => ⟨-1, rfl, cm_neg (by rw [i32_le, amn_int, amn_int] at h1; rw [ky3, ky3]; omega), ht⟩) (fun q h => by cases h) d_O3_compare_25
set_option maxHeartbeats 4000000 in
set_option maxRecDepth 100000 in
theorem c_B_compare (l : Launch) (D : va_G) (cI cJ cO : ClassId) (a : Nat → Nat) (hB k : Nat) (g : Nat → Int32) (u v : Int32) (hk : k < 4) (hu : vp_in u 2000) (hv : vp_in v 2000) : Met l y_B_compare [Cond.code y_B_compare b_B_compare 3 (some .int)] (rk 1 0 0) (PR D cI cJ cO [.ref hB, .int u, .int v] (WC cI a hB k g)) (vp_Si (cmpP (Ky k g u) (Ky k g v))) 0 0 (fun _ => False) := by
  refine entR (by decide) (Nat.le_of_ble_eq_true rfl) ?_
  intro p e s m below meth c ls X hr hlocks hP hl
  have hx := X.x
  have hb := X.b
  have hl : lv_has ls 3 [(0, .ref hB), (1, .int u), (2, .int v)] := hl
  refine lv_aload_n hx hb d_B_compare_0 rfl (lv_at hl 0 rfl) ?_
  refine g_B_order X hP 0 rfl rfl d_B_compare_1 ?_
  refine lv_aload_n hx hb d_B_compare_4 rfl (lv_at hl 0 rfl) ?_
  refine g_B_numbers X hP 0 rfl rfl d_B_compare_5 ?_
  refine lv_iload_n hx hb d_B_compare_8 rfl (lv_at hl 1 rfl) ?_
  refine va_iald hx hb X.K hP 1 0 rfl rfl (hu) d_B_compare_9 ?_
  refine lv_aload_n hx hb d_B_compare_10 rfl (lv_at hl 0 rfl) ?_
  refine g_B_numbers X hP 0 rfl rfl d_B_compare_11 ?_
  refine lv_iload_n hx hb d_B_compare_14 rfl (lv_at hl 2 rfl) ?_
  refine va_iald hx hb X.K hP 1 0 rfl rfl (hv) d_B_compare_15 ?_
  rcases (show k = 0 ∨ k = 1 ∨ k = 2 ∨ k = 3 by omega) with rfl | rfl | rfl | rfl
  · refine rd_F (C := R_O0) (cC := D.1 3) (wc := []) X (X.K.1 3 _ rfl).2 (c_O0_compare l D cI cJ cO _ _ _) (cx_F X _ wk_B_17 wf_decl wf_face wf_sel_O0 wm_O0_compare wf_pub_O0 wf_unh_O0 wf_cast_O0 wi_O0_compare wc_O0_compare wd_cmp ⟨by decide, by decide⟩) P_nil (rcv X hP (ci := 3) (q0 := 2) rfl rfl) rfl hl.1 rfl (by decide) d_B_compare_16 ⟨Nat.zero_le _, Nat.zero_le _⟩ (fun rr hrr => ?_)
    exact W.iret (v := rr) hx hb hr (fun t ht _ => ⟨rr, rfl, hrr, ht⟩) (fun q h => by cases h) d_B_compare_21
  · refine rd_F (C := R_O1) (cC := D.1 4) (wc := []) X (X.K.1 4 _ rfl).2 (c_O1_compare l D cI cJ cO _ _ _) (cx_F X _ wk_B_17 wf_decl wf_face wf_sel_O1 wm_O1_compare wf_pub_O1 wf_unh_O1 wf_cast_O1 wi_O1_compare wc_O1_compare wd_cmp ⟨by decide, by decide⟩) P_nil (rcv X hP (ci := 4) (q0 := 3) rfl rfl) rfl hl.1 rfl (by decide) d_B_compare_16 ⟨Nat.zero_le _, Nat.zero_le _⟩ (fun rr hrr => ?_)
    exact W.iret (v := rr) hx hb hr (fun t ht _ => ⟨rr, rfl, hrr, ht⟩) (fun q h => by cases h) d_B_compare_21
  · refine rd_F (C := R_O2) (cC := D.1 5) (wc := []) X (X.K.1 5 _ rfl).2 (c_O2_compare l D cI cJ cO _ _ _) (cx_F X _ wk_B_17 wf_decl wf_face wf_sel_O2 wm_O2_compare wf_pub_O2 wf_unh_O2 wf_cast_O2 wi_O2_compare wc_O2_compare wd_cmp ⟨by decide, by decide⟩) P_nil (rcv X hP (ci := 5) (q0 := 4) rfl rfl) rfl hl.1 rfl (by decide) d_B_compare_16 ⟨Nat.zero_le _, Nat.zero_le _⟩ (fun rr hrr => ?_)
    exact W.iret (v := rr) hx hb hr (fun t ht _ => ⟨rr, rfl, hrr, ht⟩) (fun q h => by cases h) d_B_compare_21
  · refine rd_F (C := R_O3) (cC := D.1 6) (wc := []) X (X.K.1 6 _ rfl).2 (c_O3_compare l D cI cJ cO _ _ _) (cx_F X _ wk_B_17 wf_decl wf_face wf_sel_O3 wm_O3_compare wf_pub_O3 wf_unh_O3 wf_cast_O3 wi_O3_compare wc_O3_compare wd_cmp ⟨by decide, by decide⟩) P_nil (rcv X hP (ci := 6) (q0 := 5) rfl rfl) rfl hl.1 rfl (by decide) d_B_compare_16 ⟨Nat.zero_le _, Nat.zero_le _⟩ (fun rr hrr => ?_)
    exact W.iret (v := rr) hx hb hr (fun t ht _ => ⟨rr, rfl, hrr, ht⟩) (fun q h => by cases h) d_B_compare_21
