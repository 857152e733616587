section SH
variable {D : va_G} {cI cJ cO : ClassId} {p : Program} {l : Launch} {e : Env} {R : Room} {s : State} {m : MethodId} {args : Array Value} {below : List Frame} {meth : Method} {c : Code} {H : Heap} {locs : List Loc} {cells slots : Nat} {Q : State → Prop}
set_option maxHeartbeats 4000000 in
theorem l_shortest (X : Cx D cI cJ cO p s m c b_S_shortest 3 R_S) (kk : ∀ (r1 m1 : Nat) (ls : Array Slot), r1 ≤ 1 → m1 < 32 → lv_has ls 3 [(1, .int (nI r1)), (2, .int (nI m1))] → W p l e R s m args below meth c H locs cells slots Q (F0 m 23 ls [])) : ∀ (fuel r1 m1 : Nat) (ls : Array Slot), m1 < fuel → m1 ≤ 2000 → r1 ≤ 1 → lv_has ls 3 [(1, .int (nI r1)), (2, .int (nI m1))] → W p l e R s m args below meth c H locs cells slots Q (F0 m 4 ls []) := by
  have hx := X.x
  have hb := X.b
  intro fuel
  induction fuel with
  | zero => intro r1 m1 ls h; omega
  | succ fuel ih =>
    intro r1 m1 ls hfu hm hr1 hl
    refine lv_iload_n hx hb d_S_shortest_4 rfl (lv_at hl 1 rfl) ?_
    refine lv_bipush (v := nI 32) hx hb d_S_shortest_5 (by decide) ?_
    refine w_icmp_lt (tgt := 23) hx hb d_S_shortest_7 (by decide) ⟨by omega, by omega⟩ (fun h1 => ?_) (fun h1 => ?_)
    · exact kk r1 m1 ls hr1 h1 hl
    · refine lv_iload_n hx hb d_S_shortest_10 rfl (lv_at hl 0 rfl) ?_
      refine lv_iload_n hx hb d_S_shortest_11 rfl (lv_at hl 1 rfl) ?_
      refine lv_iconst (v := nI 1) hx hb d_S_shortest_12 (by decide) ?_
      refine lv_iand hx hb d_S_shortest_13 ?_
      refine lv_ior hx hb d_S_shortest_14 ?_
      have e1 : nI m1 &&& nI 1 = nI (m1 % 2) := pk_andN (by omega) 1 (by decide)
      obtain ⟨z, hz, e2⟩ := or_bit hr1 (show m1 % 2 ≤ 1 by omega)
      refine w_to (y := nI z) (by rw [e1, e2]) ?_
      refine lv_istore_n (lv' := [(1, .int (nI z)), (2, .int (nI m1))]) hx hb d_S_shortest_15 rfl hl (by decide) rfl ?_
      clear hl; intro ls hl
      refine lv_iload_n hx hb d_S_shortest_16 rfl (lv_at hl 1 rfl) ?_
      refine lv_iconst (v := nI 1) hx hb d_S_shortest_17 (by decide) ?_
      refine w_shr1 hx hb d_S_shortest_18 (by omega) ?_
      refine lv_istore_n (lv' := [(2, .int (nI (m1 / 2))), (1, .int (nI z))]) hx hb d_S_shortest_19 rfl hl (by decide) rfl ?_
      clear hl; intro ls hl
      refine lv_goto (tgt := 4) hx hb d_S_shortest_20 (by decide) ?_
      exact ih z (m1 / 2) ls (by omega) (by omega) hz (lv_sub hl [1, 0] rfl)
end SH
set_option maxHeartbeats 4000000 in
/-- shortest(n): at most 32 -/
theorem c_S_shortest (l : Launch) (D : va_G) (cI cJ cO : ClassId) (n : Nat) (hn : n ≤ 2000) : Met l y_S_shortest [Cond.code y_S_shortest b_S_shortest 3 (some .int)] (rk 0 0 0) (PR D cI cJ cO [.int (nI n)] []) (vp_Si (fun r => ∃ q, r = nI q ∧ q ≤ 32)) 0 0 (fun _ => False) := by
  refine entR (by decide) (Nat.le_of_ble_eq_true rfl) ?_
  intro p e s m below meth c ls X hr hlocks hP hl
  have hx := X.x
  have hb := X.b
  have hl : lv_has ls 3 [(0, .int (nI n))] := hl
  refine lv_iconst (v := nI 0) hx hb d_S_shortest_0 (by decide) ?_
  refine lv_istore_n (lv' := [(1, .int (nI 0)), (0, .int (nI n))]) hx hb d_S_shortest_1 rfl hl (by decide) rfl ?_
  clear hl; intro ls hl
  refine lv_iload_n hx hb d_S_shortest_2 rfl (lv_at hl 1 rfl) ?_
  refine lv_istore_n (lv' := [(2, .int (nI n)), (1, .int (nI 0)), (0, .int (nI n))]) hx hb d_S_shortest_3 rfl hl (by decide) rfl ?_
  clear hl; intro ls hl
  refine l_shortest X ?_ (n + 1) 0 n ls (by omega) (by omega) (by omega) (lv_sub hl [1, 0] rfl)
  clear hl ls; intro r1 m1 ls h1 h2 hl
  refine lv_iload_n hx hb d_S_shortest_23 rfl (lv_at hl 1 rfl) ?_
  refine lv_iload_n hx hb d_S_shortest_24 rfl (lv_at hl 0 rfl) ?_
  refine w_add hx hb d_S_shortest_25 ?_
  exact W.iret (v := nI (m1 + r1)) hx hb hr (fun t ht _ => ⟨nI (m1 + r1), rfl, ⟨m1 + r1, rfl, by omega⟩, ht⟩) (fun q h => by cases h) d_S_shortest_26
section SI
variable {D : va_G} {cI cJ cO : ClassId} {p : Program} {l : Launch} {e : Env} {R : Room} {s : State} {m : MethodId} {args : Array Value} {below : List Frame} {meth : Method} {c : Code} {H : Heap} {locs : List Loc} {cells slots : Nat} {Q : State → Prop}
variable {a : Nat → Nat} {hB k : Nat} {g : Nat → Int32} {rn gl : Int32} {fC fSp fF fL : Nat → Int32}
set_option maxHeartbeats 4000000 in
theorem l_insb {low end_ i : Nat} (X : Cx D cI cJ cO p s m c b_S_insertion 9 R_S) (hk : k < 4) (hR : 2 ≤ R.frames ∧ 180 ≤ R.locals) (hf : cells ≤ R.cells ∧ slots ≤ R.slots) (hP : va_P D vCL (WS cI a hB k g rn gl fC fSp fF fL) H) (hi : i < 2000) (hin : In fC low i low i) (hfi : fC i = nI i) (mono : ∀ x y, low ≤ x → x ≤ y → y < i → Ky k g (fC x) ≤ Ky k g (fC y)) (kk : ∀ (pos : Nat) (ls : Array Slot), low ≤ pos → pos ≤ i → (∀ q, low ≤ q → q < pos → Ky k g (fC q) ≤ Ky k g (fC i)) → (∀ q, pos ≤ q → q < i → Ky k g (fC i) < Ky k g (fC q)) → lv_has ls 9 [(0, .ref (a 10)), (1, .int (nI low)), (3, .int (nI end_)), (4, .int (nI i)), (5, .int (fC i)), (6, .int (nI pos))] → W p l e R s m args below meth c H locs cells slots Q (F0 m 78 ls [])) : ∀ (fuel lo2 hi2 : Nat) (ls : Array Slot), hi2 - lo2 < fuel → low ≤ lo2 → lo2 ≤ hi2 → hi2 ≤ i → (∀ q, low ≤ q → q < lo2 → Ky k g (fC q) ≤ Ky k g (fC i)) → (∀ q, hi2 ≤ q → q < i → Ky k g (fC i) < Ky k g (fC q)) → lv_has ls 9 [(0, .ref (a 10)), (1, .int (nI low)), (3, .int (nI end_)), (4, .int (nI i)), (5, .int (fC i)), (6, .int (nI lo2)), (7, .int (nI hi2))] → W p l e R s m args below meth c H locs cells slots Q (F0 m 25 ls []) := by
  have hx := X.x
  have hb := X.b
  intro fuel
  induction fuel with
  | zero => intro lo2 hi2 ls h; omega
  | succ fuel ih =>
    intro lo2 hi2 ls hfu h1 h2 h3 hlo hhi hl
    refine lv_iload hx hb d_S_insertion_25 (lv_at hl 5 rfl) ?_
    refine lv_iload hx hb d_S_insertion_27 (lv_at hl 6 rfl) ?_
    refine w_icmp_ge (tgt := 78) hx hb d_S_insertion_29 (by decide) ⟨by omega, by omega⟩ (fun h4 => ?_) (fun h4 => ?_)
    · have e : lo2 = hi2 := by omega
      subst e
      exact kk lo2 ls h1 h3 hlo hhi (lv_sub hl [0, 1, 2, 3, 4, 5] rfl)
    · refine lv_iload hx hb d_S_insertion_32 (lv_at hl 5 rfl) ?_
      refine lv_iload hx hb d_S_insertion_34 (lv_at hl 6 rfl) ?_
      refine w_add hx hb d_S_insertion_36 ?_
      refine lv_iconst (v := nI 1) hx hb d_S_insertion_37 (by decide) ?_
      refine w_ushr1 hx hb d_S_insertion_38 (by omega) ?_
      generalize hm : (lo2 + hi2) / 2 = mid at *
      have hm1 : lo2 ≤ mid ∧ mid < hi2 := by omega
      refine lv_istore (lv' := [(8, .int (nI mid)), (0, .ref (a 10)), (1, .int (nI low)), (3, .int (nI end_)), (4, .int (nI i)), (5, .int (fC i)), (6, .int (nI lo2)), (7, .int (nI hi2))]) hx hb d_S_insertion_39 hl (by decide) rfl ?_
      clear hl; intro ls hl
      refine lv_aload_n hx hb d_S_insertion_41 rfl (lv_at hl 1 rfl) ?_
      refine g_S_order X hP 3 rfl rfl d_S_insertion_42 ?_
      refine lv_iload hx hb d_S_insertion_45 (lv_at hl 5 rfl) ?_
      refine lv_aload_n hx hb d_S_insertion_47 rfl (lv_at hl 1 rfl) ?_
      refine g_S_cells X hP 3 rfl rfl d_S_insertion_48 ?_
      refine lv_iload hx hb d_S_insertion_51 (lv_at hl 0 rfl) ?_
      refine w_ald X hP 4 rfl (by omega) (by decide) d_S_insertion_53 ?_
      refine cS_cmp X hk hP hR hf hl.1 (by rw [hfi]; exact vp_in_nI hi (by decide)) (hin.vd (by omega) (by omega) (by omega)) (by decide) d_S_insertion_54 (fun rr hrr => ?_)
      refine lv_if_ge (tgt := 69) hx hb d_S_insertion_59 (by decide) (fun h5 => ?_) (fun h5 => ?_)
      · refine lv_iload hx hb d_S_insertion_69 (lv_at hl 0 rfl) ?_
        refine lv_iconst (v := nI 1) hx hb d_S_insertion_71 (by decide) ?_
        refine w_add hx hb d_S_insertion_72 ?_
        refine lv_istore (lv' := [(6, .int (nI (mid + 1))), (8, .int (nI mid)), (0, .ref (a 10)), (1, .int (nI low)), (3, .int (nI end_)), (4, .int (nI i)), (5, .int (fC i)), (7, .int (nI hi2))]) hx hb d_S_insertion_73 hl (by decide) rfl ?_
        clear hl; intro ls hl
        refine lv_goto (tgt := 25) hx hb d_S_insertion_75 (by decide) ?_
        exact ih (mid + 1) hi2 ls (by omega) (by omega) (by omega) h3 (fun q q1 q2 => Int.le_trans (mono _ _ q1 (by omega) (by omega)) (hrr.ge.mp h5)) hhi (lv_sub hl [2, 3, 4, 5, 6, 0, 7] rfl)
      · refine lv_iload hx hb d_S_insertion_62 (lv_at hl 0 rfl) ?_
        refine lv_istore (lv' := [(7, .int (nI mid)), (8, .int (nI mid)), (0, .ref (a 10)), (1, .int (nI low)), (3, .int (nI end_)), (4, .int (nI i)), (5, .int (fC i)), (6, .int (nI lo2))]) hx hb d_S_insertion_64 hl (by decide) rfl ?_
        clear hl; intro ls hl
        refine lv_goto (tgt := 75) hx hb d_S_insertion_66 (by decide) ?_
        refine lv_goto (tgt := 25) hx hb d_S_insertion_75 (by decide) ?_
        exact ih lo2 mid ls (by omega) h1 (by omega) (by omega) hlo (fun q q1 q2 => Int.lt_of_lt_of_le (hrr.nge h5) (mono _ _ (by omega) q1 q2)) (lv_sub hl [2, 3, 4, 5, 6, 7, 0] rfl)
end SI
section SI2
variable {D : va_G} {cI cJ cO : ClassId} {p : Program} {l : Launch} {e : Env} {R : Room} {s : State} {m : MethodId} {args : Array Value} {below : List Frame} {meth : Method} {c : Code} {cells slots : Nat} {Q : State → Prop}
variable {a : Nat → Nat} {hB k : Nat} {g : Nat → Int32} {rn : Int32} {fF fL : Nat → Int32} {A : Nat → Prop} {H0 : Heap}
set_option maxHeartbeats 4000000 in
theorem l_inss {low end_ i : Nat} (X : Cx D cI cJ cO p s m c b_S_insertion 9 R_S) (hk : k < 4) (hR : 2 ≤ R.frames ∧ 180 ≤ R.locals) (hf : cells ≤ R.cells ∧ slots ≤ R.slots) {gl u : Int32} {fSp f : Nat → Int32} {pos : Nat} (hi : i < 2000) (kk : ∀ (h : Nat → Int32) (H : Heap) (locs : List Loc) (ls : Array Slot), (∀ q, h q = if pos < q ∧ q ≤ i then f (q - 1) else f q) → va_P D vCL (WS cI a hB k g rn gl h fSp fF fL) H → va_D A (WS cI a hB k g rn gl h fSp fF fL) → va_S A H0 H locs → lv_has ls 9 [(0, .ref (a 10)), (1, .int (nI low)), (3, .int (nI end_)), (4, .int (nI i)), (5, .int u), (6, .int (nI pos))] → W p l e R s m args below meth c H locs cells slots Q (F0 m 111 ls [])) : ∀ (fuel t : Nat) (h : Nat → Int32) (H : Heap) (locs : List Loc) (ls : Array Slot), t - pos < fuel → pos ≤ t → t ≤ i → (∀ q, h q = if t < q ∧ q ≤ i then f (q - 1) else f q) → va_P D vCL (WS cI a hB k g rn gl h fSp fF fL) H → va_D A (WS cI a hB k g rn gl h fSp fF fL) → va_S A H0 H locs → lv_has ls 9 [(0, .ref (a 10)), (1, .int (nI low)), (3, .int (nI end_)), (4, .int (nI i)), (5, .int u), (6, .int (nI pos)), (8, .int (nI t))] → W p l e R s m args below meth c H locs cells slots Q (F0 m 82 ls []) := by
  have hx := X.x
  have hb := X.b
  intro fuel
  induction fuel with
  | zero => intro t h H locs ls h; omega
  | succ fuel ih =>
    intro t h H locs ls hfu h1 h2 hh hP hD hS hl
    refine lv_iload hx hb d_S_insertion_82 (lv_at hl 6 rfl) ?_
    refine lv_iload hx hb d_S_insertion_84 (lv_at hl 5 rfl) ?_
    refine w_icmp_le (tgt := 111) hx hb d_S_insertion_86 (by decide) ⟨by omega, by omega⟩ (fun h3 => ?_) (fun h3 => ?_)
    · have e : t = pos := by omega
      subst e
      exact kk h H locs ls hh hP hD hS (lv_sub hl [0, 1, 2, 3, 4, 5] rfl)
    · refine lv_aload_n hx hb d_S_insertion_89 rfl (lv_at hl 0 rfl) ?_
      refine g_S_cells X hP 3 rfl rfl d_S_insertion_90 ?_
      refine lv_iload hx hb d_S_insertion_93 (lv_at hl 6 rfl) ?_
      refine lv_aload_n hx hb d_S_insertion_95 rfl (lv_at hl 0 rfl) ?_
      refine g_S_cells X hP 3 rfl rfl d_S_insertion_96 ?_
      refine lv_iload hx hb d_S_insertion_99 (lv_at hl 6 rfl) ?_
      refine lv_iconst (v := nI 1) hx hb d_S_insertion_101 (by decide) ?_
      refine w_sub hx hb d_S_insertion_102 (by omega) ?_
      refine w_ald X hP 4 rfl (by omega) (by decide) d_S_insertion_103 ?_
      refine w_ast (ws' := WS cI a hB k g rn gl (upd h t (h (t - 1))) fSp fF fL) X hP hD hS 4 rfl (by omega) (by decide) rfl d_S_insertion_104 ?_
      clear hP hD hS; intro H locs hP hD hS
      refine w_dec (k := 6) (lv' := [(8, .int (nI (t - 1))), (0, .ref (a 10)), (1, .int (nI low)), (3, .int (nI end_)), (4, .int (nI i)), (5, .int u), (6, .int (nI pos))]) hx hb d_S_insertion_105 hl rfl (by decide) (by omega) rfl ?_
      clear hl; intro ls hl
      refine lv_goto (tgt := 82) hx hb d_S_insertion_108 (by decide) ?_
      exact ih (t - 1) _ H locs ls (by omega) (by omega) (by omega) (sh_step (by omega) h2 hh) hP hD hS (lv_sub hl [1, 2, 3, 4, 5, 6, 0] rfl)
set_option maxHeartbeats 4000000 in
theorem l_inso {low end_ : Nat} (X : Cx D cI cJ cO p s m c b_S_insertion 9 R_S) (hk : k < 4) (hR : 2 ≤ R.frames ∧ 180 ≤ R.locals) (hf : cells ≤ R.cells ∧ slots ≤ R.slots) {gl : Int32} {fSp f0 : Nat → Int32} (he : end_ ≤ 2000) (kk : ∀ (f : Nat → Int32) (H : Heap) (locs : List Loc) (ls : Array Slot), Rn (Ky k g) f low end_ → (∀ q, (q < low ∨ end_ ≤ q) → f q = f0 q) → va_P D vCL (WS cI a hB k g rn gl f fSp fF fL) H → va_D A (WS cI a hB k g rn gl f fSp fF fL) → va_S A H0 H locs → lv_has ls 9 [(0, .ref (a 10))] → W p l e R s m args below meth c H locs cells slots Q (F0 m 126 ls [])) : ∀ (fuel i : Nat) (f : Nat → Int32) (H : Heap) (locs : List Loc) (ls : Array Slot), end_ - i < fuel → low ≤ i → i ≤ end_ → Rn (Ky k g) f low i → (∀ q, i ≤ q → q < end_ → f q = nI q) → (∀ q, (q < low ∨ end_ ≤ q) → f q = f0 q) → va_P D vCL (WS cI a hB k g rn gl f fSp fF fL) H → va_D A (WS cI a hB k g rn gl f fSp fF fL) → va_S A H0 H locs → lv_has ls 9 [(0, .ref (a 10)), (1, .int (nI low)), (3, .int (nI end_)), (4, .int (nI i))] → W p l e R s m args below meth c H locs cells slots Q (F0 m 3 ls []) := by
  have hx := X.x
  have hb := X.b
  intro fuel
  induction fuel with
  | zero => intro i f H locs ls h; omega
  | succ fuel ih =>
    intro i f H locs ls hfu h1 h2 hRn hid hout hP hD hS hl
    refine lv_iload hx hb d_S_insertion_3 (lv_at hl 3 rfl) ?_
    refine lv_iload_n hx hb d_S_insertion_5 rfl (lv_at hl 2 rfl) ?_
    refine w_icmp_ge (tgt := 126) hx hb d_S_insertion_6 (by decide) ⟨by omega, by omega⟩ (fun h3 => ?_) (fun h3 => ?_)
    · have e : i = end_ := by omega
      subst e
      exact kk f H locs ls hRn hout hP hD hS (lv_sub hl [0] rfl)
    · refine lv_aload_n hx hb d_S_insertion_9 rfl (lv_at hl 0 rfl) ?_
      refine g_S_cells X hP 3 rfl rfl d_S_insertion_10 ?_
      refine lv_iload hx hb d_S_insertion_13 (lv_at hl 3 rfl) ?_
      refine w_ald X hP 4 rfl (by omega) (by decide) d_S_insertion_15 ?_
      refine lv_istore (lv' := [(5, .int (f i)), (0, .ref (a 10)), (1, .int (nI low)), (3, .int (nI end_)), (4, .int (nI i))]) hx hb d_S_insertion_16 hl (by decide) rfl ?_
      clear hl; intro ls hl
      refine lv_iload_n hx hb d_S_insertion_18 rfl (lv_at hl 2 rfl) ?_
      refine lv_istore (lv' := [(6, .int (nI low)), (5, .int (f i)), (0, .ref (a 10)), (1, .int (nI low)), (3, .int (nI end_)), (4, .int (nI i))]) hx hb d_S_insertion_19 hl (by decide) rfl ?_
      clear hl; intro ls hl
      refine lv_iload hx hb d_S_insertion_21 (lv_at hl 5 rfl) ?_
      refine lv_istore (lv' := [(7, .int (nI i)), (6, .int (nI low)), (5, .int (f i)), (0, .ref (a 10)), (1, .int (nI low)), (3, .int (nI end_)), (4, .int (nI i))]) hx hb d_S_insertion_23 hl (by decide) rfl ?_
      clear hl; intro ls hl
      have hfi := hid i (Nat.le_refl _) h3
      refine l_insb X hk hR hf hP (by omega) hRn.2 hfi (fun x y q1 q2 q3 => hRn.1.mono q1 q2 q3) ?_ (i - low + 1) low i ls (by omega) (by omega) (by omega) (by omega) (fun q q1 q2 => by omega) (fun q q1 q2 => by omega) (lv_sub hl [3, 4, 5, 6, 2, 1, 0] rfl)
      clear hl ls; intro pos ls hp1 hp2 hlo hhi hl
      refine lv_iload hx hb d_S_insertion_78 (lv_at hl 3 rfl) ?_
      refine lv_istore (lv' := [(8, .int (nI i)), (0, .ref (a 10)), (1, .int (nI low)), (3, .int (nI end_)), (4, .int (nI i)), (5, .int (f i)), (6, .int (nI pos))]) hx hb d_S_insertion_80 hl (by decide) rfl ?_
      clear hl; intro ls hl
      refine l_inss X hk hR hf (f := f) (by omega) ?_ (i - pos + 1) i f H locs ls (by omega) hp2 (Nat.le_refl _) (fun q => by rw [if_neg (by omega)]) hP hD hS (lv_sub hl [1, 2, 3, 4, 5, 6, 0] rfl)
      clear hP hD hS hl ls locs H; intro h H locs ls hh hP hD hS hl
      refine lv_aload_n hx hb d_S_insertion_111 rfl (lv_at hl 0 rfl) ?_
      refine g_S_cells X hP 3 rfl rfl d_S_insertion_112 ?_
      refine lv_iload hx hb d_S_insertion_115 (lv_at hl 5 rfl) ?_
      refine lv_iload hx hb d_S_insertion_117 (lv_at hl 4 rfl) ?_
      refine w_ast (ws' := WS cI a hB k g rn gl (upd h pos (f i)) fSp fF fL) X hP hD hS 4 rfl (by omega) (by decide) rfl d_S_insertion_119 ?_
      clear hP hD hS; intro H locs hP hD hS
      refine w_inc (k := 3) (lv' := [(4, .int (nI (i + 1))), (0, .ref (a 10)), (1, .int (nI low)), (3, .int (nI end_)), (5, .int (f i)), (6, .int (nI pos))]) hx hb d_S_insertion_120 hl rfl (by decide) rfl ?_
      clear hl; intro ls hl
      refine lv_goto (tgt := 3) hx hb d_S_insertion_123 (by decide) ?_
      obtain ⟨r1, r2⟩ := ins_done hRn (by omega) hfi hp1 hp2 hlo hhi hh
      exact ih (i + 1) _ H locs ls (by omega) (by omega) (by omega) r1 (fun q q1 q2 => (r2 q (by omega)).trans (hid q (by omega) q2)) (fun q q1 => (r2 q (by omega)).trans (hout q q1)) hP hD hS (lv_sub hl [1, 2, 3, 0] rfl)
end SI2
set_option maxHeartbeats 4000000 in
/-- insertion(low, sorted, end) -/
theorem c_S_insertion (l : Launch) (D : va_G) (cI cJ cO : ClassId) (a : Nat → Nat) (hB k : Nat) (g : Nat → Int32) (rn gl : Int32) (f0 fSp fF fL : Nat → Int32) (sz low srt end_ : Nat) (hk : k < 4) (h1 : low ≤ srt) (h2 : srt ≤ end_) (he : end_ ≤ 2000) (hRn : Rn (Ky k g) f0 low srt) (hid : ∀ q, srt ≤ q → q < end_ → f0 q = nI q) : Met l y_S_insertion [Cond.code y_S_insertion b_S_insertion 9 none] (rk 2 0 0) (PW D cI cJ cO [.ref (a 10), .int (nI low), .int (nI srt), .int (nI end_)] sz (WS cI a hB k g rn gl f0 fSp fF fL)) (va_Qv (fun u : Nat → Int32 => Rn (Ky k g) u low end_ ∧ ∀ q, (q < low ∨ end_ ≤ q) → u q = f0 q) (BW D (va_A (WS cI a hB k g rn gl f0 fSp fF fL) sz) (fun u => WS cI a hB k g rn gl u fSp fF fL)) (va_A (WS cI a hB k g rn gl f0 fSp fF fL) sz)) 0 0 (va_A (WS cI a hB k g rn gl f0 fSp fF fL) sz) := by
  refine entW (by decide) (Nat.le_of_ble_eq_true rfl) ?_
  intro p e s m below meth c ls X hr hlocks hnm hsz hP hD hA hl
  have hx := X.x
  have hb := X.b
  have hR : 2 ≤ (rk 2 0 0).frames ∧ 180 ≤ (rk 2 0 0).locals := by decide
  have hf : 0 ≤ (rk 2 0 0).cells ∧ 0 ≤ (rk 2 0 0).slots := by decide
  have hS : va_S (va_A (WS cI a hB k g rn gl f0 fSp fF fL) sz) s.heap s.heap [] := va_S.rf
  have hl : lv_has ls 9 [(0, .ref (a 10)), (1, .int (nI low)), (2, .int (nI srt)), (3, .int (nI end_))] := hl
  refine lv_iload_n hx hb d_S_insertion_0 rfl (lv_at hl 2 rfl) ?_
  refine lv_istore (lv' := [(4, .int (nI srt)), (0, .ref (a 10)), (1, .int (nI low)), (2, .int (nI srt)), (3, .int (nI end_))]) hx hb d_S_insertion_1 hl (by decide) rfl ?_
  clear hl; intro ls hl
  refine l_inso X hk hR hf he ?_ (end_ - srt + 1) srt f0 _ _ ls (by omega) h1 h2 hRn hid (fun _ _ => rfl) hP hD hS (lv_sub hl [1, 2, 4, 0] rfl)
  clear hP hD hS hl ls; intro f H locs ls q1 q2 hP hD hS hl
  exact W.vret hx hb hr (fun t ht hW => ⟨⟨f, rfl, ⟨q1, q2⟩, by rw [ht]; exact hP, hD⟩, hS.F ht⟩) hS.2.2 d_S_insertion_126
section SR1
variable {D : va_G} {cI cJ cO : ClassId} {p : Program} {l : Launch} {e : Env} {R : Room} {s : State} {m : MethodId} {args : Array Value} {below : List Frame} {meth : Method} {c : Code} {H : Heap} {locs : List Loc} {cells slots : Nat} {Q : State → Prop}
variable {a : Nat → Nat} {hB k : Nat} {g : Nat → Int32} {rn gl : Int32} {fC fSp fF fL : Nat → Int32}
set_option maxHeartbeats 4000000 in
theorem l_run1 {at_ n : Nat} (X : Cx D cI cJ cO p s m c b_S_run 8 R_S) (hk : k < 4) (hR : 2 ≤ R.frames ∧ 180 ≤ R.locals) (hf : cells ≤ R.cells ∧ slots ≤ R.slots) (hn : n ≤ 2000) (hP : va_P D vCL (WS cI a hB k g rn gl fC fSp fF fL) H) (hid : ∀ q, at_ ≤ q → q < n → fC q = nI q) {fl : Nat} (hfl : fl ≤ 1) (kk : ∀ (en : Nat) (ls : Array Slot), at_ + 2 ≤ en → en ≤ n → (∀ q, at_ < q → q < en → (fl = 1 ↔ Ky k g (fC q) < Ky k g (fC (q - 1)))) → lv_has ls 8 [(0, .ref (a 10)), (1, .int (nI at_)), (2, .int (nI n)), (3, .int (nI en)), (4, .int (nI fl))] → W p l e R s m args below meth c H locs cells slots Q (F0 m 92 ls [])) : ∀ (fuel en : Nat) (ls : Array Slot), n - en < fuel → at_ + 2 ≤ en → en ≤ n → (∀ q, at_ < q → q < en → (fl = 1 ↔ Ky k g (fC q) < Ky k g (fC (q - 1)))) → lv_has ls 8 [(0, .ref (a 10)), (1, .int (nI at_)), (2, .int (nI n)), (3, .int (nI en)), (4, .int (nI fl))] → W p l e R s m args below meth c H locs cells slots Q (F0 m 45 ls []) := by
  have hx := X.x
  have hb := X.b
  intro fuel
  induction fuel with
  | zero => intro en ls h; omega
  | succ fuel ih =>
    intro en ls hfu h1 h2 hall hl
    refine lv_iload_n hx hb d_S_run_45 rfl (lv_at hl 3 rfl) ?_
    refine lv_iload_n hx hb d_S_run_46 rfl (lv_at hl 2 rfl) ?_
    refine w_icmp_ge (tgt := 92) hx hb d_S_run_47 (by decide) ⟨by omega, by omega⟩ (fun h3 => ?_) (fun h3 => ?_)
    · exact kk en ls h1 h2 hall hl
    · refine lv_aload_n hx hb d_S_run_50 rfl (lv_at hl 0 rfl) ?_
      refine g_S_order X hP 3 rfl rfl d_S_run_51 ?_
      refine lv_aload_n hx hb d_S_run_54 rfl (lv_at hl 0 rfl) ?_
      refine g_S_cells X hP 3 rfl rfl d_S_run_55 ?_
      refine lv_iload_n hx hb d_S_run_58 rfl (lv_at hl 3 rfl) ?_
      refine w_ald X hP 4 rfl (by omega) (by decide) d_S_run_59 ?_
      refine lv_aload_n hx hb d_S_run_60 rfl (lv_at hl 0 rfl) ?_
      refine g_S_cells X hP 3 rfl rfl d_S_run_61 ?_
      refine lv_iload_n hx hb d_S_run_64 rfl (lv_at hl 3 rfl) ?_
      refine lv_iconst (v := nI 1) hx hb d_S_run_65 (by decide) ?_
      refine w_sub hx hb d_S_run_66 (by omega) ?_
      refine w_ald X hP 4 rfl (by omega) (by decide) d_S_run_67 ?_
      have vd : ∀ q, at_ ≤ q → q < n → vp_in (fC q) 2000 := fun q q1 q2 => by rw [hid q q1 q2]; exact vp_in_nI (by omega) (by decide)
      refine cS_cmp X hk hP hR hf hl.1 (vd en (by omega) h3) (vd (en - 1) (by omega) (by omega)) (by decide) d_S_run_68 (fun rr hrr => ?_)
      refine lv_if_ge (tgt := 80) hx hb d_S_run_73 (by decide) (fun h4 => ?_) (fun h4 => ?_)
      · refine lv_iconst (v := nI 0) hx hb d_S_run_80 (by decide) ?_
        refine lv_iload hx hb d_S_run_81 (lv_at hl 4 rfl) ?_
        refine w_icmp_ne (tgt := 92) hx hb d_S_run_83 (by decide) ⟨by omega, by omega⟩ (fun h5 => ?_) (fun h5 => ?_)
        · exact kk en ls h1 h2 hall hl
        · refine w_inc (k := 3) (lv' := [(3, .int (nI (en + 1))), (0, .ref (a 10)), (1, .int (nI at_)), (2, .int (nI n)), (4, .int (nI fl))]) hx hb d_S_run_86 hl rfl (by decide) rfl ?_
          clear hl; intro ls hl
          refine lv_goto (tgt := 45) hx hb d_S_run_89 (by decide) ?_
          refine ih (en + 1) ls (by omega) (by omega) (by omega) (fun q q1 q2 => ?_) (lv_sub hl [1, 2, 3, 0, 4] rfl)
          rcases Nat.lt_or_ge q en with z | z
          · exact hall q q1 z
          · rw [show q = en by omega]
            exact ⟨fun z => by omega, fun z => by have := hrr.ge.mp h4; omega⟩
      · refine lv_iconst (v := nI 1) hx hb d_S_run_76 (by decide) ?_
        refine lv_goto (tgt := 81) hx hb d_S_run_77 (by decide) ?_
        refine lv_iload hx hb d_S_run_81 (lv_at hl 4 rfl) ?_
        refine w_icmp_ne (tgt := 92) hx hb d_S_run_83 (by decide) ⟨by omega, by omega⟩ (fun h5 => ?_) (fun h5 => ?_)
        · exact kk en ls h1 h2 hall hl
        · refine w_inc (k := 3) (lv' := [(3, .int (nI (en + 1))), (0, .ref (a 10)), (1, .int (nI at_)), (2, .int (nI n)), (4, .int (nI fl))]) hx hb d_S_run_86 hl rfl (by decide) rfl ?_
          clear hl; intro ls hl
          refine lv_goto (tgt := 45) hx hb d_S_run_89 (by decide) ?_
          refine ih (en + 1) ls (by omega) (by omega) (by omega) (fun q q1 q2 => ?_) (lv_sub hl [1, 2, 3, 0, 4] rfl)
          rcases Nat.lt_or_ge q en with z | z
          · exact hall q q1 z
          · rw [show q = en by omega]
            exact ⟨fun _ => hrr.nge h4, fun _ => h5.symm⟩
end SR1
section SR2
variable {D : va_G} {cI cJ cO : ClassId} {p : Program} {l : Launch} {e : Env} {R : Room} {s : State} {m : MethodId} {args : Array Value} {below : List Frame} {meth : Method} {c : Code} {cells slots : Nat} {Q : State → Prop}
variable {a : Nat → Nat} {hB k : Nat} {g : Nat → Int32} {rn : Int32} {fF fL : Nat → Int32} {A : Nat → Prop} {H0 : Heap}
set_option maxHeartbeats 4000000 in
theorem l_run2 {at_ n : Nat} (X : Cx D cI cJ cO p s m c b_S_run 8 R_S) (hk : k < 4) (hR : 2 ≤ R.frames ∧ 180 ≤ R.locals) (hf : cells ≤ R.cells ∧ slots ≤ R.slots) (hn : n ≤ 2000) {gl : Int32} {fSp f : Nat → Int32} {en : Nat} (hen : en ≤ n) (kk : ∀ (i j : Nat) (h : Nat → Int32) (H : Heap) (locs : List Loc) (ls : Array Slot), i + j + 1 = at_ + en → at_ ≤ i → i ≤ j + 1 → j ≤ i → (∀ q, h q = if (at_ ≤ q ∧ q < i) ∨ (j < q ∧ q < en) then f (at_ + en - 1 - q) else f q) → va_P D vCL (WS cI a hB k g rn gl h fSp fF fL) H → va_D A (WS cI a hB k g rn gl h fSp fF fL) → va_S A H0 H locs → lv_has ls 8 [(0, .ref (a 10)), (1, .int (nI at_)), (3, .int (nI en))] → W p l e R s m args below meth c H locs cells slots Q (F0 m 153 ls [])) : ∀ (fuel i j : Nat) (h : Nat → Int32) (H : Heap) (locs : List Loc) (ls : Array Slot), j - i < fuel → i + j + 1 = at_ + en → at_ ≤ i → i ≤ j + 1 → (∀ q, h q = if (at_ ≤ q ∧ q < i) ∨ (j < q ∧ q < en) then f (at_ + en - 1 - q) else f q) → va_P D vCL (WS cI a hB k g rn gl h fSp fF fL) H → va_D A (WS cI a hB k g rn gl h fSp fF fL) → va_S A H0 H locs → lv_has ls 8 [(0, .ref (a 10)), (1, .int (nI at_)), (2, .int (nI n)), (3, .int (nI en)), (5, .int (nI i)), (6, .int (nI j))] → W p l e R s m args below meth c H locs cells slots Q (F0 m 105 ls []) := by
  have hx := X.x
  have hb := X.b
  intro fuel
  induction fuel with
  | zero => intro i j h H locs ls h; omega
  | succ fuel ih =>
    intro i j h H locs ls hfu hij h1 h2 hh hP hD hS hl
    refine lv_iload hx hb d_S_run_105 (lv_at hl 4 rfl) ?_
    refine lv_iload hx hb d_S_run_107 (lv_at hl 5 rfl) ?_
    refine w_icmp_ge (tgt := 153) hx hb d_S_run_109 (by decide) ⟨by omega, by omega⟩ (fun h3 => ?_) (fun h3 => ?_)
    · exact kk i j h H locs ls hij h1 h2 h3 hh hP hD hS (lv_sub hl [0, 1, 3] rfl)
    · refine lv_aload_n hx hb d_S_run_112 rfl (lv_at hl 0 rfl) ?_
      refine g_S_cells X hP 3 rfl rfl d_S_run_113 ?_
      refine lv_iload hx hb d_S_run_116 (lv_at hl 4 rfl) ?_
      refine w_ald X hP 4 rfl (by omega) (by decide) d_S_run_118 ?_
      refine lv_istore (lv' := [(7, .int (h i)), (0, .ref (a 10)), (1, .int (nI at_)), (2, .int (nI n)), (3, .int (nI en)), (5, .int (nI i)), (6, .int (nI j))]) hx hb d_S_run_119 hl (by decide) rfl ?_
      clear hl; intro ls hl
      refine lv_aload_n hx hb d_S_run_121 rfl (lv_at hl 1 rfl) ?_
      refine g_S_cells X hP 3 rfl rfl d_S_run_122 ?_
      refine lv_iload hx hb d_S_run_125 (lv_at hl 5 rfl) ?_
      refine lv_aload_n hx hb d_S_run_127 rfl (lv_at hl 1 rfl) ?_
      refine g_S_cells X hP 3 rfl rfl d_S_run_128 ?_
      refine lv_iload hx hb d_S_run_131 (lv_at hl 6 rfl) ?_
      refine w_ald X hP 4 rfl (by omega) (by decide) d_S_run_133 ?_
      refine w_ast (ws' := WS cI a hB k g rn gl (upd h i (h j)) fSp fF fL) X hP hD hS 4 rfl (by omega) (by decide) rfl d_S_run_134 ?_
      clear hP hD hS; intro H locs hP hD hS
      refine lv_aload_n hx hb d_S_run_135 rfl (lv_at hl 1 rfl) ?_
      refine g_S_cells X hP 3 rfl rfl d_S_run_136 ?_
      refine lv_iload hx hb d_S_run_139 (lv_at hl 6 rfl) ?_
      refine lv_iload hx hb d_S_run_141 (lv_at hl 0 rfl) ?_
      refine w_ast (ws' := WS cI a hB k g rn gl (upd (upd h i (h j)) j (h i)) fSp fF fL) X hP hD hS 4 rfl (by omega) (by decide) rfl d_S_run_143 ?_
      clear hP hD hS; intro H locs hP hD hS
      refine w_inc (k := 5) (lv' := [(5, .int (nI (i + 1))), (7, .int (h i)), (0, .ref (a 10)), (1, .int (nI at_)), (2, .int (nI n)), (3, .int (nI en)), (6, .int (nI j))]) hx hb d_S_run_144 hl rfl (by decide) rfl ?_
      clear hl; intro ls hl
      refine w_dec (k := 6) (lv' := [(6, .int (nI (j - 1))), (5, .int (nI (i + 1))), (7, .int (h i)), (0, .ref (a 10)), (1, .int (nI at_)), (2, .int (nI n)), (3, .int (nI en))]) hx hb d_S_run_147 hl rfl (by decide) (by omega) rfl ?_
      clear hl; intro ls hl
      refine lv_goto (tgt := 105) hx hb d_S_run_150 (by decide) ?_
      exact ih (i + 1) (j - 1) _ H locs ls (by omega) (by omega) (by omega) (by omega) (rev_step hij h1 h3 hh) hP hD hS (lv_sub hl [3, 4, 5, 6, 1, 0] rfl)
end SR2
set_option maxHeartbeats 4000000 in
/-- run(at, n): the run at a place; one that falls is turned round -/
theorem c_S_run (l : Launch) (D : va_G) (cI cJ cO : ClassId) (a : Nat → Nat) (hB k : Nat) (g : Nat → Int32) (rn gl : Int32) (f0 fSp fF fL : Nat → Int32) (sz at_ n : Nat) (hk : k < 4) (h1 : at_ < n) (hn : n ≤ 2000) (hid : ∀ q, at_ ≤ q → q < n → f0 q = nI q) : Met l y_S_run [Cond.code y_S_run b_S_run 8 (some .int)] (rk 2 0 0) (PW D cI cJ cO [.ref (a 10), .int (nI at_), .int (nI n)] sz (WS cI a hB k g rn gl f0 fSp fF fL)) (va_Qi (fun (r : Int32) (u : Nat → Int32) => ∃ q, r = nI q ∧ 1 ≤ q ∧ at_ + q ≤ n ∧ Rn (Ky k g) u at_ (at_ + q) ∧ ∀ t, (t < at_ ∨ at_ + q ≤ t) → u t = f0 t) (BW D (va_A (WS cI a hB k g rn gl f0 fSp fF fL) sz) (fun u => WS cI a hB k g rn gl u fSp fF fL)) (va_A (WS cI a hB k g rn gl f0 fSp fF fL) sz)) 0 0 (va_A (WS cI a hB k g rn gl f0 fSp fF fL) sz) := by
  refine entW (by decide) (Nat.le_of_ble_eq_true rfl) ?_
  intro p e s m below meth c ls X hr hlocks hnm hsz hP hD hA hl
  have hx := X.x
  have hb := X.b
  have hR : 2 ≤ (rk 2 0 0).frames ∧ 180 ≤ (rk 2 0 0).locals := by decide
  have hf : 0 ≤ (rk 2 0 0).cells ∧ 0 ≤ (rk 2 0 0).slots := by decide
  have hS : va_S (va_A (WS cI a hB k g rn gl f0 fSp fF fL) sz) s.heap s.heap [] := va_S.rf
  have hl : lv_has ls 8 [(0, .ref (a 10)), (1, .int (nI at_)), (2, .int (nI n))] := hl
  refine lv_iload_n hx hb d_S_run_0 rfl (lv_at hl 1 rfl) ?_
  refine lv_iconst (v := nI 1) hx hb d_S_run_1 (by decide) ?_
  refine w_add hx hb d_S_run_2 ?_
  refine lv_istore_n (lv' := [(3, .int (nI (at_ + 1))), (0, .ref (a 10)), (1, .int (nI at_)), (2, .int (nI n))]) hx hb d_S_run_3 rfl hl (by decide) rfl ?_
  clear hl; intro ls hl
  refine lv_iload_n hx hb d_S_run_4 rfl (lv_at hl 0 rfl) ?_
  refine lv_iload_n hx hb d_S_run_5 rfl (lv_at hl 3 rfl) ?_
  refine w_icmp_ne (tgt := 11) hx hb d_S_run_6 (by decide) ⟨by omega, by omega⟩ (fun h2 => ?_) (fun h2 => ?_)
  · refine lv_aload_n hx hb d_S_run_11 rfl (lv_at hl 1 rfl) ?_
    refine g_S_order X hP 3 rfl rfl d_S_run_12 ?_
    refine lv_aload_n hx hb d_S_run_15 rfl (lv_at hl 1 rfl) ?_
    refine g_S_cells X hP 3 rfl rfl d_S_run_16 ?_
    refine lv_iload_n hx hb d_S_run_19 rfl (lv_at hl 0 rfl) ?_
    refine w_ald X hP 4 rfl (by omega) (by decide) d_S_run_20 ?_
    refine lv_aload_n hx hb d_S_run_21 rfl (lv_at hl 1 rfl) ?_
    refine g_S_cells X hP 3 rfl rfl d_S_run_22 ?_
    refine lv_iload_n hx hb d_S_run_25 rfl (lv_at hl 2 rfl) ?_
    refine w_ald X hP 4 rfl (by omega) (by decide) d_S_run_26 ?_
    have vd : ∀ q, at_ ≤ q → q < n → vp_in (f0 q) 2000 := fun q q1 q2 => by rw [hid q q1 q2]; exact vp_in_nI (by omega) (by decide)
    refine cS_cmp X hk hP hR hf hl.1 (vd (at_ + 1) (by omega) (by omega)) (vd at_ (by omega) (by omega)) (by decide) d_S_run_27 (fun rr hrr => ?_)
    refine lv_if_ge (tgt := 39) hx hb d_S_run_32 (by decide) (fun h3 => ?_) (fun h3 => ?_)
    · refine lv_iconst (v := nI 0) hx hb d_S_run_39 (by decide) ?_
      refine lv_istore (lv' := [(4, .int (nI 0)), (3, .int (nI (at_ + 1))), (0, .ref (a 10)), (1, .int (nI at_)), (2, .int (nI n))]) hx hb d_S_run_40 hl (by decide) rfl ?_
      clear hl; intro ls hl
      refine w_inc (k := 1) (lv' := [(3, .int (nI (at_ + 1 + 1))), (4, .int (nI 0)), (0, .ref (a 10)), (1, .int (nI at_)), (2, .int (nI n))]) hx hb d_S_run_42 hl rfl (by decide) rfl ?_
      clear hl; intro ls hl
      refine l_run1 X hk hR hf hn hP hid (fl := 0) (by omega) ?_ (n + 1) (at_ + 1 + 1) ls (by omega) (by omega) (by omega) (fun q q1 q2 => ?_) (lv_sub hl [2, 3, 4, 0, 1] rfl)
      · clear hl ls; intro en ls e1 e2 hall hl
        refine lv_iload hx hb d_S_run_92 (lv_at hl 4 rfl) ?_
        refine w_if_eq (tgt := 153) hx hb d_S_run_94 (by decide) (by omega) (fun h4 => ?_) (fun h4 => ?_)
        · refine lv_iload_n hx hb d_S_run_153 rfl (lv_at hl 3 rfl) ?_
          refine lv_iload_n hx hb d_S_run_154 rfl (lv_at hl 1 rfl) ?_
          refine w_sub hx hb d_S_run_155 (by omega) ?_
          exact W.iret (v := nI (en - at_)) hx hb hr (fun t ht hW => ⟨⟨nI (en - at_), f0, rfl, ⟨en - at_, rfl, by omega, by omega, by rw [show at_ + (en - at_) = en by omega]; exact run_up (by omega) (fun q q1 q2 => hid q q1 (by omega)) (fun q q1 q2 => Int.not_lt.mp fun z => absurd ((hall q q1 q2).mpr z) (by decide)), fun _ _ => rfl⟩, by rw [ht]; exact hP, hD⟩, hS.F ht⟩) hS.2.2 d_S_run_156
        · exact absurd rfl h4
      · rw [show q = at_ + 1 by omega, show at_ + 1 - 1 = at_ by omega]
        exact ⟨fun z => absurd z (by decide), fun z => by have := hrr.ge.mp h3; omega⟩
    · refine lv_iconst (v := nI 1) hx hb d_S_run_35 (by decide) ?_
      refine lv_goto (tgt := 40) hx hb d_S_run_36 (by decide) ?_
      refine lv_istore (lv' := [(4, .int (nI 1)), (3, .int (nI (at_ + 1))), (0, .ref (a 10)), (1, .int (nI at_)), (2, .int (nI n))]) hx hb d_S_run_40 hl (by decide) rfl ?_
      clear hl; intro ls hl
      refine w_inc (k := 1) (lv' := [(3, .int (nI (at_ + 1 + 1))), (4, .int (nI 1)), (0, .ref (a 10)), (1, .int (nI at_)), (2, .int (nI n))]) hx hb d_S_run_42 hl rfl (by decide) rfl ?_
      clear hl; intro ls hl
      refine l_run1 X hk hR hf hn hP hid (fl := 1) (by omega) ?_ (n + 1) (at_ + 1 + 1) ls (by omega) (by omega) (by omega) (fun q q1 q2 => ?_) (lv_sub hl [2, 3, 4, 0, 1] rfl)
      · clear hl ls; intro en ls e1 e2 hall hl
        refine lv_iload hx hb d_S_run_92 (lv_at hl 4 rfl) ?_
        refine w_if_eq (tgt := 153) hx hb d_S_run_94 (by decide) (by omega) (fun h4 => ?_) (fun h4 => ?_)
        · exact absurd h4 (by decide)
        · refine lv_iload_n hx hb d_S_run_97 rfl (lv_at hl 1 rfl) ?_
          refine lv_istore (lv' := [(5, .int (nI at_)), (0, .ref (a 10)), (1, .int (nI at_)), (2, .int (nI n)), (3, .int (nI en)), (4, .int (nI 1))]) hx hb d_S_run_98 hl (by decide) rfl ?_
          clear hl; intro ls hl
          refine lv_iload_n hx hb d_S_run_100 rfl (lv_at hl 4 rfl) ?_
          refine lv_iconst (v := nI 1) hx hb d_S_run_101 (by decide) ?_
          refine w_sub hx hb d_S_run_102 (by omega) ?_
          refine lv_istore (lv' := [(6, .int (nI (en - 1))), (5, .int (nI at_)), (0, .ref (a 10)), (1, .int (nI at_)), (2, .int (nI n)), (3, .int (nI en)), (4, .int (nI 1))]) hx hb d_S_run_103 hl (by decide) rfl ?_
          clear hl; intro ls hl
          refine l_run2 X hk hR hf hn (f := f0) (en := en) e2 ?_ (en + 1) at_ (en - 1) f0 _ _ ls (by omega) (by omega) (by omega) (by omega) (fun q => by rw [if_neg (by omega)]) hP hD hS (lv_sub hl [2, 3, 4, 5, 1, 0] rfl)
          clear hP hD hS hl ls; intro i j h H locs ls j1 j2 j3 j4 hh hP hD hS hl
          obtain ⟨w1, w2⟩ := rev_done j1 j2 j4 j3 hh
          refine lv_iload_n hx hb d_S_run_153 rfl (lv_at hl 2 rfl) ?_
          refine lv_iload_n hx hb d_S_run_154 rfl (lv_at hl 1 rfl) ?_
          refine w_sub hx hb d_S_run_155 (by omega) ?_
          exact W.iret (v := nI (en - at_)) hx hb hr (fun t ht hW => ⟨⟨nI (en - at_), h, rfl, ⟨en - at_, rfl, by omega, by omega, by rw [show at_ + (en - at_) = en by omega]; exact run_down (fun q q1 q2 => hid q q1 (by omega)) (fun q q1 q2 => (hall q q1 q2).mp rfl) w1, fun q hq => w2 q (by omega)⟩, by rw [ht]; exact hP, hD⟩, hS.F ht⟩) hS.2.2 d_S_run_156
      · rw [show q = at_ + 1 by omega, show at_ + 1 - 1 = at_ by omega]
        exact ⟨fun _ => hrr.nge h3, fun _ => rfl⟩
  · refine lv_iconst (v := nI 1) hx hb d_S_run_9 (by decide) ?_
    exact W.iret (v := nI 1) hx hb hr (fun t ht hW => ⟨⟨nI 1, f0, rfl, ⟨1, rfl, by omega, by omega, ⟨fun i j q1 q2 q3 => by omega, fun i q1 q2 => ⟨i, q1, q2, hid i q1 (by omega)⟩⟩, fun _ _ => rfl⟩, by rw [ht]; exact hP, hD⟩, hS.F ht⟩) hS.2.2 d_S_run_10
