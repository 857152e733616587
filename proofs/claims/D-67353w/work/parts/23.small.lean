/-! RunSorter's small members: add, fill, scatter, get, tag, set, clear, hash -/
def WN (cI : ClassId) (a : Nat → Nat) (sz : Nat) (fN fT : Nat → Int32) : va_W := [(a 0, .inr (0, [.ref (a 5), .ref (a 10), .ref (a 1), .ref (a 2), .ref (a 3), .ref (a 4), .int (nI sz)])), (a 1, .inl (cI, 2000, .inl fN)), (a 2, .inl (cI, 2000, .inl fT))]
def og (a : Nat → Nat) : Nat → Option Nat := va_up (va_up (va_up (va_up (fun _ => none) 0 (some (a 6))) 1 (some (a 7))) 2 (some (a 8))) 3 (some (a 9))
def WU (cI cO : ClassId) (a : Nat → Nat) (sz : Nat) (fN fT : Nat → Int32) : va_W := [(a 0, .inr (0, [.ref (a 5), .ref (a 10), .ref (a 1), .ref (a 2), .ref (a 3), .ref (a 4), .int (nI sz)])), (a 1, .inl (cI, 2000, .inl fN)), (a 2, .inl (cI, 2000, .inl fT)), (a 5, .inl (cO, 4, .inr (.inr (.inr (.inr (og a)))))), (a 6, .inr (3, [])), (a 7, .inr (4, [])), (a 8, .inr (5, [])), (a 9, .inr (6, []))]
def FL (f : Nat → Int32) (sz n : Nat) (h : Nat → Int32) (q : Nat) : Int32 := if sz ≤ q ∧ q < sz + n then h (q - sz) else f q
theorem FL_0 {f h : Nat → Int32} {sz : Nat} : ∀ q, f q = FL f sz 0 h q := fun q => by unfold FL; rw [if_neg (by omega)]
theorem FL_step {f f' h : Nat → Int32} {sz i : Nat} (hh : ∀ q, f' q = FL f sz i h q) {v : Int32} (hv : v = h i) : ∀ q, upd f' (sz + i) v q = FL f sz (i + 1) h q := fun q => by
  rcases Nat.lt_trichotomy q (sz + i) with z | z | z
  · rw [pk_un (by omega), hh]
    unfold FL
    rcases Nat.lt_or_ge q sz with y | y
    · rw [if_neg (by omega), if_neg (by omega)]
    · rw [if_pos (by omega), if_pos (by omega)]
  · rw [z, pk_us]
    unfold FL
    rw [if_pos (by omega), hv]
    congr 1
    omega
  · rw [pk_un (by omega), hh]
    unfold FL
    rw [if_neg (by omega), if_neg (by omega)]
def sc (v : Int32) : Nat → Int32
  | 0 => v
  | i + 1 => 1664525 * sc v i + 1013904223
def sv (bt s : Int32) : Int32 := (s.toUInt32 >>> ((nI 16).toUInt32 &&& Int32.toUInt32 31)).toInt32 &&& ((nI 1 <<< (bt &&& 31)) - nI 1)
def hs (f t : Nat → Int32) : Nat → Int32
  | 0 => nI 1
  | i + 1 => nI 31 * (nI 31 * hs f t i + f i) + t i
theorem hs_eq {f t f' t' : Nat → Int32} : ∀ n : Nat, (∀ q, q < n → f q = f' q) → (∀ q, q < n → t q = t' q) → hs f t n = hs f' t' n := fun n => by
  induction n with
  | zero => intro _ _; rfl
  | succ n ih => intro h1 h2; show nI 31 * (nI 31 * hs f t n + f n) + t n = nI 31 * (nI 31 * hs f' t' n + f' n) + t' n; rw [ih (fun q hq => h1 q (by omega)) (fun q hq => h2 q (by omega)), h1 n (by omega), h2 n (by omega)]
theorem c_R_add (l : Launch) (D : va_G) (cI cJ cO : ClassId) (a : Nat → Nat) (sz9 sz : Nat) (fN fT : Nat → Int32) (v : Int32) (hsz0 : sz < 2000) : Met l y_R_add [Cond.code y_R_add b_R_add 2 none] (rk 8 0 0) (PW D cI cJ cO [.ref (a 0), .int v] sz9 (WN cI a sz fN fT)) (va_Qv (fun _ : Unit => True) (BW D (va_A (WN cI a sz fN fT) sz9) (fun _ => WN cI a (sz + 1) (upd fN sz v) (upd fT sz (nI sz)))) (va_A (WN cI a sz fN fT) sz9)) 0 0 (va_A (WN cI a sz fN fT) sz9) := by
  refine entW (by decide) (Nat.le_of_ble_eq_true rfl) ?_
  intro p e s m below meth c ls X hr hlocks hnm hsz hP hD hA hl
  have hx := X.x
  have hb := X.b
  have hR : 8 ≤ (rk 8 0 0).frames ∧ 420 ≤ (rk 8 0 0).locals := by decide
  have hf : 0 ≤ (rk 8 0 0).cells ∧ 0 ≤ (rk 8 0 0).slots := by decide
  have hS : va_S (va_A (WN cI a sz fN fT) sz9) s.heap s.heap [] := va_S.rf
  generalize hAe : va_A (WN cI a sz fN fT) sz9 = A at hP hD hA hS ⊢
  have hl : lv_has ls 2 [(0, .ref (a 0)), (1, .int v)] := hl
  refine lv_aload_n hx hb d_R_add_0 rfl (lv_at hl 0 rfl) ?_
  refine g_R_numbers X hP 0 rfl rfl d_R_add_1 ?_
  refine lv_aload_n hx hb d_R_add_4 rfl (lv_at hl 0 rfl) ?_
  refine g_R_size X hP 0 rfl rfl d_R_add_5 ?_
  refine lv_iload_n hx hb d_R_add_8 rfl (lv_at hl 1 rfl) ?_
  refine w_ast (ws' := WN cI a sz (upd fN sz v) fT) X hP hD hS 1 rfl (by omega) (by decide) rfl d_R_add_9 ?_
  clear hP hD hS; intro H locs hP hD hS
  refine lv_aload_n hx hb d_R_add_10 rfl (lv_at hl 0 rfl) ?_
  refine g_R_tags X hP 0 rfl rfl d_R_add_11 ?_
  refine lv_aload_n hx hb d_R_add_14 rfl (lv_at hl 0 rfl) ?_
  refine g_R_size X hP 0 rfl rfl d_R_add_15 ?_
  refine lv_aload_n hx hb d_R_add_18 rfl (lv_at hl 0 rfl) ?_
  refine g_R_size X hP 0 rfl rfl d_R_add_19 ?_
  refine w_ast (ws' := WN cI a sz (upd fN sz v) (upd fT sz (nI sz))) X hP hD hS 2 rfl (by omega) (by decide) rfl d_R_add_22 ?_
  clear hP hD hS; intro H locs hP hD hS
  refine lv_aload_n hx hb d_R_add_23 rfl (lv_at hl 0 rfl) ?_
  refine lv_dup hx hb d_R_add_24 rfl ?_
  refine g_R_size X hP 0 rfl rfl d_R_add_25 ?_
  refine lv_iconst (v := nI 1) hx hb d_R_add_28 (by decide) ?_
  refine w_add hx hb d_R_add_29 ?_
  refine p_R_size (ws' := WN cI a (sz + 1) (upd fN sz v) (upd fT sz (nI sz))) X hP hD hS 0 rfl (Nat.le_of_ble_eq_true rfl) rfl d_R_add_30 ?_
  clear hP hD hS; intro H locs hP hD hS
  exact W.vret hx hb hr (fun t9 ht hW => ⟨⟨(), rfl, trivial, by rw [ht]; exact hP, hD⟩, hS.F ht⟩) hS.2.2 d_R_add_33
section SM
variable {D : va_G} {cI cJ cO : ClassId} {p : Program} {l : Launch} {e : Env} {R : Room} {s : State} {m : MethodId} {args : Array Value} {below : List Frame} {meth : Method} {c : Code} {cells slots : Nat} {Q : State → Prop}
variable {a : Nat → Nat} {A : Nat → Prop} {H0 : Heap}
set_option maxHeartbeats 4000000 in
theorem l_R_fill {sz n : Nat} {v st : Int32} {fN fT : Nat → Int32} (X : Cx D cI cJ cO p s m c b_R_fill 5 R_R) (hR : 9 ≤ R.frames ∧ 460 ≤ R.locals) (hf : cells ≤ R.cells ∧ slots ≤ R.slots) (hA : ∀ q, H0.size ≤ q → A q) (hn : sz + n ≤ 2000) (kk : ∀ (f t : Nat → Int32) (H : Heap) (locs : List Loc) (ls : Array Slot), (∀ q, f q = FL fN sz n (fun j => v + nI j * st) q) → (∀ q, t q = FL fT sz n (fun j => nI (sz + j)) q) → va_P D vCL (WN cI a (sz + n) f t) H → va_D A (WN cI a (sz + n) f t) → va_S A H0 H locs → lv_has ls 5 [(0, .ref (a 0))] → W p l e R s m args below meth c H locs cells slots Q (F0 m 53 ls [])) : ∀ (fuel : Nat) (i : Nat) (f t : Nat → Int32) (H : Heap) (locs : List Loc) (ls : Array Slot), n - i < fuel → i ≤ n → (∀ q, f q = FL fN sz i (fun j => v + nI j * st) q) → (∀ q, t q = FL fT sz i (fun j => nI (sz + j)) q) → va_P D vCL (WN cI a (sz + i) f t) H → va_D A (WN cI a (sz + i) f t) → va_S A H0 H locs → lv_has ls 5 [(0, .ref (a 0)), (1, .int v), (2, .int st), (3, .int (nI n)), (4, .int (nI i))] → W p l e R s m args below meth c H locs cells slots Q (F0 m 31 ls []) := by
  have hx := X.x
  have hb := X.b
  intro fuel
  induction fuel with
  | zero => intro i f t H locs ls h; omega
  | succ fuel ih =>
    intro i f t H locs ls hfu hi h1 h2 hP hD hS hl
    refine lv_iload hx hb d_R_fill_31 (lv_at hl 4 rfl) ?_
    refine lv_iload_n hx hb d_R_fill_33 rfl (lv_at hl 3 rfl) ?_
    refine w_icmp_ge (tgt := 53) hx hb d_R_fill_34 (by decide) ⟨by omega, by omega⟩ (fun c1 => ?_) (fun c1 => ?_)
    · have ee : i = n := by omega
      subst ee
      exact kk f t H locs ls h1 h2 hP hD hS (lv_sub hl [0] rfl)
    · refine lv_aload_n hx hb d_R_fill_37 rfl (lv_at hl 0 rfl) ?_
      refine lv_iload_n hx hb d_R_fill_38 rfl (lv_at hl 1 rfl) ?_
      refine lv_iload hx hb d_R_fill_39 (lv_at hl 4 rfl) ?_
      refine lv_iload_n hx hb d_R_fill_41 rfl (lv_at hl 2 rfl) ?_
      refine lv_imul hx hb d_R_fill_42 ?_
      refine lv_iadd hx hb d_R_fill_43 ?_
      refine wr_v (wr := []) (run_V (C := R_R) X (c_R_add l D cI cJ cO a H.size (sz + i) f t (v + ((nI i) * st)) (by omega)) (cx_B X _ wk_R_65 wi_R_add wc_R_add wd_R_add ⟨by omega, by omega⟩) wm_R_add wl_R_add hP hD [0, 1, 2] rfl (by decide) (rcv X hP (ci := 0) (q0 := 0) rfl rfl) rfl hl.1 rfl (Nat.le_of_ble_eq_true rfl) d_R_fill_44 hf) hP hD hS hA [0, 1, 2] [] rfl rfl (by decide) (fun i h => by cases h) ?_
      clear hP hD hS; intro _ H locs _ hP hD hS _
      refine w_inc (k := 4) (lv' := [(4, .int (nI (i + 1))), (0, .ref (a 0)), (1, .int v), (2, .int st), (3, .int (nI n))]) hx hb d_R_fill_47 hl rfl (by decide) rfl ?_
      clear hl; intro ls hl
      refine lv_goto (tgt := 31) hx hb d_R_fill_50 (by decide) ?_
      exact ih (i + 1) _ _ H locs ls (by omega) (by omega) (FL_step h1 rfl) (FL_step h2 rfl) hP hD hS (lv_sub hl [1, 2, 3, 4, 0] rfl)
set_option maxHeartbeats 4000000 in
theorem l_R_scatter {sz n : Nat} {v bt : Int32} {fN fT : Nat → Int32} (X : Cx D cI cJ cO p s m c b_R_scatter 6 R_R) (hR : 9 ≤ R.frames ∧ 460 ≤ R.locals) (hf : cells ≤ R.cells ∧ slots ≤ R.slots) (hA : ∀ q, H0.size ≤ q → A q) (hn : sz + n ≤ 2000) (kk : ∀ (f t : Nat → Int32) (H : Heap) (locs : List Loc) (ls : Array Slot), (∀ q, f q = FL fN sz n (fun j => sv bt (sc v (j + 1))) q) → (∀ q, t q = FL fT sz n (fun j => nI (sz + j)) q) → va_P D vCL (WN cI a (sz + n) f t) H → va_D A (WN cI a (sz + n) f t) → va_S A H0 H locs → lv_has ls 6 [(0, .ref (a 0))] → W p l e R s m args below meth c H locs cells slots Q (F0 m 78 ls [])) : ∀ (fuel : Nat) (i : Nat) (f t : Nat → Int32) (H : Heap) (locs : List Loc) (ls : Array Slot), n - i < fuel → i ≤ n → (∀ q, f q = FL fN sz i (fun j => sv bt (sc v (j + 1))) q) → (∀ q, t q = FL fT sz i (fun j => nI (sz + j)) q) → va_P D vCL (WN cI a (sz + i) f t) H → va_D A (WN cI a (sz + i) f t) → va_S A H0 H locs → lv_has ls 6 [(0, .ref (a 0)), (2, .int bt), (3, .int (nI n)), (4, .int (sc v i)), (5, .int (nI i))] → W p l e R s m args below meth c H locs cells slots Q (F0 m 41 ls []) := by
  have hx := X.x
  have hb := X.b
  intro fuel
  induction fuel with
  | zero => intro i f t H locs ls h; omega
  | succ fuel ih =>
    intro i f t H locs ls hfu hi h1 h2 hP hD hS hl
    refine lv_iload hx hb d_R_scatter_41 (lv_at hl 4 rfl) ?_
    refine lv_iload_n hx hb d_R_scatter_43 rfl (lv_at hl 2 rfl) ?_
    refine w_icmp_ge (tgt := 78) hx hb d_R_scatter_44 (by decide) ⟨by omega, by omega⟩ (fun c1 => ?_) (fun c1 => ?_)
    · have ee : i = n := by omega
      subst ee
      exact kk f t H locs ls h1 h2 hP hD hS (lv_sub hl [0] rfl)
    · refine lv_ldc (v := 1664525) hx hb X.o (X.w q_214 _) d_R_scatter_47 ?_
      refine lv_iload hx hb d_R_scatter_49 (lv_at hl 3 rfl) ?_
      refine lv_imul hx hb d_R_scatter_51 ?_
      refine lv_ldc (v := 1013904223) hx hb X.o (X.w q_215 _) d_R_scatter_52 ?_
      refine lv_iadd hx hb d_R_scatter_54 ?_
      refine w_to (y := sc v (i + 1)) (rfl) ?_
      refine lv_istore (lv' := [(4, .int (sc v (i + 1))), (0, .ref (a 0)), (2, .int bt), (3, .int (nI n)), (5, .int (nI i))]) hx hb d_R_scatter_55 hl (by decide) rfl ?_
      clear hl; intro ls hl
      refine lv_aload_n hx hb d_R_scatter_57 rfl (lv_at hl 1 rfl) ?_
      refine lv_iload hx hb d_R_scatter_58 (lv_at hl 0 rfl) ?_
      refine lv_bipush (v := nI 16) hx hb d_R_scatter_60 (by decide) ?_
      refine lv_iushr hx hb d_R_scatter_62 rfl ?_
      refine lv_iconst (v := nI 1) hx hb d_R_scatter_63 (by decide) ?_
      refine lv_iload_n hx hb d_R_scatter_64 rfl (lv_at hl 2 rfl) ?_
      refine lv_ishl hx hb d_R_scatter_65 ?_
      refine lv_iconst (v := nI 1) hx hb d_R_scatter_66 (by decide) ?_
      refine lv_isub hx hb d_R_scatter_67 ?_
      refine lv_iand hx hb d_R_scatter_68 ?_
      refine w_to (y := sv bt (sc v (i + 1))) (rfl) ?_
      refine wr_v (wr := []) (run_V (C := R_R) X (c_R_add l D cI cJ cO a H.size (sz + i) f t (sv bt (sc v (i + 1))) (by omega)) (cx_B X _ wk_R_65 wi_R_add wc_R_add wd_R_add ⟨by omega, by omega⟩) wm_R_add wl_R_add hP hD [0, 1, 2] rfl (by decide) (rcv X hP (ci := 0) (q0 := 0) rfl rfl) rfl hl.1 rfl (Nat.le_of_ble_eq_true rfl) d_R_scatter_69 hf) hP hD hS hA [0, 1, 2] [] rfl rfl (by decide) (fun i h => by cases h) ?_
      clear hP hD hS; intro _ H locs _ hP hD hS _
      refine w_inc (k := 4) (lv' := [(5, .int (nI (i + 1))), (4, .int (sc v (i + 1))), (0, .ref (a 0)), (2, .int bt), (3, .int (nI n))]) hx hb d_R_scatter_72 hl rfl (by decide) rfl ?_
      clear hl; intro ls hl
      refine lv_goto (tgt := 41) hx hb d_R_scatter_75 (by decide) ?_
      exact ih (i + 1) _ _ H locs ls (by omega) (by omega) (FL_step h1 rfl) (FL_step h2 rfl) hP hD hS (lv_sub hl [2, 3, 4, 1, 0] rfl)
set_option maxHeartbeats 4000000 in
theorem l_R_hash {sz : Nat} {fN fT : Nat → Int32} {H : Heap} {locs : List Loc} (X : Cx D cI cJ cO p s m c b_R_hash 3 R_R) (hsz0 : sz ≤ 2000) (hP : va_P D vCL (WN cI a sz fN fT) H) (kk : ∀ (ls : Array Slot), lv_has ls 3 [(1, .int (hs fN fT sz))] → W p l e R s m args below meth c H locs cells slots Q (F0 m 40 ls [])) : ∀ (fuel i : Nat) (ls : Array Slot), sz - i < fuel → i ≤ sz → lv_has ls 3 [(0, .ref (a 0)), (1, .int (hs fN fT i)), (2, .int (nI i))] → W p l e R s m args below meth c H locs cells slots Q (F0 m 4 ls []) := by
  have hx := X.x
  have hb := X.b
  intro fuel
  induction fuel with
  | zero => intro i ls h; omega
  | succ fuel ih =>
    intro i ls hfu hi hl
    refine lv_iload_n hx hb d_R_hash_4 rfl (lv_at hl 2 rfl) ?_
    refine lv_aload_n hx hb d_R_hash_5 rfl (lv_at hl 0 rfl) ?_
    refine g_R_size X hP 0 rfl rfl d_R_hash_6 ?_
    refine w_icmp_ge (tgt := 40) hx hb d_R_hash_9 (by decide) ⟨by omega, by omega⟩ (fun c1 => ?_) (fun c1 => ?_)
    · have ee : i = sz := by omega
      subst ee
      exact kk ls (lv_sub hl [1] rfl)
    · refine lv_bipush (v := nI 31) hx hb d_R_hash_12 (by decide) ?_
      refine lv_bipush (v := nI 31) hx hb d_R_hash_14 (by decide) ?_
      refine lv_iload_n hx hb d_R_hash_16 rfl (lv_at hl 1 rfl) ?_
      refine lv_imul hx hb d_R_hash_17 ?_
      refine lv_aload_n hx hb d_R_hash_18 rfl (lv_at hl 0 rfl) ?_
      refine g_R_numbers X hP 0 rfl rfl d_R_hash_19 ?_
      refine lv_iload_n hx hb d_R_hash_22 rfl (lv_at hl 2 rfl) ?_
      refine w_ald X hP 1 rfl (by omega) (by decide) d_R_hash_23 ?_
      refine lv_iadd hx hb d_R_hash_24 ?_
      refine lv_imul hx hb d_R_hash_25 ?_
      refine lv_aload_n hx hb d_R_hash_26 rfl (lv_at hl 0 rfl) ?_
      refine g_R_tags X hP 0 rfl rfl d_R_hash_27 ?_
      refine lv_iload_n hx hb d_R_hash_30 rfl (lv_at hl 2 rfl) ?_
      refine w_ald X hP 2 rfl (by omega) (by decide) d_R_hash_31 ?_
      refine lv_iadd hx hb d_R_hash_32 ?_
      refine w_to (y := hs fN fT (i + 1)) (rfl) ?_
      refine lv_istore_n (lv' := [(1, .int (hs fN fT (i + 1))), (0, .ref (a 0)), (2, .int (nI i))]) hx hb d_R_hash_33 rfl hl (by decide) rfl ?_
      clear hl; intro ls hl
      refine w_inc (k := 2) (lv' := [(2, .int (nI (i + 1))), (1, .int (hs fN fT (i + 1))), (0, .ref (a 0))]) hx hb d_R_hash_34 hl rfl (by decide) rfl ?_
      clear hl; intro ls hl
      refine lv_goto (tgt := 4) hx hb d_R_hash_37 (by decide) ?_
      exact ih (i + 1) ls (by omega) (by omega) (lv_sub hl [2, 1, 0] rfl)
end SM
theorem c_R_fill (l : Launch) (D : va_G) (cI cJ cO : ClassId) (a : Nat → Nat) (sz9 sz : Nat) (fN fT : Nat → Int32) (v st : Int32) (n : Nat) (hn : sz + n ≤ 2000) : Met l y_R_fill [Cond.code y_R_fill b_R_fill 5 (some .int)] (rk 9 0 0) (PW D cI cJ cO [.ref (a 0), .int v, .int st, .int (nI n)] sz9 (WN cI a sz fN fT)) (va_Qi (fun (r : Int32) (u : (Nat → Int32) × (Nat → Int32)) => r = nI (sz + n) ∧ (∀ q, u.1 q = FL fN sz n (fun j => v + nI j * st) q) ∧ ∀ q, u.2 q = FL fT sz n (fun j => nI (sz + j)) q) (BW D (va_A (WN cI a sz fN fT) sz9) (fun u => WN cI a (sz + n) u.1 u.2)) (va_A (WN cI a sz fN fT) sz9)) 0 0 (va_A (WN cI a sz fN fT) sz9) := by
  refine entW (by decide) (Nat.le_of_ble_eq_true rfl) ?_
  intro p e s m below meth c ls X hr hlocks hnm hsz hP hD hA hl
  have hx := X.x
  have hb := X.b
  have hR : 9 ≤ (rk 9 0 0).frames ∧ 460 ≤ (rk 9 0 0).locals := by decide
  have hf : 0 ≤ (rk 9 0 0).cells ∧ 0 ≤ (rk 9 0 0).slots := by decide
  have hS : va_S (va_A (WN cI a sz fN fT) sz9) s.heap s.heap [] := va_S.rf
  generalize hAe : va_A (WN cI a sz fN fT) sz9 = A at hP hD hA hS ⊢
  have hl : lv_has ls 5 [(0, .ref (a 0)), (1, .int v), (2, .int st), (3, .int (nI n))] := hl
  refine lv_iload_n hx hb d_R_fill_0 rfl (lv_at hl 3 rfl) ?_
  refine lv_iconst (v := nI 0) hx hb d_R_fill_1 (by decide) ?_
  refine lv_sipush (v := nI 2000) hx hb d_R_fill_2 (by decide) ?_
  refine rv_S X (c_R_in l D cI cJ cO _ _ _ (nI_nlt (by omega) (by omega)) (nI_le (by omega) (by omega))) (cx_B X _ wk_R_57 wi_R_in wc_R_in wd_R_in ⟨by omega, by omega⟩) ws_R_in P_nil rfl hl.1 rfl (Nat.le_of_ble_eq_true rfl) d_R_fill_5 hf ?_
  refine lv_aload_n hx hb d_R_fill_8 rfl (lv_at hl 0 rfl) ?_
  refine g_R_size X hP 0 rfl rfl d_R_fill_9 ?_
  refine lv_iload_n hx hb d_R_fill_12 rfl (lv_at hl 3 rfl) ?_
  refine w_add hx hb d_R_fill_13 ?_
  refine lv_sipush (v := nI 2000) hx hb d_R_fill_14 (by decide) ?_
  refine w_icmp_gt (tgt := 24) hx hb d_R_fill_17 (by decide) ⟨by omega, by omega⟩ (fun c1 => ?_) (fun c1 => ?_)
  · omega
  · refine lv_iconst (v := nI 1) hx hb d_R_fill_20 (by decide) ?_
    refine lv_goto (tgt := 25) hx hb d_R_fill_21 (by decide) ?_
    refine rv_S X (c_R_within l D cI cJ cO _ (by decide)) (cx_B X _ wk_R_61 wi_R_within wc_R_within wd_R_within ⟨by omega, by omega⟩) ws_R_within P_nil rfl hl.1 rfl (Nat.le_of_ble_eq_true rfl) d_R_fill_25 hf ?_
    refine lv_iconst (v := nI 0) hx hb d_R_fill_28 (by decide) ?_
    refine lv_istore (lv' := [(4, .int (nI 0)), (0, .ref (a 0)), (1, .int v), (2, .int st), (3, .int (nI n))]) hx hb d_R_fill_29 hl (by decide) rfl ?_
    clear hl; intro ls hl
    refine l_R_fill X hR hf hA hn ?_ (n + 1) 0 fN fT _ _ ls (by omega) (by omega) FL_0 FL_0 hP hD hS (lv_sub hl [1, 2, 3, 4, 0] rfl)
    clear hP hD hS hl; intro f t H locs ls h1 h2 hP hD hS hl
    refine lv_aload_n hx hb d_R_fill_53 rfl (lv_at hl 0 rfl) ?_
    refine g_R_size X hP 0 rfl rfl d_R_fill_54 ?_
    exact W.iret (v := nI (sz + n)) hx hb hr (fun t9 ht hW => ⟨⟨nI (sz + n), (f, t), rfl, ⟨rfl, h1, h2⟩, by rw [ht]; exact hP, hD⟩, hS.F ht⟩) hS.2.2 d_R_fill_57
theorem c_R_scatter (l : Launch) (D : va_G) (cI cJ cO : ClassId) (a : Nat → Nat) (sz9 sz : Nat) (fN fT : Nat → Int32) (v bt : Int32) (n : Nat) (hb1 : ¬ bt < nI 1) (hb2 : bt ≤ nI 16) (hn : sz + n ≤ 2000) : Met l y_R_scatter [Cond.code y_R_scatter b_R_scatter 6 (some .int)] (rk 9 0 0) (PW D cI cJ cO [.ref (a 0), .int v, .int bt, .int (nI n)] sz9 (WN cI a sz fN fT)) (va_Qi (fun (r : Int32) (u : (Nat → Int32) × (Nat → Int32)) => r = nI (sz + n) ∧ (∀ q, u.1 q = FL fN sz n (fun j => sv bt (sc v (j + 1))) q) ∧ ∀ q, u.2 q = FL fT sz n (fun j => nI (sz + j)) q) (BW D (va_A (WN cI a sz fN fT) sz9) (fun u => WN cI a (sz + n) u.1 u.2)) (va_A (WN cI a sz fN fT) sz9)) 0 0 (va_A (WN cI a sz fN fT) sz9) := by
  refine entW (by decide) (Nat.le_of_ble_eq_true rfl) ?_
  intro p e s m below meth c ls X hr hlocks hnm hsz hP hD hA hl
  have hx := X.x
  have hb := X.b
  have hR : 9 ≤ (rk 9 0 0).frames ∧ 460 ≤ (rk 9 0 0).locals := by decide
  have hf : 0 ≤ (rk 9 0 0).cells ∧ 0 ≤ (rk 9 0 0).slots := by decide
  have hS : va_S (va_A (WN cI a sz fN fT) sz9) s.heap s.heap [] := va_S.rf
  generalize hAe : va_A (WN cI a sz fN fT) sz9 = A at hP hD hA hS ⊢
  have hl : lv_has ls 6 [(0, .ref (a 0)), (1, .int v), (2, .int bt), (3, .int (nI n))] := hl
  refine lv_iload_n hx hb d_R_scatter_0 rfl (lv_at hl 2 rfl) ?_
  refine lv_iconst (v := nI 1) hx hb d_R_scatter_1 (by decide) ?_
  refine lv_bipush (v := nI 16) hx hb d_R_scatter_2 (by decide) ?_
  refine rv_S X (c_R_in l D cI cJ cO _ _ _ hb1 hb2) (cx_B X _ wk_R_57 wi_R_in wc_R_in wd_R_in ⟨by omega, by omega⟩) ws_R_in P_nil rfl hl.1 rfl (Nat.le_of_ble_eq_true rfl) d_R_scatter_4 hf ?_
  refine lv_iload_n hx hb d_R_scatter_7 rfl (lv_at hl 3 rfl) ?_
  refine lv_iconst (v := nI 0) hx hb d_R_scatter_8 (by decide) ?_
  refine lv_sipush (v := nI 2000) hx hb d_R_scatter_9 (by decide) ?_
  refine rv_S X (c_R_in l D cI cJ cO _ _ _ (nI_nlt (by omega) (by omega)) (nI_le (by omega) (by omega))) (cx_B X _ wk_R_57 wi_R_in wc_R_in wd_R_in ⟨by omega, by omega⟩) ws_R_in P_nil rfl hl.1 rfl (Nat.le_of_ble_eq_true rfl) d_R_scatter_12 hf ?_
  refine lv_aload_n hx hb d_R_scatter_15 rfl (lv_at hl 0 rfl) ?_
  refine g_R_size X hP 0 rfl rfl d_R_scatter_16 ?_
  refine lv_iload_n hx hb d_R_scatter_19 rfl (lv_at hl 3 rfl) ?_
  refine w_add hx hb d_R_scatter_20 ?_
  refine lv_sipush (v := nI 2000) hx hb d_R_scatter_21 (by decide) ?_
  refine w_icmp_gt (tgt := 31) hx hb d_R_scatter_24 (by decide) ⟨by omega, by omega⟩ (fun c1 => ?_) (fun c1 => ?_)
  · omega
  · refine lv_iconst (v := nI 1) hx hb d_R_scatter_27 (by decide) ?_
    refine lv_goto (tgt := 32) hx hb d_R_scatter_28 (by decide) ?_
    refine rv_S X (c_R_within l D cI cJ cO _ (by decide)) (cx_B X _ wk_R_61 wi_R_within wc_R_within wd_R_within ⟨by omega, by omega⟩) ws_R_within P_nil rfl hl.1 rfl (Nat.le_of_ble_eq_true rfl) d_R_scatter_32 hf ?_
    refine lv_iload_n hx hb d_R_scatter_35 rfl (lv_at hl 1 rfl) ?_
    refine lv_istore (lv' := [(4, .int v), (0, .ref (a 0)), (1, .int v), (2, .int bt), (3, .int (nI n))]) hx hb d_R_scatter_36 hl (by decide) rfl ?_
    clear hl; intro ls hl
    refine lv_iconst (v := nI 0) hx hb d_R_scatter_38 (by decide) ?_
    refine lv_istore (lv' := [(5, .int (nI 0)), (4, .int v), (0, .ref (a 0)), (1, .int v), (2, .int bt), (3, .int (nI n))]) hx hb d_R_scatter_39 hl (by decide) rfl ?_
    clear hl; intro ls hl
    refine l_R_scatter (v := v) X hR hf hA hn ?_ (n + 1) 0 fN fT _ _ ls (by omega) (by omega) FL_0 FL_0 hP hD hS (lv_sub hl [2, 4, 5, 1, 0] rfl)
    clear hP hD hS hl; intro f t H locs ls h1 h2 hP hD hS hl
    refine lv_aload_n hx hb d_R_scatter_78 rfl (lv_at hl 0 rfl) ?_
    refine g_R_size X hP 0 rfl rfl d_R_scatter_79 ?_
    exact W.iret (v := nI (sz + n)) hx hb hr (fun t9 ht hW => ⟨⟨nI (sz + n), (f, t), rfl, ⟨rfl, h1, h2⟩, by rw [ht]; exact hP, hD⟩, hS.F ht⟩) hS.2.2 d_R_scatter_82
theorem c_R_get (l : Launch) (D : va_G) (cI cJ cO : ClassId) (a : Nat → Nat) (sz : Nat) (fN fT : Nat → Int32) (q : Nat) (hq : q < sz) (hsz0 : sz ≤ 2000) : Met l y_R_get [Cond.code y_R_get b_R_get 2 (some .int)] (rk 9 0 0) (PR D cI cJ cO [.ref (a 0), .int (nI q)] (WN cI a sz fN fT)) (vp_Si (fun r => r = fN q)) 0 0 (fun _ => False) := by
  refine entR (by decide) (Nat.le_of_ble_eq_true rfl) ?_
  intro p e s m below meth c ls X hr hlocks hP hl
  have hx := X.x
  have hb := X.b
  have hR : 9 ≤ (rk 9 0 0).frames ∧ 460 ≤ (rk 9 0 0).locals := by decide
  have hf : 0 ≤ (rk 9 0 0).cells ∧ 0 ≤ (rk 9 0 0).slots := by decide
  have hl : lv_has ls 2 [(0, .ref (a 0)), (1, .int (nI q))] := hl
  refine lv_iload_n hx hb d_R_get_0 rfl (lv_at hl 1 rfl) ?_
  refine lv_if_lt (tgt := 16) hx hb d_R_get_1 (by decide) (fun c1 => ?_) (fun c1 => ?_)
  · exact absurd c1 (nI_pos (by omega))
  · refine lv_iload_n hx hb d_R_get_4 rfl (lv_at hl 1 rfl) ?_
    refine lv_aload_n hx hb d_R_get_5 rfl (lv_at hl 0 rfl) ?_
    refine g_R_size X hP 0 rfl rfl d_R_get_6 ?_
    refine w_icmp_ge (tgt := 16) hx hb d_R_get_9 (by decide) ⟨by omega, by omega⟩ (fun c2 => ?_) (fun c2 => ?_)
    · omega
    · refine lv_iconst (v := nI 1) hx hb d_R_get_12 (by decide) ?_
      refine lv_goto (tgt := 17) hx hb d_R_get_13 (by decide) ?_
      refine rv_S X (c_R_within l D cI cJ cO _ (by decide)) (cx_B X _ wk_R_61 wi_R_within wc_R_within wd_R_within ⟨by omega, by omega⟩) ws_R_within P_nil rfl hl.1 rfl (Nat.le_of_ble_eq_true rfl) d_R_get_17 hf ?_
      refine lv_aload_n hx hb d_R_get_20 rfl (lv_at hl 0 rfl) ?_
      refine g_R_numbers X hP 0 rfl rfl d_R_get_21 ?_
      refine lv_iload_n hx hb d_R_get_24 rfl (lv_at hl 1 rfl) ?_
      refine w_ald X hP 1 rfl (by omega) (by decide) d_R_get_25 ?_
      exact W.iret (v := fN q) hx hb hr (fun t ht _ => ⟨fN q, rfl, rfl, ht⟩) (fun q h => by cases h) d_R_get_26
theorem c_R_tag (l : Launch) (D : va_G) (cI cJ cO : ClassId) (a : Nat → Nat) (sz : Nat) (fN fT : Nat → Int32) (q : Nat) (hq : q < sz) (hsz0 : sz ≤ 2000) : Met l y_R_tag [Cond.code y_R_tag b_R_tag 2 (some .int)] (rk 9 0 0) (PR D cI cJ cO [.ref (a 0), .int (nI q)] (WN cI a sz fN fT)) (vp_Si (fun r => r = fT q)) 0 0 (fun _ => False) := by
  refine entR (by decide) (Nat.le_of_ble_eq_true rfl) ?_
  intro p e s m below meth c ls X hr hlocks hP hl
  have hx := X.x
  have hb := X.b
  have hR : 9 ≤ (rk 9 0 0).frames ∧ 460 ≤ (rk 9 0 0).locals := by decide
  have hf : 0 ≤ (rk 9 0 0).cells ∧ 0 ≤ (rk 9 0 0).slots := by decide
  have hl : lv_has ls 2 [(0, .ref (a 0)), (1, .int (nI q))] := hl
  refine lv_iload_n hx hb d_R_tag_0 rfl (lv_at hl 1 rfl) ?_
  refine lv_if_lt (tgt := 16) hx hb d_R_tag_1 (by decide) (fun c1 => ?_) (fun c1 => ?_)
  · exact absurd c1 (nI_pos (by omega))
  · refine lv_iload_n hx hb d_R_tag_4 rfl (lv_at hl 1 rfl) ?_
    refine lv_aload_n hx hb d_R_tag_5 rfl (lv_at hl 0 rfl) ?_
    refine g_R_size X hP 0 rfl rfl d_R_tag_6 ?_
    refine w_icmp_ge (tgt := 16) hx hb d_R_tag_9 (by decide) ⟨by omega, by omega⟩ (fun c2 => ?_) (fun c2 => ?_)
    · omega
    · refine lv_iconst (v := nI 1) hx hb d_R_tag_12 (by decide) ?_
      refine lv_goto (tgt := 17) hx hb d_R_tag_13 (by decide) ?_
      refine rv_S X (c_R_within l D cI cJ cO _ (by decide)) (cx_B X _ wk_R_61 wi_R_within wc_R_within wd_R_within ⟨by omega, by omega⟩) ws_R_within P_nil rfl hl.1 rfl (Nat.le_of_ble_eq_true rfl) d_R_tag_17 hf ?_
      refine lv_aload_n hx hb d_R_tag_20 rfl (lv_at hl 0 rfl) ?_
      refine g_R_tags X hP 0 rfl rfl d_R_tag_21 ?_
      refine lv_iload_n hx hb d_R_tag_24 rfl (lv_at hl 1 rfl) ?_
      refine w_ald X hP 2 rfl (by omega) (by decide) d_R_tag_25 ?_
      exact W.iret (v := fT q) hx hb hr (fun t ht _ => ⟨fT q, rfl, rfl, ht⟩) (fun q h => by cases h) d_R_tag_26
theorem c_R_set (l : Launch) (D : va_G) (cI cJ cO : ClassId) (a : Nat → Nat) (sz9 sz : Nat) (fN fT : Nat → Int32) (q : Nat) (v : Int32) (hq : q < sz) (hsz0 : sz ≤ 2000) : Met l y_R_set [Cond.code y_R_set b_R_set 4 (some .int)] (rk 9 0 0) (PW D cI cJ cO [.ref (a 0), .int (nI q), .int v] sz9 (WN cI a sz fN fT)) (va_Qi (fun (r : Int32) (_ : Unit) => r = fN q) (BW D (va_A (WN cI a sz fN fT) sz9) (fun _ => WN cI a sz (upd fN q v) fT)) (va_A (WN cI a sz fN fT) sz9)) 0 0 (va_A (WN cI a sz fN fT) sz9) := by
  refine entW (by decide) (Nat.le_of_ble_eq_true rfl) ?_
  intro p e s m below meth c ls X hr hlocks hnm hsz hP hD hA hl
  have hx := X.x
  have hb := X.b
  have hR : 9 ≤ (rk 9 0 0).frames ∧ 460 ≤ (rk 9 0 0).locals := by decide
  have hf : 0 ≤ (rk 9 0 0).cells ∧ 0 ≤ (rk 9 0 0).slots := by decide
  have hS : va_S (va_A (WN cI a sz fN fT) sz9) s.heap s.heap [] := va_S.rf
  generalize hAe : va_A (WN cI a sz fN fT) sz9 = A at hP hD hA hS ⊢
  have hl : lv_has ls 4 [(0, .ref (a 0)), (1, .int (nI q)), (2, .int v)] := hl
  refine lv_iload_n hx hb d_R_set_0 rfl (lv_at hl 1 rfl) ?_
  refine lv_if_lt (tgt := 16) hx hb d_R_set_1 (by decide) (fun c1 => ?_) (fun c1 => ?_)
  · exact absurd c1 (nI_pos (by omega))
  · refine lv_iload_n hx hb d_R_set_4 rfl (lv_at hl 1 rfl) ?_
    refine lv_aload_n hx hb d_R_set_5 rfl (lv_at hl 0 rfl) ?_
    refine g_R_size X hP 0 rfl rfl d_R_set_6 ?_
    refine w_icmp_ge (tgt := 16) hx hb d_R_set_9 (by decide) ⟨by omega, by omega⟩ (fun c2 => ?_) (fun c2 => ?_)
    · omega
    · refine lv_iconst (v := nI 1) hx hb d_R_set_12 (by decide) ?_
      refine lv_goto (tgt := 17) hx hb d_R_set_13 (by decide) ?_
      refine rv_S X (c_R_within l D cI cJ cO _ (by decide)) (cx_B X _ wk_R_61 wi_R_within wc_R_within wd_R_within ⟨by omega, by omega⟩) ws_R_within P_nil rfl hl.1 rfl (Nat.le_of_ble_eq_true rfl) d_R_set_17 hf ?_
      refine lv_aload_n hx hb d_R_set_20 rfl (lv_at hl 0 rfl) ?_
      refine g_R_numbers X hP 0 rfl rfl d_R_set_21 ?_
      refine lv_iload_n hx hb d_R_set_24 rfl (lv_at hl 1 rfl) ?_
      refine w_ald X hP 1 rfl (by omega) (by decide) d_R_set_25 ?_
      refine lv_istore_n (lv' := [(3, .int (fN q)), (0, .ref (a 0)), (1, .int (nI q)), (2, .int v)]) hx hb d_R_set_26 rfl hl (by decide) rfl ?_
      clear hl; intro ls hl
      refine lv_aload_n hx hb d_R_set_27 rfl (lv_at hl 1 rfl) ?_
      refine g_R_numbers X hP 0 rfl rfl d_R_set_28 ?_
      refine lv_iload_n hx hb d_R_set_31 rfl (lv_at hl 2 rfl) ?_
      refine lv_iload_n hx hb d_R_set_32 rfl (lv_at hl 3 rfl) ?_
      refine w_ast (ws' := WN cI a sz (upd fN q v) fT) X hP hD hS 1 rfl (by omega) (by decide) rfl d_R_set_33 ?_
      clear hP hD hS; intro H locs hP hD hS
      refine lv_iload_n hx hb d_R_set_34 rfl (lv_at hl 0 rfl) ?_
      exact W.iret (v := fN q) hx hb hr (fun t9 ht hW => ⟨⟨fN q, (), rfl, rfl, by rw [ht]; exact hP, hD⟩, hS.F ht⟩) hS.2.2 d_R_set_35
theorem c_R_clear (l : Launch) (D : va_G) (cI cJ cO : ClassId) (a : Nat → Nat) (sz9 sz : Nat) (fN fT : Nat → Int32) : Met l y_R_clear [Cond.code y_R_clear b_R_clear 2 (some .int)] (rk 9 0 0) (PW D cI cJ cO [.ref (a 0)] sz9 (WN cI a sz fN fT)) (va_Qi (fun (r : Int32) (_ : Unit) => r = nI sz) (BW D (va_A (WN cI a sz fN fT) sz9) (fun _ => WN cI a 0 fN fT)) (va_A (WN cI a sz fN fT) sz9)) 0 0 (va_A (WN cI a sz fN fT) sz9) := by
  refine entW (by decide) (Nat.le_of_ble_eq_true rfl) ?_
  intro p e s m below meth c ls X hr hlocks hnm hsz hP hD hA hl
  have hx := X.x
  have hb := X.b
  have hR : 9 ≤ (rk 9 0 0).frames ∧ 460 ≤ (rk 9 0 0).locals := by decide
  have hf : 0 ≤ (rk 9 0 0).cells ∧ 0 ≤ (rk 9 0 0).slots := by decide
  have hS : va_S (va_A (WN cI a sz fN fT) sz9) s.heap s.heap [] := va_S.rf
  generalize hAe : va_A (WN cI a sz fN fT) sz9 = A at hP hD hA hS ⊢
  have hl : lv_has ls 2 [(0, .ref (a 0))] := hl
  refine lv_aload_n hx hb d_R_clear_0 rfl (lv_at hl 0 rfl) ?_
  refine g_R_size X hP 0 rfl rfl d_R_clear_1 ?_
  refine lv_istore_n (lv' := [(1, .int (nI sz)), (0, .ref (a 0))]) hx hb d_R_clear_4 rfl hl (by decide) rfl ?_
  clear hl; intro ls hl
  refine lv_aload_n hx hb d_R_clear_5 rfl (lv_at hl 1 rfl) ?_
  refine lv_iconst (v := nI 0) hx hb d_R_clear_6 (by decide) ?_
  refine p_R_size (ws' := WN cI a 0 fN fT) X hP hD hS 0 rfl (Nat.le_of_ble_eq_true rfl) rfl d_R_clear_7 ?_
  clear hP hD hS; intro H locs hP hD hS
  refine lv_iload_n hx hb d_R_clear_10 rfl (lv_at hl 0 rfl) ?_
  exact W.iret (v := nI sz) hx hb hr (fun t9 ht hW => ⟨⟨nI sz, (), rfl, rfl, by rw [ht]; exact hP, hD⟩, hS.F ht⟩) hS.2.2 d_R_clear_11
theorem c_R_hash (l : Launch) (D : va_G) (cI cJ cO : ClassId) (a : Nat → Nat) (sz : Nat) (fN fT : Nat → Int32) (hsz0 : sz ≤ 2000) : Met l y_R_hash [Cond.code y_R_hash b_R_hash 3 (some .int)] (rk 9 0 0) (PR D cI cJ cO [.ref (a 0)] (WN cI a sz fN fT)) (vp_Si (fun r => r = hs fN fT sz)) 0 0 (fun _ => False) := by
  refine entR (by decide) (Nat.le_of_ble_eq_true rfl) ?_
  intro p e s m below meth c ls X hr hlocks hP hl
  have hx := X.x
  have hb := X.b
  have hR : 9 ≤ (rk 9 0 0).frames ∧ 460 ≤ (rk 9 0 0).locals := by decide
  have hf : 0 ≤ (rk 9 0 0).cells ∧ 0 ≤ (rk 9 0 0).slots := by decide
  have hl : lv_has ls 3 [(0, .ref (a 0))] := hl
  refine lv_iconst (v := nI 1) hx hb d_R_hash_0 (by decide) ?_
  refine lv_istore_n (lv' := [(1, .int (nI 1)), (0, .ref (a 0))]) hx hb d_R_hash_1 rfl hl (by decide) rfl ?_
  clear hl; intro ls hl
  refine lv_iconst (v := nI 0) hx hb d_R_hash_2 (by decide) ?_
  refine lv_istore_n (lv' := [(2, .int (nI 0)), (1, .int (nI 1)), (0, .ref (a 0))]) hx hb d_R_hash_3 rfl hl (by decide) rfl ?_
  clear hl; intro ls hl
  refine l_R_hash X hsz0 hP ?_ (sz + 1) 0 ls (by omega) (by omega) (lv_sub hl [2, 1, 0] rfl)
  clear hl; intro ls hl
  refine lv_iload_n hx hb d_R_hash_40 rfl (lv_at hl 0 rfl) ?_
  exact W.iret (v := hs fN fT sz) hx hb hr (fun t ht _ => ⟨hs fN fT sz, rfl, rfl, ht⟩) (fun q h => by cases h) d_R_hash_41
