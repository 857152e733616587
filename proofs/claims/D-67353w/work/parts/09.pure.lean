/-! pure rows: keys, the strict order of places, runs, merging -/
def rkk (k : Nat) (x : Int32) : Int32 := if k = 0 then x else if k = 1 then x ^^^ (-1) else if k = 2 then x &&& nI 15 else x ^^^ (-2147483648)
def ky (k : Nat) (x : Int32) : Int := (rkk k x).toInt
def cmpP (u v : Int) (r : Int32) : Prop := (r < 0 ↔ u < v) ∧ (0 < r ↔ v < u)
theorem cm_neg {u v : Int} (h : u < v) : cmpP u v (-1) := ⟨⟨fun _ => h, fun _ => by decide⟩, ⟨fun q => absurd q (by decide), fun q => by omega⟩⟩
theorem cm_pos {u v : Int} (h : v < u) : cmpP u v (nI 1) := ⟨⟨fun q => absurd q (by decide), fun q => by omega⟩, ⟨fun _ => h, fun _ => by decide⟩⟩
theorem cm_zero {u v : Int} (h : u = v) : cmpP u v (nI 0) := ⟨⟨fun q => absurd q (by decide), fun q => by omega⟩, ⟨fun q => absurd q (by decide), fun q => by omega⟩⟩
theorem cmpP.eq0 {u v : Int} {r : Int32} (h : cmpP u v r) : r = 0 ↔ u = v := by
  obtain ⟨h1, h2⟩ := h
  rw [Int32.lt_iff_toInt_lt, Int32.toInt_zero] at h1 h2
  constructor
  · intro z
    rw [z, Int32.toInt_zero] at h1 h2
    omega
  · intro z
    have : r.toInt = 0 := by omega
    exact Int32.toInt_inj.mp (by rw [this, Int32.toInt_zero])
theorem cmpP.ge {u v : Int} {r : Int32} (h : cmpP u v r) : 0 ≤ r ↔ v ≤ u := by
  obtain ⟨h1, -⟩ := h
  rw [Int32.lt_iff_toInt_lt, Int32.toInt_zero] at h1
  rw [Int32.le_iff_toInt_le, Int32.toInt_zero]
  omega
theorem i32_int (x : Int32) : x.toInt = if 2 * x.toBitVec.toNat < 4294967296 then (x.toBitVec.toNat : Int) else (x.toBitVec.toNat : Int) - 4294967296 := BitVec.toInt_eq_toNat_cond _
theorem i32_lt (x : Int32) : x.toBitVec.toNat < 4294967296 := x.toBitVec.isLt
theorem xm1 (x : Int32) : (x ^^^ (-1)).toBitVec.toNat = 4294967295 - x.toBitVec.toNat := by
  have h1 : (x ^^^ (-1)).toBitVec = ~~~ x.toBitVec := by
    rw [← BitVec.xor_allOnes]
    rfl
  rw [h1, BitVec.toNat_not]
theorem xm1_int (x : Int32) : (x ^^^ (-1)).toInt = -x.toInt - 1 := by
  have h := i32_lt x
  rw [i32_int, i32_int x, xm1]
  split <;> split <;> omega
theorem nat_xor32 {a : Nat} (h : a < 4294967296) : a ^^^ 2 ^ 31 = (a + 2147483648) % 4294967296 := by
  have h1 : (a ^^^ 2 ^ 31) % 2 ^ 31 = a % 2 ^ 31 := by rw [Nat.xor_mod_two_pow, Nat.mod_self, Nat.xor_zero]
  have h2 : (a ^^^ 2 ^ 31) / 2 ^ 31 = (a / 2 ^ 31) ^^^ 1 := by rw [Nat.xor_div_two_pow, Nat.div_self (Nat.two_pow_pos 31)]
  have h3 : a / 2 ^ 31 = 0 ∨ a / 2 ^ 31 = 1 := by omega
  generalize a ^^^ 2 ^ 31 = t at h1 h2
  rcases h3 with h3 | h3
  · rw [h3] at h2
    have h2 : t / 2 ^ 31 = 1 := h2
    omega
  · rw [h3] at h2
    have h2 : t / 2 ^ 31 = 0 := h2
    omega
theorem xmn (x : Int32) : (x ^^^ (-2147483648)).toBitVec.toNat = (x.toBitVec.toNat + 2147483648) % 4294967296 := by
  rw [← nat_xor32 (i32_lt x)]
  exact BitVec.toNat_xor _ _
theorem amn (x : Int32) : (x + (-2147483648)).toBitVec.toNat = (x.toBitVec.toNat + 2147483648) % 4294967296 := BitVec.toNat_add _ _
theorem xmn_int (x : Int32) : (x ^^^ (-2147483648)).toInt = (x.toBitVec.toNat : Int) - 2147483648 := by
  have h := i32_lt x
  rw [i32_int, xmn]
  split <;> omega
theorem amn_int (x : Int32) : (x + (-2147483648)).toInt = (x.toBitVec.toNat : Int) - 2147483648 := by
  have h := i32_lt x
  rw [i32_int, amn]
  split <;> omega
theorem ky0 (x : Int32) : ky 0 x = x.toInt := rfl
theorem ky1 (x : Int32) : ky 1 x = -x.toInt - 1 := xm1_int x
theorem ky3 (x : Int32) : ky 3 x = (x.toBitVec.toNat : Int) - 2147483648 := xmn_int x
theorem ky2 (x : Int32) : ∃ j : Nat, j < 16 ∧ x &&& nI 15 = nI j ∧ ky 2 x = (j : Int) := by
  obtain ⟨j, h1, h2⟩ := pk_andE x (m := nI 15) 4 (by decide)
  refine ⟨j, h1, h2, ?_⟩
  show (x &&& nI 15).toInt = _
  rw [h2, nI_toInt (by omega)]
theorem i32_ext {x y : Int32} (h : x.toInt = y.toInt) : x = y := Int32.toInt_inj.mp h
theorem i32_le (x y : Int32) : x ≤ y ↔ x.toInt ≤ y.toInt := Int32.le_iff_toInt_le
theorem i32_ltI (x y : Int32) : x < y ↔ x.toInt < y.toInt := Int32.lt_iff_toInt_lt
theorem i32_nat_inj {x y : Int32} (h : x.toBitVec.toNat = y.toBitVec.toNat) : x = y := i32_ext (by rw [i32_int, i32_int y, h])
/-- the strict order of places -/
def LT (K : Int32 → Int) (x y : Int32) : Prop := K x < K y ∨ (K x = K y ∧ x.toInt < y.toInt)
section PS
variable {K : Int32 → Int}
theorem LT.trans {x y z : Int32} (h : LT K x y) (g : LT K y z) : LT K x z := by
  unfold LT at *; omega
theorem LT.irr {x : Int32} (h : LT K x x) : False := by unfold LT at h; omega
theorem LT.asym {x y : Int32} (h : LT K x y) (g : LT K y x) : False := (h.trans g).irr
theorem LT.le {x y : Int32} (h : LT K x y) : K x ≤ K y := by unfold LT at h; omega
theorem LT.tri {x y : Int32} (h : x ≠ y) : LT K x y ∨ LT K y x := by
  have : x.toInt ≠ y.toInt := fun q => h (i32_ext q)
  unfold LT; omega
def Sg (K : Int32 → Int) (f : Nat → Int32) (a b : Nat) : Prop := ∀ i j, a ≤ i → i < j → j < b → LT K (f i) (f j)
def In (f : Nat → Int32) (a b lo hi : Nat) : Prop := ∀ i, a ≤ i → i < b → ∃ p, lo ≤ p ∧ p < hi ∧ f i = nI p
def Iv (v f : Nat → Int32) (a b lo hi : Nat) : Prop := ∀ i, a ≤ i → i < b → ∃ p, lo ≤ p ∧ p < hi ∧ f i = v p
def Rn (K : Int32 → Int) (f : Nat → Int32) (a b : Nat) : Prop := Sg K f a b ∧ In f a b a b
theorem Sg.mono {f : Nat → Int32} {a b : Nat} (h : Sg K f a b) {i j : Nat} (h1 : a ≤ i) (h2 : i ≤ j) (h3 : j < b) : K (f i) ≤ K (f j) := by
  rcases Nat.lt_or_ge i j with q | q
  · exact (h i j h1 q h3).le
  · rw [show i = j by omega]; exact Int.le_refl _
theorem Sg.part {f : Nat → Int32} {a b a' b' : Nat} (h : Sg K f a b) (h1 : a ≤ a') (h2 : b' ≤ b) : Sg K f a' b' := fun i j q1 q2 q3 => h i j (by omega) q2 (by omega)
theorem In.part {f : Nat → Int32} {a b lo hi a' b' lo' hi' : Nat} (h : In f a b lo hi) (h1 : a ≤ a') (h2 : b' ≤ b) (h3 : lo' ≤ lo) (h4 : hi ≤ hi') : In f a' b' lo' hi' := fun i q1 q2 => by
  obtain ⟨p, p1, p2, p3⟩ := h i (by omega) (by omega)
  exact ⟨p, by omega, by omega, p3⟩
theorem In.vd {f : Nat → Int32} {a b lo hi i : Nat} (h : In f a b lo hi) (hh : hi ≤ 2000) (h1 : a ≤ i) (h2 : i < b) : vp_in (f i) 2000 := by
  obtain ⟨p, p1, p2, p3⟩ := h i h1 h2
  rw [p3]
  exact vp_in_nI (by omega) (by decide)
theorem Sg.cong {f g : Nat → Int32} {a b : Nat} (h : Sg K f a b) (e : ∀ i, a ≤ i → i < b → g i = f i) : Sg K g a b := fun i j h1 h2 h3 => by rw [e i h1 (by omega), e j (by omega) h3]; exact h i j h1 h2 h3
theorem In.cong {f g : Nat → Int32} {a b lo hi : Nat} (h : In f a b lo hi) (e : ∀ i, a ≤ i → i < b → g i = f i) : In g a b lo hi := fun i h1 h2 => by rw [e i h1 h2]; exact h i h1 h2
theorem Rn.cong {f g : Nat → Int32} {a b : Nat} (h : Rn K f a b) (e : ∀ i, a ≤ i → i < b → g i = f i) : Rn K g a b := ⟨h.1.cong e, h.2.cong e⟩
theorem nI_lt_toInt {p q : Nat} (h : p < q) (hq : q < 2 ^ 31) : (nI p).toInt < (nI q).toInt := by rw [nI_toInt (by omega), nI_toInt hq]; omega
/-- places of a lower block: the key's order decides -/
theorem lt_lo {x y : Int32} {p q : Nat} (hx : x = nI p) (hy : y = nI q) (h : p < q) (hq : q < 2 ^ 31) (k : K x ≤ K y) : LT K x y := by
  have := nI_lt_toInt h hq
  subst hx; subst hy
  unfold LT; omega
theorem lt_hi {x y : Int32} (k : K y < K x) : LT K y x := Or.inl k
/-- .. one more at the end -/
theorem Sg.snoc {f : Nat → Int32} {a t : Nat} {v : Int32} (h : Sg K f a t) (hv : ∀ q, a ≤ q → q < t → LT K (f q) v) : Sg K (upd f t v) a (t + 1) := fun i j h1 h2 h3 => by
  rw [pk_un (show i ≠ t by omega)]
  rcases Nat.lt_or_ge j t with q | q
  · rw [pk_un (show j ≠ t by omega)]; exact h i j h1 h2 q
  · rw [show j = t by omega, pk_us]; exact hv i h1 (by omega)
theorem In.snoc {f : Nat → Int32} {a t lo hi p : Nat} {v : Int32} (h : In f a t lo hi) (h1 : lo ≤ p) (h2 : p < hi) (hv : v = nI p) : In (upd f t v) a (t + 1) lo hi := fun i q1 q2 => by
  rcases Nat.lt_or_ge i t with q | q
  · rw [pk_un (show i ≠ t by omega)]; exact h i q1 q
  · rw [show i = t by omega, pk_us]; exact ⟨p, h1, h2, hv⟩
theorem Iv.snoc {w f : Nat → Int32} {a t lo hi p : Nat} {v : Int32} (h : Iv w f a t lo hi) (h1 : lo ≤ p) (h2 : p < hi) (hv : v = w p) : Iv w (upd f t v) a (t + 1) lo hi := fun i q1 q2 => by
  rcases Nat.lt_or_ge i t with q | q
  · rw [pk_un (show i ≠ t by omega)]; exact h i q1 q
  · rw [show i = t by omega, pk_us]; exact ⟨p, h1, h2, hv⟩
theorem Iv.cons {w f : Nat → Int32} {t b lo hi p : Nat} {v : Int32} (h : Iv w f (t + 1) b lo hi) (h1 : lo ≤ p) (h2 : p < hi) (hv : v = w p) : Iv w (upd f t v) t b lo hi := fun i q1 q2 => by
  rcases Nat.lt_or_ge t i with q | q
  · rw [pk_un (show i ≠ t by omega)]; exact h i (by omega) q2
  · rw [show i = t by omega, pk_us]; exact ⟨p, h1, h2, hv⟩
/-- .. one more at the front -/
theorem Sg.cons {f : Nat → Int32} {t b : Nat} {v : Int32} (h : Sg K f (t + 1) b) (hv : ∀ q, t + 1 ≤ q → q < b → LT K v (f q)) : Sg K (upd f t v) t b := fun i j h1 h2 h3 => by
  rw [pk_un (show j ≠ t by omega)]
  rcases Nat.lt_or_ge t i with q | q
  · rw [pk_un (show i ≠ t by omega)]; exact h i j (by omega) h2 h3
  · rw [show i = t by omega, pk_us]; exact hv j (by omega) h3
theorem In.cons {f : Nat → Int32} {t b lo hi p : Nat} {v : Int32} (h : In f (t + 1) b lo hi) (h1 : lo ≤ p) (h2 : p < hi) (hv : v = nI p) : In (upd f t v) t b lo hi := fun i q1 q2 => by
  rcases Nat.lt_or_ge t i with q | q
  · rw [pk_un (show i ≠ t by omega)]; exact h i (by omega) q2
  · rw [show i = t by omega, pk_us]; exact ⟨p, h1, h2, hv⟩
/-- merging upward: i of the left run (which waits in s) and j - b of the right one are placed -/
def MU (K : Int32 → Int) (f0 f s : Nat → Int32) (a n b m lo hi i j : Nat) : Prop :=
  i ≤ n ∧ b ≤ j ∧ j ≤ b + m ∧ (∀ q, q < n → s q = f0 (a + q)) ∧ (∀ q, j ≤ q → q < b + m → f q = f0 q) ∧ (∀ q, (q < a ∨ b + m ≤ q) → f q = f0 q) ∧ Sg K f a (a + i + (j - b)) ∧
  (∀ q t, a ≤ q → q < a + i + (j - b) → i ≤ t → t < n → LT K (f q) (s t)) ∧ (∀ q t, a ≤ q → q < a + i + (j - b) → j ≤ t → t < b + m → LT K (f q) (f0 t)) ∧ Iv f0 f a (a + i + (j - b)) a (b + m)
theorem MU.start {f0 s : Nat → Int32} {a n b m lo hi : Nat} (hab : a + n = b) (hs : ∀ q, q < n → s q = f0 (a + q)) : MU K f0 f0 s a n b m lo hi 0 b :=
  ⟨by omega, by omega, by omega, hs, fun _ _ _ => rfl, fun _ _ => rfl, fun i j h1 h2 h3 => by omega, fun q t h1 h2 => by omega, fun q t h1 h2 => by omega, fun i h1 h2 => by omega⟩
theorem MU.takeR {f0 f s : Nat → Int32} {a n b m lo hi i j : Nat} (hab : a + n = b) (h : MU K f0 f s a n b m lo hi i j) (hi1 : i < n) (hj : j < b + m) (sl : Sg K f0 a b) (sr : Sg K f0 b (b + m)) (ir : In f0 b (b + m) lo hi) (hc : LT K (f j) (s i)) : MU K f0 (upd f (a + i + (j - b)) (f j)) s a n b m lo hi i (j + 1) := by
  obtain ⟨h1, h2, h3, h4, h5, h6, h7, h8, h9, h10⟩ := h
  have e : a + i + (j + 1 - b) = a + i + (j - b) + 1 := by omega
  have fj := h5 j (Nat.le_refl _) hj
  refine ⟨h1, by omega, by omega, h4, fun q q1 q2 => ?_, fun q q1 => ?_, ?_, fun q t q1 q2 q3 q4 => ?_, fun q t q1 q2 q3 q4 => ?_, ?_⟩
  · rw [pk_un (by omega)]; exact h5 q (by omega) q2
  · rw [pk_un (by omega)]; exact h6 q q1
  · rw [e]; exact h7.snoc fun q q1 q2 => by rw [fj]; exact h9 q j q1 q2 (Nat.le_refl _) hj
  · rw [e] at q2
    rcases Nat.lt_or_ge q (a + i + (j - b)) with z | z
    · rw [pk_un (by omega)]; exact h8 q t q1 z q3 q4
    · rw [show q = a + i + (j - b) by omega, pk_us]
      rcases Nat.lt_or_ge i t with y | y
      · exact hc.trans (by rw [h4 i (by omega), h4 t q4]; exact sl _ _ (by omega) (by omega) (by omega))
      · rw [show t = i by omega]; exact hc
  · rw [e] at q2
    rcases Nat.lt_or_ge q (a + i + (j - b)) with z | z
    · rw [pk_un (by omega)]; exact h9 q t q1 z (by omega) q4
    · rw [show q = a + i + (j - b) by omega, pk_us, fj]; exact sr _ _ h2 (by omega) q4
  · rw [e]
    exact h10.snoc (p := j) (by omega) hj fj
theorem MU.takeL {f0 f s : Nat → Int32} {a n b m lo hi i j : Nat} (hab : a + n = b) (h : MU K f0 f s a n b m lo hi i j) (hi1 : i < n) (sl : Sg K f0 a b) (sr : Sg K f0 b (b + m)) (il : In f0 a b lo hi) (hc : j < b + m → LT K (s i) (f j)) : MU K f0 (upd f (a + i + (j - b)) (s i)) s a n b m lo hi (i + 1) j := by
  obtain ⟨h1, h2, h3, h4, h5, h6, h7, h8, h9, h10⟩ := h
  have e : a + (i + 1) + (j - b) = a + i + (j - b) + 1 := by omega
  have si := h4 i hi1
  refine ⟨by omega, h2, h3, h4, fun q q1 q2 => ?_, fun q q1 => ?_, ?_, fun q t q1 q2 q3 q4 => ?_, fun q t q1 q2 q3 q4 => ?_, ?_⟩
  · rw [pk_un (by omega)]; exact h5 q q1 q2
  · rw [pk_un (by omega)]; exact h6 q q1
  · rw [e]; exact h7.snoc fun q q1 q2 => h8 q i q1 q2 (Nat.le_refl _) hi1
  · rw [e] at q2
    rcases Nat.lt_or_ge q (a + i + (j - b)) with z | z
    · rw [pk_un (by omega)]; exact h8 q t q1 z (by omega) q4
    · rw [show q = a + i + (j - b) by omega, pk_us, si, h4 t q4]; exact sl _ _ (by omega) (by omega) (by omega)
  · rw [e] at q2
    have hj : j < b + m := by omega
    have fj := h5 j (Nat.le_refl _) hj
    rcases Nat.lt_or_ge q (a + i + (j - b)) with z | z
    · rw [pk_un (by omega)]; exact h9 q t q1 z q3 q4
    · rw [show q = a + i + (j - b) by omega, pk_us]
      have hcj := hc hj
      rw [fj] at hcj
      rcases Nat.lt_or_ge j t with y | y
      · exact hcj.trans (sr _ _ h2 y q4)
      · rw [show t = j by omega]; exact hcj
  · rw [e]
    exact h10.snoc (p := a + i) (by omega) (by omega) si
theorem MU.done {f0 f s : Nat → Int32} {a n b m lo hi j : Nat} (hab : a + n = b) (h : MU K f0 f s a n b m lo hi n j) (sr : Sg K f0 b (b + m)) (ir : In f0 b (b + m) lo hi) : Sg K f a (b + m) ∧ Iv f0 f a (b + m) a (b + m) ∧ ∀ q, (q < a ∨ b + m ≤ q) → f q = f0 q := by
  obtain ⟨h1, h2, h3, h4, h5, h6, h7, h8, h9, h10⟩ := h
  have e : a + n + (j - b) = j := by omega
  rw [e] at h7 h8 h9 h10
  refine ⟨fun x y q1 q2 q3 => ?_, fun x q1 q2 => ?_, h6⟩
  · rcases Nat.lt_or_ge y j with z | z
    · exact h7 x y q1 q2 z
    · rw [h5 y z q3]
      rcases Nat.lt_or_ge x j with w | w
      · exact h9 x y q1 w z q3
      · rw [h5 x w (by omega)]; exact sr x y (by omega) q2 q3
  · rcases Nat.lt_or_ge x j with z | z
    · exact h10 x q1 z
    · exact ⟨x, q1, q2, h5 x z q2⟩
/-- merging downward: the right run waits in s; u = i + 1 of the cells below, v = j + 1 of the waiting ones are left -/
def MD (K : Int32 → Int) (f0 f s : Nat → Int32) (a n b m lo hi u v : Nat) : Prop :=
  a ≤ u ∧ u ≤ b ∧ v ≤ m ∧ (∀ q, q < m → s q = f0 (b + q)) ∧ (∀ q, a ≤ q → q < u → f q = f0 q) ∧ (∀ q, (q < a ∨ b + m ≤ q) → f q = f0 q) ∧ Sg K f (u + v) (b + m) ∧
  (∀ q t, u + v ≤ q → q < b + m → t < v → LT K (s t) (f q)) ∧ (∀ q t, u + v ≤ q → q < b + m → a ≤ t → t < u → LT K (f0 t) (f q)) ∧ Iv f0 f (u + v) (b + m) a (b + m)
theorem MD.start {f0 s : Nat → Int32} {a n b m lo hi : Nat} (hab : a + n = b) (hs : ∀ q, q < m → s q = f0 (b + q)) : MD K f0 f0 s a n b m lo hi b m :=
  ⟨by omega, by omega, by omega, hs, fun _ _ _ => rfl, fun _ _ => rfl, fun i j h1 h2 h3 => by omega, fun q t h1 h2 => by omega, fun q t h1 h2 => by omega, fun i h1 h2 => by omega⟩
theorem MD.takeL {f0 f s : Nat → Int32} {a n b m lo hi u v : Nat} (hab : a + n = b) (h : MD K f0 f s a n b m lo hi (u + 1) v) (hu : a ≤ u) (sl : Sg K f0 a b) (sr : Sg K f0 b (b + m)) (il : In f0 a b lo hi) (hc : 0 < v → LT K (s (v - 1)) (f u)) : MD K f0 (upd f (u + v) (f u)) s a n b m lo hi u v := by
  obtain ⟨h1, h2, h3, h4, h5, h6, h7, h8, h9, h10⟩ := h
  have e : u + 1 + v = u + v + 1 := by omega
  rw [e] at h7 h8 h9 h10
  have fu := h5 u hu (by omega)
  refine ⟨hu, by omega, h3, h4, fun q q1 q2 => ?_, fun q q1 => ?_, ?_, fun q t q1 q2 q3 => ?_, fun q t q1 q2 q3 q4 => ?_, ?_⟩
  · rw [pk_un (by omega)]; exact h5 q q1 (by omega)
  · rw [pk_un (by omega)]; exact h6 q q1
  · exact h7.cons fun q q1 q2 => by rw [fu]; exact h9 q u q1 q2 hu (by omega)
  · rcases Nat.lt_or_ge (u + v) q with z | z
    · rw [pk_un (by omega)]; exact h8 q t (by omega) q2 q3
    · rw [show q = u + v by omega, pk_us]
      have hcv := hc (by omega)
      rcases Nat.lt_or_ge t (v - 1) with y | y
      · refine LT.trans ?_ hcv
        rw [h4 t (by omega), h4 (v - 1) (by omega)]; exact sr _ _ (by omega) (by omega) (by omega)
      · rw [show t = v - 1 by omega]; exact hcv
  · rcases Nat.lt_or_ge (u + v) q with z | z
    · rw [pk_un (by omega)]; exact h9 q t (by omega) q2 q3 (by omega)
    · rw [show q = u + v by omega, pk_us, fu]; exact sl _ _ q3 q4 (by omega)
  · exact h10.cons (p := u) hu (by omega) fu
theorem MD.takeR {f0 f s : Nat → Int32} {a n b m lo hi u v : Nat} (hab : a + n = b) (h : MD K f0 f s a n b m lo hi u (v + 1)) (sl : Sg K f0 a b) (sr : Sg K f0 b (b + m)) (ir : In f0 b (b + m) lo hi) (hc : a < u → LT K (f (u - 1)) (s v)) : MD K f0 (upd f (u + v) (s v)) s a n b m lo hi u v := by
  obtain ⟨h1, h2, h3, h4, h5, h6, h7, h8, h9, h10⟩ := h
  have e : u + (v + 1) = u + v + 1 := by omega
  rw [e] at h7 h8 h9 h10
  have sv := h4 v (by omega)
  refine ⟨h1, h2, by omega, h4, fun q q1 q2 => ?_, fun q q1 => ?_, ?_, fun q t q1 q2 q3 => ?_, fun q t q1 q2 q3 q4 => ?_, ?_⟩
  · rw [pk_un (by omega)]; exact h5 q q1 q2
  · rw [pk_un (by omega)]; exact h6 q q1
  · exact h7.cons fun q q1 q2 => h8 q v q1 q2 (by omega)
  · rcases Nat.lt_or_ge (u + v) q with z | z
    · rw [pk_un (by omega)]; exact h8 q t (by omega) q2 (by omega)
    · rw [show q = u + v by omega, pk_us, h4 t (by omega), sv]; exact sr _ _ (by omega) (by omega) (by omega)
  · rcases Nat.lt_or_ge (u + v) q with z | z
    · rw [pk_un (by omega)]; exact h9 q t (by omega) q2 q3 q4
    · rw [show q = u + v by omega, pk_us]
      have hcu := hc (by omega)
      rw [h5 (u - 1) (by omega) (by omega)] at hcu
      rcases Nat.lt_or_ge t (u - 1) with y | y
      · exact (sl t (u - 1) q3 y (by omega)).trans hcu
      · rw [show t = u - 1 by omega]; exact hcu
  · exact h10.cons (p := b + v) (by omega) (by omega) sv
theorem MD.done {f0 f s : Nat → Int32} {a n b m lo hi u : Nat} (hab : a + n = b) (h : MD K f0 f s a n b m lo hi u 0) (sl : Sg K f0 a b) (il : In f0 a b lo hi) : Sg K f a (b + m) ∧ Iv f0 f a (b + m) a (b + m) ∧ ∀ q, (q < a ∨ b + m ≤ q) → f q = f0 q := by
  obtain ⟨h1, h2, h3, h4, h5, h6, h7, h8, h9, h10⟩ := h
  rw [Nat.add_zero] at h7 h8 h9 h10
  refine ⟨fun x y q1 q2 q3 => ?_, fun x q1 q2 => ?_, h6⟩
  · rcases Nat.lt_or_ge x u with z | z
    · rw [h5 x q1 z]
      rcases Nat.lt_or_ge y u with w | w
      · rw [h5 y (by omega) w]; exact sl x y q1 q2 (by omega)
      · exact h9 y x w q3 q1 z
    · exact h7 x y z q2 q3
  · rcases Nat.lt_or_ge x u with z | z
    · exact ⟨x, q1, q2, h5 x q1 z⟩
    · exact h10 x z q2
end PS
