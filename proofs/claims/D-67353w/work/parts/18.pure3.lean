/-! pure rows: two runs merged; the stack of runs; how many there can be -/
section P3
variable {K : Int32 → Int}
theorem cross_lt {f : Nat → Int32} {x0 y0 e i j : Nat} (hL : Rn K f x0 y0) (hR : Rn K f y0 e) (he : e ≤ 2000) (h1 : x0 ≤ i) (h2 : i < y0) (h3 : y0 ≤ j) (h4 : j < e) (h : K (f i) ≤ K (f j)) : LT K (f i) (f j) := by
  obtain ⟨p, p1, p2, p3⟩ := hL.2 i h1 h2
  obtain ⟨q, q1, q2, q3⟩ := hR.2 j h3 h4
  exact lt_lo p3 q3 (by omega) (by omega) h
theorem mg_done {f f' : Nat → Int32} {x0 n1 y0 n2 q m' : Nat} (hxy : x0 + n1 = y0) (hyn : y0 + n2 ≤ 2000) (hL : Rn K f x0 y0) (hR : Rn K f y0 (y0 + n2)) (hn1 : 1 ≤ n1) (hn2 : 1 ≤ n2) (hq : q ≤ n1) (hm : m' ≤ n2) (ha : ∀ i, i < q → K (f (x0 + i)) ≤ K (f y0)) (hb : ∀ i, m' ≤ i → i < n2 → K (f (y0 - 1)) ≤ K (f (y0 + i)))
    (hs : Sg K f' (x0 + q) (y0 + m')) (hv : Iv f f' (x0 + q) (y0 + m') (x0 + q) (y0 + m')) (ho : ∀ t, (t < x0 + q ∨ y0 + m' ≤ t) → f' t = f t) : Rn K f' x0 (y0 + n2) ∧ ∀ t, (t < x0 ∨ y0 + n2 ≤ t) → f' t = f t := by
  have hA : ∀ i, x0 ≤ i → i < x0 + q → ∀ j, y0 ≤ j → j < y0 + n2 → LT K (f i) (f j) := fun i h1 h2 j h3 h4 =>
    cross_lt hL hR hyn h1 (by omega) h3 h4 (Int.le_trans (by have := ha (i - x0) (by omega); rwa [show x0 + (i - x0) = i by omega] at this) (hR.1.mono (Nat.le_refl _) h3 h4))
  have hB : ∀ i, x0 ≤ i → i < y0 → ∀ j, y0 + m' ≤ j → j < y0 + n2 → LT K (f i) (f j) := fun i h1 h2 j h3 h4 =>
    cross_lt hL hR hyn h1 h2 (by omega) h4 (Int.le_trans (hL.1.mono (j := y0 - 1) h1 (by omega) (by omega)) (by have := hb (j - y0) (by omega) (by omega); rwa [show y0 + (j - y0) = j by omega] at this))
  refine ⟨⟨fun x y q1 q2 q3 => ?_, fun x q1 q2 => ?_⟩, fun t ht => ho t (by omega)⟩
  · rcases Nat.lt_or_ge x (x0 + q) with hx | hx
    · rw [ho x (Or.inl hx)]
      rcases Nat.lt_or_ge y (x0 + q) with hy | hy
      · rw [ho y (Or.inl hy)]; exact hL.1 x y q1 q2 (by omega)
      · rcases Nat.lt_or_ge y (y0 + m') with hy2 | hy2
        · obtain ⟨t, t1, t2, t3⟩ := hv y hy hy2
          rw [t3]
          rcases Nat.lt_or_ge t y0 with z | z
          · exact hL.1 x t q1 (by omega) z
          · exact hA x q1 hx t z (by omega)
        · rw [ho y (Or.inr hy2)]; exact hB x q1 (by omega) y hy2 q3
    · rcases Nat.lt_or_ge y (y0 + m') with hy | hy
      · exact hs x y hx q2 hy
      · rw [ho y (Or.inr hy)]
        rcases Nat.lt_or_ge x (y0 + m') with hx2 | hx2
        · obtain ⟨t, t1, t2, t3⟩ := hv x hx hx2
          rw [t3]
          rcases Nat.lt_or_ge t y0 with z | z
          · exact hB t (by omega) z y hy q3
          · exact hR.1 t y z (by omega) q3
        · rw [ho x (Or.inr hx2)]; exact hR.1 x y (by omega) q2 q3
  · have hin : ∀ t, x0 ≤ t → t < y0 + n2 → ∃ p, x0 ≤ p ∧ p < y0 + n2 ∧ f t = nI p := fun t t1 t2 => by
      rcases Nat.lt_or_ge t y0 with z | z
      · obtain ⟨p, p1, p2, p3⟩ := hL.2 t t1 z
        exact ⟨p, p1, by omega, p3⟩
      · obtain ⟨p, p1, p2, p3⟩ := hR.2 t z t2
        exact ⟨p, by omega, p2, p3⟩
    by_cases hc : x < x0 + q ∨ y0 + m' ≤ x
    · rw [ho x hc]; exact hin x q1 q2
    · obtain ⟨t, t1, t2, t3⟩ := hv x (by omega) (by omega)
      rw [t3]; exact hin t (by omega) (by omega)
/-- the stack of runs -/
def St (K : Int32 → Int) (f : Nat → Int32) (fr ln : Nat → Nat) (r e : Nat) : Prop :=
  (∀ i, i < r → 1 ≤ ln i) ∧ (0 < r → fr 0 = 0) ∧ (∀ i, i + 1 < r → fr (i + 1) = fr i + ln i) ∧ (r = 0 → e = 0) ∧ (0 < r → fr (r - 1) + ln (r - 1) = e) ∧ (∀ i, i < r → Rn K f (fr i) (fr i + ln i))
def Ar (fF fL : Nat → Int32) (fr ln : Nat → Nat) (r : Nat) : Prop := ∀ i, i < r → fF i = nI (fr i) ∧ fL i = nI (ln i)
theorem St.mono {f : Nat → Int32} {fr ln : Nat → Nat} {r e : Nat} (h : St K f fr ln r e) : ∀ j i, i < j → j < r → fr i + ln i ≤ fr j := fun j => by
  induction j with
  | zero => intro i h1; omega
  | succ j ih =>
    intro i h1 h2
    have h3 := h.2.2.1 j h2
    rcases Nat.lt_or_ge i j with z | z
    · have := ih i z (by omega); omega
    · rw [show i = j by omega]; omega
theorem St.le {f : Nat → Int32} {fr ln : Nat → Nat} {r e : Nat} (h : St K f fr ln r e) {i : Nat} (hi : i < r) : fr i + ln i ≤ e := by
  have h1 := h.2.2.2.2.1 (by omega)
  rcases Nat.lt_or_ge i (r - 1) with z | z
  · have := h.mono (r - 1) i z (by omega); omega
  · rw [show i = r - 1 by omega]; omega
def mfr (fr : Nat → Nat) (kx : Nat) : Nat → Nat := fun q => if kx < q then fr (q + 1) else fr q
def mln (ln : Nat → Nat) (kx : Nat) : Nat → Nat := fun q => if kx < q then ln (q + 1) else if q = kx then ln kx + ln (kx + 1) else ln q
theorem St.merge {f f' : Nat → Int32} {fr ln : Nat → Nat} {r e kx : Nat} (h : St K f fr ln r e) (hk : kx + 1 < r) (h1 : Rn K f' (fr kx) (fr (kx + 1) + ln (kx + 1))) (h2 : ∀ t, (t < fr kx ∨ fr (kx + 1) + ln (kx + 1) ≤ t) → f' t = f t) : St K f' (mfr fr kx) (mln ln kx) (r - 1) e := by
  have hm := h.mono
  obtain ⟨a1, a2, a3, a4, a5, a6⟩ := h
  have e0 := a3 kx hk
  refine ⟨fun i hi => ?_, fun hr => ?_, fun i hi => ?_, fun hr => by omega, fun hr => ?_, fun i hi => ?_⟩
  · unfold mln
    split
    · exact a1 _ (by omega)
    · split
      · have := a1 kx (by omega); omega
      · exact a1 _ (by omega)
  · unfold mfr
    rw [if_neg (by omega)]; exact a2 (by omega)
  · unfold mfr mln
    rcases Nat.lt_trichotomy i kx with z | z | z
    · rw [if_neg (by omega), if_neg (by omega), if_neg (by omega), if_neg (by omega)]; exact a3 i (by omega)
    · subst z
      rw [if_pos (by omega), if_neg (by omega), if_neg (by omega), if_pos rfl, a3 (i + 1) (by omega)]; omega
    · rw [if_pos (by omega), if_pos z, if_pos z]; exact a3 (i + 1) (by omega)
  · have a5 := a5 (by omega)
    unfold mfr mln
    rcases Nat.lt_or_ge kx (r - 1 - 1) with z | z
    · rw [if_pos z, if_pos z, show r - 1 - 1 + 1 = r - 1 by omega]; exact a5
    · rw [show r - 1 - 1 = kx by omega, if_neg (by omega), if_neg (by omega), if_pos rfl]
      rw [show r - 1 = kx + 1 by omega] at a5
      omega
  · unfold mfr mln
    rcases Nat.lt_trichotomy i kx with z | z | z
    · rw [if_neg (by omega), if_neg (by omega), if_neg (by omega)]
      have h3 := hm kx i z (by omega)
      exact (a6 i (by omega)).cong fun t t1 t2 => h2 t (by omega)
    · subst z
      rw [if_neg (by omega), if_neg (by omega), if_pos rfl, show fr i + (ln i + ln (i + 1)) = fr (i + 1) + ln (i + 1) by omega]
      exact h1
    · rw [if_pos z, if_pos z]
      have h3 := hm (i + 1) (kx + 1) (by omega) (by omega)
      exact (a6 (i + 1) (by omega)).cong fun t t1 t2 => h2 t (by omega)
theorem Ar.merge {fF fL fF' fL' : Nat → Int32} {fr ln : Nat → Nat} {r kx : Nat} (h : Ar fF fL fr ln r) (hk : kx + 1 < r) (h1 : ∀ q, fF' q = if kx < q ∧ q + 1 < r then fF (q + 1) else fF q) (h2 : ∀ q, fL' q = if kx < q ∧ q + 1 < r then fL (q + 1) else if q = kx then nI (ln kx + ln (kx + 1)) else fL q) : Ar fF' fL' (mfr fr kx) (mln ln kx) (r - 1) := fun i hi => by
  unfold mfr mln
  rw [h1, h2]
  rcases Nat.lt_trichotomy i kx with z | z | z
  · rw [if_neg (by omega), if_neg (by omega), if_neg (by omega), if_neg (by omega), if_neg (by omega), if_neg (by omega)]; exact h i (by omega)
  · rw [if_neg (by omega), if_neg (by omega), if_neg (by omega), if_pos z, if_neg (by omega), if_pos z]; exact ⟨(h i (by omega)).1, rfl⟩
  · have c1 : kx < i ∧ i + 1 < r := by omega
    rw [if_pos c1, if_pos c1, if_pos z, if_pos z]; exact h (i + 1) (by omega)
/-- each run longer than the next, and than the next two -/
def Lw (ln : Nat → Nat) (r : Nat) : Prop := (∀ i, i + 2 < r → ln (i + 1) + ln (i + 2) < ln i) ∧ ∀ i, i + 1 < r → ln (i + 1) < ln i
theorem Lw.less {ln ln' : Nat → Nat} {r r' : Nat} (h : Lw ln r) (hr : r' ≤ r) (e : ∀ i, i < r' → ln' i = ln i) : Lw ln' r' :=
  ⟨fun i hi => by rw [e i (by omega), e (i + 1) (by omega), e (i + 2) hi]; exact h.1 i (by omega), fun i hi => by rw [e i (by omega), e (i + 1) hi]; exact h.2 i (by omega)⟩
theorem Lw.merge {ln : Nat → Nat} {r kx : Nat} (h : Lw ln (r - 2)) (hk : kx + 1 < r) (h2 : r ≤ kx + 3) : Lw (mln ln kx) (r - 1 - 2) := h.less (by omega) fun i hi => by
  unfold mln
  rw [if_neg (by omega), if_neg (by omega)]
theorem Lw.done {ln : Nat → Nat} {r : Nat} (h : Lw ln (r - 2)) (hr : 2 ≤ r) (h1 : ln (r - 2 + 1) < ln (r - 2)) (h2 : 0 < r - 2 → ln (r - 2) + ln (r - 2 + 1) < ln (r - 2 - 1)) (h3 : 1 < r - 2 → ln (r - 2 - 1) + ln (r - 2) < ln (r - 2 - 2)) : Lw ln r := by
  refine ⟨fun i hi => ?_, fun i hi => ?_⟩
  · rcases Nat.lt_trichotomy (i + 2) (r - 2) with z | z | z
    · exact h.1 i z
    · have h3 := h3 (by omega)
      rw [← z, show i + 2 - 1 = i + 1 by omega, show i + 2 - 2 = i by omega] at h3
      exact h3
    · have h2 := h2 (by omega)
      rw [show r - 2 = i + 1 by omega, show i + 1 - 1 = i by omega] at h2
      exact h2
  · rcases Nat.lt_trichotomy (i + 1) (r - 2) with z | z | z
    · exact h.2 i z
    · have h2 := h2 (by omega)
      rw [← z, show i + 1 - 1 = i by omega] at h2
      omega
    · rw [show r - 2 = i by omega] at h1; exact h1
theorem Lw.bound {ln : Nat → Nat} {r : Nat} (h : Lw ln r) (h1 : ∀ i, i < r → 1 ≤ ln i) (h2 : ∀ i, i < r → ln i ≤ 2000) : r ≤ 22 := by
  rcases Nat.lt_or_ge 22 r with z | z
  · exfalso
    have key : ∀ j, 2 * j < r → 2 ^ j ≤ ln (r - 1 - 2 * j) := fun j => by
      induction j with
      | zero => intro hj; exact h1 _ (by omega)
      | succ j ih =>
        intro hj
        have a := ih (by omega)
        have b := h.1 (r - 1 - 2 * (j + 1)) (by omega)
        have c := h.2 (r - 1 - 2 * (j + 1) + 1) (by omega)
        rw [show r - 1 - 2 * (j + 1) + 1 + 1 = r - 1 - 2 * j by omega] at c
        rw [show r - 1 - 2 * (j + 1) + 2 = r - 1 - 2 * j by omega] at b
        rw [Nat.pow_succ]
        omega
    have a := key 11 (by omega)
    have b := h2 (r - 1 - 2 * 11) (by omega)
    have e : 2 ^ 11 = 2048 := by decide
    omega
  · exact z
/-- a new run on the stack -/
def pfr (fr : Nat → Nat) (r v : Nat) : Nat → Nat := fun q => if q = r then v else fr q
theorem St.push {f f' : Nat → Int32} {fr ln : Nat → Nat} {r e q : Nat} (h : St K f fr ln r e) (hq : 1 ≤ q) (h1 : Rn K f' e (e + q)) (h2 : ∀ t, (t < e ∨ e + q ≤ t) → f' t = f t) : St K f' (pfr fr r e) (pfr ln r q) (r + 1) (e + q) := by
  have hle := fun (i : Nat) (hi : i < r) => h.le hi
  obtain ⟨a1, a2, a3, a4, a5, a6⟩ := h
  unfold pfr
  refine ⟨fun i hi => ?_, fun _ => ?_, fun i hi => ?_, fun hr => by omega, fun _ => ?_, fun i hi => ?_⟩
  · show 1 ≤ if i = r then q else ln i
    split
    · exact hq
    · exact a1 i (by omega)
  · show (if 0 = r then e else fr 0) = 0
    split
    · exact a4 (by omega)
    · exact a2 (by omega)
  · show (if i + 1 = r then e else fr (i + 1)) = (if i = r then e else fr i) + (if i = r then q else ln i)
    rw [if_neg (show ¬ i = r by omega), if_neg (show ¬ i = r by omega)]
    split
    · have := a5 (by omega)
      rw [show r - 1 = i by omega] at this
      omega
    · exact a3 i (by omega)
  · show (if r + 1 - 1 = r then e else fr (r + 1 - 1)) + (if r + 1 - 1 = r then q else ln (r + 1 - 1)) = e + q
    rw [if_pos (by omega), if_pos (by omega)]
  · show Rn K f' (if i = r then e else fr i) ((if i = r then e else fr i) + (if i = r then q else ln i))
    by_cases z : i = r
    · rw [if_pos z, if_pos z]; exact h1
    · rw [if_neg z, if_neg z]
      have := hle i (by omega)
      exact (a6 i (by omega)).cong fun t t1 t2 => h2 t (by omega)
theorem Ar.push {fF fL : Nat → Int32} {fr ln : Nat → Nat} {r v q : Nat} (h : Ar fF fL fr ln r) : Ar (upd fF r (nI v)) (upd fL r (nI q)) (pfr fr r v) (pfr ln r q) (r + 1) := fun i hi => by
  unfold pfr
  show upd fF r (nI v) i = nI (if i = r then v else fr i) ∧ upd fL r (nI q) i = nI (if i = r then q else ln i)
  by_cases z : i = r
  · rw [if_pos z, if_pos z, z, pk_us, pk_us]; exact ⟨rfl, rfl⟩
  · rw [if_neg z, if_neg z, pk_un z, pk_un z]; exact h i (by omega)
theorem Lw.push {ln : Nat → Nat} {r q : Nat} (h : Lw ln r) : Lw (pfr ln r q) (r + 1 - 2) := h.less (by omega) fun i hi => by
  unfold pfr
  rw [if_neg (by omega)]
end P3
/-- an injective map of [0, n) into itself is onto -/
theorem pigeon : ∀ (n : Nat) (f : Nat → Nat), (∀ i, i < n → f i < n) → (∀ i j, i < n → j < n → f i = f j → i = j) → ∀ y, y < n → ∃ i, i < n ∧ f i = y := fun n => by
  induction n with
  | zero => intro f _ _ y hy; omega
  | succ n ih =>
    intro f h1 h2 y hy
    have hv := h1 n (by omega)
    have key : ∀ z, z < n → ∃ i, i < n ∧ (if f i = n then f n else f i) = z := ih (fun i => if f i = n then f n else f i) (fun i hi => by
        show (if f i = n then f n else f i) < n
        split
        · rename_i q
          rcases Nat.lt_or_ge (f n) n with w | w
          · exact w
          · have := h2 i n (by omega) (by omega) (by omega); omega
        · have := h1 i (by omega); omega) (fun i j hi hj e => by
        have e : (if f i = n then f n else f i) = (if f j = n then f n else f j) := e
        by_cases qi : f i = n
        · by_cases qj : f j = n
          · exact h2 i j (by omega) (by omega) (by omega)
          · rw [if_pos qi, if_neg qj] at e
            have := h2 n j (by omega) (by omega) e; omega
        · by_cases qj : f j = n
          · rw [if_neg qi, if_pos qj] at e
            have := h2 i n (by omega) (by omega) e; omega
          · rw [if_neg qi, if_neg qj] at e
            exact h2 i j (by omega) (by omega) e)
    by_cases hy1 : f n = y
    · exact ⟨n, by omega, hy1⟩
    · rcases Nat.lt_or_ge y n with w | w
      · obtain ⟨i, hi, e⟩ := key y w
        split at e
        · omega
        · exact ⟨i, by omega, e⟩
      · have hyn : y = n := by omega
        obtain ⟨i, hi, e⟩ := key (f n) (by omega)
        split at e
        · rename_i q; exact ⟨i, by omega, by omega⟩
        · have := h2 i n (by omega) (by omega) e; omega
/-- strictly sorted maps of [0, n) into itself are one -/
theorem uniq {n : Nat} {R : Nat → Nat → Prop} (tr : ∀ x y z, R x y → R y z → R x z) (ir : ∀ x, ¬ R x x) {P Q : Nat → Nat} (hP : ∀ i, i < n → P i < n) (hQ : ∀ i, i < n → Q i < n) (sP : ∀ i j, i < j → j < n → R (P i) (P j)) (sQ : ∀ i j, i < j → j < n → R (Q i) (Q j)) : ∀ i, i < n → P i = Q i := by
  have inj : ∀ {F : Nat → Nat}, (∀ i j, i < j → j < n → R (F i) (F j)) → ∀ i j, i < n → j < n → F i = F j → i = j := fun {F} sF i j hi hj e => by
    rcases Nat.lt_trichotomy i j with z | z | z
    · have := sF i j z hj; rw [e] at this; exact absurd this (ir _)
    · exact z
    · have := sF j i z hi; rw [e] at this; exact absurd this (ir _)
  intro i
  induction i using Nat.strongRecOn with
  | _ i ih =>
    intro hi
    obtain ⟨a, ha, ea⟩ := pigeon n Q hQ (inj sQ) (P i) (hP i hi)
    obtain ⟨b, hb, eb⟩ := pigeon n P hP (inj sP) (Q i) (hQ i hi)
    have a1 : i ≤ a := Nat.le_of_not_lt fun z => by
      have h1 := ih a z ha
      have h2 := inj sP a i ha hi (h1.trans ea)
      omega
    have b1 : i ≤ b := Nat.le_of_not_lt fun z => by
      have h1 := ih b z hb
      have h2 := inj sQ b i hb hi (h1.symm.trans eb)
      omega
    rcases Nat.lt_or_ge i a with z | z
    · exfalso
      have h1 := sQ i a z ha
      rw [ea] at h1
      rcases Nat.lt_or_ge i b with w | w
      · have h2 := sP i b w hb
        rw [eb] at h2
        exact ir _ (tr _ _ _ h2 h1)
      · rw [show b = i by omega] at eb
        rw [eb] at h1
        exact ir _ h1
    · rw [show a = i by omega] at ea
      exact ea.symm
