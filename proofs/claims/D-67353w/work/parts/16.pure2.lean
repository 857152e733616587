/-! pure rows: insertion, a run found, a run turned round -/
section P2
variable {K : Int32 → Int}
theorem ins_done {f h : Nat → Int32} {low i pos : Nat} (hR : Rn K f low i) (hi : i < 2000) (hfi : f i = nI i) (h1 : low ≤ pos) (h2 : pos ≤ i) (hlo : ∀ q, low ≤ q → q < pos → K (f q) ≤ K (f i)) (hhi : ∀ q, pos ≤ q → q < i → K (f i) < K (f q)) (hh : ∀ q, h q = if pos < q ∧ q ≤ i then f (q - 1) else f q) :
    Rn K (upd h pos (f i)) low (i + 1) ∧ ∀ q, (q < low ∨ i < q) → upd h pos (f i) q = f q := by
  obtain ⟨hs, hn⟩ := hR
  have e1 : ∀ q, q < pos → upd h pos (f i) q = f q := fun q hq => by rw [pk_un (by omega), hh, if_neg (by omega)]
  have e2 : ∀ q, pos < q → q ≤ i → upd h pos (f i) q = f (q - 1) := fun q hq hq2 => by rw [pk_un (by omega), hh, if_pos (by omega)]
  have e3 : upd h pos (f i) pos = f i := pk_us
  refine ⟨⟨fun x y q1 q2 q3 => ?_, fun x q1 q2 => ?_⟩, fun q hq => ?_⟩
  · rcases Nat.lt_trichotomy x pos with z | z | z
    · rw [e1 x z]
      obtain ⟨p, p1, p2, p3⟩ := hn x q1 (by omega)
      rcases Nat.lt_trichotomy y pos with w | w | w
      · rw [e1 y w]; exact hs x y q1 q2 (by omega)
      · rw [w, e3]; exact lt_lo p3 hfi p2 (by omega) (hlo x q1 z)
      · rw [e2 y w (by omega)]; exact hs x (y - 1) q1 (by omega) (by omega)
    · rw [z, e3, e2 y (by omega) (by omega)]; exact Or.inl (hhi (y - 1) (by omega) (by omega))
    · rw [e2 x z (by omega), e2 y (by omega) (by omega)]; exact hs (x - 1) (y - 1) (by omega) (by omega) (by omega)
  · rcases Nat.lt_trichotomy x pos with z | z | z
    · rw [e1 x z]
      obtain ⟨p, p1, p2, p3⟩ := hn x q1 (by omega)
      exact ⟨p, p1, by omega, p3⟩
    · rw [z, e3]; exact ⟨i, by omega, by omega, hfi⟩
    · rw [e2 x z (by omega)]
      obtain ⟨p, p1, p2, p3⟩ := hn (x - 1) (by omega) (by omega)
      exact ⟨p, p1, by omega, p3⟩
  · rcases hq with z | z
    · exact e1 q (by omega)
    · rw [pk_un (by omega), hh, if_neg (by omega)]
theorem sh_step {f h : Nat → Int32} {i t : Nat} (h1 : 1 ≤ t) (h2 : t ≤ i) (hh : ∀ q, h q = if t < q ∧ q ≤ i then f (q - 1) else f q) : ∀ q, upd h t (h (t - 1)) q = if t - 1 < q ∧ q ≤ i then f (q - 1) else f q := fun q => by
  rcases Nat.lt_trichotomy q t with z | z | z
  · rw [pk_un (by omega), hh, if_neg (by omega), if_neg (by omega)]
  · rw [z, pk_us, hh, if_neg (by omega), if_pos (by omega)]
  · rw [pk_un (by omega), hh]
    rcases Nat.lt_or_ge i q with y | y
    · rw [if_neg (by omega), if_neg (by omega)]
    · rw [if_pos (by omega), if_pos (by omega)]
theorem up_all {f : Nat → Int32} {a b : Nat} (h : ∀ q, a < q → q < b → K (f (q - 1)) ≤ K (f q)) : ∀ i j, a ≤ i → i ≤ j → j < b → K (f i) ≤ K (f j) := fun i j => by
  induction j with
  | zero => intro h1 h2 h3; rw [show i = 0 by omega]; exact Int.le_refl _
  | succ j ih =>
    intro h1 h2 h3
    rcases Nat.lt_or_ge i (j + 1) with z | z
    · exact Int.le_trans (ih h1 (by omega) (by omega)) (h (j + 1) (by omega) h3)
    · rw [show i = j + 1 by omega]; exact Int.le_refl _
theorem down_all {f : Nat → Int32} {a b : Nat} (h : ∀ q, a < q → q < b → K (f q) < K (f (q - 1))) : ∀ i j, a ≤ i → i < j → j < b → K (f j) < K (f i) := fun i j => by
  induction j with
  | zero => intro h1 h2 h3; omega
  | succ j ih =>
    intro h1 h2 h3
    have h4 : K (f (j + 1)) < K (f j) := h (j + 1) (by omega) h3
    rcases Nat.lt_or_ge i j with z | z
    · exact Int.lt_trans h4 (ih h1 z (by omega))
    · rw [show i = j by omega]; exact h4
theorem run_up {f : Nat → Int32} {a b : Nat} (hb : b ≤ 2000) (hf : ∀ q, a ≤ q → q < b → f q = nI q) (h : ∀ q, a < q → q < b → K (f (q - 1)) ≤ K (f q)) : Rn K f a b :=
  ⟨fun i j h1 h2 h3 => lt_lo (hf i h1 (by omega)) (hf j (by omega) h3) h2 (by omega) (up_all h i j h1 (by omega) h3), fun i h1 h2 => ⟨i, h1, h2, hf i h1 h2⟩⟩
theorem run_down {f h : Nat → Int32} {a b : Nat} (hf : ∀ q, a ≤ q → q < b → f q = nI q) (hd : ∀ q, a < q → q < b → K (f q) < K (f (q - 1))) (hh : ∀ q, a ≤ q → q < b → h q = f (a + b - 1 - q)) : Rn K h a b :=
  ⟨fun i j h1 h2 h3 => by rw [hh i h1 (by omega), hh j (by omega) h3]; exact Or.inl (down_all hd _ _ (by omega) (by omega) (by omega)), fun i h1 h2 => ⟨a + b - 1 - i, by omega, by omega, by rw [hh i h1 h2]; exact hf _ (by omega) (by omega)⟩⟩
theorem rev_step {f h : Nat → Int32} {a b i j : Nat} (hij : i + j + 1 = a + b) (h1 : a ≤ i) (h2 : i < j) (hh : ∀ q, h q = if (a ≤ q ∧ q < i) ∨ (j < q ∧ q < b) then f (a + b - 1 - q) else f q) : ∀ q, upd (upd h i (h j)) j (h i) q = if (a ≤ q ∧ q < i + 1) ∨ (j - 1 < q ∧ q < b) then f (a + b - 1 - q) else f q := fun q => by
  by_cases hqj : q = j
  · rw [hqj, pk_us, hh, if_neg (by omega), if_pos (by omega), show a + b - 1 - j = i by omega]
  · rw [pk_un hqj]
    by_cases hqi : q = i
    · rw [hqi, pk_us, hh, if_neg (by omega), if_pos (by omega), show a + b - 1 - i = j by omega]
    · rw [pk_un hqi, hh]
      by_cases hc : (a ≤ q ∧ q < i) ∨ (j < q ∧ q < b)
      · rw [if_pos hc, if_pos (by omega)]
      · rw [if_neg hc, if_neg (by omega)]
theorem rev_done {f h : Nat → Int32} {a b i j : Nat} (hij : i + j + 1 = a + b) (h1 : a ≤ i) (h2 : j ≤ i) (h3 : i ≤ j + 1) (hh : ∀ q, h q = if (a ≤ q ∧ q < i) ∨ (j < q ∧ q < b) then f (a + b - 1 - q) else f q) : (∀ q, a ≤ q → q < b → h q = f (a + b - 1 - q)) ∧ ∀ q, (q < a ∨ b ≤ q) → h q = f q :=
  ⟨fun q q1 q2 => by
    rw [hh]
    by_cases hc : (a ≤ q ∧ q < i) ∨ (j < q ∧ q < b)
    · rw [if_pos hc]
    · rw [if_neg hc, show a + b - 1 - q = q by omega], fun q q1 => by rw [hh, if_neg (by omega)]⟩
theorem or_bit {x y : Nat} (hx : x ≤ 1) (hy : y ≤ 1) : ∃ z, z ≤ 1 ∧ nI x ||| nI y = nI z := by
  rcases (show x = 0 ∨ x = 1 by omega) with rfl | rfl <;> rcases (show y = 0 ∨ y = 1 by omega) with rfl | rfl
  · exact ⟨0, by omega, by decide⟩
  · exact ⟨1, by omega, by decide⟩
  · exact ⟨1, by omega, by decide⟩
  · exact ⟨1, by omega, by decide⟩
end P2
