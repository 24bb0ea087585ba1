/-! PLAIN LAWS: what class and reference compute is the same -/
theorem rtS_eq (g : G) (p gd k : Nat) : rtS g p gd k = if xHarb g p k = true then (if k = 5 then 3 else if k = gd then 2 else 4) else 4 := rfl
theorem xRate_eq {g : G} {p gd : Nat} (h : gd < 5) : rateN g p gd 6 = xRate g p gd := by
  have hs : ∀ k, k ≠ 5 → k ≠ gd → rtS g p gd k = 4 := by
    intro k h5 hg
    rw [rtS_eq, if_neg h5, if_neg hg]; split <;> rfl
  have hle : ∀ k, rateN g p gd k ≤ 4 := rateN_le g p gd
  have hst : ∀ k, k ≠ 5 → k ≠ gd → rateN g p gd (k + 1) = rateN g p gd k := by
    intro k h5 hg
    show (if rtS g p gd k < rateN g p gd k then rtS g p gd k else rateN g p gd k) = _
    rw [hs k h5 hg, if_neg (by have := hle k; omega)]
  have h0 : ∀ k, k ≤ gd → rateN g p gd k = 4 := by
    intro k
    induction k with
    | zero => intro _; rfl
    | succ k ih => intro hk; rw [hst k (by omega) (by omega)]; exact ih (by omega)
  have h1 : rateN g p gd (gd + 1) = if xHarb g p gd = true then 2 else 4 := by
    show (if rtS g p gd gd < rateN g p gd gd then rtS g p gd gd else rateN g p gd gd) = _
    rw [h0 gd (Nat.le_refl _), rtS_eq, if_neg (show ¬ gd = 5 by omega), if_pos (show gd = gd from rfl)]
    by_cases q : xHarb g p gd = true
    · rw [if_pos q]; rfl
    · rw [if_neg q]; rfl
  have h2 : ∀ k, gd + 1 ≤ k → k ≤ 5 → rateN g p gd k = rateN g p gd (gd + 1) := by
    intro k
    induction k with
    | zero => intro h _; omega
    | succ k ih =>
      intro h3 h4
      by_cases q : k = gd
      · rw [q]
      · rw [hst k (by omega) q]; exact ih (by omega) (by omega)
  show (if rtS g p gd 5 < rateN g p gd 5 then rtS g p gd 5 else rateN g p gd 5) = _
  rw [h2 5 (by omega) (Nat.le_refl _), h1, rtS_eq, if_pos rfl]
  unfold xRate
  by_cases q : xHarb g p gd = true
  · simp only [if_pos q]; split <;> rfl
  · simp only [if_neg q]
    by_cases r : xHarb g p 5 = true
    · simp only [if_pos r]; rfl
    · simp only [if_neg r]; rfl
theorem xDue_3 (g : G) : xDue g 3 = if g 5 0 + g 5 1 + g 5 2 = 0 then 4 else 3 := by
  simp only [xDue]
  (repeat' split) <;> omega
theorem mayUse_eq {g : G} {k : Nat} (h : xUse g k ≠ 0) : g 7 6 = 0 ∧ (g 7 1 = 1 ∨ g 7 1 = 2) := by
  unfold xUse at h
  by_cases q : g 7 6 = 0
  · rw [if_pos q] at h
    refine ⟨q, ?_⟩
    by_cases r : g 7 1 = 1
    · exact Or.inl r
    · rw [if_neg r] at h
      by_cases r2 : g 7 1 = 2
      · exact Or.inr r2
      · rw [if_neg r2] at h; exact absurd rfl h
  · rw [if_neg q] at h; exact absurd rfl h
/-- a card is found iff one is there that can be used -/
theorem xFnd_pos {g : G} {k : Nat} : ∀ n, (xFnd g k n ≠ 0 ↔ ∃ i, i < n ∧ xIs g k i = true) := by
  intro n
  induction n with
  | zero => exact ⟨fun h => absurd rfl h, fun ⟨i, hi, _⟩ => absurd hi (Nat.not_lt_zero i)⟩
  | succ n ih =>
    simp only [xFnd]
    by_cases q : xFnd g k n = 0
    · rw [if_pos q]
      have hn : ¬ ∃ i, i < n ∧ xIs g k i = true := fun h => (ih.mpr h) q
      by_cases r : xIs g k n = true
      · rw [if_pos r]
        exact ⟨fun _ => ⟨n, Nat.lt_succ_self n, r⟩, fun _ => by omega⟩
      · rw [if_neg r]
        refine ⟨fun h => absurd rfl h, fun ⟨i, hi, hx⟩ => ?_⟩
        by_cases e : i = n
        · rw [e] at hx; exact absurd hx r
        · exact absurd ⟨i, by omega, hx⟩ hn
    · rw [if_neg q]
      obtain ⟨i, hi, hx⟩ := ih.mp q
      exact ⟨fun _ => ⟨i, by omega, hx⟩, fun _ => q⟩
