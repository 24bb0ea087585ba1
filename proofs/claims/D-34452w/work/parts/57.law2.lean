/-! PLAIN LAWS: points of buildings; cards that can be used, by number -/
theorem xPB_eq (g : G) (p : Nat) : ∀ i, xPB g p i = mBuilds g p false i + 2 * mBuilds g p true i := by
  intro i
  induction i with
  | zero => rfl
  | succ i ih =>
    have e1 : mBuilds g p false (i + 1) = mBuilds g p false i + (decide (own1 g i = p + 1) && decide (mCity g i = false)).toNat := rfl
    have e2 : mBuilds g p true (i + 1) = mBuilds g p true i + (decide (own1 g i = p + 1) && decide (mCity g i = true)).toNat := rfl
    rw [e1, e2]
    simp only [xPB, ih]
    by_cases h : own1 g i = p + 1
    · rw [if_pos h]
      by_cases h3 : g 2 i ≤ 3
      · have hc : mCity g i = false := decide_eq_false (by omega)
        rw [if_pos h3, hc, decide_eq_true h]
        simp; omega
      · have hc : mCity g i = true := decide_eq_true (by omega)
        rw [if_neg h3, hc, decide_eq_true h]
        simp; omega
    · rw [if_neg h, decide_eq_false h]
      simp
def xNw (g : G) (k : Nat) : Nat → Nat
  | 0 => 0
  | i + 1 => xNw g k i + (decide (g 9 i = g 7 4) && (decide (deckK i = k) && (decide (g 11 i = 0) && !decide (g 10 i < g 7 3)))).toNat
def xOk (g : G) (k : Nat) : Nat → Nat
  | 0 => 0
  | i + 1 => xOk g k i + (xIs g k i).toNat
theorem xCds_split (g : G) (k : Nat) : ∀ n, xCds g (g 7 4) k n = xNw g k n + xOk g k n := by
  intro n
  induction n with
  | zero => rfl
  | succ n ih =>
    simp only [xCds, xNw, xOk, xIs, ih]
    cases decide (g 9 n = g 7 4) <;> cases decide (deckK n = k) <;> cases decide (g 11 n = 0) <;> cases decide (g 10 n < g 7 3) <;> simp <;> omega
theorem xOk_pos {g : G} {k : Nat} : ∀ n, (0 < xOk g k n ↔ ∃ i, i < n ∧ xIs g k i = true) := by
  intro n
  induction n with
  | zero => exact ⟨fun h => absurd h (Nat.lt_irrefl 0), fun ⟨i, hi, _⟩ => absurd hi (Nat.not_lt_zero i)⟩
  | succ n ih =>
    simp only [xOk]
    by_cases r : xIs g k n = true
    · rw [r]
      exact ⟨fun _ => ⟨n, Nat.lt_succ_self n, r⟩, fun _ => by simp⟩
    · have r2 : xIs g k n = false := by simpa using r
      rw [r2]
      show 0 < xOk g k n + 0 ↔ _
      rw [Nat.add_zero, ih]
      refine ⟨fun ⟨i, hi, hx⟩ => ⟨i, by omega, hx⟩, fun ⟨i, hi, hx⟩ => ⟨i, ?_, hx⟩⟩
      by_cases e : i = n
      · rw [e] at hx; exact absurd hx r
      · omega
/-- a card of a kind can be used: told by numbers, as the reference does -/
theorem xUse_law (g : G) (k : Nat) : decide (xUse g k ≠ 0) = ((decide (g 7 1 = 1) || decide (g 7 1 = 2)) && (decide (g 7 6 = 0) && decide (xNw g k (g 8 0) < xCds g (g 7 4) k (g 8 0)))) := by
  have hk : (xFnd g k (g 8 0) ≠ 0) ↔ xNw g k (g 8 0) < xCds g (g 7 4) k (g 8 0) := by
    rw [xFnd_pos, ← xOk_pos, xCds_split]; omega
  have hk2 : decide (xFnd g k (g 8 0) ≠ 0) = decide (xNw g k (g 8 0) < xCds g (g 7 4) k (g 8 0)) := decide_eq_decide.mpr hk
  by_cases h6 : g 7 6 = 0
  · by_cases h1 : g 7 1 = 1
    · have e : xUse g k = xFnd g k (g 8 0) := by unfold xUse; rw [if_pos h6, if_pos h1]
      rw [e, hk2, decide_eq_true h1, decide_eq_true h6]; simp
    · by_cases h2 : g 7 1 = 2
      · have e : xUse g k = xFnd g k (g 8 0) := by unfold xUse; rw [if_pos h6, if_neg h1, if_pos h2]
        rw [e, hk2, decide_eq_true h2, decide_eq_true h6]; simp
      · have e : xUse g k = 0 := by unfold xUse; rw [if_pos h6, if_neg h1, if_neg h2]
        rw [e, decide_eq_false h1, decide_eq_false h2]; simp
  · have e : xUse g k = 0 := by unfold xUse; rw [if_neg h6]
    rw [e, decide_eq_false h6]; simp
