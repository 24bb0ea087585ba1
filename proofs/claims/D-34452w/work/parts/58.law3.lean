/-! PLAIN LAWS: no roll yields more than the bank has -/
def sm3 (f : Nat → Nat) : Nat := f 0 + f 1 + f 2
def nz3 (f : Nat → Nat) : Nat := (decide (f 0 ≠ 0)).toNat + (decide (f 1 ≠ 0)).toNat + (decide (f 2 ≠ 0)).toNat
theorem upN_eq (f : Nat → Nat) (i v : Nat) : upN f i v i = v := if_pos rfl
theorem upN_ne {f : Nat → Nat} {i j v : Nat} (h : j ≠ i) : upN f i v j = f j := if_neg h
theorem sm3_up {f : Nat → Nat} {i w : Nat} (hi : i < 3) : sm3 (upN f i (f i + w)) = sm3 f + w := by
  unfold sm3
  rcases (show i = 0 ∨ i = 1 ∨ i = 2 by omega) with rfl | rfl | rfl
  · rw [upN_eq, upN_ne (by decide), upN_ne (by decide)]; omega
  · rw [upN_eq, upN_ne (by decide), upN_ne (by decide)]; omega
  · rw [upN_eq, upN_ne (by decide), upN_ne (by decide)]; omega
theorem nz3_up {f : Nat → Nat} {i w : Nat} (hi : i < 3) (hw : 0 < w) : nz3 (upN f i (f i + w)) = nz3 f + (decide (f i = 0)).toNat := by
  have e : ∀ x : Nat, (decide (x ≠ 0)).toNat + (decide (x = 0)).toNat = 1 := by intro x; by_cases q : x = 0 <;> simp [q]
  have e1 : (decide (f i + w ≠ 0)).toNat = 1 := by rw [decide_eq_true (by omega : f i + w ≠ 0)]; rfl
  unfold nz3
  rcases (show i = 0 ∨ i = 1 ∨ i = 2 by omega) with rfl | rfl | rfl
  · rw [upN_eq, upN_ne (by decide), upN_ne (by decide), e1]; have := e (f 0); omega
  · rw [upN_eq, upN_ne (by decide), upN_ne (by decide), e1]; have := e (f 1); omega
  · rw [upN_eq, upN_ne (by decide), upN_ne (by decide), e1]; have := e (f 2); omega
theorem xgC_own {g : G} {gd sm h c : Nat} (q : xgC g gd sm h c = true) : own1 g c - 1 < 3 := by
  have h4 := own1_lt g c
  omega
theorem xgW_pos (g : G) (c : Nat) : 0 < xgW g c := by unfold xgW; split <;> omega
theorem sm3_K (g : G) (gd sm h : Nat) (b : Nat → Nat) : ∀ k, sm3 (xgK g gd sm h b k) = xaK g gd sm h (sm3 b) k := by
  intro k
  induction k with
  | zero => rfl
  | succ k ih =>
    simp only [xgK, xaK]
    by_cases q : xgC g gd sm h (cornA h k) = true
    · rw [if_pos q, if_pos q, sm3_up (xgC_own q), ih]
    · rw [if_neg q, if_neg q, ih]
theorem nz3_K (g : G) (gd sm h : Nat) (b : Nat → Nat) : ∀ k, nz3 (xgK g gd sm h b k) = xeK g gd sm h b (nz3 b) k := by
  intro k
  induction k with
  | zero => rfl
  | succ k ih =>
    simp only [xgK, xeK]
    by_cases q : xgC g gd sm h (cornA h k) = true
    · rw [if_pos q, if_pos q, nz3_up (xgC_own q) (xgW_pos _ _), ih]
    · rw [if_neg q, if_neg q, ih]
theorem sm3_H (g : G) (gd sm : Nat) : ∀ h, sm3 (xgH g gd sm h) = xaH g gd sm h := by
  intro h
  induction h with
  | zero => rfl
  | succ h ih => show sm3 (xgK g gd sm h (xgH g gd sm h) 6) = xaK g gd sm h (xaH g gd sm h) 6; rw [sm3_K, ih]
theorem nz3_H (g : G) (gd sm : Nat) : ∀ h, nz3 (xgH g gd sm h) = xeH g gd sm h := by
  intro h
  induction h with
  | zero => rfl
  | succ h ih => show nz3 (xgK g gd sm h (xgH g gd sm h) 6) = xeK g gd sm h (xgH g gd sm h) (xeH g gd sm h) 6; rw [nz3_K, ih]
theorem xgP_at (e bank : Nat) (f : Nat → Nat) : ∀ p j, xgP e bank f p j = if j < p then (if e = 1 then (if bank < f j then bank else f j) else 0) else f j := by
  intro p
  induction p with
  | zero => intro j; rw [if_neg (Nat.not_lt_zero j)]; rfl
  | succ p ih =>
    intro j
    show upN (xgP e bank f p) p (if e = 1 then (if bank < xgP e bank f p p then bank else xgP e bank f p p) else 0) j = _
    by_cases q : j = p
    · subst q
      rw [upN_eq, ih j, if_neg (Nat.lt_irrefl j), if_pos (Nat.lt_succ_self j)]
    · rw [upN_ne q, ih j]
      by_cases r : j < p
      · rw [if_pos r, if_pos (show j < p + 1 by omega)]
      · rw [if_neg r, if_neg (show ¬ j < p + 1 by omega)]
theorem xGain_sum (g : G) (gd sm : Nat) : sm3 (xGain g gd sm) ≤ g 4 (15 + gd) := by
  unfold xGain
  by_cases h : g 4 (15 + gd) < xaH g gd sm 7
  · rw [if_pos h]
    have hn := nz3_H g gd sm 7
    unfold sm3
    rw [xgP_at, xgP_at, xgP_at, if_pos (show 0 < 3 by decide), if_pos (show 1 < 3 by decide), if_pos (show 2 < 3 by decide)]
    by_cases e : xeH g gd sm 7 = 1
    · rw [if_pos e, if_pos e, if_pos e]
      rw [e] at hn
      unfold nz3 at hn
      generalize xgH g gd sm 7 = f at hn
      by_cases a0 : f 0 = 0 <;> by_cases a1 : f 1 = 0 <;> by_cases a2 : f 2 = 0 <;> simp [a0, a1, a2] at hn <;> simp only [a0, a1, a2] <;> (repeat' split) <;> omega
    · rw [if_neg e, if_neg e, if_neg e]; omega
  · rw [if_neg h, sm3_H]; omega
