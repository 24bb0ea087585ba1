/-! THE CLASS: what a roll yields -/
def upN (f : Nat → Nat) (i v : Nat) : Nat → Nat := fun j => if j = i then v else f j
def xgC (g : G) (gd sm h c : Nat) : Bool := decide (g 2 c ≠ 0) && (decide (g 0 h = gd) && (decide (g 1 h = sm) && !decide (h = g 7 0)))
def xgW (g : G) (c : Nat) : Nat := if g 2 c ≤ 3 then 1 else 2
def xgK (g : G) (gd sm h : Nat) (b : Nat → Nat) : Nat → Nat → Nat
  | 0 => b
  | k + 1 => if xgC g gd sm h (cornA h k) = true then upN (xgK g gd sm h b k) (own1 g (cornA h k) - 1) (xgK g gd sm h b k (own1 g (cornA h k) - 1) + xgW g (cornA h k)) else xgK g gd sm h b k
def xgH (g : G) (gd sm : Nat) : Nat → Nat → Nat
  | 0 => fun _ => 0
  | h + 1 => xgK g gd sm h (xgH g gd sm h) 6
def xaK (g : G) (gd sm h b : Nat) : Nat → Nat
  | 0 => b
  | k + 1 => if xgC g gd sm h (cornA h k) = true then xaK g gd sm h b k + xgW g (cornA h k) else xaK g gd sm h b k
def xaH (g : G) (gd sm : Nat) : Nat → Nat
  | 0 => 0
  | h + 1 => xaK g gd sm h (xaH g gd sm h) 6
def xeK (g : G) (gd sm h : Nat) (f : Nat → Nat) (b : Nat) : Nat → Nat
  | 0 => b
  | k + 1 => if xgC g gd sm h (cornA h k) = true then xeK g gd sm h f b k + (decide (xgK g gd sm h f k (own1 g (cornA h k) - 1) = 0)).toNat else xeK g gd sm h f b k
def xeH (g : G) (gd sm : Nat) : Nat → Nat
  | 0 => 0
  | h + 1 => xeK g gd sm h (xgH g gd sm h) (xeH g gd sm h) 6
def xgP (e bank : Nat) (f : Nat → Nat) : Nat → Nat → Nat
  | 0 => f
  | p + 1 => upN (xgP e bank f p) p (if e = 1 then (if bank < xgP e bank f p p then bank else xgP e bank f p p) else 0)
def xGain (g : G) (gd sm : Nat) : Nat → Nat := if g 4 (15 + gd) < xaH g gd sm 7 then xgP (xeH g gd sm 7) (g 4 (15 + gd)) (xgH g gd sm 7) 3 else xgH g gd sm 7
theorem xgW_le (g : G) (c : Nat) : xgW g c ≤ 2 := by unfold xgW; split <;> omega
theorem upN_le {f : Nat → Nat} {i v B : Nat} (h : ∀ j, f j ≤ B) (hv : v ≤ B) (j : Nat) : upN f i v j ≤ B := by
  unfold upN; split
  · exact hv
  · exact h j
theorem xgK_le {g : G} {gd sm h B : Nat} {b : Nat → Nat} (hb : ∀ j, b j ≤ B) : ∀ k j, xgK g gd sm h b k j ≤ B + 2 * k := by
  intro k
  induction k with
  | zero => exact hb
  | succ k ih =>
    intro j
    have h1 := xgW_le g (cornA h k)
    simp only [xgK]
    split
    · exact upN_le (fun j => Nat.le_trans (ih j) (by omega)) (by have := ih (own1 g (cornA h k) - 1); omega) j
    · exact Nat.le_trans (ih j) (by omega)
theorem xgH_le (g : G) (gd sm : Nat) : ∀ h j, xgH g gd sm h j ≤ 12 * h := by
  intro h
  induction h with
  | zero => intro j; exact Nat.le_refl _
  | succ h ih => intro j; have := xgK_le (g := g) (gd := gd) (sm := sm) (h := h) ih 6 j; show xgK g gd sm h (xgH g gd sm h) 6 j ≤ _; omega
theorem xaK_le (g : G) (gd sm h b : Nat) : ∀ k, xaK g gd sm h b k ≤ b + 2 * k := by
  intro k
  induction k with
  | zero => exact Nat.le_refl _
  | succ k ih => have h1 := xgW_le g (cornA h k); simp only [xaK]; split <;> omega
theorem xaH_le (g : G) (gd sm : Nat) : ∀ h, xaH g gd sm h ≤ 12 * h := by
  intro h
  induction h with
  | zero => exact Nat.le_refl _
  | succ h ih => have := xaK_le g gd sm h (xaH g gd sm h) 6; show xaK g gd sm h (xaH g gd sm h) 6 ≤ _; omega
theorem xeK_le (g : G) (gd sm h : Nat) (f : Nat → Nat) (b : Nat) : ∀ k, xeK g gd sm h f b k ≤ b + k := by
  intro k
  induction k with
  | zero => exact Nat.le_refl _
  | succ k ih => have h1 := Bool.toNat_le (decide (xgK g gd sm h f k (own1 g (cornA h k) - 1) = 0)); simp only [xeK]; split <;> omega
theorem xeH_le (g : G) (gd sm : Nat) : ∀ h, xeH g gd sm h ≤ 6 * h := by
  intro h
  induction h with
  | zero => exact Nat.le_refl _
  | succ h ih => have := xeK_le g gd sm h (xgH g gd sm h) (xeH g gd sm h) 6; show xeK g gd sm h (xgH g gd sm h) (xeH g gd sm h) 6 ≤ _; omega
theorem xgP_le {e bank B : Nat} {f : Nat → Nat} (h : ∀ j, f j ≤ B) (hb : bank ≤ B) : ∀ p j, xgP e bank f p j ≤ B := by
  intro p
  induction p with
  | zero => exact h
  | succ p ih =>
    intro j
    refine upN_le ih ?_ j
    have := ih p
    (repeat' split) <;> omega
theorem upd_nI (f : Nat → Nat) (i v : Nat) : upd (fun j => nI (f j)) i (nI v) = fun j => nI (upN f i v j) := by
  funext j
  unfold upd upN
  split <;> rfl
