/-! PLAIN LAWS: the moves tell the hands -/
theorem xHM_cg {g g' : G} {p k : Nat} : ∀ n, (∀ i, i < n → g' 12 i = g 12 i ∧ g' 13 i = g 13 i ∧ g' 14 i = g 14 i ∧ g' 15 i = g 15 i) → xHM g' p k n = xHM g p k n := by
  intro n
  induction n with
  | zero => intro _; rfl
  | succ n ih =>
    intro h
    obtain ⟨h1, h2, h3, h4⟩ := h n (Nat.lt_succ_self n)
    simp only [xHM, h1, h2, h3, h4, ih (fun i hi => h i (by omega))]
def HMinv (g : G) : Prop := ∀ p k, p < 4 → k < 5 → xHM g p k (g 8 1) = nI (g 4 (5 * p + k))
theorem HM_keep {g g' : G} (h : HMinv g) (h8 : g' 8 1 = g 8 1) (h4 : ∀ j, g' 4 j = g 4 j) (hm : ∀ f, 12 ≤ f → f ≤ 15 → ∀ j, g' f j = g f j) : HMinv g' := by
  intro p k hp hk
  rw [h8, h4, xHM_cg (g 8 1) (fun i _ => ⟨hm 12 (by decide) (by decide) i, hm 13 (by decide) (by decide) i, hm 14 (by decide) (by decide) i, hm 15 (by decide) (by decide) i⟩)]
  exact h p k hp hk
theorem HM_mvX {g : G} {a b k n : Nat} (hk9 : k < 5) (hn : n ≤ g 4 (5 * a + k)) (h : HMinv g) : HMinv (mvX g a b k n) := by
  unfold mvX
  by_cases h0 : n = 0
  · rw [if_pos h0]; exact h
  rw [if_neg h0]
  intro p kk hp hkk
  have e8 : mvP (moveN g a b k n) a b k n 8 1 = g 8 1 + 1 := by
    unfold mvP
    rw [gs_eq, moveN_nf _ _ _ _ _ (by decide)]
  have e81 : moveN g a b k n 8 1 = g 8 1 := moveN_nf _ _ _ _ _ (by decide) _
  have en : ∀ f i, 12 ≤ f → f ≤ 15 → i < g 8 1 → mvP (moveN g a b k n) a b k n f i = g f i := by
    intro f i h1 h2 hi
    unfold mvP
    rw [e81, gs_nf _ (by omega), gs_ni _ (by omega), gs_ni _ (by omega), gs_ni _ (by omega), gs_ni _ (by omega), moveN_nf _ _ _ _ _ (by omega)]
  have e12 : mvP (moveN g a b k n) a b k n 12 (g 8 1) = a := by
    unfold mvP; rw [e81, gs_nf _ (by decide), gs_nf _ (by decide), gs_nf _ (by decide), gs_nf _ (by decide), gs_eq]
  have e13 : mvP (moveN g a b k n) a b k n 13 (g 8 1) = b := by
    unfold mvP; rw [e81, gs_nf _ (by decide), gs_nf _ (by decide), gs_nf _ (by decide), gs_eq]
  have e14 : mvP (moveN g a b k n) a b k n 14 (g 8 1) = k := by
    unfold mvP; rw [e81, gs_nf _ (by decide), gs_nf _ (by decide), gs_eq]
  have e15 : mvP (moveN g a b k n) a b k n 15 (g 8 1) = n := by
    unfold mvP; rw [e81, gs_nf _ (by decide), gs_eq]
  rw [e8]
  show xHM (mvP (moveN g a b k n) a b k n) p kk (g 8 1) + gnV (mvP (moveN g a b k n) a b k n 12 (g 8 1)) (mvP (moveN g a b k n) a b k n 13 (g 8 1)) (mvP (moveN g a b k n) a b k n 14 (g 8 1)) (mvP (moveN g a b k n) a b k n 15 (g 8 1)) p kk = _
  rw [e12, e13, e14, e15, xHM_cg (g 8 1) (fun i hi => ⟨en 12 i (by decide) (by decide) hi, en 13 i (by decide) (by decide) hi, en 14 i (by decide) (by decide) hi, en 15 i (by decide) (by decide) hi⟩), h p kk hp hkk, mvP_4]
  unfold gnV
  by_cases q : kk = k
  · subst q
    rw [if_pos rfl]
    by_cases ra : a = p
    · subst ra
      by_cases rb : b = a
      · subst rb
        rw [if_pos rfl]
        have e : moveN g b b kk n 4 (5 * b + kk) = g 4 (5 * b + kk) := by unfold moveN; rw [gs_eq, gs_eq]; omega
        rw [e]; grind
      · rw [if_neg rb, if_pos rfl, moveN_from _ (Ne.symm rb)]
        rw [← pk_sub hn]; grind
    · rw [if_neg ra]
      by_cases rb : b = p
      · subst rb
        rw [if_pos rfl]
        have e : moveN g a b kk n 4 (5 * b + kk) = g 4 (5 * b + kk) + n := by unfold moveN; rw [gs_eq, gs_ni _ (by omega)]
        rw [e, ← nI_add]; grind
      · rw [if_neg rb, moveN_other _ (by omega) (by omega)]; grind
  · rw [if_neg q, moveN_other _ (by omega) (by omega)]; grind
