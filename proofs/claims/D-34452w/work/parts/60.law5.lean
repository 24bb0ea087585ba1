/-! PLAIN LAWS: gifts keep the moves' word -/
theorem HM_giveX {g : G} {a b x : Nat} (h4 : ∀ k, k < 5 → digN x k ≤ g 4 (5 * a + k)) (h : HMinv g) : ∀ i, i ≤ 5 → HMinv (giveX g a b x i) := by
  intro i
  induction i with
  | zero => intro _; exact h
  | succ i ih =>
    intro hi
    refine HM_mvX (by omega) ?_ (ih (by omega))
    rw [giveX_ge g a b x i (5 * a + i) (by omega) (by omega)]
    exact h4 i (by omega)
theorem HM_moX {y : G} {t gd : Nat} (hg : gd < 5) (h : HMinv y) : ∀ i, HMinv (moX y t gd i) := by
  intro i
  induction i with
  | zero => exact h
  | succ i ih =>
    simp only [moX]
    split
    · exact ih
    · exact HM_mvX hg (Nat.le_refl _) ih
theorem HM_gs {g : G} {f i v : Nat} (hf : f ≠ 4 ∧ (f < 12 ∨ 15 < f)) (h8 : f ≠ 8) (h : HMinv g) : HMinv (gs g f i v) :=
  HM_keep h (gs_nf _ (Ne.symm h8)) (fun j => gs_nf _ (Ne.symm hf.1)) (fun f' h1 h2 j => gs_nf _ (by omega))
theorem HM_eoN {g : G} (h : HMinv g) (i : Nat) : HMinv (eoN g i) :=
  HM_keep h (eoN_nf _ (by decide) (by decide) (by decide) _ _) (fun j => eoN_nf _ (by decide) (by decide) (by decide) _ _) (fun f h1 h2 j => eoN_nf _ (by omega) (by omega) (by omega) _ _)
theorem HM_gWinX {g : G} (h : HMinv g) : HMinv (gWinX g) := HM_gs ⟨by decide, by decide⟩ (by decide) h
theorem HM_gDoneX {g : G} (b : Bool) (h : HMinv g) : HMinv (gDoneX g b) := by
  unfold gDoneX
  refine HM_gWinX ?_
  split
  · exact HM_gs ⟨by decide, by decide⟩ (by decide) h
  · exact h
theorem HM_gUseX {g : G} (i : Nat) (h : HMinv g) : HMinv (gUseX g i) := HM_gs ⟨by decide, by decide⟩ (by decide) (HM_gs ⟨by decide, by decide⟩ (by decide) h)
