/-! PLAIN LAWS: points by cards -/
theorem xPC_eq {g : G} {p : Nat} : ∀ n, (∀ i, i < n → deckK i = 4 → g 11 i = 0) → xPC g p n = xCds g p 4 n := by
  intro n
  induction n with
  | zero => intro _; rfl
  | succ n ih =>
    intro h
    simp only [xPC, xCds, ih (fun i hi => h i (by omega))]
    by_cases q : g 9 n = p
    · by_cases r : deckK n = 4
      · rw [if_pos q, if_pos r, decide_eq_true q, decide_eq_true r, decide_eq_true (h n (Nat.lt_succ_self n) r)]; rfl
      · rw [if_pos q, if_neg r, decide_eq_true q, decide_eq_false r]; rfl
    · rw [if_neg q, decide_eq_false q]; rfl
/-- points of class and reference, where the reference's count of point cards is the class's -/
theorem xPts_eq {g gm : G} {p : Nat} (h2 : ∀ c, gm 2 c = g 2 c) (h77 : gm 7 7 = g 7 7) (h78 : gm 7 8 = g 7 8) (h24 : gm 24 (5 * p + 4) = xCds g p 4 (g 8 0)) (hu : ∀ i, i < g 8 0 → deckK i = 4 → g 11 i = 0) : xPts g p = mPts gm p := by
  have ho : ∀ c, own1 gm c = own1 g c := fun c => by unfold own1; rw [h2]
  have hc : ∀ c, mCity gm c = mCity g c := fun c => by unfold mCity; rw [h2]
  have hb : ∀ b, mBuilds gm p b 24 = mBuilds g p b 24 := fun b => by unfold mBuilds; simp only [ho, hc]
  unfold xPts mPts
  rw [xPB_eq, xPC_eq (g 8 0) hu, hb, hb, h77, h78, h24]
