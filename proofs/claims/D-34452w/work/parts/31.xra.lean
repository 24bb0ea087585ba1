/-! ROWS OVER THE CLASS's PICTURE (printed by gen/mkx.py) -/
section ZX
variable {D : va_G} {dA : Nat → ClassId} {cn : Nat → Nat} {A : Nat → Prop} {pa : NM → Nat} {g : G} {T : va_W} {H : Heap}
theorem XS.cell (h : XS D dA cn A pa g T H) {n : NM} (hl : xL g n = true) (hp : xP n = true) (h1 : n.1 ≠ 11) (h2 : n.1 ≠ 14) (h3 : n.1 ≠ 15) : va_at D clA (pa n, xC dA cn pa g n) H := by
  obtain ⟨ad, L, ha, hL, hP⟩ := h
  have hc := hP.cell ((hL n).mpr hl)
  rw [ha n hp, xC_pub ha h1 h2 h3] at hc
  exact hc
theorem XS.one (h : XS D dA cn A pa g T H) (n : NM) {e : va_E} (he : xC dA cn pa g n = e) (hl : xL g n = true) (hp : xP n = true) (h1 : n.1 ≠ 11) (h2 : n.1 ≠ 14) (h3 : n.1 ≠ 15) : va_P D clA [(pa n, e)] H := by
  refine va_P.ofm (fun q hq => ?_)
  rw [List.mem_singleton.mp hq, ← he]
  exact h.cell hl hp h1 h2 h3
/-- a state's change seen at one name: the pool after a write is the picture of the new state -/
theorem XS.of {ad : NM → Nat} {L : List NM} {n : NM} {e : va_E} {g1 : G} {H1 : Heap} (ha : ∀ n, xP n = true → ad n = pa n) (hL : ∀ n, n ∈ L ↔ xL g n = true) (hP : PL D A L ad (fun n' => if n' = n then e else xC dA cn ad g n') T H1)
    (hl : ∀ n', xL g1 n' = xL g n') (he : xC dA cn ad g1 n = e) (ho : ∀ n', n' ≠ n → xL g n' = true → xC dA cn ad g1 n' = xC dA cn ad g n') : XS D dA cn A pa g1 T H1 := by
  refine ⟨ad, L, ha, fun n' => (hL n').trans (by rw [hl]), hP.to hP.1 (fun _ h => h) (fun _ _ => rfl) (fun n' hn' => ?_) (fun _ h => h) (fun _ _ => rfl) (fun _ _ => rfl)⟩
  by_cases hq : n' = n
  · rw [if_pos hq, hq, he]
  · rw [if_neg hq]
    exact ho n' hq ((hL n').mp hn')
/-- the same, where the name d dies -/
theorem XS.kill {ad : NM → Nat} {L : List NM} {n d : NM} {e : va_E} {g1 : G} {H1 : Heap} (ha : ∀ n, xP n = true → ad n = pa n) (hL : ∀ n, n ∈ L ↔ xL g n = true) (hP : PL D A L ad (fun n' => if n' = n then e else xC dA cn ad g n') T H1)
    (hl : ∀ n', xL g1 n' = (decide (n' ≠ d) && xL g n')) (he : xC dA cn ad g1 n = e) (ho : ∀ n', n' ≠ n → n' ≠ d → xL g n' = true → xC dA cn ad g1 n' = xC dA cn ad g n') : XS D dA cn A pa g1 T H1 := by
  have hm : ∀ n', n' ∈ L.filter (fun n' => decide (n' ≠ d)) ↔ n' ∈ L ∧ n' ≠ d := fun n' => by rw [List.mem_filter, decide_eq_true_eq]
  refine ⟨ad, L.filter (fun n' => decide (n' ≠ d)), ha, fun n' => ?_, hP.to (hP.1.filter _) (fun n' h => ((hm n').mp h).1) (fun _ _ => rfl) (fun n' hn' => ?_) (fun _ h => h) (fun _ _ => rfl) (fun _ _ => rfl)⟩
  · rw [hm, hl, hL, Bool.and_eq_true, decide_eq_true_eq, and_comm]
  · obtain ⟨h1, h2⟩ := (hm n').mp hn'
    by_cases hq : n' = n
    · rw [if_pos hq, hq, he]
    · rw [if_neg hq]
      exact ho n' hq h2 ((hL n').mp h1)
def upA (ad : NM → Nat) (d : NM) (q : Nat) : NM → Nat := fun n => if n = d then q else ad n
theorem upA_eq (ad : NM → Nat) (d : NM) (q : Nat) : upA ad d q d = q := if_pos rfl
theorem upA_ne {ad : NM → Nat} {d n : NM} {q : Nat} (h : n ≠ d) : upA ad d q n = ad n := if_neg h
/-- a new cell gets the name d, and the name n (its holder) another content -/
theorem XS.renew {ad : NM → Nat} {L : List NM} {n d : NM} {e e1 : va_E} {q : Nat} {g1 : G} {H1 : Heap} (ha : ∀ n, xP n = true → ad n = pa n) (hL : ∀ n, n ∈ L ↔ xL g n = true) (hP : PL D A L ad (fun n' => if n' = n then e else xC dA cn ad g n') (T ++ [(q, e1)]) H1) (hnd : n ≠ d)
    (hl : ∀ n', n' ≠ d → xL g1 n' = xL g n') (hld : xL g1 d = true) (he : xC dA cn (upA ad d q) g1 n = e) (hd : xC dA cn (upA ad d q) g1 d = e1) (ho : ∀ n', n' ≠ n → n' ≠ d → xL g n' = true → xC dA cn (upA ad d q) g1 n' = xC dA cn ad g n') : XS D dA cn A (upA pa d q) g1 T H1 := by
  have hm : ∀ n', n' ∈ L.filter (fun n' => decide (n' ≠ d)) ↔ n' ∈ L ∧ n' ≠ d := fun n' => by rw [List.mem_filter, decide_eq_true_eq]
  have hP1 := (hP.kill (L' := L.filter (fun n' => decide (n' ≠ d))) (hP.1.filter _) (fun n' h => ((hm n').mp h).1)).name (n := d) (fun h => ((hm d).mp h).2 rfl)
  refine ⟨upA ad d q, _, fun n' hp => ?_, fun n' => ?_, hP1.to hP1.1 (fun _ h => h) (fun _ _ => rfl) (fun n' hn' => ?_) (fun _ h => h) (fun _ _ => rfl) (fun _ _ => rfl)⟩
  · unfold upA
    rw [ha n' hp]
  · rw [List.mem_append, List.mem_singleton, hm, hL]
    by_cases hq : n' = d
    · subst hq
      exact ⟨fun _ => hld, fun _ => Or.inr rfl⟩
    · rw [hl n' hq]
      exact ⟨fun h => h.elim (fun h => h.1) (fun h => absurd h hq), fun h => Or.inl ⟨h, hq⟩⟩
  · show _ = if n' = d then e1 else (if n' = n then e else xC dA cn ad g n')
    by_cases hq : n' = d
    · rw [if_pos hq, hq, hd]
    · rw [if_neg hq]
      by_cases hq2 : n' = n
      · rw [if_pos hq2, hq2, he]
      · rw [if_neg hq2]
        rcases List.mem_append.mp hn' with h | h
        · exact ho n' hq2 hq ((hL n').mp ((hm n').mp h).1)
        · exact absurd (List.mem_singleton.mp h) hq
theorem x_ne {n : NM} {k : Nat} (h : xL g n = true) (hne : n ≠ (k, 0)) (hk : k = 0 ∨ k = 1 ∨ k = 4 ∨ k = 6 ∨ k = 7 ∨ k = 9 ∨ k = 10 ∨ k = 11 ∨ k = 14 ∨ k = 17) : n.1 ≠ k := by
  obtain ⟨a, b⟩ := n
  intro he
  have he : a = k := he
  subst he
  have hb : b = 0 := by
    rcases hk with rfl | rfl | rfl | rfl | rfl | rfl | rfl | rfl | rfl | rfl <;> (unfold xL at h; simpa using h)
  exact hne (by rw [hb])
theorem x20 {n : NM} (h : xL g n = true) : n.1 < 20 := by
  obtain ⟨a, b⟩ := n
  by_cases h1 : a < 20
  · exact h1
  · exfalso
    obtain ⟨c, rfl⟩ : ∃ c, a = c + 20 := ⟨a - 20, by omega⟩
    have h2 : (decide (c + 20 < 19) && decide (b = 0)) = true := h
    simp only [Bool.and_eq_true, decide_eq_true_eq] at h2
    omega
theorem xc_all {P : NM → Prop} (h0 : ∀ b, xL g (0, b) = true → P (0, b)) (h1 : ∀ b, xL g (1, b) = true → P (1, b)) (h2 : ∀ b, xL g (2, b) = true → P (2, b)) (h3 : ∀ b, xL g (3, b) = true → P (3, b)) (h4 : ∀ b, xL g (4, b) = true → P (4, b)) (h5 : ∀ b, xL g (5, b) = true → P (5, b)) (h6 : ∀ b, xL g (6, b) = true → P (6, b)) (h7 : ∀ b, xL g (7, b) = true → P (7, b)) (h8 : ∀ b, xL g (8, b) = true → P (8, b)) (h9 : ∀ b, xL g (9, b) = true → P (9, b)) (h10 : ∀ b, xL g (10, b) = true → P (10, b)) (h11 : ∀ b, xL g (11, b) = true → P (11, b)) (h12 : ∀ b, xL g (12, b) = true → P (12, b)) (h13 : ∀ b, xL g (13, b) = true → P (13, b)) (h14 : ∀ b, xL g (14, b) = true → P (14, b)) (h15 : ∀ b, xL g (15, b) = true → P (15, b)) (h16 : ∀ b, xL g (16, b) = true → P (16, b)) (h17 : ∀ b, xL g (17, b) = true → P (17, b)) (h18 : ∀ b, xL g (18, b) = true → P (18, b)) (h19 : ∀ b, xL g (19, b) = true → P (19, b)) : ∀ n : NM, xL g n = true → P n := by
  intro n hl
  obtain ⟨a, b⟩ := n
  have ha : a < 20 := x20 hl
  rcases (show a = 0 ∨ a = 1 ∨ a = 2 ∨ a = 3 ∨ a = 4 ∨ a = 5 ∨ a = 6 ∨ a = 7 ∨ a = 8 ∨ a = 9 ∨ a = 10 ∨ a = 11 ∨ a = 12 ∨ a = 13 ∨ a = 14 ∨ a = 15 ∨ a = 16 ∨ a = 17 ∨ a = 18 ∨ a = 19 by omega) with rfl | rfl | rfl | rfl | rfl | rfl | rfl | rfl | rfl | rfl | rfl | rfl | rfl | rfl | rfl | rfl | rfl | rfl | rfl | rfl
  · exact h0 b hl
  · exact h1 b hl
  · exact h2 b hl
  · exact h3 b hl
  · exact h4 b hl
  · exact h5 b hl
  · exact h6 b hl
  · exact h7 b hl
  · exact h8 b hl
  · exact h9 b hl
  · exact h10 b hl
  · exact h11 b hl
  · exact h12 b hl
  · exact h13 b hl
  · exact h14 b hl
  · exact h15 b hl
  · exact h16 b hl
  · exact h17 b hl
  · exact h18 b hl
  · exact h19 b hl
theorem x_no {k b : Nat} {α : Prop} (h : xL g (k, b) = true) (hne : ((k, b) : NM) ≠ (k, 0)) (hk : k = 0 ∨ k = 1 ∨ k = 4 ∨ k = 6 ∨ k = 7 ∨ k = 9 ∨ k = 10 ∨ k = 11 ∨ k = 14 ∨ k = 17) : α := absurd rfl (x_ne h hne hk)
theorem x_no19 {b : Nat} {α : Prop} (h : xL g (19, b) = true) (hne : ((19, b) : NM) ≠ (19, 0)) : α := by
  have h2 : (decide (b = 0) && decide (g 26 0 ≠ 0)) = true := h
  simp only [Bool.and_eq_true, decide_eq_true_eq] at h2
  exact absurd (by rw [h2.1]) hne
theorem xk_updM (g : G) (f i v : Nat) : upd (fun j => mI (g f j)) i (mI v) = fun j => mI (gs g f i v f j) := by
  funext j
  unfold upd gs
  by_cases h : j = i
  · simp [h]
  · simp [h]
variable {p : Program} {l : Launch} {e : Env} {R : Room} {s : State} {m : MethodId} {args : Array Value} {below : List Frame} {meth : Method} {c : Code} {locs : List Loc} {cells slots : Nat} {Q : State → Prop}
variable {cc : ByteArray} {pc nL : Nat} {ls : Array Slot} {rest : List Value}
theorem gX_hexes (S : CallFix p m c cc nL s args lw_all RX1) (hK : KT D dA s) (h : XS D dA cn A pa g T H) (hdg : decode cc pc = .ok (.getfield 11, 3)) (kk : W p l e R s m args below meth c H locs cells slots Q (F0 m (pc + 3) ls (.ref (pa (1, 0)) :: rest))) : W p l e R s m args below meth c H locs cells slots Q (F0 m pc ls (.ref (pa (0, 0)) :: rest)) :=
  va_get (D := D) (ci := 0) (C := RX1) (T := TX1) (N := 19) S.1 S.2.1 S.2.2.2.2 in_X1 S.2.2.2.1 hK (h.one (0, 0) rfl rfl rfl (by decide) (by decide) (by decide)) 0 rfl rfl 0 (by decide) (S.2.2.2.2 _ q162) (fun _ h9 => h9) rfl hdg kk
theorem gX_buildings (S : CallFix p m c cc nL s args lw_all RX1) (hK : KT D dA s) (h : XS D dA cn A pa g T H) (hdg : decode cc pc = .ok (.getfield 17, 3)) (kk : W p l e R s m args below meth c H locs cells slots Q (F0 m (pc + 3) ls (.ref (pa (4, 0)) :: rest))) : W p l e R s m args below meth c H locs cells slots Q (F0 m pc ls (.ref (pa (0, 0)) :: rest)) :=
  va_get (D := D) (ci := 0) (C := RX1) (T := TX1) (N := 19) S.1 S.2.1 S.2.2.2.2 in_X1 S.2.2.2.1 hK (h.one (0, 0) rfl rfl rfl (by decide) (by decide) (by decide)) 0 rfl rfl 1 (by decide) (S.2.2.2.2 _ q163) (fun _ h9 => h9) rfl hdg kk
theorem gX_roads (S : CallFix p m c cc nL s args lw_all RX1) (hK : KT D dA s) (h : XS D dA cn A pa g T H) (hdg : decode cc pc = .ok (.getfield 21, 3)) (kk : W p l e R s m args below meth c H locs cells slots Q (F0 m (pc + 3) ls (.ref (pa (6, 0)) :: rest))) : W p l e R s m args below meth c H locs cells slots Q (F0 m pc ls (.ref (pa (0, 0)) :: rest)) :=
  va_get (D := D) (ci := 0) (C := RX1) (T := TX1) (N := 19) S.1 S.2.1 S.2.2.2.2 in_X1 S.2.2.2.1 hK (h.one (0, 0) rfl rfl rfl (by decide) (by decide) (by decide)) 0 rfl rfl 2 (by decide) (S.2.2.2.2 _ q164) (fun _ h9 => h9) rfl hdg kk
theorem gX_hands (S : CallFix p m c cc nL s args lw_all RX1) (hK : KT D dA s) (h : XS D dA cn A pa g T H) (hdg : decode cc pc = .ok (.getfield 27, 3)) (kk : W p l e R s m args below meth c H locs cells slots Q (F0 m (pc + 3) ls (.ref (pa (7, 0)) :: rest))) : W p l e R s m args below meth c H locs cells slots Q (F0 m pc ls (.ref (pa (0, 0)) :: rest)) :=
  va_get (D := D) (ci := 0) (C := RX1) (T := TX1) (N := 19) S.1 S.2.1 S.2.2.2.2 in_X1 S.2.2.2.1 hK (h.one (0, 0) rfl rfl rfl (by decide) (by decide) (by decide)) 0 rfl rfl 3 (by decide) (S.2.2.2.2 _ q165) (fun _ h9 => h9) rfl hdg kk
theorem gX_due (S : CallFix p m c cc nL s args lw_all RX1) (hK : KT D dA s) (h : XS D dA cn A pa g T H) (hdg : decode cc pc = .ok (.getfield 30, 3)) (kk : W p l e R s m args below meth c H locs cells slots Q (F0 m (pc + 3) ls (.ref (pa (9, 0)) :: rest))) : W p l e R s m args below meth c H locs cells slots Q (F0 m pc ls (.ref (pa (0, 0)) :: rest)) :=
  va_get (D := D) (ci := 0) (C := RX1) (T := TX1) (N := 19) S.1 S.2.1 S.2.2.2.2 in_X1 S.2.2.2.1 hK (h.one (0, 0) rfl rfl rfl (by decide) (by decide) (by decide)) 0 rfl rfl 4 (by decide) (S.2.2.2.2 _ q166) (fun _ h9 => h9) rfl hdg kk
theorem gX_knights (S : CallFix p m c cc nL s args lw_all RX1) (hK : KT D dA s) (h : XS D dA cn A pa g T H) (hdg : decode cc pc = .ok (.getfield 33, 3)) (kk : W p l e R s m args below meth c H locs cells slots Q (F0 m (pc + 3) ls (.ref (pa (10, 0)) :: rest))) : W p l e R s m args below meth c H locs cells slots Q (F0 m pc ls (.ref (pa (0, 0)) :: rest)) :=
  va_get (D := D) (ci := 0) (C := RX1) (T := TX1) (N := 19) S.1 S.2.1 S.2.2.2.2 in_X1 S.2.2.2.1 hK (h.one (0, 0) rfl rfl rfl (by decide) (by decide) (by decide)) 0 rfl rfl 5 (by decide) (S.2.2.2.2 _ q167) (fun _ h9 => h9) rfl hdg kk
theorem gX_cards (S : CallFix p m c cc nL s args lw_all RX1) (hK : KT D dA s) (h : XS D dA cn A pa g T H) (hdg : decode cc pc = .ok (.getfield 39, 3)) (kk : W p l e R s m args below meth c H locs cells slots Q (F0 m (pc + 3) ls (.ref (pa (11, 0)) :: rest))) : W p l e R s m args below meth c H locs cells slots Q (F0 m pc ls (.ref (pa (0, 0)) :: rest)) :=
  va_get (D := D) (ci := 0) (C := RX1) (T := TX1) (N := 19) S.1 S.2.1 S.2.2.2.2 in_X1 S.2.2.2.1 hK (h.one (0, 0) rfl rfl rfl (by decide) (by decide) (by decide)) 0 rfl rfl 6 (by decide) (S.2.2.2.2 _ q168) (fun _ h9 => h9) rfl hdg kk
theorem gX_moves (S : CallFix p m c cc nL s args lw_all RX1) (hK : KT D dA s) (h : XS D dA cn A pa g T H) (hdg : decode cc pc = .ok (.getfield 43, 3)) (kk : W p l e R s m args below meth c H locs cells slots Q (F0 m (pc + 3) ls (.ref (pa (14, 0)) :: rest))) : W p l e R s m args below meth c H locs cells slots Q (F0 m pc ls (.ref (pa (0, 0)) :: rest)) :=
  va_get (D := D) (ci := 0) (C := RX1) (T := TX1) (N := 19) S.1 S.2.1 S.2.2.2.2 in_X1 S.2.2.2.1 hK (h.one (0, 0) rfl rfl rfl (by decide) (by decide) (by decide)) 0 rfl rfl 7 (by decide) (S.2.2.2.2 _ q169) (fun _ h9 => h9) rfl hdg kk
theorem gX_counters (S : CallFix p m c cc nL s args lw_all RX1) (hK : KT D dA s) (h : XS D dA cn A pa g T H) (hdg : decode cc pc = .ok (.getfield 48, 3)) (kk : W p l e R s m args below meth c H locs cells slots Q (F0 m (pc + 3) ls (.ref (pa (17, 0)) :: rest))) : W p l e R s m args below meth c H locs cells slots Q (F0 m pc ls (.ref (pa (0, 0)) :: rest)) :=
  va_get (D := D) (ci := 0) (C := RX1) (T := TX1) (N := 19) S.1 S.2.1 S.2.2.2.2 in_X1 S.2.2.2.1 hK (h.one (0, 0) rfl rfl rfl (by decide) (by decide) (by decide)) 0 rfl rfl 8 (by decide) (S.2.2.2.2 _ q170) (fun _ h9 => h9) rfl hdg kk
theorem gX_offer (S : CallFix p m c cc nL s args lw_all RX1) (hK : KT D dA s) (h : XS D dA cn A pa g T H) (hdg : decode cc pc = .ok (.getfield 335, 3)) (kk : W p l e R s m args below meth c H locs cells slots Q (F0 m (pc + 3) ls (va_rf (opB (decide (g 26 0 ≠ 0)) (pa (19, 0))) :: rest))) : W p l e R s m args below meth c H locs cells slots Q (F0 m pc ls (.ref (pa (0, 0)) :: rest)) :=
  va_get (D := D) (ci := 0) (C := RX1) (T := TX1) (N := 19) S.1 S.2.1 S.2.2.2.2 in_X1 S.2.2.2.1 hK (h.one (0, 0) rfl rfl rfl (by decide) (by decide) (by decide)) 0 rfl rfl 9 (by decide) (S.2.2.2.2 _ q171) (fun _ h9 => h9) rfl hdg kk
theorem gX_robber (S : CallFix p m c cc nL s args lw_all RX1) (hK : KT D dA s) (h : XS D dA cn A pa g T H) (v : Nat) (hv : g 7 0 = v) (hdg : decode cc pc = .ok (.getfield 121, 3)) (kk : W p l e R s m args below meth c H locs cells slots Q (F0 m (pc + 3) ls (.int (nI v) :: rest))) : W p l e R s m args below meth c H locs cells slots Q (F0 m pc ls (.ref (pa (0, 0)) :: rest)) := by
  subst hv
  exact va_get (D := D) (ci := 0) (C := RX1) (T := TX1) (N := 19) S.1 S.2.1 S.2.2.2.2 in_X1 S.2.2.2.1 hK (h.one (0, 0) rfl rfl rfl (by decide) (by decide) (by decide)) 0 rfl rfl 10 (by decide) (S.2.2.2.2 _ q172) (fun _ h9 => h9) rfl hdg kk
theorem pX_robber (S : CallFix p m c cc nL s args lw_all RX1) (hK : KT D dA s) (h : XS D dA cn A pa g T H) (hS : va_S A s.heap H locs) (v : Nat) (hdg : decode cc pc = .ok (.putfield 121, 3)) (kk : ∀ (H1 : Heap) (locs1 : List Loc), XS D dA cn A pa (gs g 7 0 v) T H1 → va_S A s.heap H1 locs1 → W p l e R s m args below meth c H1 locs1 cells slots Q (F0 m (pc + 3) ls (rest))) : W p l e R s m args below meth c H locs cells slots Q (F0 m pc ls (.int (nI v) :: .ref (pa (0, 0)) :: rest)) := by
  obtain ⟨ad, L, ha, hL, hP⟩ := h
  obtain ⟨k, hk⟩ := zp_idx ((hL (0, 0)).mpr rfl)
  rw [← ha (0, 0) rfl]
  refine va_put (D := D) (ci := 0) (C := RX1) (T := TX1) (N := 19) S.1 S.2.1 S.2.2.2.2 in_X1 tyX1 tyX1_ok nmX1 S.2.2.2.1 hK hP.2.1 hP.2.2 hS k (zp_at hk) rfl 10 (by decide) (S.2.2.2.2 _ q172) (fun _ h9 => h9) rfl (ty := .int) (by decide +kernel) rfl rfl (Nat.le_of_ble_eq_true rfl) hdg (fun H1 locs1 h1 h2 h3 => kk H1 locs1 ?_ h3)
  rw [zp_set hP.1 hk] at h1 h2
  exact XS.of (n := (0, 0)) ha hL ⟨hP.1, h1, h2⟩ (fun _ => rfl) rfl (fun n' hne hl => xc_all (P := fun n' => n' ≠ (0, 0) → xC dA cn ad (gs g 7 0 v) n' = xC dA cn ad g n') (fun _ hl hne => x_no hl hne (by simp)) (fun _ _ _ => rfl) (fun _ _ _ => rfl) (fun _ _ _ => rfl) (fun _ _ _ => rfl) (fun _ _ _ => rfl) (fun _ _ _ => rfl) (fun _ _ _ => rfl) (fun _ _ _ => rfl) (fun _ _ _ => rfl) (fun _ _ _ => rfl) (fun _ _ _ => rfl) (fun _ _ _ => rfl) (fun _ _ _ => rfl) (fun _ _ _ => rfl) (fun _ _ _ => rfl) (fun _ _ _ => rfl) (fun _ _ _ => rfl) (fun _ _ _ => rfl) (fun _ _ _ => rfl) n' hl hne)
theorem gX_phase (S : CallFix p m c cc nL s args lw_all RX1) (hK : KT D dA s) (h : XS D dA cn A pa g T H) (v : Nat) (hv : g 7 1 = v) (hdg : decode cc pc = .ok (.getfield 52, 3)) (kk : W p l e R s m args below meth c H locs cells slots Q (F0 m (pc + 3) ls (.int (nI v) :: rest))) : W p l e R s m args below meth c H locs cells slots Q (F0 m pc ls (.ref (pa (0, 0)) :: rest)) := by
  subst hv
  exact va_get (D := D) (ci := 0) (C := RX1) (T := TX1) (N := 19) S.1 S.2.1 S.2.2.2.2 in_X1 S.2.2.2.1 hK (h.one (0, 0) rfl rfl rfl (by decide) (by decide) (by decide)) 0 rfl rfl 11 (by decide) (S.2.2.2.2 _ q173) (fun _ h9 => h9) rfl hdg kk
theorem pX_phase (S : CallFix p m c cc nL s args lw_all RX1) (hK : KT D dA s) (h : XS D dA cn A pa g T H) (hS : va_S A s.heap H locs) (v : Nat) (hdg : decode cc pc = .ok (.putfield 52, 3)) (kk : ∀ (H1 : Heap) (locs1 : List Loc), XS D dA cn A pa (gs g 7 1 v) T H1 → va_S A s.heap H1 locs1 → W p l e R s m args below meth c H1 locs1 cells slots Q (F0 m (pc + 3) ls (rest))) : W p l e R s m args below meth c H locs cells slots Q (F0 m pc ls (.int (nI v) :: .ref (pa (0, 0)) :: rest)) := by
  obtain ⟨ad, L, ha, hL, hP⟩ := h
  obtain ⟨k, hk⟩ := zp_idx ((hL (0, 0)).mpr rfl)
  rw [← ha (0, 0) rfl]
  refine va_put (D := D) (ci := 0) (C := RX1) (T := TX1) (N := 19) S.1 S.2.1 S.2.2.2.2 in_X1 tyX1 tyX1_ok nmX1 S.2.2.2.1 hK hP.2.1 hP.2.2 hS k (zp_at hk) rfl 11 (by decide) (S.2.2.2.2 _ q173) (fun _ h9 => h9) rfl (ty := .int) (by decide +kernel) rfl rfl (Nat.le_of_ble_eq_true rfl) hdg (fun H1 locs1 h1 h2 h3 => kk H1 locs1 ?_ h3)
  rw [zp_set hP.1 hk] at h1 h2
  exact XS.of (n := (0, 0)) ha hL ⟨hP.1, h1, h2⟩ (fun _ => rfl) rfl (fun n' hne hl => xc_all (P := fun n' => n' ≠ (0, 0) → xC dA cn ad (gs g 7 1 v) n' = xC dA cn ad g n') (fun _ hl hne => x_no hl hne (by simp)) (fun _ _ _ => rfl) (fun _ _ _ => rfl) (fun _ _ _ => rfl) (fun _ _ _ => rfl) (fun _ _ _ => rfl) (fun _ _ _ => rfl) (fun _ _ _ => rfl) (fun _ _ _ => rfl) (fun _ _ _ => rfl) (fun _ _ _ => rfl) (fun _ _ _ => rfl) (fun _ _ _ => rfl) (fun _ _ _ => rfl) (fun _ _ _ => rfl) (fun _ _ _ => rfl) (fun _ _ _ => rfl) (fun _ _ _ => rfl) (fun _ _ _ => rfl) (fun _ _ _ => rfl) n' hl hne)
theorem gX_placed (S : CallFix p m c cc nL s args lw_all RX1) (hK : KT D dA s) (h : XS D dA cn A pa g T H) (v : Nat) (hv : g 7 2 = v) (hdg : decode cc pc = .ok (.getfield 227, 3)) (kk : W p l e R s m args below meth c H locs cells slots Q (F0 m (pc + 3) ls (.int (nI v) :: rest))) : W p l e R s m args below meth c H locs cells slots Q (F0 m pc ls (.ref (pa (0, 0)) :: rest)) := by
  subst hv
  exact va_get (D := D) (ci := 0) (C := RX1) (T := TX1) (N := 19) S.1 S.2.1 S.2.2.2.2 in_X1 S.2.2.2.1 hK (h.one (0, 0) rfl rfl rfl (by decide) (by decide) (by decide)) 0 rfl rfl 12 (by decide) (S.2.2.2.2 _ q174) (fun _ h9 => h9) rfl hdg kk
theorem pX_placed (S : CallFix p m c cc nL s args lw_all RX1) (hK : KT D dA s) (h : XS D dA cn A pa g T H) (hS : va_S A s.heap H locs) (v : Nat) (hdg : decode cc pc = .ok (.putfield 227, 3)) (kk : ∀ (H1 : Heap) (locs1 : List Loc), XS D dA cn A pa (gs g 7 2 v) T H1 → va_S A s.heap H1 locs1 → W p l e R s m args below meth c H1 locs1 cells slots Q (F0 m (pc + 3) ls (rest))) : W p l e R s m args below meth c H locs cells slots Q (F0 m pc ls (.int (nI v) :: .ref (pa (0, 0)) :: rest)) := by
  obtain ⟨ad, L, ha, hL, hP⟩ := h
  obtain ⟨k, hk⟩ := zp_idx ((hL (0, 0)).mpr rfl)
  rw [← ha (0, 0) rfl]
  refine va_put (D := D) (ci := 0) (C := RX1) (T := TX1) (N := 19) S.1 S.2.1 S.2.2.2.2 in_X1 tyX1 tyX1_ok nmX1 S.2.2.2.1 hK hP.2.1 hP.2.2 hS k (zp_at hk) rfl 12 (by decide) (S.2.2.2.2 _ q174) (fun _ h9 => h9) rfl (ty := .int) (by decide +kernel) rfl rfl (Nat.le_of_ble_eq_true rfl) hdg (fun H1 locs1 h1 h2 h3 => kk H1 locs1 ?_ h3)
  rw [zp_set hP.1 hk] at h1 h2
  exact XS.of (n := (0, 0)) ha hL ⟨hP.1, h1, h2⟩ (fun _ => rfl) rfl (fun n' hne hl => xc_all (P := fun n' => n' ≠ (0, 0) → xC dA cn ad (gs g 7 2 v) n' = xC dA cn ad g n') (fun _ hl hne => x_no hl hne (by simp)) (fun _ _ _ => rfl) (fun _ _ _ => rfl) (fun _ _ _ => rfl) (fun _ _ _ => rfl) (fun _ _ _ => rfl) (fun _ _ _ => rfl) (fun _ _ _ => rfl) (fun _ _ _ => rfl) (fun _ _ _ => rfl) (fun _ _ _ => rfl) (fun _ _ _ => rfl) (fun _ _ _ => rfl) (fun _ _ _ => rfl) (fun _ _ _ => rfl) (fun _ _ _ => rfl) (fun _ _ _ => rfl) (fun _ _ _ => rfl) (fun _ _ _ => rfl) (fun _ _ _ => rfl) n' hl hne)
theorem gX_turns (S : CallFix p m c cc nL s args lw_all RX1) (hK : KT D dA s) (h : XS D dA cn A pa g T H) (v : Nat) (hv : g 7 3 = v) (hdg : decode cc pc = .ok (.getfield 185, 3)) (kk : W p l e R s m args below meth c H locs cells slots Q (F0 m (pc + 3) ls (.int (nI v) :: rest))) : W p l e R s m args below meth c H locs cells slots Q (F0 m pc ls (.ref (pa (0, 0)) :: rest)) := by
  subst hv
  exact va_get (D := D) (ci := 0) (C := RX1) (T := TX1) (N := 19) S.1 S.2.1 S.2.2.2.2 in_X1 S.2.2.2.1 hK (h.one (0, 0) rfl rfl rfl (by decide) (by decide) (by decide)) 0 rfl rfl 13 (by decide) (S.2.2.2.2 _ q175) (fun _ h9 => h9) rfl hdg kk
theorem pX_turns (S : CallFix p m c cc nL s args lw_all RX1) (hK : KT D dA s) (h : XS D dA cn A pa g T H) (hS : va_S A s.heap H locs) (v : Nat) (hdg : decode cc pc = .ok (.putfield 185, 3)) (kk : ∀ (H1 : Heap) (locs1 : List Loc), XS D dA cn A pa (gs g 7 3 v) T H1 → va_S A s.heap H1 locs1 → W p l e R s m args below meth c H1 locs1 cells slots Q (F0 m (pc + 3) ls (rest))) : W p l e R s m args below meth c H locs cells slots Q (F0 m pc ls (.int (nI v) :: .ref (pa (0, 0)) :: rest)) := by
  obtain ⟨ad, L, ha, hL, hP⟩ := h
  obtain ⟨k, hk⟩ := zp_idx ((hL (0, 0)).mpr rfl)
  rw [← ha (0, 0) rfl]
  refine va_put (D := D) (ci := 0) (C := RX1) (T := TX1) (N := 19) S.1 S.2.1 S.2.2.2.2 in_X1 tyX1 tyX1_ok nmX1 S.2.2.2.1 hK hP.2.1 hP.2.2 hS k (zp_at hk) rfl 13 (by decide) (S.2.2.2.2 _ q175) (fun _ h9 => h9) rfl (ty := .int) (by decide +kernel) rfl rfl (Nat.le_of_ble_eq_true rfl) hdg (fun H1 locs1 h1 h2 h3 => kk H1 locs1 ?_ h3)
  rw [zp_set hP.1 hk] at h1 h2
  exact XS.of (n := (0, 0)) ha hL ⟨hP.1, h1, h2⟩ (fun _ => rfl) rfl (fun n' hne hl => xc_all (P := fun n' => n' ≠ (0, 0) → xC dA cn ad (gs g 7 3 v) n' = xC dA cn ad g n') (fun _ hl hne => x_no hl hne (by simp)) (fun _ _ _ => rfl) (fun _ _ _ => rfl) (fun _ _ _ => rfl) (fun _ _ _ => rfl) (fun _ _ _ => rfl) (fun _ _ _ => rfl) (fun _ _ _ => rfl) (fun _ _ _ => rfl) (fun _ _ _ => rfl) (fun _ _ _ => rfl) (fun _ _ _ => rfl) (fun _ _ _ => rfl) (fun _ _ _ => rfl) (fun _ _ _ => rfl) (fun _ _ _ => rfl) (fun _ _ _ => rfl) (fun _ _ _ => rfl) (fun _ _ _ => rfl) (fun _ _ _ => rfl) n' hl hne)
theorem gX_turn (S : CallFix p m c cc nL s args lw_all RX1) (hK : KT D dA s) (h : XS D dA cn A pa g T H) (v : Nat) (hv : g 7 4 = v) (hdg : decode cc pc = .ok (.getfield 176, 3)) (kk : W p l e R s m args below meth c H locs cells slots Q (F0 m (pc + 3) ls (.int (nI v) :: rest))) : W p l e R s m args below meth c H locs cells slots Q (F0 m pc ls (.ref (pa (0, 0)) :: rest)) := by
  subst hv
  exact va_get (D := D) (ci := 0) (C := RX1) (T := TX1) (N := 19) S.1 S.2.1 S.2.2.2.2 in_X1 S.2.2.2.1 hK (h.one (0, 0) rfl rfl rfl (by decide) (by decide) (by decide)) 0 rfl rfl 14 (by decide) (S.2.2.2.2 _ q176) (fun _ h9 => h9) rfl hdg kk
theorem pX_turn (S : CallFix p m c cc nL s args lw_all RX1) (hK : KT D dA s) (h : XS D dA cn A pa g T H) (hS : va_S A s.heap H locs) (v : Nat) (hdg : decode cc pc = .ok (.putfield 176, 3)) (kk : ∀ (H1 : Heap) (locs1 : List Loc), XS D dA cn A pa (gs g 7 4 v) T H1 → va_S A s.heap H1 locs1 → W p l e R s m args below meth c H1 locs1 cells slots Q (F0 m (pc + 3) ls (rest))) : W p l e R s m args below meth c H locs cells slots Q (F0 m pc ls (.int (nI v) :: .ref (pa (0, 0)) :: rest)) := by
  obtain ⟨ad, L, ha, hL, hP⟩ := h
  obtain ⟨k, hk⟩ := zp_idx ((hL (0, 0)).mpr rfl)
  rw [← ha (0, 0) rfl]
  refine va_put (D := D) (ci := 0) (C := RX1) (T := TX1) (N := 19) S.1 S.2.1 S.2.2.2.2 in_X1 tyX1 tyX1_ok nmX1 S.2.2.2.1 hK hP.2.1 hP.2.2 hS k (zp_at hk) rfl 14 (by decide) (S.2.2.2.2 _ q176) (fun _ h9 => h9) rfl (ty := .int) (by decide +kernel) rfl rfl (Nat.le_of_ble_eq_true rfl) hdg (fun H1 locs1 h1 h2 h3 => kk H1 locs1 ?_ h3)
  rw [zp_set hP.1 hk] at h1 h2
  exact XS.of (n := (0, 0)) ha hL ⟨hP.1, h1, h2⟩ (fun _ => rfl) rfl (fun n' hne hl => xc_all (P := fun n' => n' ≠ (0, 0) → xC dA cn ad (gs g 7 4 v) n' = xC dA cn ad g n') (fun _ hl hne => x_no hl hne (by simp)) (fun _ _ _ => rfl) (fun _ _ _ => rfl) (fun _ _ _ => rfl) (fun _ _ _ => rfl) (fun _ _ _ => rfl) (fun _ _ _ => rfl) (fun _ _ _ => rfl) (fun _ _ _ => rfl) (fun _ _ _ => rfl) (fun _ _ _ => rfl) (fun _ _ _ => rfl) (fun _ _ _ => rfl) (fun _ _ _ => rfl) (fun _ _ _ => rfl) (fun _ _ _ => rfl) (fun _ _ _ => rfl) (fun _ _ _ => rfl) (fun _ _ _ => rfl) (fun _ _ _ => rfl) n' hl hne)
theorem gX_hasRolled (S : CallFix p m c cc nL s args lw_all RX1) (hK : KT D dA s) (h : XS D dA cn A pa g T H) (v : Nat) (hv : g 7 5 = v) (hdg : decode cc pc = .ok (.getfield 253, 3)) (kk : W p l e R s m args below meth c H locs cells slots Q (F0 m (pc + 3) ls (.int (nI v) :: rest))) : W p l e R s m args below meth c H locs cells slots Q (F0 m pc ls (.ref (pa (0, 0)) :: rest)) := by
  subst hv
  exact va_get (D := D) (ci := 0) (C := RX1) (T := TX1) (N := 19) S.1 S.2.1 S.2.2.2.2 in_X1 S.2.2.2.1 hK (h.one (0, 0) rfl rfl rfl (by decide) (by decide) (by decide)) 0 rfl rfl 15 (by decide) (S.2.2.2.2 _ q177) (fun _ h9 => h9) rfl hdg kk
theorem pX_hasRolled (S : CallFix p m c cc nL s args lw_all RX1) (hK : KT D dA s) (h : XS D dA cn A pa g T H) (hS : va_S A s.heap H locs) (v : Nat) (hz : v < 2) (hdg : decode cc pc = .ok (.putfield 253, 3)) (kk : ∀ (H1 : Heap) (locs1 : List Loc), XS D dA cn A pa (gs g 7 5 v) T H1 → va_S A s.heap H1 locs1 → W p l e R s m args below meth c H1 locs1 cells slots Q (F0 m (pc + 3) ls (rest))) : W p l e R s m args below meth c H locs cells slots Q (F0 m pc ls (.int (nI v) :: .ref (pa (0, 0)) :: rest)) := by
  obtain ⟨ad, L, ha, hL, hP⟩ := h
  obtain ⟨k, hk⟩ := zp_idx ((hL (0, 0)).mpr rfl)
  rw [← ha (0, 0) rfl]
  refine va_put (D := D) (ci := 0) (C := RX1) (T := TX1) (N := 19) S.1 S.2.1 S.2.2.2.2 in_X1 tyX1 tyX1_ok nmX1 S.2.2.2.1 hK hP.2.1 hP.2.2 hS k (zp_at hk) rfl 15 (by decide) (S.2.2.2.2 _ q177) (fun _ h9 => h9) rfl (ty := .boolean) (by decide +kernel) (by rcases (show v = 0 ∨ v = 1 by omega) with rfl | rfl <;> rfl) (by rcases (show v = 0 ∨ v = 1 by omega) with rfl | rfl <;> rfl) (Nat.le_of_ble_eq_true rfl) hdg (fun H1 locs1 h1 h2 h3 => kk H1 locs1 ?_ h3)
  rw [zp_set hP.1 hk] at h1 h2
  exact XS.of (n := (0, 0)) ha hL ⟨hP.1, h1, h2⟩ (fun _ => rfl) rfl (fun n' hne hl => xc_all (P := fun n' => n' ≠ (0, 0) → xC dA cn ad (gs g 7 5 v) n' = xC dA cn ad g n') (fun _ hl hne => x_no hl hne (by simp)) (fun _ _ _ => rfl) (fun _ _ _ => rfl) (fun _ _ _ => rfl) (fun _ _ _ => rfl) (fun _ _ _ => rfl) (fun _ _ _ => rfl) (fun _ _ _ => rfl) (fun _ _ _ => rfl) (fun _ _ _ => rfl) (fun _ _ _ => rfl) (fun _ _ _ => rfl) (fun _ _ _ => rfl) (fun _ _ _ => rfl) (fun _ _ _ => rfl) (fun _ _ _ => rfl) (fun _ _ _ => rfl) (fun _ _ _ => rfl) (fun _ _ _ => rfl) (fun _ _ _ => rfl) n' hl hne)
theorem gX_hasUsed (S : CallFix p m c cc nL s args lw_all RX1) (hK : KT D dA s) (h : XS D dA cn A pa g T H) (v : Nat) (hv : g 7 6 = v) (hdg : decode cc pc = .ok (.getfield 192, 3)) (kk : W p l e R s m args below meth c H locs cells slots Q (F0 m (pc + 3) ls (.int (nI v) :: rest))) : W p l e R s m args below meth c H locs cells slots Q (F0 m pc ls (.ref (pa (0, 0)) :: rest)) := by
  subst hv
  exact va_get (D := D) (ci := 0) (C := RX1) (T := TX1) (N := 19) S.1 S.2.1 S.2.2.2.2 in_X1 S.2.2.2.1 hK (h.one (0, 0) rfl rfl rfl (by decide) (by decide) (by decide)) 0 rfl rfl 16 (by decide) (S.2.2.2.2 _ q178) (fun _ h9 => h9) rfl hdg kk
theorem pX_hasUsed (S : CallFix p m c cc nL s args lw_all RX1) (hK : KT D dA s) (h : XS D dA cn A pa g T H) (hS : va_S A s.heap H locs) (v : Nat) (hz : v < 2) (hdg : decode cc pc = .ok (.putfield 192, 3)) (kk : ∀ (H1 : Heap) (locs1 : List Loc), XS D dA cn A pa (gs g 7 6 v) T H1 → va_S A s.heap H1 locs1 → W p l e R s m args below meth c H1 locs1 cells slots Q (F0 m (pc + 3) ls (rest))) : W p l e R s m args below meth c H locs cells slots Q (F0 m pc ls (.int (nI v) :: .ref (pa (0, 0)) :: rest)) := by
  obtain ⟨ad, L, ha, hL, hP⟩ := h
  obtain ⟨k, hk⟩ := zp_idx ((hL (0, 0)).mpr rfl)
  rw [← ha (0, 0) rfl]
  refine va_put (D := D) (ci := 0) (C := RX1) (T := TX1) (N := 19) S.1 S.2.1 S.2.2.2.2 in_X1 tyX1 tyX1_ok nmX1 S.2.2.2.1 hK hP.2.1 hP.2.2 hS k (zp_at hk) rfl 16 (by decide) (S.2.2.2.2 _ q178) (fun _ h9 => h9) rfl (ty := .boolean) (by decide +kernel) (by rcases (show v = 0 ∨ v = 1 by omega) with rfl | rfl <;> rfl) (by rcases (show v = 0 ∨ v = 1 by omega) with rfl | rfl <;> rfl) (Nat.le_of_ble_eq_true rfl) hdg (fun H1 locs1 h1 h2 h3 => kk H1 locs1 ?_ h3)
  rw [zp_set hP.1 hk] at h1 h2
  exact XS.of (n := (0, 0)) ha hL ⟨hP.1, h1, h2⟩ (fun _ => rfl) rfl (fun n' hne hl => xc_all (P := fun n' => n' ≠ (0, 0) → xC dA cn ad (gs g 7 6 v) n' = xC dA cn ad g n') (fun _ hl hne => x_no hl hne (by simp)) (fun _ _ _ => rfl) (fun _ _ _ => rfl) (fun _ _ _ => rfl) (fun _ _ _ => rfl) (fun _ _ _ => rfl) (fun _ _ _ => rfl) (fun _ _ _ => rfl) (fun _ _ _ => rfl) (fun _ _ _ => rfl) (fun _ _ _ => rfl) (fun _ _ _ => rfl) (fun _ _ _ => rfl) (fun _ _ _ => rfl) (fun _ _ _ => rfl) (fun _ _ _ => rfl) (fun _ _ _ => rfl) (fun _ _ _ => rfl) (fun _ _ _ => rfl) (fun _ _ _ => rfl) n' hl hne)
theorem gX_trailHolder (S : CallFix p m c cc nL s args lw_all RX1) (hK : KT D dA s) (h : XS D dA cn A pa g T H) (v : Nat) (hv : g 7 7 = v) (hdg : decode cc pc = .ok (.getfield 56, 3)) (kk : W p l e R s m args below meth c H locs cells slots Q (F0 m (pc + 3) ls (.int (mI v) :: rest))) : W p l e R s m args below meth c H locs cells slots Q (F0 m pc ls (.ref (pa (0, 0)) :: rest)) := by
  subst hv
  exact va_get (D := D) (ci := 0) (C := RX1) (T := TX1) (N := 19) S.1 S.2.1 S.2.2.2.2 in_X1 S.2.2.2.1 hK (h.one (0, 0) rfl rfl rfl (by decide) (by decide) (by decide)) 0 rfl rfl 17 (by decide) (S.2.2.2.2 _ q179) (fun _ h9 => h9) rfl hdg kk
theorem pX_trailHolder (S : CallFix p m c cc nL s args lw_all RX1) (hK : KT D dA s) (h : XS D dA cn A pa g T H) (hS : va_S A s.heap H locs) (v : Nat) (hdg : decode cc pc = .ok (.putfield 56, 3)) (kk : ∀ (H1 : Heap) (locs1 : List Loc), XS D dA cn A pa (gs g 7 7 v) T H1 → va_S A s.heap H1 locs1 → W p l e R s m args below meth c H1 locs1 cells slots Q (F0 m (pc + 3) ls (rest))) : W p l e R s m args below meth c H locs cells slots Q (F0 m pc ls (.int (mI v) :: .ref (pa (0, 0)) :: rest)) := by
  obtain ⟨ad, L, ha, hL, hP⟩ := h
  obtain ⟨k, hk⟩ := zp_idx ((hL (0, 0)).mpr rfl)
  rw [← ha (0, 0) rfl]
  refine va_put (D := D) (ci := 0) (C := RX1) (T := TX1) (N := 19) S.1 S.2.1 S.2.2.2.2 in_X1 tyX1 tyX1_ok nmX1 S.2.2.2.1 hK hP.2.1 hP.2.2 hS k (zp_at hk) rfl 17 (by decide) (S.2.2.2.2 _ q179) (fun _ h9 => h9) rfl (ty := .int) (by decide +kernel) rfl rfl (Nat.le_of_ble_eq_true rfl) hdg (fun H1 locs1 h1 h2 h3 => kk H1 locs1 ?_ h3)
  rw [zp_set hP.1 hk] at h1 h2
  exact XS.of (n := (0, 0)) ha hL ⟨hP.1, h1, h2⟩ (fun _ => rfl) rfl (fun n' hne hl => xc_all (P := fun n' => n' ≠ (0, 0) → xC dA cn ad (gs g 7 7 v) n' = xC dA cn ad g n') (fun _ hl hne => x_no hl hne (by simp)) (fun _ _ _ => rfl) (fun _ _ _ => rfl) (fun _ _ _ => rfl) (fun _ _ _ => rfl) (fun _ _ _ => rfl) (fun _ _ _ => rfl) (fun _ _ _ => rfl) (fun _ _ _ => rfl) (fun _ _ _ => rfl) (fun _ _ _ => rfl) (fun _ _ _ => rfl) (fun _ _ _ => rfl) (fun _ _ _ => rfl) (fun _ _ _ => rfl) (fun _ _ _ => rfl) (fun _ _ _ => rfl) (fun _ _ _ => rfl) (fun _ _ _ => rfl) (fun _ _ _ => rfl) n' hl hne)
theorem gX_armyHolder (S : CallFix p m c cc nL s args lw_all RX1) (hK : KT D dA s) (h : XS D dA cn A pa g T H) (v : Nat) (hv : g 7 8 = v) (hdg : decode cc pc = .ok (.getfield 59, 3)) (kk : W p l e R s m args below meth c H locs cells slots Q (F0 m (pc + 3) ls (.int (mI v) :: rest))) : W p l e R s m args below meth c H locs cells slots Q (F0 m pc ls (.ref (pa (0, 0)) :: rest)) := by
  subst hv
  exact va_get (D := D) (ci := 0) (C := RX1) (T := TX1) (N := 19) S.1 S.2.1 S.2.2.2.2 in_X1 S.2.2.2.1 hK (h.one (0, 0) rfl rfl rfl (by decide) (by decide) (by decide)) 0 rfl rfl 18 (by decide) (S.2.2.2.2 _ q180) (fun _ h9 => h9) rfl hdg kk
theorem pX_armyHolder (S : CallFix p m c cc nL s args lw_all RX1) (hK : KT D dA s) (h : XS D dA cn A pa g T H) (hS : va_S A s.heap H locs) (v : Nat) (hdg : decode cc pc = .ok (.putfield 59, 3)) (kk : ∀ (H1 : Heap) (locs1 : List Loc), XS D dA cn A pa (gs g 7 8 v) T H1 → va_S A s.heap H1 locs1 → W p l e R s m args below meth c H1 locs1 cells slots Q (F0 m (pc + 3) ls (rest))) : W p l e R s m args below meth c H locs cells slots Q (F0 m pc ls (.int (mI v) :: .ref (pa (0, 0)) :: rest)) := by
  obtain ⟨ad, L, ha, hL, hP⟩ := h
  obtain ⟨k, hk⟩ := zp_idx ((hL (0, 0)).mpr rfl)
  rw [← ha (0, 0) rfl]
  refine va_put (D := D) (ci := 0) (C := RX1) (T := TX1) (N := 19) S.1 S.2.1 S.2.2.2.2 in_X1 tyX1 tyX1_ok nmX1 S.2.2.2.1 hK hP.2.1 hP.2.2 hS k (zp_at hk) rfl 18 (by decide) (S.2.2.2.2 _ q180) (fun _ h9 => h9) rfl (ty := .int) (by decide +kernel) rfl rfl (Nat.le_of_ble_eq_true rfl) hdg (fun H1 locs1 h1 h2 h3 => kk H1 locs1 ?_ h3)
  rw [zp_set hP.1 hk] at h1 h2
  exact XS.of (n := (0, 0)) ha hL ⟨hP.1, h1, h2⟩ (fun _ => rfl) rfl (fun n' hne hl => xc_all (P := fun n' => n' ≠ (0, 0) → xC dA cn ad (gs g 7 8 v) n' = xC dA cn ad g n') (fun _ hl hne => x_no hl hne (by simp)) (fun _ _ _ => rfl) (fun _ _ _ => rfl) (fun _ _ _ => rfl) (fun _ _ _ => rfl) (fun _ _ _ => rfl) (fun _ _ _ => rfl) (fun _ _ _ => rfl) (fun _ _ _ => rfl) (fun _ _ _ => rfl) (fun _ _ _ => rfl) (fun _ _ _ => rfl) (fun _ _ _ => rfl) (fun _ _ _ => rfl) (fun _ _ _ => rfl) (fun _ _ _ => rfl) (fun _ _ _ => rfl) (fun _ _ _ => rfl) (fun _ _ _ => rfl) (fun _ _ _ => rfl) n' hl hne)
theorem pX_offerN (S : CallFix p m c cc nL s args lw_all RX1) (hK : KT D dA s) (h : XS D dA cn A pa g T H) (hS : va_S A s.heap H locs) (hdg : decode cc pc = .ok (.putfield 335, 3)) (kk : ∀ (H1 : Heap) (locs1 : List Loc), XS D dA cn A pa (gs (gs g 26 0 0) 26 1 0) T H1 → va_S A s.heap H1 locs1 → W p l e R s m args below meth c H1 locs1 cells slots Q (F0 m (pc + 3) ls (rest))) : W p l e R s m args below meth c H locs cells slots Q (F0 m pc ls (.null :: .ref (pa (0, 0)) :: rest)) := by
  obtain ⟨ad, L, ha, hL, hP⟩ := h
  obtain ⟨k, hk⟩ := zp_idx ((hL (0, 0)).mpr rfl)
  rw [← ha (0, 0) rfl]
  refine va_put (D := D) (ci := 0) (C := RX1) (T := TX1) (N := 19) S.1 S.2.1 S.2.2.2.2 in_X1 tyX1 tyX1_ok nmX1 S.2.2.2.1 hK hP.2.1 hP.2.2 hS k (zp_at hk) rfl 9 (by decide) (S.2.2.2.2 _ q171) (fun _ h9 => h9) rfl (ty := .object "Hexstead$Offer") (by decide +kernel) rfl rfl (Nat.le_of_ble_eq_true rfl) hdg (fun H1 locs1 h1 h2 h3 => kk H1 locs1 ?_ h3)
  rw [zp_set hP.1 hk] at h1 h2
  refine XS.kill (n := (0, 0)) (d := (19, 0)) ha hL ⟨hP.1, h1, h2⟩ (fun n' => ?_) rfl (fun n' hne hnd hl => ?_)
  · by_cases hq : n' = (19, 0)
    · subst hq; simp [xL, gs]
    · simp only [ne_eq, hq, not_false_eq_true, decide_true, Bool.true_and]
      obtain ⟨a, b⟩ := n'
      unfold xL
      split <;> first | rfl | (rename_i h9; have h9 : a = 19 := h9; subst h9; have hb : b ≠ 0 := fun h => hq (by rw [h]); simp only [hb, decide_false, Bool.false_and])
  · exact xc_all (P := fun n' => n' ≠ (0, 0) → n' ≠ (19, 0) → xC dA cn ad (gs (gs g 26 0 0) 26 1 0) n' = xC dA cn ad g n') (fun _ hl hne _ => x_no hl hne (by simp)) (fun _ _ _ _ => rfl) (fun _ _ _ _ => rfl) (fun _ _ _ _ => rfl) (fun _ _ _ _ => rfl) (fun _ _ _ _ => rfl) (fun _ _ _ _ => rfl) (fun _ _ _ _ => rfl) (fun _ _ _ _ => rfl) (fun _ _ _ _ => rfl) (fun _ _ _ _ => rfl) (fun _ _ _ _ => rfl) (fun _ _ _ _ => rfl) (fun _ _ _ _ => rfl) (fun _ _ _ _ => rfl) (fun _ _ _ _ => rfl) (fun _ _ _ _ => rfl) (fun _ _ _ _ => rfl) (fun _ _ _ _ => rfl) (fun _ hl _ hnd => x_no19 hl hnd) n' hl hne hnd
end ZX
