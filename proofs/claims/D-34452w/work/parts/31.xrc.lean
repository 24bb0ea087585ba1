section ZX
variable {D : va_G} {dA : Nat → ClassId} {cn : Nat → Nat} {A : Nat → Prop} {pa : NM → Nat} {g : G} {T : va_W} {H : Heap}
variable {p : Program} {l : Launch} {e : Env} {R : Room} {s : State} {m : MethodId} {args : Array Value} {below : List Frame} {meth : Method} {c : Code} {locs : List Loc} {cells slots : Nat} {Q : State → Prop}
variable {cc : ByteArray} {pc nL : Nat} {ls : Array Slot} {rest : List Value}
theorem gN_hex_corners (S : CallFix p m c cc nL s args lw_all RX1) (hK : KT D dA s) (h : XS D dA cn A pa g T H) (hN : ∀ t ∈ nwX, va_Nw (.fieldLinkNest t.1 t.2.1 t.2.2.1 t.2.2.2.1 t.2.2.2.2.1 t.2.2.2.2.2) s) (w : Nat) (hw : w < 7) (hdg : decode cc pc = .ok (.getfield 115, 3)) (kk : W p l e R s m args below meth c H locs cells slots Q (F0 m (pc + 3) ls (.ref (pa (3, w)) :: rest))) : W p l e R s m args below meth c H locs cells slots Q (F0 m pc ls (.ref (pa (2, w)) :: rest)) := by
  exact va_getN (D := D) (ci := 1) (C := RX2) (T := TX2) (N := 3) S.1 S.2.1 S.2.2.2.2 in_X2 S.2.2.2.1 hK (h.one (2, w) rfl (by simp [xL, hw]) rfl (show (2 : Nat) ≠ 11 by decide) (show (2 : Nat) ≠ 14 by decide) (show (2 : Nat) ≠ 15 by decide)) 0 rfl rfl 0 (by decide) (va_Nw.use rfl (hN _ (List.mem_of_getElem? (i := 1) rfl))) (fun _ h9 => h9) rfl hdg kk
theorem gN_hex_good (S : CallFix p m c cc nL s args lw_all RX1) (hK : KT D dA s) (h : XS D dA cn A pa g T H) (hN : ∀ t ∈ nwX, va_Nw (.fieldLinkNest t.1 t.2.1 t.2.2.1 t.2.2.2.1 t.2.2.2.2.1 t.2.2.2.2.2) s) (w : Nat) (hw : w < 7) (v : Nat) (hv : g 0 w = v) (hdg : decode cc pc = .ok (.getfield 65, 3)) (kk : W p l e R s m args below meth c H locs cells slots Q (F0 m (pc + 3) ls (.int (nI v) :: rest))) : W p l e R s m args below meth c H locs cells slots Q (F0 m pc ls (.ref (pa (2, w)) :: rest)) := by
  subst hv
  exact va_getN (D := D) (ci := 1) (C := RX2) (T := TX2) (N := 3) S.1 S.2.1 S.2.2.2.2 in_X2 S.2.2.2.1 hK (h.one (2, w) rfl (by simp [xL, hw]) rfl (show (2 : Nat) ≠ 11 by decide) (show (2 : Nat) ≠ 14 by decide) (show (2 : Nat) ≠ 15 by decide)) 0 rfl rfl 1 (by decide) (va_Nw.use rfl (hN _ (List.mem_of_getElem? (i := 2) rfl))) (fun _ h9 => h9) rfl hdg kk
theorem gN_hex_number (S : CallFix p m c cc nL s args lw_all RX1) (hK : KT D dA s) (h : XS D dA cn A pa g T H) (hN : ∀ t ∈ nwX, va_Nw (.fieldLinkNest t.1 t.2.1 t.2.2.1 t.2.2.2.1 t.2.2.2.2.1 t.2.2.2.2.2) s) (w : Nat) (hw : w < 7) (v : Nat) (hv : g 1 w = v) (hdg : decode cc pc = .ok (.getfield 118, 3)) (kk : W p l e R s m args below meth c H locs cells slots Q (F0 m (pc + 3) ls (.int (nI v) :: rest))) : W p l e R s m args below meth c H locs cells slots Q (F0 m pc ls (.ref (pa (2, w)) :: rest)) := by
  subst hv
  exact va_getN (D := D) (ci := 1) (C := RX2) (T := TX2) (N := 3) S.1 S.2.1 S.2.2.2.2 in_X2 S.2.2.2.1 hK (h.one (2, w) rfl (by simp [xL, hw]) rfl (show (2 : Nat) ≠ 11 by decide) (show (2 : Nat) ≠ 14 by decide) (show (2 : Nat) ≠ 15 by decide)) 0 rfl rfl 2 (by decide) (va_Nw.use rfl (hN _ (List.mem_of_getElem? (i := 3) rfl))) (fun _ h9 => h9) rfl hdg kk
theorem gN_card_kind (S : CallFix p m c cc nL s args lw_all RX1) (hK : KT D dA s) (h : XS D dA cn A pa g T H) (hN : ∀ t ∈ nwX, va_Nw (.fieldLinkNest t.1 t.2.1 t.2.2.1 t.2.2.2.1 t.2.2.2.2.1 t.2.2.2.2.2) s) (w : Nat) (hw : w < g 8 0) (hdg : decode cc pc = .ok (.getfield 169, 3)) (kk : W p l e R s m args below meth c H locs cells slots Q (F0 m (pc + 3) ls (.ref (cn (3 + deckK w)) :: rest))) : W p l e R s m args below meth c H locs cells slots Q (F0 m pc ls (.ref (pa (13, w)) :: rest)) := by
  exact va_getN (D := D) (ci := 6) (C := RX8) (T := TX8) (N := 4) S.1 S.2.1 S.2.2.2.2 in_X8 S.2.2.2.1 hK (h.one (13, w) rfl (by simp [xL, hw]) rfl (show (13 : Nat) ≠ 11 by decide) (show (13 : Nat) ≠ 14 by decide) (show (13 : Nat) ≠ 15 by decide)) 0 rfl rfl 0 (by decide) (va_Nw.use rfl (hN _ (List.mem_of_getElem? (i := 5) rfl))) (fun _ h9 => h9) rfl hdg kk
theorem gN_card_owner (S : CallFix p m c cc nL s args lw_all RX1) (hK : KT D dA s) (h : XS D dA cn A pa g T H) (hN : ∀ t ∈ nwX, va_Nw (.fieldLinkNest t.1 t.2.1 t.2.2.1 t.2.2.2.1 t.2.2.2.2.1 t.2.2.2.2.2) s) (w : Nat) (hw : w < g 8 0) (v : Nat) (hv : g 9 w = v) (hdg : decode cc pc = .ok (.getfield 167, 3)) (kk : W p l e R s m args below meth c H locs cells slots Q (F0 m (pc + 3) ls (.int (nI v) :: rest))) : W p l e R s m args below meth c H locs cells slots Q (F0 m pc ls (.ref (pa (13, w)) :: rest)) := by
  subst hv
  exact va_getN (D := D) (ci := 6) (C := RX8) (T := TX8) (N := 4) S.1 S.2.1 S.2.2.2.2 in_X8 S.2.2.2.1 hK (h.one (13, w) rfl (by simp [xL, hw]) rfl (show (13 : Nat) ≠ 11 by decide) (show (13 : Nat) ≠ 14 by decide) (show (13 : Nat) ≠ 15 by decide)) 0 rfl rfl 1 (by decide) (va_Nw.use rfl (hN _ (List.mem_of_getElem? (i := 6) rfl))) (fun _ h9 => h9) rfl hdg kk
theorem gN_card_bought (S : CallFix p m c cc nL s args lw_all RX1) (hK : KT D dA s) (h : XS D dA cn A pa g T H) (hN : ∀ t ∈ nwX, va_Nw (.fieldLinkNest t.1 t.2.1 t.2.2.1 t.2.2.2.1 t.2.2.2.2.1 t.2.2.2.2.2) s) (w : Nat) (hw : w < g 8 0) (v : Nat) (hv : g 10 w = v) (hdg : decode cc pc = .ok (.getfield 182, 3)) (kk : W p l e R s m args below meth c H locs cells slots Q (F0 m (pc + 3) ls (.int (nI v) :: rest))) : W p l e R s m args below meth c H locs cells slots Q (F0 m pc ls (.ref (pa (13, w)) :: rest)) := by
  subst hv
  exact va_getN (D := D) (ci := 6) (C := RX8) (T := TX8) (N := 4) S.1 S.2.1 S.2.2.2.2 in_X8 S.2.2.2.1 hK (h.one (13, w) rfl (by simp [xL, hw]) rfl (show (13 : Nat) ≠ 11 by decide) (show (13 : Nat) ≠ 14 by decide) (show (13 : Nat) ≠ 15 by decide)) 0 rfl rfl 2 (by decide) (va_Nw.use rfl (hN _ (List.mem_of_getElem? (i := 7) rfl))) (fun _ h9 => h9) rfl hdg kk
theorem gN_card_isUsed (S : CallFix p m c cc nL s args lw_all RX1) (hK : KT D dA s) (h : XS D dA cn A pa g T H) (hN : ∀ t ∈ nwX, va_Nw (.fieldLinkNest t.1 t.2.1 t.2.2.1 t.2.2.2.1 t.2.2.2.2.1 t.2.2.2.2.2) s) (w : Nat) (hw : w < g 8 0) (v : Nat) (hv : g 11 w = v) (hdg : decode cc pc = .ok (.getfield 188, 3)) (kk : W p l e R s m args below meth c H locs cells slots Q (F0 m (pc + 3) ls (.int (nI v) :: rest))) : W p l e R s m args below meth c H locs cells slots Q (F0 m pc ls (.ref (pa (13, w)) :: rest)) := by
  subst hv
  exact va_getN (D := D) (ci := 6) (C := RX8) (T := TX8) (N := 4) S.1 S.2.1 S.2.2.2.2 in_X8 S.2.2.2.1 hK (h.one (13, w) rfl (by simp [xL, hw]) rfl (show (13 : Nat) ≠ 11 by decide) (show (13 : Nat) ≠ 14 by decide) (show (13 : Nat) ≠ 15 by decide)) 0 rfl rfl 3 (by decide) (va_Nw.use rfl (hN _ (List.mem_of_getElem? (i := 8) rfl))) (fun _ h9 => h9) rfl hdg kk
theorem gN_ctr_give (S : CallFix p m c cc nL s args lw_all RX1) (hK : KT D dA s) (h : XS D dA cn A pa g T H) (hN : ∀ t ∈ nwX, va_Nw (.fieldLinkNest t.1 t.2.1 t.2.2.1 t.2.2.2.1 t.2.2.2.2.1 t.2.2.2.2.2) s) (w : Nat) (hw : w < 3) (hy : decide (g 16 w ≠ 0) = true) (v : Nat) (hv : g 16 w = v) (hdg : decode cc pc = .ok (.getfield 344, 3)) (kk : W p l e R s m args below meth c H locs cells slots Q (F0 m (pc + 3) ls (.int (nI v) :: rest))) : W p l e R s m args below meth c H locs cells slots Q (F0 m pc ls (.ref (pa (18, w)) :: rest)) := by
  subst hv
  exact va_getN (D := D) (ci := 7) (C := RX9) (T := TX9) (N := 2) S.1 S.2.1 S.2.2.2.2 in_X9 S.2.2.2.1 hK (h.one (18, w) rfl (by simp only [decide_eq_true_eq] at hy; simp [xL, hw, hy]) rfl (show (18 : Nat) ≠ 11 by decide) (show (18 : Nat) ≠ 14 by decide) (show (18 : Nat) ≠ 15 by decide)) 0 rfl rfl 0 (by decide) (va_Nw.use rfl (hN _ (List.mem_of_getElem? (i := 9) rfl))) (fun _ h9 => h9) rfl hdg kk
theorem gN_ctr_want (S : CallFix p m c cc nL s args lw_all RX1) (hK : KT D dA s) (h : XS D dA cn A pa g T H) (hN : ∀ t ∈ nwX, va_Nw (.fieldLinkNest t.1 t.2.1 t.2.2.1 t.2.2.2.1 t.2.2.2.2.1 t.2.2.2.2.2) s) (w : Nat) (hw : w < 3) (hy : decide (g 16 w ≠ 0) = true) (v : Nat) (hv : g 17 w = v) (hdg : decode cc pc = .ok (.getfield 346, 3)) (kk : W p l e R s m args below meth c H locs cells slots Q (F0 m (pc + 3) ls (.int (nI v) :: rest))) : W p l e R s m args below meth c H locs cells slots Q (F0 m pc ls (.ref (pa (18, w)) :: rest)) := by
  subst hv
  exact va_getN (D := D) (ci := 7) (C := RX9) (T := TX9) (N := 2) S.1 S.2.1 S.2.2.2.2 in_X9 S.2.2.2.1 hK (h.one (18, w) rfl (by simp only [decide_eq_true_eq] at hy; simp [xL, hw, hy]) rfl (show (18 : Nat) ≠ 11 by decide) (show (18 : Nat) ≠ 14 by decide) (show (18 : Nat) ≠ 15 by decide)) 0 rfl rfl 1 (by decide) (va_Nw.use rfl (hN _ (List.mem_of_getElem? (i := 10) rfl))) (fun _ h9 => h9) rfl hdg kk
theorem gN_off_give (S : CallFix p m c cc nL s args lw_all RX1) (hK : KT D dA s) (h : XS D dA cn A pa g T H) (hN : ∀ t ∈ nwX, va_Nw (.fieldLinkNest t.1 t.2.1 t.2.2.1 t.2.2.2.1 t.2.2.2.2.1 t.2.2.2.2.2) s) (hy : decide (g 26 0 ≠ 0) = true) (v : Nat) (hv : g 26 0 = v) (hdg : decode cc pc = .ok (.getfield 344, 3)) (kk : W p l e R s m args below meth c H locs cells slots Q (F0 m (pc + 3) ls (.int (nI v) :: rest))) : W p l e R s m args below meth c H locs cells slots Q (F0 m pc ls (.ref (pa (19, 0)) :: rest)) := by
  subst hv
  exact va_getN (D := D) (ci := 7) (C := RX9) (T := TX9) (N := 2) S.1 S.2.1 S.2.2.2.2 in_X9 S.2.2.2.1 hK (h.one (19, 0) rfl (by simp only [decide_eq_true_eq] at hy; simp [xL, hy]) rfl (by decide) (by decide) (by decide)) 0 rfl rfl 0 (by decide) (va_Nw.use rfl (hN _ (List.mem_of_getElem? (i := 9) rfl))) (fun _ h9 => h9) rfl hdg kk
theorem gN_off_want (S : CallFix p m c cc nL s args lw_all RX1) (hK : KT D dA s) (h : XS D dA cn A pa g T H) (hN : ∀ t ∈ nwX, va_Nw (.fieldLinkNest t.1 t.2.1 t.2.2.1 t.2.2.2.1 t.2.2.2.2.1 t.2.2.2.2.2) s) (hy : decide (g 26 0 ≠ 0) = true) (v : Nat) (hv : g 26 1 = v) (hdg : decode cc pc = .ok (.getfield 346, 3)) (kk : W p l e R s m args below meth c H locs cells slots Q (F0 m (pc + 3) ls (.int (nI v) :: rest))) : W p l e R s m args below meth c H locs cells slots Q (F0 m pc ls (.ref (pa (19, 0)) :: rest)) := by
  subst hv
  exact va_getN (D := D) (ci := 7) (C := RX9) (T := TX9) (N := 2) S.1 S.2.1 S.2.2.2.2 in_X9 S.2.2.2.1 hK (h.one (19, 0) rfl (by simp only [decide_eq_true_eq] at hy; simp [xL, hy]) rfl (by decide) (by decide) (by decide)) 0 rfl rfl 1 (by decide) (va_Nw.use rfl (hN _ (List.mem_of_getElem? (i := 10) rfl))) (fun _ h9 => h9) rfl hdg kk
theorem pN_hex_good (S : CallFix p m c cc nL s args lw_all RX1) (hK : KT D dA s) (h : XS D dA cn A pa g T H) (hN : ∀ t ∈ nwX, va_Nw (.fieldLinkNest t.1 t.2.1 t.2.2.1 t.2.2.2.1 t.2.2.2.2.1 t.2.2.2.2.2) s) (hS : va_S A s.heap H locs) (w : Nat) (hw : w < 7) (v : Nat) (hdg : decode cc pc = .ok (.putfield 65, 3)) (kk : ∀ (H1 : Heap) (locs1 : List Loc), XS D dA cn A pa (gs g 0 w v) T H1 → va_S A s.heap H1 locs1 → W p l e R s m args below meth c H1 locs1 cells slots Q (F0 m (pc + 3) ls (rest))) : W p l e R s m args below meth c H locs cells slots Q (F0 m pc ls (.int (nI v) :: .ref (pa (2, w)) :: rest)) := by
  obtain ⟨ad, L, ha, hL, hP⟩ := h
  obtain ⟨k, hk⟩ := zp_idx ((hL (2, w)).mpr (by simp [xL, hw]))
  rw [← ha (2, w) rfl]
  refine va_putN (D := D) (ci := 1) (C := RX2) (T := TX2) (N := 3) S.1 S.2.1 S.2.2.2.2 in_X2 tyX2 tyX2_ok nmX2 S.2.2.2.1 hK hP.2.1 hP.2.2 hS k (zp_at hk) rfl 1 (by decide) (va_Nw.use rfl (hN _ (List.mem_of_getElem? (i := 2) rfl))) (fun _ h9 => h9) rfl (ty := .int) (by decide +kernel) rfl rfl (Nat.le_of_ble_eq_true rfl) hdg (fun H1 locs1 h1 h2 h3 => kk H1 locs1 ?_ h3)
  rw [zp_set hP.1 hk] at h1 h2
  refine XS.of (n := (2, w)) ha hL ⟨hP.1, h1, h2⟩ (fun _ => rfl) ?_ (fun n' hne hl => ?_)
  · unfold xC
    simp [gs]
  · refine xc_all (P := fun n' => n' ≠ (2, w) → xC dA cn ad (gs g 0 w v) n' = xC dA cn ad g n') (fun _ _ _ => rfl) (fun _ _ _ => rfl) ?_ (fun _ _ _ => rfl) (fun _ _ _ => rfl) (fun _ _ _ => rfl) (fun _ _ _ => rfl) (fun _ _ _ => rfl) (fun _ _ _ => rfl) (fun _ _ _ => rfl) (fun _ _ _ => rfl) (fun _ _ _ => rfl) (fun _ _ _ => rfl) (fun _ _ _ => rfl) (fun _ _ _ => rfl) (fun _ _ _ => rfl) (fun _ _ _ => rfl) (fun _ _ _ => rfl) (fun _ _ _ => rfl) (fun _ _ _ => rfl) n' hl hne
    intro b _ hne
    have hb : b ≠ w := fun hq => hne (by rw [hq])
    show xC dA cn ad _ _ = xC dA cn ad _ _
    unfold xC
    simp only [gs_ni _ hb]
    try rfl
theorem pN_hex_number (S : CallFix p m c cc nL s args lw_all RX1) (hK : KT D dA s) (h : XS D dA cn A pa g T H) (hN : ∀ t ∈ nwX, va_Nw (.fieldLinkNest t.1 t.2.1 t.2.2.1 t.2.2.2.1 t.2.2.2.2.1 t.2.2.2.2.2) s) (hS : va_S A s.heap H locs) (w : Nat) (hw : w < 7) (v : Nat) (hdg : decode cc pc = .ok (.putfield 118, 3)) (kk : ∀ (H1 : Heap) (locs1 : List Loc), XS D dA cn A pa (gs g 1 w v) T H1 → va_S A s.heap H1 locs1 → W p l e R s m args below meth c H1 locs1 cells slots Q (F0 m (pc + 3) ls (rest))) : W p l e R s m args below meth c H locs cells slots Q (F0 m pc ls (.int (nI v) :: .ref (pa (2, w)) :: rest)) := by
  obtain ⟨ad, L, ha, hL, hP⟩ := h
  obtain ⟨k, hk⟩ := zp_idx ((hL (2, w)).mpr (by simp [xL, hw]))
  rw [← ha (2, w) rfl]
  refine va_putN (D := D) (ci := 1) (C := RX2) (T := TX2) (N := 3) S.1 S.2.1 S.2.2.2.2 in_X2 tyX2 tyX2_ok nmX2 S.2.2.2.1 hK hP.2.1 hP.2.2 hS k (zp_at hk) rfl 2 (by decide) (va_Nw.use rfl (hN _ (List.mem_of_getElem? (i := 3) rfl))) (fun _ h9 => h9) rfl (ty := .int) (by decide +kernel) rfl rfl (Nat.le_of_ble_eq_true rfl) hdg (fun H1 locs1 h1 h2 h3 => kk H1 locs1 ?_ h3)
  rw [zp_set hP.1 hk] at h1 h2
  refine XS.of (n := (2, w)) ha hL ⟨hP.1, h1, h2⟩ (fun _ => rfl) ?_ (fun n' hne hl => ?_)
  · unfold xC
    simp [gs]
  · refine xc_all (P := fun n' => n' ≠ (2, w) → xC dA cn ad (gs g 1 w v) n' = xC dA cn ad g n') (fun _ _ _ => rfl) (fun _ _ _ => rfl) ?_ (fun _ _ _ => rfl) (fun _ _ _ => rfl) (fun _ _ _ => rfl) (fun _ _ _ => rfl) (fun _ _ _ => rfl) (fun _ _ _ => rfl) (fun _ _ _ => rfl) (fun _ _ _ => rfl) (fun _ _ _ => rfl) (fun _ _ _ => rfl) (fun _ _ _ => rfl) (fun _ _ _ => rfl) (fun _ _ _ => rfl) (fun _ _ _ => rfl) (fun _ _ _ => rfl) (fun _ _ _ => rfl) (fun _ _ _ => rfl) n' hl hne
    intro b _ hne
    have hb : b ≠ w := fun hq => hne (by rw [hq])
    show xC dA cn ad _ _ = xC dA cn ad _ _
    unfold xC
    simp only [gs_ni _ hb]
    try rfl
theorem pN_card_isUsed (S : CallFix p m c cc nL s args lw_all RX1) (hK : KT D dA s) (h : XS D dA cn A pa g T H) (hN : ∀ t ∈ nwX, va_Nw (.fieldLinkNest t.1 t.2.1 t.2.2.1 t.2.2.2.1 t.2.2.2.2.1 t.2.2.2.2.2) s) (hS : va_S A s.heap H locs) (w : Nat) (hw : w < g 8 0) (v : Nat) (hz : v < 2) (hdg : decode cc pc = .ok (.putfield 188, 3)) (kk : ∀ (H1 : Heap) (locs1 : List Loc), XS D dA cn A pa (gs g 11 w v) T H1 → va_S A s.heap H1 locs1 → W p l e R s m args below meth c H1 locs1 cells slots Q (F0 m (pc + 3) ls (rest))) : W p l e R s m args below meth c H locs cells slots Q (F0 m pc ls (.int (nI v) :: .ref (pa (13, w)) :: rest)) := by
  obtain ⟨ad, L, ha, hL, hP⟩ := h
  obtain ⟨k, hk⟩ := zp_idx ((hL (13, w)).mpr (by simp [xL, hw]))
  rw [← ha (13, w) rfl]
  refine va_putN (D := D) (ci := 6) (C := RX8) (T := TX8) (N := 4) S.1 S.2.1 S.2.2.2.2 in_X8 tyX8 tyX8_ok nmX8 S.2.2.2.1 hK hP.2.1 hP.2.2 hS k (zp_at hk) rfl 3 (by decide) (va_Nw.use rfl (hN _ (List.mem_of_getElem? (i := 8) rfl))) (fun _ h9 => h9) rfl (ty := .boolean) (by decide +kernel) (by rcases (show v = 0 ∨ v = 1 by omega) with rfl | rfl <;> rfl) (by rcases (show v = 0 ∨ v = 1 by omega) with rfl | rfl <;> rfl) (Nat.le_of_ble_eq_true rfl) hdg (fun H1 locs1 h1 h2 h3 => kk H1 locs1 ?_ h3)
  rw [zp_set hP.1 hk] at h1 h2
  refine XS.of (n := (13, w)) ha hL ⟨hP.1, h1, h2⟩ (fun _ => rfl) ?_ (fun n' hne hl => ?_)
  · unfold xC
    simp [gs]
  · refine xc_all (P := fun n' => n' ≠ (13, w) → xC dA cn ad (gs g 11 w v) n' = xC dA cn ad g n') (fun _ _ _ => rfl) (fun _ _ _ => rfl) (fun _ _ _ => rfl) (fun _ _ _ => rfl) (fun _ _ _ => rfl) (fun _ _ _ => rfl) (fun _ _ _ => rfl) (fun _ _ _ => rfl) (fun _ _ _ => rfl) (fun _ _ _ => rfl) (fun _ _ _ => rfl) (fun _ _ _ => rfl) (fun _ _ _ => rfl) ?_ (fun _ _ _ => rfl) (fun _ _ _ => rfl) (fun _ _ _ => rfl) (fun _ _ _ => rfl) (fun _ _ _ => rfl) (fun _ _ _ => rfl) n' hl hne
    intro b _ hne
    have hb : b ≠ w := fun hq => hne (by rw [hq])
    show xC dA cn ad _ _ = xC dA cn ad _ _
    unfold xC
    simp only [gs_ni _ hb]
    try rfl
end ZX
