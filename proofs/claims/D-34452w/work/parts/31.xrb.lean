section ZX
variable {D : va_G} {dA : Nat → ClassId} {cn : Nat → Nat} {A : Nat → Prop} {pa : NM → Nat} {g : G} {T : va_W} {H : Heap}
variable {p : Program} {l : Launch} {e : Env} {R : Room} {s : State} {m : MethodId} {args : Array Value} {below : List Frame} {meth : Method} {c : Code} {locs : List Loc} {cells slots : Nat} {Q : State → Prop}
variable {cc : ByteArray} {pc nL : Nat} {ls : Array Slot} {rest : List Value}
theorem lX_roads (S : CallFix p m c cc nL s args lw_all RX1) (hK : KT D dA s) (h : XS D dA cn A pa g T H) (i : Nat) (hi : i < 30) (v : Nat) (hv : g 3 i = v) (hdg : decode cc pc = .ok (.iaload, 1)) (kk : W p l e R s m args below meth c H locs cells slots Q (F0 m (pc + 1) ls (.int (mI v) :: rest))) : W p l e R s m args below meth c H locs cells slots Q (F0 m pc ls (.int (nI i) :: .ref (pa (6, 0)) :: rest)) :=
  va_iald (D := D) S.1 S.2.1 hK (h.one (6, 0) rfl rfl rfl (by decide) (by decide) (by decide)) 0 0 rfl rfl (vp_in_nI hi (by decide)) hdg (by rw [nI_clamp (by omega), hv]; exact kk)
theorem sX_roads (S : CallFix p m c cc nL s args lw_all RX1) (hK : KT D dA s) (h : XS D dA cn A pa g T H) (hS : va_S A s.heap H locs) (i : Nat) (hi : i < 30) (v : Nat) (hdg : decode cc pc = .ok (.iastore, 1)) (kk : ∀ (H1 : Heap) (locs1 : List Loc), XS D dA cn A pa (gs g 3 i v) T H1 → va_S A s.heap H1 locs1 → W p l e R s m args below meth c H1 locs1 cells slots Q (F0 m (pc + 1) ls (rest))) : W p l e R s m args below meth c H locs cells slots Q (F0 m pc ls (.int (mI v) :: .int (nI i) :: .ref (pa (6, 0)) :: rest)) := by
  obtain ⟨ad, L, ha, hL, hP⟩ := h
  obtain ⟨k, hk⟩ := zp_idx ((hL (6, 0)).mpr rfl)
  rw [← ha (6, 0) rfl]
  refine va_iast (D := D) S.1 S.2.1 hK hP.2.1 hP.2.2 hS k 0 (zp_at hk) rfl (vp_in_nI hi (by decide)) hdg (fun H1 locs1 h1 h2 h3 => kk H1 locs1 ?_ h3)
  rw [nI_clamp (by omega), xk_updM, zp_set hP.1 hk] at h1 h2
  exact XS.of (n := (6, 0)) ha hL ⟨hP.1, h1, h2⟩ (fun _ => rfl) rfl (fun n' hne hl => xc_all (P := fun n' => n' ≠ (6, 0) → xC dA cn ad (gs g 3 i v) n' = xC dA cn ad g n') (fun _ _ _ => rfl) (fun _ _ _ => rfl) (fun _ _ _ => rfl) (fun _ _ _ => rfl) (fun _ _ _ => rfl) (fun _ _ _ => rfl) (fun _ hl hne => x_no hl hne (by simp)) (fun _ _ _ => rfl) (fun _ _ _ => rfl) (fun _ _ _ => rfl) (fun _ _ _ => rfl) (fun _ _ _ => rfl) (fun _ _ _ => rfl) (fun _ _ _ => rfl) (fun _ _ _ => rfl) (fun _ _ _ => rfl) (fun _ _ _ => rfl) (fun _ _ _ => rfl) (fun _ _ _ => rfl) (fun _ _ _ => rfl) n' hl hne)
theorem lX_due (S : CallFix p m c cc nL s args lw_all RX1) (hK : KT D dA s) (h : XS D dA cn A pa g T H) (i : Nat) (hi : i < 3) (v : Nat) (hv : g 5 i = v) (hdg : decode cc pc = .ok (.iaload, 1)) (kk : W p l e R s m args below meth c H locs cells slots Q (F0 m (pc + 1) ls (.int (nI v) :: rest))) : W p l e R s m args below meth c H locs cells slots Q (F0 m pc ls (.int (nI i) :: .ref (pa (9, 0)) :: rest)) :=
  va_iald (D := D) S.1 S.2.1 hK (h.one (9, 0) rfl rfl rfl (by decide) (by decide) (by decide)) 0 0 rfl rfl (vp_in_nI hi (by decide)) hdg (by rw [nI_clamp (by omega), hv]; exact kk)
theorem sX_due (S : CallFix p m c cc nL s args lw_all RX1) (hK : KT D dA s) (h : XS D dA cn A pa g T H) (hS : va_S A s.heap H locs) (i : Nat) (hi : i < 3) (v : Nat) (hdg : decode cc pc = .ok (.iastore, 1)) (kk : ∀ (H1 : Heap) (locs1 : List Loc), XS D dA cn A pa (gs g 5 i v) T H1 → va_S A s.heap H1 locs1 → W p l e R s m args below meth c H1 locs1 cells slots Q (F0 m (pc + 1) ls (rest))) : W p l e R s m args below meth c H locs cells slots Q (F0 m pc ls (.int (nI v) :: .int (nI i) :: .ref (pa (9, 0)) :: rest)) := by
  obtain ⟨ad, L, ha, hL, hP⟩ := h
  obtain ⟨k, hk⟩ := zp_idx ((hL (9, 0)).mpr rfl)
  rw [← ha (9, 0) rfl]
  refine va_iast (D := D) S.1 S.2.1 hK hP.2.1 hP.2.2 hS k 0 (zp_at hk) rfl (vp_in_nI hi (by decide)) hdg (fun H1 locs1 h1 h2 h3 => kk H1 locs1 ?_ h3)
  rw [nI_clamp (by omega), zk_upd, zp_set hP.1 hk] at h1 h2
  exact XS.of (n := (9, 0)) ha hL ⟨hP.1, h1, h2⟩ (fun _ => rfl) rfl (fun n' hne hl => xc_all (P := fun n' => n' ≠ (9, 0) → xC dA cn ad (gs g 5 i v) n' = xC dA cn ad g n') (fun _ _ _ => rfl) (fun _ _ _ => rfl) (fun _ _ _ => rfl) (fun _ _ _ => rfl) (fun _ _ _ => rfl) (fun _ _ _ => rfl) (fun _ _ _ => rfl) (fun _ _ _ => rfl) (fun _ _ _ => rfl) (fun _ hl hne => x_no hl hne (by simp)) (fun _ _ _ => rfl) (fun _ _ _ => rfl) (fun _ _ _ => rfl) (fun _ _ _ => rfl) (fun _ _ _ => rfl) (fun _ _ _ => rfl) (fun _ _ _ => rfl) (fun _ _ _ => rfl) (fun _ _ _ => rfl) (fun _ _ _ => rfl) n' hl hne)
theorem lX_knights (S : CallFix p m c cc nL s args lw_all RX1) (hK : KT D dA s) (h : XS D dA cn A pa g T H) (i : Nat) (hi : i < 3) (v : Nat) (hv : g 6 i = v) (hdg : decode cc pc = .ok (.iaload, 1)) (kk : W p l e R s m args below meth c H locs cells slots Q (F0 m (pc + 1) ls (.int (nI v) :: rest))) : W p l e R s m args below meth c H locs cells slots Q (F0 m pc ls (.int (nI i) :: .ref (pa (10, 0)) :: rest)) :=
  va_iald (D := D) S.1 S.2.1 hK (h.one (10, 0) rfl rfl rfl (by decide) (by decide) (by decide)) 0 0 rfl rfl (vp_in_nI hi (by decide)) hdg (by rw [nI_clamp (by omega), hv]; exact kk)
theorem sX_knights (S : CallFix p m c cc nL s args lw_all RX1) (hK : KT D dA s) (h : XS D dA cn A pa g T H) (hS : va_S A s.heap H locs) (i : Nat) (hi : i < 3) (v : Nat) (hdg : decode cc pc = .ok (.iastore, 1)) (kk : ∀ (H1 : Heap) (locs1 : List Loc), XS D dA cn A pa (gs g 6 i v) T H1 → va_S A s.heap H1 locs1 → W p l e R s m args below meth c H1 locs1 cells slots Q (F0 m (pc + 1) ls (rest))) : W p l e R s m args below meth c H locs cells slots Q (F0 m pc ls (.int (nI v) :: .int (nI i) :: .ref (pa (10, 0)) :: rest)) := by
  obtain ⟨ad, L, ha, hL, hP⟩ := h
  obtain ⟨k, hk⟩ := zp_idx ((hL (10, 0)).mpr rfl)
  rw [← ha (10, 0) rfl]
  refine va_iast (D := D) S.1 S.2.1 hK hP.2.1 hP.2.2 hS k 0 (zp_at hk) rfl (vp_in_nI hi (by decide)) hdg (fun H1 locs1 h1 h2 h3 => kk H1 locs1 ?_ h3)
  rw [nI_clamp (by omega), zk_upd, zp_set hP.1 hk] at h1 h2
  exact XS.of (n := (10, 0)) ha hL ⟨hP.1, h1, h2⟩ (fun _ => rfl) rfl (fun n' hne hl => xc_all (P := fun n' => n' ≠ (10, 0) → xC dA cn ad (gs g 6 i v) n' = xC dA cn ad g n') (fun _ _ _ => rfl) (fun _ _ _ => rfl) (fun _ _ _ => rfl) (fun _ _ _ => rfl) (fun _ _ _ => rfl) (fun _ _ _ => rfl) (fun _ _ _ => rfl) (fun _ _ _ => rfl) (fun _ _ _ => rfl) (fun _ _ _ => rfl) (fun _ hl hne => x_no hl hne (by simp)) (fun _ _ _ => rfl) (fun _ _ _ => rfl) (fun _ _ _ => rfl) (fun _ _ _ => rfl) (fun _ _ _ => rfl) (fun _ _ _ => rfl) (fun _ _ _ => rfl) (fun _ _ _ => rfl) (fun _ _ _ => rfl) n' hl hne)
theorem lX_hands (S : CallFix p m c cc nL s args lw_all RX1) (hK : KT D dA s) (h : XS D dA cn A pa g T H) (i : Nat) (hi : i < 4) (hdg : decode cc pc = .ok (.aaload, 1)) (kk : W p l e R s m args below meth c H locs cells slots Q (F0 m (pc + 1) ls (.ref (pa (8, i)) :: rest))) : W p l e R s m args below meth c H locs cells slots Q (F0 m pc ls (.int (nI i) :: .ref (pa (7, 0)) :: rest)) := by
  have hc := nI_clamp (n := i) (by omega)
  have hv : vp_in (nI i) 4 := vp_in_nI hi (by decide)
  exact W.aald (v := va_rf (some (pa (8, i)))) (ty := .array .int) S.1 S.2.1 ((h.one (7, 0) rfl rfl rfl (by decide) (by decide) (by decide)) 0 _ rfl) ((hK.2 3 _ rfl).1 4 (fun j => va_rf (some (pa (8, j))))) rfl (fun q => by cases q) (by show ¬ (nI i < 0 ∨ (arrV _ _ _).slots.size ≤ _); rw [arrV_size]; exact hv) (by show (arrV _ _ _).slots[_]? = _; rw [hc, arrV_read _ _ hi]) rfl rfl hdg kk
theorem xh_upd (g : G) {p i : Nat} (v : Nat) (hi : i < 5) : upd (fun k => if k < 5 then nI (g 4 (5 * p + k)) else nI 0) i (nI v) = fun k => if k < 5 then nI (gs g 4 (5 * p + i) v 4 (5 * p + k)) else nI 0 := by
  funext j
  unfold upd gs
  by_cases h : j = i
  · simp [h, hi]
  · have h2 : ¬ (5 * p + j = 5 * p + i) := by omega
    simp [h]
theorem xh_far (g : G) {p q i : Nat} (v : Nat) (hi : i < 5) (hq : q ≠ p) : (fun k => if k < 5 then nI (gs g 4 (5 * p + i) v 4 (5 * q + k)) else nI 0) = fun k => if k < 5 then nI (g 4 (5 * q + k)) else nI 0 := by
  funext k
  by_cases h : k < 5
  · rw [if_pos h, if_pos h, gs_ni _ (show 5 * q + k ≠ 5 * p + i by omega)]
  · rw [if_neg h, if_neg h]
theorem lX_hand (S : CallFix p m c cc nL s args lw_all RX1) (hK : KT D dA s) (h : XS D dA cn A pa g T H) (w : Nat) (hp : w < 4) (i : Nat) (hi : i < 5) (v : Nat) (hv : g 4 (5 * w + i) = v) (hdg : decode cc pc = .ok (.iaload, 1)) (kk : W p l e R s m args below meth c H locs cells slots Q (F0 m (pc + 1) ls (.int (nI v) :: rest))) : W p l e R s m args below meth c H locs cells slots Q (F0 m pc ls (.int (nI i) :: .ref (pa (8, w)) :: rest)) :=
  va_iald (D := D) S.1 S.2.1 hK (h.one (8, w) rfl (by simp [xL, hp]) rfl (show (8 : Nat) ≠ 11 by decide) (show (8 : Nat) ≠ 14 by decide) (show (8 : Nat) ≠ 15 by decide)) 0 0 rfl rfl (vp_in_nI hi (by decide)) hdg (by rw [nI_clamp (by omega), if_pos hi, hv]; exact kk)
theorem sX_hand (S : CallFix p m c cc nL s args lw_all RX1) (hK : KT D dA s) (h : XS D dA cn A pa g T H) (hS : va_S A s.heap H locs) (w : Nat) (hp : w < 4) (i : Nat) (hi : i < 5) (v : Nat) (hdg : decode cc pc = .ok (.iastore, 1)) (kk : ∀ (H1 : Heap) (locs1 : List Loc), XS D dA cn A pa (gs g 4 (5 * w + i) v) T H1 → va_S A s.heap H1 locs1 → W p l e R s m args below meth c H1 locs1 cells slots Q (F0 m (pc + 1) ls (rest))) : W p l e R s m args below meth c H locs cells slots Q (F0 m pc ls (.int (nI v) :: .int (nI i) :: .ref (pa (8, w)) :: rest)) := by
  obtain ⟨ad, L, ha, hL, hP⟩ := h
  obtain ⟨k, hk⟩ := zp_idx ((hL (8, w)).mpr (by simp [xL, hp]))
  rw [← ha (8, w) rfl]
  refine va_iast (D := D) S.1 S.2.1 hK hP.2.1 hP.2.2 hS k 0 (zp_at hk) rfl (vp_in_nI hi (by decide)) hdg (fun H1 locs1 h1 h2 h3 => kk H1 locs1 ?_ h3)
  rw [nI_clamp (by omega), xh_upd g v hi, zp_set hP.1 hk] at h1 h2
  exact XS.of (n := (8, w)) ha hL ⟨hP.1, h1, h2⟩ (fun _ => rfl) rfl (fun n' hne hl => xc_all (P := fun n' => n' ≠ (8, w) → xC dA cn ad (gs g 4 (5 * w + i) v) n' = xC dA cn ad g n') (fun _ _ _ => rfl) (fun _ _ _ => rfl) (fun _ _ _ => rfl) (fun _ _ _ => rfl) (fun _ _ _ => rfl) (fun _ _ _ => rfl) (fun _ _ _ => rfl) (fun _ _ _ => rfl) (fun b _ hne => congrArg (xI dA 5) (xh_far g v hi (fun hq => hne (by subst hq; rfl)))) (fun _ _ _ => rfl) (fun _ _ _ => rfl) (fun _ _ _ => rfl) (fun _ _ _ => rfl) (fun _ _ _ => rfl) (fun _ _ _ => rfl) (fun _ _ _ => rfl) (fun _ _ _ => rfl) (fun _ _ _ => rfl) (fun _ _ _ => rfl) (fun _ _ _ => rfl) n' hl hne)
theorem lX_hexes (S : CallFix p m c cc nL s args lw_all RX1) (hK : KT D dA s) (h : XS D dA cn A pa g T H) (i : Nat) (hi : i < 7) (hdg : decode cc pc = .ok (.aaload, 1)) (kk : W p l e R s m args below meth c H locs cells slots Q (F0 m (pc + 1) ls (.ref (pa (2, i)) :: rest))) : W p l e R s m args below meth c H locs cells slots Q (F0 m pc ls (.int (nI i) :: .ref (pa (1, 0)) :: rest)) :=
  va_aldq (D := D) S.1 S.2.1 hK (h.one (1, 0) rfl rfl rfl (by decide) (by decide) (by decide)) 0 1 rfl rfl (vp_in_nI hi (by decide)) hdg (by rw [nI_clamp (by omega)]; exact kk)
theorem lX_bld (S : CallFix p m c cc nL s args lw_all RX1) (hK : KT D dA s) (h : XS D dA cn A pa g T H) (i : Nat) (hi : i < 24) (hdg : decode cc pc = .ok (.aaload, 1)) (kk : W p l e R s m args below meth c H locs cells slots Q (F0 m (pc + 1) ls (va_rf (opB (decide (g 2 i ≠ 0)) (pa (5, i))) :: rest))) : W p l e R s m args below meth c H locs cells slots Q (F0 m pc ls (.int (nI i) :: .ref (pa (4, 0)) :: rest)) :=
  va_aldq (D := D) S.1 S.2.1 hK (h.one (4, 0) rfl rfl rfl (by decide) (by decide) (by decide)) 0 2 rfl rfl (vp_in_nI hi (by decide)) hdg (by rw [nI_clamp (by omega)]; exact kk)
theorem lX_ctr (S : CallFix p m c cc nL s args lw_all RX1) (hK : KT D dA s) (h : XS D dA cn A pa g T H) (i : Nat) (hi : i < 3) (hdg : decode cc pc = .ok (.aaload, 1)) (kk : W p l e R s m args below meth c H locs cells slots Q (F0 m (pc + 1) ls (va_rf (opB (decide (g 16 i ≠ 0)) (pa (18, i))) :: rest))) : W p l e R s m args below meth c H locs cells slots Q (F0 m pc ls (.int (nI i) :: .ref (pa (17, 0)) :: rest)) :=
  va_aldq (D := D) S.1 S.2.1 hK (h.one (17, 0) rfl rfl rfl (by decide) (by decide) (by decide)) 0 4 rfl rfl (vp_in_nI hi (by decide)) hdg (by rw [nI_clamp (by omega)]; exact kk)
theorem opB_t {b : Bool} {a : Nat} (h : b = true) : va_rf (opB b a) = .ref a := by subst h; rfl
theorem opB_f {b : Bool} {a : Nat} (h : ¬ b = true) : va_rf (opB b a) = .null := by cases b; rfl; exact absurd rfl h
theorem lX_bldY (S : CallFix p m c cc nL s args lw_all RX1) (hK : KT D dA s) (h : XS D dA cn A pa g T H) (i : Nat) (hi : i < 24) (hy : decide (g 2 i ≠ 0) = true) (hdg : decode cc pc = .ok (.aaload, 1)) (kk : W p l e R s m args below meth c H locs cells slots Q (F0 m (pc + 1) ls (.ref (pa (5, i)) :: rest))) : W p l e R s m args below meth c H locs cells slots Q (F0 m pc ls (.int (nI i) :: .ref (pa (4, 0)) :: rest)) :=
  lX_bld S hK h i hi hdg (by rw [opB_t hy]; exact kk)
theorem lX_ctrY (S : CallFix p m c cc nL s args lw_all RX1) (hK : KT D dA s) (h : XS D dA cn A pa g T H) (i : Nat) (hi : i < 3) (hy : decide (g 16 i ≠ 0) = true) (hdg : decode cc pc = .ok (.aaload, 1)) (kk : W p l e R s m args below meth c H locs cells slots Q (F0 m (pc + 1) ls (.ref (pa (18, i)) :: rest))) : W p l e R s m args below meth c H locs cells slots Q (F0 m pc ls (.int (nI i) :: .ref (pa (17, 0)) :: rest)) :=
  lX_ctr S hK h i hi hdg (by rw [opB_t hy]; exact kk)
theorem gX_offerY (S : CallFix p m c cc nL s args lw_all RX1) (hK : KT D dA s) (h : XS D dA cn A pa g T H) (hy : decide (g 26 0 ≠ 0) = true) (hdg : decode cc pc = .ok (.getfield 335, 3)) (kk : W p l e R s m args below meth c H locs cells slots Q (F0 m (pc + 3) ls (.ref (pa (19, 0)) :: rest))) : W p l e R s m args below meth c H locs cells slots Q (F0 m pc ls (.ref (pa (0, 0)) :: rest)) :=
  gX_offer S hK h hdg (by rw [opB_t hy]; exact kk)
theorem lX_corner (S : CallFix p m c cc nL s args lw_all RX1) (hK : KT D dA s) (h : XS D dA cn A pa g T H) (w : Nat) (hp : w < 7) (i : Nat) (hi : i < 6) (hdg : decode cc pc = .ok (.iaload, 1)) (kk : W p l e R s m args below meth c H locs cells slots Q (F0 m (pc + 1) ls (.int (nI (cornA w i)) :: rest))) : W p l e R s m args below meth c H locs cells slots Q (F0 m pc ls (.int (nI i) :: .ref (pa (3, w)) :: rest)) :=
  va_iald (D := D) S.1 S.2.1 hK (h.one (3, w) rfl (by simp [xL, hp]) rfl (show (3 : Nat) ≠ 11 by decide) (show (3 : Nat) ≠ 14 by decide) (show (3 : Nat) ≠ 15 by decide)) 0 0 rfl rfl (vp_in_nI hi (by decide)) hdg (by rw [nI_clamp (by omega)]; exact kk)
theorem nX_roads (S : CallFix p m c cc nL s args lw_all RX1) (hK : KT D dA s) (h : XS D dA cn A pa g T H) (hdg : decode cc pc = .ok (.arraylength, 1)) (kk : W p l e R s m args below meth c H locs cells slots Q (F0 m (pc + 1) ls (.int (nI 30) :: rest))) : W p l e R s m args below meth c H locs cells slots Q (F0 m pc ls (.ref (pa (6, 0)) :: rest)) :=
  va_alen (D := D) S.1 S.2.1 hK (h.one (6, 0) rfl rfl rfl (by decide) (by decide) (by decide)) 0 0 rfl rfl (v := nI 30) rfl hdg kk
theorem nX_due (S : CallFix p m c cc nL s args lw_all RX1) (hK : KT D dA s) (h : XS D dA cn A pa g T H) (hdg : decode cc pc = .ok (.arraylength, 1)) (kk : W p l e R s m args below meth c H locs cells slots Q (F0 m (pc + 1) ls (.int (nI 3) :: rest))) : W p l e R s m args below meth c H locs cells slots Q (F0 m pc ls (.ref (pa (9, 0)) :: rest)) :=
  va_alen (D := D) S.1 S.2.1 hK (h.one (9, 0) rfl rfl rfl (by decide) (by decide) (by decide)) 0 0 rfl rfl (v := nI 3) rfl hdg kk
theorem nX_buildings (S : CallFix p m c cc nL s args lw_all RX1) (hK : KT D dA s) (h : XS D dA cn A pa g T H) (hdg : decode cc pc = .ok (.arraylength, 1)) (kk : W p l e R s m args below meth c H locs cells slots Q (F0 m (pc + 1) ls (.int (nI 24) :: rest))) : W p l e R s m args below meth c H locs cells slots Q (F0 m pc ls (.ref (pa (4, 0)) :: rest)) :=
  va_alen (D := D) S.1 S.2.1 hK (h.one (4, 0) rfl rfl rfl (by decide) (by decide) (by decide)) 0 2 rfl rfl (v := nI 24) rfl hdg kk
theorem nX_hand (S : CallFix p m c cc nL s args lw_all RX1) (hK : KT D dA s) (h : XS D dA cn A pa g T H) (w : Nat) (hp : w < 4) (hdg : decode cc pc = .ok (.arraylength, 1)) (kk : W p l e R s m args below meth c H locs cells slots Q (F0 m (pc + 1) ls (.int (nI 5) :: rest))) : W p l e R s m args below meth c H locs cells slots Q (F0 m pc ls (.ref (pa (8, w)) :: rest)) :=
  va_alen (D := D) S.1 S.2.1 hK (h.one (8, w) rfl (by simp [xL, hp]) rfl (show (8 : Nat) ≠ 11 by decide) (show (8 : Nat) ≠ 14 by decide) (show (8 : Nat) ≠ 15 by decide)) 0 0 rfl rfl (v := nI 5) rfl hdg kk
theorem nX_corners (S : CallFix p m c cc nL s args lw_all RX1) (hK : KT D dA s) (h : XS D dA cn A pa g T H) (w : Nat) (hp : w < 7) (hdg : decode cc pc = .ok (.arraylength, 1)) (kk : W p l e R s m args below meth c H locs cells slots Q (F0 m (pc + 1) ls (.int (nI 6) :: rest))) : W p l e R s m args below meth c H locs cells slots Q (F0 m pc ls (.ref (pa (3, w)) :: rest)) :=
  va_alen (D := D) S.1 S.2.1 hK (h.one (3, w) rfl (by simp [xL, hp]) rfl (show (3 : Nat) ≠ 11 by decide) (show (3 : Nat) ≠ 14 by decide) (show (3 : Nat) ≠ 15 by decide)) 0 0 rfl rfl (v := nI 6) rfl hdg kk
theorem sX_ctrN (S : CallFix p m c cc nL s args lw_all RX1) (hK : KT D dA s) (h : XS D dA cn A pa g T H) (hS : va_S A s.heap H locs) (i : Nat) (hi : i < 3) (hdg : decode cc pc = .ok (.aastore, 1)) (kk : ∀ (H1 : Heap) (locs1 : List Loc), XS D dA cn A pa (gs (gs g 16 i 0) 17 i 0) T H1 → va_S A s.heap H1 locs1 → W p l e R s m args below meth c H1 locs1 cells slots Q (F0 m (pc + 1) ls (rest))) : W p l e R s m args below meth c H locs cells slots Q (F0 m pc ls (.null :: .int (nI i) :: .ref (pa (17, 0)) :: rest)) := by
  obtain ⟨ad, L, ha, hL, hP⟩ := h
  obtain ⟨k, hk⟩ := zp_idx ((hL (17, 0)).mpr rfl)
  rw [← ha (17, 0) rfl]
  refine va_astqN (D := D) S.1 S.2.1 hK hP.2.1 hP.2.2 hS k 4 (zp_at hk) rfl (vp_in_nI hi (by decide)) hdg (fun H1 locs1 h1 h2 h3 => kk H1 locs1 ?_ h3)
  rw [nI_clamp (by omega), zp_set hP.1 hk] at h1 h2
  refine XS.kill (n := (17, 0)) (d := (18, i)) ha hL ⟨hP.1, h1, h2⟩ (fun n' => ?_) ?_ (fun n' hne hnd hl => ?_)
  · by_cases hq : n' = (18, i)
    · subst hq; simp [xL, gs]
    · simp only [ne_eq, hq, not_false_eq_true, decide_true, Bool.true_and]
      obtain ⟨a, b⟩ := n'
      unfold xL
      split <;> first | rfl | (rename_i h9; have h9 : a = 18 := h9; subst h9; have hb : b ≠ i := fun h => hq (by rw [h]); rw [gs_nf _ (show (16 : Nat) ≠ 17 by decide), gs_ni _ hb])
  · unfold xC
    refine congrArg (xR (dA 4) 3) (funext fun p => ?_)
    unfold va_up gs opB
    by_cases hq : p = i
    · simp [hq]
    · simp [hq]
  · refine xc_all (P := fun n' => n' ≠ (17, 0) → n' ≠ (18, i) → xC dA cn ad (gs (gs g 16 i 0) 17 i 0) n' = xC dA cn ad g n') (fun _ _ _ _ => rfl) (fun _ _ _ _ => rfl) (fun _ _ _ _ => rfl) (fun _ _ _ _ => rfl) (fun _ _ _ _ => rfl) (fun _ _ _ _ => rfl) (fun _ _ _ _ => rfl) (fun _ _ _ _ => rfl) (fun _ _ _ _ => rfl) (fun _ _ _ _ => rfl) (fun _ _ _ _ => rfl) (fun _ _ _ _ => rfl) (fun _ _ _ _ => rfl) (fun _ _ _ _ => rfl) (fun _ _ _ _ => rfl) (fun _ _ _ _ => rfl) (fun _ _ _ _ => rfl) (fun _ hl hne _ => x_no hl hne (by simp)) ?_ (fun _ _ _ _ => rfl) n' hl hne hnd
    intro b _ _ hnd
    have hb : b ≠ i := fun hq => hnd (by rw [hq])
    show (Sum.inr (7, [Value.int (nI (gs (gs g 16 i 0) 17 i 0 16 b)), Value.int (nI (gs (gs g 16 i 0) 17 i 0 17 b))]) : va_E) = Sum.inr (7, [Value.int (nI (g 16 b)), Value.int (nI (g 17 b))])
    rw [gs_nf _ (show (16 : Nat) ≠ 17 by decide), gs_ni _ hb, gs_ni _ hb, gs_nf _ (show (17 : Nat) ≠ 16 by decide)]
end ZX
