/-! NEW OBJECTS get a name: offer, counters, buildings (printed by gen/mkren.py) -/
section ZN
variable {D : va_G} {dA : Nat → ClassId} {cn : Nat → Nat} {A : Nat → Prop} {pa : NM → Nat} {g : G} {T : va_W} {H : Heap}
variable {p : Program} {l : Launch} {e : Env} {R : Room} {s : State} {m : MethodId} {args : Array Value} {below : List Frame} {meth : Method} {c : Code} {locs : List Loc} {cells slots : Nat} {Q : State → Prop}
variable {cc : ByteArray} {pc nL : Nat} {ls : Array Slot} {rest : List Value} {q : Nat}
set_option maxHeartbeats 2000000 in
theorem pX_offerS (S : CallFix p m c cc nL s args lw_all RX1) (hKX : KX D dA cn A s) (v1 v2 : Nat) (hv : 0 < v1) (h : XS D dA cn A pa g (T ++ [(q, .inr (7, [.int (nI v1), .int (nI v2)]))]) H) (hS : va_S A s.heap H locs) (hdg : decode cc pc = .ok (.putfield 335, 3)) (kk : ∀ (H1 : Heap) (locs1 : List Loc), XS D dA cn A (upA pa (19, 0) q) (gs (gs g 26 0 v1) 26 1 v2) T H1 → va_S A s.heap H1 locs1 → W p l e R s m args below meth c H1 locs1 cells slots Q (F0 m (pc + 3) ls rest)) : W p l e R s m args below meth c H locs cells slots Q (F0 m pc ls (.ref q :: .ref (pa (0, 0)) :: rest)) := by
  have hK := hKX.1
  obtain ⟨ad, L, ha, hL, hP⟩ := h
  obtain ⟨k, hk⟩ := zp_idx ((hL (0, 0)).mpr rfl)
  have hi9 : (zp_W L ad (xC dA cn ad g) ++ (T ++ [(q, .inr (7, [.int (nI v1), .int (nI v2)]))]))[L.length + T.length]? = some (q, .inr (7, [.int (nI v1), .int (nI v2)])) := by rw [zp_tm]; simp
  rw [← ha (0, 0) rfl]
  refine va_put (D := D) (ci := 0) (C := RX1) (T := TX1) (N := 19) S.1 S.2.1 S.2.2.2.2 in_X1 tyX1 tyX1_ok nmX1 S.2.2.2.1 hK hP.2.1 hP.2.2 hS k (zp_at hk) rfl 9 (by decide) (S.2.2.2.2 _ q171) (fun _ h9 => h9) rfl (ty := .object "Hexstead$Offer") (by decide +kernel) rfl rfl (Nat.le_of_ble_eq_true rfl) hdg (fun H1 locs1 h1 h2 h3 => kk H1 locs1 ?_ h3)
  rw [zp_set hP.1 hk] at h1 h2
  refine XS.renew (n := (0, 0)) (d := (19, 0)) ha hL ⟨hP.1, h1, h2⟩ (by simp) (fun n' hq => ?_) (by simp [xL, gs]; omega) ?_ (rfl) (fun n' hne hnd hl => ?_)
  · obtain ⟨a, b⟩ := n'
    unfold xL
    split <;> first | rfl | (rename_i h9; have h9 : a = 19 := h9; subst h9; have hb : b ≠ 0 := fun h => hq (by rw [h]); simp only [hb, decide_false, Bool.false_and])
  · have h9 : decide ((gs (gs g 26 0 v1) 26 1 v2) 26 0 ≠ 0) = true := by simp [gs]; omega
    show (Sum.inr (0, xF (upA ad (19, 0) q) (gs (gs g 26 0 v1) 26 1 v2)) : va_E) = _
    unfold xF
    rw [h9]
    rfl
  · refine xc_all (P := fun n' => n' ≠ (0, 0) → n' ≠ (19, 0) → xC dA cn (upA ad (19, 0) q) (gs (gs g 26 0 v1) 26 1 v2) n' = xC dA cn ad g n') (fun _ hl hne _ => x_no hl hne (by simp)) (fun _ _ _ _ => rfl) (fun _ _ _ _ => rfl) (fun _ _ _ _ => rfl) (fun _ _ _ _ => rfl) (fun _ _ _ _ => rfl) (fun _ _ _ _ => rfl) (fun _ _ _ _ => rfl) (fun _ _ _ _ => rfl) (fun _ _ _ _ => rfl) (fun _ _ _ _ => rfl) (fun _ _ _ _ => rfl) (fun _ _ _ _ => rfl) (fun _ _ _ _ => rfl) (fun _ _ _ _ => rfl) (fun _ _ _ _ => rfl) (fun _ _ _ _ => rfl) (fun _ _ _ _ => rfl) (fun _ _ _ _ => rfl) (fun _ hl _ hnd => x_no19 hl hnd) n' hl hne hnd
set_option maxHeartbeats 2000000 in
theorem sX_ctrS (S : CallFix p m c cc nL s args lw_all RX1) (hKX : KX D dA cn A s) (i : Nat) (hi : i < 3) (v1 v2 : Nat) (hv : 0 < v1) (h : XS D dA cn A pa g (T ++ [(q, .inr (7, [.int (nI v1), .int (nI v2)]))]) H) (hS : va_S A s.heap H locs) (hdg : decode cc pc = .ok (.aastore, 1)) (kk : ∀ (H1 : Heap) (locs1 : List Loc), XS D dA cn A (upA pa (18, i) q) (gs (gs g 16 i v1) 17 i v2) T H1 → va_S A s.heap H1 locs1 → W p l e R s m args below meth c H1 locs1 cells slots Q (F0 m (pc + 1) ls rest)) : W p l e R s m args below meth c H locs cells slots Q (F0 m pc ls (.ref q :: .int (nI i) :: .ref (pa (17, 0)) :: rest)) := by
  have hK := hKX.1
  obtain ⟨ad, L, ha, hL, hP⟩ := h
  obtain ⟨k, hk⟩ := zp_idx ((hL (17, 0)).mpr rfl)
  have hi9 : (zp_W L ad (xC dA cn ad g) ++ (T ++ [(q, .inr (7, [.int (nI v1), .int (nI v2)]))]))[L.length + T.length]? = some (q, .inr (7, [.int (nI v1), .int (nI v2)])) := by rw [zp_tm]; simp
  rw [← ha (17, 0) rfl]
  refine va_astq (D := D) S.1 S.2.1 hK hP.2.1 hP.2.2 hS k 4 (L.length + T.length) 7 (zp_at hk) rfl hi9 rfl (vp_in_nI hi (by decide)) hdg (fun H1 locs1 h1 h2 h3 => kk H1 locs1 ?_ h3)
  rw [nI_clamp (by omega), zp_set hP.1 hk] at h1 h2
  refine XS.renew (n := (17, 0)) (d := (18, i)) ha hL ⟨hP.1, h1, h2⟩ (by simp) (fun n' hq => ?_) (by simp [xL, gs]; omega) ?_ (by
    show (Sum.inr (7, [Value.int (nI ((gs (gs g 16 i v1) 17 i v2) 16 i)), Value.int (nI ((gs (gs g 16 i v1) 17 i v2) 17 i))]) : va_E) = _
    simp [gs]) (fun n' hne hnd hl => ?_)
  · obtain ⟨a, b⟩ := n'
    unfold xL
    split <;> first | rfl | (rename_i h9; have h9 : a = 18 := h9; subst h9; have hb : b ≠ i := fun h => hq (by rw [h]); rw [gs_nf _ (show (16 : Nat) ≠ 17 by decide), gs_ni _ hb])
  · show xR (dA 4) 3 (fun p => opB (decide ((gs (gs g 16 i v1) 17 i v2) 16 p ≠ 0)) (upA ad (18, i) q (18, p))) = _
    refine congrArg (xR (dA 4) 3) (funext fun p => ?_)
    unfold va_up gs opB upA
    by_cases hq : p = i
    · subst hq; simp; omega
    · simp [hq]
  · refine xc_all (P := fun n' => n' ≠ (17, 0) → n' ≠ (18, i) → xC dA cn (upA ad (18, i) q) (gs (gs g 16 i v1) 17 i v2) n' = xC dA cn ad g n') (fun _ _ _ _ => rfl) (fun _ _ _ _ => rfl) (fun _ _ _ _ => rfl) (fun _ _ _ _ => rfl) (fun _ _ _ _ => rfl) (fun _ _ _ _ => rfl) (fun _ _ _ _ => rfl) (fun _ _ _ _ => rfl) (fun _ _ _ _ => rfl) (fun _ _ _ _ => rfl) (fun _ _ _ _ => rfl) (fun _ _ _ _ => rfl) (fun _ _ _ _ => rfl) (fun _ _ _ _ => rfl) (fun _ _ _ _ => rfl) (fun _ _ _ _ => rfl) (fun _ _ _ _ => rfl) (fun _ hl hne _ => x_no hl hne (by simp)) ?_ (fun _ _ _ _ => rfl) n' hl hne hnd
    intro b _ _ hnd
    have hb : b ≠ i := fun hq => hnd (by rw [hq])
    show (Sum.inr (7, [Value.int (nI ((gs (gs g 16 i v1) 17 i v2) 16 b)), Value.int (nI ((gs (gs g 16 i v1) 17 i v2) 17 b))]) : va_E) = Sum.inr (7, [Value.int (nI (g 16 b)), Value.int (nI (g 17 b))])
    rw [gs_nf _ (show (16 : Nat) ≠ 17 by decide), gs_ni _ hb, gs_ni _ hb, gs_nf _ (show (17 : Nat) ≠ 16 by decide)]
set_option maxHeartbeats 2000000 in
theorem sX_bldH (S : CallFix p m c cc nL s args lw_all RX1) (hKX : KX D dA cn A s) (i : Nat) (hi : i < 24) (v1 : Nat) (hv : 0 < v1) (hv3 : v1 ≤ 3) (h : XS D dA cn A pa g (T ++ [(q, .inr (3, [.int (mI v1)]))]) H) (hS : va_S A s.heap H locs) (hdg : decode cc pc = .ok (.aastore, 1)) (kk : ∀ (H1 : Heap) (locs1 : List Loc), XS D dA cn A (upA pa (5, i) q) (gs g 2 i (v1)) T H1 → va_S A s.heap H1 locs1 → W p l e R s m args below meth c H1 locs1 cells slots Q (F0 m (pc + 1) ls rest)) : W p l e R s m args below meth c H locs cells slots Q (F0 m pc ls (.ref q :: .int (nI i) :: .ref (pa (4, 0)) :: rest)) := by
  have hK := hKX.1
  obtain ⟨ad, L, ha, hL, hP⟩ := h
  obtain ⟨k, hk⟩ := zp_idx ((hL (4, 0)).mpr rfl)
  have hi9 : (zp_W L ad (xC dA cn ad g) ++ (T ++ [(q, .inr (3, [.int (mI v1)]))]))[L.length + T.length]? = some (q, .inr (3, [.int (mI v1)])) := by rw [zp_tm]; simp
  rw [← ha (4, 0) rfl]
  refine va_astqO (D := D) (E := "Hexstead$Building") S.1 S.2.1 hK hP.2.1 hP.2.2 hS k 2 (L.length + T.length) 3 (zp_at hk) rfl (hKX.2.1.2.2.1 ("Hexstead$House", "Hexstead$Building") (List.mem_of_getElem? (i := 20) rfl)) hi9 rfl (vp_in_nI hi (by decide)) hdg (fun H1 locs1 h1 h2 h3 => kk H1 locs1 ?_ h3)
  rw [nI_clamp (by omega), zp_set hP.1 hk] at h1 h2
  refine XS.renew (n := (4, 0)) (d := (5, i)) ha hL ⟨hP.1, h1, h2⟩ (by simp) (fun n' hq => ?_) (by simp [xL, gs]; omega) ?_ (by
    show (if (gs g 2 i (v1)) 2 i ≤ 3 then Sum.inr (3, [Value.int (mI ((gs g 2 i (v1)) 2 i))]) else Sum.inr (5, [Value.int (nI ((gs g 2 i (v1)) 2 i - 4))]) : va_E) = _
    rw [gs_eq]
    rw [if_pos hv3]) (fun n' hne hnd hl => ?_)
  · obtain ⟨a, b⟩ := n'
    unfold xL
    split <;> first | rfl | (rename_i h9; have h9 : a = 5 := h9; subst h9; have hb : b ≠ i := fun h => hq (by rw [h]); rw [gs_ni _ hb])
  · show xR (dA 2) 24 (fun c => opB (decide ((gs g 2 i (v1)) 2 c ≠ 0)) (upA ad (5, i) q (5, c))) = _
    refine congrArg (xR (dA 2) 24) (funext fun p => ?_)
    unfold va_up gs opB upA
    by_cases hq : p = i
    · subst hq; simp; try omega
    · simp [hq]
  · refine xc_all (P := fun n' => n' ≠ (4, 0) → n' ≠ (5, i) → xC dA cn (upA ad (5, i) q) (gs g 2 i (v1)) n' = xC dA cn ad g n') (fun _ _ _ _ => rfl) (fun _ _ _ _ => rfl) (fun _ _ _ _ => rfl) (fun _ _ _ _ => rfl) (fun _ hl hne _ => x_no hl hne (by simp)) ?_ (fun _ _ _ _ => rfl) (fun _ _ _ _ => rfl) (fun _ _ _ _ => rfl) (fun _ _ _ _ => rfl) (fun _ _ _ _ => rfl) (fun _ _ _ _ => rfl) (fun _ _ _ _ => rfl) (fun _ _ _ _ => rfl) (fun _ _ _ _ => rfl) (fun _ _ _ _ => rfl) (fun _ _ _ _ => rfl) (fun _ _ _ _ => rfl) (fun _ _ _ _ => rfl) (fun _ _ _ _ => rfl) n' hl hne hnd
    intro b _ _ hnd
    have hb : b ≠ i := fun hq => hnd (by rw [hq])
    show (if (gs g 2 i (v1)) 2 b ≤ 3 then Sum.inr (3, [Value.int (mI ((gs g 2 i (v1)) 2 b))]) else Sum.inr (5, [Value.int (nI ((gs g 2 i (v1)) 2 b - 4))]) : va_E) = (if g 2 b ≤ 3 then Sum.inr (3, [Value.int (mI (g 2 b))]) else Sum.inr (5, [Value.int (nI (g 2 b - 4))]) : va_E)
    rw [gs_ni _ hb]
set_option maxHeartbeats 2000000 in
theorem sX_bldC (S : CallFix p m c cc nL s args lw_all RX1) (hKX : KX D dA cn A s) (i : Nat) (hi : i < 24) (v1 : Nat)  (h : XS D dA cn A pa g (T ++ [(q, .inr (5, [.int (nI v1)]))]) H) (hS : va_S A s.heap H locs) (hdg : decode cc pc = .ok (.aastore, 1)) (kk : ∀ (H1 : Heap) (locs1 : List Loc), XS D dA cn A (upA pa (5, i) q) (gs g 2 i (v1 + 4)) T H1 → va_S A s.heap H1 locs1 → W p l e R s m args below meth c H1 locs1 cells slots Q (F0 m (pc + 1) ls rest)) : W p l e R s m args below meth c H locs cells slots Q (F0 m pc ls (.ref q :: .int (nI i) :: .ref (pa (4, 0)) :: rest)) := by
  have hK := hKX.1
  obtain ⟨ad, L, ha, hL, hP⟩ := h
  obtain ⟨k, hk⟩ := zp_idx ((hL (4, 0)).mpr rfl)
  have hi9 : (zp_W L ad (xC dA cn ad g) ++ (T ++ [(q, .inr (5, [.int (nI v1)]))]))[L.length + T.length]? = some (q, .inr (5, [.int (nI v1)])) := by rw [zp_tm]; simp
  rw [← ha (4, 0) rfl]
  refine va_astqO (D := D) (E := "Hexstead$Building") S.1 S.2.1 hK hP.2.1 hP.2.2 hS k 2 (L.length + T.length) 5 (zp_at hk) rfl (hKX.2.1.2.2.1 ("Hexstead$City", "Hexstead$Building") (List.mem_of_getElem? (i := 23) rfl)) hi9 rfl (vp_in_nI hi (by decide)) hdg (fun H1 locs1 h1 h2 h3 => kk H1 locs1 ?_ h3)
  rw [nI_clamp (by omega), zp_set hP.1 hk] at h1 h2
  refine XS.renew (n := (4, 0)) (d := (5, i)) ha hL ⟨hP.1, h1, h2⟩ (by simp) (fun n' hq => ?_) (by simp [xL, gs]; omega) ?_ (by
    show (if (gs g 2 i (v1 + 4)) 2 i ≤ 3 then Sum.inr (3, [Value.int (mI ((gs g 2 i (v1 + 4)) 2 i))]) else Sum.inr (5, [Value.int (nI ((gs g 2 i (v1 + 4)) 2 i - 4))]) : va_E) = _
    rw [gs_eq]
    rw [if_neg (by omega), Nat.add_sub_cancel]) (fun n' hne hnd hl => ?_)
  · obtain ⟨a, b⟩ := n'
    unfold xL
    split <;> first | rfl | (rename_i h9; have h9 : a = 5 := h9; subst h9; have hb : b ≠ i := fun h => hq (by rw [h]); rw [gs_ni _ hb])
  · show xR (dA 2) 24 (fun c => opB (decide ((gs g 2 i (v1 + 4)) 2 c ≠ 0)) (upA ad (5, i) q (5, c))) = _
    refine congrArg (xR (dA 2) 24) (funext fun p => ?_)
    unfold va_up gs opB upA
    by_cases hq : p = i
    · subst hq; simp; try omega
    · simp [hq]
  · refine xc_all (P := fun n' => n' ≠ (4, 0) → n' ≠ (5, i) → xC dA cn (upA ad (5, i) q) (gs g 2 i (v1 + 4)) n' = xC dA cn ad g n') (fun _ _ _ _ => rfl) (fun _ _ _ _ => rfl) (fun _ _ _ _ => rfl) (fun _ _ _ _ => rfl) (fun _ hl hne _ => x_no hl hne (by simp)) ?_ (fun _ _ _ _ => rfl) (fun _ _ _ _ => rfl) (fun _ _ _ _ => rfl) (fun _ _ _ _ => rfl) (fun _ _ _ _ => rfl) (fun _ _ _ _ => rfl) (fun _ _ _ _ => rfl) (fun _ _ _ _ => rfl) (fun _ _ _ _ => rfl) (fun _ _ _ _ => rfl) (fun _ _ _ _ => rfl) (fun _ _ _ _ => rfl) (fun _ _ _ _ => rfl) (fun _ _ _ _ => rfl) n' hl hne hnd
    intro b _ _ hnd
    have hb : b ≠ i := fun hq => hnd (by rw [hq])
    show (if (gs g 2 i (v1 + 4)) 2 b ≤ 3 then Sum.inr (3, [Value.int (mI ((gs g 2 i (v1 + 4)) 2 b))]) else Sum.inr (5, [Value.int (nI ((gs g 2 i (v1 + 4)) 2 b - 4))]) : va_E) = (if g 2 b ≤ 3 then Sum.inr (3, [Value.int (mI (g 2 b))]) else Sum.inr (5, [Value.int (nI (g 2 b - 4))]) : va_E)
    rw [gs_ni _ hb]
end ZN
