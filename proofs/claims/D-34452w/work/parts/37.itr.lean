/-! ITERATORS and sizes of lists; the lists of the class (printed by gen/mkitr.py) -/
set_option maxHeartbeats 2000000 in
set_option maxRecDepth 100000 in
theorem cL_size (l : Launch) {D : va_G} {dA : Nat → ClassId} {cn : Nat → Nat} {A : Nat → Prop} {ws : va_W} {q0 a x n : Nat} (H0 : Heap) (hP : va_P D clA ws H0) (h0 : ws[q0]? = some (a, .inr (8, [.int (nI n), .ref x, .int (nI n)]))) {Post : Option Value → Heap → Prop} (hPost : Post (some (.int (nI n))) H0) : Ct l yJ2_size (ws_ yJ2_size cJ2_size 1 (some .int)) (rmF 1 0 0 12) A (KX D dA cn A) [.ref a] H0 Post := by
  refine zc_of RJ2 rfl (by decide) (Nat.le_of_ble_eq_true rfl) ?_
  intro pr en s m args below meth cd S hr hlk hnm hh hKX ls hl
  have hS : va_S A s.heap H0 [] := zc_start hh
  have hx := S.1
  have hb := S.2.1
  have hown := S.2.2.2.1
  have hts := S.2.2.2.2
  have hK := hKX.1
  have hl : lv_has ls 1 [(0, .ref a)] := hl
  refine lv_aload_n hx hb dJ2_size_0 rfl (lv_at hl 0 rfl) ?_
  refine va_get (D := D) (ci := 8) (C := RJ2) (T := TJ2) (N := 3) hx hb hts in_J2 hown hK hP q0 h0 rfl 2 (by decide) (hts _ q129) (fun _ h9 => h9) rfl dJ2_size_1 ?_
  exact zc_iret hPost hS hx hb hr hlk (Nat.le_of_ble_eq_true rfl) (Nat.le_of_ble_eq_true rfl) dJ2_size_4
set_option maxHeartbeats 2000000 in
set_option maxRecDepth 100000 in
theorem cI_init (l : Launch) {D : va_G} {dA : Nat → ClassId} {cn : Nat → Nat} {A : Nat → Prop} {ws : va_W} {q0 qi a x n t : Nat} (H0 : Heap) (hP : va_P D clA ws H0) (hD : va_D A ws) (h0 : ws[q0]? = some (a, .inr (8, [.int (nI n), .ref x, .int (nI n)]))) (hi : ws[qi]? = some (t, .inr (9, [.int 0, .int 0, .int 0, .null]))) (hne : qi ≠ q0) {Post : Option Value → Heap → Prop} (hPost : ∀ H : Heap, va_P D clA (ws.set qi (t, .inr (9, [.int (0), .int (mI 0), .int (nI n), .ref a]))) H → va_D A (ws.set qi (t, .inr (9, [.int (0), .int (mI 0), .int (nI n), .ref a]))) → Post none H) : Ct l yJ14_init (ws_ yJ14_init cJ14_init 2 none) (rmF 2 0 0 60) A (KX D dA cn A) [.ref t, .ref a] H0 Post := by
  refine zc_of RJ14 rfl (by decide) (Nat.le_of_ble_eq_true rfl) ?_
  intro pr en s m args below meth cd S hr hlk hnm hh hKX ls hl
  have hS : va_S A s.heap H0 [] := zc_start hh
  have hx := S.1
  have hb := S.2.1
  have hown := S.2.2.2.1
  have hts := S.2.2.2.2
  have hK := hKX.1
  have hi0 := hi
  have h00 := h0
  have hl : lv_has ls 2 [(0, .ref t), (1, .ref a)] := hl
  refine lv_aload_n hx hb dJ14_init_0 rfl (lv_at hl 0 rfl) ?_
  refine lv_aload_n hx hb dJ14_init_1 rfl (lv_at hl 1 rfl) ?_
  refine va_putF (D := D) (ci := 9) (C := RJ14) (T := TJ14) (N := 4) (v := .ref a) hx hb hts in_J14 tyJ14 tyJ14_ok nmJ14 hown hK hP hD hS qi hi rfl 3 (by decide) (hts _ q595) (fun _ h9 => h9) rfl hnm rfl (ty := .object "java/util/ArrayList") (by decide +kernel) rfl rfl (Nat.le_of_ble_eq_true rfl) dJ14_init_2 (fun H locs hP hD hS => ?_)
  have hi : (ws.set qi (t, .inr (9, [.int 0, .int 0, .int 0, .ref a])))[qi]? = some (t, .inr (9, [.int 0, .int 0, .int 0, .ref a])) := xw_set hi0
  have h0 : (ws.set qi (t, .inr (9, [.int 0, .int 0, .int 0, .ref a])))[q0]? = some (a, .inr (8, [.int (nI n), .ref x, .int (nI n)])) := xw_ne h00 hne
  refine lv_aload_n hx hb dJ14_init_5 rfl (lv_at hl 0 rfl) ?_
  refine W.objInit hx hb hown (hts _ q591) (hts _ q104) (hts _ q105) rfl (by rw [S.2.2.1]; exact hl.1) rfl dJ14_init_6 (Nat.le_of_ble_eq_true rfl) (Nat.le_of_ble_eq_true rfl) ?_
  refine W.eq (g2 := F0 m 9 ls []) rfl ?_
  refine lv_aload_n hx hb dJ14_init_9 rfl (lv_at hl 0 rfl) ?_
  refine lv_iconst (v := mI 0) hx hb dJ14_init_10 zi_m1 ?_
  refine va_put (D := D) (ci := 9) (C := RJ14) (T := TJ14) (N := 4) (v := .int (mI 0)) hx hb hts in_J14 tyJ14 tyJ14_ok nmJ14 hown hK hP hD hS qi hi rfl 1 (by decide) (hts _ q593) (fun _ h9 => h9) rfl (ty := .int) (by decide +kernel) rfl rfl (Nat.le_of_ble_eq_true rfl) dJ14_init_11 (fun H locs hP hD hS => ?_)
  rw [List.set_set] at hP hD
  have hi : (ws.set qi (t, .inr (9, [.int 0, .int (mI 0), .int 0, .ref a])))[qi]? = some (t, .inr (9, [.int 0, .int (mI 0), .int 0, .ref a])) := xw_set hi0
  have h0 : (ws.set qi (t, .inr (9, [.int 0, .int (mI 0), .int 0, .ref a])))[q0]? = some (a, .inr (8, [.int (nI n), .ref x, .int (nI n)])) := xw_ne h00 hne
  refine lv_aload_n hx hb dJ14_init_14 rfl (lv_at hl 0 rfl) ?_
  refine lv_aload_n hx hb dJ14_init_15 rfl (lv_at hl 0 rfl) ?_
  refine va_get (D := D) (ci := 9) (C := RJ14) (T := TJ14) (N := 4) hx hb hts in_J14 hown hK hP qi hi rfl 3 (by decide) (hts _ q595) (fun _ h9 => h9) rfl dJ14_init_16 ?_
  refine va_get (D := D) (ci := 8) (C := RJ2) (T := TJ2) (N := 3) hx hb hts in_J2 hown hK hP q0 h0 rfl 0 (by decide) (hts _ q131) (u_same (hts _ q132)) rfl dJ14_init_19 ?_
  refine va_put (D := D) (ci := 9) (C := RJ14) (T := TJ14) (N := 4) (v := .int (nI n)) hx hb hts in_J14 tyJ14 tyJ14_ok nmJ14 hown hK hP hD hS qi hi rfl 2 (by decide) (hts _ q594) (fun _ h9 => h9) rfl (ty := .int) (by decide +kernel) rfl rfl (Nat.le_of_ble_eq_true rfl) dJ14_init_22 (fun H locs hP hD hS => ?_)
  rw [List.set_set] at hP hD
  exact zc_vret (hPost H hP hD) hS hx hb hr hlk (Nat.le_of_ble_eq_true rfl) (Nat.le_of_ble_eq_true rfl) dJ14_init_25
set_option maxHeartbeats 2000000 in
set_option maxRecDepth 100000 in
theorem cL_iterator (l : Launch) {D : va_G} {dA : Nat → ClassId} {cn : Nat → Nat} {A : Nat → Prop} {ws : va_W} {q0 a x n : Nat} (H0 : Heap) (hA : ∀ q, H0.size ≤ q → A q) (hP : va_P D clA ws H0) (hD : va_D A ws) (h0 : ws[q0]? = some (a, .inr (8, [.int (nI n), .ref x, .int (nI n)]))) {Post : Option Value → Heap → Prop} (hPost : ∀ (t : Nat) (H : Heap), va_P D clA (ws ++ [(t, .inr (9, [.int (0), .int (mI 0), .int (nI n), .ref a]))]) H → va_D A (ws ++ [(t, .inr (9, [.int (0), .int (mI 0), .int (nI n), .ref a]))]) → Post (some (.ref t)) H) : Ct l yJ2_iterator (ws_ yJ2_iterator cJ2_iterator 1 (some (.object "java/util/Iterator"))) (rmF 3 1 4 100) A (KX D dA cn A) [.ref a] H0 Post := by
  refine zc_of RJ2 rfl (by decide) (Nat.le_of_ble_eq_true rfl) ?_
  intro pr en s m args below meth cd S hr hlk hnm hh hKX ls hl
  have hS : va_S A s.heap H0 [] := zc_start hh
  have hx := S.1
  have hb := S.2.1
  have hown := S.2.2.2.1
  have hts := S.2.2.2.2
  have hK := hKX.1
  have hA : ∀ q, s.heap.size ≤ q → A q := fun q h => hA q (by rw [← hh]; exact h)
  have hl : lv_has ls 1 [(0, .ref a)] := hl
  have hw0 := xw_len h0
  refine va_new (D := D) (ci := 9) (C := RJ14) (T := TJ14) (N := 4) hx hb hts in_J14 tyJ14 tyJ14_ok hown (hts _ q586) (hts _ q587) (hts _ q91) hK hP hD hS hA rfl (fs := [.int 0, .int 0, .int 0, .null]) (by decide) (Nat.le_of_ble_eq_true rfl) (Nat.le_of_ble_eq_true rfl) dJ2_iterator_0 (fun t H hP hD hS => ?_)
  refine lv_dup hx hb dJ2_iterator_3 rfl ?_
  refine lv_aload_n hx hb dJ2_iterator_4 rfl (lv_at hl 0 rfl) ?_
  refine zc_callI (n := 1) (As := [.ref a]) (rest := [.ref t]) S (cI_init l H hP hD (xw_app h0) (xw_end (x := (t, .inr (9, [.int 0, .int 0, .int 0, .null])))) (by omega) (Post := fun v H1 => v = none ∧ va_P D clA (ws ++ [(t, .inr (9, [.int (0), .int (mI 0), .int (nI n), .ref a]))]) H1 ∧ va_D A (ws ++ [(t, .inr (9, [.int (0), .int (mI 0), .int (nI n), .ref a]))])) (fun H1 g1 g2 => ⟨rfl, ?_, ?_⟩)) q590 q91 q588 q589 rfl (by decide +kernel) ⟨(Nat.le_of_ble_eq_true rfl), (Nat.le_of_ble_eq_true rfl)⟩ ⟨(Nat.le_of_ble_eq_true rfl), (Nat.le_of_ble_eq_true rfl)⟩ KX_mv (zc_K KX_mv hKX hS) hS (fun _ h => h) rfl hl.1 rfl (Nat.le_of_ble_eq_true rfl) dJ2_iterator_5 (fun v H1 locs hp _ _ hS1 => ?_)
  · rw [List.set_append_right _ _ (Nat.le_refl _), Nat.sub_self] at g1; exact g1
  · rw [List.set_append_right _ _ (Nat.le_refl _), Nat.sub_self] at g2; exact g2
  · obtain ⟨rfl, g1, g2⟩ := hp
    exact zc_aret (Or.inl ⟨_, rfl⟩) (Or.inr ⟨_, rfl⟩) (hPost t H1 g1 g2) hS1 hx hb hr hlk (Nat.le_of_ble_eq_true rfl) (Nat.le_of_ble_eq_true rfl) dJ2_iterator_8
set_option maxHeartbeats 2000000 in
set_option maxRecDepth 100000 in
theorem cI_hasNext (l : Launch) {D : va_G} {dA : Nat → ClassId} {cn : Nat → Nat} {A : Nat → Prop} {ws : va_W} {q0 qi a x n i t : Nat} {lr : Int32} (H0 : Heap) (hP : va_P D clA ws H0) (h0 : ws[q0]? = some (a, .inr (8, [.int (nI n), .ref x, .int (nI n)]))) (hi : ws[qi]? = some (t, .inr (9, [.int (nI i), .int (lr), .int (nI n), .ref a]))) (hn : n < 1048576) (hin : i ≤ n) {Post : Option Value → Heap → Prop} (hPost : Post (some (.int (nI (decide (i < n)).toNat))) H0) : Ct l yJ14_hasNext (ws_ yJ14_hasNext cJ14_hasNext 1 (some .boolean)) (rmF 1 0 0 12) A (KX D dA cn A) [.ref t] H0 Post := by
  refine zc_of RJ14 rfl (by decide) (Nat.le_of_ble_eq_true rfl) ?_
  intro pr en s m args below meth cd S hr hlk hnm hh hKX ls hl
  have hS : va_S A s.heap H0 [] := zc_start hh
  have hx := S.1
  have hb := S.2.1
  have hown := S.2.2.2.1
  have hts := S.2.2.2.2
  have hK := hKX.1
  have hl : lv_has ls 1 [(0, .ref t)] := hl
  refine lv_aload_n hx hb dJ14_hasNext_0 rfl (lv_at hl 0 rfl) ?_
  refine va_get (D := D) (ci := 9) (C := RJ14) (T := TJ14) (N := 4) hx hb hts in_J14 hown hK hP qi hi rfl 0 (by decide) (hts _ q592) (fun _ h9 => h9) rfl dJ14_hasNext_1 ?_
  refine lv_aload_n hx hb dJ14_hasNext_4 rfl (lv_at hl 0 rfl) ?_
  refine va_get (D := D) (ci := 9) (C := RJ14) (T := TJ14) (N := 4) hx hb hts in_J14 hown hK hP qi hi rfl 3 (by decide) (hts _ q595) (fun _ h9 => h9) rfl dJ14_hasNext_5 ?_
  refine va_getN (D := D) (ci := 8) (C := RJ2) (T := TJ2) (N := 3) hx hb hts in_J2 hown hK hP q0 h0 rfl 2 (by decide) (va_Nw.use rfl (hKX.2.1.1 ("java/util/ArrayList$Itr", 28, "java/util/ArrayList", "size", "I", "java/util/ArrayList") (List.mem_of_getElem? (i := 0) rfl))) (fun _ h9 => h9) rfl dJ14_hasNext_8 ?_
  refine zr_icmp_eqN (a := i) (b := n) (tgt := 18) hx hb (by omega) (by omega) dJ14_hasNext_11 (by decide) (fun c => ?_) (fun c => ?_)
  · refine lv_iconst (v := nI 0) hx hb dJ14_hasNext_18 zi_0 ?_
    exact zc_bret (decide (i < n)) (by rw [show decide (i < n) = false from by simp; omega]; rfl) hPost hS hx hb hr hlk (Nat.le_of_ble_eq_true rfl) (Nat.le_of_ble_eq_true rfl) dJ14_hasNext_19
  · refine lv_iconst (v := nI 1) hx hb dJ14_hasNext_14 zi_1 ?_
    refine lv_goto (tgt := 19) hx hb dJ14_hasNext_15 (by decide) ?_
    exact zc_bret (decide (i < n)) (by rw [show decide (i < n) = true from by simp; omega]; rfl) hPost hS hx hb hr hlk (Nat.le_of_ble_eq_true rfl) (Nat.le_of_ble_eq_true rfl) dJ14_hasNext_19
set_option maxHeartbeats 2000000 in
set_option maxRecDepth 100000 in
theorem cI_check (l : Launch) {D : va_G} {dA : Nat → ClassId} {cn : Nat → Nat} {A : Nat → Prop} {ws : va_W} {q0 qi a x n i t : Nat} {lr : Int32} (H0 : Heap) (hP : va_P D clA ws H0) (h0 : ws[q0]? = some (a, .inr (8, [.int (nI n), .ref x, .int (nI n)]))) (hi : ws[qi]? = some (t, .inr (9, [.int (nI i), .int (lr), .int (nI n), .ref a]))) (hn : n < 1048576) {Post : Option Value → Heap → Prop} (hPost : Post none H0) : Ct l yJ14_checkForComodification (ws_ yJ14_checkForComodification cJ14_checkForComodification 1 none) (rmF 1 0 0 12) A (KX D dA cn A) [.ref t] H0 Post := by
  refine zc_of RJ14 rfl (by decide) (Nat.le_of_ble_eq_true rfl) ?_
  intro pr en s m args below meth cd S hr hlk hnm hh hKX ls hl
  have hS : va_S A s.heap H0 [] := zc_start hh
  have hx := S.1
  have hb := S.2.1
  have hown := S.2.2.2.1
  have hts := S.2.2.2.2
  have hK := hKX.1
  have hl : lv_has ls 1 [(0, .ref t)] := hl
  refine lv_aload_n hx hb dJ14_checkForComodification_0 rfl (lv_at hl 0 rfl) ?_
  refine va_get (D := D) (ci := 9) (C := RJ14) (T := TJ14) (N := 4) hx hb hts in_J14 hown hK hP qi hi rfl 3 (by decide) (hts _ q595) (fun _ h9 => h9) rfl dJ14_checkForComodification_1 ?_
  refine va_get (D := D) (ci := 8) (C := RJ2) (T := TJ2) (N := 3) hx hb hts in_J2 hown hK hP q0 h0 rfl 0 (by decide) (hts _ q131) (u_same (hts _ q132)) rfl dJ14_checkForComodification_4 ?_
  refine lv_aload_n hx hb dJ14_checkForComodification_7 rfl (lv_at hl 0 rfl) ?_
  refine va_get (D := D) (ci := 9) (C := RJ14) (T := TJ14) (N := 4) hx hb hts in_J14 hown hK hP qi hi rfl 2 (by decide) (hts _ q594) (fun _ h9 => h9) rfl dJ14_checkForComodification_8 ?_
  refine zr_icmp_eqN (a := n) (b := n) (tgt := 22) hx hb (by omega) (by omega) dJ14_checkForComodification_11 (by decide) (fun _ => ?_) (fun c => absurd rfl c)
  exact zc_vret hPost hS hx hb hr hlk (Nat.le_of_ble_eq_true rfl) (Nat.le_of_ble_eq_true rfl) dJ14_checkForComodification_22
set_option maxHeartbeats 2000000 in
set_option maxRecDepth 100000 in
theorem cI_next (l : Launch) {D : va_G} {dA : Nat → ClassId} {cn : Nat → Nat} {A : Nat → Prop} {q1 cap y : Nat} {f : Nat → Option Nat} {ws : va_W} {q0 qi a x n i t : Nat} {lr : Int32} (H0 : Heap) (hP : va_P D clA ws H0) (hD : va_D A ws) (h0 : ws[q0]? = some (a, .inr (8, [.int (nI n), .ref x, .int (nI n)]))) (hi : ws[qi]? = some (t, .inr (9, [.int (nI i), .int (lr), .int (nI n), .ref a]))) (hne : qi ≠ q0) (hne1 : qi ≠ q1) (h1 : ws[q1]? = some (x, xR (dA 5) cap f)) (hy : f i = some y) (hn : n ≤ cap) (hcap : cap < 1048576) (hin : i < n) {Post : Option Value → Heap → Prop} (hPost : ∀ H : Heap, va_P D clA (ws.set qi (t, .inr (9, [.int (nI (i + 1)), .int (nI i), .int (nI n), .ref a]))) H → va_D A (ws.set qi (t, .inr (9, [.int (nI (i + 1)), .int (nI i), .int (nI n), .ref a]))) → Post (some (.ref y)) H) : Ct l yJ14_next (ws_ yJ14_next cJ14_next 3 (some (.object "java/lang/Object"))) (rmF 2 0 0 60) A (KX D dA cn A) [.ref t] H0 Post := by
  refine zc_of RJ14 rfl (by decide) (Nat.le_of_ble_eq_true rfl) ?_
  intro pr en s m args below meth cd S hr hlk hnm hh hKX ls hl
  have hS : va_S A s.heap H0 [] := zc_start hh
  have hx := S.1
  have hb := S.2.1
  have hown := S.2.2.2.1
  have hts := S.2.2.2.2
  have hK := hKX.1
  have hi0 := hi
  have h00 := h0
  have h10 := h1
  have hl : lv_has ls 3 [(0, .ref t)] := hl
  refine lv_aload_n hx hb dJ14_next_0 rfl (lv_at hl 0 rfl) ?_
  refine zc_callV (n := 0) (As := []) (rest := []) S (cI_check l H0 hP h0 hi (by omega) (Post := fun v H1 => v = none ∧ H0 = H1) ⟨rfl, rfl⟩) (lw_V q624 q625 q626 q91 q627) (by decide +kernel) ⟨(Nat.le_of_ble_eq_true rfl), (Nat.le_of_ble_eq_true rfl)⟩ ⟨(Nat.le_of_ble_eq_true rfl), (Nat.le_of_ble_eq_true rfl)⟩ (va_recv hK hP (ci := 9) (q0 := qi) rfl hi) KX_mv (zc_K KX_mv hKX hS) hS (fun _ h => h) rfl hl.1 rfl (by decide) dJ14_next_1 (fun v H1 locs hp _ _ hS => ?_)
  obtain ⟨rfl, rfl⟩ := hp
  refine lv_aload_n hx hb dJ14_next_4 rfl (lv_at hl 0 rfl) ?_
  refine va_get (D := D) (ci := 9) (C := RJ14) (T := TJ14) (N := 4) hx hb hts in_J14 hown hK hP qi hi rfl 0 (by decide) (hts _ q592) (fun _ h9 => h9) rfl dJ14_next_5 ?_
  refine lv_istore_n (lv' := [(1, .int (nI i)), (0, .ref t)]) hx hb dJ14_next_8 rfl hl (by decide) rfl (fun ls hl => ?_)
  refine lv_iload_n hx hb dJ14_next_9 rfl (lv_at hl 0 rfl) ?_
  refine lv_aload_n hx hb dJ14_next_10 rfl (lv_at hl 1 rfl) ?_
  refine va_get (D := D) (ci := 9) (C := RJ14) (T := TJ14) (N := 4) hx hb hts in_J14 hown hK hP qi hi rfl 3 (by decide) (hts _ q595) (fun _ h9 => h9) rfl dJ14_next_11 ?_
  refine va_getN (D := D) (ci := 8) (C := RJ2) (T := TJ2) (N := 3) hx hb hts in_J2 hown hK hP q0 h0 rfl 2 (by decide) (va_Nw.use rfl (hKX.2.1.1 ("java/util/ArrayList$Itr", 28, "java/util/ArrayList", "size", "I", "java/util/ArrayList") (List.mem_of_getElem? (i := 0) rfl))) (fun _ h9 => h9) rfl dJ14_next_14 ?_
  refine zr_icmp_ltN (a := i) (b := n) (tgt := 28) hx hb (by omega) (by omega) dJ14_next_17 (by decide) (fun _ => ?_) (fun c => absurd hin c)
  refine lv_aload_n hx hb dJ14_next_28 rfl (lv_at hl 1 rfl) ?_
  refine va_get (D := D) (ci := 9) (C := RJ14) (T := TJ14) (N := 4) hx hb hts in_J14 hown hK hP qi hi rfl 3 (by decide) (hts _ q595) (fun _ h9 => h9) rfl dJ14_next_29 ?_
  refine va_get (D := D) (ci := 8) (C := RJ2) (T := TJ2) (N := 3) hx hb hts in_J2 hown hK hP q0 h0 rfl 1 (by decide) (hts _ q127) (fun _ h9 => h9) rfl dJ14_next_32 ?_
  refine lv_astore_n (lv' := [(2, .ref x), (1, .int (nI i)), (0, .ref t)]) hx hb dJ14_next_35 rfl hl (by decide) rfl (fun ls hl => ?_)
  refine lv_iload_n hx hb dJ14_next_36 rfl (lv_at hl 1 rfl) ?_
  refine lv_aload_n hx hb dJ14_next_37 rfl (lv_at hl 0 rfl) ?_
  refine va_alen (D := D) hx hb hK hP q1 5 h1 rfl (v := nI cap) rfl dJ14_next_38 ?_
  refine zr_icmp_ltN (a := i) (b := cap) (tgt := 50) hx hb (by omega) (by omega) dJ14_next_39 (by decide) (fun _ => ?_) (fun c => absurd (show i < cap by omega) c)
  refine lv_aload_n hx hb dJ14_next_50 rfl (lv_at hl 2 rfl) ?_
  refine lv_iload_n hx hb dJ14_next_51 rfl (lv_at hl 1 rfl) ?_
  refine lv_iconst (v := nI 1) hx hb dJ14_next_52 zi_1 ?_
  refine zr_addN (a := i) (b := 1) hx hb dJ14_next_53 ?_
  refine va_put (D := D) (ci := 9) (C := RJ14) (T := TJ14) (N := 4) (v := .int (nI (i + 1))) hx hb hts in_J14 tyJ14 tyJ14_ok nmJ14 hown hK hP hD hS qi hi rfl 0 (by decide) (hts _ q592) (fun _ h9 => h9) rfl (ty := .int) (by decide +kernel) rfl rfl (Nat.le_of_ble_eq_true rfl) dJ14_next_54 (fun H locs hP hD hS => ?_)
  have hi : (ws.set qi (t, .inr (9, [.int (nI (i + 1)), .int (lr), .int (nI n), .ref a])))[qi]? = some (t, .inr (9, [.int (nI (i + 1)), .int (lr), .int (nI n), .ref a])) := xw_set hi0
  refine lv_aload_n hx hb dJ14_next_57 rfl (lv_at hl 0 rfl) ?_
  refine lv_aload_n hx hb dJ14_next_58 rfl (lv_at hl 2 rfl) ?_
  refine lv_iload_n hx hb dJ14_next_59 rfl (lv_at hl 1 rfl) ?_
  refine lv_dup_x1 hx hb dJ14_next_60 rfl rfl ?_
  refine va_put (D := D) (ci := 9) (C := RJ14) (T := TJ14) (N := 4) (v := .int (nI i)) hx hb hts in_J14 tyJ14 tyJ14_ok nmJ14 hown hK hP hD hS qi hi rfl 1 (by decide) (hts _ q593) (fun _ h9 => h9) rfl (ty := .int) (by decide +kernel) rfl rfl (Nat.le_of_ble_eq_true rfl) dJ14_next_61 (fun H locs hP hD hS => ?_)
  rw [List.set_set] at hP hD
  have h1 : (ws.set qi (t, .inr (9, [.int (nI (i + 1)), .int (nI i), .int (nI n), .ref a])))[q1]? = some (x, xR (dA 5) cap f) := xw_ne h10 hne1
  refine va_aldq (D := D) hx hb hK hP q1 5 h1 rfl (vp_in_nI (show i < cap by omega) (by omega)) dJ14_next_64 ?_
  rw [nI_clamp (by omega), hy]
  exact zc_aret (Or.inl ⟨_, rfl⟩) (Or.inr ⟨_, rfl⟩) (hPost H hP hD) hS hx hb hr hlk (Nat.le_of_ble_eq_true rfl) (Nat.le_of_ble_eq_true rfl) dJ14_next_65
section ZL
variable {D : va_G} {dA : Nat → ClassId} {cn : Nat → Nat} {A : Nat → Prop} {pa : NM → Nat} {g : G} {T : va_W} {H : Heap}
variable {p : Program} {l : Launch} {e : Env} {R : Room} {s : State} {m : MethodId} {args : Array Value} {below : List Frame} {meth : Method} {c : Code} {locs : List Loc} {cells slots : Nat} {Q : State → Prop}
variable {cc : ByteArray} {pc nL : Nat} {ls : Array Slot} {rest : List Value}
theorem kL_size_c (S : CallFix p m c cc nL s args lw_all RX1) (hKX : KX D dA cn A s) (h : XS D dA cn A pa g T H) (hS : va_S A s.heap H locs) (hf : 1 + 1 ≤ R.frames) (hlo : 8 + (1 + 11) + 12 ≤ R.locals) (hsz : ls.size = nL) (hcat : (rest.map fun v => v.category).sum ≤ 8) (hq1 : cells ≤ R.cells) (hq2 : slots ≤ R.slots) (hdg : decode cc pc = .ok (.invokeinterface 293 1, 5)) (kk : ∀ locs1 : List Loc, va_S A s.heap H locs1 → W p l e R s m args below meth c H locs1 cells slots Q (F0 m (pc + 5) ls (.int (nI (g 8 0)) :: rest))) : W p l e R s m args below meth c H locs cells slots Q (F0 m pc ls (.ref (pa (11, 0)) :: rest)) := by
  obtain ⟨ad, L, ha, hL, hP⟩ := h
  obtain ⟨q0, hq0⟩ := zp_idx ((hL (11, 0)).mpr rfl)
  have h0 := zp_at (T := T) (ad := ad) (ct := xC dA cn ad g) hq0
  have hL0 := (List.getElem?_eq_some_iff.mp hq0).1
  rw [← ha (11, 0) rfl]
  exact zc_callF (n := 0) (As := []) (rest := rest) ((hKX.1.1 8 _ rfl).2) S (cL_size l H hP.2.1 h0 (Post := fun v H1 => v = some (.int (nI (g 8 0))) ∧ H = H1) ⟨rfl, rfl⟩) (lw_F q779 q784 q782 q74 q786) (hKX.2.1.2.1 ("java/util/ArrayList", ⟨"java/util/List", "size", "()I"⟩, ⟨"java/util/ArrayList", "size", "()I"⟩) (List.mem_of_getElem? (i := 4) rfl)) (by decide +kernel) ⟨hf, hlo⟩ ⟨hq1, hq2⟩ (va_recv hKX.1 hP.2.1 (ci := 8) (q0 := q0) rfl h0) KX_mv (zc_K KX_mv hKX hS) hS (fun _ h => h) rfl hsz rfl hcat hdg (fun v H1 locs1 hp _ _ hS1 => by obtain ⟨rfl, rfl⟩ := hp; exact kk locs1 hS1)
theorem kL_iter_c (S : CallFix p m c cc nL s args lw_all RX1) (hKX : KX D dA cn A s) (h : XS D dA cn A pa g T H) (hS : va_S A s.heap H locs) (hA : ∀ q, H.size ≤ q → A q) (hf : 3 + 1 ≤ R.frames) (hlo : 8 + (1 + 11) + 100 ≤ R.locals) (hsz : ls.size = nL) (hcat : (rest.map fun v => v.category).sum ≤ 8) (hq1 : cells + 1 ≤ R.cells) (hq2 : slots + 4 ≤ R.slots) (hdg : decode cc pc = .ok (.invokeinterface 151 1, 5)) (kk : ∀ (t : Nat) (H1 : Heap) (locs1 : List Loc), XS D dA cn A pa g (T ++ [(t, .inr (9, [.int (nI 0), .int (mI 0), .int (nI (g 8 0)), .ref (pa (11, 0))]))]) H1 → va_S A s.heap H1 locs1 → W p l e R s m args below meth c H1 locs1 (cells + 1) (slots + 4) Q (F0 m (pc + 5) ls (.ref t :: rest))) : W p l e R s m args below meth c H locs cells slots Q (F0 m pc ls (.ref (pa (11, 0)) :: rest)) := by
  obtain ⟨ad, L, ha, hL, hP⟩ := h
  obtain ⟨q0, hq0⟩ := zp_idx ((hL (11, 0)).mpr rfl)
  have h0 := zp_at (T := T) (ad := ad) (ct := xC dA cn ad g) hq0
  have hL0 := (List.getElem?_eq_some_iff.mp hq0).1
  rw [← ha (11, 0) rfl] at kk ⊢
  exact zc_callF (n := 0) (As := []) (rest := rest) ((hKX.1.1 8 _ rfl).2) S (cL_iterator l H hA hP.2.1 hP.2.2 h0 (Post := fun v H1 => ∃ t : Nat, v = some (.ref t) ∧ XS D dA cn A pa g (T ++ [(t, .inr (9, [.int (0), .int (mI 0), .int (nI (g 8 0)), .ref (ad (11, 0))]))]) H1) (fun t H1 g1 g2 => ⟨t, rfl, ad, L, ha, hL, hP.1, by rw [← List.append_assoc]; exact g1, by rw [← List.append_assoc]; exact g2⟩)) (lw_F q578 q583 q581 q74 q585) (hKX.2.1.2.1 ("java/util/ArrayList", ⟨"java/util/List", "iterator", "()Ljava/util/Iterator;"⟩, ⟨"java/util/ArrayList", "iterator", "()Ljava/util/Iterator;"⟩) (List.mem_of_getElem? (i := 3) rfl)) (by decide +kernel) ⟨hf, hlo⟩ ⟨hq1, hq2⟩ (va_recv hKX.1 hP.2.1 (ci := 8) (q0 := q0) rfl h0) KX_mv (zc_K KX_mv hKX hS) hS (fun _ h => h) rfl hsz rfl hcat hdg (fun v H1 locs1 hp _ _ hS1 => by obtain ⟨t, rfl, h1⟩ := hp; exact kk t H1 locs1 h1 hS1)
theorem kL_has_c (S : CallFix p m c cc nL s args lw_all RX1) (hKX : KX D dA cn A s) {t i : Nat} {lr : Int32} (h : XS D dA cn A pa g (T ++ [(t, .inr (9, [.int (nI i), .int (lr), .int (nI (g 8 0)), .ref (pa (11, 0))]))]) H) (hS : va_S A s.heap H locs) (hn : (g 8 0) < 1048576) (hin : i ≤ (g 8 0)) (hf : 1 + 1 ≤ R.frames) (hlo : 8 + (1 + 11) + 12 ≤ R.locals) (hsz : ls.size = nL) (hcat : (rest.map fun v => v.category).sum ≤ 8) (hq1 : cells ≤ R.cells) (hq2 : slots ≤ R.slots) (hdg : decode cc pc = .ok (.invokeinterface 155 1, 5)) (kk : ∀ locs1 : List Loc, va_S A s.heap H locs1 → W p l e R s m args below meth c H locs1 cells slots Q (F0 m (pc + 5) ls (.int (nI (decide (i < (g 8 0))).toNat) :: rest))) : W p l e R s m args below meth c H locs cells slots Q (F0 m pc ls (.ref t :: rest)) := by
  obtain ⟨ad, L, ha, hL, hP⟩ := h
  obtain ⟨q0, hq0⟩ := zp_idx ((hL (11, 0)).mpr rfl)
  have h0 := zp_at (T := T ++ [(t, .inr (9, [.int (nI i), .int (lr), .int (nI (g 8 0)), .ref (pa (11, 0))]))]) (ad := ad) (ct := xC dA cn ad g) hq0
  have hL0 := (List.getElem?_eq_some_iff.mp hq0).1
  have hi : (zp_W L ad (xC dA cn ad g) ++ (T ++ [(t, .inr (9, [.int (nI i), .int (lr), .int (nI (g 8 0)), .ref (pa (11, 0))]))]))[L.length + T.length]? = some (t, .inr (9, [.int (nI i), .int (lr), .int (nI (g 8 0)), .ref (pa (11, 0))])) := by rw [zp_tm]; simp
  have h0 : (zp_W L ad (xC dA cn ad g) ++ (T ++ [(t, .inr (9, [.int (nI i), .int (lr), .int (nI (g 8 0)), .ref (pa (11, 0))]))]))[q0]? = some (pa (11, 0), xLst cn (g 8 0) (ad (12, 0))) := by rw [h0, ha (11, 0) rfl]; rfl
  exact zc_callF (n := 0) (As := []) (rest := rest) ((hKX.1.1 9 _ rfl).2) S (cI_hasNext l H hP.2.1 h0 hi hn hin (Post := fun v H1 => v = some (.int (nI (decide (i < (g 8 0))).toNat)) ∧ H = H1) ⟨rfl, rfl⟩) (lw_F q606 q612 q610 q91 q614) (hKX.2.1.2.1 ("java/util/ArrayList$Itr", ⟨"java/util/Iterator", "hasNext", "()Z"⟩, ⟨"java/util/ArrayList$Itr", "hasNext", "()Z"⟩) (List.mem_of_getElem? (i := 0) rfl)) (by decide +kernel) ⟨hf, hlo⟩ ⟨hq1, hq2⟩ (va_recv hKX.1 hP.2.1 (ci := 9) rfl hi) KX_mv (zc_K KX_mv hKX hS) hS (fun _ h => h) rfl hsz rfl hcat hdg (fun v H1 locs1 hp _ _ hS1 => by obtain ⟨rfl, rfl⟩ := hp; exact kk locs1 hS1)
theorem kL_next_c (S : CallFix p m c cc nL s args lw_all RX1) (hKX : KX D dA cn A s) {t i : Nat} {lr : Int32} (h : XS D dA cn A pa g (T ++ [(t, .inr (9, [.int (nI i), .int (lr), .int (nI (g 8 0)), .ref (pa (11, 0))]))]) H) (hS : va_S A s.heap H locs) (hn : (g 8 0) < 100000) (hin : i < (g 8 0)) (hf : 2 + 1 ≤ R.frames) (hlo : 8 + (3 + 11) + 60 ≤ R.locals) (hsz : ls.size = nL) (hcat : (rest.map fun v => v.category).sum ≤ 8) (hq1 : cells ≤ R.cells) (hq2 : slots ≤ R.slots) (hdg : decode cc pc = .ok (.invokeinterface 161 1, 5)) (kk : ∀ (H1 : Heap) (locs1 : List Loc), XS D dA cn A pa g (T ++ [(t, .inr (9, [.int (nI (i + 1)), .int (nI i), .int (nI (g 8 0)), .ref (pa (11, 0))]))]) H1 → va_S A s.heap H1 locs1 → W p l e R s m args below meth c H1 locs1 cells slots Q (F0 m (pc + 5) ls (.ref (pa (13, i)) :: rest))) : W p l e R s m args below meth c H locs cells slots Q (F0 m pc ls (.ref t :: rest)) := by
  obtain ⟨ad, L, ha, hL, hP⟩ := h
  obtain ⟨q0, hq0⟩ := zp_idx ((hL (11, 0)).mpr rfl)
  have h0 := zp_at (T := T ++ [(t, .inr (9, [.int (nI i), .int (lr), .int (nI (g 8 0)), .ref (pa (11, 0))]))]) (ad := ad) (ct := xC dA cn ad g) hq0
  have hL0 := (List.getElem?_eq_some_iff.mp hq0).1
  have hi : (zp_W L ad (xC dA cn ad g) ++ (T ++ [(t, .inr (9, [.int (nI i), .int (lr), .int (nI (g 8 0)), .ref (pa (11, 0))]))]))[L.length + T.length]? = some (t, .inr (9, [.int (nI i), .int (lr), .int (nI (g 8 0)), .ref (pa (11, 0))])) := by rw [zp_tm]; simp
  have hpos : (g 8 0) ≠ 0 := by omega
  obtain ⟨q1, hq1'⟩ := zp_idx ((hL (12, 0)).mpr (by simp [xL, hpos]))
  have hL1 := (List.getElem?_eq_some_iff.mp hq1').1
  have h1 := zp_at (T := T ++ [(t, .inr (9, [.int (nI i), .int (lr), .int (nI (g 8 0)), .ref (pa (11, 0))]))]) (ad := ad) (ct := xC dA cn ad g) hq1'
  have h0 : (zp_W L ad (xC dA cn ad g) ++ (T ++ [(t, .inr (9, [.int (nI i), .int (lr), .int (nI (g 8 0)), .ref (pa (11, 0))]))]))[q0]? = some (pa (11, 0), .inr (8, [.int (nI (g 8 0)), .ref (ad (12, 0)), .int (nI (g 8 0))])) := by
    rw [h0, ha (11, 0) rfl]
    show some (pa (11, 0), xLst cn (g 8 0) (ad (12, 0))) = _
    unfold xLst
    rw [if_neg hpos]
  have hcl := capN_le (g 8 0)
  refine zc_callF (n := 0) (As := []) (rest := rest) ((hKX.1.1 9 _ rfl).2) S (cI_next l (y := pa (13, i)) H hP.2.1 hP.2.2 h0 hi (by omega) (by omega) h1 (by show opB (decide (i < (g 8 0))) (ad (13, i)) = _; rw [decide_eq_true hin, ha (13, i) rfl]; rfl) (capN_ge _) (by omega) hin (Post := fun v H1 => v = some (.ref (pa (13, i))) ∧ XS D dA cn A pa g (T ++ [(t, .inr (9, [.int (nI (i + 1)), .int (nI i), .int (nI (g 8 0)), .ref (pa (11, 0))]))]) H1) (fun H1 g1 g2 => ?_)) (lw_F q616 q621 q619 q91 q623) (hKX.2.1.2.1 ("java/util/ArrayList$Itr", ⟨"java/util/Iterator", "next", "()Ljava/lang/Object;"⟩, ⟨"java/util/ArrayList$Itr", "next", "()Ljava/lang/Object;"⟩) (List.mem_of_getElem? (i := 1) rfl)) (by decide +kernel) ⟨hf, hlo⟩ ⟨hq1, hq2⟩ (va_recv hKX.1 hP.2.1 (ci := 9) rfl hi) KX_mv (zc_K KX_mv hKX hS) hS (fun _ h => h) rfl hsz rfl hcat hdg (fun v H1 locs1 hp _ _ hS1 => by obtain ⟨rfl, h1⟩ := hp; exact kk H1 locs1 h1 hS1)
  have hPL : PL D A L ad (xC dA cn ad g) (T ++ [(t, .inr (9, [.int (nI (i + 1)), .int (nI i), .int (nI (g 8 0)), .ref (pa (11, 0))]))]) H1 := ⟨hP.1, by rw [zp_setT] at g1; simpa using g1, by rw [zp_setT] at g2; simpa using g2⟩
  exact ⟨rfl, ad, L, ha, hL, hPL⟩
theorem kL_size_m (S : CallFix p m c cc nL s args lw_all RX1) (hKX : KX D dA cn A s) (h : XS D dA cn A pa g T H) (hS : va_S A s.heap H locs) (hf : 1 + 1 ≤ R.frames) (hlo : 8 + (1 + 11) + 12 ≤ R.locals) (hsz : ls.size = nL) (hcat : (rest.map fun v => v.category).sum ≤ 8) (hq1 : cells ≤ R.cells) (hq2 : slots ≤ R.slots) (hdg : decode cc pc = .ok (.invokeinterface 293 1, 5)) (kk : ∀ locs1 : List Loc, va_S A s.heap H locs1 → W p l e R s m args below meth c H locs1 cells slots Q (F0 m (pc + 5) ls (.int (nI (g 8 1)) :: rest))) : W p l e R s m args below meth c H locs cells slots Q (F0 m pc ls (.ref (pa (14, 0)) :: rest)) := by
  obtain ⟨ad, L, ha, hL, hP⟩ := h
  obtain ⟨q0, hq0⟩ := zp_idx ((hL (14, 0)).mpr rfl)
  have h0 := zp_at (T := T) (ad := ad) (ct := xC dA cn ad g) hq0
  have hL0 := (List.getElem?_eq_some_iff.mp hq0).1
  rw [← ha (14, 0) rfl]
  exact zc_callF (n := 0) (As := []) (rest := rest) ((hKX.1.1 8 _ rfl).2) S (cL_size l H hP.2.1 h0 (Post := fun v H1 => v = some (.int (nI (g 8 1))) ∧ H = H1) ⟨rfl, rfl⟩) (lw_F q779 q784 q782 q74 q786) (hKX.2.1.2.1 ("java/util/ArrayList", ⟨"java/util/List", "size", "()I"⟩, ⟨"java/util/ArrayList", "size", "()I"⟩) (List.mem_of_getElem? (i := 4) rfl)) (by decide +kernel) ⟨hf, hlo⟩ ⟨hq1, hq2⟩ (va_recv hKX.1 hP.2.1 (ci := 8) (q0 := q0) rfl h0) KX_mv (zc_K KX_mv hKX hS) hS (fun _ h => h) rfl hsz rfl hcat hdg (fun v H1 locs1 hp _ _ hS1 => by obtain ⟨rfl, rfl⟩ := hp; exact kk locs1 hS1)
theorem kL_iter_m (S : CallFix p m c cc nL s args lw_all RX1) (hKX : KX D dA cn A s) (h : XS D dA cn A pa g T H) (hS : va_S A s.heap H locs) (hA : ∀ q, H.size ≤ q → A q) (hf : 3 + 1 ≤ R.frames) (hlo : 8 + (1 + 11) + 100 ≤ R.locals) (hsz : ls.size = nL) (hcat : (rest.map fun v => v.category).sum ≤ 8) (hq1 : cells + 1 ≤ R.cells) (hq2 : slots + 4 ≤ R.slots) (hdg : decode cc pc = .ok (.invokeinterface 151 1, 5)) (kk : ∀ (t : Nat) (H1 : Heap) (locs1 : List Loc), XS D dA cn A pa g (T ++ [(t, .inr (9, [.int (nI 0), .int (mI 0), .int (nI (g 8 1)), .ref (pa (14, 0))]))]) H1 → va_S A s.heap H1 locs1 → W p l e R s m args below meth c H1 locs1 (cells + 1) (slots + 4) Q (F0 m (pc + 5) ls (.ref t :: rest))) : W p l e R s m args below meth c H locs cells slots Q (F0 m pc ls (.ref (pa (14, 0)) :: rest)) := by
  obtain ⟨ad, L, ha, hL, hP⟩ := h
  obtain ⟨q0, hq0⟩ := zp_idx ((hL (14, 0)).mpr rfl)
  have h0 := zp_at (T := T) (ad := ad) (ct := xC dA cn ad g) hq0
  have hL0 := (List.getElem?_eq_some_iff.mp hq0).1
  rw [← ha (14, 0) rfl] at kk ⊢
  exact zc_callF (n := 0) (As := []) (rest := rest) ((hKX.1.1 8 _ rfl).2) S (cL_iterator l H hA hP.2.1 hP.2.2 h0 (Post := fun v H1 => ∃ t : Nat, v = some (.ref t) ∧ XS D dA cn A pa g (T ++ [(t, .inr (9, [.int (0), .int (mI 0), .int (nI (g 8 1)), .ref (ad (14, 0))]))]) H1) (fun t H1 g1 g2 => ⟨t, rfl, ad, L, ha, hL, hP.1, by rw [← List.append_assoc]; exact g1, by rw [← List.append_assoc]; exact g2⟩)) (lw_F q578 q583 q581 q74 q585) (hKX.2.1.2.1 ("java/util/ArrayList", ⟨"java/util/List", "iterator", "()Ljava/util/Iterator;"⟩, ⟨"java/util/ArrayList", "iterator", "()Ljava/util/Iterator;"⟩) (List.mem_of_getElem? (i := 3) rfl)) (by decide +kernel) ⟨hf, hlo⟩ ⟨hq1, hq2⟩ (va_recv hKX.1 hP.2.1 (ci := 8) (q0 := q0) rfl h0) KX_mv (zc_K KX_mv hKX hS) hS (fun _ h => h) rfl hsz rfl hcat hdg (fun v H1 locs1 hp _ _ hS1 => by obtain ⟨t, rfl, h1⟩ := hp; exact kk t H1 locs1 h1 hS1)
theorem kL_has_m (S : CallFix p m c cc nL s args lw_all RX1) (hKX : KX D dA cn A s) {t i : Nat} {lr : Int32} (h : XS D dA cn A pa g (T ++ [(t, .inr (9, [.int (nI i), .int (lr), .int (nI (g 8 1)), .ref (pa (14, 0))]))]) H) (hS : va_S A s.heap H locs) (hn : (g 8 1) < 1048576) (hin : i ≤ (g 8 1)) (hf : 1 + 1 ≤ R.frames) (hlo : 8 + (1 + 11) + 12 ≤ R.locals) (hsz : ls.size = nL) (hcat : (rest.map fun v => v.category).sum ≤ 8) (hq1 : cells ≤ R.cells) (hq2 : slots ≤ R.slots) (hdg : decode cc pc = .ok (.invokeinterface 155 1, 5)) (kk : ∀ locs1 : List Loc, va_S A s.heap H locs1 → W p l e R s m args below meth c H locs1 cells slots Q (F0 m (pc + 5) ls (.int (nI (decide (i < (g 8 1))).toNat) :: rest))) : W p l e R s m args below meth c H locs cells slots Q (F0 m pc ls (.ref t :: rest)) := by
  obtain ⟨ad, L, ha, hL, hP⟩ := h
  obtain ⟨q0, hq0⟩ := zp_idx ((hL (14, 0)).mpr rfl)
  have h0 := zp_at (T := T ++ [(t, .inr (9, [.int (nI i), .int (lr), .int (nI (g 8 1)), .ref (pa (14, 0))]))]) (ad := ad) (ct := xC dA cn ad g) hq0
  have hL0 := (List.getElem?_eq_some_iff.mp hq0).1
  have hi : (zp_W L ad (xC dA cn ad g) ++ (T ++ [(t, .inr (9, [.int (nI i), .int (lr), .int (nI (g 8 1)), .ref (pa (14, 0))]))]))[L.length + T.length]? = some (t, .inr (9, [.int (nI i), .int (lr), .int (nI (g 8 1)), .ref (pa (14, 0))])) := by rw [zp_tm]; simp
  have h0 : (zp_W L ad (xC dA cn ad g) ++ (T ++ [(t, .inr (9, [.int (nI i), .int (lr), .int (nI (g 8 1)), .ref (pa (14, 0))]))]))[q0]? = some (pa (14, 0), xLst cn (g 8 1) (ad (15, 0))) := by rw [h0, ha (14, 0) rfl]; rfl
  exact zc_callF (n := 0) (As := []) (rest := rest) ((hKX.1.1 9 _ rfl).2) S (cI_hasNext l H hP.2.1 h0 hi hn hin (Post := fun v H1 => v = some (.int (nI (decide (i < (g 8 1))).toNat)) ∧ H = H1) ⟨rfl, rfl⟩) (lw_F q606 q612 q610 q91 q614) (hKX.2.1.2.1 ("java/util/ArrayList$Itr", ⟨"java/util/Iterator", "hasNext", "()Z"⟩, ⟨"java/util/ArrayList$Itr", "hasNext", "()Z"⟩) (List.mem_of_getElem? (i := 0) rfl)) (by decide +kernel) ⟨hf, hlo⟩ ⟨hq1, hq2⟩ (va_recv hKX.1 hP.2.1 (ci := 9) rfl hi) KX_mv (zc_K KX_mv hKX hS) hS (fun _ h => h) rfl hsz rfl hcat hdg (fun v H1 locs1 hp _ _ hS1 => by obtain ⟨rfl, rfl⟩ := hp; exact kk locs1 hS1)
theorem kL_next_m (S : CallFix p m c cc nL s args lw_all RX1) (hKX : KX D dA cn A s) {t i : Nat} {lr : Int32} (h : XS D dA cn A pa g (T ++ [(t, .inr (9, [.int (nI i), .int (lr), .int (nI (g 8 1)), .ref (pa (14, 0))]))]) H) (hS : va_S A s.heap H locs) (hn : (g 8 1) < 100000) (hin : i < (g 8 1)) (hf : 2 + 1 ≤ R.frames) (hlo : 8 + (3 + 11) + 60 ≤ R.locals) (hsz : ls.size = nL) (hcat : (rest.map fun v => v.category).sum ≤ 8) (hq1 : cells ≤ R.cells) (hq2 : slots ≤ R.slots) (hdg : decode cc pc = .ok (.invokeinterface 161 1, 5)) (kk : ∀ (y : Nat) (H1 : Heap) (locs1 : List Loc), va_P D clA [(y, .inr (4, [.int (nI (g 12 i)), .int (nI (g 13 i)), .int (nI (g 14 i)), .int (nI (g 15 i))]))] H1 → XS D dA cn A pa g (T ++ [(t, .inr (9, [.int (nI (i + 1)), .int (nI i), .int (nI (g 8 1)), .ref (pa (14, 0))]))]) H1 → va_S A s.heap H1 locs1 → W p l e R s m args below meth c H1 locs1 cells slots Q (F0 m (pc + 5) ls (.ref y :: rest))) : W p l e R s m args below meth c H locs cells slots Q (F0 m pc ls (.ref t :: rest)) := by
  obtain ⟨ad, L, ha, hL, hP⟩ := h
  obtain ⟨q0, hq0⟩ := zp_idx ((hL (14, 0)).mpr rfl)
  have h0 := zp_at (T := T ++ [(t, .inr (9, [.int (nI i), .int (lr), .int (nI (g 8 1)), .ref (pa (14, 0))]))]) (ad := ad) (ct := xC dA cn ad g) hq0
  have hL0 := (List.getElem?_eq_some_iff.mp hq0).1
  have hi : (zp_W L ad (xC dA cn ad g) ++ (T ++ [(t, .inr (9, [.int (nI i), .int (lr), .int (nI (g 8 1)), .ref (pa (14, 0))]))]))[L.length + T.length]? = some (t, .inr (9, [.int (nI i), .int (lr), .int (nI (g 8 1)), .ref (pa (14, 0))])) := by rw [zp_tm]; simp
  have hpos : (g 8 1) ≠ 0 := by omega
  obtain ⟨q1, hq1'⟩ := zp_idx ((hL (15, 0)).mpr (by simp [xL, hpos]))
  have hL1 := (List.getElem?_eq_some_iff.mp hq1').1
  have h1 := zp_at (T := T ++ [(t, .inr (9, [.int (nI i), .int (lr), .int (nI (g 8 1)), .ref (pa (14, 0))]))]) (ad := ad) (ct := xC dA cn ad g) hq1'
  have h0 : (zp_W L ad (xC dA cn ad g) ++ (T ++ [(t, .inr (9, [.int (nI i), .int (lr), .int (nI (g 8 1)), .ref (pa (14, 0))]))]))[q0]? = some (pa (14, 0), .inr (8, [.int (nI (g 8 1)), .ref (ad (15, 0)), .int (nI (g 8 1))])) := by
    rw [h0, ha (14, 0) rfl]
    show some (pa (14, 0), xLst cn (g 8 1) (ad (15, 0))) = _
    unfold xLst
    rw [if_neg hpos]
  have hcl := capN_le (g 8 1)
  refine zc_callF (n := 0) (As := []) (rest := rest) ((hKX.1.1 9 _ rfl).2) S (cI_next l (y := ad (16, i)) H hP.2.1 hP.2.2 h0 hi (by omega) (by omega) h1 (by show opB (decide (i < (g 8 1))) (ad (16, i)) = _; rw [decide_eq_true hin]; rfl) (capN_ge _) (by omega) hin (Post := fun v H1 => v = some (.ref (ad (16, i))) ∧ XS D dA cn A pa g (T ++ [(t, .inr (9, [.int (nI (i + 1)), .int (nI i), .int (nI (g 8 1)), .ref (pa (14, 0))]))]) H1 ∧ va_P D clA [(ad (16, i), .inr (4, [.int (nI (g 12 i)), .int (nI (g 13 i)), .int (nI (g 14 i)), .int (nI (g 15 i))]))] H1) (fun H1 g1 g2 => ?_)) (lw_F q616 q621 q619 q91 q623) (hKX.2.1.2.1 ("java/util/ArrayList$Itr", ⟨"java/util/Iterator", "next", "()Ljava/lang/Object;"⟩, ⟨"java/util/ArrayList$Itr", "next", "()Ljava/lang/Object;"⟩) (List.mem_of_getElem? (i := 1) rfl)) (by decide +kernel) ⟨hf, hlo⟩ ⟨hq1, hq2⟩ (va_recv hKX.1 hP.2.1 (ci := 9) rfl hi) KX_mv (zc_K KX_mv hKX hS) hS (fun _ h => h) rfl hsz rfl hcat hdg (fun v H1 locs1 hp _ _ hS1 => by obtain ⟨rfl, h1, h2⟩ := hp; exact kk _ H1 locs1 h2 h1 hS1)
  have hPL : PL D A L ad (xC dA cn ad g) (T ++ [(t, .inr (9, [.int (nI (i + 1)), .int (nI i), .int (nI (g 8 1)), .ref (pa (14, 0))]))]) H1 := ⟨hP.1, by rw [zp_setT] at g1; simpa using g1, by rw [zp_setT] at g2; simpa using g2⟩
  exact ⟨rfl, ⟨ad, L, ha, hL, hPL⟩, va_P.ofm (fun q hq => by rw [List.mem_singleton.mp hq]; exact hPL.cell ((hL (16, i)).mpr (by simp [xL]; omega)))⟩
theorem kL_cast_c (S : CallFix p m c cc nL s args lw_all RX1) (hKX : KX D dA cn A s) (h : XS D dA cn A pa g T H) {i : Nat} (hi : i < g 8 0) (hdg : decode cc pc = .ok (.checkcast 165, 3)) (kk : W p l e R s m args below meth c H locs cells slots Q (F0 m (pc + 3) ls (.ref (pa (13, i)) :: rest))) : W p l e R s m args below meth c H locs cells slots Q (F0 m pc ls (.ref (pa (13, i)) :: rest)) :=
  va_castS S.1 S.2.1 S.2.2.2.1 (S.2.2.2.2 _ q628) ((hKX.1.1 6 _ rfl).2) (va_recv hKX.1 (h.one (13, i) rfl (by simp [xL, hi]) rfl (show (13 : Nat) ≠ 11 by decide) (show (13 : Nat) ≠ 14 by decide) (show (13 : Nat) ≠ 15 by decide)) (ci := 6) (q0 := 0) rfl rfl) hdg kk
theorem kL_cast_m (S : CallFix p m c cc nL s args lw_all RX1) (hKX : KX D dA cn A s) {y : Nat} {fs : List Value} (h : va_P D clA [(y, .inr (4, fs))] H) (hdg : decode cc pc = .ok (.checkcast 101, 3)) (kk : W p l e R s m args below meth c H locs cells slots Q (F0 m (pc + 3) ls (.ref y :: rest))) : W p l e R s m args below meth c H locs cells slots Q (F0 m pc ls (.ref y :: rest)) :=
  va_castS S.1 S.2.1 S.2.2.2.1 (S.2.2.2.2 _ q423) ((hKX.1.1 4 _ rfl).2) (va_recv hKX.1 h (ci := 4) (q0 := 0) rfl rfl) hdg kk
end ZL
