/-! LEAVES: small classes, calls through interfaces (printed by gen/mkleaf.py) -/
set_option maxHeartbeats 1000000 in
set_option maxRecDepth 100000 in
theorem cN_X4 (l : Launch) {D : va_G} {dA : Nat → ClassId} {cn : Nat → Nat} {A : Nat → Prop} {ws : va_W} {q0 a : Nat} {v1 : Int32} (H0 : Heap) (hP : va_P D clA ws H0) (hD : va_D A ws) (he : ws[q0]? = some (a, .inr (3, [.int 0]))) {Post : Option Value → Heap → Prop} (hPost : ∀ H : Heap, va_P D clA (ws.set q0 (a, .inr (3, [.int v1]))) H → va_D A (ws.set q0 (a, .inr (3, [.int v1]))) → Post none H) : Ct l yX4_init (ws_ yX4_init cX4_init 2 none) (rmF 2 0 0 40) A (KX D dA cn A) [.ref a, .int v1] H0 Post := by
  have hlt : q0 < ws.length := (List.getElem?_eq_some_iff.mp he).1
  refine zc_of RX4 rfl (by decide) (Nat.le_of_ble_eq_true rfl) ?_
  intro pr en s m args below meth cd S hr hlk hnm hh hK ls hl
  have hS : va_S A s.heap H0 [] := zc_start hh
  have hx := S.1
  have hb := S.2.1
  have hown := S.2.2.2.1
  have hts := S.2.2.2.2
  have hl : lv_has ls 2 [(0, .ref a), (1, .int v1)] := hl
  refine lv_aload_n hx hb dX4_init_0 rfl (lv_at hl 0 rfl) ?_
  refine W.objInit hx hb hown (hts _ q407) (hts _ q104) (hts _ q105) rfl (by rw [S.2.2.1]; exact hl.1) rfl dX4_init_1 (Nat.le_of_ble_eq_true rfl) (Nat.le_of_ble_eq_true rfl) ?_
  refine W.eq (g2 := F0 m 4 ls []) rfl ?_
  refine lv_aload_n hx hb dX4_init_4 rfl (lv_at hl 0 rfl) ?_
  refine lv_iload_n hx hb dX4_init_5 rfl (lv_at hl 1 rfl) ?_
  refine va_putF (D := D) (ci := 3) (v := .int v1) (ty := .int) (C := RX4) (T := TX4) (N := 1) hx hb hts in_X4 tyX4 tyX4_ok nmX4 hown hK.1 hP hD hS q0 he rfl 0 (by decide) (hts _ q408) (fun _ h9 => h9) rfl hnm rfl (by decide +kernel) rfl rfl (Nat.le_of_ble_eq_true rfl) dX4_init_6 (fun H locs hP hD hS => ?_)
  have he : (ws.set q0 (a, .inr (3, [.int v1])))[q0]? = some (a, .inr (3, [.int v1])) := List.getElem?_set_self hlt
  exact zc_vret (hPost _ hP hD) hS hx hb hr hlk (Nat.zero_le _) (Nat.zero_le _) dX4_init_9
set_option maxHeartbeats 1000000 in
set_option maxRecDepth 100000 in
theorem cN_X6 (l : Launch) {D : va_G} {dA : Nat → ClassId} {cn : Nat → Nat} {A : Nat → Prop} {ws : va_W} {q0 a : Nat} {v1 : Int32} (H0 : Heap) (hP : va_P D clA ws H0) (hD : va_D A ws) (he : ws[q0]? = some (a, .inr (5, [.int 0]))) {Post : Option Value → Heap → Prop} (hPost : ∀ H : Heap, va_P D clA (ws.set q0 (a, .inr (5, [.int v1]))) H → va_D A (ws.set q0 (a, .inr (5, [.int v1]))) → Post none H) : Ct l yX6_init (ws_ yX6_init cX6_init 2 none) (rmF 2 0 0 40) A (KX D dA cn A) [.ref a, .int v1] H0 Post := by
  have hlt : q0 < ws.length := (List.getElem?_eq_some_iff.mp he).1
  refine zc_of RX6 rfl (by decide) (Nat.le_of_ble_eq_true rfl) ?_
  intro pr en s m args below meth cd S hr hlk hnm hh hK ls hl
  have hS : va_S A s.heap H0 [] := zc_start hh
  have hx := S.1
  have hb := S.2.1
  have hown := S.2.2.2.1
  have hts := S.2.2.2.2
  have hl : lv_has ls 2 [(0, .ref a), (1, .int v1)] := hl
  refine lv_aload_n hx hb dX6_init_0 rfl (lv_at hl 0 rfl) ?_
  refine W.objInit hx hb hown (hts _ q766) (hts _ q104) (hts _ q105) rfl (by rw [S.2.2.1]; exact hl.1) rfl dX6_init_1 (Nat.le_of_ble_eq_true rfl) (Nat.le_of_ble_eq_true rfl) ?_
  refine W.eq (g2 := F0 m 4 ls []) rfl ?_
  refine lv_aload_n hx hb dX6_init_4 rfl (lv_at hl 0 rfl) ?_
  refine lv_iload_n hx hb dX6_init_5 rfl (lv_at hl 1 rfl) ?_
  refine va_putF (D := D) (ci := 5) (v := .int v1) (ty := .int) (C := RX6) (T := TX6) (N := 1) hx hb hts in_X6 tyX6 tyX6_ok nmX6 hown hK.1 hP hD hS q0 he rfl 0 (by decide) (hts _ q767) (fun _ h9 => h9) rfl hnm rfl (by decide +kernel) rfl rfl (Nat.le_of_ble_eq_true rfl) dX6_init_6 (fun H locs hP hD hS => ?_)
  have he : (ws.set q0 (a, .inr (5, [.int v1])))[q0]? = some (a, .inr (5, [.int v1])) := List.getElem?_set_self hlt
  exact zc_vret (hPost _ hP hD) hS hx hb hr hlk (Nat.zero_le _) (Nat.zero_le _) dX6_init_9
set_option maxHeartbeats 1000000 in
set_option maxRecDepth 100000 in
theorem cN_X9 (l : Launch) {D : va_G} {dA : Nat → ClassId} {cn : Nat → Nat} {A : Nat → Prop} {ws : va_W} {q0 a : Nat} {v1 : Int32} {v2 : Int32} (H0 : Heap) (hP : va_P D clA ws H0) (hD : va_D A ws) (he : ws[q0]? = some (a, .inr (7, [.int 0, .int 0]))) {Post : Option Value → Heap → Prop} (hPost : ∀ H : Heap, va_P D clA (ws.set q0 (a, .inr (7, [.int v1, .int v2]))) H → va_D A (ws.set q0 (a, .inr (7, [.int v1, .int v2]))) → Post none H) : Ct l yX9_init (ws_ yX9_init cX9_init 3 none) (rmF 2 0 0 40) A (KX D dA cn A) [.ref a, .int v1, .int v2] H0 Post := by
  have hlt : q0 < ws.length := (List.getElem?_eq_some_iff.mp he).1
  refine zc_of RX9 rfl (by decide) (Nat.le_of_ble_eq_true rfl) ?_
  intro pr en s m args below meth cd S hr hlk hnm hh hK ls hl
  have hS : va_S A s.heap H0 [] := zc_start hh
  have hx := S.1
  have hb := S.2.1
  have hown := S.2.2.2.1
  have hts := S.2.2.2.2
  have hl : lv_has ls 3 [(0, .ref a), (1, .int v1), (2, .int v2)] := hl
  refine lv_aload_n hx hb dX9_init_0 rfl (lv_at hl 0 rfl) ?_
  refine W.objInit hx hb hown (hts _ q894) (hts _ q104) (hts _ q105) rfl (by rw [S.2.2.1]; exact hl.1) rfl dX9_init_1 (Nat.le_of_ble_eq_true rfl) (Nat.le_of_ble_eq_true rfl) ?_
  refine W.eq (g2 := F0 m 4 ls []) rfl ?_
  refine lv_aload_n hx hb dX9_init_4 rfl (lv_at hl 0 rfl) ?_
  refine lv_iload_n hx hb dX9_init_5 rfl (lv_at hl 1 rfl) ?_
  refine va_putF (D := D) (ci := 7) (v := .int v1) (ty := .int) (C := RX9) (T := TX9) (N := 2) hx hb hts in_X9 tyX9 tyX9_ok nmX9 hown hK.1 hP hD hS q0 he rfl 0 (by decide) (hts _ q895) (fun _ h9 => h9) rfl hnm rfl (by decide +kernel) rfl rfl (Nat.le_of_ble_eq_true rfl) dX9_init_6 (fun H locs hP hD hS => ?_)
  have he : (ws.set q0 (a, .inr (7, [.int v1, .int 0])))[q0]? = some (a, .inr (7, [.int v1, .int 0])) := List.getElem?_set_self hlt
  refine lv_aload_n hx hb dX9_init_9 rfl (lv_at hl 0 rfl) ?_
  refine lv_iload_n hx hb dX9_init_10 rfl (lv_at hl 2 rfl) ?_
  refine va_putF (D := D) (ci := 7) (v := .int v2) (ty := .int) (C := RX9) (T := TX9) (N := 2) hx hb hts in_X9 tyX9 tyX9_ok nmX9 hown hK.1 hP hD hS q0 he rfl 1 (by decide) (hts _ q897) (fun _ h9 => h9) rfl hnm rfl (by decide +kernel) rfl rfl (Nat.le_of_ble_eq_true rfl) dX9_init_11 (fun H locs hP hD hS => ?_)
  rw [List.set_set] at hP hD
  have he : (ws.set q0 (a, .inr (7, [.int v1, .int v2])))[q0]? = some (a, .inr (7, [.int v1, .int v2])) := List.getElem?_set_self hlt
  exact zc_vret (hPost _ hP hD) hS hx hb hr hlk (Nat.zero_le _) (Nat.zero_le _) dX9_init_14
set_option maxHeartbeats 1000000 in
set_option maxRecDepth 100000 in
theorem cN_X8 (l : Launch) {D : va_G} {dA : Nat → ClassId} {cn : Nat → Nat} {A : Nat → Prop} {ws : va_W} {q0 a : Nat} {v1 : Nat} {v2 : Int32} {v3 : Int32} (H0 : Heap) (hP : va_P D clA ws H0) (hD : va_D A ws) (he : ws[q0]? = some (a, .inr (6, [.null, .int 0, .int 0, .int 0]))) {Post : Option Value → Heap → Prop} (hPost : ∀ H : Heap, va_P D clA (ws.set q0 (a, .inr (6, [.ref v1, .int v2, .int v3, .int 0]))) H → va_D A (ws.set q0 (a, .inr (6, [.ref v1, .int v2, .int v3, .int 0]))) → Post none H) : Ct l yX8_init (ws_ yX8_init cX8_init 4 none) (rmF 2 0 0 40) A (KX D dA cn A) [.ref a, .ref v1, .int v2, .int v3] H0 Post := by
  have hlt : q0 < ws.length := (List.getElem?_eq_some_iff.mp he).1
  refine zc_of RX8 rfl (by decide) (Nat.le_of_ble_eq_true rfl) ?_
  intro pr en s m args below meth cd S hr hlk hnm hh hK ls hl
  have hS : va_S A s.heap H0 [] := zc_start hh
  have hx := S.1
  have hb := S.2.1
  have hown := S.2.2.2.1
  have hts := S.2.2.2.2
  have hl : lv_has ls 4 [(0, .ref a), (1, .ref v1), (2, .int v2), (3, .int v3)] := hl
  refine lv_aload_n hx hb dX8_init_0 rfl (lv_at hl 0 rfl) ?_
  refine W.objInit hx hb hown (hts _ q793) (hts _ q104) (hts _ q105) rfl (by rw [S.2.2.1]; exact hl.1) rfl dX8_init_1 (Nat.le_of_ble_eq_true rfl) (Nat.le_of_ble_eq_true rfl) ?_
  refine W.eq (g2 := F0 m 4 ls []) rfl ?_
  refine lv_aload_n hx hb dX8_init_4 rfl (lv_at hl 0 rfl) ?_
  refine lv_aload_n hx hb dX8_init_5 rfl (lv_at hl 1 rfl) ?_
  refine va_putF (D := D) (ci := 6) (v := .ref v1) (ty := .object "Hexstead$Kind") (C := RX8) (T := TX8) (N := 4) hx hb hts in_X8 tyX8 tyX8_ok nmX8 hown hK.1 hP hD hS q0 he rfl 0 (by decide) (hts _ q794) (fun _ h9 => h9) rfl hnm rfl (by decide +kernel) rfl rfl (Nat.le_of_ble_eq_true rfl) dX8_init_6 (fun H locs hP hD hS => ?_)
  have he : (ws.set q0 (a, .inr (6, [.ref v1, .int 0, .int 0, .int 0])))[q0]? = some (a, .inr (6, [.ref v1, .int 0, .int 0, .int 0])) := List.getElem?_set_self hlt
  refine lv_aload_n hx hb dX8_init_9 rfl (lv_at hl 0 rfl) ?_
  refine lv_iload_n hx hb dX8_init_10 rfl (lv_at hl 2 rfl) ?_
  refine va_putF (D := D) (ci := 6) (v := .int v2) (ty := .int) (C := RX8) (T := TX8) (N := 4) hx hb hts in_X8 tyX8 tyX8_ok nmX8 hown hK.1 hP hD hS q0 he rfl 1 (by decide) (hts _ q796) (fun _ h9 => h9) rfl hnm rfl (by decide +kernel) rfl rfl (Nat.le_of_ble_eq_true rfl) dX8_init_11 (fun H locs hP hD hS => ?_)
  rw [List.set_set] at hP hD
  have he : (ws.set q0 (a, .inr (6, [.ref v1, .int v2, .int 0, .int 0])))[q0]? = some (a, .inr (6, [.ref v1, .int v2, .int 0, .int 0])) := List.getElem?_set_self hlt
  refine lv_aload_n hx hb dX8_init_14 rfl (lv_at hl 0 rfl) ?_
  refine lv_iload_n hx hb dX8_init_15 rfl (lv_at hl 3 rfl) ?_
  refine va_putF (D := D) (ci := 6) (v := .int v3) (ty := .int) (C := RX8) (T := TX8) (N := 4) hx hb hts in_X8 tyX8 tyX8_ok nmX8 hown hK.1 hP hD hS q0 he rfl 2 (by decide) (hts _ q798) (fun _ h9 => h9) rfl hnm rfl (by decide +kernel) rfl rfl (Nat.le_of_ble_eq_true rfl) dX8_init_16 (fun H locs hP hD hS => ?_)
  rw [List.set_set] at hP hD
  have he : (ws.set q0 (a, .inr (6, [.ref v1, .int v2, .int v3, .int 0])))[q0]? = some (a, .inr (6, [.ref v1, .int v2, .int v3, .int 0])) := List.getElem?_set_self hlt
  exact zc_vret (hPost _ hP hD) hS hx hb hr hlk (Nat.zero_le _) (Nat.zero_le _) dX8_init_19
set_option maxHeartbeats 1000000 in
set_option maxRecDepth 100000 in
theorem cN_X5 (l : Launch) {D : va_G} {dA : Nat → ClassId} {cn : Nat → Nat} {A : Nat → Prop} {ws : va_W} {q0 a : Nat} {v1 : Int32} {v2 : Int32} {v3 : Int32} {v4 : Int32} (H0 : Heap) (hP : va_P D clA ws H0) (hD : va_D A ws) (he : ws[q0]? = some (a, .inr (4, [.int 0, .int 0, .int 0, .int 0]))) {Post : Option Value → Heap → Prop} (hPost : ∀ H : Heap, va_P D clA (ws.set q0 (a, .inr (4, [.int v1, .int v2, .int v3, .int v4]))) H → va_D A (ws.set q0 (a, .inr (4, [.int v1, .int v2, .int v3, .int v4]))) → Post none H) : Ct l yX5_init (ws_ yX5_init cX5_init 5 none) (rmF 2 0 0 40) A (KX D dA cn A) [.ref a, .int v1, .int v2, .int v3, .int v4] H0 Post := by
  have hlt : q0 < ws.length := (List.getElem?_eq_some_iff.mp he).1
  refine zc_of RX5 rfl (by decide) (Nat.le_of_ble_eq_true rfl) ?_
  intro pr en s m args below meth cd S hr hlk hnm hh hK ls hl
  have hS : va_S A s.heap H0 [] := zc_start hh
  have hx := S.1
  have hb := S.2.1
  have hown := S.2.2.2.1
  have hts := S.2.2.2.2
  have hl : lv_has ls 5 [(0, .ref a), (1, .int v1), (2, .int v2), (3, .int v3), (4, .int v4)] := hl
  refine lv_aload_n hx hb dX5_init_0 rfl (lv_at hl 0 rfl) ?_
  refine W.objInit hx hb hown (hts _ q428) (hts _ q104) (hts _ q105) rfl (by rw [S.2.2.1]; exact hl.1) rfl dX5_init_1 (Nat.le_of_ble_eq_true rfl) (Nat.le_of_ble_eq_true rfl) ?_
  refine W.eq (g2 := F0 m 4 ls []) rfl ?_
  refine lv_aload_n hx hb dX5_init_4 rfl (lv_at hl 0 rfl) ?_
  refine lv_iload_n hx hb dX5_init_5 rfl (lv_at hl 1 rfl) ?_
  refine va_putF (D := D) (ci := 4) (v := .int v1) (ty := .int) (C := RX5) (T := TX5) (N := 4) hx hb hts in_X5 tyX5 tyX5_ok nmX5 hown hK.1 hP hD hS q0 he rfl 0 (by decide) (hts _ q429) (fun _ h9 => h9) rfl hnm rfl (by decide +kernel) rfl rfl (Nat.le_of_ble_eq_true rfl) dX5_init_6 (fun H locs hP hD hS => ?_)
  have he : (ws.set q0 (a, .inr (4, [.int v1, .int 0, .int 0, .int 0])))[q0]? = some (a, .inr (4, [.int v1, .int 0, .int 0, .int 0])) := List.getElem?_set_self hlt
  refine lv_aload_n hx hb dX5_init_9 rfl (lv_at hl 0 rfl) ?_
  refine lv_iload_n hx hb dX5_init_10 rfl (lv_at hl 2 rfl) ?_
  refine va_putF (D := D) (ci := 4) (v := .int v2) (ty := .int) (C := RX5) (T := TX5) (N := 4) hx hb hts in_X5 tyX5 tyX5_ok nmX5 hown hK.1 hP hD hS q0 he rfl 1 (by decide) (hts _ q430) (fun _ h9 => h9) rfl hnm rfl (by decide +kernel) rfl rfl (Nat.le_of_ble_eq_true rfl) dX5_init_11 (fun H locs hP hD hS => ?_)
  rw [List.set_set] at hP hD
  have he : (ws.set q0 (a, .inr (4, [.int v1, .int v2, .int 0, .int 0])))[q0]? = some (a, .inr (4, [.int v1, .int v2, .int 0, .int 0])) := List.getElem?_set_self hlt
  refine lv_aload_n hx hb dX5_init_14 rfl (lv_at hl 0 rfl) ?_
  refine lv_iload_n hx hb dX5_init_15 rfl (lv_at hl 3 rfl) ?_
  refine va_putF (D := D) (ci := 4) (v := .int v3) (ty := .int) (C := RX5) (T := TX5) (N := 4) hx hb hts in_X5 tyX5 tyX5_ok nmX5 hown hK.1 hP hD hS q0 he rfl 2 (by decide) (hts _ q431) (fun _ h9 => h9) rfl hnm rfl (by decide +kernel) rfl rfl (Nat.le_of_ble_eq_true rfl) dX5_init_16 (fun H locs hP hD hS => ?_)
  rw [List.set_set] at hP hD
  have he : (ws.set q0 (a, .inr (4, [.int v1, .int v2, .int v3, .int 0])))[q0]? = some (a, .inr (4, [.int v1, .int v2, .int v3, .int 0])) := List.getElem?_set_self hlt
  refine lv_aload_n hx hb dX5_init_19 rfl (lv_at hl 0 rfl) ?_
  refine lv_iload hx hb dX5_init_20 (lv_at hl 4 rfl) ?_
  refine va_putF (D := D) (ci := 4) (v := .int v4) (ty := .int) (C := RX5) (T := TX5) (N := 4) hx hb hts in_X5 tyX5 tyX5_ok nmX5 hown hK.1 hP hD hS q0 he rfl 3 (by decide) (hts _ q432) (fun _ h9 => h9) rfl hnm rfl (by decide +kernel) rfl rfl (Nat.le_of_ble_eq_true rfl) dX5_init_22 (fun H locs hP hD hS => ?_)
  rw [List.set_set] at hP hD
  have he : (ws.set q0 (a, .inr (4, [.int v1, .int v2, .int v3, .int v4])))[q0]? = some (a, .inr (4, [.int v1, .int v2, .int v3, .int v4])) := List.getElem?_set_self hlt
  exact zc_vret (hPost _ hP hD) hS hx hb hr hlk (Nat.zero_le _) (Nat.zero_le _) dX5_init_25
set_option maxHeartbeats 1000000 in
set_option maxRecDepth 100000 in
theorem c_X4_owner (l : Launch) {D : va_G} {dA : Nat → ClassId} {cn : Nat → Nat} {A : Nat → Prop} {a : Nat} {v : Int32} (H0 : Heap) (hP : va_P D clA [(a, .inr (3, [.int v]))] H0) {Post : Option Value → Heap → Prop} (hPost : Post (some (.int v)) H0) : Ct l yX4_owner (ws_ yX4_owner cX4_owner 1 (some .int)) (rmF 1 0 0 12) A (KX D dA cn A) [.ref a] H0 Post := by
  refine zc_of RX4 rfl (by decide) (Nat.le_of_ble_eq_true rfl) ?_
  intro pr en s m args below meth cd S hr hlk hnm hh hK ls hl
  have hS : va_S A s.heap H0 [] := zc_start hh
  have hx := S.1
  have hb := S.2.1
  have hown := S.2.2.2.1
  have hts := S.2.2.2.2
  have hl : lv_has ls 1 [(0, .ref a)] := hl
  refine lv_aload_n hx hb dX4_owner_0 rfl (lv_at hl 0 rfl) ?_
  refine va_get (D := D) (ci := 3) (C := RX4) (T := TX4) (N := 1) hx hb hts in_X4 hown hK.1 hP 0 rfl rfl 0 (by decide) (hts _ q408) (fun _ h9 => h9) rfl dX4_owner_1 ?_
  exact zc_iret hPost hS hx hb hr hlk (Nat.zero_le _) (Nat.zero_le _) dX4_owner_4
set_option maxHeartbeats 1000000 in
set_option maxRecDepth 100000 in
theorem c_X4_gets (l : Launch) {D : va_G} {dA : Nat → ClassId} {cn : Nat → Nat} {A : Nat → Prop} {a : Nat} (H0 : Heap) {Post : Option Value → Heap → Prop} (hPost : Post (some (.int (nI 1))) H0) : Ct l yX4_gets (ws_ yX4_gets cX4_gets 1 (some .int)) (rmF 1 0 0 12) A (KX D dA cn A) [.ref a] H0 Post := by
  refine zc_of RX4 rfl (by decide) (Nat.le_of_ble_eq_true rfl) ?_
  intro pr en s m args below meth cd S hr hlk hnm hh hK ls hl
  have hS : va_S A s.heap H0 [] := zc_start hh
  have hx := S.1
  have hb := S.2.1
  have hown := S.2.2.2.1
  have hts := S.2.2.2.2
  refine lv_iconst (v := nI 1) hx hb dX4_gets_0 zi_1 ?_
  exact zc_iret hPost hS hx hb hr hlk (Nat.zero_le _) (Nat.zero_le _) dX4_gets_1
set_option maxHeartbeats 1000000 in
set_option maxRecDepth 100000 in
theorem c_X6_owner (l : Launch) {D : va_G} {dA : Nat → ClassId} {cn : Nat → Nat} {A : Nat → Prop} {a : Nat} {v : Int32} (H0 : Heap) (hP : va_P D clA [(a, .inr (5, [.int v]))] H0) {Post : Option Value → Heap → Prop} (hPost : Post (some (.int v)) H0) : Ct l yX6_owner (ws_ yX6_owner cX6_owner 1 (some .int)) (rmF 1 0 0 12) A (KX D dA cn A) [.ref a] H0 Post := by
  refine zc_of RX6 rfl (by decide) (Nat.le_of_ble_eq_true rfl) ?_
  intro pr en s m args below meth cd S hr hlk hnm hh hK ls hl
  have hS : va_S A s.heap H0 [] := zc_start hh
  have hx := S.1
  have hb := S.2.1
  have hown := S.2.2.2.1
  have hts := S.2.2.2.2
  have hl : lv_has ls 1 [(0, .ref a)] := hl
  refine lv_aload_n hx hb dX6_owner_0 rfl (lv_at hl 0 rfl) ?_
  refine va_get (D := D) (ci := 5) (C := RX6) (T := TX6) (N := 1) hx hb hts in_X6 hown hK.1 hP 0 rfl rfl 0 (by decide) (hts _ q767) (fun _ h9 => h9) rfl dX6_owner_1 ?_
  exact zc_iret hPost hS hx hb hr hlk (Nat.zero_le _) (Nat.zero_le _) dX6_owner_4
set_option maxHeartbeats 1000000 in
set_option maxRecDepth 100000 in
theorem c_X6_gets (l : Launch) {D : va_G} {dA : Nat → ClassId} {cn : Nat → Nat} {A : Nat → Prop} {a : Nat} (H0 : Heap) {Post : Option Value → Heap → Prop} (hPost : Post (some (.int (nI 2))) H0) : Ct l yX6_gets (ws_ yX6_gets cX6_gets 1 (some .int)) (rmF 1 0 0 12) A (KX D dA cn A) [.ref a] H0 Post := by
  refine zc_of RX6 rfl (by decide) (Nat.le_of_ble_eq_true rfl) ?_
  intro pr en s m args below meth cd S hr hlk hnm hh hK ls hl
  have hS : va_S A s.heap H0 [] := zc_start hh
  have hx := S.1
  have hb := S.2.1
  have hown := S.2.2.2.1
  have hts := S.2.2.2.2
  refine lv_iconst (v := nI 2) hx hb dX6_gets_0 zi_2 ?_
  exact zc_iret hPost hS hx hb hr hlk (Nat.zero_le _) (Nat.zero_le _) dX6_gets_1
set_option maxHeartbeats 1000000 in
set_option maxRecDepth 100000 in
theorem c_X7_points (l : Launch) {D : va_G} {dA : Nat → ClassId} {cn : Nat → Nat} {A : Nat → Prop} {a : Nat} (H0 : Heap) {Post : Option Value → Heap → Prop} (hPost : Post (some (.int (nI 0))) H0) : Ct l yX7_points (ws_ yX7_points cX7_points 1 (some .int)) (rmF 1 0 0 12) A (KX D dA cn A) [.ref a] H0 Post := by
  refine zc_of RX7 rfl (by decide) (Nat.le_of_ble_eq_true rfl) ?_
  intro pr en s m args below meth cd S hr hlk hnm hh hK ls hl
  have hS : va_S A s.heap H0 [] := zc_start hh
  have hx := S.1
  have hb := S.2.1
  have hown := S.2.2.2.1
  have hts := S.2.2.2.2
  refine lv_iconst (v := nI 0) hx hb dX7_points_0 zi_0 ?_
  exact zc_iret hPost hS hx hb hr hlk (Nat.zero_le _) (Nat.zero_le _) dX7_points_1
set_option maxHeartbeats 1000000 in
set_option maxRecDepth 100000 in
theorem c_X10_points (l : Launch) {D : va_G} {dA : Nat → ClassId} {cn : Nat → Nat} {A : Nat → Prop} {a : Nat} (H0 : Heap) {Post : Option Value → Heap → Prop} (hPost : Post (some (.int (nI 1))) H0) : Ct l yX10_points (ws_ yX10_points cX10_points 1 (some .int)) (rmF 1 0 0 12) A (KX D dA cn A) [.ref a] H0 Post := by
  refine zc_of RX10 rfl (by decide) (Nat.le_of_ble_eq_true rfl) ?_
  intro pr en s m args below meth cd S hr hlk hnm hh hK ls hl
  have hS : va_S A s.heap H0 [] := zc_start hh
  have hx := S.1
  have hb := S.2.1
  have hown := S.2.2.2.1
  have hts := S.2.2.2.2
  refine lv_iconst (v := nI 1) hx hb dX10_points_0 zi_1 ?_
  exact zc_iret hPost hS hx hb hr hlk (Nat.zero_le _) (Nat.zero_le _) dX10_points_1
set_option maxHeartbeats 1000000 in
set_option maxRecDepth 100000 in
theorem c_J15_ordinal (l : Launch) {D : va_G} {dA : Nat → ClassId} {cn : Nat → Nat} {A : Nat → Prop} {k : Nat} (hk : k < 5) (H0 : Heap) {Post : Option Value → Heap → Prop} (hPost : Post (some (.int (nI k))) H0) : Ct l yJ15_ordinal (ws_ yJ15_ordinal cJ15_ordinal 1 (some .int)) (rmF 1 0 0 12) A (KX D dA cn A) [.ref (cn (3 + k))] H0 Post := by
  refine zc_of RJ15 rfl (by decide) (Nat.le_of_ble_eq_true rfl) ?_
  intro pr en s m args below meth cd S hr hlk hnm hh hK ls hl
  have hS : va_S A s.heap H0 [] := zc_start hh
  have hx := S.1
  have hb := S.2.1
  have hown := S.2.2.2.1
  have hts := S.2.2.2.2
  have hl : lv_has ls 1 [(0, .ref (cn (3 + k)))] := hl
  refine lv_aload_n hx hb dJ15_ordinal_0 rfl (lv_at hl 0 rfl) ?_
  obtain ⟨cf, k9, fi, f, cell, h1, h2, h3, h4, h5, h6⟩ := ((hK.2.2.2.2.2.2.2.2.1 k hk).2.2).kept hS.2.1
  refine W.getf hx hb hown (hts _ q1495) h1 h2 h3 h4 (v := .int (nI k)) h5 rfl rfl dJ15_ordinal_1 ?_
  exact zc_iret hPost hS hx hb hr hlk (Nat.zero_le _) (Nat.zero_le _) dJ15_ordinal_4
section ZF
variable {p : Program} {l : Launch} {e : Env} {R : Room} {s : State} {m : MethodId} {args : Array Value} {below : List Frame} {meth : Method} {c : Code} {H : Heap} {locs : List Loc} {cells slots : Nat} {Q : State → Prop}
variable {cc : ByteArray} {pc nL : Nat} {ls : Array Slot} {rest st0 : List Value} {A A1 : Nat → Prop} {mc ms : Nat} {Post : Option Value → Heap → Prop} {K : State → Prop} {own : String}
theorem lw_F {own : String} {idx : Nat} {C : String} {x y : MethodName} {b : ByteArray} {L : Nat} {r : Option FieldType} (h1 : Cond.methodLink own idx x ∈ lw_all) (h2 : Cond.instanceMethod y ∈ lw_all) (h3 : Cond.selects C x y ∈ lw_all) (h4 : Cond.initialized y.cls ∈ lw_all) (h5 : Cond.code y b L r ∈ lw_all) : GoodIn lw_all (va_wsF own idx C x y (ws_ y b L r)) := by
  refine lw_app ?_ (lw_meth h5)
  intro w hw
  simp only [List.mem_cons, List.not_mem_nil, or_false] at hw
  rcases hw with rfl | rfl | rfl | rfl
  · exact h1
  · exact h3
  · exact h2
  · exact h4
theorem zc_run5 {a : Array Value} (hr : va_Run5 p l e R s m args below meth c H locs cells slots mc ms (F0 m pc ls st0) rest (zc_Q Post A1 a) A1) (hS : va_S A s.heap H locs) (hA : ∀ q, A1 q → A q)
    (kk : ∀ (v : Option Value) (H1 : Heap) (locs1 : List Loc), Post v H1 → H.size ≤ H1.size → (∀ q : Nat, q < H.size → ¬ A1 q → H1[q]? = H[q]?) → va_S A s.heap H1 locs1 → W p l e R s m args below meth c H1 locs1 (cells + mc) (slots + ms) Q (F0 m (pc + 5) ls (v.toList ++ rest))) :
    W p l e R s m args below meth c H locs cells slots Q (F0 m pc ls st0) := by
  intro T hT X
  obtain ⟨v, st₀, t, T', L, h0, X', hL, e1, e2, ⟨⟨v', hv, hp⟩, hF⟩, st⟩ := hr T hT X
  cases hv
  obtain ⟨k1, k2, k3⟩ := vx_keep h0 e1 hS (fun q _ h => hA q h) hA hL hF
  obtain ⟨t2, a1, b1⟩ := kk v T'.heap (locs ++ L) (by rw [e1]; exact hp) k1 k2 k3 T' rfl X'
  exact ⟨t2, st t2 a1, b1⟩
/-- a call through an interface -/
theorem zc_callF {x y : MethodName} {bytes : ByteArray} {maxL n index count : Nat} {ret : Option FieldType} {rm : Room} {C : String} {cC : ClassId} {b : Addr} {As : List Value} (hat : ClassAt s C cC) (S : CallFix p m c cc nL s args lw_all own) (hM : Ct l y (ws_ y bytes maxL ret) rm A1 K (.ref b :: As) H Post)
    (hw : GoodIn lw_all (va_wsF own index C x y (ws_ y bytes maxL ret))) (hF : va_Fw C x y s) (hd : x.cls ≠ "java/lang/invoke/MethodHandle" ∧ x.cls ≠ "java/lang/invoke/VarHandle" ∧ (parseMethodDescriptor x.desc).map (fun d => d.parameters.length) = some n)
    (hR : rm.frames + 1 ≤ R.frames ∧ 8 + (maxL + 11) + rm.locals ≤ R.locals) (hcs : cells + rm.cells ≤ R.cells ∧ slots + rm.slots ≤ R.slots) (hrecv : ∃ cell : Cell, H[b]? = some cell ∧ cell.vm.isStatics = false ∧ s.vm.findClass C = some cell.cls)
    (hm : zc_mv A1 K) (hK : ∀ U : State, U.heap = H → s.WarmedH U.vm → K U) (hS : va_S A s.heap H locs) (hA : ∀ q, A1 q → A q) (hn : As.length = n) (hsz : ls.size = nL) (hst : st0 = As.reverse ++ .ref b :: rest) (hcat : (rest.map fun v => v.category).sum ≤ 8) (hdg : decode cc pc = .ok (.invokeinterface index count, 5))
    (kk : ∀ (v : Option Value) (H1 : Heap) (locs1 : List Loc), Post v H1 → H.size ≤ H1.size → (∀ q : Nat, q < H.size → ¬ A1 q → H1[q]? = H[q]?) → va_S A s.heap H1 locs1 → W p l e R s m args below meth c H1 locs1 (cells + rm.cells) (slots + rm.slots) Q (F0 m (pc + 5) ls (v.toList ++ rest))) :
    W p l e R s m args below meth c H locs cells slots Q (F0 m pc ls st0) :=
  zc_run5 (va_runF (As := As) (rest := rest) hat S (show Met l y (ws_ y bytes maxL ret) rm (zc_P (.ref b :: As) H K) (zc_Q Post A1) rm.cells rm.slots A1 from hM) (va_cwF n S.2.2.2.2 hw rfl rfl rfl hF hd hR) ⟨zc_blind hm, hrecv, fun U hU hW => ⟨rfl, hU, hK U hU hW⟩⟩ rfl hn hsz hst (lv_room hcat) hdg hcs) hS hA kk
/-- a call through an interface that lands in its default method -/
theorem zc_callD {x y : MethodName} {bytes : ByteArray} {maxL n index count : Nat} {ret : Option FieldType} {rm : Room} {C : String} {cC : ClassId} {b : Addr} {As : List Value} (hat : ClassAt s C cC) (S : CallFix p m c cc nL s args lw_all own) (hM : Ct l y (ws_ y bytes maxL ret) rm A1 K (.ref b :: As) H Post)
    (hlink : Cond.methodLink own index x ∈ lw_all) (hinst : Cond.instanceMethod y ∈ lw_all) (hini : Cond.initialized y.cls ∈ lw_all) (hcode : Cond.code y bytes maxL ret ∈ lw_all) (hF : va_Fw C x y s) (hland : (Cond.landsInDefault C x y).before args s = true) (hd : x.cls ≠ "java/lang/invoke/MethodHandle" ∧ x.cls ≠ "java/lang/invoke/VarHandle" ∧ (parseMethodDescriptor x.desc).map (fun d => d.parameters.length) = some n)
    (hR : rm.frames + 1 ≤ R.frames ∧ 8 + (maxL + 11) + rm.locals ≤ R.locals) (hcs : cells + rm.cells ≤ R.cells ∧ slots + rm.slots ≤ R.slots) (hrecv : ∃ cell : Cell, H[b]? = some cell ∧ cell.vm.isStatics = false ∧ s.vm.findClass C = some cell.cls)
    (hm : zc_mv A1 K) (hK : ∀ U : State, U.heap = H → s.WarmedH U.vm → K U) (hS : va_S A s.heap H locs) (hA : ∀ q, A1 q → A q) (hn : As.length = n) (hsz : ls.size = nL) (hst : st0 = As.reverse ++ .ref b :: rest) (hcat : (rest.map fun v => v.category).sum ≤ 8) (hdg : decode cc pc = .ok (.invokeinterface index count, 5))
    (kk : ∀ (v : Option Value) (H1 : Heap) (locs1 : List Loc), Post v H1 → H.size ≤ H1.size → (∀ q : Nat, q < H.size → ¬ A1 q → H1[q]? = H[q]?) → va_S A s.heap H1 locs1 → W p l e R s m args below meth c H1 locs1 (cells + rm.cells) (slots + rm.slots) Q (F0 m (pc + 5) ls (v.toList ++ rest))) :
    W p l e R s m args below meth c H locs cells slots Q (F0 m pc ls st0) := by
  refine zc_run5 (mc := rm.cells) (ms := rm.slots) (a := (Value.ref b :: As).toArray) (rest := rest) ?_ hS hA kk
  obtain ⟨hfc, kB, hkB, -⟩ := hat
  have hG := lw_meth hcode
  have hb5 : Back l R p e below s args y 5 8 (PreOf R rm.cells rm.slots (zc_P (.ref b :: As) H K)) (PostOf (zc_Q Post A1) rm.cells rm.slots A1) := back_of (bytes := bytes) (maxL := maxL) (ret := ret) (show Met l y (ws_ y bytes maxL ret) rm (zc_P (.ref b :: As) H K) (zc_Q Post A1) rm.cells rm.slots A1 from hM) (zc_blind hm) rfl rfl hR.1 hR.2 (pay_in S.2.2.2.2 hG) List.mem_cons_self (fun a' U hW => word_at hW (Or.inl (by first | rfl | simp [Cond.onTables, Cond.keeps, Cond.steady])) (S.2.2.2.2 _ hini))
  obtain ⟨hx, hb, hml, ho, hts⟩ := S
  obtain ⟨cellB, hcB, hoB, hclB⟩ := hrecv
  intro T hT X
  obtain ⟨v, vm₁, ⟨U', l2, c2, s2⟩, hW₁, X', ⟨g', mk, t, L, e1, e2, hq, h1, hL, h2, h3⟩, st⟩ := X.interfaceBackD hx ho (hts _ hlink) (va_any rfl hF.1) (va_any rfl hF.2.1) hland (hts _ hinst) (va_any rfl hF.2.2.1) (va_any rfl hF.2.2.2.2) ⟨hd.1, hd.2.1⟩ hb5 hfc hkB (b := b) ⟨cellB, by rw [hT]; exact hcB, Option.some.inj (hclB.symm.trans hfc), hoB⟩ (g := F0 m pc ls st0) rfl (hsz.trans hml.symm) (Steps.refl _) (argsL := As) (rest := rest) (fun sig h => by
      have h2 := hd.2.2
      rw [h] at h2
      exact hn.trans (Option.some.inj h2).symm) hst (lv_room hcat) (by rw [hb]; exact hdg) (fun vm₁ hW₁ => ⟨hcs.1, hcs.2, rfl, hT, hK (T.setVm vm₁) hT hW₁⟩)
  dsimp only [Pt.U, Pt.locs, Pt.cells, Pt.slots] at X' e1 e2 h1 h2 h3 st
  subst h1; subst h2; subst h3
  exact ⟨v, (T.setVm vm₁).calling g' mk (Value.ref b :: As).toArray, t, U', L, hT, X', hL, e1, e2, hq, fun t a => st.trans a⟩
end ZF
set_option maxHeartbeats 1000000 in
set_option maxRecDepth 100000 in
theorem c_X11_points_X4 (l : Launch) {D : va_G} {dA : Nat → ClassId} {cn : Nat → Nat} {A : Nat → Prop} {a : Nat} {v : Int32} (H0 : Heap) (hP : va_P D clA [(a, .inr (3, [.int v]))] H0) {Post : Option Value → Heap → Prop} (hPost : Post (some (.int (nI 1))) H0) : Ct l yX11_points (ws_ yX11_points cX11_points 1 (some .int)) (rmF 2 0 0 40) A (KX D dA cn A) [.ref a] H0 Post := by
  refine zc_of RX11 rfl (by decide) (Nat.le_of_ble_eq_true rfl) ?_
  intro pr en s m args below meth cd S hr hlk hnm hh hK ls hl
  have hS : va_S A s.heap H0 [] := zc_start hh
  have hx := S.1
  have hb := S.2.1
  have hown := S.2.2.2.1
  have hts := S.2.2.2.2
  have hl : lv_has ls 1 [(0, .ref a)] := hl
  refine lv_aload_n hx hb dX11_points_0 rfl (lv_at hl 0 rfl) ?_
  refine zc_callF (n := 0) (As := []) (rest := []) ((hK.1.1 3 _ rfl).2) S (c_X4_gets l H0 (Post := fun v H1 => v = some (.int (nI 1)) ∧ H1 = H0) ⟨rfl, rfl⟩) (lw_F q563 q573 q571 q85 q575) (hK.2.1.2.1 _ (List.mem_of_getElem? (i := 6) rfl)) (by decide +kernel) ⟨Nat.le_of_ble_eq_true rfl, Nat.le_of_ble_eq_true rfl⟩ ⟨Nat.le_of_ble_eq_true rfl, Nat.le_of_ble_eq_true rfl⟩ (va_recv hK.1 hP (ci := 3) (q0 := 0) rfl rfl) KX_mv (zc_K KX_mv hK hS) hS (fun _ h => h) rfl hl.1 rfl (by decide) dX11_points_1 (fun v H1 locs hp _ _ hS1 => ?_)
  obtain ⟨rfl, rfl⟩ := hp
  exact zc_iret hPost hS1 hx hb hr hlk (Nat.le_of_ble_eq_true rfl) (Nat.le_of_ble_eq_true rfl) dX11_points_6
set_option maxHeartbeats 1000000 in
set_option maxRecDepth 100000 in
theorem c_X11_points_X6 (l : Launch) {D : va_G} {dA : Nat → ClassId} {cn : Nat → Nat} {A : Nat → Prop} {a : Nat} {v : Int32} (H0 : Heap) (hP : va_P D clA [(a, .inr (5, [.int v]))] H0) {Post : Option Value → Heap → Prop} (hPost : Post (some (.int (nI 2))) H0) : Ct l yX11_points (ws_ yX11_points cX11_points 1 (some .int)) (rmF 2 0 0 40) A (KX D dA cn A) [.ref a] H0 Post := by
  refine zc_of RX11 rfl (by decide) (Nat.le_of_ble_eq_true rfl) ?_
  intro pr en s m args below meth cd S hr hlk hnm hh hK ls hl
  have hS : va_S A s.heap H0 [] := zc_start hh
  have hx := S.1
  have hb := S.2.1
  have hown := S.2.2.2.1
  have hts := S.2.2.2.2
  have hl : lv_has ls 1 [(0, .ref a)] := hl
  refine lv_aload_n hx hb dX11_points_0 rfl (lv_at hl 0 rfl) ?_
  refine zc_callF (n := 0) (As := []) (rest := []) ((hK.1.1 5 _ rfl).2) S (c_X6_gets l H0 (Post := fun v H1 => v = some (.int (nI 2)) ∧ H1 = H0) ⟨rfl, rfl⟩) (lw_F q563 q568 q566 q92 q570) (hK.2.1.2.1 _ (List.mem_of_getElem? (i := 10) rfl)) (by decide +kernel) ⟨Nat.le_of_ble_eq_true rfl, Nat.le_of_ble_eq_true rfl⟩ ⟨Nat.le_of_ble_eq_true rfl, Nat.le_of_ble_eq_true rfl⟩ (va_recv hK.1 hP (ci := 5) (q0 := 0) rfl rfl) KX_mv (zc_K KX_mv hK hS) hS (fun _ h => h) rfl hl.1 rfl (by decide) dX11_points_1 (fun v H1 locs hp _ _ hS1 => ?_)
  obtain ⟨rfl, rfl⟩ := hp
  exact zc_iret hPost hS1 hx hb hr hlk (Nat.le_of_ble_eq_true rfl) (Nat.le_of_ble_eq_true rfl) dX11_points_6
section ZB
variable {D : va_G} {dA : Nat → ClassId} {cn : Nat → Nat} {A : Nat → Prop} {pa : NM → Nat} {g : G} {T : va_W} {H : Heap}
variable {p : Program} {l : Launch} {e : Env} {R : Room} {s : State} {m : MethodId} {args : Array Value} {below : List Frame} {meth : Method} {c : Code} {locs : List Loc} {cells slots : Nat} {Q : State → Prop}
variable {cc : ByteArray} {pc nL : Nat} {ls : Array Slot} {rest : List Value}
theorem x_bld (h : XS D dA cn A pa g T H) {w : Nat} (hw : w < 24) (hy : decide (g 2 w ≠ 0) = true) : (g 2 w ≤ 3 ∧ va_P D clA [(pa (5, w), .inr (3, [.int (mI (g 2 w))]))] H) ∨ (¬ g 2 w ≤ 3 ∧ va_P D clA [(pa (5, w), .inr (5, [.int (nI (g 2 w - 4))]))] H) := by
  have hl : xL g (5, w) = true := by simp only [decide_eq_true_eq] at hy; simp [xL, hw, hy]
  by_cases q : g 2 w ≤ 3
  · exact Or.inl ⟨q, h.one (5, w) (by unfold xC; exact if_pos q) hl rfl (show (5 : Nat) ≠ 11 by decide) (show (5 : Nat) ≠ 14 by decide) (show (5 : Nat) ≠ 15 by decide)⟩
  · exact Or.inr ⟨q, h.one (5, w) (by unfold xC; exact if_neg q) hl rfl (show (5 : Nat) ≠ 11 by decide) (show (5 : Nat) ≠ 14 by decide) (show (5 : Nat) ≠ 15 by decide)⟩
theorem kI_owner (S : CallFix p m c cc nL s args lw_all RX1) (hKX : KX D dA cn A s) (h : XS D dA cn A pa g T H) (hS : va_S A s.heap H locs) (w : Nat) (hw : w < 24) (hy : decide (g 2 w ≠ 0) = true) (h6 : g 2 w ≤ 6) (hf : 1 + 1 ≤ R.frames) (hlo : 8 + (1 + 11) + 12 ≤ R.locals) (hsz : ls.size = nL) (hcat : (rest.map fun v => v.category).sum ≤ 8) (hq1 : cells ≤ R.cells) (hq2 : slots ≤ R.slots) (hdg : decode cc pc = .ok (.invokeinterface 72 1, 5)) (kk : ∀ locs1 : List Loc, va_S A s.heap H locs1 → W p l e R s m args below meth c H locs1 cells slots Q (F0 m (pc + 5) ls (.int (mI (own1 g w)) :: rest))) : W p l e R s m args below meth c H locs cells slots Q (F0 m pc ls (.ref (pa (5, w)) :: rest)) := by
  have hne : g 2 w ≠ 0 := by simpa using hy
  rcases x_bld h hw hy with ⟨hc, hP⟩ | ⟨hc, hP⟩
  · have e : mI (g 2 w) = mI (own1 g w) := by unfold own1; rw [if_neg hne, Nat.mod_eq_of_lt (show g 2 w - 1 < 3 by omega)]; congr 1; omega
    rw [← e] at kk
    exact zc_callF (n := 0) (As := []) (rest := rest) ((hKX.1.1 3 _ rfl).2) S (c_X4_owner l H hP (Post := fun v H1 => v = some (.int (mI (g 2 w))) ∧ H1 = H) ⟨rfl, rfl⟩) (lw_F q531 q543 q541 q85 q545) (hKX.2.1.2.1 _ (List.mem_of_getElem? (i := 5) rfl)) (by decide +kernel) ⟨hf, hlo⟩ ⟨hq1, hq2⟩ (va_recv hKX.1 hP (ci := 3) (q0 := 0) rfl rfl) KX_mv (zc_K KX_mv hKX hS) hS (fun _ h => h) rfl hsz rfl hcat hdg (fun v H1 locs1 hp _ _ hS1 => by obtain ⟨rfl, rfl⟩ := hp; exact kk locs1 hS1)
  · have e : nI (g 2 w - 4) = mI (own1 g w) := by unfold own1; rw [if_neg hne, mI_succ]; congr 1; omega
    rw [← e] at kk
    exact zc_callF (n := 0) (As := []) (rest := rest) ((hKX.1.1 5 _ rfl).2) S (c_X6_owner l H hP (Post := fun v H1 => v = some (.int (nI (g 2 w - 4))) ∧ H1 = H) ⟨rfl, rfl⟩) (lw_F q531 q537 q535 q92 q539) (hKX.2.1.2.1 _ (List.mem_of_getElem? (i := 8) rfl)) (by decide +kernel) ⟨hf, hlo⟩ ⟨hq1, hq2⟩ (va_recv hKX.1 hP (ci := 5) (q0 := 0) rfl rfl) KX_mv (zc_K KX_mv hKX hS) hS (fun _ h => h) rfl hsz rfl hcat hdg (fun v H1 locs1 hp _ _ hS1 => by obtain ⟨rfl, rfl⟩ := hp; exact kk locs1 hS1)
theorem kI_gets (S : CallFix p m c cc nL s args lw_all RX1) (hKX : KX D dA cn A s) (h : XS D dA cn A pa g T H) (hS : va_S A s.heap H locs) (w : Nat) (hw : w < 24) (hy : decide (g 2 w ≠ 0) = true) (h6 : g 2 w ≤ 6) (hf : 1 + 1 ≤ R.frames) (hlo : 8 + (1 + 11) + 12 ≤ R.locals) (hsz : ls.size = nL) (hcat : (rest.map fun v => v.category).sum ≤ 8) (hq1 : cells ≤ R.cells) (hq2 : slots ≤ R.slots) (hdg : decode cc pc = .ok (.invokeinterface 124 1, 5)) (kk : ∀ locs1 : List Loc, va_S A s.heap H locs1 → W p l e R s m args below meth c H locs1 cells slots Q (F0 m (pc + 5) ls (.int (nI (if g 2 w ≤ 3 then 1 else 2)) :: rest))) : W p l e R s m args below meth c H locs cells slots Q (F0 m pc ls (.ref (pa (5, w)) :: rest)) := by
  have hne : g 2 w ≠ 0 := by simpa using hy
  rcases x_bld h hw hy with ⟨hc, hP⟩ | ⟨hc, hP⟩
  · have e : nI 1 = nI (if g 2 w ≤ 3 then 1 else 2) := by rw [if_pos hc]
    rw [← e] at kk
    exact zc_callF (n := 0) (As := []) (rest := rest) ((hKX.1.1 3 _ rfl).2) S (c_X4_gets l H (Post := fun v H1 => v = some (.int (nI 1)) ∧ H1 = H) ⟨rfl, rfl⟩) (lw_F q679 q573 q571 q85 q575) (hKX.2.1.2.1 _ (List.mem_of_getElem? (i := 6) rfl)) (by decide +kernel) ⟨hf, hlo⟩ ⟨hq1, hq2⟩ (va_recv hKX.1 hP (ci := 3) (q0 := 0) rfl rfl) KX_mv (zc_K KX_mv hKX hS) hS (fun _ h => h) rfl hsz rfl hcat hdg (fun v H1 locs1 hp _ _ hS1 => by obtain ⟨rfl, rfl⟩ := hp; exact kk locs1 hS1)
  · have e : nI 2 = nI (if g 2 w ≤ 3 then 1 else 2) := by rw [if_neg hc]
    rw [← e] at kk
    exact zc_callF (n := 0) (As := []) (rest := rest) ((hKX.1.1 5 _ rfl).2) S (c_X6_gets l H (Post := fun v H1 => v = some (.int (nI 2)) ∧ H1 = H) ⟨rfl, rfl⟩) (lw_F q679 q568 q566 q92 q570) (hKX.2.1.2.1 _ (List.mem_of_getElem? (i := 10) rfl)) (by decide +kernel) ⟨hf, hlo⟩ ⟨hq1, hq2⟩ (va_recv hKX.1 hP (ci := 5) (q0 := 0) rfl rfl) KX_mv (zc_K KX_mv hKX hS) hS (fun _ h => h) rfl hsz rfl hcat hdg (fun v H1 locs1 hp _ _ hS1 => by obtain ⟨rfl, rfl⟩ := hp; exact kk locs1 hS1)
theorem xk_args {C : String} {x y : MethodName} {U : State} {A1 : Array Value} (h : (Cond.landsInDefault C x y).before #[] U = true) : (Cond.landsInDefault C x y).before A1 U = true := h
theorem kI_points (S : CallFix p m c cc nL s args lw_all RX1) (hKX : KX D dA cn A s) (h : XS D dA cn A pa g T H) (hS : va_S A s.heap H locs) (w : Nat) (hw : w < 24) (hy : decide (g 2 w ≠ 0) = true) (h6 : g 2 w ≤ 6) (hf : 2 + 1 ≤ R.frames) (hlo : 8 + (1 + 11) + 40 ≤ R.locals) (hsz : ls.size = nL) (hcat : (rest.map fun v => v.category).sum ≤ 8) (hq1 : cells ≤ R.cells) (hq2 : slots ≤ R.slots) (hdg : decode cc pc = .ok (.invokeinterface 148 1, 5)) (kk : ∀ locs1 : List Loc, va_S A s.heap H locs1 → W p l e R s m args below meth c H locs1 cells slots Q (F0 m (pc + 5) ls (.int (nI (if g 2 w ≤ 3 then 1 else 2)) :: rest))) : W p l e R s m args below meth c H locs cells slots Q (F0 m pc ls (.ref (pa (5, w)) :: rest)) := by
  have hne : g 2 w ≠ 0 := by simpa using hy
  rcases x_bld h hw hy with ⟨hc, hP⟩ | ⟨hc, hP⟩
  · have e : nI 1 = nI (if g 2 w ≤ 3 then 1 else 2) := by rw [if_pos hc]
    rw [← e] at kk
    exact zc_callD (n := 0) (As := []) (rest := rest) ((hKX.1.1 3 _ rfl).2) S (c_X11_points_X4 l H hP (Post := fun v H1 => v = some (.int (nI 1)) ∧ H1 = H) ⟨rfl, rfl⟩) q555 q559 q1462 q561 (hKX.2.1.2.1 _ (List.mem_of_getElem? (i := 7) rfl)) (xk_args (hKX.2.2.2.2.2.2.2.2.2.2.2.2.2.2 _ (List.mem_of_getElem? (i := 0) rfl))) (by decide +kernel) ⟨hf, hlo⟩ ⟨hq1, hq2⟩ (va_recv hKX.1 hP (ci := 3) (q0 := 0) rfl rfl) KX_mv (zc_K KX_mv hKX hS) hS (fun _ h => h) rfl hsz rfl hcat hdg (fun v H1 locs1 hp _ _ hS1 => by obtain ⟨rfl, rfl⟩ := hp; exact kk locs1 hS1)
  · have e : nI 2 = nI (if g 2 w ≤ 3 then 1 else 2) := by rw [if_neg hc]
    rw [← e] at kk
    exact zc_callD (n := 0) (As := []) (rest := rest) ((hKX.1.1 5 _ rfl).2) S (c_X11_points_X6 l H hP (Post := fun v H1 => v = some (.int (nI 2)) ∧ H1 = H) ⟨rfl, rfl⟩) q555 q559 q1462 q561 (hKX.2.1.2.1 _ (List.mem_of_getElem? (i := 9) rfl)) (xk_args (hKX.2.2.2.2.2.2.2.2.2.2.2.2.2.2 _ (List.mem_of_getElem? (i := 1) rfl))) (by decide +kernel) ⟨hf, hlo⟩ ⟨hq1, hq2⟩ (va_recv hKX.1 hP (ci := 5) (q0 := 0) rfl rfl) KX_mv (zc_K KX_mv hKX hS) hS (fun _ h => h) rfl hsz rfl hcat hdg (fun v H1 locs1 hp _ _ hS1 => by obtain ⟨rfl, rfl⟩ := hp; exact kk locs1 hS1)
theorem kI_isCity (S : CallFix p m c cc nL s args lw_all RX1) (hKX : KX D dA cn A s) (h : XS D dA cn A pa g T H) (w : Nat) (hw : w < 24) (hy : decide (g 2 w ≠ 0) = true) (hdg : decode cc pc = .ok (.instanceof 86, 3)) (kk : W p l e R s m args below meth c H locs cells slots Q (F0 m (pc + 3) ls (.int (nI (mCity g w).toNat) :: rest))) : W p l e R s m args below meth c H locs cells slots Q (F0 m pc ls (.ref (pa (5, w)) :: rest)) := by
  rcases x_bld h hw hy with ⟨hc, hP⟩ | ⟨hc, hP⟩
  · have e : (mCity g w) = false := by simp [mCity]; omega
    rw [e] at kk
    exact va_instNo (C := RX4) S.1 S.2.1 S.2.2.2.1 (S.2.2.2.2 _ q754) (hKX.2.2.2.2.2.2.2.2.2.2.2.2.2.1 _ (List.mem_of_getElem? (i := 0) rfl)) (va_recv hKX.1 hP (ci := 3) (q0 := 0) rfl rfl) hdg kk
  · have e : (mCity g w) = true := by simp [mCity]; omega
    rw [e] at kk
    exact va_instS S.1 S.2.1 S.2.2.2.1 (S.2.2.2.2 _ q754) ((hKX.1.1 5 _ rfl).2) (va_recv hKX.1 hP (ci := 5) (q0 := 0) rfl rfl) hdg kk
theorem kI_isHouse (S : CallFix p m c cc nL s args lw_all RX1) (hKX : KX D dA cn A s) (h : XS D dA cn A pa g T H) (w : Nat) (hw : w < 24) (hy : decide (g 2 w ≠ 0) = true) (hdg : decode cc pc = .ok (.instanceof 238, 3)) (kk : W p l e R s m args below meth c H locs cells slots Q (F0 m (pc + 3) ls (.int (nI (!mCity g w).toNat) :: rest))) : W p l e R s m args below meth c H locs cells slots Q (F0 m pc ls (.ref (pa (5, w)) :: rest)) := by
  rcases x_bld h hw hy with ⟨hc, hP⟩ | ⟨hc, hP⟩
  · have e : (!mCity g w) = true := by simp [mCity]; omega
    rw [e] at kk
    exact va_instS S.1 S.2.1 S.2.2.2.1 (S.2.2.2.2 _ q402) ((hKX.1.1 3 _ rfl).2) (va_recv hKX.1 hP (ci := 3) (q0 := 0) rfl rfl) hdg kk
  · have e : (!mCity g w) = false := by simp [mCity]; omega
    rw [e] at kk
    exact va_instNo (C := RX6) S.1 S.2.1 S.2.2.2.1 (S.2.2.2.2 _ q402) (hKX.2.2.2.2.2.2.2.2.2.2.2.2.2.1 _ (List.mem_of_getElem? (i := 1) rfl)) (va_recv hKX.1 hP (ci := 5) (q0 := 0) rfl rfl) hdg kk
theorem nw_X4 (S : CallFix p m c cc nL s args lw_all RX1) (hK : KT D dA s) (h : XS D dA cn A pa g T H) (hS : va_S A s.heap H locs) (hA : ∀ q, s.heap.size ≤ q → A q) (hcR : cells + 1 ≤ R.cells) (hsR : slots + 1 ≤ R.slots) (hdg : decode cc pc = .ok (.new 238, 3)) (kk : ∀ (q : Nat) (H1 : Heap), XS D dA cn A pa g (T ++ [(q, .inr (3, [.int 0]))]) H1 → va_S A s.heap H1 locs → W p l e R s m args below meth c H1 locs (cells + 1) (slots + 1) Q (F0 m (pc + 3) ls (.ref q :: rest))) : W p l e R s m args below meth c H locs cells slots Q (F0 m pc ls (rest)) := by
  obtain ⟨ad, L, ha, hL, hP⟩ := h
  refine va_new (D := D) (ci := 3) (C := RX4) (T := TX4) (N := 1) S.1 S.2.1 S.2.2.2.2 in_X4 tyX4 tyX4_ok S.2.2.2.1 (S.2.2.2.2 _ q402) (S.2.2.2.2 _ q403) (S.2.2.2.2 _ q85) hK hP.2.1 hP.2.2 hS hA rfl (fs := [.int 0]) (by decide) hcR hsR hdg (fun q H1 h1 h2 h3 => kk q H1 ⟨ad, L, ha, hL, hP.1, ?_, ?_⟩ h3)
  · rw [← List.append_assoc]; exact h1
  · rw [← List.append_assoc]; exact h2
theorem kN_X4 (S : CallFix p m c cc nL s args lw_all RX1) (hKX : KX D dA cn A s) {q : Nat} {v1 : Int32} (h : XS D dA cn A pa g (T ++ [(q, .inr (3, [.int 0]))]) H) (hS : va_S A s.heap H locs) (hf : 2 + 1 ≤ R.frames) (hlo : 8 + (2 + 11) + 40 ≤ R.locals) (hsz : ls.size = nL) (hcat : (rest.map fun v => v.category).sum ≤ 8) (hq1 : cells ≤ R.cells) (hq2 : slots ≤ R.slots) (hdg : decode cc pc = .ok (.invokespecial 240, 3)) (kk : ∀ (H1 : Heap) (locs1 : List Loc), XS D dA cn A pa g (T ++ [(q, .inr (3, [.int v1]))]) H1 → va_S A s.heap H1 locs1 → W p l e R s m args below meth c H1 locs1 cells slots Q (F0 m (pc + 3) ls (rest))) : W p l e R s m args below meth c H locs cells slots Q (F0 m pc ls (.int v1 :: .ref q :: rest)) := by
  obtain ⟨ad, L, ha, hL, hP⟩ := h
  have hi : (zp_W L ad (xC dA cn ad g) ++ (T ++ [(q, .inr (3, [.int 0]))]))[L.length + T.length]? = some (q, .inr (3, [.int 0])) := by rw [zp_tm]; simp
  refine zc_callI (n := 1) (As := [.int v1]) (rest := rest) S (cN_X4 l H hP.2.1 hP.2.2 hi (Post := fun v H1 => v = none ∧ XS D dA cn A pa g (T ++ [(q, .inr (3, [.int v1]))]) H1) (fun H1 h1 h2 => ⟨rfl, ad, L, ha, hL, hP.1, ?_, ?_⟩)) q406 q85 q404 q405 rfl (by decide +kernel) ⟨hf, hlo⟩ ⟨hq1, hq2⟩ KX_mv (zc_K KX_mv hKX hS) hS (fun _ h => h) rfl hsz rfl hcat hdg (fun v H1 locs1 hp _ _ hS1 => by obtain ⟨rfl, h1⟩ := hp; exact kk H1 locs1 h1 hS1)
  · rw [zp_setT] at h1; simpa using h1
  · rw [zp_setT] at h2; simpa using h2
theorem nw_X6 (S : CallFix p m c cc nL s args lw_all RX1) (hK : KT D dA s) (h : XS D dA cn A pa g T H) (hS : va_S A s.heap H locs) (hA : ∀ q, s.heap.size ≤ q → A q) (hcR : cells + 1 ≤ R.cells) (hsR : slots + 1 ≤ R.slots) (hdg : decode cc pc = .ok (.new 86, 3)) (kk : ∀ (q : Nat) (H1 : Heap), XS D dA cn A pa g (T ++ [(q, .inr (5, [.int 0]))]) H1 → va_S A s.heap H1 locs → W p l e R s m args below meth c H1 locs (cells + 1) (slots + 1) Q (F0 m (pc + 3) ls (.ref q :: rest))) : W p l e R s m args below meth c H locs cells slots Q (F0 m pc ls (rest)) := by
  obtain ⟨ad, L, ha, hL, hP⟩ := h
  refine va_new (D := D) (ci := 5) (C := RX6) (T := TX6) (N := 1) S.1 S.2.1 S.2.2.2.2 in_X6 tyX6 tyX6_ok S.2.2.2.1 (S.2.2.2.2 _ q754) (S.2.2.2.2 _ q762) (S.2.2.2.2 _ q92) hK hP.2.1 hP.2.2 hS hA rfl (fs := [.int 0]) (by decide) hcR hsR hdg (fun q H1 h1 h2 h3 => kk q H1 ⟨ad, L, ha, hL, hP.1, ?_, ?_⟩ h3)
  · rw [← List.append_assoc]; exact h1
  · rw [← List.append_assoc]; exact h2
theorem kN_X6 (S : CallFix p m c cc nL s args lw_all RX1) (hKX : KX D dA cn A s) {q : Nat} {v1 : Int32} (h : XS D dA cn A pa g (T ++ [(q, .inr (5, [.int 0]))]) H) (hS : va_S A s.heap H locs) (hf : 2 + 1 ≤ R.frames) (hlo : 8 + (2 + 11) + 40 ≤ R.locals) (hsz : ls.size = nL) (hcat : (rest.map fun v => v.category).sum ≤ 8) (hq1 : cells ≤ R.cells) (hq2 : slots ≤ R.slots) (hdg : decode cc pc = .ok (.invokespecial 292, 3)) (kk : ∀ (H1 : Heap) (locs1 : List Loc), XS D dA cn A pa g (T ++ [(q, .inr (5, [.int v1]))]) H1 → va_S A s.heap H1 locs1 → W p l e R s m args below meth c H1 locs1 cells slots Q (F0 m (pc + 3) ls (rest))) : W p l e R s m args below meth c H locs cells slots Q (F0 m pc ls (.int v1 :: .ref q :: rest)) := by
  obtain ⟨ad, L, ha, hL, hP⟩ := h
  have hi : (zp_W L ad (xC dA cn ad g) ++ (T ++ [(q, .inr (5, [.int 0]))]))[L.length + T.length]? = some (q, .inr (5, [.int 0])) := by rw [zp_tm]; simp
  refine zc_callI (n := 1) (As := [.int v1]) (rest := rest) S (cN_X6 l H hP.2.1 hP.2.2 hi (Post := fun v H1 => v = none ∧ XS D dA cn A pa g (T ++ [(q, .inr (5, [.int v1]))]) H1) (fun H1 h1 h2 => ⟨rfl, ad, L, ha, hL, hP.1, ?_, ?_⟩)) q765 q92 q763 q764 rfl (by decide +kernel) ⟨hf, hlo⟩ ⟨hq1, hq2⟩ KX_mv (zc_K KX_mv hKX hS) hS (fun _ h => h) rfl hsz rfl hcat hdg (fun v H1 locs1 hp _ _ hS1 => by obtain ⟨rfl, h1⟩ := hp; exact kk H1 locs1 h1 hS1)
  · rw [zp_setT] at h1; simpa using h1
  · rw [zp_setT] at h2; simpa using h2
theorem nw_X9 (S : CallFix p m c cc nL s args lw_all RX1) (hK : KT D dA s) (h : XS D dA cn A pa g T H) (hS : va_S A s.heap H locs) (hA : ∀ q, s.heap.size ≤ q → A q) (hcR : cells + 1 ≤ R.cells) (hsR : slots + 2 ≤ R.slots) (hdg : decode cc pc = .ok (.new 46, 3)) (kk : ∀ (q : Nat) (H1 : Heap), XS D dA cn A pa g (T ++ [(q, .inr (7, [.int 0, .int 0]))]) H1 → va_S A s.heap H1 locs → W p l e R s m args below meth c H1 locs (cells + 1) (slots + 2) Q (F0 m (pc + 3) ls (.ref q :: rest))) : W p l e R s m args below meth c H locs cells slots Q (F0 m pc ls (rest)) := by
  obtain ⟨ad, L, ha, hL, hP⟩ := h
  refine va_new (D := D) (ci := 7) (C := RX9) (T := TX9) (N := 2) S.1 S.2.1 S.2.2.2.2 in_X9 tyX9 tyX9_ok S.2.2.2.1 (S.2.2.2.2 _ q142) (S.2.2.2.2 _ q890) (S.2.2.2.2 _ q96) hK hP.2.1 hP.2.2 hS hA rfl (fs := [.int 0, .int 0]) (by decide) hcR hsR hdg (fun q H1 h1 h2 h3 => kk q H1 ⟨ad, L, ha, hL, hP.1, ?_, ?_⟩ h3)
  · rw [← List.append_assoc]; exact h1
  · rw [← List.append_assoc]; exact h2
theorem kN_X9 (S : CallFix p m c cc nL s args lw_all RX1) (hKX : KX D dA cn A s) {q : Nat} {v1 : Int32} {v2 : Int32} (h : XS D dA cn A pa g (T ++ [(q, .inr (7, [.int 0, .int 0]))]) H) (hS : va_S A s.heap H locs) (hf : 2 + 1 ≤ R.frames) (hlo : 8 + (3 + 11) + 40 ≤ R.locals) (hsz : ls.size = nL) (hcat : (rest.map fun v => v.category).sum ≤ 8) (hq1 : cells ≤ R.cells) (hq2 : slots ≤ R.slots) (hdg : decode cc pc = .ok (.invokespecial 342, 3)) (kk : ∀ (H1 : Heap) (locs1 : List Loc), XS D dA cn A pa g (T ++ [(q, .inr (7, [.int v1, .int v2]))]) H1 → va_S A s.heap H1 locs1 → W p l e R s m args below meth c H1 locs1 cells slots Q (F0 m (pc + 3) ls (rest))) : W p l e R s m args below meth c H locs cells slots Q (F0 m pc ls (.int v2 :: .int v1 :: .ref q :: rest)) := by
  obtain ⟨ad, L, ha, hL, hP⟩ := h
  have hi : (zp_W L ad (xC dA cn ad g) ++ (T ++ [(q, .inr (7, [.int 0, .int 0]))]))[L.length + T.length]? = some (q, .inr (7, [.int 0, .int 0])) := by rw [zp_tm]; simp
  refine zc_callI (n := 2) (As := [.int v1, .int v2]) (rest := rest) S (cN_X9 l H hP.2.1 hP.2.2 hi (Post := fun v H1 => v = none ∧ XS D dA cn A pa g (T ++ [(q, .inr (7, [.int v1, .int v2]))]) H1) (fun H1 h1 h2 => ⟨rfl, ad, L, ha, hL, hP.1, ?_, ?_⟩)) q893 q96 q891 q892 rfl (by decide +kernel) ⟨hf, hlo⟩ ⟨hq1, hq2⟩ KX_mv (zc_K KX_mv hKX hS) hS (fun _ h => h) rfl hsz rfl hcat hdg (fun v H1 locs1 hp _ _ hS1 => by obtain ⟨rfl, h1⟩ := hp; exact kk H1 locs1 h1 hS1)
  · rw [zp_setT] at h1; simpa using h1
  · rw [zp_setT] at h2; simpa using h2
theorem nw_X8 (S : CallFix p m c cc nL s args lw_all RX1) (hK : KT D dA s) (h : XS D dA cn A pa g T H) (hS : va_S A s.heap H locs) (hA : ∀ q, s.heap.size ≤ q → A q) (hcR : cells + 1 ≤ R.cells) (hsR : slots + 4 ≤ R.slots) (hdg : decode cc pc = .ok (.new 165, 3)) (kk : ∀ (q : Nat) (H1 : Heap), XS D dA cn A pa g (T ++ [(q, .inr (6, [.null, .int 0, .int 0, .int 0]))]) H1 → va_S A s.heap H1 locs → W p l e R s m args below meth c H1 locs (cells + 1) (slots + 4) Q (F0 m (pc + 3) ls (.ref q :: rest))) : W p l e R s m args below meth c H locs cells slots Q (F0 m pc ls (rest)) := by
  obtain ⟨ad, L, ha, hL, hP⟩ := h
  refine va_new (D := D) (ci := 6) (C := RX8) (T := TX8) (N := 4) S.1 S.2.1 S.2.2.2.2 in_X8 tyX8 tyX8_ok S.2.2.2.1 (S.2.2.2.2 _ q628) (S.2.2.2.2 _ q789) (S.2.2.2.2 _ q95) hK hP.2.1 hP.2.2 hS hA rfl (fs := [.null, .int 0, .int 0, .int 0]) (by decide) hcR hsR hdg (fun q H1 h1 h2 h3 => kk q H1 ⟨ad, L, ha, hL, hP.1, ?_, ?_⟩ h3)
  · rw [← List.append_assoc]; exact h1
  · rw [← List.append_assoc]; exact h2
theorem kN_X8 (S : CallFix p m c cc nL s args lw_all RX1) (hKX : KX D dA cn A s) {q : Nat} {v1 : Nat} {v2 : Int32} {v3 : Int32} (h : XS D dA cn A pa g (T ++ [(q, .inr (6, [.null, .int 0, .int 0, .int 0]))]) H) (hS : va_S A s.heap H locs) (hf : 2 + 1 ≤ R.frames) (hlo : 8 + (4 + 11) + 40 ≤ R.locals) (hsz : ls.size = nL) (hcat : (rest.map fun v => v.category).sum ≤ 8) (hq1 : cells ≤ R.cells) (hq2 : slots ≤ R.slots) (hdg : decode cc pc = .ok (.invokespecial 300, 3)) (kk : ∀ (H1 : Heap) (locs1 : List Loc), XS D dA cn A pa g (T ++ [(q, .inr (6, [.ref v1, .int v2, .int v3, .int 0]))]) H1 → va_S A s.heap H1 locs1 → W p l e R s m args below meth c H1 locs1 cells slots Q (F0 m (pc + 3) ls (rest))) : W p l e R s m args below meth c H locs cells slots Q (F0 m pc ls (.int v3 :: .int v2 :: .ref v1 :: .ref q :: rest)) := by
  obtain ⟨ad, L, ha, hL, hP⟩ := h
  have hi : (zp_W L ad (xC dA cn ad g) ++ (T ++ [(q, .inr (6, [.null, .int 0, .int 0, .int 0]))]))[L.length + T.length]? = some (q, .inr (6, [.null, .int 0, .int 0, .int 0])) := by rw [zp_tm]; simp
  refine zc_callI (n := 3) (As := [.ref v1, .int v2, .int v3]) (rest := rest) S (cN_X8 l H hP.2.1 hP.2.2 hi (Post := fun v H1 => v = none ∧ XS D dA cn A pa g (T ++ [(q, .inr (6, [.ref v1, .int v2, .int v3, .int 0]))]) H1) (fun H1 h1 h2 => ⟨rfl, ad, L, ha, hL, hP.1, ?_, ?_⟩)) q792 q95 q790 q791 rfl (by decide +kernel) ⟨hf, hlo⟩ ⟨hq1, hq2⟩ KX_mv (zc_K KX_mv hKX hS) hS (fun _ h => h) rfl hsz rfl hcat hdg (fun v H1 locs1 hp _ _ hS1 => by obtain ⟨rfl, h1⟩ := hp; exact kk H1 locs1 h1 hS1)
  · rw [zp_setT] at h1; simpa using h1
  · rw [zp_setT] at h2; simpa using h2
theorem nw_X5 (S : CallFix p m c cc nL s args lw_all RX1) (hK : KT D dA s) (h : XS D dA cn A pa g T H) (hS : va_S A s.heap H locs) (hA : ∀ q, s.heap.size ≤ q → A q) (hcR : cells + 1 ≤ R.cells) (hsR : slots + 4 ≤ R.slots) (hdg : decode cc pc = .ok (.new 101, 3)) (kk : ∀ (q : Nat) (H1 : Heap), XS D dA cn A pa g (T ++ [(q, .inr (4, [.int 0, .int 0, .int 0, .int 0]))]) H1 → va_S A s.heap H1 locs → W p l e R s m args below meth c H1 locs (cells + 1) (slots + 4) Q (F0 m (pc + 3) ls (.ref q :: rest))) : W p l e R s m args below meth c H locs cells slots Q (F0 m pc ls (rest)) := by
  obtain ⟨ad, L, ha, hL, hP⟩ := h
  refine va_new (D := D) (ci := 4) (C := RX5) (T := TX5) (N := 4) S.1 S.2.1 S.2.2.2.2 in_X5 tyX5 tyX5_ok S.2.2.2.1 (S.2.2.2.2 _ q423) (S.2.2.2.2 _ q424) (S.2.2.2.2 _ q87) hK hP.2.1 hP.2.2 hS hA rfl (fs := [.int 0, .int 0, .int 0, .int 0]) (by decide) hcR hsR hdg (fun q H1 h1 h2 h3 => kk q H1 ⟨ad, L, ha, hL, hP.1, ?_, ?_⟩ h3)
  · rw [← List.append_assoc]; exact h1
  · rw [← List.append_assoc]; exact h2
theorem kN_X5 (S : CallFix p m c cc nL s args lw_all RX1) (hKX : KX D dA cn A s) {q : Nat} {v1 : Int32} {v2 : Int32} {v3 : Int32} {v4 : Int32} (h : XS D dA cn A pa g (T ++ [(q, .inr (4, [.int 0, .int 0, .int 0, .int 0]))]) H) (hS : va_S A s.heap H locs) (hf : 2 + 1 ≤ R.frames) (hlo : 8 + (5 + 11) + 40 ≤ R.locals) (hsz : ls.size = nL) (hcat : (rest.map fun v => v.category).sum ≤ 8) (hq1 : cells ≤ R.cells) (hq2 : slots ≤ R.slots) (hdg : decode cc pc = .ok (.invokespecial 103, 3)) (kk : ∀ (H1 : Heap) (locs1 : List Loc), XS D dA cn A pa g (T ++ [(q, .inr (4, [.int v1, .int v2, .int v3, .int v4]))]) H1 → va_S A s.heap H1 locs1 → W p l e R s m args below meth c H1 locs1 cells slots Q (F0 m (pc + 3) ls (rest))) : W p l e R s m args below meth c H locs cells slots Q (F0 m pc ls (.int v4 :: .int v3 :: .int v2 :: .int v1 :: .ref q :: rest)) := by
  obtain ⟨ad, L, ha, hL, hP⟩ := h
  have hi : (zp_W L ad (xC dA cn ad g) ++ (T ++ [(q, .inr (4, [.int 0, .int 0, .int 0, .int 0]))]))[L.length + T.length]? = some (q, .inr (4, [.int 0, .int 0, .int 0, .int 0])) := by rw [zp_tm]; simp
  refine zc_callI (n := 4) (As := [.int v1, .int v2, .int v3, .int v4]) (rest := rest) S (cN_X5 l H hP.2.1 hP.2.2 hi (Post := fun v H1 => v = none ∧ XS D dA cn A pa g (T ++ [(q, .inr (4, [.int v1, .int v2, .int v3, .int v4]))]) H1) (fun H1 h1 h2 => ⟨rfl, ad, L, ha, hL, hP.1, ?_, ?_⟩)) q427 q87 q425 q426 rfl (by decide +kernel) ⟨hf, hlo⟩ ⟨hq1, hq2⟩ KX_mv (zc_K KX_mv hKX hS) hS (fun _ h => h) rfl hsz rfl hcat hdg (fun v H1 locs1 hp _ _ hS1 => by obtain ⟨rfl, h1⟩ := hp; exact kk H1 locs1 h1 hS1)
  · rw [zp_setT] at h1; simpa using h1
  · rw [zp_setT] at h2; simpa using h2
end ZB
