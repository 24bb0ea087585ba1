/-! THE MODEL: its constructor (printed by gen/m14.py) -/
abbrev g00 : G := fun _ _ => 0
theorem Sm_g00 : Sm g00 := fun _ _ => show (0 : Nat) < 1048576 by decide
def goodAt (i : Nat) : Nat := if i = 0 then 5 else if i = 6 then 1 else i - 1
def numAt (i : Nat) : Nat := if i = 0 then 7 else if i = 1 then 6 else if i = 2 then 5 else if i = 3 then 9 else if i = 4 then 4 else if i = 5 then 10 else 8
def ini1 : Nat → G
  | 0 => g00
  | i + 1 => gs (gs (ini1 i) 0 i (goodAt i)) 1 i (numAt i)
def ini2 : Nat → G
  | 0 => ini1 7
  | i + 1 => gs (ini2 i) 4 (15 + i) 12
def adL (L : List Nat) (k : Nat) : Nat := L.getD k 0
theorem va_RA_un {U : State} {a b : ClassId} (h1 : va_RA U a .int) (h2 : va_RA U b .int) : a = b := Option.some.inj (h1.symm.trans h2)
set_option maxHeartbeats 4000000 in
set_option maxRecDepth 100000 in
theorem cM_init (l : Launch) {D : va_G} {dA : Nat → ClassId} {A : Nat → Prop} (a0 : Nat) (H0 : Heap) (hP : va_P D clA [(a0, .inr (2, [.null, .null, .int (nI 0), .null, .null, .null, .null, .int (nI 0), .int (nI 0), .int (nI 0), .int (nI 0), .null, .null, .int (nI 0), .int (nI 0), .null, .int (nI 0), .int (nI 0), .int (nI 0), .int (nI 0), .null, .null, .null, .null, .null, .int (nI 0)]))] H0) (hD : va_D A [(a0, .inr (2, [.null, .null, .int (nI 0), .null, .null, .null, .null, .int (nI 0), .int (nI 0), .int (nI 0), .int (nI 0), .null, .null, .int (nI 0), .int (nI 0), .null, .int (nI 0), .int (nI 0), .int (nI 0), .int (nI 0), .null, .null, .null, .null, .null, .int (nI 0)]))]) (hA : ∀ q : Nat, H0.size ≤ q → A q) {Post : Option Value → Heap → Prop} (hPost : ∀ (ad : Nat → Nat) (H : Heap), ad 0 = a0 → MS D dA A ad (ini2 5) H → Sm (ini2 5) → Post none H) : Ct l yX3_init (ws_ yX3_init cX3_init 2 none) (rmF 1 14 167 13) A (KT D dA) [.ref a0] H0 Post := by
  refine zc_of RX3 rfl (by decide) (Nat.le_of_ble_eq_true rfl) ?_
  intro pr en s m args below meth cd S hr hlk hnm hh hK ls hl
  have hS : va_S A s.heap H0 [] := zc_start hh
  have hA : ∀ q : Nat, s.heap.size ≤ q → A q := by rw [hh]; exact hA
  have hx := S.1
  have hb := S.2.1
  have hown := S.2.2.2.1
  have hts := S.2.2.2.2
  have hl : lv_has ls 2 [(0, .ref a0)] := hl
  refine lv_aload_n hx hb dX3_init_0 rfl (lv_at hl 0 rfl) ?_
  refine W.objInit hx hb hown (hts _ q1046) (hts _ q104) (hts _ q105) rfl (by rw [S.2.2.1]; exact hl.1) rfl dX3_init_1 (Nat.le_of_ble_eq_true rfl) (Nat.le_of_ble_eq_true rfl) ?_
  refine W.eq (g2 := F0 m 4 ls []) rfl ?_
  refine lv_aload_n hx hb dX3_init_4 rfl (lv_at hl 0 rfl) ?_
  refine lv_bipush (v := nI 7) hx hb dX3_init_5 (by decide) ?_
  refine va_newa (D := D) (atype := .int) (ty := .int) (a0 := (7, .inl (fun i => nI (g00 0 i)))) hx hb (hts _ q141) rfl hK hP hD hS hA (fun _ => rfl) (by decide) (N' := 7) (by decide) (Nat.le_of_ble_eq_true rfl) (Nat.le_of_ble_eq_true rfl) (Nat.le_of_ble_eq_true rfl) dX3_init_7 ?_
  intro p1 cA H hK9 hP hD hS
  obtain rfl := va_RA_un (hK.2 0 _ rfl).2 (hK9.2 7 _ rfl).2
  clear hK9
  have hP : va_P D clA [(a0, .inr (2, [.null, .null, .int (nI 0), .null, .null, .null, .null, .int (nI 0), .int (nI 0), .int (nI 0), .int (nI 0), .null, .null, .int (nI 0), .int (nI 0), .null, .int (nI 0), .int (nI 0), .int (nI 0), .int (nI 0), .null, .null, .null, .null, .null, .int (nI 0)])), (p1, mA dA 7 0 g00)] H := hP
  have hD : va_D A [(a0, .inr (2, [.null, .null, .int (nI 0), .null, .null, .null, .null, .int (nI 0), .int (nI 0), .int (nI 0), .int (nI 0), .null, .null, .int (nI 0), .int (nI 0), .null, .int (nI 0), .int (nI 0), .int (nI 0), .int (nI 0), .null, .null, .null, .null, .null, .int (nI 0)])), (p1, mA dA 7 0 g00)] := hD
  refine va_putF (D := D) (ci := 2) (v := .ref p1) (ty := .array .int) (C := RX3) (T := TX3) (N := 26) hx hb hts in_X3 tyX3 tyX3_ok nmX3 hown hK hP hD hS 0 rfl rfl 0 (by decide) (hts _ q1047) (fun _ h9 => h9) rfl hnm rfl (by decide +kernel) rfl rfl (Nat.le_of_ble_eq_true rfl) dX3_init_9 (fun H locs hP hD hS => ?_)
  have hP : va_P D clA [(a0, .inr (2, [.ref p1, .null, .int (nI 0), .null, .null, .null, .null, .int (nI 0), .int (nI 0), .int (nI 0), .int (nI 0), .null, .null, .int (nI 0), .int (nI 0), .null, .int (nI 0), .int (nI 0), .int (nI 0), .int (nI 0), .null, .null, .null, .null, .null, .int (nI 0)])), (p1, mA dA 7 0 g00)] H := hP
  have hD : va_D A [(a0, .inr (2, [.ref p1, .null, .int (nI 0), .null, .null, .null, .null, .int (nI 0), .int (nI 0), .int (nI 0), .int (nI 0), .null, .null, .int (nI 0), .int (nI 0), .null, .int (nI 0), .int (nI 0), .int (nI 0), .int (nI 0), .null, .null, .null, .null, .null, .int (nI 0)])), (p1, mA dA 7 0 g00)] := hD
  refine lv_aload_n hx hb dX3_init_12 rfl (lv_at hl 0 rfl) ?_
  refine lv_bipush (v := nI 7) hx hb dX3_init_13 (by decide) ?_
  refine va_newa (D := D) (atype := .int) (ty := .int) (a0 := (7, .inl (fun i => nI (g00 1 i)))) hx hb (hts _ q141) rfl hK hP hD hS hA (fun _ => rfl) (by decide) (N' := 7) (by decide) (Nat.le_of_ble_eq_true rfl) (Nat.le_of_ble_eq_true rfl) (Nat.le_of_ble_eq_true rfl) dX3_init_15 ?_
  intro p2 cA H hK9 hP hD hS
  obtain rfl := va_RA_un (hK.2 0 _ rfl).2 (hK9.2 7 _ rfl).2
  clear hK9
  have hP : va_P D clA [(a0, .inr (2, [.ref p1, .null, .int (nI 0), .null, .null, .null, .null, .int (nI 0), .int (nI 0), .int (nI 0), .int (nI 0), .null, .null, .int (nI 0), .int (nI 0), .null, .int (nI 0), .int (nI 0), .int (nI 0), .int (nI 0), .null, .null, .null, .null, .null, .int (nI 0)])), (p1, mA dA 7 0 g00), (p2, mA dA 7 1 g00)] H := hP
  have hD : va_D A [(a0, .inr (2, [.ref p1, .null, .int (nI 0), .null, .null, .null, .null, .int (nI 0), .int (nI 0), .int (nI 0), .int (nI 0), .null, .null, .int (nI 0), .int (nI 0), .null, .int (nI 0), .int (nI 0), .int (nI 0), .int (nI 0), .null, .null, .null, .null, .null, .int (nI 0)])), (p1, mA dA 7 0 g00), (p2, mA dA 7 1 g00)] := hD
  refine va_putF (D := D) (ci := 2) (v := .ref p2) (ty := .array .int) (C := RX3) (T := TX3) (N := 26) hx hb hts in_X3 tyX3 tyX3_ok nmX3 hown hK hP hD hS 0 rfl rfl 1 (by decide) (hts _ q1048) (fun _ h9 => h9) rfl hnm rfl (by decide +kernel) rfl rfl (Nat.le_of_ble_eq_true rfl) dX3_init_17 (fun H locs hP hD hS => ?_)
  have hP : va_P D clA [(a0, .inr (2, [.ref p1, .ref p2, .int (nI 0), .null, .null, .null, .null, .int (nI 0), .int (nI 0), .int (nI 0), .int (nI 0), .null, .null, .int (nI 0), .int (nI 0), .null, .int (nI 0), .int (nI 0), .int (nI 0), .int (nI 0), .null, .null, .null, .null, .null, .int (nI 0)])), (p1, mA dA 7 0 g00), (p2, mA dA 7 1 g00)] H := hP
  have hD : va_D A [(a0, .inr (2, [.ref p1, .ref p2, .int (nI 0), .null, .null, .null, .null, .int (nI 0), .int (nI 0), .int (nI 0), .int (nI 0), .null, .null, .int (nI 0), .int (nI 0), .null, .int (nI 0), .int (nI 0), .int (nI 0), .int (nI 0), .null, .null, .null, .null, .null, .int (nI 0)])), (p1, mA dA 7 0 g00), (p2, mA dA 7 1 g00)] := hD
  refine lv_aload_n hx hb dX3_init_20 rfl (lv_at hl 0 rfl) ?_
  refine lv_bipush (v := nI 30) hx hb dX3_init_21 (by decide) ?_
  refine va_newa (D := D) (atype := .int) (ty := .int) (a0 := (30, .inl (fun i => nI (g00 3 i)))) hx hb (hts _ q141) rfl hK hP hD hS hA (fun _ => rfl) (by decide) (N' := 30) (by decide) (Nat.le_of_ble_eq_true rfl) (Nat.le_of_ble_eq_true rfl) (Nat.le_of_ble_eq_true rfl) dX3_init_23 ?_
  intro p3 cA H hK9 hP hD hS
  obtain rfl := va_RA_un (hK.2 0 _ rfl).2 (hK9.2 7 _ rfl).2
  clear hK9
  have hP : va_P D clA [(a0, .inr (2, [.ref p1, .ref p2, .int (nI 0), .null, .null, .null, .null, .int (nI 0), .int (nI 0), .int (nI 0), .int (nI 0), .null, .null, .int (nI 0), .int (nI 0), .null, .int (nI 0), .int (nI 0), .int (nI 0), .int (nI 0), .null, .null, .null, .null, .null, .int (nI 0)])), (p1, mA dA 7 0 g00), (p2, mA dA 7 1 g00), (p3, mA dA 30 3 g00)] H := hP
  have hD : va_D A [(a0, .inr (2, [.ref p1, .ref p2, .int (nI 0), .null, .null, .null, .null, .int (nI 0), .int (nI 0), .int (nI 0), .int (nI 0), .null, .null, .int (nI 0), .int (nI 0), .null, .int (nI 0), .int (nI 0), .int (nI 0), .int (nI 0), .null, .null, .null, .null, .null, .int (nI 0)])), (p1, mA dA 7 0 g00), (p2, mA dA 7 1 g00), (p3, mA dA 30 3 g00)] := hD
  refine va_putF (D := D) (ci := 2) (v := .ref p3) (ty := .array .int) (C := RX3) (T := TX3) (N := 26) hx hb hts in_X3 tyX3 tyX3_ok nmX3 hown hK hP hD hS 0 rfl rfl 3 (by decide) (hts _ q1050) (fun _ h9 => h9) rfl hnm rfl (by decide +kernel) rfl rfl (Nat.le_of_ble_eq_true rfl) dX3_init_25 (fun H locs hP hD hS => ?_)
  have hP : va_P D clA [(a0, .inr (2, [.ref p1, .ref p2, .int (nI 0), .ref p3, .null, .null, .null, .int (nI 0), .int (nI 0), .int (nI 0), .int (nI 0), .null, .null, .int (nI 0), .int (nI 0), .null, .int (nI 0), .int (nI 0), .int (nI 0), .int (nI 0), .null, .null, .null, .null, .null, .int (nI 0)])), (p1, mA dA 7 0 g00), (p2, mA dA 7 1 g00), (p3, mA dA 30 3 g00)] H := hP
  have hD : va_D A [(a0, .inr (2, [.ref p1, .ref p2, .int (nI 0), .ref p3, .null, .null, .null, .int (nI 0), .int (nI 0), .int (nI 0), .int (nI 0), .null, .null, .int (nI 0), .int (nI 0), .null, .int (nI 0), .int (nI 0), .int (nI 0), .int (nI 0), .null, .null, .null, .null, .null, .int (nI 0)])), (p1, mA dA 7 0 g00), (p2, mA dA 7 1 g00), (p3, mA dA 30 3 g00)] := hD
  refine lv_aload_n hx hb dX3_init_28 rfl (lv_at hl 0 rfl) ?_
  refine lv_bipush (v := nI 24) hx hb dX3_init_29 (by decide) ?_
  refine va_newa (D := D) (atype := .int) (ty := .int) (a0 := (24, .inl (fun i => nI (g00 2 i)))) hx hb (hts _ q141) rfl hK hP hD hS hA (fun _ => rfl) (by decide) (N' := 24) (by decide) (Nat.le_of_ble_eq_true rfl) (Nat.le_of_ble_eq_true rfl) (Nat.le_of_ble_eq_true rfl) dX3_init_31 ?_
  intro p4 cA H hK9 hP hD hS
  obtain rfl := va_RA_un (hK.2 0 _ rfl).2 (hK9.2 7 _ rfl).2
  clear hK9
  have hP : va_P D clA [(a0, .inr (2, [.ref p1, .ref p2, .int (nI 0), .ref p3, .null, .null, .null, .int (nI 0), .int (nI 0), .int (nI 0), .int (nI 0), .null, .null, .int (nI 0), .int (nI 0), .null, .int (nI 0), .int (nI 0), .int (nI 0), .int (nI 0), .null, .null, .null, .null, .null, .int (nI 0)])), (p1, mA dA 7 0 g00), (p2, mA dA 7 1 g00), (p3, mA dA 30 3 g00), (p4, mA dA 24 2 g00)] H := hP
  have hD : va_D A [(a0, .inr (2, [.ref p1, .ref p2, .int (nI 0), .ref p3, .null, .null, .null, .int (nI 0), .int (nI 0), .int (nI 0), .int (nI 0), .null, .null, .int (nI 0), .int (nI 0), .null, .int (nI 0), .int (nI 0), .int (nI 0), .int (nI 0), .null, .null, .null, .null, .null, .int (nI 0)])), (p1, mA dA 7 0 g00), (p2, mA dA 7 1 g00), (p3, mA dA 30 3 g00), (p4, mA dA 24 2 g00)] := hD
  refine va_putF (D := D) (ci := 2) (v := .ref p4) (ty := .array .int) (C := RX3) (T := TX3) (N := 26) hx hb hts in_X3 tyX3 tyX3_ok nmX3 hown hK hP hD hS 0 rfl rfl 4 (by decide) (hts _ q1051) (fun _ h9 => h9) rfl hnm rfl (by decide +kernel) rfl rfl (Nat.le_of_ble_eq_true rfl) dX3_init_33 (fun H locs hP hD hS => ?_)
  have hP : va_P D clA [(a0, .inr (2, [.ref p1, .ref p2, .int (nI 0), .ref p3, .ref p4, .null, .null, .int (nI 0), .int (nI 0), .int (nI 0), .int (nI 0), .null, .null, .int (nI 0), .int (nI 0), .null, .int (nI 0), .int (nI 0), .int (nI 0), .int (nI 0), .null, .null, .null, .null, .null, .int (nI 0)])), (p1, mA dA 7 0 g00), (p2, mA dA 7 1 g00), (p3, mA dA 30 3 g00), (p4, mA dA 24 2 g00)] H := hP
  have hD : va_D A [(a0, .inr (2, [.ref p1, .ref p2, .int (nI 0), .ref p3, .ref p4, .null, .null, .int (nI 0), .int (nI 0), .int (nI 0), .int (nI 0), .null, .null, .int (nI 0), .int (nI 0), .null, .int (nI 0), .int (nI 0), .int (nI 0), .int (nI 0), .null, .null, .null, .null, .null, .int (nI 0)])), (p1, mA dA 7 0 g00), (p2, mA dA 7 1 g00), (p3, mA dA 30 3 g00), (p4, mA dA 24 2 g00)] := hD
  refine lv_aload_n hx hb dX3_init_36 rfl (lv_at hl 0 rfl) ?_
  refine lv_bipush (v := nI 20) hx hb dX3_init_37 (by decide) ?_
  refine va_newa (D := D) (atype := .int) (ty := .int) (a0 := (20, .inl (fun i => nI (g00 4 i)))) hx hb (hts _ q141) rfl hK hP hD hS hA (fun _ => rfl) (by decide) (N' := 20) (by decide) (Nat.le_of_ble_eq_true rfl) (Nat.le_of_ble_eq_true rfl) (Nat.le_of_ble_eq_true rfl) dX3_init_39 ?_
  intro p5 cA H hK9 hP hD hS
  obtain rfl := va_RA_un (hK.2 0 _ rfl).2 (hK9.2 7 _ rfl).2
  clear hK9
  have hP : va_P D clA [(a0, .inr (2, [.ref p1, .ref p2, .int (nI 0), .ref p3, .ref p4, .null, .null, .int (nI 0), .int (nI 0), .int (nI 0), .int (nI 0), .null, .null, .int (nI 0), .int (nI 0), .null, .int (nI 0), .int (nI 0), .int (nI 0), .int (nI 0), .null, .null, .null, .null, .null, .int (nI 0)])), (p1, mA dA 7 0 g00), (p2, mA dA 7 1 g00), (p3, mA dA 30 3 g00), (p4, mA dA 24 2 g00), (p5, mA dA 20 4 g00)] H := hP
  have hD : va_D A [(a0, .inr (2, [.ref p1, .ref p2, .int (nI 0), .ref p3, .ref p4, .null, .null, .int (nI 0), .int (nI 0), .int (nI 0), .int (nI 0), .null, .null, .int (nI 0), .int (nI 0), .null, .int (nI 0), .int (nI 0), .int (nI 0), .int (nI 0), .null, .null, .null, .null, .null, .int (nI 0)])), (p1, mA dA 7 0 g00), (p2, mA dA 7 1 g00), (p3, mA dA 30 3 g00), (p4, mA dA 24 2 g00), (p5, mA dA 20 4 g00)] := hD
  refine va_putF (D := D) (ci := 2) (v := .ref p5) (ty := .array .int) (C := RX3) (T := TX3) (N := 26) hx hb hts in_X3 tyX3 tyX3_ok nmX3 hown hK hP hD hS 0 rfl rfl 5 (by decide) (hts _ q1052) (fun _ h9 => h9) rfl hnm rfl (by decide +kernel) rfl rfl (Nat.le_of_ble_eq_true rfl) dX3_init_41 (fun H locs hP hD hS => ?_)
  have hP : va_P D clA [(a0, .inr (2, [.ref p1, .ref p2, .int (nI 0), .ref p3, .ref p4, .ref p5, .null, .int (nI 0), .int (nI 0), .int (nI 0), .int (nI 0), .null, .null, .int (nI 0), .int (nI 0), .null, .int (nI 0), .int (nI 0), .int (nI 0), .int (nI 0), .null, .null, .null, .null, .null, .int (nI 0)])), (p1, mA dA 7 0 g00), (p2, mA dA 7 1 g00), (p3, mA dA 30 3 g00), (p4, mA dA 24 2 g00), (p5, mA dA 20 4 g00)] H := hP
  have hD : va_D A [(a0, .inr (2, [.ref p1, .ref p2, .int (nI 0), .ref p3, .ref p4, .ref p5, .null, .int (nI 0), .int (nI 0), .int (nI 0), .int (nI 0), .null, .null, .int (nI 0), .int (nI 0), .null, .int (nI 0), .int (nI 0), .int (nI 0), .int (nI 0), .null, .null, .null, .null, .null, .int (nI 0)])), (p1, mA dA 7 0 g00), (p2, mA dA 7 1 g00), (p3, mA dA 30 3 g00), (p4, mA dA 24 2 g00), (p5, mA dA 20 4 g00)] := hD
  refine lv_aload_n hx hb dX3_init_44 rfl (lv_at hl 0 rfl) ?_
  refine lv_iconst (v := nI 3) hx hb dX3_init_45 zi_3 ?_
  refine va_newa (D := D) (atype := .int) (ty := .int) (a0 := (3, .inl (fun i => nI (g00 5 i)))) hx hb (hts _ q141) rfl hK hP hD hS hA (fun _ => rfl) (by decide) (N' := 3) (by decide) (Nat.le_of_ble_eq_true rfl) (Nat.le_of_ble_eq_true rfl) (Nat.le_of_ble_eq_true rfl) dX3_init_46 ?_
  intro p6 cA H hK9 hP hD hS
  obtain rfl := va_RA_un (hK.2 0 _ rfl).2 (hK9.2 7 _ rfl).2
  clear hK9
  have hP : va_P D clA [(a0, .inr (2, [.ref p1, .ref p2, .int (nI 0), .ref p3, .ref p4, .ref p5, .null, .int (nI 0), .int (nI 0), .int (nI 0), .int (nI 0), .null, .null, .int (nI 0), .int (nI 0), .null, .int (nI 0), .int (nI 0), .int (nI 0), .int (nI 0), .null, .null, .null, .null, .null, .int (nI 0)])), (p1, mA dA 7 0 g00), (p2, mA dA 7 1 g00), (p3, mA dA 30 3 g00), (p4, mA dA 24 2 g00), (p5, mA dA 20 4 g00), (p6, mA dA 3 5 g00)] H := hP
  have hD : va_D A [(a0, .inr (2, [.ref p1, .ref p2, .int (nI 0), .ref p3, .ref p4, .ref p5, .null, .int (nI 0), .int (nI 0), .int (nI 0), .int (nI 0), .null, .null, .int (nI 0), .int (nI 0), .null, .int (nI 0), .int (nI 0), .int (nI 0), .int (nI 0), .null, .null, .null, .null, .null, .int (nI 0)])), (p1, mA dA 7 0 g00), (p2, mA dA 7 1 g00), (p3, mA dA 30 3 g00), (p4, mA dA 24 2 g00), (p5, mA dA 20 4 g00), (p6, mA dA 3 5 g00)] := hD
  refine va_putF (D := D) (ci := 2) (v := .ref p6) (ty := .array .int) (C := RX3) (T := TX3) (N := 26) hx hb hts in_X3 tyX3 tyX3_ok nmX3 hown hK hP hD hS 0 rfl rfl 6 (by decide) (hts _ q1053) (fun _ h9 => h9) rfl hnm rfl (by decide +kernel) rfl rfl (Nat.le_of_ble_eq_true rfl) dX3_init_48 (fun H locs hP hD hS => ?_)
  have hP : va_P D clA [(a0, .inr (2, [.ref p1, .ref p2, .int (nI 0), .ref p3, .ref p4, .ref p5, .ref p6, .int (nI 0), .int (nI 0), .int (nI 0), .int (nI 0), .null, .null, .int (nI 0), .int (nI 0), .null, .int (nI 0), .int (nI 0), .int (nI 0), .int (nI 0), .null, .null, .null, .null, .null, .int (nI 0)])), (p1, mA dA 7 0 g00), (p2, mA dA 7 1 g00), (p3, mA dA 30 3 g00), (p4, mA dA 24 2 g00), (p5, mA dA 20 4 g00), (p6, mA dA 3 5 g00)] H := hP
  have hD : va_D A [(a0, .inr (2, [.ref p1, .ref p2, .int (nI 0), .ref p3, .ref p4, .ref p5, .ref p6, .int (nI 0), .int (nI 0), .int (nI 0), .int (nI 0), .null, .null, .int (nI 0), .int (nI 0), .null, .int (nI 0), .int (nI 0), .int (nI 0), .int (nI 0), .null, .null, .null, .null, .null, .int (nI 0)])), (p1, mA dA 7 0 g00), (p2, mA dA 7 1 g00), (p3, mA dA 30 3 g00), (p4, mA dA 24 2 g00), (p5, mA dA 20 4 g00), (p6, mA dA 3 5 g00)] := hD
  refine lv_aload_n hx hb dX3_init_51 rfl (lv_at hl 0 rfl) ?_
  refine lv_bipush (v := nI 15) hx hb dX3_init_52 (by decide) ?_
  refine va_newa (D := D) (atype := .int) (ty := .int) (a0 := (15, .inl (fun i => nI (g00 24 i)))) hx hb (hts _ q141) rfl hK hP hD hS hA (fun _ => rfl) (by decide) (N' := 15) (by decide) (Nat.le_of_ble_eq_true rfl) (Nat.le_of_ble_eq_true rfl) (Nat.le_of_ble_eq_true rfl) dX3_init_54 ?_
  intro p7 cA H hK9 hP hD hS
  obtain rfl := va_RA_un (hK.2 0 _ rfl).2 (hK9.2 7 _ rfl).2
  clear hK9
  have hP : va_P D clA [(a0, .inr (2, [.ref p1, .ref p2, .int (nI 0), .ref p3, .ref p4, .ref p5, .ref p6, .int (nI 0), .int (nI 0), .int (nI 0), .int (nI 0), .null, .null, .int (nI 0), .int (nI 0), .null, .int (nI 0), .int (nI 0), .int (nI 0), .int (nI 0), .null, .null, .null, .null, .null, .int (nI 0)])), (p1, mA dA 7 0 g00), (p2, mA dA 7 1 g00), (p3, mA dA 30 3 g00), (p4, mA dA 24 2 g00), (p5, mA dA 20 4 g00), (p6, mA dA 3 5 g00), (p7, mA dA 15 24 g00)] H := hP
  have hD : va_D A [(a0, .inr (2, [.ref p1, .ref p2, .int (nI 0), .ref p3, .ref p4, .ref p5, .ref p6, .int (nI 0), .int (nI 0), .int (nI 0), .int (nI 0), .null, .null, .int (nI 0), .int (nI 0), .null, .int (nI 0), .int (nI 0), .int (nI 0), .int (nI 0), .null, .null, .null, .null, .null, .int (nI 0)])), (p1, mA dA 7 0 g00), (p2, mA dA 7 1 g00), (p3, mA dA 30 3 g00), (p4, mA dA 24 2 g00), (p5, mA dA 20 4 g00), (p6, mA dA 3 5 g00), (p7, mA dA 15 24 g00)] := hD
  refine va_putF (D := D) (ci := 2) (v := .ref p7) (ty := .array .int) (C := RX3) (T := TX3) (N := 26) hx hb hts in_X3 tyX3 tyX3_ok nmX3 hown hK hP hD hS 0 rfl rfl 11 (by decide) (hts _ q1058) (fun _ h9 => h9) rfl hnm rfl (by decide +kernel) rfl rfl (Nat.le_of_ble_eq_true rfl) dX3_init_56 (fun H locs hP hD hS => ?_)
  have hP : va_P D clA [(a0, .inr (2, [.ref p1, .ref p2, .int (nI 0), .ref p3, .ref p4, .ref p5, .ref p6, .int (nI 0), .int (nI 0), .int (nI 0), .int (nI 0), .ref p7, .null, .int (nI 0), .int (nI 0), .null, .int (nI 0), .int (nI 0), .int (nI 0), .int (nI 0), .null, .null, .null, .null, .null, .int (nI 0)])), (p1, mA dA 7 0 g00), (p2, mA dA 7 1 g00), (p3, mA dA 30 3 g00), (p4, mA dA 24 2 g00), (p5, mA dA 20 4 g00), (p6, mA dA 3 5 g00), (p7, mA dA 15 24 g00)] H := hP
  have hD : va_D A [(a0, .inr (2, [.ref p1, .ref p2, .int (nI 0), .ref p3, .ref p4, .ref p5, .ref p6, .int (nI 0), .int (nI 0), .int (nI 0), .int (nI 0), .ref p7, .null, .int (nI 0), .int (nI 0), .null, .int (nI 0), .int (nI 0), .int (nI 0), .int (nI 0), .null, .null, .null, .null, .null, .int (nI 0)])), (p1, mA dA 7 0 g00), (p2, mA dA 7 1 g00), (p3, mA dA 30 3 g00), (p4, mA dA 24 2 g00), (p5, mA dA 20 4 g00), (p6, mA dA 3 5 g00), (p7, mA dA 15 24 g00)] := hD
  refine lv_aload_n hx hb dX3_init_59 rfl (lv_at hl 0 rfl) ?_
  refine lv_iconst (v := nI 5) hx hb dX3_init_60 zi_5 ?_
  refine va_newa (D := D) (atype := .int) (ty := .int) (a0 := (5, .inl (fun i => nI (g00 25 i)))) hx hb (hts _ q141) rfl hK hP hD hS hA (fun _ => rfl) (by decide) (N' := 5) (by decide) (Nat.le_of_ble_eq_true rfl) (Nat.le_of_ble_eq_true rfl) (Nat.le_of_ble_eq_true rfl) dX3_init_61 ?_
  intro p8 cA H hK9 hP hD hS
  obtain rfl := va_RA_un (hK.2 0 _ rfl).2 (hK9.2 7 _ rfl).2
  clear hK9
  have hP : va_P D clA [(a0, .inr (2, [.ref p1, .ref p2, .int (nI 0), .ref p3, .ref p4, .ref p5, .ref p6, .int (nI 0), .int (nI 0), .int (nI 0), .int (nI 0), .ref p7, .null, .int (nI 0), .int (nI 0), .null, .int (nI 0), .int (nI 0), .int (nI 0), .int (nI 0), .null, .null, .null, .null, .null, .int (nI 0)])), (p1, mA dA 7 0 g00), (p2, mA dA 7 1 g00), (p3, mA dA 30 3 g00), (p4, mA dA 24 2 g00), (p5, mA dA 20 4 g00), (p6, mA dA 3 5 g00), (p7, mA dA 15 24 g00), (p8, mA dA 5 25 g00)] H := hP
  have hD : va_D A [(a0, .inr (2, [.ref p1, .ref p2, .int (nI 0), .ref p3, .ref p4, .ref p5, .ref p6, .int (nI 0), .int (nI 0), .int (nI 0), .int (nI 0), .ref p7, .null, .int (nI 0), .int (nI 0), .null, .int (nI 0), .int (nI 0), .int (nI 0), .int (nI 0), .null, .null, .null, .null, .null, .int (nI 0)])), (p1, mA dA 7 0 g00), (p2, mA dA 7 1 g00), (p3, mA dA 30 3 g00), (p4, mA dA 24 2 g00), (p5, mA dA 20 4 g00), (p6, mA dA 3 5 g00), (p7, mA dA 15 24 g00), (p8, mA dA 5 25 g00)] := hD
  refine va_putF (D := D) (ci := 2) (v := .ref p8) (ty := .array .int) (C := RX3) (T := TX3) (N := 26) hx hb hts in_X3 tyX3 tyX3_ok nmX3 hown hK hP hD hS 0 rfl rfl 12 (by decide) (hts _ q1059) (fun _ h9 => h9) rfl hnm rfl (by decide +kernel) rfl rfl (Nat.le_of_ble_eq_true rfl) dX3_init_63 (fun H locs hP hD hS => ?_)
  have hP : va_P D clA [(a0, .inr (2, [.ref p1, .ref p2, .int (nI 0), .ref p3, .ref p4, .ref p5, .ref p6, .int (nI 0), .int (nI 0), .int (nI 0), .int (nI 0), .ref p7, .ref p8, .int (nI 0), .int (nI 0), .null, .int (nI 0), .int (nI 0), .int (nI 0), .int (nI 0), .null, .null, .null, .null, .null, .int (nI 0)])), (p1, mA dA 7 0 g00), (p2, mA dA 7 1 g00), (p3, mA dA 30 3 g00), (p4, mA dA 24 2 g00), (p5, mA dA 20 4 g00), (p6, mA dA 3 5 g00), (p7, mA dA 15 24 g00), (p8, mA dA 5 25 g00)] H := hP
  have hD : va_D A [(a0, .inr (2, [.ref p1, .ref p2, .int (nI 0), .ref p3, .ref p4, .ref p5, .ref p6, .int (nI 0), .int (nI 0), .int (nI 0), .int (nI 0), .ref p7, .ref p8, .int (nI 0), .int (nI 0), .null, .int (nI 0), .int (nI 0), .int (nI 0), .int (nI 0), .null, .null, .null, .null, .null, .int (nI 0)])), (p1, mA dA 7 0 g00), (p2, mA dA 7 1 g00), (p3, mA dA 30 3 g00), (p4, mA dA 24 2 g00), (p5, mA dA 20 4 g00), (p6, mA dA 3 5 g00), (p7, mA dA 15 24 g00), (p8, mA dA 5 25 g00)] := hD
  refine lv_aload_n hx hb dX3_init_66 rfl (lv_at hl 0 rfl) ?_
  refine lv_iconst (v := nI 3) hx hb dX3_init_67 zi_3 ?_
  refine va_newa (D := D) (atype := .int) (ty := .int) (a0 := (3, .inl (fun i => nI (g00 6 i)))) hx hb (hts _ q141) rfl hK hP hD hS hA (fun _ => rfl) (by decide) (N' := 3) (by decide) (Nat.le_of_ble_eq_true rfl) (Nat.le_of_ble_eq_true rfl) (Nat.le_of_ble_eq_true rfl) dX3_init_68 ?_
  intro p9 cA H hK9 hP hD hS
  obtain rfl := va_RA_un (hK.2 0 _ rfl).2 (hK9.2 7 _ rfl).2
  clear hK9
  have hP : va_P D clA [(a0, .inr (2, [.ref p1, .ref p2, .int (nI 0), .ref p3, .ref p4, .ref p5, .ref p6, .int (nI 0), .int (nI 0), .int (nI 0), .int (nI 0), .ref p7, .ref p8, .int (nI 0), .int (nI 0), .null, .int (nI 0), .int (nI 0), .int (nI 0), .int (nI 0), .null, .null, .null, .null, .null, .int (nI 0)])), (p1, mA dA 7 0 g00), (p2, mA dA 7 1 g00), (p3, mA dA 30 3 g00), (p4, mA dA 24 2 g00), (p5, mA dA 20 4 g00), (p6, mA dA 3 5 g00), (p7, mA dA 15 24 g00), (p8, mA dA 5 25 g00), (p9, mA dA 3 6 g00)] H := hP
  have hD : va_D A [(a0, .inr (2, [.ref p1, .ref p2, .int (nI 0), .ref p3, .ref p4, .ref p5, .ref p6, .int (nI 0), .int (nI 0), .int (nI 0), .int (nI 0), .ref p7, .ref p8, .int (nI 0), .int (nI 0), .null, .int (nI 0), .int (nI 0), .int (nI 0), .int (nI 0), .null, .null, .null, .null, .null, .int (nI 0)])), (p1, mA dA 7 0 g00), (p2, mA dA 7 1 g00), (p3, mA dA 30 3 g00), (p4, mA dA 24 2 g00), (p5, mA dA 20 4 g00), (p6, mA dA 3 5 g00), (p7, mA dA 15 24 g00), (p8, mA dA 5 25 g00), (p9, mA dA 3 6 g00)] := hD
  refine va_putF (D := D) (ci := 2) (v := .ref p9) (ty := .array .int) (C := RX3) (T := TX3) (N := 26) hx hb hts in_X3 tyX3 tyX3_ok nmX3 hown hK hP hD hS 0 rfl rfl 15 (by decide) (hts _ q1062) (fun _ h9 => h9) rfl hnm rfl (by decide +kernel) rfl rfl (Nat.le_of_ble_eq_true rfl) dX3_init_70 (fun H locs hP hD hS => ?_)
  have hP : va_P D clA [(a0, .inr (2, [.ref p1, .ref p2, .int (nI 0), .ref p3, .ref p4, .ref p5, .ref p6, .int (nI 0), .int (nI 0), .int (nI 0), .int (nI 0), .ref p7, .ref p8, .int (nI 0), .int (nI 0), .ref p9, .int (nI 0), .int (nI 0), .int (nI 0), .int (nI 0), .null, .null, .null, .null, .null, .int (nI 0)])), (p1, mA dA 7 0 g00), (p2, mA dA 7 1 g00), (p3, mA dA 30 3 g00), (p4, mA dA 24 2 g00), (p5, mA dA 20 4 g00), (p6, mA dA 3 5 g00), (p7, mA dA 15 24 g00), (p8, mA dA 5 25 g00), (p9, mA dA 3 6 g00)] H := hP
  have hD : va_D A [(a0, .inr (2, [.ref p1, .ref p2, .int (nI 0), .ref p3, .ref p4, .ref p5, .ref p6, .int (nI 0), .int (nI 0), .int (nI 0), .int (nI 0), .ref p7, .ref p8, .int (nI 0), .int (nI 0), .ref p9, .int (nI 0), .int (nI 0), .int (nI 0), .int (nI 0), .null, .null, .null, .null, .null, .int (nI 0)])), (p1, mA dA 7 0 g00), (p2, mA dA 7 1 g00), (p3, mA dA 30 3 g00), (p4, mA dA 24 2 g00), (p5, mA dA 20 4 g00), (p6, mA dA 3 5 g00), (p7, mA dA 15 24 g00), (p8, mA dA 5 25 g00), (p9, mA dA 3 6 g00)] := hD
  refine lv_aload_n hx hb dX3_init_73 rfl (lv_at hl 0 rfl) ?_
  refine lv_iconst (v := mI 0) hx hb dX3_init_74 zi_m1 ?_
  refine va_put (D := D) (ci := 2) (C := RX3) (T := TX3) (N := 26) hx hb hts in_X3 tyX3 tyX3_ok nmX3 hown hK hP hD hS 0 rfl rfl 16 (by decide) (hts _ q1063) (fun _ h9 => h9) rfl (ty := .int) (by decide +kernel) rfl rfl (Nat.le_of_ble_eq_true rfl) dX3_init_75 (fun H locs hP hD hS => ?_)
  have hP : va_P D clA [(a0, .inr (2, [.ref p1, .ref p2, .int (nI 0), .ref p3, .ref p4, .ref p5, .ref p6, .int (nI 0), .int (nI 0), .int (nI 0), .int (nI 0), .ref p7, .ref p8, .int (nI 0), .int (nI 0), .ref p9, .int (mI 0), .int (nI 0), .int (nI 0), .int (nI 0), .null, .null, .null, .null, .null, .int (nI 0)])), (p1, mA dA 7 0 g00), (p2, mA dA 7 1 g00), (p3, mA dA 30 3 g00), (p4, mA dA 24 2 g00), (p5, mA dA 20 4 g00), (p6, mA dA 3 5 g00), (p7, mA dA 15 24 g00), (p8, mA dA 5 25 g00), (p9, mA dA 3 6 g00)] H := hP
  have hD : va_D A [(a0, .inr (2, [.ref p1, .ref p2, .int (nI 0), .ref p3, .ref p4, .ref p5, .ref p6, .int (nI 0), .int (nI 0), .int (nI 0), .int (nI 0), .ref p7, .ref p8, .int (nI 0), .int (nI 0), .ref p9, .int (mI 0), .int (nI 0), .int (nI 0), .int (nI 0), .null, .null, .null, .null, .null, .int (nI 0)])), (p1, mA dA 7 0 g00), (p2, mA dA 7 1 g00), (p3, mA dA 30 3 g00), (p4, mA dA 24 2 g00), (p5, mA dA 20 4 g00), (p6, mA dA 3 5 g00), (p7, mA dA 15 24 g00), (p8, mA dA 5 25 g00), (p9, mA dA 3 6 g00)] := hD
  refine lv_aload_n hx hb dX3_init_78 rfl (lv_at hl 0 rfl) ?_
  refine lv_iconst (v := mI 0) hx hb dX3_init_79 zi_m1 ?_
  refine va_put (D := D) (ci := 2) (C := RX3) (T := TX3) (N := 26) hx hb hts in_X3 tyX3 tyX3_ok nmX3 hown hK hP hD hS 0 rfl rfl 17 (by decide) (hts _ q1064) (fun _ h9 => h9) rfl (ty := .int) (by decide +kernel) rfl rfl (Nat.le_of_ble_eq_true rfl) dX3_init_80 (fun H locs hP hD hS => ?_)
  have hP : va_P D clA [(a0, .inr (2, [.ref p1, .ref p2, .int (nI 0), .ref p3, .ref p4, .ref p5, .ref p6, .int (nI 0), .int (nI 0), .int (nI 0), .int (nI 0), .ref p7, .ref p8, .int (nI 0), .int (nI 0), .ref p9, .int (mI 0), .int (mI 0), .int (nI 0), .int (nI 0), .null, .null, .null, .null, .null, .int (nI 0)])), (p1, mA dA 7 0 g00), (p2, mA dA 7 1 g00), (p3, mA dA 30 3 g00), (p4, mA dA 24 2 g00), (p5, mA dA 20 4 g00), (p6, mA dA 3 5 g00), (p7, mA dA 15 24 g00), (p8, mA dA 5 25 g00), (p9, mA dA 3 6 g00)] H := hP
  have hD : va_D A [(a0, .inr (2, [.ref p1, .ref p2, .int (nI 0), .ref p3, .ref p4, .ref p5, .ref p6, .int (nI 0), .int (nI 0), .int (nI 0), .int (nI 0), .ref p7, .ref p8, .int (nI 0), .int (nI 0), .ref p9, .int (mI 0), .int (mI 0), .int (nI 0), .int (nI 0), .null, .null, .null, .null, .null, .int (nI 0)])), (p1, mA dA 7 0 g00), (p2, mA dA 7 1 g00), (p3, mA dA 30 3 g00), (p4, mA dA 24 2 g00), (p5, mA dA 20 4 g00), (p6, mA dA 3 5 g00), (p7, mA dA 15 24 g00), (p8, mA dA 5 25 g00), (p9, mA dA 3 6 g00)] := hD
  refine lv_aload_n hx hb dX3_init_83 rfl (lv_at hl 0 rfl) ?_
  refine lv_iconst (v := nI 3) hx hb dX3_init_84 zi_3 ?_
  refine va_newa (D := D) (atype := .int) (ty := .int) (a0 := (3, .inl (fun i => nI (g00 16 i)))) hx hb (hts _ q141) rfl hK hP hD hS hA (fun _ => rfl) (by decide) (N' := 3) (by decide) (Nat.le_of_ble_eq_true rfl) (Nat.le_of_ble_eq_true rfl) (Nat.le_of_ble_eq_true rfl) dX3_init_85 ?_
  intro p10 cA H hK9 hP hD hS
  obtain rfl := va_RA_un (hK.2 0 _ rfl).2 (hK9.2 7 _ rfl).2
  clear hK9
  have hP : va_P D clA [(a0, .inr (2, [.ref p1, .ref p2, .int (nI 0), .ref p3, .ref p4, .ref p5, .ref p6, .int (nI 0), .int (nI 0), .int (nI 0), .int (nI 0), .ref p7, .ref p8, .int (nI 0), .int (nI 0), .ref p9, .int (mI 0), .int (mI 0), .int (nI 0), .int (nI 0), .null, .null, .null, .null, .null, .int (nI 0)])), (p1, mA dA 7 0 g00), (p2, mA dA 7 1 g00), (p3, mA dA 30 3 g00), (p4, mA dA 24 2 g00), (p5, mA dA 20 4 g00), (p6, mA dA 3 5 g00), (p7, mA dA 15 24 g00), (p8, mA dA 5 25 g00), (p9, mA dA 3 6 g00), (p10, mA dA 3 16 g00)] H := hP
  have hD : va_D A [(a0, .inr (2, [.ref p1, .ref p2, .int (nI 0), .ref p3, .ref p4, .ref p5, .ref p6, .int (nI 0), .int (nI 0), .int (nI 0), .int (nI 0), .ref p7, .ref p8, .int (nI 0), .int (nI 0), .ref p9, .int (mI 0), .int (mI 0), .int (nI 0), .int (nI 0), .null, .null, .null, .null, .null, .int (nI 0)])), (p1, mA dA 7 0 g00), (p2, mA dA 7 1 g00), (p3, mA dA 30 3 g00), (p4, mA dA 24 2 g00), (p5, mA dA 20 4 g00), (p6, mA dA 3 5 g00), (p7, mA dA 15 24 g00), (p8, mA dA 5 25 g00), (p9, mA dA 3 6 g00), (p10, mA dA 3 16 g00)] := hD
  refine va_putF (D := D) (ci := 2) (v := .ref p10) (ty := .array .int) (C := RX3) (T := TX3) (N := 26) hx hb hts in_X3 tyX3 tyX3_ok nmX3 hown hK hP hD hS 0 rfl rfl 20 (by decide) (hts _ q1067) (fun _ h9 => h9) rfl hnm rfl (by decide +kernel) rfl rfl (Nat.le_of_ble_eq_true rfl) dX3_init_87 (fun H locs hP hD hS => ?_)
  have hP : va_P D clA [(a0, .inr (2, [.ref p1, .ref p2, .int (nI 0), .ref p3, .ref p4, .ref p5, .ref p6, .int (nI 0), .int (nI 0), .int (nI 0), .int (nI 0), .ref p7, .ref p8, .int (nI 0), .int (nI 0), .ref p9, .int (mI 0), .int (mI 0), .int (nI 0), .int (nI 0), .ref p10, .null, .null, .null, .null, .int (nI 0)])), (p1, mA dA 7 0 g00), (p2, mA dA 7 1 g00), (p3, mA dA 30 3 g00), (p4, mA dA 24 2 g00), (p5, mA dA 20 4 g00), (p6, mA dA 3 5 g00), (p7, mA dA 15 24 g00), (p8, mA dA 5 25 g00), (p9, mA dA 3 6 g00), (p10, mA dA 3 16 g00)] H := hP
  have hD : va_D A [(a0, .inr (2, [.ref p1, .ref p2, .int (nI 0), .ref p3, .ref p4, .ref p5, .ref p6, .int (nI 0), .int (nI 0), .int (nI 0), .int (nI 0), .ref p7, .ref p8, .int (nI 0), .int (nI 0), .ref p9, .int (mI 0), .int (mI 0), .int (nI 0), .int (nI 0), .ref p10, .null, .null, .null, .null, .int (nI 0)])), (p1, mA dA 7 0 g00), (p2, mA dA 7 1 g00), (p3, mA dA 30 3 g00), (p4, mA dA 24 2 g00), (p5, mA dA 20 4 g00), (p6, mA dA 3 5 g00), (p7, mA dA 15 24 g00), (p8, mA dA 5 25 g00), (p9, mA dA 3 6 g00), (p10, mA dA 3 16 g00)] := hD
  refine lv_aload_n hx hb dX3_init_90 rfl (lv_at hl 0 rfl) ?_
  refine lv_iconst (v := nI 3) hx hb dX3_init_91 zi_3 ?_
  refine va_newa (D := D) (atype := .int) (ty := .int) (a0 := (3, .inl (fun i => nI (g00 17 i)))) hx hb (hts _ q141) rfl hK hP hD hS hA (fun _ => rfl) (by decide) (N' := 3) (by decide) (Nat.le_of_ble_eq_true rfl) (Nat.le_of_ble_eq_true rfl) (Nat.le_of_ble_eq_true rfl) dX3_init_92 ?_
  intro p11 cA H hK9 hP hD hS
  obtain rfl := va_RA_un (hK.2 0 _ rfl).2 (hK9.2 7 _ rfl).2
  clear hK9
  have hP : va_P D clA [(a0, .inr (2, [.ref p1, .ref p2, .int (nI 0), .ref p3, .ref p4, .ref p5, .ref p6, .int (nI 0), .int (nI 0), .int (nI 0), .int (nI 0), .ref p7, .ref p8, .int (nI 0), .int (nI 0), .ref p9, .int (mI 0), .int (mI 0), .int (nI 0), .int (nI 0), .ref p10, .null, .null, .null, .null, .int (nI 0)])), (p1, mA dA 7 0 g00), (p2, mA dA 7 1 g00), (p3, mA dA 30 3 g00), (p4, mA dA 24 2 g00), (p5, mA dA 20 4 g00), (p6, mA dA 3 5 g00), (p7, mA dA 15 24 g00), (p8, mA dA 5 25 g00), (p9, mA dA 3 6 g00), (p10, mA dA 3 16 g00), (p11, mA dA 3 17 g00)] H := hP
  have hD : va_D A [(a0, .inr (2, [.ref p1, .ref p2, .int (nI 0), .ref p3, .ref p4, .ref p5, .ref p6, .int (nI 0), .int (nI 0), .int (nI 0), .int (nI 0), .ref p7, .ref p8, .int (nI 0), .int (nI 0), .ref p9, .int (mI 0), .int (mI 0), .int (nI 0), .int (nI 0), .ref p10, .null, .null, .null, .null, .int (nI 0)])), (p1, mA dA 7 0 g00), (p2, mA dA 7 1 g00), (p3, mA dA 30 3 g00), (p4, mA dA 24 2 g00), (p5, mA dA 20 4 g00), (p6, mA dA 3 5 g00), (p7, mA dA 15 24 g00), (p8, mA dA 5 25 g00), (p9, mA dA 3 6 g00), (p10, mA dA 3 16 g00), (p11, mA dA 3 17 g00)] := hD
  refine va_putF (D := D) (ci := 2) (v := .ref p11) (ty := .array .int) (C := RX3) (T := TX3) (N := 26) hx hb hts in_X3 tyX3 tyX3_ok nmX3 hown hK hP hD hS 0 rfl rfl 21 (by decide) (hts _ q1068) (fun _ h9 => h9) rfl hnm rfl (by decide +kernel) rfl rfl (Nat.le_of_ble_eq_true rfl) dX3_init_94 (fun H locs hP hD hS => ?_)
  have hP : va_P D clA [(a0, .inr (2, [.ref p1, .ref p2, .int (nI 0), .ref p3, .ref p4, .ref p5, .ref p6, .int (nI 0), .int (nI 0), .int (nI 0), .int (nI 0), .ref p7, .ref p8, .int (nI 0), .int (nI 0), .ref p9, .int (mI 0), .int (mI 0), .int (nI 0), .int (nI 0), .ref p10, .ref p11, .null, .null, .null, .int (nI 0)])), (p1, mA dA 7 0 g00), (p2, mA dA 7 1 g00), (p3, mA dA 30 3 g00), (p4, mA dA 24 2 g00), (p5, mA dA 20 4 g00), (p6, mA dA 3 5 g00), (p7, mA dA 15 24 g00), (p8, mA dA 5 25 g00), (p9, mA dA 3 6 g00), (p10, mA dA 3 16 g00), (p11, mA dA 3 17 g00)] H := hP
  have hD : va_D A [(a0, .inr (2, [.ref p1, .ref p2, .int (nI 0), .ref p3, .ref p4, .ref p5, .ref p6, .int (nI 0), .int (nI 0), .int (nI 0), .int (nI 0), .ref p7, .ref p8, .int (nI 0), .int (nI 0), .ref p9, .int (mI 0), .int (mI 0), .int (nI 0), .int (nI 0), .ref p10, .ref p11, .null, .null, .null, .int (nI 0)])), (p1, mA dA 7 0 g00), (p2, mA dA 7 1 g00), (p3, mA dA 30 3 g00), (p4, mA dA 24 2 g00), (p5, mA dA 20 4 g00), (p6, mA dA 3 5 g00), (p7, mA dA 15 24 g00), (p8, mA dA 5 25 g00), (p9, mA dA 3 6 g00), (p10, mA dA 3 16 g00), (p11, mA dA 3 17 g00)] := hD
  refine lv_aload_n hx hb dX3_init_97 rfl (lv_at hl 0 rfl) ?_
  refine lv_bipush (v := nI 8) hx hb dX3_init_98 (by decide) ?_
  refine va_newa (D := D) (atype := .int) (ty := .int) (a0 := (8, .inl (fun i => nI (g00 20 i)))) hx hb (hts _ q141) rfl hK hP hD hS hA (fun _ => rfl) (by decide) (N' := 8) (by decide) (Nat.le_of_ble_eq_true rfl) (Nat.le_of_ble_eq_true rfl) (Nat.le_of_ble_eq_true rfl) dX3_init_100 ?_
  intro p12 cA H hK9 hP hD hS
  obtain rfl := va_RA_un (hK.2 0 _ rfl).2 (hK9.2 7 _ rfl).2
  clear hK9
  have hP : va_P D clA [(a0, .inr (2, [.ref p1, .ref p2, .int (nI 0), .ref p3, .ref p4, .ref p5, .ref p6, .int (nI 0), .int (nI 0), .int (nI 0), .int (nI 0), .ref p7, .ref p8, .int (nI 0), .int (nI 0), .ref p9, .int (mI 0), .int (mI 0), .int (nI 0), .int (nI 0), .ref p10, .ref p11, .null, .null, .null, .int (nI 0)])), (p1, mA dA 7 0 g00), (p2, mA dA 7 1 g00), (p3, mA dA 30 3 g00), (p4, mA dA 24 2 g00), (p5, mA dA 20 4 g00), (p6, mA dA 3 5 g00), (p7, mA dA 15 24 g00), (p8, mA dA 5 25 g00), (p9, mA dA 3 6 g00), (p10, mA dA 3 16 g00), (p11, mA dA 3 17 g00), (p12, mA dA 8 20 g00)] H := hP
  have hD : va_D A [(a0, .inr (2, [.ref p1, .ref p2, .int (nI 0), .ref p3, .ref p4, .ref p5, .ref p6, .int (nI 0), .int (nI 0), .int (nI 0), .int (nI 0), .ref p7, .ref p8, .int (nI 0), .int (nI 0), .ref p9, .int (mI 0), .int (mI 0), .int (nI 0), .int (nI 0), .ref p10, .ref p11, .null, .null, .null, .int (nI 0)])), (p1, mA dA 7 0 g00), (p2, mA dA 7 1 g00), (p3, mA dA 30 3 g00), (p4, mA dA 24 2 g00), (p5, mA dA 20 4 g00), (p6, mA dA 3 5 g00), (p7, mA dA 15 24 g00), (p8, mA dA 5 25 g00), (p9, mA dA 3 6 g00), (p10, mA dA 3 16 g00), (p11, mA dA 3 17 g00), (p12, mA dA 8 20 g00)] := hD
  refine va_putF (D := D) (ci := 2) (v := .ref p12) (ty := .array .int) (C := RX3) (T := TX3) (N := 26) hx hb hts in_X3 tyX3 tyX3_ok nmX3 hown hK hP hD hS 0 rfl rfl 22 (by decide) (hts _ q1069) (fun _ h9 => h9) rfl hnm rfl (by decide +kernel) rfl rfl (Nat.le_of_ble_eq_true rfl) dX3_init_102 (fun H locs hP hD hS => ?_)
  have hP : va_P D clA [(a0, .inr (2, [.ref p1, .ref p2, .int (nI 0), .ref p3, .ref p4, .ref p5, .ref p6, .int (nI 0), .int (nI 0), .int (nI 0), .int (nI 0), .ref p7, .ref p8, .int (nI 0), .int (nI 0), .ref p9, .int (mI 0), .int (mI 0), .int (nI 0), .int (nI 0), .ref p10, .ref p11, .ref p12, .null, .null, .int (nI 0)])), (p1, mA dA 7 0 g00), (p2, mA dA 7 1 g00), (p3, mA dA 30 3 g00), (p4, mA dA 24 2 g00), (p5, mA dA 20 4 g00), (p6, mA dA 3 5 g00), (p7, mA dA 15 24 g00), (p8, mA dA 5 25 g00), (p9, mA dA 3 6 g00), (p10, mA dA 3 16 g00), (p11, mA dA 3 17 g00), (p12, mA dA 8 20 g00)] H := hP
  have hD : va_D A [(a0, .inr (2, [.ref p1, .ref p2, .int (nI 0), .ref p3, .ref p4, .ref p5, .ref p6, .int (nI 0), .int (nI 0), .int (nI 0), .int (nI 0), .ref p7, .ref p8, .int (nI 0), .int (nI 0), .ref p9, .int (mI 0), .int (mI 0), .int (nI 0), .int (nI 0), .ref p10, .ref p11, .ref p12, .null, .null, .int (nI 0)])), (p1, mA dA 7 0 g00), (p2, mA dA 7 1 g00), (p3, mA dA 30 3 g00), (p4, mA dA 24 2 g00), (p5, mA dA 20 4 g00), (p6, mA dA 3 5 g00), (p7, mA dA 15 24 g00), (p8, mA dA 5 25 g00), (p9, mA dA 3 6 g00), (p10, mA dA 3 16 g00), (p11, mA dA 3 17 g00), (p12, mA dA 8 20 g00)] := hD
  refine lv_aload_n hx hb dX3_init_105 rfl (lv_at hl 0 rfl) ?_
  refine lv_bipush (v := nI 24) hx hb dX3_init_106 (by decide) ?_
  refine va_newa (D := D) (atype := .int) (ty := .int) (a0 := (24, .inl (fun i => nI (g00 23 i)))) hx hb (hts _ q141) rfl hK hP hD hS hA (fun _ => rfl) (by decide) (N' := 24) (by decide) (Nat.le_of_ble_eq_true rfl) (Nat.le_of_ble_eq_true rfl) (Nat.le_of_ble_eq_true rfl) dX3_init_108 ?_
  intro p13 cA H hK9 hP hD hS
  obtain rfl := va_RA_un (hK.2 0 _ rfl).2 (hK9.2 7 _ rfl).2
  clear hK9
  have hP : va_P D clA [(a0, .inr (2, [.ref p1, .ref p2, .int (nI 0), .ref p3, .ref p4, .ref p5, .ref p6, .int (nI 0), .int (nI 0), .int (nI 0), .int (nI 0), .ref p7, .ref p8, .int (nI 0), .int (nI 0), .ref p9, .int (mI 0), .int (mI 0), .int (nI 0), .int (nI 0), .ref p10, .ref p11, .ref p12, .null, .null, .int (nI 0)])), (p1, mA dA 7 0 g00), (p2, mA dA 7 1 g00), (p3, mA dA 30 3 g00), (p4, mA dA 24 2 g00), (p5, mA dA 20 4 g00), (p6, mA dA 3 5 g00), (p7, mA dA 15 24 g00), (p8, mA dA 5 25 g00), (p9, mA dA 3 6 g00), (p10, mA dA 3 16 g00), (p11, mA dA 3 17 g00), (p12, mA dA 8 20 g00), (p13, mA dA 24 23 g00)] H := hP
  have hD : va_D A [(a0, .inr (2, [.ref p1, .ref p2, .int (nI 0), .ref p3, .ref p4, .ref p5, .ref p6, .int (nI 0), .int (nI 0), .int (nI 0), .int (nI 0), .ref p7, .ref p8, .int (nI 0), .int (nI 0), .ref p9, .int (mI 0), .int (mI 0), .int (nI 0), .int (nI 0), .ref p10, .ref p11, .ref p12, .null, .null, .int (nI 0)])), (p1, mA dA 7 0 g00), (p2, mA dA 7 1 g00), (p3, mA dA 30 3 g00), (p4, mA dA 24 2 g00), (p5, mA dA 20 4 g00), (p6, mA dA 3 5 g00), (p7, mA dA 15 24 g00), (p8, mA dA 5 25 g00), (p9, mA dA 3 6 g00), (p10, mA dA 3 16 g00), (p11, mA dA 3 17 g00), (p12, mA dA 8 20 g00), (p13, mA dA 24 23 g00)] := hD
  refine va_putF (D := D) (ci := 2) (v := .ref p13) (ty := .array .int) (C := RX3) (T := TX3) (N := 26) hx hb hts in_X3 tyX3 tyX3_ok nmX3 hown hK hP hD hS 0 rfl rfl 23 (by decide) (hts _ q1070) (fun _ h9 => h9) rfl hnm rfl (by decide +kernel) rfl rfl (Nat.le_of_ble_eq_true rfl) dX3_init_110 (fun H locs hP hD hS => ?_)
  have hP : va_P D clA [(a0, .inr (2, [.ref p1, .ref p2, .int (nI 0), .ref p3, .ref p4, .ref p5, .ref p6, .int (nI 0), .int (nI 0), .int (nI 0), .int (nI 0), .ref p7, .ref p8, .int (nI 0), .int (nI 0), .ref p9, .int (mI 0), .int (mI 0), .int (nI 0), .int (nI 0), .ref p10, .ref p11, .ref p12, .ref p13, .null, .int (nI 0)])), (p1, mA dA 7 0 g00), (p2, mA dA 7 1 g00), (p3, mA dA 30 3 g00), (p4, mA dA 24 2 g00), (p5, mA dA 20 4 g00), (p6, mA dA 3 5 g00), (p7, mA dA 15 24 g00), (p8, mA dA 5 25 g00), (p9, mA dA 3 6 g00), (p10, mA dA 3 16 g00), (p11, mA dA 3 17 g00), (p12, mA dA 8 20 g00), (p13, mA dA 24 23 g00)] H := hP
  have hD : va_D A [(a0, .inr (2, [.ref p1, .ref p2, .int (nI 0), .ref p3, .ref p4, .ref p5, .ref p6, .int (nI 0), .int (nI 0), .int (nI 0), .int (nI 0), .ref p7, .ref p8, .int (nI 0), .int (nI 0), .ref p9, .int (mI 0), .int (mI 0), .int (nI 0), .int (nI 0), .ref p10, .ref p11, .ref p12, .ref p13, .null, .int (nI 0)])), (p1, mA dA 7 0 g00), (p2, mA dA 7 1 g00), (p3, mA dA 30 3 g00), (p4, mA dA 24 2 g00), (p5, mA dA 20 4 g00), (p6, mA dA 3 5 g00), (p7, mA dA 15 24 g00), (p8, mA dA 5 25 g00), (p9, mA dA 3 6 g00), (p10, mA dA 3 16 g00), (p11, mA dA 3 17 g00), (p12, mA dA 8 20 g00), (p13, mA dA 24 23 g00)] := hD
  refine lv_aload_n hx hb dX3_init_113 rfl (lv_at hl 0 rfl) ?_
  refine lv_bipush (v := nI 15) hx hb dX3_init_114 (by decide) ?_
  refine va_newa (D := D) (atype := .int) (ty := .int) (a0 := (15, .inl (fun i => nI (g00 21 i)))) hx hb (hts _ q141) rfl hK hP hD hS hA (fun _ => rfl) (by decide) (N' := 15) (by decide) (Nat.le_of_ble_eq_true rfl) (Nat.le_of_ble_eq_true rfl) (Nat.le_of_ble_eq_true rfl) dX3_init_116 ?_
  intro p14 cA H hK9 hP hD hS
  obtain rfl := va_RA_un (hK.2 0 _ rfl).2 (hK9.2 7 _ rfl).2
  clear hK9
  have hP : va_P D clA [(a0, .inr (2, [.ref p1, .ref p2, .int (nI 0), .ref p3, .ref p4, .ref p5, .ref p6, .int (nI 0), .int (nI 0), .int (nI 0), .int (nI 0), .ref p7, .ref p8, .int (nI 0), .int (nI 0), .ref p9, .int (mI 0), .int (mI 0), .int (nI 0), .int (nI 0), .ref p10, .ref p11, .ref p12, .ref p13, .null, .int (nI 0)])), (p1, mA dA 7 0 g00), (p2, mA dA 7 1 g00), (p3, mA dA 30 3 g00), (p4, mA dA 24 2 g00), (p5, mA dA 20 4 g00), (p6, mA dA 3 5 g00), (p7, mA dA 15 24 g00), (p8, mA dA 5 25 g00), (p9, mA dA 3 6 g00), (p10, mA dA 3 16 g00), (p11, mA dA 3 17 g00), (p12, mA dA 8 20 g00), (p13, mA dA 24 23 g00), (p14, mA dA 15 21 g00)] H := hP
  have hD : va_D A [(a0, .inr (2, [.ref p1, .ref p2, .int (nI 0), .ref p3, .ref p4, .ref p5, .ref p6, .int (nI 0), .int (nI 0), .int (nI 0), .int (nI 0), .ref p7, .ref p8, .int (nI 0), .int (nI 0), .ref p9, .int (mI 0), .int (mI 0), .int (nI 0), .int (nI 0), .ref p10, .ref p11, .ref p12, .ref p13, .null, .int (nI 0)])), (p1, mA dA 7 0 g00), (p2, mA dA 7 1 g00), (p3, mA dA 30 3 g00), (p4, mA dA 24 2 g00), (p5, mA dA 20 4 g00), (p6, mA dA 3 5 g00), (p7, mA dA 15 24 g00), (p8, mA dA 5 25 g00), (p9, mA dA 3 6 g00), (p10, mA dA 3 16 g00), (p11, mA dA 3 17 g00), (p12, mA dA 8 20 g00), (p13, mA dA 24 23 g00), (p14, mA dA 15 21 g00)] := hD
  refine va_putF (D := D) (ci := 2) (v := .ref p14) (ty := .array .int) (C := RX3) (T := TX3) (N := 26) hx hb hts in_X3 tyX3 tyX3_ok nmX3 hown hK hP hD hS 0 rfl rfl 24 (by decide) (hts _ q1071) (fun _ h9 => h9) rfl hnm rfl (by decide +kernel) rfl rfl (Nat.le_of_ble_eq_true rfl) dX3_init_118 (fun H locs hP hD hS => ?_)
  have hP : va_P D clA [(a0, .inr (2, [.ref p1, .ref p2, .int (nI 0), .ref p3, .ref p4, .ref p5, .ref p6, .int (nI 0), .int (nI 0), .int (nI 0), .int (nI 0), .ref p7, .ref p8, .int (nI 0), .int (nI 0), .ref p9, .int (mI 0), .int (mI 0), .int (nI 0), .int (nI 0), .ref p10, .ref p11, .ref p12, .ref p13, .ref p14, .int (nI 0)])), (p1, mA dA 7 0 g00), (p2, mA dA 7 1 g00), (p3, mA dA 30 3 g00), (p4, mA dA 24 2 g00), (p5, mA dA 20 4 g00), (p6, mA dA 3 5 g00), (p7, mA dA 15 24 g00), (p8, mA dA 5 25 g00), (p9, mA dA 3 6 g00), (p10, mA dA 3 16 g00), (p11, mA dA 3 17 g00), (p12, mA dA 8 20 g00), (p13, mA dA 24 23 g00), (p14, mA dA 15 21 g00)] H := hP
  have hD : va_D A [(a0, .inr (2, [.ref p1, .ref p2, .int (nI 0), .ref p3, .ref p4, .ref p5, .ref p6, .int (nI 0), .int (nI 0), .int (nI 0), .int (nI 0), .ref p7, .ref p8, .int (nI 0), .int (nI 0), .ref p9, .int (mI 0), .int (mI 0), .int (nI 0), .int (nI 0), .ref p10, .ref p11, .ref p12, .ref p13, .ref p14, .int (nI 0)])), (p1, mA dA 7 0 g00), (p2, mA dA 7 1 g00), (p3, mA dA 30 3 g00), (p4, mA dA 24 2 g00), (p5, mA dA 20 4 g00), (p6, mA dA 3 5 g00), (p7, mA dA 15 24 g00), (p8, mA dA 5 25 g00), (p9, mA dA 3 6 g00), (p10, mA dA 3 16 g00), (p11, mA dA 3 17 g00), (p12, mA dA 8 20 g00), (p13, mA dA 24 23 g00), (p14, mA dA 15 21 g00)] := hD
  obtain ⟨ad, had, hL⟩ : ∃ ad : Nat → Nat, ad 0 = a0 ∧ ad 1 = p1 ∧ ad 2 = p2 ∧ ad 3 = p3 ∧ ad 4 = p4 ∧ ad 5 = p5 ∧ ad 6 = p6 ∧ ad 7 = p7 ∧ ad 8 = p8 ∧ ad 9 = p9 ∧ ad 10 = p10 ∧ ad 11 = p11 ∧ ad 12 = p12 ∧ ad 13 = p13 ∧ ad 14 = p14 := ⟨adL [a0, p1, p2, p3, p4, p5, p6, p7, p8, p9, p10, p11, p12, p13, p14], rfl, rfl, rfl, rfl, rfl, rfl, rfl, rfl, rfl, rfl, rfl, rfl, rfl, rfl, rfl⟩
  obtain ⟨rfl, rfl, rfl, rfl, rfl, rfl, rfl, rfl, rfl, rfl, rfl, rfl, rfl, rfl⟩ := hL
  subst had
  have hM : MS D dA A ad g00 H := ⟨hP, hD⟩
  have hg : Sm g00 := Sm_g00
  have hg0 := hg
  have hPost := hPost ad
  refine lv_iconst (v := nI 0) hx hb dX3_init_121 zi_0 ?_
  refine lv_istore_n (lv' := [(1, .int (nI 0)), (0, .ref (ad 0))]) hx hb dX3_init_122 rfl hl (by decide) rfl (fun ls hl => ?_)
  have L_123 : ∀ (n_123 : Nat) (i : Nat), i ≤ 7 → 7 - i < n_123 → ∀ gLv : G, gLv = ini1 i → Sm gLv → ∀ (H : Heap) (locs : List Loc), MS D dA A ad gLv H → va_S A s.heap H locs → ∀ ls : Array Slot, lv_has ls 2 [(0, .ref (ad 0)), (1, .int (nI i))] → W pr l en (rmF 1 14 167 13) s m args below meth cd H locs 14 167 (MQ below (zc_Q Post A) args s 14 167 A) (F0 m 123 ls []) := by
    intro n_123
    induction n_123 with
    | zero => intro i hi_123 hm_123; exact absurd hm_123 (Nat.not_lt_zero _)
    | succ n_123 ih_123 =>
      intro i hi_123 hm_123 gLv egL hg H locs hM hS ls hl
      subst egL
      refine lv_iload_n hx hb dX3_init_123 rfl (lv_at hl 1 rfl) ?_
      refine lv_bipush (v := nI 7) hx hb dX3_init_124 zb_7 ?_
      refine zr_icmp_geN (a := i) (b := 7) (tgt := 227) hx hb (by omega) (by omega) dX3_init_126 (by decide) (fun c_1 => ?_) (fun c_1 => ?_)
      · have e_i : 7 = i := by omega
        subst e_i
        refine lv_iconst (v := nI 0) hx hb dX3_init_227 zi_0 ?_
        refine lv_istore_n (lv' := [(1, .int (nI 0)), (0, .ref (ad 0))]) hx hb dX3_init_228 rfl hl (by decide) rfl (fun ls hl => ?_)
        have L_229 : ∀ (n_229 : Nat) (k : Nat), k ≤ 5 → 5 - k < n_229 → ∀ gLv : G, gLv = ini2 k → Sm gLv → ∀ (H : Heap) (locs : List Loc), MS D dA A ad gLv H → va_S A s.heap H locs → ∀ ls : Array Slot, lv_has ls 2 [(0, .ref (ad 0)), (1, .int (nI k))] → W pr l en (rmF 1 14 167 13) s m args below meth cd H locs 14 167 (MQ below (zc_Q Post A) args s 14 167 A) (F0 m 229 ls []) := by
          intro n_229
          induction n_229 with
          | zero => intro k hi_229 hm_229; exact absurd hm_229 (Nat.not_lt_zero _)
          | succ n_229 ih_229 =>
            intro k hi_229 hm_229 gLv egL hg H locs hM hS ls hl
            subst egL
            refine lv_iload_n hx hb dX3_init_229 rfl (lv_at hl 1 rfl) ?_
            refine lv_iconst (v := nI 5) hx hb dX3_init_230 zi_5 ?_
            refine zr_icmp_geN (a := k) (b := 5) (tgt := 251) hx hb (by omega) (by omega) dX3_init_231 (by decide) (fun c_2 => ?_) (fun c_2 => ?_)
            · have e_k : 5 = k := by omega
              subst e_k
              exact zc_vret (hPost H rfl hM hg) hS hx hb hr hlk (Nat.le_of_ble_eq_true rfl) (Nat.le_of_ble_eq_true rfl) dX3_init_251
            · refine lv_aload_n hx hb dX3_init_234 rfl (lv_at hl 0 rfl) ?_
              refine gM_hand S hK hM dX3_init_235 ?_
              refine lv_bipush (v := nI 15) hx hb dX3_init_238 zb_15 ?_
              refine lv_iload_n hx hb dX3_init_240 rfl (lv_at hl 1 rfl) ?_
              refine zr_addN (a := 15) (b := k) hx hb dX3_init_241 ?_
              refine lv_bipush (v := nI 12) hx hb dX3_init_242 zb_12 ?_
              refine sM_hand S hK hM hS (15 + k) (by omega) 12 dX3_init_244 (fun H locs hM hS => ?_)
              have hg : Sm (gs (ini2 k) 4 (15 + k) 12) := Sm_gs hg (by first | omega | exact Nat.lt_of_le_of_lt (Bool.toNat_le _) (by decide) | ((repeat' split) <;> omega))
              refine lv_iinc (v := nI (k + 1)) (lv' := [(1, .int (nI (k + 1))), (0, .ref (ad 0))]) hx hb dX3_init_245 hl (k := 1) rfl (zk_inc _) (by decide) rfl (fun ls hl => ?_)
              refine lv_goto (tgt := 229) hx hb dX3_init_248 (by decide) ?_
              exact ih_229 (k + 1) (by first | omega | assumption | (simp; done) | grind) (by omega) (gs (ini2 k) 4 (15 + k) 12) (rfl) hg H locs hM hS ls (lv_sub hl [1, 0] rfl)
        exact L_229 _ 0 (by first | omega | assumption | (simp; done) | grind) (Nat.lt_succ_self _) (ini1 7) (rfl) hg H locs hM hS ls (lv_sub hl [1, 0] rfl)
      · refine lv_aload_n hx hb dX3_init_129 rfl (lv_at hl 0 rfl) ?_
        refine gM_good S hK hM dX3_init_130 ?_
        refine lv_iload_n hx hb dX3_init_133 rfl (lv_at hl 1 rfl) ?_
        refine lv_iload_n hx hb dX3_init_134 rfl (lv_at hl 1 rfl) ?_
        have J_155 : ∀ yS0_155 : Int32, yS0_155 = nI ((if i = 0 then 5 else (if i = 6 then 1 else i - 1))) → ∀ (H : Heap) (locs : List Loc), MS D dA A ad (ini1 i) H → va_S A s.heap H locs → ∀ ls : Array Slot, lv_has ls 2 [(0, .ref (ad 0)), (1, .int (nI i))] → W pr l en (rmF 1 14 167 13) s m args below meth cd H locs 14 167 (MQ below (zc_Q Post A) args s 14 167 A) (F0 m 155 ls [.int yS0_155, .int (nI i), .ref (ad 1)]) := by
          intro yS0_155 eyS0_155 H locs hM hS ls hl
          subst eyS0_155
          refine sM_good S hK hM hS i (by omega) ((if i = 0 then 5 else (if i = 6 then 1 else i - 1))) dX3_init_155 (fun H locs hM hS => ?_)
          have hg : Sm (gs (ini1 i) 0 i ((if i = 0 then 5 else (if i = 6 then 1 else i - 1)))) := Sm_gs hg (by first | omega | exact Nat.lt_of_le_of_lt (Bool.toNat_le _) (by decide) | ((repeat' split) <;> omega))
          refine lv_aload_n hx hb dX3_init_156 rfl (lv_at hl 0 rfl) ?_
          refine gM_number S hK hM dX3_init_157 ?_
          refine lv_iload_n hx hb dX3_init_160 rfl (lv_at hl 1 rfl) ?_
          refine lv_iload_n hx hb dX3_init_161 rfl (lv_at hl 1 rfl) ?_
          have J_220 : ∀ yS0_220 : Int32, yS0_220 = nI ((if i = 0 then 7 else (if i = 1 then 6 else (if i = 2 then 5 else (if i = 3 then 9 else (if i = 4 then 4 else (if i = 5 then 10 else 8))))))) → ∀ (H : Heap) (locs : List Loc), MS D dA A ad (gs (ini1 i) 0 i ((if i = 0 then 5 else (if i = 6 then 1 else i - 1)))) H → va_S A s.heap H locs → ∀ ls : Array Slot, lv_has ls 2 [(0, .ref (ad 0)), (1, .int (nI i))] → W pr l en (rmF 1 14 167 13) s m args below meth cd H locs 14 167 (MQ below (zc_Q Post A) args s 14 167 A) (F0 m 220 ls [.int yS0_220, .int (nI i), .ref (ad 2)]) := by
            intro yS0_220 eyS0_220 H locs hM hS ls hl
            subst eyS0_220
            refine sM_number S hK hM hS i (by omega) ((if i = 0 then 7 else (if i = 1 then 6 else (if i = 2 then 5 else (if i = 3 then 9 else (if i = 4 then 4 else (if i = 5 then 10 else 8))))))) dX3_init_220 (fun H locs hM hS => ?_)
            have hg : Sm (gs (gs (ini1 i) 0 i ((if i = 0 then 5 else (if i = 6 then 1 else i - 1)))) 1 i ((if i = 0 then 7 else (if i = 1 then 6 else (if i = 2 then 5 else (if i = 3 then 9 else (if i = 4 then 4 else (if i = 5 then 10 else 8)))))))) := Sm_gs hg (by first | omega | exact Nat.lt_of_le_of_lt (Bool.toNat_le _) (by decide) | ((repeat' split) <;> omega))
            refine lv_iinc (v := nI (i + 1)) (lv' := [(1, .int (nI (i + 1))), (0, .ref (ad 0))]) hx hb dX3_init_221 hl (k := 1) rfl (zk_inc _) (by decide) rfl (fun ls hl => ?_)
            refine lv_goto (tgt := 123) hx hb dX3_init_224 (by decide) ?_
            exact ih_123 (i + 1) (by first | omega | assumption | (simp; done) | grind) (by omega) (gs (gs (ini1 i) 0 i ((if i = 0 then 5 else (if i = 6 then 1 else i - 1)))) 1 i ((if i = 0 then 7 else (if i = 1 then 6 else (if i = 2 then 5 else (if i = 3 then 9 else (if i = 4 then 4 else (if i = 5 then 10 else 8)))))))) (rfl) hg H locs hM hS ls (lv_sub hl [1, 0] rfl)
          refine zr_if_neN (a := i) (tgt := 170) hx hb (by omega) dX3_init_162 (by decide) (fun c_11 => ?_) (fun c_11 => ?_)
          · refine lv_iload_n hx hb dX3_init_170 rfl (lv_at hl 1 rfl) ?_
            refine lv_iconst (v := nI 1) hx hb dX3_init_171 zi_1 ?_
            refine zr_icmp_neN (a := i) (b := 1) (tgt := 180) hx hb (by omega) (by omega) dX3_init_172 (by decide) (fun c_12 => ?_) (fun c_12 => ?_)
            · refine lv_iload_n hx hb dX3_init_180 rfl (lv_at hl 1 rfl) ?_
              refine lv_iconst (v := nI 2) hx hb dX3_init_181 zi_2 ?_
              refine zr_icmp_neN (a := i) (b := 2) (tgt := 189) hx hb (by omega) (by omega) dX3_init_182 (by decide) (fun c_13 => ?_) (fun c_13 => ?_)
              · refine lv_iload_n hx hb dX3_init_189 rfl (lv_at hl 1 rfl) ?_
                refine lv_iconst (v := nI 3) hx hb dX3_init_190 zi_3 ?_
                refine zr_icmp_neN (a := i) (b := 3) (tgt := 199) hx hb (by omega) (by omega) dX3_init_191 (by decide) (fun c_14 => ?_) (fun c_14 => ?_)
                · refine lv_iload_n hx hb dX3_init_199 rfl (lv_at hl 1 rfl) ?_
                  refine lv_iconst (v := nI 4) hx hb dX3_init_200 zi_4 ?_
                  refine zr_icmp_neN (a := i) (b := 4) (tgt := 208) hx hb (by omega) (by omega) dX3_init_201 (by decide) (fun c_15 => ?_) (fun c_15 => ?_)
                  · refine lv_iload_n hx hb dX3_init_208 rfl (lv_at hl 1 rfl) ?_
                    refine lv_iconst (v := nI 5) hx hb dX3_init_209 zi_5 ?_
                    refine zr_icmp_neN (a := i) (b := 5) (tgt := 218) hx hb (by omega) (by omega) dX3_init_210 (by decide) (fun c_16 => ?_) (fun c_16 => ?_)
                    · refine lv_bipush (v := nI 8) hx hb dX3_init_218 zb_8 ?_
                      exact J_220 _ (congrArg nI (show (8 : Nat) = ((if i = 0 then 7 else (if i = 1 then 6 else (if i = 2 then 5 else (if i = 3 then 9 else (if i = 4 then 4 else (if i = 5 then 10 else 8))))))) from by first | with_reducible rfl | (simp [c_1, c_11, c_12, c_13, c_14, c_15, c_16, goodAt, numAt]; done) | (simp only [c_1, c_11, c_12, c_13, c_14, c_15, c_16] <;> simp [goodAt, numAt]; done) | (simp only [goodAt, numAt, c_1, c_11, c_12, c_13, c_14, c_15, c_16] <;> simp [goodAt, numAt]; done) | (simp [c_1, c_11, c_12, c_13, c_14, c_15, c_16, goodAt, numAt, Bool.and_assoc]; done) | (simp [c_1, c_11, c_12, c_13, c_14, c_15, c_16, goodAt, numAt, Bool.and_assoc, Bool.or_assoc]; done) | rfl | (simp [c_1, c_11, c_12, c_13, c_14, c_15, c_16, goodAt, numAt]; omega))) H locs hM hS ls (lv_sub hl [0, 1] rfl)
                    · refine lv_bipush (v := nI 10) hx hb dX3_init_213 zb_10 ?_
                      refine lv_goto (tgt := 220) hx hb dX3_init_215 (by decide) ?_
                      exact J_220 _ (congrArg nI (show (10 : Nat) = ((if i = 0 then 7 else (if i = 1 then 6 else (if i = 2 then 5 else (if i = 3 then 9 else (if i = 4 then 4 else (if i = 5 then 10 else 8))))))) from by first | with_reducible rfl | (simp [c_1, c_11, c_12, c_13, c_14, c_15, c_16, goodAt, numAt]; done) | (simp only [c_1, c_11, c_12, c_13, c_14, c_15, c_16] <;> simp [goodAt, numAt]; done) | (simp only [goodAt, numAt, c_1, c_11, c_12, c_13, c_14, c_15, c_16] <;> simp [goodAt, numAt]; done) | (simp [c_1, c_11, c_12, c_13, c_14, c_15, c_16, goodAt, numAt, Bool.and_assoc]; done) | (simp [c_1, c_11, c_12, c_13, c_14, c_15, c_16, goodAt, numAt, Bool.and_assoc, Bool.or_assoc]; done) | rfl | (simp [c_1, c_11, c_12, c_13, c_14, c_15, c_16, goodAt, numAt]; omega))) H locs hM hS ls (lv_sub hl [0, 1] rfl)
                  · refine lv_iconst (v := nI 4) hx hb dX3_init_204 zi_4 ?_
                    refine lv_goto (tgt := 220) hx hb dX3_init_205 (by decide) ?_
                    exact J_220 _ (congrArg nI (show (4 : Nat) = ((if i = 0 then 7 else (if i = 1 then 6 else (if i = 2 then 5 else (if i = 3 then 9 else (if i = 4 then 4 else (if i = 5 then 10 else 8))))))) from by first | with_reducible rfl | (simp [c_1, c_11, c_12, c_13, c_14, c_15, goodAt, numAt]; done) | (simp only [c_1, c_11, c_12, c_13, c_14, c_15] <;> simp [goodAt, numAt]; done) | (simp only [goodAt, numAt, c_1, c_11, c_12, c_13, c_14, c_15] <;> simp [goodAt, numAt]; done) | (simp [c_1, c_11, c_12, c_13, c_14, c_15, goodAt, numAt, Bool.and_assoc]; done) | (simp [c_1, c_11, c_12, c_13, c_14, c_15, goodAt, numAt, Bool.and_assoc, Bool.or_assoc]; done) | rfl | (simp [c_1, c_11, c_12, c_13, c_14, c_15, goodAt, numAt]; omega))) H locs hM hS ls (lv_sub hl [0, 1] rfl)
                · refine lv_bipush (v := nI 9) hx hb dX3_init_194 zb_9 ?_
                  refine lv_goto (tgt := 220) hx hb dX3_init_196 (by decide) ?_
                  exact J_220 _ (congrArg nI (show (9 : Nat) = ((if i = 0 then 7 else (if i = 1 then 6 else (if i = 2 then 5 else (if i = 3 then 9 else (if i = 4 then 4 else (if i = 5 then 10 else 8))))))) from by first | with_reducible rfl | (simp [c_1, c_11, c_12, c_13, c_14, goodAt, numAt]; done) | (simp only [c_1, c_11, c_12, c_13, c_14] <;> simp [goodAt, numAt]; done) | (simp only [goodAt, numAt, c_1, c_11, c_12, c_13, c_14] <;> simp [goodAt, numAt]; done) | (simp [c_1, c_11, c_12, c_13, c_14, goodAt, numAt, Bool.and_assoc]; done) | (simp [c_1, c_11, c_12, c_13, c_14, goodAt, numAt, Bool.and_assoc, Bool.or_assoc]; done) | rfl | (simp [c_1, c_11, c_12, c_13, c_14, goodAt, numAt]; omega))) H locs hM hS ls (lv_sub hl [0, 1] rfl)
              · refine lv_iconst (v := nI 5) hx hb dX3_init_185 zi_5 ?_
                refine lv_goto (tgt := 220) hx hb dX3_init_186 (by decide) ?_
                exact J_220 _ (congrArg nI (show (5 : Nat) = ((if i = 0 then 7 else (if i = 1 then 6 else (if i = 2 then 5 else (if i = 3 then 9 else (if i = 4 then 4 else (if i = 5 then 10 else 8))))))) from by first | with_reducible rfl | (simp [c_1, c_11, c_12, c_13, goodAt, numAt]; done) | (simp only [c_1, c_11, c_12, c_13] <;> simp [goodAt, numAt]; done) | (simp only [goodAt, numAt, c_1, c_11, c_12, c_13] <;> simp [goodAt, numAt]; done) | (simp [c_1, c_11, c_12, c_13, goodAt, numAt, Bool.and_assoc]; done) | (simp [c_1, c_11, c_12, c_13, goodAt, numAt, Bool.and_assoc, Bool.or_assoc]; done) | rfl | (simp [c_1, c_11, c_12, c_13, goodAt, numAt]; omega))) H locs hM hS ls (lv_sub hl [0, 1] rfl)
            · refine lv_bipush (v := nI 6) hx hb dX3_init_175 zb_6 ?_
              refine lv_goto (tgt := 220) hx hb dX3_init_177 (by decide) ?_
              exact J_220 _ (congrArg nI (show (6 : Nat) = ((if i = 0 then 7 else (if i = 1 then 6 else (if i = 2 then 5 else (if i = 3 then 9 else (if i = 4 then 4 else (if i = 5 then 10 else 8))))))) from by first | with_reducible rfl | (simp [c_1, c_11, c_12, goodAt, numAt]; done) | (simp only [c_1, c_11, c_12] <;> simp [goodAt, numAt]; done) | (simp only [goodAt, numAt, c_1, c_11, c_12] <;> simp [goodAt, numAt]; done) | (simp [c_1, c_11, c_12, goodAt, numAt, Bool.and_assoc]; done) | (simp [c_1, c_11, c_12, goodAt, numAt, Bool.and_assoc, Bool.or_assoc]; done) | rfl | (simp [c_1, c_11, c_12, goodAt, numAt]; omega))) H locs hM hS ls (lv_sub hl [0, 1] rfl)
          · refine lv_bipush (v := nI 7) hx hb dX3_init_165 zb_7 ?_
            refine lv_goto (tgt := 220) hx hb dX3_init_167 (by decide) ?_
            exact J_220 _ (congrArg nI (show (7 : Nat) = ((if i = 0 then 7 else (if i = 1 then 6 else (if i = 2 then 5 else (if i = 3 then 9 else (if i = 4 then 4 else (if i = 5 then 10 else 8))))))) from by first | with_reducible rfl | (simp [c_1, c_11, goodAt, numAt]; done) | (simp only [c_1, c_11] <;> simp [goodAt, numAt]; done) | (simp only [goodAt, numAt, c_1, c_11] <;> simp [goodAt, numAt]; done) | (simp [c_1, c_11, goodAt, numAt, Bool.and_assoc]; done) | (simp [c_1, c_11, goodAt, numAt, Bool.and_assoc, Bool.or_assoc]; done) | rfl | (simp [c_1, c_11, goodAt, numAt]; omega))) H locs hM hS ls (lv_sub hl [0, 1] rfl)
        refine zr_if_neN (a := i) (tgt := 142) hx hb (by omega) dX3_init_135 (by decide) (fun c_17 => ?_) (fun c_17 => ?_)
        · refine lv_iload_n hx hb dX3_init_142 rfl (lv_at hl 1 rfl) ?_
          refine lv_bipush (v := nI 6) hx hb dX3_init_143 zb_6 ?_
          refine zr_icmp_neN (a := i) (b := 6) (tgt := 152) hx hb (by omega) (by omega) dX3_init_145 (by decide) (fun c_18 => ?_) (fun c_18 => ?_)
          · refine lv_iload_n hx hb dX3_init_152 rfl (lv_at hl 1 rfl) ?_
            refine lv_iconst (v := nI 1) hx hb dX3_init_153 zi_1 ?_
            refine zr_subN (a := i) (b := 1) hx hb (by omega) dX3_init_154 ?_
            exact J_155 _ (congrArg nI (show (i - 1 : Nat) = ((if i = 0 then 5 else (if i = 6 then 1 else i - 1))) from by first | with_reducible rfl | (simp [c_1, c_17, c_18, goodAt, numAt]; done) | (simp only [c_1, c_17, c_18] <;> simp [goodAt, numAt]; done) | (simp only [goodAt, numAt, c_1, c_17, c_18] <;> simp [goodAt, numAt]; done) | (simp [c_1, c_17, c_18, goodAt, numAt, Bool.and_assoc]; done) | (simp [c_1, c_17, c_18, goodAt, numAt, Bool.and_assoc, Bool.or_assoc]; done) | rfl | (simp [c_1, c_17, c_18, goodAt, numAt]; omega))) H locs hM hS ls (lv_sub hl [0, 1] rfl)
          · refine lv_iconst (v := nI 1) hx hb dX3_init_148 zi_1 ?_
            refine lv_goto (tgt := 155) hx hb dX3_init_149 (by decide) ?_
            exact J_155 _ (congrArg nI (show (1 : Nat) = ((if i = 0 then 5 else (if i = 6 then 1 else i - 1))) from by first | with_reducible rfl | (simp [c_1, c_17, c_18, goodAt, numAt]; done) | (simp only [c_1, c_17, c_18] <;> simp [goodAt, numAt]; done) | (simp only [goodAt, numAt, c_1, c_17, c_18] <;> simp [goodAt, numAt]; done) | (simp [c_1, c_17, c_18, goodAt, numAt, Bool.and_assoc]; done) | (simp [c_1, c_17, c_18, goodAt, numAt, Bool.and_assoc, Bool.or_assoc]; done) | rfl | (simp [c_1, c_17, c_18, goodAt, numAt]; omega))) H locs hM hS ls (lv_sub hl [0, 1] rfl)
        · refine lv_iconst (v := nI 5) hx hb dX3_init_138 zi_5 ?_
          refine lv_goto (tgt := 155) hx hb dX3_init_139 (by decide) ?_
          exact J_155 _ (congrArg nI (show (5 : Nat) = ((if i = 0 then 5 else (if i = 6 then 1 else i - 1))) from by first | with_reducible rfl | (simp [c_1, c_17, goodAt, numAt]; done) | (simp only [c_1, c_17] <;> simp [goodAt, numAt]; done) | (simp only [goodAt, numAt, c_1, c_17] <;> simp [goodAt, numAt]; done) | (simp [c_1, c_17, goodAt, numAt, Bool.and_assoc]; done) | (simp [c_1, c_17, goodAt, numAt, Bool.and_assoc, Bool.or_assoc]; done) | rfl | (simp [c_1, c_17, goodAt, numAt]; omega))) H locs hM hS ls (lv_sub hl [0, 1] rfl)
  exact L_123 _ 0 (by first | omega | assumption | (simp; done) | grind) (Nat.lt_succ_self _) (g00) (rfl) hg H locs hM hS ls (lv_sub hl [1, 0] rfl)
