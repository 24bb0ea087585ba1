/-! THE CLASS: public methods, the simple ones (printed by gen/x5.py) -/
def cdDue (g : G) (a1 : Int32) : Nat := (if (inB a1 3) = true then 0 else 1)
set_option maxHeartbeats 1000000 in
set_option maxRecDepth 100000 in
theorem cX_due (l : Launch) (hfl : l.stackTraces = false) {D : va_G} {dA : Nat → ClassId} {cn : Nat → Nat} {A : Nat → Prop} {pa : NM → Nat} {g : G} {T : va_W} (hg : Sm g) (a1 : Int32) (H0 : Heap) (hM : XS D dA cn A pa g T H0) (hA : ∀ q, H0.size ≤ q → A q) {Post : Option Value → Heap → Prop} {XPost : String → Heap → Prop} (hPost : (cdDue g a1) = 0 → ∀ H : Heap, XS D dA cn A pa g T H → Sm g → Post (some (.int (nI (g 5 (tn a1))))) H) (hXP : ∀ n : Nat, (cdDue g a1) = n → n ≠ 0 → ∀ H : Heap, XS D dA cn A pa g T H → XPost (exS n) H) : vCt l yX1_due (ws_ yX1_due cX1_due 2 (some .int)) (rmF 7 1 6 121) A (KX D dA cn A) [.ref (pa (0, 0)), .int a1] H0 Post XPost := by
  refine vc_of RX1 rfl (by decide) (Nat.le_of_ble_eq_true rfl) ?_
  intro pr en s m args below meth cd S hr hlk hnm hno hh hKX ls hl
  have hS : va_S A s.heap H0 [] := zc_start hh
  have hA : ∀ q, s.heap.size ≤ q → A q := fun q h => hA q (by rw [← hh]; exact h)
  have hg0 := hg
  have hx := S.1
  have hb := S.2.1
  have hown := S.2.2.2.1
  have hts := S.2.2.2.2
  have hK := hKX.1
  have hN := hKX.2.1.1
  have hl : lv_has ls 2 [(0, .ref (pa (0, 0))), (1, .int a1)] := hl
  refine lv_iload_n hx hb dX1_due_0 rfl (lv_at hl 1 rfl) ?_
  refine lv_iconst (v := nI 3) hx hb dX1_due_1 zi_3 ?_
  refine kX_check hfl S hKX hM hg hS (fun q h => hA q (Nat.le_trans hS.1 h)) a1 3 (by first | omega | assumption | grind) (Nat.le_of_ble_eq_true rfl) (Nat.le_of_ble_eq_true rfl) hl.1 (Nat.le_of_ble_eq_true rfl) dX1_due_2 (Nat.le_of_ble_eq_true rfl) (Nat.le_of_ble_eq_true rfl) hno hlk (Nat.le_of_ble_eq_true rfl) (Nat.le_of_ble_eq_true rfl) (fun c_1 H1 hM1 => hXP 1 (by first | (simp only [c_1, cdDue, Bool.true_and, Bool.and_true, Bool.false_and, Bool.and_false, reduceIte, Bool.false_eq_true]; done) | (simp [c_1, cdDue]; done) | grind | (simp_all; done)) (by decide) H1 hM1) (fun c_1 H locs hM hg hS => ?_)
  obtain ⟨hj1, ea1⟩ := inB_tn (by decide) c_1
  rw [ea1] at hl
  refine lv_aload_n hx hb dX1_due_5 rfl (lv_at hl 0 rfl) ?_
  refine gX_due S hK hM dX1_due_6 ?_
  refine lv_iload_n hx hb dX1_due_9 rfl (lv_at hl 1 rfl) ?_
  refine lX_due S hK hM (tn a1) (by omega) (g 5 (tn a1)) rfl dX1_due_10 ?_
  have hb_2 : g 5 (tn a1) < 1048576 := by first | exact hg 5 (tn a1) | exact hg0 _ _ | (have := hg 5 (tn a1); omega) | omega
  exact vx_ret (zc_nret (nI (g 5 (tn a1))) rfl (hPost (by first | rfl | (simp only [c_1, cdDue, Bool.true_and, Bool.and_true, reduceIte]; done) | (simp [c_1, cdDue]; done) | grind | (simp_all; done)) H hM hg) hS hx hb hr hlk (Nat.le_of_ble_eq_true rfl) (Nat.le_of_ble_eq_true rfl) dX1_due_11)
def cdKnights (g : G) (a1 : Int32) : Nat := (if (inB a1 3) = true then 0 else 1)
set_option maxHeartbeats 1000000 in
set_option maxRecDepth 100000 in
theorem cX_knights (l : Launch) (hfl : l.stackTraces = false) {D : va_G} {dA : Nat → ClassId} {cn : Nat → Nat} {A : Nat → Prop} {pa : NM → Nat} {g : G} {T : va_W} (hg : Sm g) (a1 : Int32) (H0 : Heap) (hM : XS D dA cn A pa g T H0) (hA : ∀ q, H0.size ≤ q → A q) {Post : Option Value → Heap → Prop} {XPost : String → Heap → Prop} (hPost : (cdKnights g a1) = 0 → ∀ H : Heap, XS D dA cn A pa g T H → Sm g → Post (some (.int (nI (g 6 (tn a1))))) H) (hXP : ∀ n : Nat, (cdKnights g a1) = n → n ≠ 0 → ∀ H : Heap, XS D dA cn A pa g T H → XPost (exS n) H) : vCt l yX1_knights (ws_ yX1_knights cX1_knights 2 (some .int)) (rmF 7 1 6 121) A (KX D dA cn A) [.ref (pa (0, 0)), .int a1] H0 Post XPost := by
  refine vc_of RX1 rfl (by decide) (Nat.le_of_ble_eq_true rfl) ?_
  intro pr en s m args below meth cd S hr hlk hnm hno hh hKX ls hl
  have hS : va_S A s.heap H0 [] := zc_start hh
  have hA : ∀ q, s.heap.size ≤ q → A q := fun q h => hA q (by rw [← hh]; exact h)
  have hg0 := hg
  have hx := S.1
  have hb := S.2.1
  have hown := S.2.2.2.1
  have hts := S.2.2.2.2
  have hK := hKX.1
  have hN := hKX.2.1.1
  have hl : lv_has ls 2 [(0, .ref (pa (0, 0))), (1, .int a1)] := hl
  refine lv_iload_n hx hb dX1_knights_0 rfl (lv_at hl 1 rfl) ?_
  refine lv_iconst (v := nI 3) hx hb dX1_knights_1 zi_3 ?_
  refine kX_check hfl S hKX hM hg hS (fun q h => hA q (Nat.le_trans hS.1 h)) a1 3 (by first | omega | assumption | grind) (Nat.le_of_ble_eq_true rfl) (Nat.le_of_ble_eq_true rfl) hl.1 (Nat.le_of_ble_eq_true rfl) dX1_knights_2 (Nat.le_of_ble_eq_true rfl) (Nat.le_of_ble_eq_true rfl) hno hlk (Nat.le_of_ble_eq_true rfl) (Nat.le_of_ble_eq_true rfl) (fun c_1 H1 hM1 => hXP 1 (by first | (simp only [c_1, cdKnights, Bool.true_and, Bool.and_true, Bool.false_and, Bool.and_false, reduceIte, Bool.false_eq_true]; done) | (simp [c_1, cdKnights]; done) | grind | (simp_all; done)) (by decide) H1 hM1) (fun c_1 H locs hM hg hS => ?_)
  obtain ⟨hj1, ea1⟩ := inB_tn (by decide) c_1
  rw [ea1] at hl
  refine lv_aload_n hx hb dX1_knights_5 rfl (lv_at hl 0 rfl) ?_
  refine gX_knights S hK hM dX1_knights_6 ?_
  refine lv_iload_n hx hb dX1_knights_9 rfl (lv_at hl 1 rfl) ?_
  refine lX_knights S hK hM (tn a1) (by omega) (g 6 (tn a1)) rfl dX1_knights_10 ?_
  have hb_2 : g 6 (tn a1) < 1048576 := by first | exact hg 6 (tn a1) | exact hg0 _ _ | (have := hg 6 (tn a1); omega) | omega
  exact vx_ret (zc_nret (nI (g 6 (tn a1))) rfl (hPost (by first | rfl | (simp only [c_1, cdKnights, Bool.true_and, Bool.and_true, reduceIte]; done) | (simp [c_1, cdKnights]; done) | grind | (simp_all; done)) H hM hg) hS hx hb hr hlk (Nat.le_of_ble_eq_true rfl) (Nat.le_of_ble_eq_true rfl) dX1_knights_11)
def cdRoadAt (g : G) (a1 : Int32) : Nat := (if (inB a1 30) = true then 0 else 1)
set_option maxHeartbeats 1000000 in
set_option maxRecDepth 100000 in
theorem cX_roadAt (l : Launch) (hfl : l.stackTraces = false) {D : va_G} {dA : Nat → ClassId} {cn : Nat → Nat} {A : Nat → Prop} {pa : NM → Nat} {g : G} {T : va_W} (hg : Sm g) (a1 : Int32) (H0 : Heap) (hM : XS D dA cn A pa g T H0) (hA : ∀ q, H0.size ≤ q → A q) {Post : Option Value → Heap → Prop} {XPost : String → Heap → Prop} (hPost : (cdRoadAt g a1) = 0 → ∀ H : Heap, XS D dA cn A pa g T H → Sm g → Post (some (.int (mI (g 3 (tn a1))))) H) (hXP : ∀ n : Nat, (cdRoadAt g a1) = n → n ≠ 0 → ∀ H : Heap, XS D dA cn A pa g T H → XPost (exS n) H) : vCt l yX1_roadAt (ws_ yX1_roadAt cX1_roadAt 2 (some .int)) (rmF 7 1 6 121) A (KX D dA cn A) [.ref (pa (0, 0)), .int a1] H0 Post XPost := by
  refine vc_of RX1 rfl (by decide) (Nat.le_of_ble_eq_true rfl) ?_
  intro pr en s m args below meth cd S hr hlk hnm hno hh hKX ls hl
  have hS : va_S A s.heap H0 [] := zc_start hh
  have hA : ∀ q, s.heap.size ≤ q → A q := fun q h => hA q (by rw [← hh]; exact h)
  have hg0 := hg
  have hx := S.1
  have hb := S.2.1
  have hown := S.2.2.2.1
  have hts := S.2.2.2.2
  have hK := hKX.1
  have hN := hKX.2.1.1
  have hl : lv_has ls 2 [(0, .ref (pa (0, 0))), (1, .int a1)] := hl
  refine lv_iload_n hx hb dX1_roadAt_0 rfl (lv_at hl 1 rfl) ?_
  refine lv_bipush (v := nI 30) hx hb dX1_roadAt_1 zb_30 ?_
  refine kX_check hfl S hKX hM hg hS (fun q h => hA q (Nat.le_trans hS.1 h)) a1 30 (by first | omega | assumption | grind) (Nat.le_of_ble_eq_true rfl) (Nat.le_of_ble_eq_true rfl) hl.1 (Nat.le_of_ble_eq_true rfl) dX1_roadAt_3 (Nat.le_of_ble_eq_true rfl) (Nat.le_of_ble_eq_true rfl) hno hlk (Nat.le_of_ble_eq_true rfl) (Nat.le_of_ble_eq_true rfl) (fun c_1 H1 hM1 => hXP 1 (by first | (simp only [c_1, cdRoadAt, Bool.true_and, Bool.and_true, Bool.false_and, Bool.and_false, reduceIte, Bool.false_eq_true]; done) | (simp [c_1, cdRoadAt]; done) | grind | (simp_all; done)) (by decide) H1 hM1) (fun c_1 H locs hM hg hS => ?_)
  obtain ⟨hj1, ea1⟩ := inB_tn (by decide) c_1
  rw [ea1] at hl
  refine lv_aload_n hx hb dX1_roadAt_6 rfl (lv_at hl 0 rfl) ?_
  refine gX_roads S hK hM dX1_roadAt_7 ?_
  refine lv_iload_n hx hb dX1_roadAt_10 rfl (lv_at hl 1 rfl) ?_
  refine lX_roads S hK hM (tn a1) (by omega) (g 3 (tn a1)) rfl dX1_roadAt_11 ?_
  have hb_2 : g 3 (tn a1) < 1048576 := by first | exact hg 3 (tn a1) | exact hg0 _ _ | (have := hg 3 (tn a1); omega) | omega
  exact vx_ret (zc_nret (mI (g 3 (tn a1))) rfl (hPost (by first | rfl | (simp only [c_1, cdRoadAt, Bool.true_and, Bool.and_true, reduceIte]; done) | (simp [c_1, cdRoadAt]; done) | grind | (simp_all; done)) H hM hg) hS hx hb hr hlk (Nat.le_of_ble_eq_true rfl) (Nat.le_of_ble_eq_true rfl) dX1_roadAt_12)
def cdHand (g : G) (a1 : Int32) (a2 : Int32) : Nat := (if (inB a1 4) = true then (if (inB a2 5) = true then 0 else 2) else 1)
set_option maxHeartbeats 1000000 in
set_option maxRecDepth 100000 in
theorem cX_hand (l : Launch) (hfl : l.stackTraces = false) {D : va_G} {dA : Nat → ClassId} {cn : Nat → Nat} {A : Nat → Prop} {pa : NM → Nat} {g : G} {T : va_W} (hg : Sm g) (a1 : Int32) (a2 : Int32) (H0 : Heap) (hM : XS D dA cn A pa g T H0) (hA : ∀ q, H0.size ≤ q → A q) {Post : Option Value → Heap → Prop} {XPost : String → Heap → Prop} (hPost : (cdHand g a1 a2) = 0 → ∀ H : Heap, XS D dA cn A pa g T H → Sm g → Post (some (.int (nI (g 4 (5 * tn a1 + tn a2))))) H) (hXP : ∀ n : Nat, (cdHand g a1 a2) = n → n ≠ 0 → ∀ H : Heap, XS D dA cn A pa g T H → XPost (exS n) H) : vCt l yX1_hand (ws_ yX1_hand cX1_hand 3 (some .int)) (rmF 8 2 12 142) A (KX D dA cn A) [.ref (pa (0, 0)), .int a1, .int a2] H0 Post XPost := by
  refine vc_of RX1 rfl (by decide) (Nat.le_of_ble_eq_true rfl) ?_
  intro pr en s m args below meth cd S hr hlk hnm hno hh hKX ls hl
  have hS : va_S A s.heap H0 [] := zc_start hh
  have hA : ∀ q, s.heap.size ≤ q → A q := fun q h => hA q (by rw [← hh]; exact h)
  have hg0 := hg
  have hx := S.1
  have hb := S.2.1
  have hown := S.2.2.2.1
  have hts := S.2.2.2.2
  have hK := hKX.1
  have hN := hKX.2.1.1
  have hl : lv_has ls 3 [(0, .ref (pa (0, 0))), (1, .int a1), (2, .int a2)] := hl
  refine lv_iload_n hx hb dX1_hand_0 rfl (lv_at hl 1 rfl) ?_
  refine lv_iconst (v := nI 4) hx hb dX1_hand_1 zi_4 ?_
  refine kX_check hfl S hKX hM hg hS (fun q h => hA q (Nat.le_trans hS.1 h)) a1 4 (by first | omega | assumption | grind) (Nat.le_of_ble_eq_true rfl) (Nat.le_of_ble_eq_true rfl) hl.1 (Nat.le_of_ble_eq_true rfl) dX1_hand_2 (Nat.le_of_ble_eq_true rfl) (Nat.le_of_ble_eq_true rfl) hno hlk (Nat.le_of_ble_eq_true rfl) (Nat.le_of_ble_eq_true rfl) (fun c_1 H1 hM1 => hXP 1 (by first | (simp only [c_1, cdHand, Bool.true_and, Bool.and_true, Bool.false_and, Bool.and_false, reduceIte, Bool.false_eq_true]; done) | (simp [c_1, cdHand]; done) | grind | (simp_all; done)) (by decide) H1 hM1) (fun c_1 H locs hM hg hS => ?_)
  obtain ⟨hj1, ea1⟩ := inB_tn (by decide) c_1
  rw [ea1] at hl
  refine lv_iload_n hx hb dX1_hand_5 rfl (lv_at hl 2 rfl) ?_
  refine kX_checkGood hfl S hKX hM hg hS (fun q h => hA q (Nat.le_trans hS.1 h)) a2  (Nat.le_of_ble_eq_true rfl) (Nat.le_of_ble_eq_true rfl) hl.1 (Nat.le_of_ble_eq_true rfl) dX1_hand_6 (Nat.le_of_ble_eq_true rfl) (Nat.le_of_ble_eq_true rfl) hno hlk (Nat.le_of_ble_eq_true rfl) (Nat.le_of_ble_eq_true rfl) (fun c_2 H1 hM1 => hXP 2 (by first | (simp only [c_1, c_2, cdHand, Bool.true_and, Bool.and_true, Bool.false_and, Bool.and_false, reduceIte, Bool.false_eq_true]; done) | (simp [c_1, c_2, cdHand]; done) | grind | (simp_all; done)) (by decide) H1 hM1) (fun c_2 H locs hM hg hS => ?_)
  obtain ⟨hj2, ea2⟩ := inB_tn (by decide) c_2
  rw [ea2] at hl
  refine lv_aload_n hx hb dX1_hand_9 rfl (lv_at hl 0 rfl) ?_
  refine gX_hands S hK hM dX1_hand_10 ?_
  refine lv_iload_n hx hb dX1_hand_13 rfl (lv_at hl 1 rfl) ?_
  refine lX_hands S hK hM (tn a1) (by omega) dX1_hand_14 ?_
  refine lv_iload_n hx hb dX1_hand_15 rfl (lv_at hl 2 rfl) ?_
  refine lX_hand S hK hM (tn a1) (by omega) (tn a2) (by omega) (g 4 (5 * (tn a1) + (tn a2))) rfl dX1_hand_16 ?_
  have hb_3 : g 4 (5 * (tn a1) + (tn a2)) < 1048576 := by first | exact hg 4 (5 * (tn a1) + (tn a2)) | exact hg0 _ _ | (have := hg 4 (5 * (tn a1) + (tn a2)); omega) | omega
  exact vx_ret (zc_nret (nI (g 4 (5 * tn a1 + tn a2))) (congrArg nI (show (g 4 (5 * (tn a1) + (tn a2)) : Nat) = (g 4 (5 * tn a1 + tn a2)) from by first | with_reducible rfl | (simp [c_1, c_2, cdHand]; done) | (simp only [c_1, c_2] <;> simp [cdHand]; done) | (simp only [cdHand, c_1, c_2] <;> simp [cdHand]; done) | (simp [c_1, c_2, cdHand, Bool.and_assoc]; done) | (simp [c_1, c_2, cdHand, Bool.and_assoc, Bool.or_assoc]; done) | rfl | (simp [c_1, c_2, cdHand]; omega) | (simp_all [cdHand]; done))) (hPost (by first | rfl | (simp only [c_1, c_2, cdHand, Bool.true_and, Bool.and_true, reduceIte]; done) | (simp [c_1, c_2, cdHand]; done) | grind | (simp_all; done)) H hM hg) hS hx hb hr hlk (Nat.le_of_ble_eq_true rfl) (Nat.le_of_ble_eq_true rfl) dX1_hand_17)
def cdRate (g : G) (a1 : Int32) (a2 : Int32) : Nat := (if (inB a1 3) = true then (if (inB a2 5) = true then 0 else 2) else 1)
set_option maxHeartbeats 1000000 in
set_option maxRecDepth 100000 in
theorem cX_rate (l : Launch) (hfl : l.stackTraces = false) {D : va_G} {dA : Nat → ClassId} {cn : Nat → Nat} {A : Nat → Prop} {pa : NM → Nat} {g : G} {T : va_W} (hg : Sm g) (a1 : Int32) (a2 : Int32) (h6 : ∀ c, c < 24 → g 2 c ≤ 6) (H0 : Heap) (hM : XS D dA cn A pa g T H0) (hA : ∀ q, H0.size ≤ q → A q) {Post : Option Value → Heap → Prop} {XPost : String → Heap → Prop} (hPost : (cdRate g a1 a2) = 0 → ∀ H : Heap, XS D dA cn A pa g T H → Sm g → Post (some (.int (nI (xRate g (tn a1) (tn a2))))) H) (hXP : ∀ n : Nat, (cdRate g a1 a2) = n → n ≠ 0 → ∀ H : Heap, XS D dA cn A pa g T H → XPost (exS n) H) : vCt l yX1_rate (ws_ yX1_rate cX1_rate 3 (some .int)) (rmF 8 2 12 186) A (KX D dA cn A) [.ref (pa (0, 0)), .int a1, .int a2] H0 Post XPost := by
  refine vc_of RX1 rfl (by decide) (Nat.le_of_ble_eq_true rfl) ?_
  intro pr en s m args below meth cd S hr hlk hnm hno hh hKX ls hl
  have hS : va_S A s.heap H0 [] := zc_start hh
  have hA : ∀ q, s.heap.size ≤ q → A q := fun q h => hA q (by rw [← hh]; exact h)
  have hg0 := hg
  have hx := S.1
  have hb := S.2.1
  have hown := S.2.2.2.1
  have hts := S.2.2.2.2
  have hK := hKX.1
  have hN := hKX.2.1.1
  have hl : lv_has ls 3 [(0, .ref (pa (0, 0))), (1, .int a1), (2, .int a2)] := hl
  refine lv_iload_n hx hb dX1_rate_0 rfl (lv_at hl 1 rfl) ?_
  refine lv_iconst (v := nI 3) hx hb dX1_rate_1 zi_3 ?_
  refine kX_check hfl S hKX hM hg hS (fun q h => hA q (Nat.le_trans hS.1 h)) a1 3 (by first | omega | assumption | grind) (Nat.le_of_ble_eq_true rfl) (Nat.le_of_ble_eq_true rfl) hl.1 (Nat.le_of_ble_eq_true rfl) dX1_rate_2 (Nat.le_of_ble_eq_true rfl) (Nat.le_of_ble_eq_true rfl) hno hlk (Nat.le_of_ble_eq_true rfl) (Nat.le_of_ble_eq_true rfl) (fun c_1 H1 hM1 => hXP 1 (by first | (simp only [c_1, cdRate, Bool.true_and, Bool.and_true, Bool.false_and, Bool.and_false, reduceIte, Bool.false_eq_true]; done) | (simp [c_1, cdRate]; done) | grind | (simp_all; done)) (by decide) H1 hM1) (fun c_1 H locs hM hg hS => ?_)
  obtain ⟨hj1, ea1⟩ := inB_tn (by decide) c_1
  rw [ea1] at hl
  refine lv_iload_n hx hb dX1_rate_5 rfl (lv_at hl 2 rfl) ?_
  refine kX_checkGood hfl S hKX hM hg hS (fun q h => hA q (Nat.le_trans hS.1 h)) a2  (Nat.le_of_ble_eq_true rfl) (Nat.le_of_ble_eq_true rfl) hl.1 (Nat.le_of_ble_eq_true rfl) dX1_rate_6 (Nat.le_of_ble_eq_true rfl) (Nat.le_of_ble_eq_true rfl) hno hlk (Nat.le_of_ble_eq_true rfl) (Nat.le_of_ble_eq_true rfl) (fun c_2 H1 hM1 => hXP 2 (by first | (simp only [c_1, c_2, cdRate, Bool.true_and, Bool.and_true, Bool.false_and, Bool.and_false, reduceIte, Bool.false_eq_true]; done) | (simp [c_1, c_2, cdRate]; done) | grind | (simp_all; done)) (by decide) H1 hM1) (fun c_2 H locs hM hg hS => ?_)
  obtain ⟨hj2, ea2⟩ := inB_tn (by decide) c_2
  rw [ea2] at hl
  refine lv_aload_n hx hb dX1_rate_9 rfl (lv_at hl 0 rfl) ?_
  refine lv_iload_n hx hb dX1_rate_10 rfl (lv_at hl 1 rfl) ?_
  refine lv_iload_n hx hb dX1_rate_11 rfl (lv_at hl 2 rfl) ?_
  refine kX_rateOf S hKX hM hg hS (tn a1) (tn a2) (by first | omega | assumption | grind) (by first | omega | assumption | grind) (by first | omega | assumption | grind) (Nat.le_of_ble_eq_true rfl) (Nat.le_of_ble_eq_true rfl) hl.1 (Nat.le_of_ble_eq_true rfl) dX1_rate_12 (Nat.le_of_ble_eq_true rfl) (Nat.le_of_ble_eq_true rfl) (fun locs hS => ?_)
  have f12_0 : xRate g (tn a1) (tn a2) ≤ 4 := xRate_le _ _ _
  exact vx_ret (zc_nret (nI (xRate g (tn a1) (tn a2))) rfl (hPost (by first | rfl | (simp only [c_1, c_2, cdRate, Bool.true_and, Bool.and_true, reduceIte]; done) | (simp [c_1, c_2, cdRate]; done) | grind | (simp_all; done)) H hM hg) hS hx hb hr hlk (Nat.le_of_ble_eq_true rfl) (Nat.le_of_ble_eq_true rfl) dX1_rate_15)
def cdLayHex (g : G) (a1 : Int32) (a2 : Int32) (a3 : Int32) : Nat := (if (inB a1 7) = true then (if (inR a2 0 5 && (inR a3 2 12 && decide (decide (tn a3 = 7) = decide (tn a2 = 5)))) = true then (if (decide (g 7 2 = 0)) = true then 0 else 3) else 2) else 1)
set_option maxHeartbeats 1000000 in
set_option maxRecDepth 100000 in
theorem cX_layHex (l : Launch) (hfl : l.stackTraces = false) {D : va_G} {dA : Nat → ClassId} {cn : Nat → Nat} {A : Nat → Prop} {pa : NM → Nat} {g : G} {T : va_W} (hg : Sm g) (a1 : Int32) (a2 : Int32) (a3 : Int32) (H0 : Heap) (hM : XS D dA cn A pa g T H0) (hA : ∀ q, H0.size ≤ q → A q) {Post : Option Value → Heap → Prop} {XPost : String → Heap → Prop} (hPost : (cdLayHex g a1 a2 a3) = 0 → ∀ H : Heap, XS D dA cn A pa (gs (gs g 0 (tn a1) (tn a2)) 1 (tn a1) (tn a3)) T H → Sm (gs (gs g 0 (tn a1) (tn a2)) 1 (tn a1) (tn a3)) → Post (none) H) (hXP : ∀ n : Nat, (cdLayHex g a1 a2 a3) = n → n ≠ 0 → ∀ H : Heap, XS D dA cn A pa g T H → XPost (exS n) H) : vCt l yX1_layHex (ws_ yX1_layHex cX1_layHex 4 none) (rmF 7 5 30 122) A (KX D dA cn A) [.ref (pa (0, 0)), .int a1, .int a2, .int a3] H0 Post XPost := by
  refine vc_of RX1 rfl (by decide) (Nat.le_of_ble_eq_true rfl) ?_
  intro pr en s m args below meth cd S hr hlk hnm hno hh hKX ls hl
  have hS : va_S A s.heap H0 [] := zc_start hh
  have hA : ∀ q, s.heap.size ≤ q → A q := fun q h => hA q (by rw [← hh]; exact h)
  have hg0 := hg
  have hx := S.1
  have hb := S.2.1
  have hown := S.2.2.2.1
  have hts := S.2.2.2.2
  have hK := hKX.1
  have hN := hKX.2.1.1
  have hl : lv_has ls 4 [(0, .ref (pa (0, 0))), (1, .int a1), (2, .int a2), (3, .int a3)] := hl
  refine lv_iload_n hx hb dX1_layHex_0 rfl (lv_at hl 1 rfl) ?_
  refine lv_bipush (v := nI 7) hx hb dX1_layHex_1 zb_7 ?_
  refine kX_check hfl S hKX hM hg hS (fun q h => hA q (Nat.le_trans hS.1 h)) a1 7 (by first | omega | assumption | grind) (Nat.le_of_ble_eq_true rfl) (Nat.le_of_ble_eq_true rfl) hl.1 (Nat.le_of_ble_eq_true rfl) dX1_layHex_3 (Nat.le_of_ble_eq_true rfl) (Nat.le_of_ble_eq_true rfl) hno hlk (Nat.le_of_ble_eq_true rfl) (Nat.le_of_ble_eq_true rfl) (fun c_1 H1 hM1 => hXP 1 (by first | (simp only [c_1, cdLayHex, Bool.true_and, Bool.and_true, Bool.false_and, Bool.and_false, reduceIte, Bool.false_eq_true]; done) | (simp [c_1, cdLayHex]; done) | grind | (simp_all; done)) (by decide) H1 hM1) (fun c_1 H locs hM hg hS => ?_)
  obtain ⟨hj1, ea1⟩ := inB_tn (by decide) c_1
  rw [ea1] at hl
  refine lv_iload_n hx hb dX1_layHex_6 rfl (lv_at hl 2 rfl) ?_
  refine lv_iconst (v := nI 0) hx hb dX1_layHex_7 zi_0 ?_
  refine lv_iconst (v := nI 5) hx hb dX1_layHex_8 zi_5 ?_
  refine kX_checkRange hfl S hKX hM hg hS (fun q h => hA q (Nat.le_trans hS.1 h)) a2 0 5 (by first | omega | assumption | grind) (by first | omega | assumption | grind) (Nat.le_of_ble_eq_true rfl) (Nat.le_of_ble_eq_true rfl) hl.1 (Nat.le_of_ble_eq_true rfl) dX1_layHex_9 (Nat.le_of_ble_eq_true rfl) (Nat.le_of_ble_eq_true rfl) hno hlk (Nat.le_of_ble_eq_true rfl) (Nat.le_of_ble_eq_true rfl) (fun c_2 H1 hM1 => hXP 2 (by first | (simp only [c_1, c_2, cdLayHex, Bool.true_and, Bool.and_true, Bool.false_and, Bool.and_false, reduceIte, Bool.false_eq_true]; done) | (simp [c_1, c_2, cdLayHex]; done) | grind | (simp_all; done)) (by decide) H1 hM1) (fun c_2 H locs hM hg hS => ?_)
  obtain ⟨lj2, hj2, ea2⟩ := inR_tn (by decide) (by decide) c_2
  rw [ea2] at hl
  refine lv_iload_n hx hb dX1_layHex_12 rfl (lv_at hl 3 rfl) ?_
  refine lv_iconst (v := nI 2) hx hb dX1_layHex_13 zi_2 ?_
  refine lv_bipush (v := nI 12) hx hb dX1_layHex_14 zb_12 ?_
  refine kX_checkRange hfl S hKX hM hg hS (fun q h => hA q (Nat.le_trans hS.1 h)) a3 2 12 (by first | omega | assumption | grind) (by first | omega | assumption | grind) (Nat.le_of_ble_eq_true rfl) (Nat.le_of_ble_eq_true rfl) hl.1 (Nat.le_of_ble_eq_true rfl) dX1_layHex_16 (Nat.le_of_ble_eq_true rfl) (Nat.le_of_ble_eq_true rfl) hno hlk (Nat.le_of_ble_eq_true rfl) (Nat.le_of_ble_eq_true rfl) (fun c_3 H1 hM1 => hXP 2 (by first | (simp only [c_1, c_2, c_3, cdLayHex, Bool.true_and, Bool.and_true, Bool.false_and, Bool.and_false, reduceIte, Bool.false_eq_true]; done) | (simp [c_1, c_2, c_3, cdLayHex]; done) | grind | (simp_all; done)) (by decide) H1 hM1) (fun c_3 H locs hM hg hS => ?_)
  obtain ⟨lj3, hj3, ea3⟩ := inR_tn (by decide) (by decide) c_3
  rw [ea3] at hl
  refine lv_iload_n hx hb dX1_layHex_19 rfl (lv_at hl 3 rfl) ?_
  refine lv_bipush (v := nI 7) hx hb dX1_layHex_20 zb_7 ?_
  have J_30 : ∀ yS0_30 : Int32, yS0_30 = nI (decide ((tn a3) = 7)).toNat → ∀ (H : Heap) (locs : List Loc), XS D dA cn A pa g T H → va_S A s.heap H locs → ∀ ls : Array Slot, lv_has ls 4 [(0, .ref (pa (0, 0))), (1, .int (nI (tn a1))), (2, .int (nI (tn a2))), (3, .int (nI (tn a3)))] → W pr l en (rmF 7 5 30 122) s m args below meth cd H locs (3) (18) (vx_MQ below (zc_Q Post A) (vc_X XPost A) args s 5 30 A) (F0 m 30 ls [.int yS0_30]) := by
    intro yS0_30 eyS0_30 H locs hM hS ls hl
    subst eyS0_30
    refine lv_iload_n hx hb dX1_layHex_30 rfl (lv_at hl 2 rfl) ?_
    refine lv_iconst (v := nI 5) hx hb dX1_layHex_31 zi_5 ?_
    have J_40 : ∀ yS0_40 : Int32, yS0_40 = nI (decide ((tn a2) = 5)).toNat → ∀ (H : Heap) (locs : List Loc), XS D dA cn A pa g T H → va_S A s.heap H locs → ∀ ls : Array Slot, lv_has ls 4 [(0, .ref (pa (0, 0))), (1, .int (nI (tn a1))), (2, .int (nI (tn a2))), (3, .int (nI (tn a3)))] → W pr l en (rmF 7 5 30 122) s m args below meth cd H locs (3) (18) (vx_MQ below (zc_Q Post A) (vc_X XPost A) args s 5 30 A) (F0 m 40 ls [.int yS0_40, .int (nI (decide ((tn a3) = 7)).toNat)]) := by
      intro yS0_40 eyS0_40 H locs hM hS ls hl
      subst eyS0_40
      have J_48 : ∀ yS0_48 : Int32, yS0_48 = nI (!decide ((decide ((tn a3) = 7)) = (decide ((tn a2) = 5)))).toNat → ∀ (H : Heap) (locs : List Loc), XS D dA cn A pa g T H → va_S A s.heap H locs → ∀ ls : Array Slot, lv_has ls 4 [(0, .ref (pa (0, 0))), (1, .int (nI (tn a1))), (2, .int (nI (tn a2))), (3, .int (nI (tn a3)))] → W pr l en (rmF 7 5 30 122) s m args below meth cd H locs (3) (18) (vx_MQ below (zc_Q Post A) (vc_X XPost A) args s 5 30 A) (F0 m 48 ls [.int yS0_48]) := by
        intro yS0_48 eyS0_48 H locs hM hS ls hl
        subst eyS0_48
        refine lv_iconst (v := nI 0) hx hb dX1_layHex_48 zi_0 ?_
        refine lv_iconst (v := nI 0) hx hb dX1_layHex_49 zi_0 ?_
        refine kX_checkRange hfl S hKX hM hg hS (fun q h => hA q (Nat.le_trans hS.1 h)) (nI (!decide ((decide ((tn a3) = 7)) = (decide ((tn a2) = 5)))).toNat) 0 0 (by first | omega | assumption | grind) (by first | omega | assumption | grind) (Nat.le_of_ble_eq_true rfl) (Nat.le_of_ble_eq_true rfl) hl.1 (Nat.le_of_ble_eq_true rfl) dX1_layHex_50 (Nat.le_of_ble_eq_true rfl) (Nat.le_of_ble_eq_true rfl) hno hlk (Nat.le_of_ble_eq_true rfl) (Nat.le_of_ble_eq_true rfl) (fun c_7 H1 hM1 => hXP 2 (by first | (simp only [c_1, c_2, c_3, (show ¬ (decide ((decide ((tn a3) = 7)) = (decide ((tn a2) = 5)))) = true from fun q => c_7 ((inR_bt _).trans q)), cdLayHex, Bool.true_and, Bool.and_true, Bool.false_and, Bool.and_false, reduceIte, Bool.false_eq_true]; done) | (simp [c_1, c_2, c_3, (show ¬ (decide ((decide ((tn a3) = 7)) = (decide ((tn a2) = 5)))) = true from fun q => c_7 ((inR_bt _).trans q)), cdLayHex]; done) | grind | (simp_all; done)) (by decide) H1 hM1) (fun c_7 H locs hM hg hS => ?_)
        have c_8 : (decide ((decide ((tn a3) = 7)) = (decide ((tn a2) = 5)))) = true := (inR_bt _).symm.trans c_7
        refine lv_aload_n hx hb dX1_layHex_53 rfl (lv_at hl 0 rfl) ?_
        refine gX_placed S hK hM (g 7 2) rfl dX1_layHex_54 ?_
        have hb_9 : g 7 2 < 1048576 := by first | exact hg 7 2 | exact hg0 _ _ | (have := hg 7 2; omega) | omega
        have J_65 : ∀ yS0_65 : Int32, yS0_65 = nI (decide ((g 7 2) = 0)).toNat → ∀ (H : Heap) (locs : List Loc), XS D dA cn A pa g T H → va_S A s.heap H locs → ∀ ls : Array Slot, lv_has ls 4 [(0, .ref (pa (0, 0))), (1, .int (nI (tn a1))), (2, .int (nI (tn a2))), (3, .int (nI (tn a3)))] → W pr l en (rmF 7 5 30 122) s m args below meth cd H locs (4) (24) (vx_MQ below (zc_Q Post A) (vc_X XPost A) args s 5 30 A) (F0 m 65 ls [.int yS0_65]) := by
          intro yS0_65 eyS0_65 H locs hM hS ls hl
          subst eyS0_65
          refine kX_checkState hfl S hKX hM hg hS (fun q h => hA q (Nat.le_trans hS.1 h)) (decide ((g 7 2) = 0))  (Nat.le_of_ble_eq_true rfl) (Nat.le_of_ble_eq_true rfl) hl.1 (Nat.le_of_ble_eq_true rfl) dX1_layHex_65 (Nat.le_of_ble_eq_true rfl) (Nat.le_of_ble_eq_true rfl) hno hlk (Nat.le_of_ble_eq_true rfl) (Nat.le_of_ble_eq_true rfl) (fun c_11 H1 hM1 => hXP 3 (by first | (simp only [c_1, c_2, c_3, c_8, c_11, cdLayHex, Bool.true_and, Bool.and_true, Bool.false_and, Bool.and_false, reduceIte, Bool.false_eq_true]; done) | (simp [c_1, c_2, c_3, c_8, c_11, cdLayHex]; done) | grind | (simp_all; done)) (by decide) H1 hM1) (fun c_11 H locs hM hg hS => ?_)
          refine lv_aload_n hx hb dX1_layHex_68 rfl (lv_at hl 0 rfl) ?_
          refine gX_hexes S hK hM dX1_layHex_69 ?_
          refine lv_iload_n hx hb dX1_layHex_72 rfl (lv_at hl 1 rfl) ?_
          refine lX_hexes S hK hM (tn a1) (by omega) dX1_layHex_73 ?_
          refine lv_iload_n hx hb dX1_layHex_74 rfl (lv_at hl 2 rfl) ?_
          refine pN_hex_good S hK hM hN hS (tn a1) (by omega) (tn a2) dX1_layHex_75 (fun H locs hM hS => ?_)
          have hg : Sm (gs g 0 (tn a1) (tn a2)) := Sm_gs hg (by first | omega | exact Nat.lt_of_le_of_lt (Bool.toNat_le _) (by decide) | ((repeat' split) <;> omega))
          refine lv_aload_n hx hb dX1_layHex_78 rfl (lv_at hl 0 rfl) ?_
          refine gX_hexes S hK hM dX1_layHex_79 ?_
          refine lv_iload_n hx hb dX1_layHex_82 rfl (lv_at hl 1 rfl) ?_
          refine lX_hexes S hK hM (tn a1) (by omega) dX1_layHex_83 ?_
          refine lv_iload_n hx hb dX1_layHex_84 rfl (lv_at hl 3 rfl) ?_
          refine pN_hex_number S hK hM hN hS (tn a1) (by omega) (tn a3) dX1_layHex_85 (fun H locs hM hS => ?_)
          have hg : Sm (gs (gs g 0 (tn a1) (tn a2)) 1 (tn a1) (tn a3)) := Sm_gs hg (by first | omega | exact Nat.lt_of_le_of_lt (Bool.toNat_le _) (by decide) | ((repeat' split) <;> omega))
          exact vx_ret (zc_vret (hPost (by first | rfl | (simp only [c_1, c_2, c_3, c_8, c_11, cdLayHex, Bool.true_and, Bool.and_true, reduceIte]; done) | (simp [c_1, c_2, c_3, c_8, c_11, cdLayHex]; done) | grind | (simp_all; done)) H hM hg) hS hx hb hr hlk (Nat.le_of_ble_eq_true rfl) (Nat.le_of_ble_eq_true rfl) dX1_layHex_88)
        refine zr_if_neN (a := (g 7 2)) (tgt := 64) hx hb (by omega) dX1_layHex_57 (by decide) (fun c_12 => ?_) (fun c_12 => ?_)
        · refine lv_iconst (v := nI 0) hx hb dX1_layHex_64 zi_0 ?_
          exact J_65 _ (congrArg (fun z : Bool => nI z.toNat) (show (false : Bool) = (decide ((g 7 2) = 0)) from by first | with_reducible rfl | (simp [c_1, c_2, c_3, c_8, c_12, cdLayHex]; done) | (simp only [c_1, c_2, c_3, c_8, c_12] <;> simp [cdLayHex]; done) | (simp only [cdLayHex, c_1, c_2, c_3, c_8, c_12] <;> simp [cdLayHex]; done) | (simp [c_1, c_2, c_3, c_8, c_12, cdLayHex, Bool.and_assoc]; done) | (simp [c_1, c_2, c_3, c_8, c_12, cdLayHex, Bool.and_assoc, Bool.or_assoc]; done) | rfl | (simp [c_1, c_2, c_3, c_8, c_12, cdLayHex]; omega) | (simp_all [cdLayHex]; done))) H locs hM hS ls (lv_sub hl [0, 1, 2, 3] rfl)
        · refine lv_iconst (v := nI 1) hx hb dX1_layHex_60 zi_1 ?_
          refine lv_goto (tgt := 65) hx hb dX1_layHex_61 (by decide) ?_
          exact J_65 _ (congrArg (fun z : Bool => nI z.toNat) (show (true : Bool) = (decide ((g 7 2) = 0)) from by first | with_reducible rfl | (simp [c_1, c_2, c_3, c_8, c_12, cdLayHex]; done) | (simp only [c_1, c_2, c_3, c_8, c_12] <;> simp [cdLayHex]; done) | (simp only [cdLayHex, c_1, c_2, c_3, c_8, c_12] <;> simp [cdLayHex]; done) | (simp [c_1, c_2, c_3, c_8, c_12, cdLayHex, Bool.and_assoc]; done) | (simp [c_1, c_2, c_3, c_8, c_12, cdLayHex, Bool.and_assoc, Bool.or_assoc]; done) | rfl | (simp [c_1, c_2, c_3, c_8, c_12, cdLayHex]; omega) | (simp_all [cdLayHex]; done))) H locs hM hS ls (lv_sub hl [0, 1, 2, 3] rfl)
      refine zr_icmp_neB (a := decide ((tn a3) = 7)) (b := decide ((tn a2) = 5)) (tgt := 47) hx hb dX1_layHex_40 (by decide) (fun c_13 => ?_) (fun c_13 => ?_)
      · refine lv_iconst (v := nI 1) hx hb dX1_layHex_47 zi_1 ?_
        exact J_48 _ (congrArg (fun z : Bool => nI z.toNat) (show (true : Bool) = (!decide ((decide ((tn a3) = 7)) = (decide ((tn a2) = 5)))) from by first | with_reducible rfl | (simp [c_1, c_2, c_3, c_13, cdLayHex]; done) | (simp only [c_1, c_2, c_3, c_13] <;> simp [cdLayHex]; done) | (simp only [cdLayHex, c_1, c_2, c_3, c_13] <;> simp [cdLayHex]; done) | (simp [c_1, c_2, c_3, c_13, cdLayHex, Bool.and_assoc]; done) | (simp [c_1, c_2, c_3, c_13, cdLayHex, Bool.and_assoc, Bool.or_assoc]; done) | rfl | (simp [c_1, c_2, c_3, c_13, cdLayHex]; omega) | (simp_all [cdLayHex]; done))) H locs hM hS ls (lv_sub hl [0, 1, 2, 3] rfl)
      · refine lv_iconst (v := nI 0) hx hb dX1_layHex_43 zi_0 ?_
        refine lv_goto (tgt := 48) hx hb dX1_layHex_44 (by decide) ?_
        exact J_48 _ (congrArg (fun z : Bool => nI z.toNat) (show (false : Bool) = (!decide ((decide ((tn a3) = 7)) = (decide ((tn a2) = 5)))) from by first | with_reducible rfl | (simp [c_1, c_2, c_3, c_13, cdLayHex]; done) | (simp only [c_1, c_2, c_3, c_13] <;> simp [cdLayHex]; done) | (simp only [cdLayHex, c_1, c_2, c_3, c_13] <;> simp [cdLayHex]; done) | (simp [c_1, c_2, c_3, c_13, cdLayHex, Bool.and_assoc]; done) | (simp [c_1, c_2, c_3, c_13, cdLayHex, Bool.and_assoc, Bool.or_assoc]; done) | rfl | (simp [c_1, c_2, c_3, c_13, cdLayHex]; omega) | (simp_all [cdLayHex]; done))) H locs hM hS ls (lv_sub hl [0, 1, 2, 3] rfl)
    refine zr_icmp_neN (a := (tn a2)) (b := 5) (tgt := 39) hx hb (by omega) (by omega) dX1_layHex_32 (by decide) (fun c_14 => ?_) (fun c_14 => ?_)
    · refine lv_iconst (v := nI 0) hx hb dX1_layHex_39 zi_0 ?_
      exact J_40 _ (congrArg (fun z : Bool => nI z.toNat) (show (false : Bool) = (decide ((tn a2) = 5)) from by first | with_reducible rfl | (simp [c_1, c_2, c_3, c_14, cdLayHex]; done) | (simp only [c_1, c_2, c_3, c_14] <;> simp [cdLayHex]; done) | (simp only [cdLayHex, c_1, c_2, c_3, c_14] <;> simp [cdLayHex]; done) | (simp [c_1, c_2, c_3, c_14, cdLayHex, Bool.and_assoc]; done) | (simp [c_1, c_2, c_3, c_14, cdLayHex, Bool.and_assoc, Bool.or_assoc]; done) | rfl | (simp [c_1, c_2, c_3, c_14, cdLayHex]; omega) | (simp_all [cdLayHex]; done))) H locs hM hS ls (lv_sub hl [0, 1, 2, 3] rfl)
    · refine lv_iconst (v := nI 1) hx hb dX1_layHex_35 zi_1 ?_
      refine lv_goto (tgt := 40) hx hb dX1_layHex_36 (by decide) ?_
      exact J_40 _ (congrArg (fun z : Bool => nI z.toNat) (show (true : Bool) = (decide ((tn a2) = 5)) from by first | with_reducible rfl | (simp [c_1, c_2, c_3, c_14, cdLayHex]; done) | (simp only [c_1, c_2, c_3, c_14] <;> simp [cdLayHex]; done) | (simp only [cdLayHex, c_1, c_2, c_3, c_14] <;> simp [cdLayHex]; done) | (simp [c_1, c_2, c_3, c_14, cdLayHex, Bool.and_assoc]; done) | (simp [c_1, c_2, c_3, c_14, cdLayHex, Bool.and_assoc, Bool.or_assoc]; done) | rfl | (simp [c_1, c_2, c_3, c_14, cdLayHex]; omega) | (simp_all [cdLayHex]; done))) H locs hM hS ls (lv_sub hl [0, 1, 2, 3] rfl)
  refine zr_icmp_neN (a := (tn a3)) (b := 7) (tgt := 29) hx hb (by omega) (by omega) dX1_layHex_22 (by decide) (fun c_15 => ?_) (fun c_15 => ?_)
  · refine lv_iconst (v := nI 0) hx hb dX1_layHex_29 zi_0 ?_
    exact J_30 _ (congrArg (fun z : Bool => nI z.toNat) (show (false : Bool) = (decide ((tn a3) = 7)) from by first | with_reducible rfl | (simp [c_1, c_2, c_3, c_15, cdLayHex]; done) | (simp only [c_1, c_2, c_3, c_15] <;> simp [cdLayHex]; done) | (simp only [cdLayHex, c_1, c_2, c_3, c_15] <;> simp [cdLayHex]; done) | (simp [c_1, c_2, c_3, c_15, cdLayHex, Bool.and_assoc]; done) | (simp [c_1, c_2, c_3, c_15, cdLayHex, Bool.and_assoc, Bool.or_assoc]; done) | rfl | (simp [c_1, c_2, c_3, c_15, cdLayHex]; omega) | (simp_all [cdLayHex]; done))) H locs hM hS ls (lv_sub hl [0, 1, 2, 3] rfl)
  · refine lv_iconst (v := nI 1) hx hb dX1_layHex_25 zi_1 ?_
    refine lv_goto (tgt := 30) hx hb dX1_layHex_26 (by decide) ?_
    exact J_30 _ (congrArg (fun z : Bool => nI z.toNat) (show (true : Bool) = (decide ((tn a3) = 7)) from by first | with_reducible rfl | (simp [c_1, c_2, c_3, c_15, cdLayHex]; done) | (simp only [c_1, c_2, c_3, c_15] <;> simp [cdLayHex]; done) | (simp only [cdLayHex, c_1, c_2, c_3, c_15] <;> simp [cdLayHex]; done) | (simp [c_1, c_2, c_3, c_15, cdLayHex, Bool.and_assoc]; done) | (simp [c_1, c_2, c_3, c_15, cdLayHex, Bool.and_assoc, Bool.or_assoc]; done) | rfl | (simp [c_1, c_2, c_3, c_15, cdLayHex]; omega) | (simp_all [cdLayHex]; done))) H locs hM hS ls (lv_sub hl [0, 1, 2, 3] rfl)
def cdRob (g : G) (a1 : Int32) (a2 : Int32) (a3 : Int32) : Nat := (if (inB a1 7 && okN a2 3) = true then (if (inR a3 0 999) = true then (if (decide (g 7 1 = 4) && mMayRob g (tn a1) (tv a2)) = true then 0 else 3) else 2) else 1)
set_option maxHeartbeats 1000000 in
set_option maxRecDepth 100000 in
theorem cX_rob (l : Launch) (hfl : l.stackTraces = false) {D : va_G} {dA : Nat → ClassId} {cn : Nat → Nat} {A : Nat → Prop} {pa : NM → Nat} {g : G} {T : va_W} (hg : Sm g) (a1 : Int32) (a2 : Int32) (a3 : Int32) (ht : g 7 4 < 3) (hb4 : ∀ j, j < 20 → g 4 j ≤ 1000) (hv : g 8 1 ≤ 1900) (h6 : ∀ c, c < 24 → g 2 c ≤ 6) (H0 : Heap) (hM : XS D dA cn A pa g T H0) (hA : ∀ q, H0.size ≤ q → A q) {Post : Option Value → Heap → Prop} {XPost : String → Heap → Prop} (hPost : (cdRob g a1 a2 a3) = 0 → ∀ H : Heap, XS D dA cn A pa (gRobX (gs g 7 1 2) (tn a1) (tv a2) (tn a3)) T H → Sm (gRobX (gs g 7 1 2) (tn a1) (tv a2) (tn a3)) → Post (some (.int (mI (if tv a2 = 0 then 0 else robK g (tv a2 - 1) (rX g (tv a2) (tn a3)) + 1)))) H) (hXP : ∀ n : Nat, (cdRob g a1 a2 a3) = n → n ≠ 0 → ∀ H : Heap, XS D dA cn A pa g T H → XPost (exS n) H) : vCt l yX1_rob (ws_ yX1_rob cX1_rob 4 (some .int)) (rmF 11 6 4028 549) A (KX D dA cn A) [.ref (pa (0, 0)), .int a1, .int a2, .int a3] H0 Post XPost := by
  refine vc_of RX1 rfl (by decide) (Nat.le_of_ble_eq_true rfl) ?_
  intro pr en s m args below meth cd S hr hlk hnm hno hh hKX ls hl
  have hS : va_S A s.heap H0 [] := zc_start hh
  have hA : ∀ q, s.heap.size ≤ q → A q := fun q h => hA q (by rw [← hh]; exact h)
  have hg0 := hg
  have hx := S.1
  have hb := S.2.1
  have hown := S.2.2.2.1
  have hts := S.2.2.2.2
  have hK := hKX.1
  have hN := hKX.2.1.1
  have hl : lv_has ls 4 [(0, .ref (pa (0, 0))), (1, .int a1), (2, .int a2), (3, .int a3)] := hl
  refine lv_iload_n hx hb dX1_rob_0 rfl (lv_at hl 1 rfl) ?_
  refine lv_bipush (v := nI 7) hx hb dX1_rob_1 zb_7 ?_
  refine kX_check hfl S hKX hM hg hS (fun q h => hA q (Nat.le_trans hS.1 h)) a1 7 (by first | omega | assumption | grind) (Nat.le_of_ble_eq_true rfl) (Nat.le_of_ble_eq_true rfl) hl.1 (Nat.le_of_ble_eq_true rfl) dX1_rob_3 (Nat.le_of_ble_eq_true rfl) (Nat.le_of_ble_eq_true rfl) hno hlk (Nat.le_of_ble_eq_true rfl) (Nat.le_of_ble_eq_true rfl) (fun c_1 H1 hM1 => hXP 1 (by first | (simp only [c_1, cdRob, Bool.true_and, Bool.and_true, Bool.false_and, Bool.and_false, reduceIte, Bool.false_eq_true]; done) | (simp [c_1, cdRob]; done) | grind | (simp_all; done)) (by decide) H1 hM1) (fun c_1 H locs hM hg hS => ?_)
  obtain ⟨hj1, ea1⟩ := inB_tn (by decide) c_1
  rw [ea1] at hl
  refine lv_iload_n hx hb dX1_rob_6 rfl (lv_at hl 2 rfl) ?_
  refine lv_iconst (v := nI 3) hx hb dX1_rob_7 zi_3 ?_
  refine kX_checkOrNone hfl S hKX hM hg hS (fun q h => hA q (Nat.le_trans hS.1 h)) a2 3 (by first | omega | assumption | grind) (Nat.le_of_ble_eq_true rfl) (Nat.le_of_ble_eq_true rfl) hl.1 (Nat.le_of_ble_eq_true rfl) dX1_rob_8 (Nat.le_of_ble_eq_true rfl) (Nat.le_of_ble_eq_true rfl) hno hlk (Nat.le_of_ble_eq_true rfl) (Nat.le_of_ble_eq_true rfl) (fun c_2 H1 hM1 => hXP 1 (by first | (simp only [c_1, c_2, cdRob, Bool.true_and, Bool.and_true, Bool.false_and, Bool.and_false, reduceIte, Bool.false_eq_true]; done) | (simp [c_1, c_2, cdRob]; done) | grind | (simp_all; done)) (by decide) H1 hM1) (fun c_2 H locs hM hg hS => ?_)
  obtain ⟨hj2, ea2⟩ := okN_tv (by decide) c_2
  rw [ea2] at hl
  refine lv_iload_n hx hb dX1_rob_11 rfl (lv_at hl 3 rfl) ?_
  refine lv_iconst (v := nI 0) hx hb dX1_rob_12 zi_0 ?_
  refine lv_sipush (v := nI 999) hx hb dX1_rob_13 zs_999 ?_
  refine kX_checkRange hfl S hKX hM hg hS (fun q h => hA q (Nat.le_trans hS.1 h)) a3 0 999 (by first | omega | assumption | grind) (by first | omega | assumption | grind) (Nat.le_of_ble_eq_true rfl) (Nat.le_of_ble_eq_true rfl) hl.1 (Nat.le_of_ble_eq_true rfl) dX1_rob_16 (Nat.le_of_ble_eq_true rfl) (Nat.le_of_ble_eq_true rfl) hno hlk (Nat.le_of_ble_eq_true rfl) (Nat.le_of_ble_eq_true rfl) (fun c_3 H1 hM1 => hXP 2 (by first | (simp only [c_1, c_2, c_3, cdRob, Bool.true_and, Bool.and_true, Bool.false_and, Bool.and_false, reduceIte, Bool.false_eq_true]; done) | (simp [c_1, c_2, c_3, cdRob]; done) | grind | (simp_all; done)) (by decide) H1 hM1) (fun c_3 H locs hM hg hS => ?_)
  obtain ⟨lj3, hj3, ea3⟩ := inR_tn (by decide) (by decide) c_3
  rw [ea3] at hl
  refine lv_aload_n hx hb dX1_rob_19 rfl (lv_at hl 0 rfl) ?_
  refine gX_phase S hK hM (g 7 1) rfl dX1_rob_20 ?_
  have hb_4 : g 7 1 < 1048576 := by first | exact hg 7 1 | exact hg0 _ _ | (have := hg 7 1; omega) | omega
  refine lv_iconst (v := nI 4) hx hb dX1_rob_23 zi_4 ?_
  have J_41 : ∀ yS0_41 : Int32, yS0_41 = nI (decide ((g 7 1) = 4) && ((mMayRob g (tn a1) (tv a2)))).toNat → ∀ (H : Heap) (locs : List Loc), XS D dA cn A pa g T H → va_S A s.heap H locs → ∀ ls : Array Slot, lv_has ls 4 [(0, .ref (pa (0, 0))), (1, .int (nI (tn a1))), (2, .int (mI (tv a2))), (3, .int (nI (tn a3)))] → W pr l en (rmF 11 6 4028 549) s m args below meth cd H locs (3) (18) (vx_MQ below (zc_Q Post A) (vc_X XPost A) args s 6 4028 A) (F0 m 41 ls [.int yS0_41]) := by
    intro yS0_41 eyS0_41 H locs hM hS ls hl
    subst eyS0_41
    refine kX_checkState hfl S hKX hM hg hS (fun q h => hA q (Nat.le_trans hS.1 h)) (decide ((g 7 1) = 4) && ((mMayRob g (tn a1) (tv a2))))  (Nat.le_of_ble_eq_true rfl) (Nat.le_of_ble_eq_true rfl) hl.1 (Nat.le_of_ble_eq_true rfl) dX1_rob_41 (Nat.le_of_ble_eq_true rfl) (Nat.le_of_ble_eq_true rfl) hno hlk (Nat.le_of_ble_eq_true rfl) (Nat.le_of_ble_eq_true rfl) (fun c_7 H1 hM1 => hXP 3 (by first | (simp only [c_1, c_2, c_3, c_7, cdRob, Bool.true_and, Bool.and_true, Bool.false_and, Bool.and_false, reduceIte, Bool.false_eq_true]; done) | (simp [c_1, c_2, c_3, c_7, cdRob]; done) | grind | (simp_all; done)) (by decide) H1 hM1) (fun c_7 H locs hM hg hS => ?_)
    have hMR : mMayRob g (tn a1) (tv a2) = true := by have q := c_7; simp only [Bool.and_eq_true, decide_eq_true_eq, Bool.not_eq_true', decide_eq_false_iff_not] at q; exact q.2
    refine lv_aload_n hx hb dX1_rob_44 rfl (lv_at hl 0 rfl) ?_
    refine lv_iconst (v := nI 2) hx hb dX1_rob_45 zi_2 ?_
    refine pX_phase S hK hM hS 2 dX1_rob_46 (fun H locs hM hS => ?_)
    have hg : Sm (gs g 7 1 2) := Sm_gs hg (by first | omega | exact Nat.lt_of_le_of_lt (Bool.toNat_le _) (by decide) | ((repeat' split) <;> omega))
    refine lv_aload_n hx hb dX1_rob_49 rfl (lv_at hl 0 rfl) ?_
    refine lv_iload_n hx hb dX1_rob_50 rfl (lv_at hl 1 rfl) ?_
    refine lv_iload_n hx hb dX1_rob_51 rfl (lv_at hl 2 rfl) ?_
    refine lv_iload_n hx hb dX1_rob_52 rfl (lv_at hl 3 rfl) ?_
    refine kX_doRob S hKX hM hg hS (fun q h => hA q (Nat.le_trans hS.1 h)) (tn a1) (tv a2) (tn a3) (by first | omega | assumption | grind) (by first | omega | assumption | grind) (by first | omega | assumption | grind) (by first | omega | assumption | grind) (by first | omega | assumption | grind) (by first | omega | assumption | grind) (by exact mMayRob_pos hMR) (Nat.le_of_ble_eq_true rfl) (Nat.le_of_ble_eq_true rfl) hl.1 (Nat.le_of_ble_eq_true rfl) dX1_rob_53 (Nat.le_of_ble_eq_true rfl) (Nat.le_of_ble_eq_true rfl) (fun H locs hM hg hS => ?_)
    exact vx_ret (zc_nret (mI (if tv a2 = 0 then 0 else robK g (tv a2 - 1) (rX g (tv a2) (tn a3)) + 1)) (congrArg mI (show (if (tv a2) = 0 then 0 else robK (gs g 7 1 2) ((tv a2) - 1) (rX (gs g 7 1 2) (tv a2) (tn a3)) + 1 : Nat) = (if tv a2 = 0 then 0 else robK g (tv a2 - 1) (rX g (tv a2) (tn a3)) + 1) from by first | with_reducible rfl | (simp [c_1, c_2, c_3, c_7, cdRob]; done) | (simp only [c_1, c_2, c_3, c_7] <;> simp [cdRob]; done) | (simp only [cdRob, c_1, c_2, c_3, c_7] <;> simp [cdRob]; done) | (simp [c_1, c_2, c_3, c_7, cdRob, Bool.and_assoc]; done) | (simp [c_1, c_2, c_3, c_7, cdRob, Bool.and_assoc, Bool.or_assoc]; done) | rfl | (simp [c_1, c_2, c_3, c_7, cdRob]; omega) | (simp_all [cdRob]; done))) (hPost (by first | rfl | (simp only [c_1, c_2, c_3, c_7, cdRob, Bool.true_and, Bool.and_true, reduceIte]; done) | (simp [c_1, c_2, c_3, c_7, cdRob]; done) | grind | (simp_all; done)) H hM hg) hS hx hb hr hlk (Nat.le_of_ble_eq_true rfl) (Nat.le_of_ble_eq_true rfl) dX1_rob_56)
  refine zr_icmp_neN (a := (g 7 1)) (b := 4) (tgt := 40) hx hb (by omega) (by omega) dX1_rob_24 (by decide) (fun c_8 => ?_) (fun c_8 => ?_)
  · refine lv_iconst (v := nI 0) hx hb dX1_rob_40 zi_0 ?_
    exact J_41 _ (congrArg (fun z : Bool => nI z.toNat) (show (false : Bool) = (decide ((g 7 1) = 4) && ((mMayRob g (tn a1) (tv a2)))) from by first | with_reducible rfl | (simp [c_1, c_2, c_3, c_8, cdRob]; done) | (simp only [c_1, c_2, c_3, c_8] <;> simp [cdRob]; done) | (simp only [cdRob, c_1, c_2, c_3, c_8] <;> simp [cdRob]; done) | (simp [c_1, c_2, c_3, c_8, cdRob, Bool.and_assoc]; done) | (simp [c_1, c_2, c_3, c_8, cdRob, Bool.and_assoc, Bool.or_assoc]; done) | rfl | (simp [c_1, c_2, c_3, c_8, cdRob]; omega) | (simp_all [cdRob]; done))) H locs hM hS ls (lv_sub hl [0, 1, 2, 3] rfl)
  · refine lv_aload_n hx hb dX1_rob_27 rfl (lv_at hl 0 rfl) ?_
    refine lv_iload_n hx hb dX1_rob_28 rfl (lv_at hl 1 rfl) ?_
    refine lv_iload_n hx hb dX1_rob_29 rfl (lv_at hl 2 rfl) ?_
    refine kX_canRob S hKX hM hg hS (tn a1) (tv a2) (by first | omega | assumption | grind) (by first | omega | assumption | grind) (by first | omega | assumption | grind) (by first | omega | assumption | grind) (Nat.le_of_ble_eq_true rfl) (Nat.le_of_ble_eq_true rfl) hl.1 (Nat.le_of_ble_eq_true rfl) dX1_rob_30 (Nat.le_of_ble_eq_true rfl) (Nat.le_of_ble_eq_true rfl) (fun locs hS => ?_)
    refine zr_if_eqB (b := mMayRob g (tn a1) (tv a2)) (tgt := 40) hx hb dX1_rob_33 (by decide) (fun c_9 => ?_) (fun c_9 => ?_)
    · refine lv_iconst (v := nI 0) hx hb dX1_rob_40 zi_0 ?_
      exact J_41 _ (congrArg (fun z : Bool => nI z.toNat) (show (false : Bool) = (decide ((g 7 1) = 4) && ((mMayRob g (tn a1) (tv a2)))) from by first | with_reducible rfl | (simp [c_1, c_2, c_3, c_8, c_9, cdRob]; done) | (simp only [c_1, c_2, c_3, c_8, c_9] <;> simp [cdRob]; done) | (simp only [cdRob, c_1, c_2, c_3, c_8, c_9] <;> simp [cdRob]; done) | (simp [c_1, c_2, c_3, c_8, c_9, cdRob, Bool.and_assoc]; done) | (simp [c_1, c_2, c_3, c_8, c_9, cdRob, Bool.and_assoc, Bool.or_assoc]; done) | rfl | (simp [c_1, c_2, c_3, c_8, c_9, cdRob]; omega) | (simp_all [cdRob]; done))) H locs hM hS ls (lv_sub hl [0, 1, 2, 3] rfl)
    · refine lv_iconst (v := nI 1) hx hb dX1_rob_36 zi_1 ?_
      refine lv_goto (tgt := 41) hx hb dX1_rob_37 (by decide) ?_
      exact J_41 _ (congrArg (fun z : Bool => nI z.toNat) (show (true : Bool) = (decide ((g 7 1) = 4) && ((mMayRob g (tn a1) (tv a2)))) from by first | with_reducible rfl | (simp [c_1, c_2, c_3, c_8, c_9, cdRob]; done) | (simp only [c_1, c_2, c_3, c_8, c_9] <;> simp [cdRob]; done) | (simp only [cdRob, c_1, c_2, c_3, c_8, c_9] <;> simp [cdRob]; done) | (simp [c_1, c_2, c_3, c_8, c_9, cdRob, Bool.and_assoc]; done) | (simp [c_1, c_2, c_3, c_8, c_9, cdRob, Bool.and_assoc, Bool.or_assoc]; done) | rfl | (simp [c_1, c_2, c_3, c_8, c_9, cdRob]; omega) | (simp_all [cdRob]; done))) H locs hM hS ls (lv_sub hl [0, 1, 2, 3] rfl)
def cdSwap (g : G) (a1 : Int32) (a2 : Int32) : Nat := (if (inB a1 5 && (inB a2 5 && !decide (tn a1 = tn a2))) = true then (if (decide (g 7 1 = 2) && (!decide (g 4 (5 * g 7 4 + tn a1) < xRate g (g 7 4) (tn a1)) && decide (0 < g 4 (5 * 3 + tn a2)))) = true then 0 else 3) else 2)
set_option maxHeartbeats 1000000 in
set_option maxRecDepth 100000 in
theorem cX_swap (l : Launch) (hfl : l.stackTraces = false) {D : va_G} {dA : Nat → ClassId} {cn : Nat → Nat} {A : Nat → Prop} {pa : NM → Nat} {g : G} {T : va_W} (hg : Sm g) (a1 : Int32) (a2 : Int32) (ht : g 7 4 < 3) (hb4 : ∀ j, j < 20 → g 4 j ≤ 1000) (hv : g 8 1 ≤ 1900) (h6 : ∀ c, c < 24 → g 2 c ≤ 6) (H0 : Heap) (hM : XS D dA cn A pa g T H0) (hA : ∀ q, H0.size ≤ q → A q) {Post : Option Value → Heap → Prop} {XPost : String → Heap → Prop} (hPost : (cdSwap g a1 a2) = 0 → ∀ H : Heap, XS D dA cn A pa (mvX (mvX g (g 7 4) 3 (tn a1) (xRate g (g 7 4) (tn a1))) 3 (g 7 4) (tn a2) 1) T H → Sm (mvX (mvX g (g 7 4) 3 (tn a1) (xRate g (g 7 4) (tn a1))) 3 (g 7 4) (tn a2) 1) → Post (some (.int (nI ((mvX (mvX g (g 7 4) 3 (tn a1) (xRate g (g 7 4) (tn a1))) 3 (g 7 4) (tn a2) 1) 4 (5 * g 7 4 + tn a2))))) H) (hXP : ∀ n : Nat, (cdSwap g a1 a2) = n → n ≠ 0 → ∀ H : Heap, XS D dA cn A pa g T H → XPost (exS n) H) : vCt l yX1_swap (ws_ yX1_swap cX1_swap 3 (some .int)) (rmF 10 8 8032 524) A (KX D dA cn A) [.ref (pa (0, 0)), .int a1, .int a2] H0 Post XPost := by
  refine vc_of RX1 rfl (by decide) (Nat.le_of_ble_eq_true rfl) ?_
  intro pr en s m args below meth cd S hr hlk hnm hno hh hKX ls hl
  have hS : va_S A s.heap H0 [] := zc_start hh
  have hA : ∀ q, s.heap.size ≤ q → A q := fun q h => hA q (by rw [← hh]; exact h)
  have hg0 := hg
  have hx := S.1
  have hb := S.2.1
  have hown := S.2.2.2.1
  have hts := S.2.2.2.2
  have hK := hKX.1
  have hN := hKX.2.1.1
  have hl : lv_has ls 3 [(0, .ref (pa (0, 0))), (1, .int a1), (2, .int a2)] := hl
  refine lv_iload_n hx hb dX1_swap_0 rfl (lv_at hl 1 rfl) ?_
  refine kX_checkGood hfl S hKX hM hg hS (fun q h => hA q (Nat.le_trans hS.1 h)) a1  (Nat.le_of_ble_eq_true rfl) (Nat.le_of_ble_eq_true rfl) hl.1 (Nat.le_of_ble_eq_true rfl) dX1_swap_1 (Nat.le_of_ble_eq_true rfl) (Nat.le_of_ble_eq_true rfl) hno hlk (Nat.le_of_ble_eq_true rfl) (Nat.le_of_ble_eq_true rfl) (fun c_1 H1 hM1 => hXP 2 (by first | (simp only [c_1, cdSwap, Bool.true_and, Bool.and_true, Bool.false_and, Bool.and_false, reduceIte, Bool.false_eq_true]; done) | (simp [c_1, cdSwap]; done) | grind | (simp_all; done)) (by decide) H1 hM1) (fun c_1 H locs hM hg hS => ?_)
  obtain ⟨hj1, ea1⟩ := inB_tn (by decide) c_1
  rw [ea1] at hl
  refine lv_iload_n hx hb dX1_swap_4 rfl (lv_at hl 2 rfl) ?_
  refine kX_checkGood hfl S hKX hM hg hS (fun q h => hA q (Nat.le_trans hS.1 h)) a2  (Nat.le_of_ble_eq_true rfl) (Nat.le_of_ble_eq_true rfl) hl.1 (Nat.le_of_ble_eq_true rfl) dX1_swap_5 (Nat.le_of_ble_eq_true rfl) (Nat.le_of_ble_eq_true rfl) hno hlk (Nat.le_of_ble_eq_true rfl) (Nat.le_of_ble_eq_true rfl) (fun c_2 H1 hM1 => hXP 2 (by first | (simp only [c_1, c_2, cdSwap, Bool.true_and, Bool.and_true, Bool.false_and, Bool.and_false, reduceIte, Bool.false_eq_true]; done) | (simp [c_1, c_2, cdSwap]; done) | grind | (simp_all; done)) (by decide) H1 hM1) (fun c_2 H locs hM hg hS => ?_)
  obtain ⟨hj2, ea2⟩ := inB_tn (by decide) c_2
  rw [ea2] at hl
  refine lv_iload_n hx hb dX1_swap_8 rfl (lv_at hl 1 rfl) ?_
  refine lv_iload_n hx hb dX1_swap_9 rfl (lv_at hl 2 rfl) ?_
  have J_18 : ∀ yS0_18 : Int32, yS0_18 = nI (decide ((tn a1) = (tn a2))).toNat → ∀ (H : Heap) (locs : List Loc), XS D dA cn A pa g T H → va_S A s.heap H locs → ∀ ls : Array Slot, lv_has ls 3 [(0, .ref (pa (0, 0))), (1, .int (nI (tn a1))), (2, .int (nI (tn a2)))] → W pr l en (rmF 10 8 8032 524) s m args below meth cd H locs (2) (12) (vx_MQ below (zc_Q Post A) (vc_X XPost A) args s 8 8032 A) (F0 m 18 ls [.int yS0_18]) := by
    intro yS0_18 eyS0_18 H locs hM hS ls hl
    subst eyS0_18
    refine lv_iconst (v := nI 0) hx hb dX1_swap_18 zi_0 ?_
    refine lv_iconst (v := nI 0) hx hb dX1_swap_19 zi_0 ?_
    refine kX_checkRange hfl S hKX hM hg hS (fun q h => hA q (Nat.le_trans hS.1 h)) (nI (decide ((tn a1) = (tn a2))).toNat) 0 0 (by first | omega | assumption | grind) (by first | omega | assumption | grind) (Nat.le_of_ble_eq_true rfl) (Nat.le_of_ble_eq_true rfl) hl.1 (Nat.le_of_ble_eq_true rfl) dX1_swap_20 (Nat.le_of_ble_eq_true rfl) (Nat.le_of_ble_eq_true rfl) hno hlk (Nat.le_of_ble_eq_true rfl) (Nat.le_of_ble_eq_true rfl) (fun c_4 H1 hM1 => hXP 2 (by first | (simp only [c_1, c_2, (show ¬ (!(decide ((tn a1) = (tn a2)))) = true from fun q => c_4 ((inR_bf _).trans q)), cdSwap, Bool.true_and, Bool.and_true, Bool.false_and, Bool.and_false, reduceIte, Bool.false_eq_true]; done) | (simp [c_1, c_2, (show ¬ (!(decide ((tn a1) = (tn a2)))) = true from fun q => c_4 ((inR_bf _).trans q)), cdSwap]; done) | grind | (simp_all; done)) (by decide) H1 hM1) (fun c_4 H locs hM hg hS => ?_)
    have c_5 : (!(decide ((tn a1) = (tn a2)))) = true := (inR_bf _).symm.trans c_4
    refine lv_aload_n hx hb dX1_swap_23 rfl (lv_at hl 0 rfl) ?_
    refine gX_phase S hK hM (g 7 1) rfl dX1_swap_24 ?_
    have hb_6 : g 7 1 < 1048576 := by first | exact hg 7 1 | exact hg0 _ _ | (have := hg 7 1; omega) | omega
    refine lv_iconst (v := nI 2) hx hb dX1_swap_27 zi_2 ?_
    have J_70 : ∀ yS0_70 : Int32, yS0_70 = nI (decide ((g 7 1) = 2) && (!decide ((g 4 (5 * (g 7 4) + (tn a1))) < (xRate g (g 7 4) (tn a1))) && (decide (0 < (g 4 (5 * 3 + (tn a2))))))).toNat → ∀ (H : Heap) (locs : List Loc), XS D dA cn A pa g T H → va_S A s.heap H locs → ∀ ls : Array Slot, lv_has ls 3 [(0, .ref (pa (0, 0))), (1, .int (nI (tn a1))), (2, .int (nI (tn a2)))] → W pr l en (rmF 10 8 8032 524) s m args below meth cd H locs (3) (18) (vx_MQ below (zc_Q Post A) (vc_X XPost A) args s 8 8032 A) (F0 m 70 ls [.int yS0_70]) := by
      intro yS0_70 eyS0_70 H locs hM hS ls hl
      subst eyS0_70
      refine kX_checkState hfl S hKX hM hg hS (fun q h => hA q (Nat.le_trans hS.1 h)) (decide ((g 7 1) = 2) && (!decide ((g 4 (5 * (g 7 4) + (tn a1))) < (xRate g (g 7 4) (tn a1))) && (decide (0 < (g 4 (5 * 3 + (tn a2)))))))  (Nat.le_of_ble_eq_true rfl) (Nat.le_of_ble_eq_true rfl) hl.1 (Nat.le_of_ble_eq_true rfl) dX1_swap_70 (Nat.le_of_ble_eq_true rfl) (Nat.le_of_ble_eq_true rfl) hno hlk (Nat.le_of_ble_eq_true rfl) (Nat.le_of_ble_eq_true rfl) (fun c_14 H1 hM1 => hXP 3 (by first | (simp only [c_1, c_2, c_5, c_14, cdSwap, Bool.true_and, Bool.and_true, Bool.false_and, Bool.and_false, reduceIte, Bool.false_eq_true]; done) | (simp [c_1, c_2, c_5, c_14, cdSwap]; done) | grind | (simp_all; done)) (by decide) H1 hM1) (fun c_14 H locs hM hg hS => ?_)
      have hSW : ¬ g 4 (5 * g 7 4 + tn a1) < xRate g (g 7 4) (tn a1) ∧ 0 < g 4 (5 * 3 + tn a2) := by have q := c_14; simp only [Bool.and_eq_true, decide_eq_true_eq, Bool.not_eq_true', decide_eq_false_iff_not] at q; exact q.2
      have hne9 : ¬ tn a1 = tn a2 := by simpa using (by assumption : (!decide (tn a1 = tn a2)) = true)
      have hb15 := hb4 (15 + tn a1) (by omega)
      have hbtw := hb4 (5 * g 7 4 + tn a2) (by omega)
      refine lv_aload_n hx hb dX1_swap_73 rfl (lv_at hl 0 rfl) ?_
      refine lv_aload_n hx hb dX1_swap_74 rfl (lv_at hl 0 rfl) ?_
      refine gX_turn S hK hM (g 7 4) rfl dX1_swap_75 ?_
      have hb_15 : g 7 4 < 1048576 := by first | exact hg 7 4 | exact hg0 _ _ | (have := hg 7 4; omega) | omega
      refine lv_iconst (v := nI 3) hx hb dX1_swap_78 zi_3 ?_
      refine lv_iload_n hx hb dX1_swap_79 rfl (lv_at hl 1 rfl) ?_
      refine lv_aload_n hx hb dX1_swap_80 rfl (lv_at hl 0 rfl) ?_
      refine lv_aload_n hx hb dX1_swap_81 rfl (lv_at hl 0 rfl) ?_
      refine gX_turn S hK hM (g 7 4) rfl dX1_swap_82 ?_
      have hb_16 : g 7 4 < 1048576 := by first | exact hg 7 4 | exact hg0 _ _ | (have := hg 7 4; omega) | omega
      refine lv_iload_n hx hb dX1_swap_85 rfl (lv_at hl 1 rfl) ?_
      refine kX_rateOf S hKX hM hg hS (g 7 4) (tn a1) (by first | omega | assumption | grind) (by first | omega | assumption | grind) (by first | omega | assumption | grind) (Nat.le_of_ble_eq_true rfl) (Nat.le_of_ble_eq_true rfl) hl.1 (Nat.le_of_ble_eq_true rfl) dX1_swap_86 (Nat.le_of_ble_eq_true rfl) (Nat.le_of_ble_eq_true rfl) (fun locs hS => ?_)
      have f86_0 : xRate g (g 7 4) (tn a1) ≤ 4 := xRate_le _ _ _
      refine kX_move S hKX hM hg hS (fun q h => hA q (Nat.le_trans hS.1 h)) (g 7 4) 3 (tn a1) (xRate g (g 7 4) (tn a1)) (by first | omega | assumption | grind) (by first | omega | assumption | grind) (by first | omega | assumption | grind) (by first | omega | assumption | grind) (by first | omega | assumption | grind) (by first | omega | assumption | grind) (by first | omega | assumption | grind) (Nat.le_of_ble_eq_true rfl) (Nat.le_of_ble_eq_true rfl) hl.1 (Nat.le_of_ble_eq_true rfl) dX1_swap_89 (Nat.le_of_ble_eq_true rfl) (Nat.le_of_ble_eq_true rfl) (fun H locs hM hg hS => ?_)
      have hm4 : (mvX g (g 7 4) 3 (tn a1) (xRate g (g 7 4) (tn a1))) 4 (15 + tn a2) = g 4 (15 + tn a2) := (mvX_4 _ _ _ _ _ _).trans (moveN_other _ (by omega) (by omega))
      have hm5 : (mvX g (g 7 4) 3 (tn a1) (xRate g (g 7 4) (tn a1))) 4 (5 * g 7 4 + tn a2) = g 4 (5 * g 7 4 + tn a2) := (mvX_4 _ _ _ _ _ _).trans (moveN_other _ (by omega) (by omega))
      have hv9 := mvX_81 g (g 7 4) 3 (tn a1) (xRate g (g 7 4) (tn a1))
      refine lv_aload_n hx hb dX1_swap_92 rfl (lv_at hl 0 rfl) ?_
      refine lv_iconst (v := nI 3) hx hb dX1_swap_93 zi_3 ?_
      refine lv_aload_n hx hb dX1_swap_94 rfl (lv_at hl 0 rfl) ?_
      refine gX_turn S hK hM (g 7 4) (by first | rfl | (simp [giveX_nf, mvX_nf, gs]; done)) dX1_swap_95 ?_
      have hb_17 : g 7 4 < 1048576 := by first | exact hg 7 4 | exact hg0 _ _ | (have := hg 7 4; omega) | omega
      refine lv_iload_n hx hb dX1_swap_98 rfl (lv_at hl 2 rfl) ?_
      refine lv_iconst (v := nI 1) hx hb dX1_swap_99 zi_1 ?_
      refine kX_move S hKX hM hg hS (fun q h => hA q (Nat.le_trans hS.1 h)) 3 (g 7 4) (tn a2) 1 (by first | omega | assumption | grind) (by first | omega | assumption | grind) (by first | omega | assumption | grind) (by first | omega | assumption | grind) (by first | omega | assumption | grind) (by first | omega | assumption | grind) (by first | omega | assumption | grind) (Nat.le_of_ble_eq_true rfl) (Nat.le_of_ble_eq_true rfl) hl.1 (Nat.le_of_ble_eq_true rfl) dX1_swap_100 (Nat.le_of_ble_eq_true rfl) (Nat.le_of_ble_eq_true rfl) (fun H locs hM hg hS => ?_)
      refine lv_aload_n hx hb dX1_swap_103 rfl (lv_at hl 0 rfl) ?_
      refine gX_hands S hK hM dX1_swap_104 ?_
      refine lv_aload_n hx hb dX1_swap_107 rfl (lv_at hl 0 rfl) ?_
      refine gX_turn S hK hM (g 7 4) (by first | rfl | (simp [giveX_nf, mvX_nf, gs]; done)) dX1_swap_108 ?_
      have hb_18 : g 7 4 < 1048576 := by first | exact hg 7 4 | exact hg0 _ _ | (have := hg 7 4; omega) | omega
      refine lX_hands S hK hM (g 7 4) (by omega) dX1_swap_111 ?_
      refine lv_iload_n hx hb dX1_swap_112 rfl (lv_at hl 2 rfl) ?_
      refine lX_hand S hK hM (g 7 4) (by omega) (tn a2) (by omega) ((mvX (mvX g (g 7 4) 3 (tn a1) (xRate g (g 7 4) (tn a1))) 3 (g 7 4) (tn a2) 1) 4 (5 * (g 7 4) + (tn a2))) rfl dX1_swap_113 ?_
      have hb_19 : (mvX (mvX g (g 7 4) 3 (tn a1) (xRate g (g 7 4) (tn a1))) 3 (g 7 4) (tn a2) 1) 4 (5 * (g 7 4) + (tn a2)) < 1048576 := by first | exact hg 4 (5 * (g 7 4) + (tn a2)) | exact hg0 _ _ | (have := hg 4 (5 * (g 7 4) + (tn a2)); omega) | omega
      exact vx_ret (zc_nret (nI ((mvX (mvX g (g 7 4) 3 (tn a1) (xRate g (g 7 4) (tn a1))) 3 (g 7 4) (tn a2) 1) 4 (5 * g 7 4 + tn a2))) (congrArg nI (show ((mvX (mvX g (g 7 4) 3 (tn a1) (xRate g (g 7 4) (tn a1))) 3 (g 7 4) (tn a2) 1) 4 (5 * (g 7 4) + (tn a2)) : Nat) = ((mvX (mvX g (g 7 4) 3 (tn a1) (xRate g (g 7 4) (tn a1))) 3 (g 7 4) (tn a2) 1) 4 (5 * g 7 4 + tn a2)) from by first | with_reducible rfl | (simp [c_1, c_2, c_5, c_14, cdSwap]; done) | (simp only [c_1, c_2, c_5, c_14] <;> simp [cdSwap]; done) | (simp only [cdSwap, c_1, c_2, c_5, c_14] <;> simp [cdSwap]; done) | (simp [c_1, c_2, c_5, c_14, cdSwap, Bool.and_assoc]; done) | (simp [c_1, c_2, c_5, c_14, cdSwap, Bool.and_assoc, Bool.or_assoc]; done) | rfl | (simp [c_1, c_2, c_5, c_14, cdSwap]; omega) | (simp_all [cdSwap]; done))) (hPost (by first | rfl | (simp only [c_1, c_2, c_5, c_14, cdSwap, Bool.true_and, Bool.and_true, reduceIte]; done) | (simp [c_1, c_2, c_5, c_14, cdSwap]; done) | grind | (simp_all; done)) H hM hg) hS hx hb hr hlk (Nat.le_of_ble_eq_true rfl) (Nat.le_of_ble_eq_true rfl) dX1_swap_114)
    refine zr_icmp_neN (a := (g 7 1)) (b := 2) (tgt := 69) hx hb (by omega) (by omega) dX1_swap_28 (by decide) (fun c_20 => ?_) (fun c_20 => ?_)
    · refine lv_iconst (v := nI 0) hx hb dX1_swap_69 zi_0 ?_
      exact J_70 _ (congrArg (fun z : Bool => nI z.toNat) (show (false : Bool) = (decide ((g 7 1) = 2) && (!decide ((g 4 (5 * (g 7 4) + (tn a1))) < (xRate g (g 7 4) (tn a1))) && (decide (0 < (g 4 (5 * 3 + (tn a2))))))) from by first | with_reducible rfl | (simp [c_1, c_2, c_5, c_20, cdSwap]; done) | (simp only [c_1, c_2, c_5, c_20] <;> simp [cdSwap]; done) | (simp only [cdSwap, c_1, c_2, c_5, c_20] <;> simp [cdSwap]; done) | (simp [c_1, c_2, c_5, c_20, cdSwap, Bool.and_assoc]; done) | (simp [c_1, c_2, c_5, c_20, cdSwap, Bool.and_assoc, Bool.or_assoc]; done) | rfl | (simp [c_1, c_2, c_5, c_20, cdSwap]; omega) | (simp_all [cdSwap]; done))) H locs hM hS ls (lv_sub hl [0, 1, 2] rfl)
    · refine lv_aload_n hx hb dX1_swap_31 rfl (lv_at hl 0 rfl) ?_
      refine gX_hands S hK hM dX1_swap_32 ?_
      refine lv_aload_n hx hb dX1_swap_35 rfl (lv_at hl 0 rfl) ?_
      refine gX_turn S hK hM (g 7 4) rfl dX1_swap_36 ?_
      have hb_21 : g 7 4 < 1048576 := by first | exact hg 7 4 | exact hg0 _ _ | (have := hg 7 4; omega) | omega
      refine lX_hands S hK hM (g 7 4) (by omega) dX1_swap_39 ?_
      refine lv_iload_n hx hb dX1_swap_40 rfl (lv_at hl 1 rfl) ?_
      refine lX_hand S hK hM (g 7 4) (by omega) (tn a1) (by omega) (g 4 (5 * (g 7 4) + (tn a1))) rfl dX1_swap_41 ?_
      have hb_22 : g 4 (5 * (g 7 4) + (tn a1)) < 1048576 := by first | exact hg 4 (5 * (g 7 4) + (tn a1)) | exact hg0 _ _ | (have := hg 4 (5 * (g 7 4) + (tn a1)); omega) | omega
      refine lv_aload_n hx hb dX1_swap_42 rfl (lv_at hl 0 rfl) ?_
      refine lv_aload_n hx hb dX1_swap_43 rfl (lv_at hl 0 rfl) ?_
      refine gX_turn S hK hM (g 7 4) rfl dX1_swap_44 ?_
      have hb_23 : g 7 4 < 1048576 := by first | exact hg 7 4 | exact hg0 _ _ | (have := hg 7 4; omega) | omega
      refine lv_iload_n hx hb dX1_swap_47 rfl (lv_at hl 1 rfl) ?_
      refine kX_rateOf S hKX hM hg hS (g 7 4) (tn a1) (by first | omega | assumption | grind) (by first | omega | assumption | grind) (by first | omega | assumption | grind) (Nat.le_of_ble_eq_true rfl) (Nat.le_of_ble_eq_true rfl) hl.1 (Nat.le_of_ble_eq_true rfl) dX1_swap_48 (Nat.le_of_ble_eq_true rfl) (Nat.le_of_ble_eq_true rfl) (fun locs hS => ?_)
      have f48_0 : xRate g (g 7 4) (tn a1) ≤ 4 := xRate_le _ _ _
      refine zr_icmp_ltN (a := (g 4 (5 * (g 7 4) + (tn a1)))) (b := (xRate g (g 7 4) (tn a1))) (tgt := 69) hx hb (by omega) (by omega) dX1_swap_51 (by decide) (fun c_24 => ?_) (fun c_24 => ?_)
      · refine lv_iconst (v := nI 0) hx hb dX1_swap_69 zi_0 ?_
        exact J_70 _ (congrArg (fun z : Bool => nI z.toNat) (show (false : Bool) = (decide ((g 7 1) = 2) && (!decide ((g 4 (5 * (g 7 4) + (tn a1))) < (xRate g (g 7 4) (tn a1))) && (decide (0 < (g 4 (5 * 3 + (tn a2))))))) from by first | with_reducible rfl | (simp [c_1, c_2, c_5, c_20, c_24, cdSwap]; done) | (simp only [c_1, c_2, c_5, c_20, c_24] <;> simp [cdSwap]; done) | (simp only [cdSwap, c_1, c_2, c_5, c_20, c_24] <;> simp [cdSwap]; done) | (simp [c_1, c_2, c_5, c_20, c_24, cdSwap, Bool.and_assoc]; done) | (simp [c_1, c_2, c_5, c_20, c_24, cdSwap, Bool.and_assoc, Bool.or_assoc]; done) | rfl | (simp [c_1, c_2, c_5, c_20, c_24, cdSwap]; omega) | (simp_all [cdSwap]; done))) H locs hM hS ls (lv_sub hl [0, 1, 2] rfl)
      · refine lv_aload_n hx hb dX1_swap_54 rfl (lv_at hl 0 rfl) ?_
        refine gX_hands S hK hM dX1_swap_55 ?_
        refine lv_iconst (v := nI 3) hx hb dX1_swap_58 zi_3 ?_
        refine lX_hands S hK hM 3 (by omega) dX1_swap_59 ?_
        refine lv_iload_n hx hb dX1_swap_60 rfl (lv_at hl 2 rfl) ?_
        refine lX_hand S hK hM 3 (by omega) (tn a2) (by omega) (g 4 (5 * 3 + (tn a2))) rfl dX1_swap_61 ?_
        have hb_25 : g 4 (5 * 3 + (tn a2)) < 1048576 := by first | exact hg 4 (5 * 3 + (tn a2)) | exact hg0 _ _ | (have := hg 4 (5 * 3 + (tn a2)); omega) | omega
        refine zr_if_leN (a := (g 4 (5 * 3 + (tn a2)))) (tgt := 69) hx hb (by omega) dX1_swap_62 (by decide) (fun c_26 => ?_) (fun c_26 => ?_)
        · refine lv_iconst (v := nI 0) hx hb dX1_swap_69 zi_0 ?_
          exact J_70 _ (congrArg (fun z : Bool => nI z.toNat) (show (false : Bool) = (decide ((g 7 1) = 2) && (!decide ((g 4 (5 * (g 7 4) + (tn a1))) < (xRate g (g 7 4) (tn a1))) && (decide (0 < (g 4 (5 * 3 + (tn a2))))))) from by first | with_reducible rfl | (simp [c_1, c_2, c_5, c_20, c_24, c_26, cdSwap]; done) | (simp only [c_1, c_2, c_5, c_20, c_24, c_26] <;> simp [cdSwap]; done) | (simp only [cdSwap, c_1, c_2, c_5, c_20, c_24, c_26] <;> simp [cdSwap]; done) | (simp [c_1, c_2, c_5, c_20, c_24, c_26, cdSwap, Bool.and_assoc]; done) | (simp [c_1, c_2, c_5, c_20, c_24, c_26, cdSwap, Bool.and_assoc, Bool.or_assoc]; done) | rfl | (simp [c_1, c_2, c_5, c_20, c_24, c_26, cdSwap]; omega) | (simp_all [cdSwap]; done))) H locs hM hS ls (lv_sub hl [0, 1, 2] rfl)
        · refine lv_iconst (v := nI 1) hx hb dX1_swap_65 zi_1 ?_
          refine lv_goto (tgt := 70) hx hb dX1_swap_66 (by decide) ?_
          exact J_70 _ (congrArg (fun z : Bool => nI z.toNat) (show (true : Bool) = (decide ((g 7 1) = 2) && (!decide ((g 4 (5 * (g 7 4) + (tn a1))) < (xRate g (g 7 4) (tn a1))) && (decide (0 < (g 4 (5 * 3 + (tn a2))))))) from by first | with_reducible rfl | (simp [c_1, c_2, c_5, c_20, c_24, c_26, cdSwap]; done) | (simp only [c_1, c_2, c_5, c_20, c_24, c_26] <;> simp [cdSwap]; done) | (simp only [cdSwap, c_1, c_2, c_5, c_20, c_24, c_26] <;> simp [cdSwap]; done) | (simp [c_1, c_2, c_5, c_20, c_24, c_26, cdSwap, Bool.and_assoc]; done) | (simp [c_1, c_2, c_5, c_20, c_24, c_26, cdSwap, Bool.and_assoc, Bool.or_assoc]; done) | rfl | (simp [c_1, c_2, c_5, c_20, c_24, c_26, cdSwap]; omega) | (simp_all [cdSwap]; done))) H locs hM hS ls (lv_sub hl [0, 1, 2] rfl)
  refine zr_icmp_neN (a := (tn a1)) (b := (tn a2)) (tgt := 17) hx hb (by omega) (by omega) dX1_swap_10 (by decide) (fun c_27 => ?_) (fun c_27 => ?_)
  · refine lv_iconst (v := nI 0) hx hb dX1_swap_17 zi_0 ?_
    exact J_18 _ (congrArg (fun z : Bool => nI z.toNat) (show (false : Bool) = (decide ((tn a1) = (tn a2))) from by first | with_reducible rfl | (simp [c_1, c_2, c_27, cdSwap]; done) | (simp only [c_1, c_2, c_27] <;> simp [cdSwap]; done) | (simp only [cdSwap, c_1, c_2, c_27] <;> simp [cdSwap]; done) | (simp [c_1, c_2, c_27, cdSwap, Bool.and_assoc]; done) | (simp [c_1, c_2, c_27, cdSwap, Bool.and_assoc, Bool.or_assoc]; done) | rfl | (simp [c_1, c_2, c_27, cdSwap]; omega) | (simp_all [cdSwap]; done))) H locs hM hS ls (lv_sub hl [0, 1, 2] rfl)
  · refine lv_iconst (v := nI 1) hx hb dX1_swap_13 zi_1 ?_
    refine lv_goto (tgt := 18) hx hb dX1_swap_14 (by decide) ?_
    exact J_18 _ (congrArg (fun z : Bool => nI z.toNat) (show (true : Bool) = (decide ((tn a1) = (tn a2))) from by first | with_reducible rfl | (simp [c_1, c_2, c_27, cdSwap]; done) | (simp only [c_1, c_2, c_27] <;> simp [cdSwap]; done) | (simp only [cdSwap, c_1, c_2, c_27] <;> simp [cdSwap]; done) | (simp [c_1, c_2, c_27, cdSwap, Bool.and_assoc]; done) | (simp [c_1, c_2, c_27, cdSwap, Bool.and_assoc, Bool.or_assoc]; done) | rfl | (simp [c_1, c_2, c_27, cdSwap]; omega) | (simp_all [cdSwap]; done))) H locs hM hS ls (lv_sub hl [0, 1, 2] rfl)
def cdBuildingAt (g : G) (a1 : Int32) : Nat := (if (inB a1 24) = true then 0 else 1)
set_option maxHeartbeats 1000000 in
set_option maxRecDepth 100000 in
theorem cX_buildingAt (l : Launch) (hfl : l.stackTraces = false) {D : va_G} {dA : Nat → ClassId} {cn : Nat → Nat} {A : Nat → Prop} {pa : NM → Nat} {g : G} {T : va_W} (hg : Sm g) (a1 : Int32) (h6 : ∀ c, c < 24 → g 2 c ≤ 6) (H0 : Heap) (hM : XS D dA cn A pa g T H0) (hA : ∀ q, H0.size ≤ q → A q) {Post : Option Value → Heap → Prop} {XPost : String → Heap → Prop} (hPost : (cdBuildingAt g a1) = 0 → ∀ H : Heap, XS D dA cn A pa g T H → Sm g → Post (some (.int (mI (if g 2 (tn a1) = 0 then 0 else own1 g (tn a1) + (if mCity g (tn a1) = true then 3 else 0))))) H) (hXP : ∀ n : Nat, (cdBuildingAt g a1) = n → n ≠ 0 → ∀ H : Heap, XS D dA cn A pa g T H → XPost (exS n) H) : vCt l yX1_buildingAt (ws_ yX1_buildingAt cX1_buildingAt 3 (some .int)) (rmF 7 1 6 121) A (KX D dA cn A) [.ref (pa (0, 0)), .int a1] H0 Post XPost := by
  refine vc_of RX1 rfl (by decide) (Nat.le_of_ble_eq_true rfl) ?_
  intro pr en s m args below meth cd S hr hlk hnm hno hh hKX ls hl
  have hS : va_S A s.heap H0 [] := zc_start hh
  have hA : ∀ q, s.heap.size ≤ q → A q := fun q h => hA q (by rw [← hh]; exact h)
  have hg0 := hg
  have hx := S.1
  have hb := S.2.1
  have hown := S.2.2.2.1
  have hts := S.2.2.2.2
  have hK := hKX.1
  have hN := hKX.2.1.1
  have hl : lv_has ls 3 [(0, .ref (pa (0, 0))), (1, .int a1)] := hl
  refine lv_iload_n hx hb dX1_buildingAt_0 rfl (lv_at hl 1 rfl) ?_
  refine lv_bipush (v := nI 24) hx hb dX1_buildingAt_1 zb_24 ?_
  refine kX_check hfl S hKX hM hg hS (fun q h => hA q (Nat.le_trans hS.1 h)) a1 24 (by first | omega | assumption | grind) (Nat.le_of_ble_eq_true rfl) (Nat.le_of_ble_eq_true rfl) hl.1 (Nat.le_of_ble_eq_true rfl) dX1_buildingAt_3 (Nat.le_of_ble_eq_true rfl) (Nat.le_of_ble_eq_true rfl) hno hlk (Nat.le_of_ble_eq_true rfl) (Nat.le_of_ble_eq_true rfl) (fun c_1 H1 hM1 => hXP 1 (by first | (simp only [c_1, cdBuildingAt, Bool.true_and, Bool.and_true, Bool.false_and, Bool.and_false, reduceIte, Bool.false_eq_true]; done) | (simp [c_1, cdBuildingAt]; done) | grind | (simp_all; done)) (by decide) H1 hM1) (fun c_1 H locs hM hg hS => ?_)
  obtain ⟨hj1, ea1⟩ := inB_tn (by decide) c_1
  rw [ea1] at hl
  refine lv_aload_n hx hb dX1_buildingAt_6 rfl (lv_at hl 0 rfl) ?_
  refine gX_buildings S hK hM dX1_buildingAt_7 ?_
  refine lv_iload_n hx hb dX1_buildingAt_10 rfl (lv_at hl 1 rfl) ?_
  refine lX_bld S hK hM (tn a1) (by omega) dX1_buildingAt_11 ?_
  refine zr_astore_no (lv' := [(2, va_rf (opB (decide (g 2 (tn a1) ≠ 0)) (pa (5, tn a1)))), (0, .ref (pa (0, 0))), (1, .int (nI (tn a1)))]) hx hb dX1_buildingAt_12 rfl hl (by decide) rfl (fun ls hl => ?_)
  refine zr_aload_no hx hb dX1_buildingAt_13 rfl (lv_at hl 0 rfl) ?_
  refine zr_ifnonnullB (b := decide (g 2 (tn a1) ≠ 0)) (tgt := 21) hx hb dX1_buildingAt_14 (by decide) (fun c_2 => ?_) (fun c_2 => ?_)
  · rw [opB_t c_2] at hl
    refine lv_aload_n hx hb dX1_buildingAt_21 rfl (lv_at hl 0 rfl) ?_
    refine kI_owner S hKX hM hS (tn a1) (by omega) c_2 (by exact h6 _ (by omega)) (Nat.le_of_ble_eq_true rfl) (Nat.le_of_ble_eq_true rfl) hl.1 (Nat.le_of_ble_eq_true rfl) (Nat.le_of_ble_eq_true rfl) (Nat.le_of_ble_eq_true rfl) dX1_buildingAt_22 (fun locs hS => ?_)
    have hb_3 : own1 g (tn a1) < 4 := own1_lt _ _
    have hb_4 : own1 g (tn a1) ≠ 0 := own1_pos c_2
    refine lv_aload_n hx hb dX1_buildingAt_27 rfl (lv_at hl 0 rfl) ?_
    refine kI_isCity S hKX hM (tn a1) (by omega) c_2 dX1_buildingAt_28 ?_
    refine zr_if_eqB (b := mCity g (tn a1)) (tgt := 38) hx hb dX1_buildingAt_31 (by decide) (fun c_5 => ?_) (fun c_5 => ?_)
    · refine lv_iconst (v := nI 0) hx hb dX1_buildingAt_38 zi_0 ?_
      refine lv_iadd hx hb dX1_buildingAt_39 ?_
      exact vx_ret (zc_nret (mI (if g 2 (tn a1) = 0 then 0 else own1 g (tn a1) + (if mCity g (tn a1) = true then 3 else 0))) (show ((mI (own1 g (tn a1))) + (nI 0) : Int32) = (mI (if g 2 (tn a1) = 0 then 0 else own1 g (tn a1) + (if mCity g (tn a1) = true then 3 else 0))) from by have q := c_2; simp at q; first | (simp [q]; done) | (rw [mI_add]; simp [q, c_5]; done)) (hPost (by first | rfl | (simp only [c_1, c_2, c_5, cdBuildingAt, Bool.true_and, Bool.and_true, reduceIte]; done) | (simp [c_1, c_2, c_5, cdBuildingAt]; done) | grind | (simp_all; done)) H hM hg) hS hx hb hr hlk (Nat.le_of_ble_eq_true rfl) (Nat.le_of_ble_eq_true rfl) dX1_buildingAt_40)
    · refine lv_iconst (v := nI 3) hx hb dX1_buildingAt_34 zi_3 ?_
      refine lv_goto (tgt := 39) hx hb dX1_buildingAt_35 (by decide) ?_
      refine lv_iadd hx hb dX1_buildingAt_39 ?_
      exact vx_ret (zc_nret (mI (if g 2 (tn a1) = 0 then 0 else own1 g (tn a1) + (if mCity g (tn a1) = true then 3 else 0))) (show ((mI (own1 g (tn a1))) + (nI 3) : Int32) = (mI (if g 2 (tn a1) = 0 then 0 else own1 g (tn a1) + (if mCity g (tn a1) = true then 3 else 0))) from by have q := c_2; simp at q; first | (simp [q]; done) | (rw [mI_add]; simp [q, c_5]; done)) (hPost (by first | rfl | (simp only [c_1, c_2, c_5, cdBuildingAt, Bool.true_and, Bool.and_true, reduceIte]; done) | (simp [c_1, c_2, c_5, cdBuildingAt]; done) | grind | (simp_all; done)) H hM hg) hS hx hb hr hlk (Nat.le_of_ble_eq_true rfl) (Nat.le_of_ble_eq_true rfl) dX1_buildingAt_40)
  · rw [opB_f c_2] at hl
    refine lv_iconst (v := mI 0) hx hb dX1_buildingAt_17 zi_m1 ?_
    refine lv_goto (tgt := 40) hx hb dX1_buildingAt_18 (by decide) ?_
    exact vx_ret (zc_nret (mI (if g 2 (tn a1) = 0 then 0 else own1 g (tn a1) + (if mCity g (tn a1) = true then 3 else 0))) (congrArg mI (show (0 : Nat) = (if g 2 (tn a1) = 0 then 0 else own1 g (tn a1) + (if mCity g (tn a1) = true then 3 else 0)) from by have q := c_2; simp at q; first | (simp [q]; done) | (rw [mI_add]; simp [q, c_2]; done))) (hPost (by first | rfl | (simp only [c_1, c_2, cdBuildingAt, Bool.true_and, Bool.and_true, reduceIte]; done) | (simp [c_1, c_2, cdBuildingAt]; done) | grind | (simp_all; done)) H hM hg) hS hx hb hr hlk (Nat.le_of_ble_eq_true rfl) (Nat.le_of_ble_eq_true rfl) dX1_buildingAt_40)
