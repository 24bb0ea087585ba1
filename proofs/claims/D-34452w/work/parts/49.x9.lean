/-! THE CLASS: building (printed by gen/x9.py) -/
theorem gWinX_nf (g : G) {f : Nat} (h : f ≠ 7) (j : Nat) : gWinX g f j = g f j := gs_nf _ h
theorem gWinX_7 (g : G) {j : Nat} (h : j ≠ 1) : gWinX g 7 j = g 7 j := gs_ni _ h
theorem gDoneX_nf (g : G) (b : Bool) {f : Nat} (h : f ≠ 7) (j : Nat) : gDoneX g b f j = g f j := by
  unfold gDoneX
  rw [gWinX_nf _ h]
  split
  · exact gs_nf _ h
  · rfl
theorem gDoneX_7 (g : G) (b : Bool) {j : Nat} (h1 : j ≠ 1) (h7 : j ≠ 7) : gDoneX g b 7 j = g 7 j := by
  unfold gDoneX
  rw [gWinX_7 _ h1]
  split
  · exact gs_ni _ h7
  · rfl
theorem own1_nz {g : G} {c p : Nat} (h : own1 g c = p + 1) : g 2 c ≠ 0 := by
  intro q
  unfold own1 at h
  rw [q] at h
  simp at h
def gPayX (g : G) (c : Nat) : G := giveX g (g 7 4) 3 c 5
theorem gPayX_nf (g : G) (c : Nat) {f : Nat} (h0 : f ≠ 4) (h1 : f ≠ 8) (h2 : f < 12 ∨ 15 < f) (j : Nat) : gPayX g c f j = g f j := giveX_nf _ _ _ _ h0 h1 h2 5 j
theorem giveX_80 (g : G) (a b x : Nat) : ∀ i, giveX g a b x i 8 0 = g 8 0 := by
  intro i
  induction i with
  | zero => rfl
  | succ i ih => exact (mvX_80 _ _ _ _ _).trans ih
def cdRoad (g : G) (a1 : Int32) : Nat := (if (inB a1 30) = true then (if (decide (g 7 1 = 2) && ((mMayRoad g (g 7 4) (tn a1)) && hasG g (g 7 4) 11)) = true then 0 else 3) else 1)
set_option maxHeartbeats 1000000 in
set_option maxRecDepth 100000 in
theorem cX_road (l : Launch) (hfl : l.stackTraces = false) {D : va_G} {dA : Nat → ClassId} {cn : Nat → Nat} {A : Nat → Prop} {pa : NM → Nat} {g : G} {T : va_W} (hg : Sm g) (a1 : Int32) (ht : g 7 4 < 3) (hb4 : ∀ j, j < 20 → g 4 j ≤ 100) (hv : g 8 1 ≤ 1900) (h6 : ∀ c, c < 24 → g 2 c ≤ 6) (hr8 : ∀ p, p < 3 → roadsN g p 30 ≤ 8) (h7 : g 7 7 ≤ 3) (hnc : g 8 0 ≤ 15) (H0 : Heap) (hM : XS D dA cn A pa g T H0) (hA : ∀ q, H0.size ≤ q → A q) {Post : Option Value → Heap → Prop} {XPost : String → Heap → Prop} (hPost : (cdRoad g a1) = 0 → ∀ H : Heap, XS D dA cn A pa (gDoneX (gs (giveX g (g 7 4) 3 11 5) 3 (tn a1) (g 7 4 + 1)) true) T H → Sm (gDoneX (gs (giveX g (g 7 4) 3 11 5) 3 (tn a1) (g 7 4 + 1)) true) → Post (some (.int (nI (xLong (gDoneX (gs (giveX g (g 7 4) 3 11 5) 3 (tn a1) (g 7 4 + 1)) true) (g 7 4))))) H) (hXP : ∀ n : Nat, (cdRoad g a1) = n → n ≠ 0 → ∀ H : Heap, XS D dA cn A pa g T H → XPost (exS n) H) : vCt l yX1_road (ws_ yX1_road cX1_road 2 (some .int)) (rmF 18 15 24040 834) A (KX D dA cn A) [.ref (pa (0, 0)), .int a1] H0 Post XPost := by
  refine vc_of RX1 rfl (by decide) (Nat.le_of_ble_eq_true rfl) ?_
  intro pr en s m args below meth cd S hr hlk hnm hno hh hKX ls hl
  have hS : va_S A s.heap H0 [] := zc_start hh
  have hA : ∀ q, s.heap.size ≤ q → A q := fun q h => hA q (by rw [← hh]; exact h)
  have hg0 := hg
  have hx := S.1
  have hb := S.2.1
  have hown := S.2.2.2.1
  have hts := S.2.2.2.2
  have hK := hKX.1
  have hN := hKX.2.1.1
  have hl : lv_has ls 2 [(0, .ref (pa (0, 0))), (1, .int a1)] := hl
  refine lv_iload_n hx hb dX1_road_0 rfl (lv_at hl 1 rfl) ?_
  refine lv_bipush (v := nI 30) hx hb dX1_road_1 zb_30 ?_
  refine kX_check hfl S hKX hM hg hS (fun q h => hA q (Nat.le_trans hS.1 h)) a1 30 (by first | omega | assumption | grind) (Nat.le_of_ble_eq_true rfl) (Nat.le_of_ble_eq_true rfl) hl.1 (Nat.le_of_ble_eq_true rfl) dX1_road_3 (Nat.le_of_ble_eq_true rfl) (Nat.le_of_ble_eq_true rfl) hno hlk (Nat.le_of_ble_eq_true rfl) (Nat.le_of_ble_eq_true rfl) (fun c_1 H1 hM1 => hXP 1 (by first | (simp only [c_1, cdRoad, Bool.true_and, Bool.and_true, Bool.false_and, Bool.and_false, reduceIte, Bool.false_eq_true]; done) | (simp [c_1, cdRoad]; done) | grind | (simp_all; done)) (by decide) H1 hM1) (fun c_1 H locs hM hg hS => ?_)
  obtain ⟨hj1, ea1⟩ := inB_tn (by decide) c_1
  rw [ea1] at hl
  refine lv_aload_n hx hb dX1_road_6 rfl (lv_at hl 0 rfl) ?_
  refine lv_aload_n hx hb dX1_road_7 rfl (lv_at hl 0 rfl) ?_
  refine lv_iload_n hx hb dX1_road_8 rfl (lv_at hl 1 rfl) ?_
  refine lv_aload_n hx hb dX1_road_9 rfl (lv_at hl 0 rfl) ?_
  refine gX_turn S hK hM (g 7 4) rfl dX1_road_10 ?_
  have hb_2 : g 7 4 < 1048576 := by first | exact hg 7 4 | exact hg0 _ _ | (have := hg 7 4; omega) | omega
  refine kX_canHaveRoad S hKX hM hg hS (tn a1) (g 7 4) (by first | omega | assumption | grind) (by first | omega | assumption | grind) (by first | omega | assumption | grind) (Nat.le_of_ble_eq_true rfl) (Nat.le_of_ble_eq_true rfl) hl.1 (Nat.le_of_ble_eq_true rfl) dX1_road_13 (Nat.le_of_ble_eq_true rfl) (Nat.le_of_ble_eq_true rfl) (fun locs hS => ?_)
  refine lv_bipush (v := nI 11) hx hb dX1_road_16 zb_11 ?_
  refine kX_checkBuilding hfl S hKX hM hg hS (fun q h => hA q (Nat.le_trans hS.1 h)) (mMayRoad g (g 7 4) (tn a1)) 11 (by first | omega | assumption | grind) (by first | omega | assumption | grind) (Nat.le_of_ble_eq_true rfl) (Nat.le_of_ble_eq_true rfl) hl.1 (Nat.le_of_ble_eq_true rfl) dX1_road_18 (Nat.le_of_ble_eq_true rfl) (Nat.le_of_ble_eq_true rfl) hno hlk (Nat.le_of_ble_eq_true rfl) (Nat.le_of_ble_eq_true rfl) (fun c_3 H1 hM1 => hXP 3 (by first | (simp only [c_1, c_3, cdRoad, Bool.true_and, Bool.and_true, Bool.false_and, Bool.and_false, reduceIte, Bool.false_eq_true]; done) | (simp [c_1, c_3, cdRoad]; done) | grind | (simp_all; done)) (by decide) H1 hM1) (fun c_3 H locs hM hg hS => ?_)
  have hHG : hasG g (g 7 4) 11 = true := by have q := c_3; simp only [Bool.and_eq_true, decide_eq_true_eq, Bool.not_eq_true', decide_eq_false_iff_not] at q; exact q.2.2
  have hMR : mMayRoad g (g 7 4) (tn a1) = true := by have q := c_3; simp only [Bool.and_eq_true, decide_eq_true_eq, Bool.not_eq_true', decide_eq_false_iff_not] at q; exact q.2.1
  have hlt8 : roadsN g (g 7 4) 30 < 8 := by unfold mMayRoad at hMR; simp at hMR; exact hMR.2.1
  have hr8n : ∀ p, p < 3 → roadsN (gs (giveX g (g 7 4) 3 11 5) 3 (tn a1) (g 7 4 + 1)) p 30 ≤ 8 := lay_roads (fun j => giveX_nf g (g 7 4) 3 11 (by decide) (by decide) (by decide) 5 j) hr8 hlt8
  have h6n : ∀ c, c < 24 → (gs (giveX g (g 7 4) 3 11 5) 3 (tn a1) (g 7 4 + 1)) 2 c ≤ 6 := by intro c hc; rw [gs_nf _ (show (2 : Nat) ≠ 3 by decide), giveX_nf _ _ _ _ (by decide) (by decide) (by decide)]; exact h6 c hc
  refine lv_aload_n hx hb dX1_road_21 rfl (lv_at hl 0 rfl) ?_
  refine lv_bipush (v := nI 11) hx hb dX1_road_22 zb_11 ?_
  refine kX_pay S hKX hM hg hS (fun q h => hA q (Nat.le_trans hS.1 h)) 11 (by first | omega | assumption | grind) (by first | omega | assumption | grind) (by exact hasG_le hHG) (by exact fun j hj => Nat.le_trans (hb4 j hj) (by decide)) (by first | omega | assumption | grind) (Nat.le_of_ble_eq_true rfl) (Nat.le_of_ble_eq_true rfl) hl.1 (Nat.le_of_ble_eq_true rfl) dX1_road_24 (Nat.le_of_ble_eq_true rfl) (Nat.le_of_ble_eq_true rfl) (fun H locs hM hg hS => ?_)
  refine lv_aload_n hx hb dX1_road_27 rfl (lv_at hl 0 rfl) ?_
  refine gX_roads S hK hM dX1_road_28 ?_
  refine lv_iload_n hx hb dX1_road_31 rfl (lv_at hl 1 rfl) ?_
  refine lv_aload_n hx hb dX1_road_32 rfl (lv_at hl 0 rfl) ?_
  refine gX_turn S hK hM (g 7 4) (by first | with_reducible rfl | exact giveX_nf _ _ _ _ (by decide) (by decide) (by decide) _ _ | exact (gDoneX_7 _ _ (by decide) (by decide)).trans ((gs_nf _ (show (7 : Nat) ≠ 3 by decide)).trans (giveX_nf _ _ _ _ (by decide) (by decide) (by decide) _ _))) dX1_road_33 ?_
  have hb_4 : g 7 4 < 1048576 := by first | exact hg 7 4 | exact hg0 _ _ | (have := hg 7 4; omega) | omega
  refine zr_nm ?_
  refine sX_roads S hK hM hS (tn a1) (by omega) (g 7 4 + 1) dX1_road_36 (fun H locs hM hS => ?_)
  have hg : Sm (gs (giveX g (g 7 4) 3 11 5) 3 (tn a1) (g 7 4 + 1)) := Sm_gs hg (by first | omega | exact Nat.lt_of_le_of_lt (Bool.toNat_le _) (by decide) | ((repeat' split) <;> omega))
  refine lv_aload_n hx hb dX1_road_37 rfl (lv_at hl 0 rfl) ?_
  refine lv_iconst (v := nI 1) hx hb dX1_road_38 zi_1 ?_
  refine kX_done S hKX hM hg hS (fun q h => hA q (Nat.le_trans hS.1 h)) true (by rw [gs_nf _ (show (7 : Nat) ≠ 3 by decide), giveX_nf _ _ _ _ (by decide) (by decide) (by decide)]; exact ht) (by exact h6n) (by exact hr8n) (by rw [gs_nf _ (show (7 : Nat) ≠ 3 by decide), giveX_nf _ _ _ _ (by decide) (by decide) (by decide)]; exact h7) (by rw [gs_nf _ (show (8 : Nat) ≠ 3 by decide), giveX_80]; exact hnc) (Nat.le_of_ble_eq_true rfl) (Nat.le_of_ble_eq_true rfl) hl.1 (Nat.le_of_ble_eq_true rfl) dX1_road_39 (Nat.le_of_ble_eq_true rfl) (Nat.le_of_ble_eq_true rfl) (fun H locs hM hg hS => ?_)
  refine lv_aload_n hx hb dX1_road_42 rfl (lv_at hl 0 rfl) ?_
  refine lv_aload_n hx hb dX1_road_43 rfl (lv_at hl 0 rfl) ?_
  refine gX_turn S hK hM (g 7 4) (by first | with_reducible rfl | exact giveX_nf _ _ _ _ (by decide) (by decide) (by decide) _ _ | exact (gDoneX_7 _ _ (by decide) (by decide)).trans ((gs_nf _ (show (7 : Nat) ≠ 3 by decide)).trans (giveX_nf _ _ _ _ (by decide) (by decide) (by decide) _ _))) dX1_road_44 ?_
  have hb_5 : g 7 4 < 1048576 := by first | exact hg 7 4 | exact hg0 _ _ | (have := hg 7 4; omega) | omega
  refine kX_longest S hKX hM hg hS (g 7 4) (by exact ht) (by intro c hc; rw [gDoneX_nf _ _ (by decide)]; exact h6n c hc) (by intro p hp; rw [roadsN_f3 (y := gs (giveX g (g 7 4) 3 11 5) 3 (tn a1) (g 7 4 + 1)) (fun j => gDoneX_nf _ _ (by decide) j)]; exact hr8n p hp) (Nat.le_of_ble_eq_true rfl) (Nat.le_of_ble_eq_true rfl) hl.1 (Nat.le_of_ble_eq_true rfl) dX1_road_47 (Nat.le_of_ble_eq_true rfl) (Nat.le_of_ble_eq_true rfl) (fun locs hS => ?_)
  have f47_0 : xLong (gDoneX (gs (giveX g (g 7 4) 3 11 5) 3 (tn a1) (g 7 4 + 1)) true) (g 7 4) ≤ 9 := xLong_le _ _
  exact vx_ret (zc_nret (nI (xLong (gDoneX (gs (giveX g (g 7 4) 3 11 5) 3 (tn a1) (g 7 4 + 1)) true) (g 7 4))) rfl (hPost (by first | rfl | (simp only [c_1, c_3, cdRoad, Bool.true_and, Bool.and_true, reduceIte]; done) | (simp [c_1, c_3, cdRoad]; done) | grind | (simp_all; done)) H hM hg) hS hx hb hr hlk (Nat.le_of_ble_eq_true rfl) (Nat.le_of_ble_eq_true rfl) dX1_road_50)
def cdHouse (g : G) (a1 : Int32) : Nat := (if (inB a1 24) = true then (if (decide (g 7 1 = 2) && ((mFree g (tn a1) && (xRoadAt g (tn a1) (g 7 4) 30 && decide (mBuilds g (g 7 4) false 24 < 4))) && hasG g (g 7 4) 1111)) = true then 0 else 3) else 1)
set_option maxHeartbeats 1000000 in
set_option maxRecDepth 100000 in
theorem cX_house (l : Launch) (hfl : l.stackTraces = false) {D : va_G} {dA : Nat → ClassId} {cn : Nat → Nat} {A : Nat → Prop} {pa : NM → Nat} {g : G} {T : va_W} (hg : Sm g) (a1 : Int32) (ht : g 7 4 < 3) (hb4 : ∀ j, j < 20 → g 4 j ≤ 100) (hv : g 8 1 ≤ 1900) (h6 : ∀ c, c < 24 → g 2 c ≤ 6) (hr8 : ∀ p, p < 3 → roadsN g p 30 ≤ 8) (h7 : g 7 7 ≤ 3) (hnc : g 8 0 ≤ 15) (H0 : Heap) (hM : XS D dA cn A pa g T H0) (hA : ∀ q, H0.size ≤ q → A q) {Post : Option Value → Heap → Prop} {XPost : String → Heap → Prop} (hPost : (cdHouse g a1) = 0 → ∀ (pa1 : NM → Nat), pa1 (0, 0) = pa (0, 0) → ∀ H : Heap, XS D dA cn A pa1 (gDoneX (gs (giveX g (g 7 4) 3 1111 5) 2 (tn a1) (g 7 4 + 1)) true) T H → Sm (gDoneX (gs (giveX g (g 7 4) 3 1111 5) 2 (tn a1) (g 7 4 + 1)) true) → Post (some (.int (nI (xPts (gDoneX (gs (giveX g (g 7 4) 3 1111 5) 2 (tn a1) (g 7 4 + 1)) true) (g 7 4))))) H) (hXP : ∀ n : Nat, (cdHouse g a1) = n → n ≠ 0 → ∀ H : Heap, XS D dA cn A pa g T H → XPost (exS n) H) : vCt l yX1_house (ws_ yX1_house cX1_house 2 (some .int)) (rmF 18 17 24045 834) A (KX D dA cn A) [.ref (pa (0, 0)), .int a1] H0 Post XPost := by
  refine vc_of RX1 rfl (by decide) (Nat.le_of_ble_eq_true rfl) ?_
  intro pr en s m args below meth cd S hr hlk hnm hno hh hKX ls hl
  have hS : va_S A s.heap H0 [] := zc_start hh
  have hA : ∀ q, s.heap.size ≤ q → A q := fun q h => hA q (by rw [← hh]; exact h)
  have hg0 := hg
  have hx := S.1
  have hb := S.2.1
  have hown := S.2.2.2.1
  have hts := S.2.2.2.2
  have hK := hKX.1
  have hN := hKX.2.1.1
  have hl : lv_has ls 2 [(0, .ref (pa (0, 0))), (1, .int a1)] := hl
  refine lv_iload_n hx hb dX1_house_0 rfl (lv_at hl 1 rfl) ?_
  refine lv_bipush (v := nI 24) hx hb dX1_house_1 zb_24 ?_
  refine kX_check hfl S hKX hM hg hS (fun q h => hA q (Nat.le_trans hS.1 h)) a1 24 (by first | omega | assumption | grind) (Nat.le_of_ble_eq_true rfl) (Nat.le_of_ble_eq_true rfl) hl.1 (Nat.le_of_ble_eq_true rfl) dX1_house_3 (Nat.le_of_ble_eq_true rfl) (Nat.le_of_ble_eq_true rfl) hno hlk (Nat.le_of_ble_eq_true rfl) (Nat.le_of_ble_eq_true rfl) (fun c_1 H1 hM1 => hXP 1 (by first | (simp only [c_1, cdHouse, Bool.true_and, Bool.and_true, Bool.false_and, Bool.and_false, reduceIte, Bool.false_eq_true]; done) | (simp [c_1, cdHouse]; done) | grind | (simp_all; done)) (by decide) H1 hM1) (fun c_1 H locs hM hg hS => ?_)
  obtain ⟨hj1, ea1⟩ := inB_tn (by decide) c_1
  rw [ea1] at hl
  refine lv_aload_n hx hb dX1_house_6 rfl (lv_at hl 0 rfl) ?_
  refine lv_aload_n hx hb dX1_house_7 rfl (lv_at hl 0 rfl) ?_
  refine lv_iload_n hx hb dX1_house_8 rfl (lv_at hl 1 rfl) ?_
  refine kX_isFree S hKX hM hg hS (tn a1) (by first | omega | assumption | grind) (Nat.le_of_ble_eq_true rfl) (Nat.le_of_ble_eq_true rfl) hl.1 (Nat.le_of_ble_eq_true rfl) dX1_house_9 (Nat.le_of_ble_eq_true rfl) (Nat.le_of_ble_eq_true rfl) (fun locs hS => ?_)
  have J_45 : ∀ yS0_45 : Int32, yS0_45 = nI ((mFree g (tn a1)) && ((xRoadAt g (tn a1) (g 7 4) 30) && (decide ((mBuilds g (g 7 4) false 24) < 4)))).toNat → ∀ (H : Heap) (locs : List Loc), XS D dA cn A pa g T H → va_S A s.heap H locs → ∀ ls : Array Slot, lv_has ls 2 [(0, .ref (pa (0, 0))), (1, .int (nI (tn a1)))] → W pr l en (rmF 18 17 24045 834) s m args below meth cd H locs (1) (6) (vx_MQ below (zc_Q Post A) (vc_X XPost A) args s 17 24045 A) (F0 m 45 ls [.int yS0_45, .ref (pa (0, 0))]) := by
    intro yS0_45 eyS0_45 H locs hM hS ls hl
    subst eyS0_45
    refine lv_sipush (v := nI 1111) hx hb dX1_house_45 zs_1111 ?_
    refine kX_checkBuilding hfl S hKX hM hg hS (fun q h => hA q (Nat.le_trans hS.1 h)) ((mFree g (tn a1)) && ((xRoadAt g (tn a1) (g 7 4) 30) && (decide ((mBuilds g (g 7 4) false 24) < 4)))) 1111 (by first | omega | assumption | grind) (by first | omega | assumption | grind) (Nat.le_of_ble_eq_true rfl) (Nat.le_of_ble_eq_true rfl) hl.1 (Nat.le_of_ble_eq_true rfl) dX1_house_48 (Nat.le_of_ble_eq_true rfl) (Nat.le_of_ble_eq_true rfl) hno hlk (Nat.le_of_ble_eq_true rfl) (Nat.le_of_ble_eq_true rfl) (fun c_7 H1 hM1 => hXP 3 (by first | (simp only [c_1, c_7, cdHouse, Bool.true_and, Bool.and_true, Bool.false_and, Bool.and_false, reduceIte, Bool.false_eq_true]; done) | (simp [c_1, c_7, cdHouse]; done) | grind | (simp_all; done)) (by decide) H1 hM1) (fun c_7 H locs hM hg hS => ?_)
    have hHG : hasG g (g 7 4) 1111 = true := by have q := c_7; simp only [Bool.and_eq_true, decide_eq_true_eq, Bool.not_eq_true', decide_eq_false_iff_not] at q; exact q.2.2
    have hr8n : ∀ p, p < 3 → roadsN (gs (giveX g (g 7 4) 3 1111 5) 2 (tn a1) (g 7 4 + 1)) p 30 ≤ 8 := by intro p hp; rw [roadsN_f3 (y := g) (fun j => (gs_nf _ (show (3 : Nat) ≠ 2 by decide)).trans (giveX_nf g (g 7 4) 3 1111 (by decide) (by decide) (by decide) 5 j))]; exact hr8 p hp
    have h6n : ∀ c, c < 24 → (gs (giveX g (g 7 4) 3 1111 5) 2 (tn a1) (g 7 4 + 1)) 2 c ≤ 6 := by
      intro c hc
      by_cases q : c = tn a1
      · subst q; rw [gs_eq]; omega
      · rw [gs_ni _ q, giveX_nf _ _ _ _ (by decide) (by decide) (by decide)]; exact h6 c hc
    refine lv_aload_n hx hb dX1_house_51 rfl (lv_at hl 0 rfl) ?_
    refine lv_sipush (v := nI 1111) hx hb dX1_house_52 zs_1111 ?_
    refine kX_pay S hKX hM hg hS (fun q h => hA q (Nat.le_trans hS.1 h)) 1111 (by first | omega | assumption | grind) (by first | omega | assumption | grind) (by exact hasG_le hHG) (by exact fun j hj => Nat.le_trans (hb4 j hj) (by decide)) (by first | omega | assumption | grind) (Nat.le_of_ble_eq_true rfl) (Nat.le_of_ble_eq_true rfl) hl.1 (Nat.le_of_ble_eq_true rfl) dX1_house_55 (Nat.le_of_ble_eq_true rfl) (Nat.le_of_ble_eq_true rfl) (fun H locs hM hg hS => ?_)
    refine lv_aload_n hx hb dX1_house_58 rfl (lv_at hl 0 rfl) ?_
    refine gX_buildings S hK hM dX1_house_59 ?_
    refine lv_iload_n hx hb dX1_house_62 rfl (lv_at hl 1 rfl) ?_
    refine nw_X4 S hK hM hS hA (Nat.le_of_ble_eq_true rfl) (Nat.le_of_ble_eq_true rfl) dX1_house_63 (fun q_8 H hM hS => ?_)
    refine lv_dup hx hb dX1_house_66 rfl ?_
    refine lv_aload_n hx hb dX1_house_67 rfl (lv_at hl 0 rfl) ?_
    refine gX_turn S hK hM (g 7 4) (by first | with_reducible rfl | exact giveX_nf _ _ _ _ (by decide) (by decide) (by decide) _ _ | exact (gDoneX_7 _ _ (by decide) (by decide)).trans ((gs_nf _ (show (7 : Nat) ≠ 2 by decide)).trans (giveX_nf _ _ _ _ (by decide) (by decide) (by decide) _ _))) dX1_house_68 ?_
    have hb_9 : g 7 4 < 1048576 := by first | exact hg 7 4 | exact hg0 _ _ | (have := hg 7 4; omega) | omega
    refine kN_X4 S hKX hM hS (Nat.le_of_ble_eq_true rfl) (Nat.le_of_ble_eq_true rfl) hl.1 (Nat.le_of_ble_eq_true rfl) (Nat.le_of_ble_eq_true rfl) (Nat.le_of_ble_eq_true rfl) dX1_house_71 (fun H locs hM hS => ?_)
    have hM : XS D dA cn A pa (giveX g (g 7 4) 3 1111 5) (T ++ [(q_8, .inr (3, [.int (mI (g 7 4 + 1))]))]) H := by rw [mI_succ]; exact hM
    refine sX_bldH S hKX (tn a1) (by omega) (g 7 4 + 1) (by omega) (by omega) hM hS dX1_house_74 (fun H locs hM hS => ?_)
    obtain ⟨pa1, hpa1⟩ : ∃ p : NM → Nat, p = upA pa (5, tn a1) q_8 := ⟨_, rfl⟩
    rw [← hpa1] at hM
    have hp0_1 : pa1 (0, 0) = pa (0, 0) := by rw [hpa1]; rfl
    rw [← hp0_1] at hl
    have hg : Sm (gs (giveX g (g 7 4) 3 1111 5) 2 (tn a1) (g 7 4 + 1)) := Sm_gs hg (by first | omega | exact Nat.lt_of_le_of_lt (Bool.toNat_le _) (by decide) | ((repeat' split) <;> omega))
    refine lv_aload_n hx hb dX1_house_75 rfl (lv_at hl 0 rfl) ?_
    refine lv_iconst (v := nI 1) hx hb dX1_house_76 zi_1 ?_
    refine kX_done S hKX hM hg hS (fun q h => hA q (Nat.le_trans hS.1 h)) true (by rw [gs_nf _ (show (7 : Nat) ≠ 2 by decide), giveX_nf _ _ _ _ (by decide) (by decide) (by decide)]; exact ht) (by exact h6n) (by exact hr8n) (by rw [gs_nf _ (show (7 : Nat) ≠ 2 by decide), giveX_nf _ _ _ _ (by decide) (by decide) (by decide)]; exact h7) (by rw [gs_nf _ (show (8 : Nat) ≠ 2 by decide), giveX_80]; exact hnc) (Nat.le_of_ble_eq_true rfl) (Nat.le_of_ble_eq_true rfl) hl.1 (Nat.le_of_ble_eq_true rfl) dX1_house_77 (Nat.le_of_ble_eq_true rfl) (Nat.le_of_ble_eq_true rfl) (fun H locs hM hg hS => ?_)
    refine lv_aload_n hx hb dX1_house_80 rfl (lv_at hl 0 rfl) ?_
    refine lv_aload_n hx hb dX1_house_81 rfl (lv_at hl 0 rfl) ?_
    refine gX_turn S hK hM (g 7 4) (by first | with_reducible rfl | exact giveX_nf _ _ _ _ (by decide) (by decide) (by decide) _ _ | exact (gDoneX_7 _ _ (by decide) (by decide)).trans ((gs_nf _ (show (7 : Nat) ≠ 2 by decide)).trans (giveX_nf _ _ _ _ (by decide) (by decide) (by decide) _ _))) dX1_house_82 ?_
    have hb_10 : g 7 4 < 1048576 := by first | exact hg 7 4 | exact hg0 _ _ | (have := hg 7 4; omega) | omega
    refine kX_pointsOf S hKX hM hg hS (fun q h => hA q (Nat.le_trans hS.1 h)) (g 7 4) (by exact ht) (by intro c hc; rw [gDoneX_nf _ _ (by decide)]; exact h6n c hc) (by rw [gDoneX_nf _ _ (by decide), gs_nf _ (show (8 : Nat) ≠ 2 by decide), giveX_80]; exact hnc) (Nat.le_of_ble_eq_true rfl) (Nat.le_of_ble_eq_true rfl) hl.1 (Nat.le_of_ble_eq_true rfl) dX1_house_85 (Nat.le_of_ble_eq_true rfl) (Nat.le_of_ble_eq_true rfl) (fun H locs hM hg hS => ?_)
    have f85_0 : xPts (gDoneX (gs (giveX g (g 7 4) 3 1111 5) 2 (tn a1) (g 7 4 + 1)) true) (g 7 4) < 1000 := xPts_lt hnc
    exact vx_ret (zc_nret (nI (xPts (gDoneX (gs (giveX g (g 7 4) 3 1111 5) 2 (tn a1) (g 7 4 + 1)) true) (g 7 4))) rfl (hPost (by first | rfl | (simp only [c_1, c_7, cdHouse, Bool.true_and, Bool.and_true, reduceIte]; done) | (simp [c_1, c_7, cdHouse]; done) | grind | (simp_all; done)) pa1 hp0_1 H hM hg) hS hx hb hr hlk (Nat.le_of_ble_eq_true rfl) (Nat.le_of_ble_eq_true rfl) dX1_house_88)
  refine zr_if_eqB (b := mFree g (tn a1)) (tgt := 44) hx hb dX1_house_12 (by decide) (fun c_11 => ?_) (fun c_11 => ?_)
  · refine lv_iconst (v := nI 0) hx hb dX1_house_44 zi_0 ?_
    exact J_45 _ (congrArg (fun z : Bool => nI z.toNat) (show (false : Bool) = ((mFree g (tn a1)) && ((xRoadAt g (tn a1) (g 7 4) 30) && (decide ((mBuilds g (g 7 4) false 24) < 4)))) from by first | with_reducible rfl | (simp [c_1, c_11, cdHouse]; done) | (simp only [c_1, c_11] <;> simp [cdHouse]; done) | (simp only [cdHouse, c_1, c_11] <;> simp [cdHouse]; done) | (simp [c_1, c_11, cdHouse, Bool.and_assoc]; done) | (simp [c_1, c_11, cdHouse, Bool.and_assoc, Bool.or_assoc]; done) | rfl | (simp [c_1, c_11, cdHouse]; omega) | (simp_all [cdHouse]; done))) H locs hM hS ls (lv_sub hl [0, 1] rfl)
  · refine lv_aload_n hx hb dX1_house_15 rfl (lv_at hl 0 rfl) ?_
    refine lv_iload_n hx hb dX1_house_16 rfl (lv_at hl 1 rfl) ?_
    refine lv_aload_n hx hb dX1_house_17 rfl (lv_at hl 0 rfl) ?_
    refine gX_turn S hK hM (g 7 4) rfl dX1_house_18 ?_
    have hb_12 : g 7 4 < 1048576 := by first | exact hg 7 4 | exact hg0 _ _ | (have := hg 7 4; omega) | omega
    refine kX_hasRoadAt S hKX hM hg hS (tn a1) (g 7 4) (by first | omega | assumption | grind) (by first | omega | assumption | grind) (Nat.le_of_ble_eq_true rfl) (Nat.le_of_ble_eq_true rfl) hl.1 (Nat.le_of_ble_eq_true rfl) dX1_house_21 (Nat.le_of_ble_eq_true rfl) (Nat.le_of_ble_eq_true rfl) (fun locs hS => ?_)
    refine zr_if_eqB (b := xRoadAt g (tn a1) (g 7 4) 30) (tgt := 44) hx hb dX1_house_24 (by decide) (fun c_13 => ?_) (fun c_13 => ?_)
    · refine lv_iconst (v := nI 0) hx hb dX1_house_44 zi_0 ?_
      exact J_45 _ (congrArg (fun z : Bool => nI z.toNat) (show (false : Bool) = ((mFree g (tn a1)) && ((xRoadAt g (tn a1) (g 7 4) 30) && (decide ((mBuilds g (g 7 4) false 24) < 4)))) from by first | with_reducible rfl | (simp [c_1, c_11, c_13, cdHouse]; done) | (simp only [c_1, c_11, c_13] <;> simp [cdHouse]; done) | (simp only [cdHouse, c_1, c_11, c_13] <;> simp [cdHouse]; done) | (simp [c_1, c_11, c_13, cdHouse, Bool.and_assoc]; done) | (simp [c_1, c_11, c_13, cdHouse, Bool.and_assoc, Bool.or_assoc]; done) | rfl | (simp [c_1, c_11, c_13, cdHouse]; omega) | (simp_all [cdHouse]; done))) H locs hM hS ls (lv_sub hl [0, 1] rfl)
    · refine lv_aload_n hx hb dX1_house_27 rfl (lv_at hl 0 rfl) ?_
      refine lv_aload_n hx hb dX1_house_28 rfl (lv_at hl 0 rfl) ?_
      refine gX_turn S hK hM (g 7 4) rfl dX1_house_29 ?_
      have hb_14 : g 7 4 < 1048576 := by first | exact hg 7 4 | exact hg0 _ _ | (have := hg 7 4; omega) | omega
      refine lv_iconst (v := nI 0) hx hb dX1_house_32 zi_0 ?_
      refine kX_buildingsOf S hKX hM hg hS (g 7 4) false (by first | omega | assumption | grind) (by first | omega | assumption | grind) (Nat.le_of_ble_eq_true rfl) (Nat.le_of_ble_eq_true rfl) hl.1 (Nat.le_of_ble_eq_true rfl) dX1_house_33 (Nat.le_of_ble_eq_true rfl) (Nat.le_of_ble_eq_true rfl) (fun locs hS => ?_)
      have f33_0 : mBuilds g (g 7 4) false 24 ≤ 24 := sm_b _ _
      refine lv_iconst (v := nI 4) hx hb dX1_house_36 zi_4 ?_
      refine zr_icmp_geN (a := (mBuilds g (g 7 4) false 24)) (b := 4) (tgt := 44) hx hb (by omega) (by omega) dX1_house_37 (by decide) (fun c_15 => ?_) (fun c_15 => ?_)
      · refine lv_iconst (v := nI 0) hx hb dX1_house_44 zi_0 ?_
        exact J_45 _ (congrArg (fun z : Bool => nI z.toNat) (show (false : Bool) = ((mFree g (tn a1)) && ((xRoadAt g (tn a1) (g 7 4) 30) && (decide ((mBuilds g (g 7 4) false 24) < 4)))) from by first | with_reducible rfl | (simp [c_1, c_11, c_13, c_15, cdHouse]; done) | (simp only [c_1, c_11, c_13, c_15] <;> simp [cdHouse]; done) | (simp only [cdHouse, c_1, c_11, c_13, c_15] <;> simp [cdHouse]; done) | (simp [c_1, c_11, c_13, c_15, cdHouse, Bool.and_assoc]; done) | (simp [c_1, c_11, c_13, c_15, cdHouse, Bool.and_assoc, Bool.or_assoc]; done) | rfl | (simp [c_1, c_11, c_13, c_15, cdHouse]; omega) | (simp_all [cdHouse]; done))) H locs hM hS ls (lv_sub hl [0, 1] rfl)
      · refine lv_iconst (v := nI 1) hx hb dX1_house_40 zi_1 ?_
        refine lv_goto (tgt := 45) hx hb dX1_house_41 (by decide) ?_
        exact J_45 _ (congrArg (fun z : Bool => nI z.toNat) (show (true : Bool) = ((mFree g (tn a1)) && ((xRoadAt g (tn a1) (g 7 4) 30) && (decide ((mBuilds g (g 7 4) false 24) < 4)))) from by first | with_reducible rfl | (simp [c_1, c_11, c_13, c_15, cdHouse]; done) | (simp only [c_1, c_11, c_13, c_15] <;> simp [cdHouse]; done) | (simp only [cdHouse, c_1, c_11, c_13, c_15] <;> simp [cdHouse]; done) | (simp [c_1, c_11, c_13, c_15, cdHouse, Bool.and_assoc]; done) | (simp [c_1, c_11, c_13, c_15, cdHouse, Bool.and_assoc, Bool.or_assoc]; done) | rfl | (simp [c_1, c_11, c_13, c_15, cdHouse]; omega) | (simp_all [cdHouse]; done))) H locs hM hS ls (lv_sub hl [0, 1] rfl)
def cdCity (g : G) (a1 : Int32) : Nat := (if (inB a1 24) = true then (if (decide (g 7 1 = 2) && ((decide (own1 g (tn a1) = g 7 4 + 1) && (!mCity g (tn a1) && decide (mBuilds g (g 7 4) true 24 < 3))) && hasG g (g 7 4) 32000)) = true then 0 else 3) else 1)
set_option maxHeartbeats 1000000 in
set_option maxRecDepth 100000 in
theorem cX_city (l : Launch) (hfl : l.stackTraces = false) {D : va_G} {dA : Nat → ClassId} {cn : Nat → Nat} {A : Nat → Prop} {pa : NM → Nat} {g : G} {T : va_W} (hg : Sm g) (a1 : Int32) (ht : g 7 4 < 3) (hb4 : ∀ j, j < 20 → g 4 j ≤ 100) (hv : g 8 1 ≤ 1900) (h6 : ∀ c, c < 24 → g 2 c ≤ 6) (hr8 : ∀ p, p < 3 → roadsN g p 30 ≤ 8) (h7 : g 7 7 ≤ 3) (hnc : g 8 0 ≤ 15) (H0 : Heap) (hM : XS D dA cn A pa g T H0) (hA : ∀ q, H0.size ≤ q → A q) {Post : Option Value → Heap → Prop} {XPost : String → Heap → Prop} (hPost : (cdCity g a1) = 0 → ∀ (pa1 : NM → Nat), pa1 (0, 0) = pa (0, 0) → ∀ H : Heap, XS D dA cn A pa1 (gDoneX (gs (giveX g (g 7 4) 3 32000 5) 2 (tn a1) (g 7 4 + 4)) true) T H → Sm (gDoneX (gs (giveX g (g 7 4) 3 32000 5) 2 (tn a1) (g 7 4 + 4)) true) → Post (some (.int (nI (xPts (gDoneX (gs (giveX g (g 7 4) 3 32000 5) 2 (tn a1) (g 7 4 + 4)) true) (g 7 4))))) H) (hXP : ∀ n : Nat, (cdCity g a1) = n → n ≠ 0 → ∀ H : Heap, XS D dA cn A pa g T H → XPost (exS n) H) : vCt l yX1_city (ws_ yX1_city cX1_city 2 (some .int)) (rmF 18 17 24045 834) A (KX D dA cn A) [.ref (pa (0, 0)), .int a1] H0 Post XPost := by
  refine vc_of RX1 rfl (by decide) (Nat.le_of_ble_eq_true rfl) ?_
  intro pr en s m args below meth cd S hr hlk hnm hno hh hKX ls hl
  have hS : va_S A s.heap H0 [] := zc_start hh
  have hA : ∀ q, s.heap.size ≤ q → A q := fun q h => hA q (by rw [← hh]; exact h)
  have hg0 := hg
  have hx := S.1
  have hb := S.2.1
  have hown := S.2.2.2.1
  have hts := S.2.2.2.2
  have hK := hKX.1
  have hN := hKX.2.1.1
  have hl : lv_has ls 2 [(0, .ref (pa (0, 0))), (1, .int a1)] := hl
  refine lv_iload_n hx hb dX1_city_0 rfl (lv_at hl 1 rfl) ?_
  refine lv_bipush (v := nI 24) hx hb dX1_city_1 zb_24 ?_
  refine kX_check hfl S hKX hM hg hS (fun q h => hA q (Nat.le_trans hS.1 h)) a1 24 (by first | omega | assumption | grind) (Nat.le_of_ble_eq_true rfl) (Nat.le_of_ble_eq_true rfl) hl.1 (Nat.le_of_ble_eq_true rfl) dX1_city_3 (Nat.le_of_ble_eq_true rfl) (Nat.le_of_ble_eq_true rfl) hno hlk (Nat.le_of_ble_eq_true rfl) (Nat.le_of_ble_eq_true rfl) (fun c_1 H1 hM1 => hXP 1 (by first | (simp only [c_1, cdCity, Bool.true_and, Bool.and_true, Bool.false_and, Bool.and_false, reduceIte, Bool.false_eq_true]; done) | (simp [c_1, cdCity]; done) | grind | (simp_all; done)) (by decide) H1 hM1) (fun c_1 H locs hM hg hS => ?_)
  obtain ⟨hj1, ea1⟩ := inB_tn (by decide) c_1
  rw [ea1] at hl
  refine lv_aload_n hx hb dX1_city_6 rfl (lv_at hl 0 rfl) ?_
  refine lv_aload_n hx hb dX1_city_7 rfl (lv_at hl 0 rfl) ?_
  refine lv_iload_n hx hb dX1_city_8 rfl (lv_at hl 1 rfl) ?_
  refine lv_aload_n hx hb dX1_city_9 rfl (lv_at hl 0 rfl) ?_
  refine gX_turn S hK hM (g 7 4) rfl dX1_city_10 ?_
  have hb_2 : g 7 4 < 1048576 := by first | exact hg 7 4 | exact hg0 _ _ | (have := hg 7 4; omega) | omega
  refine kX_isOf S hKX hM hg hS (tn a1) (g 7 4) (by first | omega | assumption | grind) (by first | omega | assumption | grind) (by first | omega | assumption | grind) (Nat.le_of_ble_eq_true rfl) (Nat.le_of_ble_eq_true rfl) hl.1 (Nat.le_of_ble_eq_true rfl) dX1_city_13 (Nat.le_of_ble_eq_true rfl) (Nat.le_of_ble_eq_true rfl) (fun locs hS => ?_)
  have J_49 : ∀ yS0_49 : Int32, yS0_49 = nI ((decide (own1 g (tn a1) = (g 7 4) + 1)) && ((!mCity g (tn a1)) && (decide ((mBuilds g (g 7 4) true 24) < 3)))).toNat → ∀ (H : Heap) (locs : List Loc), XS D dA cn A pa g T H → va_S A s.heap H locs → ∀ ls : Array Slot, lv_has ls 2 [(0, .ref (pa (0, 0))), (1, .int (nI (tn a1)))] → W pr l en (rmF 18 17 24045 834) s m args below meth cd H locs (1) (6) (vx_MQ below (zc_Q Post A) (vc_X XPost A) args s 17 24045 A) (F0 m 49 ls [.int yS0_49, .ref (pa (0, 0))]) := by
    intro yS0_49 eyS0_49 H locs hM hS ls hl
    subst eyS0_49
    refine lv_sipush (v := nI 32000) hx hb dX1_city_49 zs_32000 ?_
    refine kX_checkBuilding hfl S hKX hM hg hS (fun q h => hA q (Nat.le_trans hS.1 h)) ((decide (own1 g (tn a1) = (g 7 4) + 1)) && ((!mCity g (tn a1)) && (decide ((mBuilds g (g 7 4) true 24) < 3)))) 32000 (by first | omega | assumption | grind) (by first | omega | assumption | grind) (Nat.le_of_ble_eq_true rfl) (Nat.le_of_ble_eq_true rfl) hl.1 (Nat.le_of_ble_eq_true rfl) dX1_city_52 (Nat.le_of_ble_eq_true rfl) (Nat.le_of_ble_eq_true rfl) hno hlk (Nat.le_of_ble_eq_true rfl) (Nat.le_of_ble_eq_true rfl) (fun c_7 H1 hM1 => hXP 3 (by first | (simp only [c_1, c_7, cdCity, Bool.true_and, Bool.and_true, Bool.false_and, Bool.and_false, reduceIte, Bool.false_eq_true]; done) | (simp [c_1, c_7, cdCity]; done) | grind | (simp_all; done)) (by decide) H1 hM1) (fun c_7 H locs hM hg hS => ?_)
    have hHG : hasG g (g 7 4) 32000 = true := by have q := c_7; simp only [Bool.and_eq_true, decide_eq_true_eq, Bool.not_eq_true', decide_eq_false_iff_not] at q; exact q.2.2
    have hr8n : ∀ p, p < 3 → roadsN (gs (giveX g (g 7 4) 3 32000 5) 2 (tn a1) (g 7 4 + 4)) p 30 ≤ 8 := by intro p hp; rw [roadsN_f3 (y := g) (fun j => (gs_nf _ (show (3 : Nat) ≠ 2 by decide)).trans (giveX_nf g (g 7 4) 3 32000 (by decide) (by decide) (by decide) 5 j))]; exact hr8 p hp
    have h6n : ∀ c, c < 24 → (gs (giveX g (g 7 4) 3 32000 5) 2 (tn a1) (g 7 4 + 4)) 2 c ≤ 6 := by
      intro c hc
      by_cases q : c = tn a1
      · subst q; rw [gs_eq]; omega
      · rw [gs_ni _ q, giveX_nf _ _ _ _ (by decide) (by decide) (by decide)]; exact h6 c hc
    refine lv_aload_n hx hb dX1_city_55 rfl (lv_at hl 0 rfl) ?_
    refine lv_sipush (v := nI 32000) hx hb dX1_city_56 zs_32000 ?_
    refine kX_pay S hKX hM hg hS (fun q h => hA q (Nat.le_trans hS.1 h)) 32000 (by first | omega | assumption | grind) (by first | omega | assumption | grind) (by exact hasG_le hHG) (by exact fun j hj => Nat.le_trans (hb4 j hj) (by decide)) (by first | omega | assumption | grind) (Nat.le_of_ble_eq_true rfl) (Nat.le_of_ble_eq_true rfl) hl.1 (Nat.le_of_ble_eq_true rfl) dX1_city_59 (Nat.le_of_ble_eq_true rfl) (Nat.le_of_ble_eq_true rfl) (fun H locs hM hg hS => ?_)
    refine lv_aload_n hx hb dX1_city_62 rfl (lv_at hl 0 rfl) ?_
    refine gX_buildings S hK hM dX1_city_63 ?_
    refine lv_iload_n hx hb dX1_city_66 rfl (lv_at hl 1 rfl) ?_
    refine nw_X6 S hK hM hS hA (Nat.le_of_ble_eq_true rfl) (Nat.le_of_ble_eq_true rfl) dX1_city_67 (fun q_8 H hM hS => ?_)
    refine lv_dup hx hb dX1_city_70 rfl ?_
    refine lv_aload_n hx hb dX1_city_71 rfl (lv_at hl 0 rfl) ?_
    refine gX_turn S hK hM (g 7 4) (by first | with_reducible rfl | exact giveX_nf _ _ _ _ (by decide) (by decide) (by decide) _ _ | exact (gDoneX_7 _ _ (by decide) (by decide)).trans ((gs_nf _ (show (7 : Nat) ≠ 2 by decide)).trans (giveX_nf _ _ _ _ (by decide) (by decide) (by decide) _ _))) dX1_city_72 ?_
    have hb_9 : g 7 4 < 1048576 := by first | exact hg 7 4 | exact hg0 _ _ | (have := hg 7 4; omega) | omega
    refine kN_X6 S hKX hM hS (Nat.le_of_ble_eq_true rfl) (Nat.le_of_ble_eq_true rfl) hl.1 (Nat.le_of_ble_eq_true rfl) (Nat.le_of_ble_eq_true rfl) (Nat.le_of_ble_eq_true rfl) dX1_city_75 (fun H locs hM hS => ?_)
    refine sX_bldC S hKX (tn a1) (by omega) (g 7 4) hM hS dX1_city_78 (fun H locs hM hS => ?_)
    obtain ⟨pa1, hpa1⟩ : ∃ p : NM → Nat, p = upA pa (5, tn a1) q_8 := ⟨_, rfl⟩
    rw [← hpa1] at hM
    have hp0_1 : pa1 (0, 0) = pa (0, 0) := by rw [hpa1]; rfl
    rw [← hp0_1] at hl
    have hg : Sm (gs (giveX g (g 7 4) 3 32000 5) 2 (tn a1) (g 7 4 + 4)) := Sm_gs hg (by first | omega | exact Nat.lt_of_le_of_lt (Bool.toNat_le _) (by decide) | ((repeat' split) <;> omega))
    refine lv_aload_n hx hb dX1_city_79 rfl (lv_at hl 0 rfl) ?_
    refine lv_iconst (v := nI 1) hx hb dX1_city_80 zi_1 ?_
    refine kX_done S hKX hM hg hS (fun q h => hA q (Nat.le_trans hS.1 h)) true (by rw [gs_nf _ (show (7 : Nat) ≠ 2 by decide), giveX_nf _ _ _ _ (by decide) (by decide) (by decide)]; exact ht) (by exact h6n) (by exact hr8n) (by rw [gs_nf _ (show (7 : Nat) ≠ 2 by decide), giveX_nf _ _ _ _ (by decide) (by decide) (by decide)]; exact h7) (by rw [gs_nf _ (show (8 : Nat) ≠ 2 by decide), giveX_80]; exact hnc) (Nat.le_of_ble_eq_true rfl) (Nat.le_of_ble_eq_true rfl) hl.1 (Nat.le_of_ble_eq_true rfl) dX1_city_81 (Nat.le_of_ble_eq_true rfl) (Nat.le_of_ble_eq_true rfl) (fun H locs hM hg hS => ?_)
    refine lv_aload_n hx hb dX1_city_84 rfl (lv_at hl 0 rfl) ?_
    refine lv_aload_n hx hb dX1_city_85 rfl (lv_at hl 0 rfl) ?_
    refine gX_turn S hK hM (g 7 4) (by first | with_reducible rfl | exact giveX_nf _ _ _ _ (by decide) (by decide) (by decide) _ _ | exact (gDoneX_7 _ _ (by decide) (by decide)).trans ((gs_nf _ (show (7 : Nat) ≠ 2 by decide)).trans (giveX_nf _ _ _ _ (by decide) (by decide) (by decide) _ _))) dX1_city_86 ?_
    have hb_10 : g 7 4 < 1048576 := by first | exact hg 7 4 | exact hg0 _ _ | (have := hg 7 4; omega) | omega
    refine kX_pointsOf S hKX hM hg hS (fun q h => hA q (Nat.le_trans hS.1 h)) (g 7 4) (by exact ht) (by intro c hc; rw [gDoneX_nf _ _ (by decide)]; exact h6n c hc) (by rw [gDoneX_nf _ _ (by decide), gs_nf _ (show (8 : Nat) ≠ 2 by decide), giveX_80]; exact hnc) (Nat.le_of_ble_eq_true rfl) (Nat.le_of_ble_eq_true rfl) hl.1 (Nat.le_of_ble_eq_true rfl) dX1_city_89 (Nat.le_of_ble_eq_true rfl) (Nat.le_of_ble_eq_true rfl) (fun H locs hM hg hS => ?_)
    have f89_0 : xPts (gDoneX (gs (giveX g (g 7 4) 3 32000 5) 2 (tn a1) (g 7 4 + 4)) true) (g 7 4) < 1000 := xPts_lt hnc
    exact vx_ret (zc_nret (nI (xPts (gDoneX (gs (giveX g (g 7 4) 3 32000 5) 2 (tn a1) (g 7 4 + 4)) true) (g 7 4))) rfl (hPost (by first | rfl | (simp only [c_1, c_7, cdCity, Bool.true_and, Bool.and_true, reduceIte]; done) | (simp [c_1, c_7, cdCity]; done) | grind | (simp_all; done)) pa1 hp0_1 H hM hg) hS hx hb hr hlk (Nat.le_of_ble_eq_true rfl) (Nat.le_of_ble_eq_true rfl) dX1_city_92)
  refine zr_if_eqB (b := decide (own1 g (tn a1) = (g 7 4) + 1)) (tgt := 48) hx hb dX1_city_16 (by decide) (fun c_11 => ?_) (fun c_11 => ?_)
  · refine lv_iconst (v := nI 0) hx hb dX1_city_48 zi_0 ?_
    exact J_49 _ (congrArg (fun z : Bool => nI z.toNat) (show (false : Bool) = ((decide (own1 g (tn a1) = (g 7 4) + 1)) && ((!mCity g (tn a1)) && (decide ((mBuilds g (g 7 4) true 24) < 3)))) from by first | with_reducible rfl | (simp [c_1, c_11, cdCity]; done) | (simp only [c_1, c_11] <;> simp [cdCity]; done) | (simp only [cdCity, c_1, c_11] <;> simp [cdCity]; done) | (simp [c_1, c_11, cdCity, Bool.and_assoc]; done) | (simp [c_1, c_11, cdCity, Bool.and_assoc, Bool.or_assoc]; done) | rfl | (simp [c_1, c_11, cdCity]; omega) | (simp_all [cdCity]; done))) H locs hM hS ls (lv_sub hl [0, 1] rfl)
  · refine lv_aload_n hx hb dX1_city_19 rfl (lv_at hl 0 rfl) ?_
    refine gX_buildings S hK hM dX1_city_20 ?_
    refine lv_iload_n hx hb dX1_city_23 rfl (lv_at hl 1 rfl) ?_
    have hkz : decide (g 2 (tn a1) ≠ 0) = true := by have q := c_11; simp only [decide_eq_true_eq] at q; exact decide_eq_true (own1_nz q)
    refine lX_bldY S hK hM (tn a1) (by omega) hkz dX1_city_24 ?_
    refine kI_isHouse S hKX hM (tn a1) (by omega) hkz dX1_city_25 ?_
    refine zr_if_eqB (b := !mCity g (tn a1)) (tgt := 48) hx hb dX1_city_28 (by decide) (fun c_12 => ?_) (fun c_12 => ?_)
    · refine lv_iconst (v := nI 0) hx hb dX1_city_48 zi_0 ?_
      exact J_49 _ (congrArg (fun z : Bool => nI z.toNat) (show (false : Bool) = ((decide (own1 g (tn a1) = (g 7 4) + 1)) && ((!mCity g (tn a1)) && (decide ((mBuilds g (g 7 4) true 24) < 3)))) from by first | with_reducible rfl | (simp [c_1, c_11, c_12, cdCity]; done) | (simp only [c_1, c_11, c_12] <;> simp [cdCity]; done) | (simp only [cdCity, c_1, c_11, c_12] <;> simp [cdCity]; done) | (simp [c_1, c_11, c_12, cdCity, Bool.and_assoc]; done) | (simp [c_1, c_11, c_12, cdCity, Bool.and_assoc, Bool.or_assoc]; done) | rfl | (simp [c_1, c_11, c_12, cdCity]; omega) | (simp_all [cdCity]; done))) H locs hM hS ls (lv_sub hl [0, 1] rfl)
    · refine lv_aload_n hx hb dX1_city_31 rfl (lv_at hl 0 rfl) ?_
      refine lv_aload_n hx hb dX1_city_32 rfl (lv_at hl 0 rfl) ?_
      refine gX_turn S hK hM (g 7 4) rfl dX1_city_33 ?_
      have hb_13 : g 7 4 < 1048576 := by first | exact hg 7 4 | exact hg0 _ _ | (have := hg 7 4; omega) | omega
      refine lv_iconst (v := nI 1) hx hb dX1_city_36 zi_1 ?_
      refine kX_buildingsOf S hKX hM hg hS (g 7 4) true (by first | omega | assumption | grind) (by first | omega | assumption | grind) (Nat.le_of_ble_eq_true rfl) (Nat.le_of_ble_eq_true rfl) hl.1 (Nat.le_of_ble_eq_true rfl) dX1_city_37 (Nat.le_of_ble_eq_true rfl) (Nat.le_of_ble_eq_true rfl) (fun locs hS => ?_)
      have f37_0 : mBuilds g (g 7 4) true 24 ≤ 24 := sm_b _ _
      refine lv_iconst (v := nI 3) hx hb dX1_city_40 zi_3 ?_
      refine zr_icmp_geN (a := (mBuilds g (g 7 4) true 24)) (b := 3) (tgt := 48) hx hb (by omega) (by omega) dX1_city_41 (by decide) (fun c_14 => ?_) (fun c_14 => ?_)
      · refine lv_iconst (v := nI 0) hx hb dX1_city_48 zi_0 ?_
        exact J_49 _ (congrArg (fun z : Bool => nI z.toNat) (show (false : Bool) = ((decide (own1 g (tn a1) = (g 7 4) + 1)) && ((!mCity g (tn a1)) && (decide ((mBuilds g (g 7 4) true 24) < 3)))) from by first | with_reducible rfl | (simp [c_1, c_11, c_12, c_14, cdCity]; done) | (simp only [c_1, c_11, c_12, c_14] <;> simp [cdCity]; done) | (simp only [cdCity, c_1, c_11, c_12, c_14] <;> simp [cdCity]; done) | (simp [c_1, c_11, c_12, c_14, cdCity, Bool.and_assoc]; done) | (simp [c_1, c_11, c_12, c_14, cdCity, Bool.and_assoc, Bool.or_assoc]; done) | rfl | (simp [c_1, c_11, c_12, c_14, cdCity]; omega) | (simp_all [cdCity]; done))) H locs hM hS ls (lv_sub hl [0, 1] rfl)
      · refine lv_iconst (v := nI 1) hx hb dX1_city_44 zi_1 ?_
        refine lv_goto (tgt := 49) hx hb dX1_city_45 (by decide) ?_
        exact J_49 _ (congrArg (fun z : Bool => nI z.toNat) (show (true : Bool) = ((decide (own1 g (tn a1) = (g 7 4) + 1)) && ((!mCity g (tn a1)) && (decide ((mBuilds g (g 7 4) true 24) < 3)))) from by first | with_reducible rfl | (simp [c_1, c_11, c_12, c_14, cdCity]; done) | (simp only [c_1, c_11, c_12, c_14] <;> simp [cdCity]; done) | (simp only [cdCity, c_1, c_11, c_12, c_14] <;> simp [cdCity]; done) | (simp [c_1, c_11, c_12, c_14, cdCity, Bool.and_assoc]; done) | (simp [c_1, c_11, c_12, c_14, cdCity, Bool.and_assoc, Bool.or_assoc]; done) | rfl | (simp [c_1, c_11, c_12, c_14, cdCity]; omega) | (simp_all [cdCity]; done))) H locs hM hS ls (lv_sub hl [0, 1] rfl)
