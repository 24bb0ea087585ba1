/-! THE MODEL: building, cards (printed by gen/m8.py) -/
theorem roadsN_f3 {y z : G} (h : ∀ j, z 3 j = y 3 j) (p i : Nat) : roadsN z p i = roadsN y p i := by
  refine eu_sm_congr (fun e _ => ?_)
  rw [h]
theorem roadsN_set (y : G) (e v p : Nat) : ∀ i, roadsN (gs y 3 e v) p i ≤ roadsN y p i + (decide (v = p + 1)).toNat := by
  intro i
  have h1 : ∀ i, roadsN (gs y 3 e v) p i ≤ roadsN y p i + (if e < i then (decide (v = p + 1)).toNat else 0) := by
    intro i
    induction i with
    | zero => exact Nat.zero_le _
    | succ i ih =>
      rw [roadsN_succ, roadsN_succ]
      by_cases q : i = e
      · subst q
        rw [gs_eq, if_pos (Nat.lt_succ_self _)]
        rw [if_neg (Nat.lt_irrefl _)] at ih
        omega
      · rw [gs_ni _ q]
        by_cases r : e < i
        · rw [if_pos r] at ih; rw [if_pos (by omega)]; omega
        · rw [if_neg r] at ih; rw [if_neg (by omega)]; omega
  have h2 := h1 i
  split at h2 <;> omega
theorem gTr_nf (y : G) {f : Nat} (h1 : f ≠ 20) (h2 : f ≠ 7) (j : Nat) : gTr y f j = y f j := by
  unfold gTr; rw [gs_nf _ h2, gL_nf _ h1, gL_nf _ h1]
theorem gTr_7 (y : G) {j : Nat} (h : j ≠ 7) : gTr y 7 j = y 7 j := by
  unfold gTr; rw [gs_ni _ h, gL_nf _ (by decide), gL_nf _ (by decide)]
theorem gLay_nf (y : G) (e : Nat) {f : Nat} (h1 : f ≠ 20) (h2 : f ≠ 7) (j : Nat) : gLay y e f j = gs y 3 e (y 7 4 + 1) f j := gTr_nf _ h1 h2 j
theorem gLay_7 (y : G) (e : Nat) {j : Nat} (h : j ≠ 7) : gLay y e 7 j = y 7 j := (gTr_7 _ h).trans (gs_nf _ (by decide))
theorem gWin_nf (y : G) {f : Nat} (h2 : f ≠ 7) (j : Nat) : gWin y f j = y f j := by unfold gWin; rw [gs_nf _ h2]
theorem gWin_7 (y : G) {j : Nat} (h : j ≠ 1) : gWin y 7 j = y 7 j := by unfold gWin; rw [gs_ni _ h]
/-- a road laid: no player has more than 8 -/
theorem lay_roads {g y : G} {e t : Nat} (h3 : ∀ j, y 3 j = g 3 j) (hr8 : ∀ p, p < 3 → roadsN g p 30 ≤ 8) (hlt : roadsN g t 30 < 8) : ∀ p, p < 3 → roadsN (gs y 3 e (t + 1)) p 30 ≤ 8 := by
  intro p hp
  have h1 := roadsN_set y e (t + 1) p 30
  rw [roadsN_f3 h3] at h1
  by_cases q : p = t
  · subst q
    have : (decide (p + 1 = p + 1)).toNat ≤ 1 := Bool.toNat_le _
    omega
  · have : (decide (t + 1 = p + 1)).toNat = 0 := by simp; omega
    have := hr8 p hp
    omega
def mRoadG (g : G) (a1 : Int32) : G := if (inB a1 30) = true then (if (decide (g 7 1 = 2) && (hasG (gs g 22 0 0) (g 7 4) 11 && mMayRoad (gs g 22 0 0) (g 7 4) (tn a1))) = true then (gO (gWin (gLay (gPay (gs g 22 0 0) 11) (tn a1))) (g 7 4) 30) else gs (gs g 22 0 0) 22 0 2) else gs g 22 0 1
def mRoadR (g : G) (a1 : Int32) : Nat := if (inB a1 30) = true then (if (decide (g 7 1 = 2) && (hasG (gs g 22 0 0) (g 7 4) 11 && mMayRoad (gs g 22 0 0) (g 7 4) (tn a1))) = true then (trailN (gWin (gLay (gPay (gs g 22 0 0) 11) (tn a1))) (g 7 4)) else 0) else 0
set_option maxHeartbeats 1000000 in
set_option maxRecDepth 100000 in
theorem cM_road (l : Launch) {D : va_G} {dA : Nat → ClassId} {A : Nat → Prop} {ad : Nat → Nat} {g : G} (hg : Sm g) (a1 : Int32) (ht : g 7 4 < 3) (hb4 : ∀ j, j < 20 → g 4 j ≤ 100) (hr8 : ∀ p, p < 3 → roadsN g p 30 ≤ 8) (H0 : Heap) (hM : MS D dA A ad g H0) {Post : Option Value → Heap → Prop} (hPost : ∀ H : Heap, MS D dA A ad (mRoadG g a1) H → Sm (mRoadG g a1) → Post (some (.int (nI (mRoadR g a1)))) H) : Ct l yX3_road (ws_ yX3_road cX3_road 2 (some .int)) (rmF 8 0 0 177) A (KT D dA) [.ref (ad 0), .int a1] H0 Post := by
  refine zc_of RX3 rfl (by decide) (Nat.le_of_ble_eq_true rfl) ?_
  intro pr en s m args below meth cd S hr hlk hnm hh hK ls hl
  have hS : va_S A s.heap H0 [] := zc_start hh
  have hg0 := hg
  have hx := S.1
  have hb := S.2.1
  have hown := S.2.2.2.1
  have hts := S.2.2.2.2
  have hl : lv_has ls 2 [(0, .ref (ad 0)), (1, .int a1)] := hl
  have hb5 : ∀ j, j < 20 → gs g 22 0 0 4 j ≤ 100 := hb4
  refine lv_aload_n hx hb dX3_road_0 rfl (lv_at hl 0 rfl) ?_
  refine lv_iload_n hx hb dX3_road_1 rfl (lv_at hl 1 rfl) ?_
  refine kM_isEdge S hK hM hg hS a1  (Nat.le_of_ble_eq_true rfl) (Nat.le_of_ble_eq_true rfl) hl.1 (Nat.le_of_ble_eq_true rfl) dX3_road_2 (Nat.zero_le _) (Nat.zero_le _) (fun locs hS => ?_)
  refine kM_asks S hK hM hg hS (inB a1 30)  (Nat.le_of_ble_eq_true rfl) (Nat.le_of_ble_eq_true rfl) hl.1 (Nat.le_of_ble_eq_true rfl) dX3_road_5 (Nat.zero_le _) (Nat.zero_le _) (fun H locs hM hg hS => ?_)
  refine zr_if_neB (b := (inB a1 30)) (tgt := 13) hx hb dX3_road_8 (by decide) (fun c_1 => ?_) (fun c_1 => ?_)
  · rw [show (!(inB a1 30)).toNat = 0 from by rw [c_1]; rfl] at hM hg
    obtain ⟨hj1, ea1⟩ := inB_tn (by decide) c_1
    rw [ea1] at hl
    refine lv_aload_n hx hb dX3_road_13 rfl (lv_at hl 0 rfl) ?_
    refine gM_phase S hK hM (g 7 1) (by first | rfl | simp [gs]) dX3_road_14 ?_
    have hb_2 : g 7 1 < 1048576 := by first | exact hg 7 1 | exact hg0 _ _ | (have := hg 7 1; omega) | omega
    refine lv_iconst (v := nI 2) hx hb dX3_road_17 zi_2 ?_
    refine zr_icmp_neN (a := (g 7 1)) (b := 2) (tgt := 46) hx hb (by omega) (by omega) dX3_road_18 (by decide) (fun c_3 => ?_) (fun c_3 => ?_)
    · refine lv_aload_n hx hb dX3_road_46 rfl (lv_at hl 0 rfl) ?_
      refine lv_iconst (v := nI 2) hx hb dX3_road_47 zi_2 ?_
      refine kM_fails S hK hM hg hS 2 (by first | omega | assumption | grind) (Nat.le_of_ble_eq_true rfl) (Nat.le_of_ble_eq_true rfl) hl.1 (Nat.le_of_ble_eq_true rfl) dX3_road_48 (Nat.zero_le _) (Nat.zero_le _) (fun H locs hM hg hS => ?_)
      rw [show (gs (gs g 22 0 0) 22 0 2 : G) = mRoadG g a1 from by first | with_reducible rfl | (simp [c_1, c_3, gA, mRoadG, mRoadR]; done) | (simp only [c_1, c_3] <;> simp [gA, mRoadG, mRoadR]; done) | (simp only [gA, mRoadG, mRoadR, c_1, c_3] <;> simp [gA, mRoadG, mRoadR]; done) | (simp [c_1, c_3, gA, mRoadG, mRoadR, Bool.and_assoc]; done) | (simp [c_1, c_3, gA, mRoadG, mRoadR, Bool.and_assoc, Bool.or_assoc]; done) | rfl | (simp [c_1, c_3, gA, mRoadG, mRoadR]; omega)] at hM hg
      exact zc_nret (nI (mRoadR g a1)) (congrArg nI (show (0 : Nat) = (mRoadR g a1) from by first | with_reducible rfl | (simp [c_1, c_3, gA, mRoadG, mRoadR]; done) | (simp only [c_1, c_3] <;> simp [gA, mRoadG, mRoadR]; done) | (simp only [gA, mRoadG, mRoadR, c_1, c_3] <;> simp [gA, mRoadG, mRoadR]; done) | (simp [c_1, c_3, gA, mRoadG, mRoadR, Bool.and_assoc]; done) | (simp [c_1, c_3, gA, mRoadG, mRoadR, Bool.and_assoc, Bool.or_assoc]; done) | rfl | (simp [c_1, c_3, gA, mRoadG, mRoadR]; omega))) (hPost H hM hg) hS hx hb hr hlk (Nat.zero_le _) (Nat.zero_le _) dX3_road_51
    · refine lv_aload_n hx hb dX3_road_21 rfl (lv_at hl 0 rfl) ?_
      refine lv_aload_n hx hb dX3_road_22 rfl (lv_at hl 0 rfl) ?_
      refine gM_turn S hK hM (g 7 4) (by first | rfl | simp [gs]) dX3_road_23 ?_
      have hb_4 : g 7 4 < 1048576 := by first | exact hg 7 4 | exact hg0 _ _ | (have := hg 7 4; omega) | omega
      refine lv_bipush (v := nI 11) hx hb dX3_road_26 zb_11 ?_
      refine kM_hasAll S hK hM hg hS (g 7 4) 11 (by first | omega | assumption | grind) (by first | omega | assumption | grind) (Nat.le_of_ble_eq_true rfl) (Nat.le_of_ble_eq_true rfl) hl.1 (Nat.le_of_ble_eq_true rfl) dX3_road_28 (Nat.zero_le _) (Nat.zero_le _) (fun locs hS => ?_)
      refine zr_if_eqB (b := hasG (gs g 22 0 0) (g 7 4) 11) (tgt := 46) hx hb dX3_road_31 (by decide) (fun c_5 => ?_) (fun c_5 => ?_)
      · refine lv_aload_n hx hb dX3_road_46 rfl (lv_at hl 0 rfl) ?_
        refine lv_iconst (v := nI 2) hx hb dX3_road_47 zi_2 ?_
        refine kM_fails S hK hM hg hS 2 (by first | omega | assumption | grind) (Nat.le_of_ble_eq_true rfl) (Nat.le_of_ble_eq_true rfl) hl.1 (Nat.le_of_ble_eq_true rfl) dX3_road_48 (Nat.zero_le _) (Nat.zero_le _) (fun H locs hM hg hS => ?_)
        rw [show (gs (gs g 22 0 0) 22 0 2 : G) = mRoadG g a1 from by first | with_reducible rfl | (simp [c_1, c_3, c_5, gA, mRoadG, mRoadR]; done) | (simp only [c_1, c_3, c_5] <;> simp [gA, mRoadG, mRoadR]; done) | (simp only [gA, mRoadG, mRoadR, c_1, c_3, c_5] <;> simp [gA, mRoadG, mRoadR]; done) | (simp [c_1, c_3, c_5, gA, mRoadG, mRoadR, Bool.and_assoc]; done) | (simp [c_1, c_3, c_5, gA, mRoadG, mRoadR, Bool.and_assoc, Bool.or_assoc]; done) | rfl | (simp [c_1, c_3, c_5, gA, mRoadG, mRoadR]; omega)] at hM hg
        exact zc_nret (nI (mRoadR g a1)) (congrArg nI (show (0 : Nat) = (mRoadR g a1) from by first | with_reducible rfl | (simp [c_1, c_3, c_5, gA, mRoadG, mRoadR]; done) | (simp only [c_1, c_3, c_5] <;> simp [gA, mRoadG, mRoadR]; done) | (simp only [gA, mRoadG, mRoadR, c_1, c_3, c_5] <;> simp [gA, mRoadG, mRoadR]; done) | (simp [c_1, c_3, c_5, gA, mRoadG, mRoadR, Bool.and_assoc]; done) | (simp [c_1, c_3, c_5, gA, mRoadG, mRoadR, Bool.and_assoc, Bool.or_assoc]; done) | rfl | (simp [c_1, c_3, c_5, gA, mRoadG, mRoadR]; omega))) (hPost H hM hg) hS hx hb hr hlk (Nat.zero_le _) (Nat.zero_le _) dX3_road_51
      · have hG1 := c_5
        refine lv_aload_n hx hb dX3_road_34 rfl (lv_at hl 0 rfl) ?_
        refine lv_aload_n hx hb dX3_road_35 rfl (lv_at hl 0 rfl) ?_
        refine gM_turn S hK hM (g 7 4) (by first | rfl | simp [gs]) dX3_road_36 ?_
        have hb_6 : g 7 4 < 1048576 := by first | exact hg 7 4 | exact hg0 _ _ | (have := hg 7 4; omega) | omega
        refine lv_iload_n hx hb dX3_road_39 rfl (lv_at hl 1 rfl) ?_
        refine kM_mayRoad S hK hM hg hS (g 7 4) (tn a1) (by first | omega | assumption | grind) (by first | omega | assumption | grind) (Nat.le_of_ble_eq_true rfl) (Nat.le_of_ble_eq_true rfl) hl.1 (Nat.le_of_ble_eq_true rfl) dX3_road_40 (Nat.zero_le _) (Nat.zero_le _) (fun locs hS => ?_)
        refine zr_if_neB (b := mMayRoad (gs g 22 0 0) (g 7 4) (tn a1)) (tgt := 52) hx hb dX3_road_43 (by decide) (fun c_7 => ?_) (fun c_7 => ?_)
        · have hMR := c_7
          have hlt8 : roadsN g (g 7 4) 30 < 8 := by unfold mMayRoad at hMR; simp at hMR; exact hMR.2.1
          have h74 : (gPay (gs g 22 0 0) 11) 7 4 = g 7 4 := gPay_nf _ _ (by decide) _
          have hlay : ∀ p, p < 3 → roadsN (gs (gPay (gs g 22 0 0) 11) 3 (tn a1) ((gPay (gs g 22 0 0) 11) 7 4 + 1)) p 30 ≤ 8 := by rw [h74]; exact lay_roads (fun j => gPay_nf _ _ (by decide) _) hr8 hlt8
          refine lv_aload_n hx hb dX3_road_52 rfl (lv_at hl 0 rfl) ?_
          refine lv_bipush (v := nI 11) hx hb dX3_road_53 zb_11 ?_
          refine kM_pays S hK hM hg hS 11 (by exact ht) (by exact hb4) (by first | omega | assumption | grind) (by exact hasG_le hG1) (Nat.le_of_ble_eq_true rfl) (Nat.le_of_ble_eq_true rfl) hl.1 (Nat.le_of_ble_eq_true rfl) dX3_road_55 (Nat.zero_le _) (Nat.zero_le _) (fun H locs hM hg hS => ?_)
          refine lv_aload_n hx hb dX3_road_58 rfl (lv_at hl 0 rfl) ?_
          refine lv_iload_n hx hb dX3_road_59 rfl (lv_at hl 1 rfl) ?_
          refine kM_lays S hK hM hg hS (tn a1) (by rw [h74]; exact ht) (by first | omega | assumption | grind) (by exact hlay) (Nat.le_of_ble_eq_true rfl) (Nat.le_of_ble_eq_true rfl) hl.1 (Nat.le_of_ble_eq_true rfl) dX3_road_60 (Nat.zero_le _) (Nat.zero_le _) (fun H locs hM hg hS => ?_)
          refine lv_aload_n hx hb dX3_road_63 rfl (lv_at hl 0 rfl) ?_
          refine kM_looksAtWinner S hK hM hg hS  (by rw [gLay_7 _ _ (by decide), h74]; exact ht) (Nat.le_of_ble_eq_true rfl) (Nat.le_of_ble_eq_true rfl) hl.1 (Nat.le_of_ble_eq_true rfl) dX3_road_64 (Nat.zero_le _) (Nat.zero_le _) (fun H locs hM hg hS => ?_)
          have hlay2 : roadsN (gWin (gLay (gPay (gs g 22 0 0) 11) (tn a1))) (g 7 4) 30 ≤ 8 := by
            rw [roadsN_f3 (y := gs (gPay (gs g 22 0 0) 11) 3 (tn a1) ((gPay (gs g 22 0 0) 11) 7 4 + 1)) (fun j => by rw [gWin_nf _ (by decide), gLay_nf _ _ (by decide) (by decide)])]
            exact hlay _ ht
          refine lv_aload_n hx hb dX3_road_67 rfl (lv_at hl 0 rfl) ?_
          refine lv_aload_n hx hb dX3_road_68 rfl (lv_at hl 0 rfl) ?_
          refine gM_turn S hK hM (g 7 4) (by first | rfl | (simp [giveN_nf, gPay_nf, gWin_nf, gWin_7, gLay_nf, gLay_7, gTr_nf, gTr_7, gs]; done)) dX3_road_69 ?_
          have hb_8 : g 7 4 < 1048576 := by first | exact hg 7 4 | exact hg0 _ _ | (have := hg 7 4; omega) | omega
          refine kM_trailOf S hK hM hg hS (g 7 4) (by first | omega | assumption | grind) (by exact hlay2) (Nat.le_of_ble_eq_true rfl) (Nat.le_of_ble_eq_true rfl) hl.1 (Nat.le_of_ble_eq_true rfl) dX3_road_72 (Nat.zero_le _) (Nat.zero_le _) (fun H locs hM hg hS => ?_)
          have f72_0 : trailN (gWin (gLay (gPay (gs g 22 0 0) 11) (tn a1))) (g 7 4) ≤ 8 := trailN_le _ _
          rw [show (gO (gWin (gLay (gPay (gs g 22 0 0) 11) (tn a1))) (g 7 4) 30 : G) = mRoadG g a1 from by first | with_reducible rfl | (simp [c_1, c_3, c_5, c_7, gA, mRoadG, mRoadR]; done) | (simp only [c_1, c_3, c_5, c_7] <;> simp [gA, mRoadG, mRoadR]; done) | (simp only [gA, mRoadG, mRoadR, c_1, c_3, c_5, c_7] <;> simp [gA, mRoadG, mRoadR]; done) | (simp [c_1, c_3, c_5, c_7, gA, mRoadG, mRoadR, Bool.and_assoc]; done) | (simp [c_1, c_3, c_5, c_7, gA, mRoadG, mRoadR, Bool.and_assoc, Bool.or_assoc]; done) | rfl | (simp [c_1, c_3, c_5, c_7, gA, mRoadG, mRoadR]; omega)] at hM hg
          exact zc_nret (nI (mRoadR g a1)) (congrArg nI (show (trailN (gWin (gLay (gPay (gs g 22 0 0) 11) (tn a1))) (g 7 4) : Nat) = (mRoadR g a1) from by first | with_reducible rfl | (simp [c_1, c_3, c_5, c_7, gA, mRoadG, mRoadR]; done) | (simp only [c_1, c_3, c_5, c_7] <;> simp [gA, mRoadG, mRoadR]; done) | (simp only [gA, mRoadG, mRoadR, c_1, c_3, c_5, c_7] <;> simp [gA, mRoadG, mRoadR]; done) | (simp [c_1, c_3, c_5, c_7, gA, mRoadG, mRoadR, Bool.and_assoc]; done) | (simp [c_1, c_3, c_5, c_7, gA, mRoadG, mRoadR, Bool.and_assoc, Bool.or_assoc]; done) | rfl | (simp [c_1, c_3, c_5, c_7, gA, mRoadG, mRoadR]; omega))) (hPost H hM hg) hS hx hb hr hlk (Nat.zero_le _) (Nat.zero_le _) dX3_road_75
        · refine lv_aload_n hx hb dX3_road_46 rfl (lv_at hl 0 rfl) ?_
          refine lv_iconst (v := nI 2) hx hb dX3_road_47 zi_2 ?_
          refine kM_fails S hK hM hg hS 2 (by first | omega | assumption | grind) (Nat.le_of_ble_eq_true rfl) (Nat.le_of_ble_eq_true rfl) hl.1 (Nat.le_of_ble_eq_true rfl) dX3_road_48 (Nat.zero_le _) (Nat.zero_le _) (fun H locs hM hg hS => ?_)
          rw [show (gs (gs g 22 0 0) 22 0 2 : G) = mRoadG g a1 from by first | with_reducible rfl | (simp [c_1, c_3, c_5, c_7, gA, mRoadG, mRoadR]; done) | (simp only [c_1, c_3, c_5, c_7] <;> simp [gA, mRoadG, mRoadR]; done) | (simp only [gA, mRoadG, mRoadR, c_1, c_3, c_5, c_7] <;> simp [gA, mRoadG, mRoadR]; done) | (simp [c_1, c_3, c_5, c_7, gA, mRoadG, mRoadR, Bool.and_assoc]; done) | (simp [c_1, c_3, c_5, c_7, gA, mRoadG, mRoadR, Bool.and_assoc, Bool.or_assoc]; done) | rfl | (simp [c_1, c_3, c_5, c_7, gA, mRoadG, mRoadR]; omega)] at hM hg
          exact zc_nret (nI (mRoadR g a1)) (congrArg nI (show (0 : Nat) = (mRoadR g a1) from by first | with_reducible rfl | (simp [c_1, c_3, c_5, c_7, gA, mRoadG, mRoadR]; done) | (simp only [c_1, c_3, c_5, c_7] <;> simp [gA, mRoadG, mRoadR]; done) | (simp only [gA, mRoadG, mRoadR, c_1, c_3, c_5, c_7] <;> simp [gA, mRoadG, mRoadR]; done) | (simp [c_1, c_3, c_5, c_7, gA, mRoadG, mRoadR, Bool.and_assoc]; done) | (simp [c_1, c_3, c_5, c_7, gA, mRoadG, mRoadR, Bool.and_assoc, Bool.or_assoc]; done) | rfl | (simp [c_1, c_3, c_5, c_7, gA, mRoadG, mRoadR]; omega))) (hPost H hM hg) hS hx hb hr hlk (Nat.zero_le _) (Nat.zero_le _) dX3_road_51
  · rw [show (!(inB a1 30)).toNat = 1 from by rw [c_1]; rfl] at hM hg
    refine lv_iconst (v := nI 0) hx hb dX3_road_11 zi_0 ?_
    rw [show (gs g 22 0 1 : G) = mRoadG g a1 from by first | with_reducible rfl | (simp [c_1, gA, mRoadG, mRoadR]; done) | (simp only [c_1] <;> simp [gA, mRoadG, mRoadR]; done) | (simp only [gA, mRoadG, mRoadR, c_1] <;> simp [gA, mRoadG, mRoadR]; done) | (simp [c_1, gA, mRoadG, mRoadR, Bool.and_assoc]; done) | (simp [c_1, gA, mRoadG, mRoadR, Bool.and_assoc, Bool.or_assoc]; done) | rfl | (simp [c_1, gA, mRoadG, mRoadR]; omega)] at hM hg
    exact zc_nret (nI (mRoadR g a1)) (congrArg nI (show (0 : Nat) = (mRoadR g a1) from by first | with_reducible rfl | (simp [c_1, gA, mRoadG, mRoadR]; done) | (simp only [c_1] <;> simp [gA, mRoadG, mRoadR]; done) | (simp only [gA, mRoadG, mRoadR, c_1] <;> simp [gA, mRoadG, mRoadR]; done) | (simp [c_1, gA, mRoadG, mRoadR, Bool.and_assoc]; done) | (simp [c_1, gA, mRoadG, mRoadR, Bool.and_assoc, Bool.or_assoc]; done) | rfl | (simp [c_1, gA, mRoadG, mRoadR]; omega))) (hPost H hM hg) hS hx hb hr hlk (Nat.zero_le _) (Nat.zero_le _) dX3_road_12
def mHouseG (g : G) (a1 : Int32) : G := if (inB a1 24) = true then (if (decide (g 7 1 = 2) && (hasG (gs g 22 0 0) (g 7 4) 1111 && (mFree (gs g 22 0 0) (tn a1) && (mRoadAt (gs g 22 0 0) (g 7 4) (tn a1) 0 && !decide (mBuilds (gs g 22 0 0) (g 7 4) false 24 = 4))))) = true then (gWin (gTr (gs (gPay (gs g 22 0 0) 1111) 2 (tn a1) (g 7 4 + 1)))) else gs (gs g 22 0 0) 22 0 2) else gs g 22 0 1
def mHouseR (g : G) (a1 : Int32) : Nat := if (inB a1 24) = true then (if (decide (g 7 1 = 2) && (hasG (gs g 22 0 0) (g 7 4) 1111 && (mFree (gs g 22 0 0) (tn a1) && (mRoadAt (gs g 22 0 0) (g 7 4) (tn a1) 0 && !decide (mBuilds (gs g 22 0 0) (g 7 4) false 24 = 4))))) = true then (mPts (gWin (gTr (gs (gPay (gs g 22 0 0) 1111) 2 (tn a1) (g 7 4 + 1)))) (g 7 4)) else 0) else 0
set_option maxHeartbeats 1000000 in
set_option maxRecDepth 100000 in
theorem cM_house (l : Launch) {D : va_G} {dA : Nat → ClassId} {A : Nat → Prop} {ad : Nat → Nat} {g : G} (hg : Sm g) (a1 : Int32) (ht : g 7 4 < 3) (hb4 : ∀ j, j < 20 → g 4 j ≤ 100) (hr8 : ∀ p, p < 3 → roadsN g p 30 ≤ 8) (H0 : Heap) (hM : MS D dA A ad g H0) {Post : Option Value → Heap → Prop} (hPost : ∀ H : Heap, MS D dA A ad (mHouseG g a1) H → Sm (mHouseG g a1) → Post (some (.int (nI (mHouseR g a1)))) H) : Ct l yX3_house (ws_ yX3_house cX3_house 2 (some .int)) (rmF 7 0 0 156) A (KT D dA) [.ref (ad 0), .int a1] H0 Post := by
  refine zc_of RX3 rfl (by decide) (Nat.le_of_ble_eq_true rfl) ?_
  intro pr en s m args below meth cd S hr hlk hnm hh hK ls hl
  have hS : va_S A s.heap H0 [] := zc_start hh
  have hg0 := hg
  have hx := S.1
  have hb := S.2.1
  have hown := S.2.2.2.1
  have hts := S.2.2.2.2
  have hl : lv_has ls 2 [(0, .ref (ad 0)), (1, .int a1)] := hl
  have hb5 : ∀ j, j < 20 → gs g 22 0 0 4 j ≤ 100 := hb4
  refine lv_aload_n hx hb dX3_house_0 rfl (lv_at hl 0 rfl) ?_
  refine lv_iload_n hx hb dX3_house_1 rfl (lv_at hl 1 rfl) ?_
  refine kM_isCorner S hK hM hg hS a1  (Nat.le_of_ble_eq_true rfl) (Nat.le_of_ble_eq_true rfl) hl.1 (Nat.le_of_ble_eq_true rfl) dX3_house_2 (Nat.zero_le _) (Nat.zero_le _) (fun locs hS => ?_)
  refine kM_asks S hK hM hg hS (inB a1 24)  (Nat.le_of_ble_eq_true rfl) (Nat.le_of_ble_eq_true rfl) hl.1 (Nat.le_of_ble_eq_true rfl) dX3_house_5 (Nat.zero_le _) (Nat.zero_le _) (fun H locs hM hg hS => ?_)
  refine zr_if_neB (b := (inB a1 24)) (tgt := 13) hx hb dX3_house_8 (by decide) (fun c_1 => ?_) (fun c_1 => ?_)
  · rw [show (!(inB a1 24)).toNat = 0 from by rw [c_1]; rfl] at hM hg
    obtain ⟨hj1, ea1⟩ := inB_tn (by decide) c_1
    rw [ea1] at hl
    refine lv_aload_n hx hb dX3_house_13 rfl (lv_at hl 0 rfl) ?_
    refine gM_phase S hK hM (g 7 1) (by first | rfl | simp [gs]) dX3_house_14 ?_
    have hb_2 : g 7 1 < 1048576 := by first | exact hg 7 1 | exact hg0 _ _ | (have := hg 7 1; omega) | omega
    refine lv_iconst (v := nI 2) hx hb dX3_house_17 zi_2 ?_
    refine zr_icmp_neN (a := (g 7 1)) (b := 2) (tgt := 69) hx hb (by omega) (by omega) dX3_house_18 (by decide) (fun c_3 => ?_) (fun c_3 => ?_)
    · refine lv_aload_n hx hb dX3_house_69 rfl (lv_at hl 0 rfl) ?_
      refine lv_iconst (v := nI 2) hx hb dX3_house_70 zi_2 ?_
      refine kM_fails S hK hM hg hS 2 (by first | omega | assumption | grind) (Nat.le_of_ble_eq_true rfl) (Nat.le_of_ble_eq_true rfl) hl.1 (Nat.le_of_ble_eq_true rfl) dX3_house_71 (Nat.zero_le _) (Nat.zero_le _) (fun H locs hM hg hS => ?_)
      rw [show (gs (gs g 22 0 0) 22 0 2 : G) = mHouseG g a1 from by first | with_reducible rfl | (simp [c_1, c_3, gA, mHouseG, mHouseR]; done) | (simp only [c_1, c_3] <;> simp [gA, mHouseG, mHouseR]; done) | (simp only [gA, mHouseG, mHouseR, c_1, c_3] <;> simp [gA, mHouseG, mHouseR]; done) | (simp [c_1, c_3, gA, mHouseG, mHouseR, Bool.and_assoc]; done) | (simp [c_1, c_3, gA, mHouseG, mHouseR, Bool.and_assoc, Bool.or_assoc]; done) | rfl | (simp [c_1, c_3, gA, mHouseG, mHouseR]; omega)] at hM hg
      exact zc_nret (nI (mHouseR g a1)) (congrArg nI (show (0 : Nat) = (mHouseR g a1) from by first | with_reducible rfl | (simp [c_1, c_3, gA, mHouseG, mHouseR]; done) | (simp only [c_1, c_3] <;> simp [gA, mHouseG, mHouseR]; done) | (simp only [gA, mHouseG, mHouseR, c_1, c_3] <;> simp [gA, mHouseG, mHouseR]; done) | (simp [c_1, c_3, gA, mHouseG, mHouseR, Bool.and_assoc]; done) | (simp [c_1, c_3, gA, mHouseG, mHouseR, Bool.and_assoc, Bool.or_assoc]; done) | rfl | (simp [c_1, c_3, gA, mHouseG, mHouseR]; omega))) (hPost H hM hg) hS hx hb hr hlk (Nat.zero_le _) (Nat.zero_le _) dX3_house_74
    · refine lv_aload_n hx hb dX3_house_21 rfl (lv_at hl 0 rfl) ?_
      refine lv_aload_n hx hb dX3_house_22 rfl (lv_at hl 0 rfl) ?_
      refine gM_turn S hK hM (g 7 4) (by first | rfl | simp [gs]) dX3_house_23 ?_
      have hb_4 : g 7 4 < 1048576 := by first | exact hg 7 4 | exact hg0 _ _ | (have := hg 7 4; omega) | omega
      refine lv_sipush (v := nI 1111) hx hb dX3_house_26 zs_1111 ?_
      refine kM_hasAll S hK hM hg hS (g 7 4) 1111 (by first | omega | assumption | grind) (by first | omega | assumption | grind) (Nat.le_of_ble_eq_true rfl) (Nat.le_of_ble_eq_true rfl) hl.1 (Nat.le_of_ble_eq_true rfl) dX3_house_29 (Nat.zero_le _) (Nat.zero_le _) (fun locs hS => ?_)
      refine zr_if_eqB (b := hasG (gs g 22 0 0) (g 7 4) 1111) (tgt := 69) hx hb dX3_house_32 (by decide) (fun c_5 => ?_) (fun c_5 => ?_)
      · refine lv_aload_n hx hb dX3_house_69 rfl (lv_at hl 0 rfl) ?_
        refine lv_iconst (v := nI 2) hx hb dX3_house_70 zi_2 ?_
        refine kM_fails S hK hM hg hS 2 (by first | omega | assumption | grind) (Nat.le_of_ble_eq_true rfl) (Nat.le_of_ble_eq_true rfl) hl.1 (Nat.le_of_ble_eq_true rfl) dX3_house_71 (Nat.zero_le _) (Nat.zero_le _) (fun H locs hM hg hS => ?_)
        rw [show (gs (gs g 22 0 0) 22 0 2 : G) = mHouseG g a1 from by first | with_reducible rfl | (simp [c_1, c_3, c_5, gA, mHouseG, mHouseR]; done) | (simp only [c_1, c_3, c_5] <;> simp [gA, mHouseG, mHouseR]; done) | (simp only [gA, mHouseG, mHouseR, c_1, c_3, c_5] <;> simp [gA, mHouseG, mHouseR]; done) | (simp [c_1, c_3, c_5, gA, mHouseG, mHouseR, Bool.and_assoc]; done) | (simp [c_1, c_3, c_5, gA, mHouseG, mHouseR, Bool.and_assoc, Bool.or_assoc]; done) | rfl | (simp [c_1, c_3, c_5, gA, mHouseG, mHouseR]; omega)] at hM hg
        exact zc_nret (nI (mHouseR g a1)) (congrArg nI (show (0 : Nat) = (mHouseR g a1) from by first | with_reducible rfl | (simp [c_1, c_3, c_5, gA, mHouseG, mHouseR]; done) | (simp only [c_1, c_3, c_5] <;> simp [gA, mHouseG, mHouseR]; done) | (simp only [gA, mHouseG, mHouseR, c_1, c_3, c_5] <;> simp [gA, mHouseG, mHouseR]; done) | (simp [c_1, c_3, c_5, gA, mHouseG, mHouseR, Bool.and_assoc]; done) | (simp [c_1, c_3, c_5, gA, mHouseG, mHouseR, Bool.and_assoc, Bool.or_assoc]; done) | rfl | (simp [c_1, c_3, c_5, gA, mHouseG, mHouseR]; omega))) (hPost H hM hg) hS hx hb hr hlk (Nat.zero_le _) (Nat.zero_le _) dX3_house_74
      · have hG1 := c_5
        refine lv_aload_n hx hb dX3_house_35 rfl (lv_at hl 0 rfl) ?_
        refine lv_iload_n hx hb dX3_house_36 rfl (lv_at hl 1 rfl) ?_
        refine kM_isFree S hK hM hg hS (tn a1) (by first | omega | assumption | grind) (Nat.le_of_ble_eq_true rfl) (Nat.le_of_ble_eq_true rfl) hl.1 (Nat.le_of_ble_eq_true rfl) dX3_house_37 (Nat.zero_le _) (Nat.zero_le _) (fun locs hS => ?_)
        refine zr_if_eqB (b := mFree (gs g 22 0 0) (tn a1)) (tgt := 69) hx hb dX3_house_40 (by decide) (fun c_6 => ?_) (fun c_6 => ?_)
        · refine lv_aload_n hx hb dX3_house_69 rfl (lv_at hl 0 rfl) ?_
          refine lv_iconst (v := nI 2) hx hb dX3_house_70 zi_2 ?_
          refine kM_fails S hK hM hg hS 2 (by first | omega | assumption | grind) (Nat.le_of_ble_eq_true rfl) (Nat.le_of_ble_eq_true rfl) hl.1 (Nat.le_of_ble_eq_true rfl) dX3_house_71 (Nat.zero_le _) (Nat.zero_le _) (fun H locs hM hg hS => ?_)
          rw [show (gs (gs g 22 0 0) 22 0 2 : G) = mHouseG g a1 from by first | with_reducible rfl | (simp [c_1, c_3, c_5, c_6, gA, mHouseG, mHouseR]; done) | (simp only [c_1, c_3, c_5, c_6] <;> simp [gA, mHouseG, mHouseR]; done) | (simp only [gA, mHouseG, mHouseR, c_1, c_3, c_5, c_6] <;> simp [gA, mHouseG, mHouseR]; done) | (simp [c_1, c_3, c_5, c_6, gA, mHouseG, mHouseR, Bool.and_assoc]; done) | (simp [c_1, c_3, c_5, c_6, gA, mHouseG, mHouseR, Bool.and_assoc, Bool.or_assoc]; done) | rfl | (simp [c_1, c_3, c_5, c_6, gA, mHouseG, mHouseR]; omega)] at hM hg
          exact zc_nret (nI (mHouseR g a1)) (congrArg nI (show (0 : Nat) = (mHouseR g a1) from by first | with_reducible rfl | (simp [c_1, c_3, c_5, c_6, gA, mHouseG, mHouseR]; done) | (simp only [c_1, c_3, c_5, c_6] <;> simp [gA, mHouseG, mHouseR]; done) | (simp only [gA, mHouseG, mHouseR, c_1, c_3, c_5, c_6] <;> simp [gA, mHouseG, mHouseR]; done) | (simp [c_1, c_3, c_5, c_6, gA, mHouseG, mHouseR, Bool.and_assoc]; done) | (simp [c_1, c_3, c_5, c_6, gA, mHouseG, mHouseR, Bool.and_assoc, Bool.or_assoc]; done) | rfl | (simp [c_1, c_3, c_5, c_6, gA, mHouseG, mHouseR]; omega))) (hPost H hM hg) hS hx hb hr hlk (Nat.zero_le _) (Nat.zero_le _) dX3_house_74
        · refine lv_aload_n hx hb dX3_house_43 rfl (lv_at hl 0 rfl) ?_
          refine lv_aload_n hx hb dX3_house_44 rfl (lv_at hl 0 rfl) ?_
          refine gM_turn S hK hM (g 7 4) (by first | rfl | simp [gs]) dX3_house_45 ?_
          have hb_7 : g 7 4 < 1048576 := by first | exact hg 7 4 | exact hg0 _ _ | (have := hg 7 4; omega) | omega
          refine lv_iload_n hx hb dX3_house_48 rfl (lv_at hl 1 rfl) ?_
          refine lv_iconst (v := mI 0) hx hb dX3_house_49 zi_m1 ?_
          refine kM_hasRoadAt S hK hM hg hS (g 7 4) (tn a1) 0 (by first | omega | assumption | grind) (by first | omega | assumption | grind) (by first | omega | assumption | grind) (Nat.le_of_ble_eq_true rfl) (Nat.le_of_ble_eq_true rfl) hl.1 (Nat.le_of_ble_eq_true rfl) dX3_house_50 (Nat.zero_le _) (Nat.zero_le _) (fun locs hS => ?_)
          refine zr_if_eqB (b := mRoadAt (gs g 22 0 0) (g 7 4) (tn a1) 0) (tgt := 69) hx hb dX3_house_53 (by decide) (fun c_8 => ?_) (fun c_8 => ?_)
          · refine lv_aload_n hx hb dX3_house_69 rfl (lv_at hl 0 rfl) ?_
            refine lv_iconst (v := nI 2) hx hb dX3_house_70 zi_2 ?_
            refine kM_fails S hK hM hg hS 2 (by first | omega | assumption | grind) (Nat.le_of_ble_eq_true rfl) (Nat.le_of_ble_eq_true rfl) hl.1 (Nat.le_of_ble_eq_true rfl) dX3_house_71 (Nat.zero_le _) (Nat.zero_le _) (fun H locs hM hg hS => ?_)
            rw [show (gs (gs g 22 0 0) 22 0 2 : G) = mHouseG g a1 from by first | with_reducible rfl | (simp [c_1, c_3, c_5, c_6, c_8, gA, mHouseG, mHouseR]; done) | (simp only [c_1, c_3, c_5, c_6, c_8] <;> simp [gA, mHouseG, mHouseR]; done) | (simp only [gA, mHouseG, mHouseR, c_1, c_3, c_5, c_6, c_8] <;> simp [gA, mHouseG, mHouseR]; done) | (simp [c_1, c_3, c_5, c_6, c_8, gA, mHouseG, mHouseR, Bool.and_assoc]; done) | (simp [c_1, c_3, c_5, c_6, c_8, gA, mHouseG, mHouseR, Bool.and_assoc, Bool.or_assoc]; done) | rfl | (simp [c_1, c_3, c_5, c_6, c_8, gA, mHouseG, mHouseR]; omega)] at hM hg
            exact zc_nret (nI (mHouseR g a1)) (congrArg nI (show (0 : Nat) = (mHouseR g a1) from by first | with_reducible rfl | (simp [c_1, c_3, c_5, c_6, c_8, gA, mHouseG, mHouseR]; done) | (simp only [c_1, c_3, c_5, c_6, c_8] <;> simp [gA, mHouseG, mHouseR]; done) | (simp only [gA, mHouseG, mHouseR, c_1, c_3, c_5, c_6, c_8] <;> simp [gA, mHouseG, mHouseR]; done) | (simp [c_1, c_3, c_5, c_6, c_8, gA, mHouseG, mHouseR, Bool.and_assoc]; done) | (simp [c_1, c_3, c_5, c_6, c_8, gA, mHouseG, mHouseR, Bool.and_assoc, Bool.or_assoc]; done) | rfl | (simp [c_1, c_3, c_5, c_6, c_8, gA, mHouseG, mHouseR]; omega))) (hPost H hM hg) hS hx hb hr hlk (Nat.zero_le _) (Nat.zero_le _) dX3_house_74
          · refine lv_aload_n hx hb dX3_house_56 rfl (lv_at hl 0 rfl) ?_
            refine lv_aload_n hx hb dX3_house_57 rfl (lv_at hl 0 rfl) ?_
            refine gM_turn S hK hM (g 7 4) (by first | rfl | simp [gs]) dX3_house_58 ?_
            have hb_9 : g 7 4 < 1048576 := by first | exact hg 7 4 | exact hg0 _ _ | (have := hg 7 4; omega) | omega
            refine lv_iconst (v := nI 0) hx hb dX3_house_61 zi_0 ?_
            refine kM_buildings S hK hM hg hS (g 7 4) false (by first | omega | assumption | grind) (Nat.le_of_ble_eq_true rfl) (Nat.le_of_ble_eq_true rfl) hl.1 (Nat.le_of_ble_eq_true rfl) dX3_house_62 (Nat.zero_le _) (Nat.zero_le _) (fun locs hS => ?_)
            have f62_0 : mBuilds (gs g 22 0 0) (g 7 4) false 24 ≤ 24 := sm_b _ _
            refine lv_iconst (v := nI 4) hx hb dX3_house_65 zi_4 ?_
            refine zr_icmp_neN (a := (mBuilds (gs g 22 0 0) (g 7 4) false 24)) (b := 4) (tgt := 75) hx hb (by omega) (by omega) dX3_house_66 (by decide) (fun c_10 => ?_) (fun c_10 => ?_)
            · refine lv_aload_n hx hb dX3_house_75 rfl (lv_at hl 0 rfl) ?_
              refine lv_sipush (v := nI 1111) hx hb dX3_house_76 zs_1111 ?_
              refine kM_pays S hK hM hg hS 1111 (by exact ht) (by exact hb4) (by first | omega | assumption | grind) (by exact hasG_le hG1) (Nat.le_of_ble_eq_true rfl) (Nat.le_of_ble_eq_true rfl) hl.1 (Nat.le_of_ble_eq_true rfl) dX3_house_79 (Nat.zero_le _) (Nat.zero_le _) (fun H locs hM hg hS => ?_)
              have h74 : (gPay (gs g 22 0 0) 1111) 7 4 = g 7 4 := gPay_nf _ _ (by decide) _
              have hlay : ∀ p, p < 3 → roadsN (gs (gPay (gs g 22 0 0) 1111) 2 (tn a1) (g 7 4 + 1)) p 30 ≤ 8 := by intro p hp; rw [roadsN_f3 (y := g) (fun j => by rw [gs_nf _ (by decide), gPay_nf _ _ (by decide)]; rfl)]; exact hr8 p hp
              refine lv_aload_n hx hb dX3_house_82 rfl (lv_at hl 0 rfl) ?_
              refine gM_building S hK hM dX3_house_83 ?_
              refine lv_iload_n hx hb dX3_house_86 rfl (lv_at hl 1 rfl) ?_
              refine lv_aload_n hx hb dX3_house_87 rfl (lv_at hl 0 rfl) ?_
              refine gM_turn S hK hM (g 7 4) (by first | rfl | (simp [giveN_nf, gPay_nf, gWin_nf, gWin_7, gLay_nf, gLay_7, gTr_nf, gTr_7, gs]; done)) dX3_house_88 ?_
              have hb_11 : g 7 4 < 1048576 := by first | exact hg 7 4 | exact hg0 _ _ | (have := hg 7 4; omega) | omega
              refine lv_iconst (v := nI 1) hx hb dX3_house_91 zi_1 ?_
              refine zr_addN (a := (g 7 4)) (b := 1) hx hb dX3_house_92 ?_
              refine sM_building S hK hM hS (tn a1) (by omega) ((g 7 4) + 1) dX3_house_93 (fun H locs hM hS => ?_)
              have hg : Sm (gs (gPay (gs g 22 0 0) 1111) 2 (tn a1) ((g 7 4) + 1)) := Sm_gs hg (by first | omega | exact Nat.lt_of_le_of_lt (Bool.toNat_le _) (by decide) | ((repeat' split) <;> omega))
              refine lv_aload_n hx hb dX3_house_94 rfl (lv_at hl 0 rfl) ?_
              refine kM_looksAtTrails S hK hM hg hS  (by exact hlay) (Nat.le_of_ble_eq_true rfl) (Nat.le_of_ble_eq_true rfl) hl.1 (Nat.le_of_ble_eq_true rfl) dX3_house_95 (Nat.zero_le _) (Nat.zero_le _) (fun H locs hM hg hS => ?_)
              refine lv_aload_n hx hb dX3_house_98 rfl (lv_at hl 0 rfl) ?_
              refine kM_looksAtWinner S hK hM hg hS  (by rw [gTr_7 _ (by decide)]; show (gPay (gs g 22 0 0) 1111) 7 4 < 3; rw [h74]; exact ht) (Nat.le_of_ble_eq_true rfl) (Nat.le_of_ble_eq_true rfl) hl.1 (Nat.le_of_ble_eq_true rfl) dX3_house_99 (Nat.zero_le _) (Nat.zero_le _) (fun H locs hM hg hS => ?_)
              refine lv_aload_n hx hb dX3_house_102 rfl (lv_at hl 0 rfl) ?_
              refine lv_aload_n hx hb dX3_house_103 rfl (lv_at hl 0 rfl) ?_
              refine gM_turn S hK hM (g 7 4) (by first | rfl | (simp [giveN_nf, gPay_nf, gWin_nf, gWin_7, gLay_nf, gLay_7, gTr_nf, gTr_7, gs]; done)) dX3_house_104 ?_
              have hb_12 : g 7 4 < 1048576 := by first | exact hg 7 4 | exact hg0 _ _ | (have := hg 7 4; omega) | omega
              refine kM_pointsOf S hK hM hg hS (g 7 4) (by first | omega | assumption | grind) (Nat.le_of_ble_eq_true rfl) (Nat.le_of_ble_eq_true rfl) hl.1 (Nat.le_of_ble_eq_true rfl) dX3_house_107 (Nat.zero_le _) (Nat.zero_le _) (fun locs hS => ?_)
              have f107_0 : mPts (gWin (gTr (gs (gPay (gs g 22 0 0) 1111) 2 (tn a1) ((g 7 4) + 1)))) (g 7 4) < 1048700 := mPts_lt hg _
              rw [show (gWin (gTr (gs (gPay (gs g 22 0 0) 1111) 2 (tn a1) ((g 7 4) + 1))) : G) = mHouseG g a1 from by first | with_reducible rfl | (simp [c_1, c_3, c_5, c_6, c_8, c_10, gA, mHouseG, mHouseR]; done) | (simp only [c_1, c_3, c_5, c_6, c_8, c_10] <;> simp [gA, mHouseG, mHouseR]; done) | (simp only [gA, mHouseG, mHouseR, c_1, c_3, c_5, c_6, c_8, c_10] <;> simp [gA, mHouseG, mHouseR]; done) | (simp [c_1, c_3, c_5, c_6, c_8, c_10, gA, mHouseG, mHouseR, Bool.and_assoc]; done) | (simp [c_1, c_3, c_5, c_6, c_8, c_10, gA, mHouseG, mHouseR, Bool.and_assoc, Bool.or_assoc]; done) | rfl | (simp [c_1, c_3, c_5, c_6, c_8, c_10, gA, mHouseG, mHouseR]; omega)] at hM hg
              exact zc_nret (nI (mHouseR g a1)) (congrArg nI (show (mPts (gWin (gTr (gs (gPay (gs g 22 0 0) 1111) 2 (tn a1) ((g 7 4) + 1)))) (g 7 4) : Nat) = (mHouseR g a1) from by first | with_reducible rfl | (simp [c_1, c_3, c_5, c_6, c_8, c_10, gA, mHouseG, mHouseR]; done) | (simp only [c_1, c_3, c_5, c_6, c_8, c_10] <;> simp [gA, mHouseG, mHouseR]; done) | (simp only [gA, mHouseG, mHouseR, c_1, c_3, c_5, c_6, c_8, c_10] <;> simp [gA, mHouseG, mHouseR]; done) | (simp [c_1, c_3, c_5, c_6, c_8, c_10, gA, mHouseG, mHouseR, Bool.and_assoc]; done) | (simp [c_1, c_3, c_5, c_6, c_8, c_10, gA, mHouseG, mHouseR, Bool.and_assoc, Bool.or_assoc]; done) | rfl | (simp [c_1, c_3, c_5, c_6, c_8, c_10, gA, mHouseG, mHouseR]; omega))) (hPost H hM hg) hS hx hb hr hlk (Nat.zero_le _) (Nat.zero_le _) dX3_house_110
            · refine lv_aload_n hx hb dX3_house_69 rfl (lv_at hl 0 rfl) ?_
              refine lv_iconst (v := nI 2) hx hb dX3_house_70 zi_2 ?_
              refine kM_fails S hK hM hg hS 2 (by first | omega | assumption | grind) (Nat.le_of_ble_eq_true rfl) (Nat.le_of_ble_eq_true rfl) hl.1 (Nat.le_of_ble_eq_true rfl) dX3_house_71 (Nat.zero_le _) (Nat.zero_le _) (fun H locs hM hg hS => ?_)
              rw [show (gs (gs g 22 0 0) 22 0 2 : G) = mHouseG g a1 from by first | with_reducible rfl | (simp [c_1, c_3, c_5, c_6, c_8, c_10, gA, mHouseG, mHouseR]; done) | (simp only [c_1, c_3, c_5, c_6, c_8, c_10] <;> simp [gA, mHouseG, mHouseR]; done) | (simp only [gA, mHouseG, mHouseR, c_1, c_3, c_5, c_6, c_8, c_10] <;> simp [gA, mHouseG, mHouseR]; done) | (simp [c_1, c_3, c_5, c_6, c_8, c_10, gA, mHouseG, mHouseR, Bool.and_assoc]; done) | (simp [c_1, c_3, c_5, c_6, c_8, c_10, gA, mHouseG, mHouseR, Bool.and_assoc, Bool.or_assoc]; done) | rfl | (simp [c_1, c_3, c_5, c_6, c_8, c_10, gA, mHouseG, mHouseR]; omega)] at hM hg
              exact zc_nret (nI (mHouseR g a1)) (congrArg nI (show (0 : Nat) = (mHouseR g a1) from by first | with_reducible rfl | (simp [c_1, c_3, c_5, c_6, c_8, c_10, gA, mHouseG, mHouseR]; done) | (simp only [c_1, c_3, c_5, c_6, c_8, c_10] <;> simp [gA, mHouseG, mHouseR]; done) | (simp only [gA, mHouseG, mHouseR, c_1, c_3, c_5, c_6, c_8, c_10] <;> simp [gA, mHouseG, mHouseR]; done) | (simp [c_1, c_3, c_5, c_6, c_8, c_10, gA, mHouseG, mHouseR, Bool.and_assoc]; done) | (simp [c_1, c_3, c_5, c_6, c_8, c_10, gA, mHouseG, mHouseR, Bool.and_assoc, Bool.or_assoc]; done) | rfl | (simp [c_1, c_3, c_5, c_6, c_8, c_10, gA, mHouseG, mHouseR]; omega))) (hPost H hM hg) hS hx hb hr hlk (Nat.zero_le _) (Nat.zero_le _) dX3_house_74
  · rw [show (!(inB a1 24)).toNat = 1 from by rw [c_1]; rfl] at hM hg
    refine lv_iconst (v := nI 0) hx hb dX3_house_11 zi_0 ?_
    rw [show (gs g 22 0 1 : G) = mHouseG g a1 from by first | with_reducible rfl | (simp [c_1, gA, mHouseG, mHouseR]; done) | (simp only [c_1] <;> simp [gA, mHouseG, mHouseR]; done) | (simp only [gA, mHouseG, mHouseR, c_1] <;> simp [gA, mHouseG, mHouseR]; done) | (simp [c_1, gA, mHouseG, mHouseR, Bool.and_assoc]; done) | (simp [c_1, gA, mHouseG, mHouseR, Bool.and_assoc, Bool.or_assoc]; done) | rfl | (simp [c_1, gA, mHouseG, mHouseR]; omega)] at hM hg
    exact zc_nret (nI (mHouseR g a1)) (congrArg nI (show (0 : Nat) = (mHouseR g a1) from by first | with_reducible rfl | (simp [c_1, gA, mHouseG, mHouseR]; done) | (simp only [c_1] <;> simp [gA, mHouseG, mHouseR]; done) | (simp only [gA, mHouseG, mHouseR, c_1] <;> simp [gA, mHouseG, mHouseR]; done) | (simp [c_1, gA, mHouseG, mHouseR, Bool.and_assoc]; done) | (simp [c_1, gA, mHouseG, mHouseR, Bool.and_assoc, Bool.or_assoc]; done) | rfl | (simp [c_1, gA, mHouseG, mHouseR]; omega))) (hPost H hM hg) hS hx hb hr hlk (Nat.zero_le _) (Nat.zero_le _) dX3_house_12
def mCityG (g : G) (a1 : Int32) : G := if (inB a1 24) = true then (if (decide (g 7 1 = 2) && (hasG (gs g 22 0 0) (g 7 4) 32000 && (decide (g 2 (tn a1) = g 7 4 + 1) && !decide (mBuilds (gs g 22 0 0) (g 7 4) true 24 = 3)))) = true then (gWin (gTr (gs (gPay (gs g 22 0 0) 32000) 2 (tn a1) (g 7 4 + 4)))) else gs (gs g 22 0 0) 22 0 2) else gs g 22 0 1
def mCityR (g : G) (a1 : Int32) : Nat := if (inB a1 24) = true then (if (decide (g 7 1 = 2) && (hasG (gs g 22 0 0) (g 7 4) 32000 && (decide (g 2 (tn a1) = g 7 4 + 1) && !decide (mBuilds (gs g 22 0 0) (g 7 4) true 24 = 3)))) = true then (mPts (gWin (gTr (gs (gPay (gs g 22 0 0) 32000) 2 (tn a1) (g 7 4 + 4)))) (g 7 4)) else 0) else 0
set_option maxHeartbeats 1000000 in
set_option maxRecDepth 100000 in
theorem cM_city (l : Launch) {D : va_G} {dA : Nat → ClassId} {A : Nat → Prop} {ad : Nat → Nat} {g : G} (hg : Sm g) (a1 : Int32) (ht : g 7 4 < 3) (hb4 : ∀ j, j < 20 → g 4 j ≤ 100) (hr8 : ∀ p, p < 3 → roadsN g p 30 ≤ 8) (H0 : Heap) (hM : MS D dA A ad g H0) {Post : Option Value → Heap → Prop} (hPost : ∀ H : Heap, MS D dA A ad (mCityG g a1) H → Sm (mCityG g a1) → Post (some (.int (nI (mCityR g a1)))) H) : Ct l yX3_city (ws_ yX3_city cX3_city 2 (some .int)) (rmF 7 0 0 156) A (KT D dA) [.ref (ad 0), .int a1] H0 Post := by
  refine zc_of RX3 rfl (by decide) (Nat.le_of_ble_eq_true rfl) ?_
  intro pr en s m args below meth cd S hr hlk hnm hh hK ls hl
  have hS : va_S A s.heap H0 [] := zc_start hh
  have hg0 := hg
  have hx := S.1
  have hb := S.2.1
  have hown := S.2.2.2.1
  have hts := S.2.2.2.2
  have hl : lv_has ls 2 [(0, .ref (ad 0)), (1, .int a1)] := hl
  have hb5 : ∀ j, j < 20 → gs g 22 0 0 4 j ≤ 100 := hb4
  refine lv_aload_n hx hb dX3_city_0 rfl (lv_at hl 0 rfl) ?_
  refine lv_iload_n hx hb dX3_city_1 rfl (lv_at hl 1 rfl) ?_
  refine kM_isCorner S hK hM hg hS a1  (Nat.le_of_ble_eq_true rfl) (Nat.le_of_ble_eq_true rfl) hl.1 (Nat.le_of_ble_eq_true rfl) dX3_city_2 (Nat.zero_le _) (Nat.zero_le _) (fun locs hS => ?_)
  refine kM_asks S hK hM hg hS (inB a1 24)  (Nat.le_of_ble_eq_true rfl) (Nat.le_of_ble_eq_true rfl) hl.1 (Nat.le_of_ble_eq_true rfl) dX3_city_5 (Nat.zero_le _) (Nat.zero_le _) (fun H locs hM hg hS => ?_)
  refine zr_if_neB (b := (inB a1 24)) (tgt := 13) hx hb dX3_city_8 (by decide) (fun c_1 => ?_) (fun c_1 => ?_)
  · rw [show (!(inB a1 24)).toNat = 0 from by rw [c_1]; rfl] at hM hg
    obtain ⟨hj1, ea1⟩ := inB_tn (by decide) c_1
    rw [ea1] at hl
    refine lv_aload_n hx hb dX3_city_13 rfl (lv_at hl 0 rfl) ?_
    refine gM_phase S hK hM (g 7 1) (by first | rfl | simp [gs]) dX3_city_14 ?_
    have hb_2 : g 7 1 < 1048576 := by first | exact hg 7 1 | exact hg0 _ _ | (have := hg 7 1; omega) | omega
    refine lv_iconst (v := nI 2) hx hb dX3_city_17 zi_2 ?_
    refine zr_icmp_neN (a := (g 7 1)) (b := 2) (tgt := 63) hx hb (by omega) (by omega) dX3_city_18 (by decide) (fun c_3 => ?_) (fun c_3 => ?_)
    · refine lv_aload_n hx hb dX3_city_63 rfl (lv_at hl 0 rfl) ?_
      refine lv_iconst (v := nI 2) hx hb dX3_city_64 zi_2 ?_
      refine kM_fails S hK hM hg hS 2 (by first | omega | assumption | grind) (Nat.le_of_ble_eq_true rfl) (Nat.le_of_ble_eq_true rfl) hl.1 (Nat.le_of_ble_eq_true rfl) dX3_city_65 (Nat.zero_le _) (Nat.zero_le _) (fun H locs hM hg hS => ?_)
      rw [show (gs (gs g 22 0 0) 22 0 2 : G) = mCityG g a1 from by first | with_reducible rfl | (simp [c_1, c_3, gA, mCityG, mCityR]; done) | (simp only [c_1, c_3] <;> simp [gA, mCityG, mCityR]; done) | (simp only [gA, mCityG, mCityR, c_1, c_3] <;> simp [gA, mCityG, mCityR]; done) | (simp [c_1, c_3, gA, mCityG, mCityR, Bool.and_assoc]; done) | (simp [c_1, c_3, gA, mCityG, mCityR, Bool.and_assoc, Bool.or_assoc]; done) | rfl | (simp [c_1, c_3, gA, mCityG, mCityR]; omega)] at hM hg
      exact zc_nret (nI (mCityR g a1)) (congrArg nI (show (0 : Nat) = (mCityR g a1) from by first | with_reducible rfl | (simp [c_1, c_3, gA, mCityG, mCityR]; done) | (simp only [c_1, c_3] <;> simp [gA, mCityG, mCityR]; done) | (simp only [gA, mCityG, mCityR, c_1, c_3] <;> simp [gA, mCityG, mCityR]; done) | (simp [c_1, c_3, gA, mCityG, mCityR, Bool.and_assoc]; done) | (simp [c_1, c_3, gA, mCityG, mCityR, Bool.and_assoc, Bool.or_assoc]; done) | rfl | (simp [c_1, c_3, gA, mCityG, mCityR]; omega))) (hPost H hM hg) hS hx hb hr hlk (Nat.zero_le _) (Nat.zero_le _) dX3_city_68
    · refine lv_aload_n hx hb dX3_city_21 rfl (lv_at hl 0 rfl) ?_
      refine lv_aload_n hx hb dX3_city_22 rfl (lv_at hl 0 rfl) ?_
      refine gM_turn S hK hM (g 7 4) (by first | rfl | simp [gs]) dX3_city_23 ?_
      have hb_4 : g 7 4 < 1048576 := by first | exact hg 7 4 | exact hg0 _ _ | (have := hg 7 4; omega) | omega
      refine lv_sipush (v := nI 32000) hx hb dX3_city_26 zs_32000 ?_
      refine kM_hasAll S hK hM hg hS (g 7 4) 32000 (by first | omega | assumption | grind) (by first | omega | assumption | grind) (Nat.le_of_ble_eq_true rfl) (Nat.le_of_ble_eq_true rfl) hl.1 (Nat.le_of_ble_eq_true rfl) dX3_city_29 (Nat.zero_le _) (Nat.zero_le _) (fun locs hS => ?_)
      refine zr_if_eqB (b := hasG (gs g 22 0 0) (g 7 4) 32000) (tgt := 63) hx hb dX3_city_32 (by decide) (fun c_5 => ?_) (fun c_5 => ?_)
      · refine lv_aload_n hx hb dX3_city_63 rfl (lv_at hl 0 rfl) ?_
        refine lv_iconst (v := nI 2) hx hb dX3_city_64 zi_2 ?_
        refine kM_fails S hK hM hg hS 2 (by first | omega | assumption | grind) (Nat.le_of_ble_eq_true rfl) (Nat.le_of_ble_eq_true rfl) hl.1 (Nat.le_of_ble_eq_true rfl) dX3_city_65 (Nat.zero_le _) (Nat.zero_le _) (fun H locs hM hg hS => ?_)
        rw [show (gs (gs g 22 0 0) 22 0 2 : G) = mCityG g a1 from by first | with_reducible rfl | (simp [c_1, c_3, c_5, gA, mCityG, mCityR]; done) | (simp only [c_1, c_3, c_5] <;> simp [gA, mCityG, mCityR]; done) | (simp only [gA, mCityG, mCityR, c_1, c_3, c_5] <;> simp [gA, mCityG, mCityR]; done) | (simp [c_1, c_3, c_5, gA, mCityG, mCityR, Bool.and_assoc]; done) | (simp [c_1, c_3, c_5, gA, mCityG, mCityR, Bool.and_assoc, Bool.or_assoc]; done) | rfl | (simp [c_1, c_3, c_5, gA, mCityG, mCityR]; omega)] at hM hg
        exact zc_nret (nI (mCityR g a1)) (congrArg nI (show (0 : Nat) = (mCityR g a1) from by first | with_reducible rfl | (simp [c_1, c_3, c_5, gA, mCityG, mCityR]; done) | (simp only [c_1, c_3, c_5] <;> simp [gA, mCityG, mCityR]; done) | (simp only [gA, mCityG, mCityR, c_1, c_3, c_5] <;> simp [gA, mCityG, mCityR]; done) | (simp [c_1, c_3, c_5, gA, mCityG, mCityR, Bool.and_assoc]; done) | (simp [c_1, c_3, c_5, gA, mCityG, mCityR, Bool.and_assoc, Bool.or_assoc]; done) | rfl | (simp [c_1, c_3, c_5, gA, mCityG, mCityR]; omega))) (hPost H hM hg) hS hx hb hr hlk (Nat.zero_le _) (Nat.zero_le _) dX3_city_68
      · have hG1 := c_5
        refine lv_aload_n hx hb dX3_city_35 rfl (lv_at hl 0 rfl) ?_
        refine gM_building S hK hM dX3_city_36 ?_
        refine lv_iload_n hx hb dX3_city_39 rfl (lv_at hl 1 rfl) ?_
        refine lM_building S hK hM (tn a1) (by omega) (g 2 (tn a1)) (by first | rfl | simp [gs]) dX3_city_40 ?_
        have hb_6 : g 2 (tn a1) < 1048576 := by first | exact hg 2 (tn a1) | exact hg0 _ _ | (have := hg 2 (tn a1); omega) | omega
        refine lv_aload_n hx hb dX3_city_41 rfl (lv_at hl 0 rfl) ?_
        refine gM_turn S hK hM (g 7 4) (by first | rfl | simp [gs]) dX3_city_42 ?_
        have hb_7 : g 7 4 < 1048576 := by first | exact hg 7 4 | exact hg0 _ _ | (have := hg 7 4; omega) | omega
        refine lv_iconst (v := nI 1) hx hb dX3_city_45 zi_1 ?_
        refine zr_addN (a := (g 7 4)) (b := 1) hx hb dX3_city_46 ?_
        refine zr_icmp_neN (a := (g 2 (tn a1))) (b := ((g 7 4) + 1)) (tgt := 63) hx hb (by omega) (by omega) dX3_city_47 (by decide) (fun c_8 => ?_) (fun c_8 => ?_)
        · refine lv_aload_n hx hb dX3_city_63 rfl (lv_at hl 0 rfl) ?_
          refine lv_iconst (v := nI 2) hx hb dX3_city_64 zi_2 ?_
          refine kM_fails S hK hM hg hS 2 (by first | omega | assumption | grind) (Nat.le_of_ble_eq_true rfl) (Nat.le_of_ble_eq_true rfl) hl.1 (Nat.le_of_ble_eq_true rfl) dX3_city_65 (Nat.zero_le _) (Nat.zero_le _) (fun H locs hM hg hS => ?_)
          rw [show (gs (gs g 22 0 0) 22 0 2 : G) = mCityG g a1 from by first | with_reducible rfl | (simp [c_1, c_3, c_5, c_8, gA, mCityG, mCityR]; done) | (simp only [c_1, c_3, c_5, c_8] <;> simp [gA, mCityG, mCityR]; done) | (simp only [gA, mCityG, mCityR, c_1, c_3, c_5, c_8] <;> simp [gA, mCityG, mCityR]; done) | (simp [c_1, c_3, c_5, c_8, gA, mCityG, mCityR, Bool.and_assoc]; done) | (simp [c_1, c_3, c_5, c_8, gA, mCityG, mCityR, Bool.and_assoc, Bool.or_assoc]; done) | rfl | (simp [c_1, c_3, c_5, c_8, gA, mCityG, mCityR]; omega)] at hM hg
          exact zc_nret (nI (mCityR g a1)) (congrArg nI (show (0 : Nat) = (mCityR g a1) from by first | with_reducible rfl | (simp [c_1, c_3, c_5, c_8, gA, mCityG, mCityR]; done) | (simp only [c_1, c_3, c_5, c_8] <;> simp [gA, mCityG, mCityR]; done) | (simp only [gA, mCityG, mCityR, c_1, c_3, c_5, c_8] <;> simp [gA, mCityG, mCityR]; done) | (simp [c_1, c_3, c_5, c_8, gA, mCityG, mCityR, Bool.and_assoc]; done) | (simp [c_1, c_3, c_5, c_8, gA, mCityG, mCityR, Bool.and_assoc, Bool.or_assoc]; done) | rfl | (simp [c_1, c_3, c_5, c_8, gA, mCityG, mCityR]; omega))) (hPost H hM hg) hS hx hb hr hlk (Nat.zero_le _) (Nat.zero_le _) dX3_city_68
        · refine lv_aload_n hx hb dX3_city_50 rfl (lv_at hl 0 rfl) ?_
          refine lv_aload_n hx hb dX3_city_51 rfl (lv_at hl 0 rfl) ?_
          refine gM_turn S hK hM (g 7 4) (by first | rfl | simp [gs]) dX3_city_52 ?_
          have hb_9 : g 7 4 < 1048576 := by first | exact hg 7 4 | exact hg0 _ _ | (have := hg 7 4; omega) | omega
          refine lv_iconst (v := nI 1) hx hb dX3_city_55 zi_1 ?_
          refine kM_buildings S hK hM hg hS (g 7 4) true (by first | omega | assumption | grind) (Nat.le_of_ble_eq_true rfl) (Nat.le_of_ble_eq_true rfl) hl.1 (Nat.le_of_ble_eq_true rfl) dX3_city_56 (Nat.zero_le _) (Nat.zero_le _) (fun locs hS => ?_)
          have f56_0 : mBuilds (gs g 22 0 0) (g 7 4) true 24 ≤ 24 := sm_b _ _
          refine lv_iconst (v := nI 3) hx hb dX3_city_59 zi_3 ?_
          refine zr_icmp_neN (a := (mBuilds (gs g 22 0 0) (g 7 4) true 24)) (b := 3) (tgt := 69) hx hb (by omega) (by omega) dX3_city_60 (by decide) (fun c_10 => ?_) (fun c_10 => ?_)
          · refine lv_aload_n hx hb dX3_city_69 rfl (lv_at hl 0 rfl) ?_
            refine lv_sipush (v := nI 32000) hx hb dX3_city_70 zs_32000 ?_
            refine kM_pays S hK hM hg hS 32000 (by exact ht) (by exact hb4) (by first | omega | assumption | grind) (by exact hasG_le hG1) (Nat.le_of_ble_eq_true rfl) (Nat.le_of_ble_eq_true rfl) hl.1 (Nat.le_of_ble_eq_true rfl) dX3_city_73 (Nat.zero_le _) (Nat.zero_le _) (fun H locs hM hg hS => ?_)
            have h74 : (gPay (gs g 22 0 0) 32000) 7 4 = g 7 4 := gPay_nf _ _ (by decide) _
            have hlay : ∀ p, p < 3 → roadsN (gs (gPay (gs g 22 0 0) 32000) 2 (tn a1) (g 7 4 + 4)) p 30 ≤ 8 := by intro p hp; rw [roadsN_f3 (y := g) (fun j => by rw [gs_nf _ (by decide), gPay_nf _ _ (by decide)]; rfl)]; exact hr8 p hp
            refine lv_aload_n hx hb dX3_city_76 rfl (lv_at hl 0 rfl) ?_
            refine gM_building S hK hM dX3_city_77 ?_
            refine lv_iload_n hx hb dX3_city_80 rfl (lv_at hl 1 rfl) ?_
            refine lv_aload_n hx hb dX3_city_81 rfl (lv_at hl 0 rfl) ?_
            refine gM_turn S hK hM (g 7 4) (by first | rfl | (simp [giveN_nf, gPay_nf, gWin_nf, gWin_7, gLay_nf, gLay_7, gTr_nf, gTr_7, gs]; done)) dX3_city_82 ?_
            have hb_11 : g 7 4 < 1048576 := by first | exact hg 7 4 | exact hg0 _ _ | (have := hg 7 4; omega) | omega
            refine lv_iconst (v := nI 4) hx hb dX3_city_85 zi_4 ?_
            refine zr_addN (a := (g 7 4)) (b := 4) hx hb dX3_city_86 ?_
            refine sM_building S hK hM hS (tn a1) (by omega) ((g 7 4) + 4) dX3_city_87 (fun H locs hM hS => ?_)
            have hg : Sm (gs (gPay (gs g 22 0 0) 32000) 2 (tn a1) ((g 7 4) + 4)) := Sm_gs hg (by first | omega | exact Nat.lt_of_le_of_lt (Bool.toNat_le _) (by decide) | ((repeat' split) <;> omega))
            refine lv_aload_n hx hb dX3_city_88 rfl (lv_at hl 0 rfl) ?_
            refine kM_looksAtTrails S hK hM hg hS  (by exact hlay) (Nat.le_of_ble_eq_true rfl) (Nat.le_of_ble_eq_true rfl) hl.1 (Nat.le_of_ble_eq_true rfl) dX3_city_89 (Nat.zero_le _) (Nat.zero_le _) (fun H locs hM hg hS => ?_)
            refine lv_aload_n hx hb dX3_city_92 rfl (lv_at hl 0 rfl) ?_
            refine kM_looksAtWinner S hK hM hg hS  (by rw [gTr_7 _ (by decide)]; show (gPay (gs g 22 0 0) 32000) 7 4 < 3; rw [h74]; exact ht) (Nat.le_of_ble_eq_true rfl) (Nat.le_of_ble_eq_true rfl) hl.1 (Nat.le_of_ble_eq_true rfl) dX3_city_93 (Nat.zero_le _) (Nat.zero_le _) (fun H locs hM hg hS => ?_)
            refine lv_aload_n hx hb dX3_city_96 rfl (lv_at hl 0 rfl) ?_
            refine lv_aload_n hx hb dX3_city_97 rfl (lv_at hl 0 rfl) ?_
            refine gM_turn S hK hM (g 7 4) (by first | rfl | (simp [giveN_nf, gPay_nf, gWin_nf, gWin_7, gLay_nf, gLay_7, gTr_nf, gTr_7, gs]; done)) dX3_city_98 ?_
            have hb_12 : g 7 4 < 1048576 := by first | exact hg 7 4 | exact hg0 _ _ | (have := hg 7 4; omega) | omega
            refine kM_pointsOf S hK hM hg hS (g 7 4) (by first | omega | assumption | grind) (Nat.le_of_ble_eq_true rfl) (Nat.le_of_ble_eq_true rfl) hl.1 (Nat.le_of_ble_eq_true rfl) dX3_city_101 (Nat.zero_le _) (Nat.zero_le _) (fun locs hS => ?_)
            have f101_0 : mPts (gWin (gTr (gs (gPay (gs g 22 0 0) 32000) 2 (tn a1) ((g 7 4) + 4)))) (g 7 4) < 1048700 := mPts_lt hg _
            rw [show (gWin (gTr (gs (gPay (gs g 22 0 0) 32000) 2 (tn a1) ((g 7 4) + 4))) : G) = mCityG g a1 from by first | with_reducible rfl | (simp [c_1, c_3, c_5, c_8, c_10, gA, mCityG, mCityR]; done) | (simp only [c_1, c_3, c_5, c_8, c_10] <;> simp [gA, mCityG, mCityR]; done) | (simp only [gA, mCityG, mCityR, c_1, c_3, c_5, c_8, c_10] <;> simp [gA, mCityG, mCityR]; done) | (simp [c_1, c_3, c_5, c_8, c_10, gA, mCityG, mCityR, Bool.and_assoc]; done) | (simp [c_1, c_3, c_5, c_8, c_10, gA, mCityG, mCityR, Bool.and_assoc, Bool.or_assoc]; done) | rfl | (simp [c_1, c_3, c_5, c_8, c_10, gA, mCityG, mCityR]; omega)] at hM hg
            exact zc_nret (nI (mCityR g a1)) (congrArg nI (show (mPts (gWin (gTr (gs (gPay (gs g 22 0 0) 32000) 2 (tn a1) ((g 7 4) + 4)))) (g 7 4) : Nat) = (mCityR g a1) from by first | with_reducible rfl | (simp [c_1, c_3, c_5, c_8, c_10, gA, mCityG, mCityR]; done) | (simp only [c_1, c_3, c_5, c_8, c_10] <;> simp [gA, mCityG, mCityR]; done) | (simp only [gA, mCityG, mCityR, c_1, c_3, c_5, c_8, c_10] <;> simp [gA, mCityG, mCityR]; done) | (simp [c_1, c_3, c_5, c_8, c_10, gA, mCityG, mCityR, Bool.and_assoc]; done) | (simp [c_1, c_3, c_5, c_8, c_10, gA, mCityG, mCityR, Bool.and_assoc, Bool.or_assoc]; done) | rfl | (simp [c_1, c_3, c_5, c_8, c_10, gA, mCityG, mCityR]; omega))) (hPost H hM hg) hS hx hb hr hlk (Nat.zero_le _) (Nat.zero_le _) dX3_city_104
          · refine lv_aload_n hx hb dX3_city_63 rfl (lv_at hl 0 rfl) ?_
            refine lv_iconst (v := nI 2) hx hb dX3_city_64 zi_2 ?_
            refine kM_fails S hK hM hg hS 2 (by first | omega | assumption | grind) (Nat.le_of_ble_eq_true rfl) (Nat.le_of_ble_eq_true rfl) hl.1 (Nat.le_of_ble_eq_true rfl) dX3_city_65 (Nat.zero_le _) (Nat.zero_le _) (fun H locs hM hg hS => ?_)
            rw [show (gs (gs g 22 0 0) 22 0 2 : G) = mCityG g a1 from by first | with_reducible rfl | (simp [c_1, c_3, c_5, c_8, c_10, gA, mCityG, mCityR]; done) | (simp only [c_1, c_3, c_5, c_8, c_10] <;> simp [gA, mCityG, mCityR]; done) | (simp only [gA, mCityG, mCityR, c_1, c_3, c_5, c_8, c_10] <;> simp [gA, mCityG, mCityR]; done) | (simp [c_1, c_3, c_5, c_8, c_10, gA, mCityG, mCityR, Bool.and_assoc]; done) | (simp [c_1, c_3, c_5, c_8, c_10, gA, mCityG, mCityR, Bool.and_assoc, Bool.or_assoc]; done) | rfl | (simp [c_1, c_3, c_5, c_8, c_10, gA, mCityG, mCityR]; omega)] at hM hg
            exact zc_nret (nI (mCityR g a1)) (congrArg nI (show (0 : Nat) = (mCityR g a1) from by first | with_reducible rfl | (simp [c_1, c_3, c_5, c_8, c_10, gA, mCityG, mCityR]; done) | (simp only [c_1, c_3, c_5, c_8, c_10] <;> simp [gA, mCityG, mCityR]; done) | (simp only [gA, mCityG, mCityR, c_1, c_3, c_5, c_8, c_10] <;> simp [gA, mCityG, mCityR]; done) | (simp [c_1, c_3, c_5, c_8, c_10, gA, mCityG, mCityR, Bool.and_assoc]; done) | (simp [c_1, c_3, c_5, c_8, c_10, gA, mCityG, mCityR, Bool.and_assoc, Bool.or_assoc]; done) | rfl | (simp [c_1, c_3, c_5, c_8, c_10, gA, mCityG, mCityR]; omega))) (hPost H hM hg) hS hx hb hr hlk (Nat.zero_le _) (Nat.zero_le _) dX3_city_68
  · rw [show (!(inB a1 24)).toNat = 1 from by rw [c_1]; rfl] at hM hg
    refine lv_iconst (v := nI 0) hx hb dX3_city_11 zi_0 ?_
    rw [show (gs g 22 0 1 : G) = mCityG g a1 from by first | with_reducible rfl | (simp [c_1, gA, mCityG, mCityR]; done) | (simp only [c_1] <;> simp [gA, mCityG, mCityR]; done) | (simp only [gA, mCityG, mCityR, c_1] <;> simp [gA, mCityG, mCityR]; done) | (simp [c_1, gA, mCityG, mCityR, Bool.and_assoc]; done) | (simp [c_1, gA, mCityG, mCityR, Bool.and_assoc, Bool.or_assoc]; done) | rfl | (simp [c_1, gA, mCityG, mCityR]; omega)] at hM hg
    exact zc_nret (nI (mCityR g a1)) (congrArg nI (show (0 : Nat) = (mCityR g a1) from by first | with_reducible rfl | (simp [c_1, gA, mCityG, mCityR]; done) | (simp only [c_1] <;> simp [gA, mCityG, mCityR]; done) | (simp only [gA, mCityG, mCityR, c_1] <;> simp [gA, mCityG, mCityR]; done) | (simp [c_1, gA, mCityG, mCityR, Bool.and_assoc]; done) | (simp [c_1, gA, mCityG, mCityR, Bool.and_assoc, Bool.or_assoc]; done) | rfl | (simp [c_1, gA, mCityG, mCityR]; omega))) (hPost H hM hg) hS hx hb hr hlk (Nat.zero_le _) (Nat.zero_le _) dX3_city_12
