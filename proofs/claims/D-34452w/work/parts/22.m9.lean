/-! THE MODEL: cards (printed by gen/m9.py) -/
theorem gRob_nf (y : G) (h v d : Nat) {f : Nat} (h4 : f ≠ 4) (h7 : f ≠ 7) (j : Nat) : gRob y h v d f j = y f j := by
  unfold gRob
  split
  · exact gs_nf _ h7
  · rw [moveN_nf _ _ _ _ _ h4]; exact gs_nf _ h7
theorem gRob_7 (y : G) (h v d : Nat) {j : Nat} (hj : j ≠ 0) : gRob y h v d 7 j = y 7 j := by
  unfold gRob
  split
  · exact gs_ni _ hj
  · rw [moveN_nf _ _ _ _ _ (by decide)]; exact gs_ni _ hj
def mBuyG (g : G) : G := if (decide (g 7 1 = 2) && (decide (g 8 0 < 15) && hasG g (g 7 4) 11100)) = true then (gWin (gs (gs (gs (gPay (gs g 22 0 0) 11100) 8 0 (g 8 0 + 1)) 24 (5 * g 7 4 + deckN (g 8 0)) (g 24 (5 * g 7 4 + deckN (g 8 0)) + 1)) 25 (deckN (g 8 0)) (g 25 (deckN (g 8 0)) + 1))) else gs g 22 0 1
def mBuyR (g : G) : Nat := if (decide (g 7 1 = 2) && (decide (g 8 0 < 15) && hasG g (g 7 4) 11100)) = true then (deckN (g 8 0)) else 0
set_option maxHeartbeats 1000000 in
set_option maxRecDepth 100000 in
theorem cM_buy (l : Launch) {D : va_G} {dA : Nat → ClassId} {A : Nat → Prop} {ad : Nat → Nat} {g : G} (hg : Sm g) (ht : g 7 4 < 3) (hb4 : ∀ j, j < 20 → g 4 j ≤ 100) (hc24 : ∀ j, j < 15 → g 24 j ≤ 15) (hc25 : ∀ k, k < 5 → g 25 k ≤ 15) (H0 : Heap) (hM : MS D dA A ad g H0) {Post : Option Value → Heap → Prop} (hPost : ∀ H : Heap, MS D dA A ad (mBuyG g ) H → Sm (mBuyG g ) → Post (some (.int (nI (mBuyR g )))) H) : Ct l yX3_buy (ws_ yX3_buy cX3_buy 2 (some .int)) (rmF 5 0 0 99) A (KT D dA) [.ref (ad 0)] H0 Post := by
  refine zc_of RX3 rfl (by decide) (Nat.le_of_ble_eq_true rfl) ?_
  intro pr en s m args below meth cd S hr hlk hnm hh hK ls hl
  have hS : va_S A s.heap H0 [] := zc_start hh
  have hg0 := hg
  have hx := S.1
  have hb := S.2.1
  have hown := S.2.2.2.1
  have hts := S.2.2.2.2
  have hl : lv_has ls 2 [(0, .ref (ad 0))] := hl
  have hb5 : ∀ j, j < 20 → gs g 22 0 0 4 j ≤ 100 := hb4
  refine lv_aload_n hx hb dX3_buy_0 rfl (lv_at hl 0 rfl) ?_
  refine lv_aload_n hx hb dX3_buy_1 rfl (lv_at hl 0 rfl) ?_
  refine gM_phase S hK hM (g 7 1) rfl dX3_buy_2 ?_
  have hb_1 : g 7 1 < 1048576 := by first | exact hg 7 1 | exact hg0 _ _ | (have := hg 7 1; omega) | omega
  refine lv_iconst (v := nI 2) hx hb dX3_buy_5 zi_2 ?_
  have J_37 : ∀ yS0_37 : Int32, yS0_37 = nI (decide ((g 7 1) = 2) && (decide ((g 8 0) < 15) && ((hasG g (g 7 4) 11100)))).toNat → ∀ (H : Heap) (locs : List Loc), MS D dA A ad g H → va_S A s.heap H locs → ∀ ls : Array Slot, lv_has ls 2 [(0, .ref (ad 0))] → W pr l en (rmF 5 0 0 99) s m args below meth cd H locs 0 0 (MQ below (zc_Q Post A) args s 0 0 A) (F0 m 37 ls [.int yS0_37, .ref (ad 0)]) := by
    intro yS0_37 eyS0_37 H locs hM hS ls hl
    subst eyS0_37
    refine kM_asks S hK hM hg hS (decide ((g 7 1) = 2) && (decide ((g 8 0) < 15) && ((hasG g (g 7 4) 11100))))  (Nat.le_of_ble_eq_true rfl) (Nat.le_of_ble_eq_true rfl) hl.1 (Nat.le_of_ble_eq_true rfl) dX3_buy_37 (Nat.zero_le _) (Nat.zero_le _) (fun H locs hM hg hS => ?_)
    refine zr_if_neB (b := (decide ((g 7 1) = 2) && (decide ((g 8 0) < 15) && ((hasG g (g 7 4) 11100))))) (tgt := 45) hx hb dX3_buy_40 (by decide) (fun c_7 => ?_) (fun c_7 => ?_)
    · rw [show (!(decide ((g 7 1) = 2) && (decide ((g 8 0) < 15) && ((hasG g (g 7 4) 11100))))).toNat = 0 from by rw [c_7]; rfl] at hM hg
      have hB := c_7
      simp only [Bool.and_eq_true, decide_eq_true_eq] at hB
      have hkd := deckN_le (g 8 0)
      have hx24 := hc24 (5 * g 7 4 + deckN (g 8 0)) (by omega)
      have hx25 := hc25 (deckN (g 8 0)) (by omega)
      refine lv_aload_n hx hb dX3_buy_45 rfl (lv_at hl 0 rfl) ?_
      refine lv_sipush (v := nI 11100) hx hb dX3_buy_46 zs_11100 ?_
      refine kM_pays S hK hM hg hS 11100 (by exact ht) (by exact hb4) (by first | omega | assumption | grind) (by exact hasG_le hB.2.2) (Nat.le_of_ble_eq_true rfl) (Nat.le_of_ble_eq_true rfl) hl.1 (Nat.le_of_ble_eq_true rfl) dX3_buy_49 (Nat.zero_le _) (Nat.zero_le _) (fun H locs hM hg hS => ?_)
      refine lv_aload_n hx hb dX3_buy_52 rfl (lv_at hl 0 rfl) ?_
      refine gM_bought S hK hM (g 8 0) (by first | rfl | (simp [giveN_nf, gPay_nf, gWin_nf, gWin_7, gLay_nf, gLay_7, gTr_nf, gTr_7, gs]; done)) dX3_buy_53 ?_
      have hb_8 : g 8 0 < 1048576 := by first | exact hg 8 0 | exact hg0 _ _ | (have := hg 8 0; omega) | omega
      refine kM_kindOf S hK hM hg hS (g 8 0) (by first | omega | assumption | grind) (Nat.le_of_ble_eq_true rfl) (Nat.le_of_ble_eq_true rfl) hl.1 (Nat.le_of_ble_eq_true rfl) dX3_buy_56 (Nat.zero_le _) (Nat.zero_le _) (fun locs hS => ?_)
      have f56_0 : deckN (g 8 0) ≤ 4 := deckN_le _
      refine lv_istore_n (lv' := [(1, .int (nI (deckN (g 8 0)))), (0, .ref (ad 0))]) hx hb dX3_buy_59 rfl hl (by decide) rfl (fun ls hl => ?_)
      refine lv_aload_n hx hb dX3_buy_60 rfl (lv_at hl 1 rfl) ?_
      refine lv_dup hx hb dX3_buy_61 rfl ?_
      refine gM_bought S hK hM (g 8 0) (by first | rfl | (simp [giveN_nf, gPay_nf, gWin_nf, gWin_7, gLay_nf, gLay_7, gTr_nf, gTr_7, gs]; done)) dX3_buy_62 ?_
      have hb_9 : g 8 0 < 1048576 := by first | exact hg 8 0 | exact hg0 _ _ | (have := hg 8 0; omega) | omega
      refine lv_iconst (v := nI 1) hx hb dX3_buy_65 zi_1 ?_
      refine zr_addN (a := (g 8 0)) (b := 1) hx hb dX3_buy_66 ?_
      refine pM_bought S hK hM hS ((g 8 0) + 1) dX3_buy_67 (fun H locs hM hS => ?_)
      have hg : Sm (gs (gPay (gs g 22 0 0) 11100) 8 0 ((g 8 0) + 1)) := Sm_gs hg (by first | omega | exact Nat.lt_of_le_of_lt (Bool.toNat_le _) (by decide) | ((repeat' split) <;> omega))
      refine lv_aload_n hx hb dX3_buy_70 rfl (lv_at hl 1 rfl) ?_
      refine gM_cards S hK hM dX3_buy_71 ?_
      refine lv_iconst (v := nI 5) hx hb dX3_buy_74 zi_5 ?_
      refine lv_aload_n hx hb dX3_buy_75 rfl (lv_at hl 1 rfl) ?_
      refine gM_turn S hK hM (g 7 4) (by first | rfl | (simp [giveN_nf, gPay_nf, gWin_nf, gWin_7, gLay_nf, gLay_7, gTr_nf, gTr_7, gs]; done)) dX3_buy_76 ?_
      have hb_10 : g 7 4 < 1048576 := by first | exact hg 7 4 | exact hg0 _ _ | (have := hg 7 4; omega) | omega
      refine zr_mulN (a := 5) (b := (g 7 4)) hx hb dX3_buy_79 ?_
      refine lv_iload_n hx hb dX3_buy_80 rfl (lv_at hl 0 rfl) ?_
      refine zr_addN (a := (5 * (g 7 4))) (b := (deckN (g 8 0))) hx hb dX3_buy_81 ?_
      refine lv_dup2_11 hx hb dX3_buy_82 rfl rfl ?_
      refine lM_cards S hK hM ((5 * (g 7 4)) + (deckN (g 8 0))) (by omega) (g 24 ((5 * (g 7 4)) + (deckN (g 8 0)))) (by first | rfl | (simp [giveN_nf, gPay_nf, gWin_nf, gWin_7, gLay_nf, gLay_7, gTr_nf, gTr_7, gs]; done)) dX3_buy_83 ?_
      have hb_11 : g 24 ((5 * (g 7 4)) + (deckN (g 8 0))) < 1048576 := by first | exact hg 24 ((5 * (g 7 4)) + (deckN (g 8 0))) | exact hg0 _ _ | (have := hg 24 ((5 * (g 7 4)) + (deckN (g 8 0))); omega) | omega
      refine lv_iconst (v := nI 1) hx hb dX3_buy_84 zi_1 ?_
      refine zr_addN (a := (g 24 ((5 * (g 7 4)) + (deckN (g 8 0))))) (b := 1) hx hb dX3_buy_85 ?_
      refine sM_cards S hK hM hS ((5 * (g 7 4)) + (deckN (g 8 0))) (by omega) ((g 24 ((5 * (g 7 4)) + (deckN (g 8 0)))) + 1) dX3_buy_86 (fun H locs hM hS => ?_)
      have hg : Sm (gs (gs (gPay (gs g 22 0 0) 11100) 8 0 ((g 8 0) + 1)) 24 ((5 * (g 7 4)) + (deckN (g 8 0))) ((g 24 ((5 * (g 7 4)) + (deckN (g 8 0)))) + 1)) := Sm_gs hg (by first | omega | exact Nat.lt_of_le_of_lt (Bool.toNat_le _) (by decide) | ((repeat' split) <;> omega))
      refine lv_aload_n hx hb dX3_buy_87 rfl (lv_at hl 1 rfl) ?_
      refine gM_fresh S hK hM dX3_buy_88 ?_
      refine lv_iload_n hx hb dX3_buy_91 rfl (lv_at hl 0 rfl) ?_
      refine lv_dup2_11 hx hb dX3_buy_92 rfl rfl ?_
      refine lM_fresh S hK hM (deckN (g 8 0)) (by omega) (g 25 (deckN (g 8 0))) (by first | rfl | (simp [giveN_nf, gPay_nf, gWin_nf, gWin_7, gLay_nf, gLay_7, gTr_nf, gTr_7, gs]; done)) dX3_buy_93 ?_
      have hb_12 : g 25 (deckN (g 8 0)) < 1048576 := by first | exact hg 25 (deckN (g 8 0)) | exact hg0 _ _ | (have := hg 25 (deckN (g 8 0)); omega) | omega
      refine lv_iconst (v := nI 1) hx hb dX3_buy_94 zi_1 ?_
      refine zr_addN (a := (g 25 (deckN (g 8 0)))) (b := 1) hx hb dX3_buy_95 ?_
      refine sM_fresh S hK hM hS (deckN (g 8 0)) (by omega) ((g 25 (deckN (g 8 0))) + 1) dX3_buy_96 (fun H locs hM hS => ?_)
      have hg : Sm (gs (gs (gs (gPay (gs g 22 0 0) 11100) 8 0 ((g 8 0) + 1)) 24 ((5 * (g 7 4)) + (deckN (g 8 0))) ((g 24 ((5 * (g 7 4)) + (deckN (g 8 0)))) + 1)) 25 (deckN (g 8 0)) ((g 25 (deckN (g 8 0))) + 1)) := Sm_gs hg (by first | omega | exact Nat.lt_of_le_of_lt (Bool.toNat_le _) (by decide) | ((repeat' split) <;> omega))
      refine lv_aload_n hx hb dX3_buy_97 rfl (lv_at hl 1 rfl) ?_
      refine kM_looksAtWinner S hK hM hg hS  (by show (gPay (gs g 22 0 0) 11100) 7 4 < 3; rw [gPay_nf _ _ (by decide)]; exact ht) (Nat.le_of_ble_eq_true rfl) (Nat.le_of_ble_eq_true rfl) hl.1 (Nat.le_of_ble_eq_true rfl) dX3_buy_98 (Nat.zero_le _) (Nat.zero_le _) (fun H locs hM hg hS => ?_)
      refine lv_iload_n hx hb dX3_buy_101 rfl (lv_at hl 0 rfl) ?_
      rw [show (gWin (gs (gs (gs (gPay (gs g 22 0 0) 11100) 8 0 ((g 8 0) + 1)) 24 ((5 * (g 7 4)) + (deckN (g 8 0))) ((g 24 ((5 * (g 7 4)) + (deckN (g 8 0)))) + 1)) 25 (deckN (g 8 0)) ((g 25 (deckN (g 8 0))) + 1)) : G) = mBuyG g  from by first | with_reducible rfl | (simp [c_7, gA, mBuyG, mBuyR]; done) | (simp only [c_7] <;> simp [gA, mBuyG, mBuyR]; done) | (simp only [gA, mBuyG, mBuyR, c_7] <;> simp [gA, mBuyG, mBuyR]; done) | (simp [c_7, gA, mBuyG, mBuyR, Bool.and_assoc]; done) | (simp [c_7, gA, mBuyG, mBuyR, Bool.and_assoc, Bool.or_assoc]; done) | rfl | (simp [c_7, gA, mBuyG, mBuyR]; omega)] at hM hg
      exact zc_nret (nI (mBuyR g )) (congrArg nI (show (deckN (g 8 0) : Nat) = (mBuyR g ) from by first | with_reducible rfl | (simp [c_7, gA, mBuyG, mBuyR]; done) | (simp only [c_7] <;> simp [gA, mBuyG, mBuyR]; done) | (simp only [gA, mBuyG, mBuyR, c_7] <;> simp [gA, mBuyG, mBuyR]; done) | (simp [c_7, gA, mBuyG, mBuyR, Bool.and_assoc]; done) | (simp [c_7, gA, mBuyG, mBuyR, Bool.and_assoc, Bool.or_assoc]; done) | rfl | (simp [c_7, gA, mBuyG, mBuyR]; omega))) (hPost H hM hg) hS hx hb hr hlk (Nat.zero_le _) (Nat.zero_le _) dX3_buy_102
    · rw [show (!(decide ((g 7 1) = 2) && (decide ((g 8 0) < 15) && ((hasG g (g 7 4) 11100))))).toNat = 1 from by rw [c_7]; rfl] at hM hg
      refine lv_iconst (v := nI 0) hx hb dX3_buy_43 zi_0 ?_
      rw [show (gs g 22 0 1 : G) = mBuyG g  from by first | with_reducible rfl | (simp [c_7, gA, mBuyG, mBuyR]; done) | (simp only [c_7] <;> simp [gA, mBuyG, mBuyR]; done) | (simp only [gA, mBuyG, mBuyR, c_7] <;> simp [gA, mBuyG, mBuyR]; done) | (simp [c_7, gA, mBuyG, mBuyR, Bool.and_assoc]; done) | (simp [c_7, gA, mBuyG, mBuyR, Bool.and_assoc, Bool.or_assoc]; done) | rfl | (simp [c_7, gA, mBuyG, mBuyR]; omega)] at hM hg
      exact zc_nret (nI (mBuyR g )) (congrArg nI (show (0 : Nat) = (mBuyR g ) from by first | with_reducible rfl | (simp [c_7, gA, mBuyG, mBuyR]; done) | (simp only [c_7] <;> simp [gA, mBuyG, mBuyR]; done) | (simp only [gA, mBuyG, mBuyR, c_7] <;> simp [gA, mBuyG, mBuyR]; done) | (simp [c_7, gA, mBuyG, mBuyR, Bool.and_assoc]; done) | (simp [c_7, gA, mBuyG, mBuyR, Bool.and_assoc, Bool.or_assoc]; done) | rfl | (simp [c_7, gA, mBuyG, mBuyR]; omega))) (hPost H hM hg) hS hx hb hr hlk (Nat.zero_le _) (Nat.zero_le _) dX3_buy_44
  refine zr_icmp_neN (a := (g 7 1)) (b := 2) (tgt := 36) hx hb (by omega) (by omega) dX3_buy_6 (by decide) (fun c_13 => ?_) (fun c_13 => ?_)
  · refine lv_iconst (v := nI 0) hx hb dX3_buy_36 zi_0 ?_
    exact J_37 _ (congrArg (fun z : Bool => nI z.toNat) (show (false : Bool) = (decide ((g 7 1) = 2) && (decide ((g 8 0) < 15) && ((hasG g (g 7 4) 11100)))) from by first | with_reducible rfl | (simp [c_13, gA, mBuyG, mBuyR]; done) | (simp only [c_13] <;> simp [gA, mBuyG, mBuyR]; done) | (simp only [gA, mBuyG, mBuyR, c_13] <;> simp [gA, mBuyG, mBuyR]; done) | (simp [c_13, gA, mBuyG, mBuyR, Bool.and_assoc]; done) | (simp [c_13, gA, mBuyG, mBuyR, Bool.and_assoc, Bool.or_assoc]; done) | rfl | (simp [c_13, gA, mBuyG, mBuyR]; omega))) H0 [] hM hS ls (lv_sub hl [0] rfl)
  · refine lv_aload_n hx hb dX3_buy_9 rfl (lv_at hl 0 rfl) ?_
    refine gM_bought S hK hM (g 8 0) rfl dX3_buy_10 ?_
    have hb_14 : g 8 0 < 1048576 := by first | exact hg 8 0 | exact hg0 _ _ | (have := hg 8 0; omega) | omega
    refine lv_bipush (v := nI 15) hx hb dX3_buy_13 zb_15 ?_
    refine zr_icmp_geN (a := (g 8 0)) (b := 15) (tgt := 36) hx hb (by omega) (by omega) dX3_buy_15 (by decide) (fun c_15 => ?_) (fun c_15 => ?_)
    · refine lv_iconst (v := nI 0) hx hb dX3_buy_36 zi_0 ?_
      exact J_37 _ (congrArg (fun z : Bool => nI z.toNat) (show (false : Bool) = (decide ((g 7 1) = 2) && (decide ((g 8 0) < 15) && ((hasG g (g 7 4) 11100)))) from by first | with_reducible rfl | (simp [c_13, c_15, gA, mBuyG, mBuyR]; done) | (simp only [c_13, c_15] <;> simp [gA, mBuyG, mBuyR]; done) | (simp only [gA, mBuyG, mBuyR, c_13, c_15] <;> simp [gA, mBuyG, mBuyR]; done) | (simp [c_13, c_15, gA, mBuyG, mBuyR, Bool.and_assoc]; done) | (simp [c_13, c_15, gA, mBuyG, mBuyR, Bool.and_assoc, Bool.or_assoc]; done) | rfl | (simp [c_13, c_15, gA, mBuyG, mBuyR]; omega))) H0 [] hM hS ls (lv_sub hl [0] rfl)
    · refine lv_aload_n hx hb dX3_buy_18 rfl (lv_at hl 0 rfl) ?_
      refine lv_aload_n hx hb dX3_buy_19 rfl (lv_at hl 0 rfl) ?_
      refine gM_turn S hK hM (g 7 4) rfl dX3_buy_20 ?_
      have hb_16 : g 7 4 < 1048576 := by first | exact hg 7 4 | exact hg0 _ _ | (have := hg 7 4; omega) | omega
      refine lv_sipush (v := nI 11100) hx hb dX3_buy_23 zs_11100 ?_
      refine kM_hasAll S hK hM hg hS (g 7 4) 11100 (by first | omega | assumption | grind) (by first | omega | assumption | grind) (Nat.le_of_ble_eq_true rfl) (Nat.le_of_ble_eq_true rfl) hl.1 (Nat.le_of_ble_eq_true rfl) dX3_buy_26 (Nat.zero_le _) (Nat.zero_le _) (fun locs hS => ?_)
      refine zr_if_eqB (b := hasG g (g 7 4) 11100) (tgt := 36) hx hb dX3_buy_29 (by decide) (fun c_17 => ?_) (fun c_17 => ?_)
      · refine lv_iconst (v := nI 0) hx hb dX3_buy_36 zi_0 ?_
        exact J_37 _ (congrArg (fun z : Bool => nI z.toNat) (show (false : Bool) = (decide ((g 7 1) = 2) && (decide ((g 8 0) < 15) && ((hasG g (g 7 4) 11100)))) from by first | with_reducible rfl | (simp [c_13, c_15, c_17, gA, mBuyG, mBuyR]; done) | (simp only [c_13, c_15, c_17] <;> simp [gA, mBuyG, mBuyR]; done) | (simp only [gA, mBuyG, mBuyR, c_13, c_15, c_17] <;> simp [gA, mBuyG, mBuyR]; done) | (simp [c_13, c_15, c_17, gA, mBuyG, mBuyR, Bool.and_assoc]; done) | (simp [c_13, c_15, c_17, gA, mBuyG, mBuyR, Bool.and_assoc, Bool.or_assoc]; done) | rfl | (simp [c_13, c_15, c_17, gA, mBuyG, mBuyR]; omega))) H0 locs hM hS ls (lv_sub hl [0] rfl)
      · refine lv_iconst (v := nI 1) hx hb dX3_buy_32 zi_1 ?_
        refine lv_goto (tgt := 37) hx hb dX3_buy_33 (by decide) ?_
        exact J_37 _ (congrArg (fun z : Bool => nI z.toNat) (show (true : Bool) = (decide ((g 7 1) = 2) && (decide ((g 8 0) < 15) && ((hasG g (g 7 4) 11100)))) from by first | with_reducible rfl | (simp [c_13, c_15, c_17, gA, mBuyG, mBuyR]; done) | (simp only [c_13, c_15, c_17] <;> simp [gA, mBuyG, mBuyR]; done) | (simp only [gA, mBuyG, mBuyR, c_13, c_15, c_17] <;> simp [gA, mBuyG, mBuyR]; done) | (simp [c_13, c_15, c_17, gA, mBuyG, mBuyR, Bool.and_assoc]; done) | (simp [c_13, c_15, c_17, gA, mBuyG, mBuyR, Bool.and_assoc, Bool.or_assoc]; done) | rfl | (simp [c_13, c_15, c_17, gA, mBuyG, mBuyR]; omega))) H0 locs hM hS ls (lv_sub hl [0] rfl)
def mPlenG (g : G) (a1 : Int32) (a2 : Int32) : G := if (inB a1 5 && inB a2 5) = true then (if (mUse (gs g 22 0 0) 2 && (decide ((decide (tn a1 = tn a2)).toNat < g 4 (15 + tn a1)) && decide (0 < g 4 (15 + tn a2)))) = true then (moveN (moveN (gUse (gs g 22 0 0) 2) 3 (g 7 4) (tn a1) 1) 3 (g 7 4) (tn a2) 1) else gs (gs g 22 0 0) 22 0 2) else gs g 22 0 1
def mPlenR (g : G) (a1 : Int32) (a2 : Int32) : Nat := if (inB a1 5 && inB a2 5) = true then (if (mUse (gs g 22 0 0) 2 && (decide ((decide (tn a1 = tn a2)).toNat < g 4 (15 + tn a1)) && decide (0 < g 4 (15 + tn a2)))) = true then (handN (moveN (moveN (gUse (gs g 22 0 0) 2) 3 (g 7 4) (tn a1) 1) 3 (g 7 4) (tn a2) 1) (g 7 4) 5) else 0) else 0
set_option maxHeartbeats 1000000 in
set_option maxRecDepth 100000 in
theorem cM_plenty (l : Launch) {D : va_G} {dA : Nat → ClassId} {A : Nat → Prop} {ad : Nat → Nat} {g : G} (hg : Sm g) (a1 : Int32) (a2 : Int32) (ht : g 7 4 < 3) (hb4 : ∀ j, j < 20 → g 4 j ≤ 100) (H0 : Heap) (hM : MS D dA A ad g H0) {Post : Option Value → Heap → Prop} (hPost : ∀ H : Heap, MS D dA A ad (mPlenG g a1 a2) H → Sm (mPlenG g a1 a2) → Post (some (.int (nI (mPlenR g a1 a2)))) H) : Ct l yX3_plenty (ws_ yX3_plenty cX3_plenty 4 (some .int)) (rmF 2 0 0 40) A (KT D dA) [.ref (ad 0), .int a1, .int a2] H0 Post := by
  refine zc_of RX3 rfl (by decide) (Nat.le_of_ble_eq_true rfl) ?_
  intro pr en s m args below meth cd S hr hlk hnm hh hK ls hl
  have hS : va_S A s.heap H0 [] := zc_start hh
  have hg0 := hg
  have hx := S.1
  have hb := S.2.1
  have hown := S.2.2.2.1
  have hts := S.2.2.2.2
  have hl : lv_has ls 4 [(0, .ref (ad 0)), (1, .int a1), (2, .int a2)] := hl
  have hb5 : ∀ j, j < 20 → gs g 22 0 0 4 j ≤ 100 := hb4
  have hb6 : ∀ j, j < 20 → (gUse (gs g 22 0 0) 2) 4 j ≤ 100 := hb4
  refine lv_aload_n hx hb dX3_plenty_0 rfl (lv_at hl 0 rfl) ?_
  refine lv_iload_n hx hb dX3_plenty_1 rfl (lv_at hl 1 rfl) ?_
  refine kM_isGood S hK hM hg hS a1  (Nat.le_of_ble_eq_true rfl) (Nat.le_of_ble_eq_true rfl) hl.1 (Nat.le_of_ble_eq_true rfl) dX3_plenty_2 (Nat.zero_le _) (Nat.zero_le _) (fun locs hS => ?_)
  have J_20 : ∀ yS0_20 : Int32, yS0_20 = nI ((inB a1 5) && ((inB a2 5))).toNat → ∀ (H : Heap) (locs : List Loc), MS D dA A ad g H → va_S A s.heap H locs → ∀ ls : Array Slot, lv_has ls 4 [(0, .ref (ad 0)), (1, .int a1), (2, .int a2)] → W pr l en (rmF 2 0 0 40) s m args below meth cd H locs 0 0 (MQ below (zc_Q Post A) args s 0 0 A) (F0 m 20 ls [.int yS0_20, .ref (ad 0)]) := by
    intro yS0_20 eyS0_20 H locs hM hS ls hl
    subst eyS0_20
    refine kM_asks S hK hM hg hS ((inB a1 5) && ((inB a2 5)))  (Nat.le_of_ble_eq_true rfl) (Nat.le_of_ble_eq_true rfl) hl.1 (Nat.le_of_ble_eq_true rfl) dX3_plenty_20 (Nat.zero_le _) (Nat.zero_le _) (fun H locs hM hg hS => ?_)
    refine zr_if_neB (b := ((inB a1 5) && ((inB a2 5)))) (tgt := 28) hx hb dX3_plenty_23 (by decide) (fun c_3 => ?_) (fun c_3 => ?_)
    · rw [show (!((inB a1 5) && ((inB a2 5)))).toNat = 0 from by rw [c_3]; rfl] at hM hg
      have hc_4 := c_3
      simp only [Bool.and_eq_true] at hc_4
      obtain ⟨q_5, q_6⟩ := hc_4
      obtain ⟨hj1, ea1⟩ := inB_tn (by decide) q_5
      rw [ea1] at hl
      obtain ⟨hj2, ea2⟩ := inB_tn (by decide) q_6
      rw [ea2] at hl
      refine lv_aload_n hx hb dX3_plenty_28 rfl (lv_at hl 0 rfl) ?_
      refine gM_hand S hK hM dX3_plenty_29 ?_
      refine lv_bipush (v := nI 15) hx hb dX3_plenty_32 zb_15 ?_
      refine lv_iload_n hx hb dX3_plenty_34 rfl (lv_at hl 1 rfl) ?_
      refine zr_addN (a := 15) (b := (tn a1)) hx hb dX3_plenty_35 ?_
      refine lM_hand S hK hM (15 + (tn a1)) (by omega) (g 4 (15 + (tn a1))) (by first | rfl | simp [gs]) dX3_plenty_36 ?_
      have hb_7 : g 4 (15 + (tn a1)) < 1048576 := by first | exact hg 4 (15 + (tn a1)) | exact hg0 _ _ | (have := hg 4 (15 + (tn a1)); omega) | omega
      refine lv_iload_n hx hb dX3_plenty_37 rfl (lv_at hl 1 rfl) ?_
      refine lv_iload_n hx hb dX3_plenty_38 rfl (lv_at hl 2 rfl) ?_
      have hd1 : (decide (tn a1 = tn a2)).toNat ≤ 1 := Bool.toNat_le _
      have J_47 : ∀ yS0_47 : Int32, yS0_47 = nI (decide ((tn a1) = (tn a2))).toNat → ∀ (H : Heap) (locs : List Loc), MS D dA A ad (gs g 22 0 0) H → va_S A s.heap H locs → ∀ ls : Array Slot, lv_has ls 4 [(0, .ref (ad 0)), (1, .int (nI (tn a1))), (2, .int (nI (tn a2)))] → W pr l en (rmF 2 0 0 40) s m args below meth cd H locs 0 0 (MQ below (zc_Q Post A) args s 0 0 A) (F0 m 47 ls [.int yS0_47, .int (nI (g 4 (15 + (tn a1))))]) := by
        intro yS0_47 eyS0_47 H locs hM hS ls hl
        subst eyS0_47
        have J_67 : ∀ yS0_67 : Int32, yS0_67 = nI (decide (((decide ((tn a1) = (tn a2))).toNat) < (g 4 (15 + (tn a1)))) && (decide (0 < (g 4 (15 + (tn a2)))))).toNat → ∀ (H : Heap) (locs : List Loc), MS D dA A ad (gs g 22 0 0) H → va_S A s.heap H locs → ∀ ls : Array Slot, lv_has ls 4 [(0, .ref (ad 0)), (1, .int (nI (tn a1))), (2, .int (nI (tn a2)))] → W pr l en (rmF 2 0 0 40) s m args below meth cd H locs 0 0 (MQ below (zc_Q Post A) args s 0 0 A) (F0 m 67 ls [.int yS0_67]) := by
          intro yS0_67 eyS0_67 H locs hM hS ls hl
          subst eyS0_67
          refine lv_istore_n (lv' := [(3, .int (nI (decide (((decide ((tn a1) = (tn a2))).toNat) < (g 4 (15 + (tn a1)))) && (decide (0 < (g 4 (15 + (tn a2)))))).toNat)), (0, .ref (ad 0)), (1, .int (nI (tn a1))), (2, .int (nI (tn a2)))]) hx hb dX3_plenty_67 rfl hl (by decide) rfl (fun ls hl => ?_)
          refine lv_aload_n hx hb dX3_plenty_68 rfl (lv_at hl 1 rfl) ?_
          refine lv_iconst (v := nI 2) hx hb dX3_plenty_69 zi_2 ?_
          refine kM_mayUse S hK hM hg hS 2 (by first | omega | assumption | grind) (by first | omega | assumption | grind) (Nat.le_of_ble_eq_true rfl) (Nat.le_of_ble_eq_true rfl) hl.1 (Nat.le_of_ble_eq_true rfl) dX3_plenty_70 (Nat.zero_le _) (Nat.zero_le _) (fun locs hS => ?_)
          refine zr_if_eqB (b := mUse (gs g 22 0 0) 2) (tgt := 80) hx hb dX3_plenty_73 (by decide) (fun c_12 => ?_) (fun c_12 => ?_)
          · refine lv_aload_n hx hb dX3_plenty_80 rfl (lv_at hl 1 rfl) ?_
            refine lv_iconst (v := nI 2) hx hb dX3_plenty_81 zi_2 ?_
            refine kM_fails S hK hM hg hS 2 (by first | omega | assumption | grind) (Nat.le_of_ble_eq_true rfl) (Nat.le_of_ble_eq_true rfl) hl.1 (Nat.le_of_ble_eq_true rfl) dX3_plenty_82 (Nat.zero_le _) (Nat.zero_le _) (fun H locs hM hg hS => ?_)
            rw [show (gs (gs g 22 0 0) 22 0 2 : G) = mPlenG g a1 a2 from by first | with_reducible rfl | (simp [c_3, q_5, q_6, c_12, gA, mPlenG, mPlenR]; done) | (simp only [c_3, q_5, q_6, c_12] <;> simp [gA, mPlenG, mPlenR]; done) | (simp only [gA, mPlenG, mPlenR, c_3, q_5, q_6, c_12] <;> simp [gA, mPlenG, mPlenR]; done) | (simp [c_3, q_5, q_6, c_12, gA, mPlenG, mPlenR, Bool.and_assoc]; done) | (simp [c_3, q_5, q_6, c_12, gA, mPlenG, mPlenR, Bool.and_assoc, Bool.or_assoc]; done) | rfl | (simp [c_3, q_5, q_6, c_12, gA, mPlenG, mPlenR]; omega)] at hM hg
            exact zc_nret (nI (mPlenR g a1 a2)) (congrArg nI (show (0 : Nat) = (mPlenR g a1 a2) from by first | with_reducible rfl | (simp [c_3, q_5, q_6, c_12, gA, mPlenG, mPlenR]; done) | (simp only [c_3, q_5, q_6, c_12] <;> simp [gA, mPlenG, mPlenR]; done) | (simp only [gA, mPlenG, mPlenR, c_3, q_5, q_6, c_12] <;> simp [gA, mPlenG, mPlenR]; done) | (simp [c_3, q_5, q_6, c_12, gA, mPlenG, mPlenR, Bool.and_assoc]; done) | (simp [c_3, q_5, q_6, c_12, gA, mPlenG, mPlenR, Bool.and_assoc, Bool.or_assoc]; done) | rfl | (simp [c_3, q_5, q_6, c_12, gA, mPlenG, mPlenR]; omega))) (hPost H hM hg) hS hx hb hr hlk (Nat.zero_le _) (Nat.zero_le _) dX3_plenty_85
          · have hU := c_12
            refine lv_iload_n hx hb dX3_plenty_76 rfl (lv_at hl 0 rfl) ?_
            refine zr_if_neB (b := decide (((decide ((tn a1) = (tn a2))).toNat) < (g 4 (15 + (tn a1)))) && (decide (0 < (g 4 (15 + (tn a2)))))) (tgt := 86) hx hb dX3_plenty_77 (by decide) (fun c_13 => ?_) (fun c_13 => ?_)
            · have hH := c_13
              simp only [Bool.and_eq_true, decide_eq_true_eq] at hH
              have h110 : 1 ≤ (moveN (gUse (gs g 22 0 0) 2) 3 (g 7 4) (tn a1) 1) 4 (5 * 3 + tn a2) := by
                by_cases q : tn a1 = tn a2
                · have h1 := hH.1
                  rw [← q, moveN_from _ (by omega)]
                  simp [q] at h1
                  show 1 ≤ g 4 (15 + tn a1) - 1
                  rw [q]; omega
                · rw [moveN_other _ (by omega) (by omega)]
                  exact hH.2
              refine lv_aload_n hx hb dX3_plenty_86 rfl (lv_at hl 1 rfl) ?_
              refine lv_iconst (v := nI 2) hx hb dX3_plenty_87 zi_2 ?_
              refine kM_uses S hK hM hg hS 2 (by first | omega | assumption | grind) (by first | omega | assumption | grind) (by exact mUse_pos hU) (Nat.le_of_ble_eq_true rfl) (Nat.le_of_ble_eq_true rfl) hl.1 (Nat.le_of_ble_eq_true rfl) dX3_plenty_88 (Nat.zero_le _) (Nat.zero_le _) (fun H locs hM hg hS => ?_)
              refine lv_aload_n hx hb dX3_plenty_91 rfl (lv_at hl 1 rfl) ?_
              refine lv_iconst (v := nI 3) hx hb dX3_plenty_92 zi_3 ?_
              refine lv_aload_n hx hb dX3_plenty_93 rfl (lv_at hl 1 rfl) ?_
              refine gM_turn S hK hM (g 7 4) (by first | rfl | (simp [moveN_nf, gUse, gs]; done)) dX3_plenty_94 ?_
              have hb_14 : g 7 4 < 1048576 := by first | exact hg 7 4 | exact hg0 _ _ | (have := hg 7 4; omega) | omega
              refine lv_iload_n hx hb dX3_plenty_97 rfl (lv_at hl 2 rfl) ?_
              refine lv_iconst (v := nI 1) hx hb dX3_plenty_98 zi_1 ?_
              refine kM_moves S hK hM hg hS 3 (g 7 4) (tn a1) 1 (by first | omega | assumption | grind) (by first | omega | assumption | grind) (by first | omega | assumption | grind) (by show 1 ≤ g 4 (15 + tn a1); omega) (by exact fun j hj => Nat.le_trans (hb6 j hj) (by decide)) (Nat.le_of_ble_eq_true rfl) (Nat.le_of_ble_eq_true rfl) hl.1 (Nat.le_of_ble_eq_true rfl) dX3_plenty_99 (Nat.zero_le _) (Nat.zero_le _) (fun H locs hM hg hS => ?_)
              refine lv_aload_n hx hb dX3_plenty_102 rfl (lv_at hl 1 rfl) ?_
              refine lv_iconst (v := nI 3) hx hb dX3_plenty_103 zi_3 ?_
              refine lv_aload_n hx hb dX3_plenty_104 rfl (lv_at hl 1 rfl) ?_
              refine gM_turn S hK hM (g 7 4) (by first | rfl | (simp [moveN_nf, gUse, gs]; done)) dX3_plenty_105 ?_
              have hb_15 : g 7 4 < 1048576 := by first | exact hg 7 4 | exact hg0 _ _ | (have := hg 7 4; omega) | omega
              refine lv_iload_n hx hb dX3_plenty_108 rfl (lv_at hl 3 rfl) ?_
              refine lv_iconst (v := nI 1) hx hb dX3_plenty_109 zi_1 ?_
              refine kM_moves S hK hM hg hS 3 (g 7 4) (tn a2) 1 (by first | omega | assumption | grind) (by first | omega | assumption | grind) (by first | omega | assumption | grind) (by exact h110) (by exact fun j hj => Nat.le_trans (moveN_le hb6 (C := 1) (by omega) j hj) (by decide)) (Nat.le_of_ble_eq_true rfl) (Nat.le_of_ble_eq_true rfl) hl.1 (Nat.le_of_ble_eq_true rfl) dX3_plenty_110 (Nat.zero_le _) (Nat.zero_le _) (fun H locs hM hg hS => ?_)
              refine lv_aload_n hx hb dX3_plenty_113 rfl (lv_at hl 1 rfl) ?_
              refine lv_aload_n hx hb dX3_plenty_114 rfl (lv_at hl 1 rfl) ?_
              refine gM_turn S hK hM (g 7 4) (by first | rfl | (simp [moveN_nf, gUse, gs]; done)) dX3_plenty_115 ?_
              have hb_16 : g 7 4 < 1048576 := by first | exact hg 7 4 | exact hg0 _ _ | (have := hg 7 4; omega) | omega
              refine kM_handOf S hK hM hg hS (g 7 4) (by first | omega | assumption | grind) (Nat.le_of_ble_eq_true rfl) (Nat.le_of_ble_eq_true rfl) hl.1 (Nat.le_of_ble_eq_true rfl) dX3_plenty_118 (Nat.zero_le _) (Nat.zero_le _) (fun locs hS => ?_)
              have f118_0 : handN (moveN (moveN (gUse (gs g 22 0 0) 2) 3 (g 7 4) (tn a1) 1) 3 (g 7 4) (tn a2) 1) (g 7 4) 5 < 5242880 := handN_lt hg _
              rw [show (moveN (moveN (gUse (gs g 22 0 0) 2) 3 (g 7 4) (tn a1) 1) 3 (g 7 4) (tn a2) 1 : G) = mPlenG g a1 a2 from by first | with_reducible rfl | (simp [c_3, q_5, q_6, c_12, c_13, gA, mPlenG, mPlenR]; done) | (simp only [c_3, q_5, q_6, c_12, c_13] <;> simp [gA, mPlenG, mPlenR]; done) | (simp only [gA, mPlenG, mPlenR, c_3, q_5, q_6, c_12, c_13] <;> simp [gA, mPlenG, mPlenR]; done) | (simp [c_3, q_5, q_6, c_12, c_13, gA, mPlenG, mPlenR, Bool.and_assoc]; done) | (simp [c_3, q_5, q_6, c_12, c_13, gA, mPlenG, mPlenR, Bool.and_assoc, Bool.or_assoc]; done) | rfl | (simp [c_3, q_5, q_6, c_12, c_13, gA, mPlenG, mPlenR]; omega)] at hM hg
              exact zc_nret (nI (mPlenR g a1 a2)) (congrArg nI (show (handN (moveN (moveN (gUse (gs g 22 0 0) 2) 3 (g 7 4) (tn a1) 1) 3 (g 7 4) (tn a2) 1) (g 7 4) 5 : Nat) = (mPlenR g a1 a2) from by first | with_reducible rfl | (simp [c_3, q_5, q_6, c_12, c_13, gA, mPlenG, mPlenR]; done) | (simp only [c_3, q_5, q_6, c_12, c_13] <;> simp [gA, mPlenG, mPlenR]; done) | (simp only [gA, mPlenG, mPlenR, c_3, q_5, q_6, c_12, c_13] <;> simp [gA, mPlenG, mPlenR]; done) | (simp [c_3, q_5, q_6, c_12, c_13, gA, mPlenG, mPlenR, Bool.and_assoc]; done) | (simp [c_3, q_5, q_6, c_12, c_13, gA, mPlenG, mPlenR, Bool.and_assoc, Bool.or_assoc]; done) | rfl | (simp [c_3, q_5, q_6, c_12, c_13, gA, mPlenG, mPlenR]; omega))) (hPost H hM hg) hS hx hb hr hlk (Nat.zero_le _) (Nat.zero_le _) dX3_plenty_121
            · refine lv_aload_n hx hb dX3_plenty_80 rfl (lv_at hl 1 rfl) ?_
              refine lv_iconst (v := nI 2) hx hb dX3_plenty_81 zi_2 ?_
              refine kM_fails S hK hM hg hS 2 (by first | omega | assumption | grind) (Nat.le_of_ble_eq_true rfl) (Nat.le_of_ble_eq_true rfl) hl.1 (Nat.le_of_ble_eq_true rfl) dX3_plenty_82 (Nat.zero_le _) (Nat.zero_le _) (fun H locs hM hg hS => ?_)
              rw [show (gs (gs g 22 0 0) 22 0 2 : G) = mPlenG g a1 a2 from by first | with_reducible rfl | (simp [c_3, q_5, q_6, c_12, c_13, gA, mPlenG, mPlenR]; done) | (simp only [c_3, q_5, q_6, c_12, c_13] <;> simp [gA, mPlenG, mPlenR]; done) | (simp only [gA, mPlenG, mPlenR, c_3, q_5, q_6, c_12, c_13] <;> simp [gA, mPlenG, mPlenR]; done) | (simp [c_3, q_5, q_6, c_12, c_13, gA, mPlenG, mPlenR, Bool.and_assoc]; done) | (simp [c_3, q_5, q_6, c_12, c_13, gA, mPlenG, mPlenR, Bool.and_assoc, Bool.or_assoc]; done) | rfl | (simp [c_3, q_5, q_6, c_12, c_13, gA, mPlenG, mPlenR]; omega)] at hM hg
              exact zc_nret (nI (mPlenR g a1 a2)) (congrArg nI (show (0 : Nat) = (mPlenR g a1 a2) from by first | with_reducible rfl | (simp [c_3, q_5, q_6, c_12, c_13, gA, mPlenG, mPlenR]; done) | (simp only [c_3, q_5, q_6, c_12, c_13] <;> simp [gA, mPlenG, mPlenR]; done) | (simp only [gA, mPlenG, mPlenR, c_3, q_5, q_6, c_12, c_13] <;> simp [gA, mPlenG, mPlenR]; done) | (simp [c_3, q_5, q_6, c_12, c_13, gA, mPlenG, mPlenR, Bool.and_assoc]; done) | (simp [c_3, q_5, q_6, c_12, c_13, gA, mPlenG, mPlenR, Bool.and_assoc, Bool.or_assoc]; done) | rfl | (simp [c_3, q_5, q_6, c_12, c_13, gA, mPlenG, mPlenR]; omega))) (hPost H hM hg) hS hx hb hr hlk (Nat.zero_le _) (Nat.zero_le _) dX3_plenty_85
        refine zr_icmp_leN (a := (g 4 (15 + (tn a1)))) (b := ((decide ((tn a1) = (tn a2))).toNat)) (tgt := 66) hx hb (by omega) (by omega) dX3_plenty_47 (by decide) (fun c_17 => ?_) (fun c_17 => ?_)
        · refine lv_iconst (v := nI 0) hx hb dX3_plenty_66 zi_0 ?_
          exact J_67 _ (congrArg (fun z : Bool => nI z.toNat) (show (false : Bool) = (decide (((decide ((tn a1) = (tn a2))).toNat) < (g 4 (15 + (tn a1)))) && (decide (0 < (g 4 (15 + (tn a2)))))) from by first | with_reducible rfl | (simp [c_3, q_5, q_6, c_17, gA, mPlenG, mPlenR]; done) | (simp only [c_3, q_5, q_6, c_17] <;> simp [gA, mPlenG, mPlenR]; done) | (simp only [gA, mPlenG, mPlenR, c_3, q_5, q_6, c_17] <;> simp [gA, mPlenG, mPlenR]; done) | (simp [c_3, q_5, q_6, c_17, gA, mPlenG, mPlenR, Bool.and_assoc]; done) | (simp [c_3, q_5, q_6, c_17, gA, mPlenG, mPlenR, Bool.and_assoc, Bool.or_assoc]; done) | rfl | (simp [c_3, q_5, q_6, c_17, gA, mPlenG, mPlenR]; omega))) H locs hM hS ls (lv_sub hl [0, 1, 2] rfl)
        · refine lv_aload_n hx hb dX3_plenty_50 rfl (lv_at hl 0 rfl) ?_
          refine gM_hand S hK hM dX3_plenty_51 ?_
          refine lv_bipush (v := nI 15) hx hb dX3_plenty_54 zb_15 ?_
          refine lv_iload_n hx hb dX3_plenty_56 rfl (lv_at hl 2 rfl) ?_
          refine zr_addN (a := 15) (b := (tn a2)) hx hb dX3_plenty_57 ?_
          refine lM_hand S hK hM (15 + (tn a2)) (by omega) (g 4 (15 + (tn a2))) (by first | rfl | simp [gs]) dX3_plenty_58 ?_
          have hb_18 : g 4 (15 + (tn a2)) < 1048576 := by first | exact hg 4 (15 + (tn a2)) | exact hg0 _ _ | (have := hg 4 (15 + (tn a2)); omega) | omega
          refine zr_if_leN (a := (g 4 (15 + (tn a2)))) (tgt := 66) hx hb (by omega) dX3_plenty_59 (by decide) (fun c_19 => ?_) (fun c_19 => ?_)
          · refine lv_iconst (v := nI 0) hx hb dX3_plenty_66 zi_0 ?_
            exact J_67 _ (congrArg (fun z : Bool => nI z.toNat) (show (false : Bool) = (decide (((decide ((tn a1) = (tn a2))).toNat) < (g 4 (15 + (tn a1)))) && (decide (0 < (g 4 (15 + (tn a2)))))) from by first | with_reducible rfl | (simp [c_3, q_5, q_6, c_17, c_19, gA, mPlenG, mPlenR]; done) | (simp only [c_3, q_5, q_6, c_17, c_19] <;> simp [gA, mPlenG, mPlenR]; done) | (simp only [gA, mPlenG, mPlenR, c_3, q_5, q_6, c_17, c_19] <;> simp [gA, mPlenG, mPlenR]; done) | (simp [c_3, q_5, q_6, c_17, c_19, gA, mPlenG, mPlenR, Bool.and_assoc]; done) | (simp [c_3, q_5, q_6, c_17, c_19, gA, mPlenG, mPlenR, Bool.and_assoc, Bool.or_assoc]; done) | rfl | (simp [c_3, q_5, q_6, c_17, c_19, gA, mPlenG, mPlenR]; omega))) H locs hM hS ls (lv_sub hl [0, 1, 2] rfl)
          · refine lv_iconst (v := nI 1) hx hb dX3_plenty_62 zi_1 ?_
            refine lv_goto (tgt := 67) hx hb dX3_plenty_63 (by decide) ?_
            exact J_67 _ (congrArg (fun z : Bool => nI z.toNat) (show (true : Bool) = (decide (((decide ((tn a1) = (tn a2))).toNat) < (g 4 (15 + (tn a1)))) && (decide (0 < (g 4 (15 + (tn a2)))))) from by first | with_reducible rfl | (simp [c_3, q_5, q_6, c_17, c_19, gA, mPlenG, mPlenR]; done) | (simp only [c_3, q_5, q_6, c_17, c_19] <;> simp [gA, mPlenG, mPlenR]; done) | (simp only [gA, mPlenG, mPlenR, c_3, q_5, q_6, c_17, c_19] <;> simp [gA, mPlenG, mPlenR]; done) | (simp [c_3, q_5, q_6, c_17, c_19, gA, mPlenG, mPlenR, Bool.and_assoc]; done) | (simp [c_3, q_5, q_6, c_17, c_19, gA, mPlenG, mPlenR, Bool.and_assoc, Bool.or_assoc]; done) | rfl | (simp [c_3, q_5, q_6, c_17, c_19, gA, mPlenG, mPlenR]; omega))) H locs hM hS ls (lv_sub hl [0, 1, 2] rfl)
      refine zr_icmp_neN (a := (tn a1)) (b := (tn a2)) (tgt := 46) hx hb (by omega) (by omega) dX3_plenty_39 (by decide) (fun c_20 => ?_) (fun c_20 => ?_)
      · refine lv_iconst (v := nI 0) hx hb dX3_plenty_46 zi_0 ?_
        exact J_47 _ (congrArg (fun z : Bool => nI z.toNat) (show (false : Bool) = (decide ((tn a1) = (tn a2))) from by first | with_reducible rfl | (simp [c_3, q_5, q_6, c_20, gA, mPlenG, mPlenR]; done) | (simp only [c_3, q_5, q_6, c_20] <;> simp [gA, mPlenG, mPlenR]; done) | (simp only [gA, mPlenG, mPlenR, c_3, q_5, q_6, c_20] <;> simp [gA, mPlenG, mPlenR]; done) | (simp [c_3, q_5, q_6, c_20, gA, mPlenG, mPlenR, Bool.and_assoc]; done) | (simp [c_3, q_5, q_6, c_20, gA, mPlenG, mPlenR, Bool.and_assoc, Bool.or_assoc]; done) | rfl | (simp [c_3, q_5, q_6, c_20, gA, mPlenG, mPlenR]; omega))) H locs hM hS ls (lv_sub hl [0, 1, 2] rfl)
      · refine lv_iconst (v := nI 1) hx hb dX3_plenty_42 zi_1 ?_
        refine lv_goto (tgt := 47) hx hb dX3_plenty_43 (by decide) ?_
        exact J_47 _ (congrArg (fun z : Bool => nI z.toNat) (show (true : Bool) = (decide ((tn a1) = (tn a2))) from by first | with_reducible rfl | (simp [c_3, q_5, q_6, c_20, gA, mPlenG, mPlenR]; done) | (simp only [c_3, q_5, q_6, c_20] <;> simp [gA, mPlenG, mPlenR]; done) | (simp only [gA, mPlenG, mPlenR, c_3, q_5, q_6, c_20] <;> simp [gA, mPlenG, mPlenR]; done) | (simp [c_3, q_5, q_6, c_20, gA, mPlenG, mPlenR, Bool.and_assoc]; done) | (simp [c_3, q_5, q_6, c_20, gA, mPlenG, mPlenR, Bool.and_assoc, Bool.or_assoc]; done) | rfl | (simp [c_3, q_5, q_6, c_20, gA, mPlenG, mPlenR]; omega))) H locs hM hS ls (lv_sub hl [0, 1, 2] rfl)
    · rw [show (!((inB a1 5) && ((inB a2 5)))).toNat = 1 from by rw [c_3]; rfl] at hM hg
      refine lv_iconst (v := nI 0) hx hb dX3_plenty_26 zi_0 ?_
      rw [show (gs g 22 0 1 : G) = mPlenG g a1 a2 from by first | with_reducible rfl | (simp [c_3, gA, mPlenG, mPlenR]; done) | (simp only [c_3] <;> simp [gA, mPlenG, mPlenR]; done) | (simp only [gA, mPlenG, mPlenR, c_3] <;> simp [gA, mPlenG, mPlenR]; done) | (simp [c_3, gA, mPlenG, mPlenR, Bool.and_assoc]; done) | (simp [c_3, gA, mPlenG, mPlenR, Bool.and_assoc, Bool.or_assoc]; done) | rfl | (simp [c_3, gA, mPlenG, mPlenR]; omega)] at hM hg
      exact zc_nret (nI (mPlenR g a1 a2)) (congrArg nI (show (0 : Nat) = (mPlenR g a1 a2) from by first | with_reducible rfl | (simp [c_3, gA, mPlenG, mPlenR]; done) | (simp only [c_3] <;> simp [gA, mPlenG, mPlenR]; done) | (simp only [gA, mPlenG, mPlenR, c_3] <;> simp [gA, mPlenG, mPlenR]; done) | (simp [c_3, gA, mPlenG, mPlenR, Bool.and_assoc]; done) | (simp [c_3, gA, mPlenG, mPlenR, Bool.and_assoc, Bool.or_assoc]; done) | rfl | (simp [c_3, gA, mPlenG, mPlenR]; omega))) (hPost H hM hg) hS hx hb hr hlk (Nat.zero_le _) (Nat.zero_le _) dX3_plenty_27
  refine zr_if_eqB (b := inB a1 5) (tgt := 19) hx hb dX3_plenty_5 (by decide) (fun c_21 => ?_) (fun c_21 => ?_)
  · refine lv_iconst (v := nI 0) hx hb dX3_plenty_19 zi_0 ?_
    exact J_20 _ (congrArg (fun z : Bool => nI z.toNat) (show (false : Bool) = ((inB a1 5) && ((inB a2 5))) from by first | with_reducible rfl | (simp [c_21, gA, mPlenG, mPlenR]; done) | (simp only [c_21] <;> simp [gA, mPlenG, mPlenR]; done) | (simp only [gA, mPlenG, mPlenR, c_21] <;> simp [gA, mPlenG, mPlenR]; done) | (simp [c_21, gA, mPlenG, mPlenR, Bool.and_assoc]; done) | (simp [c_21, gA, mPlenG, mPlenR, Bool.and_assoc, Bool.or_assoc]; done) | rfl | (simp [c_21, gA, mPlenG, mPlenR]; omega))) H0 locs hM hS ls (lv_sub hl [0, 1, 2] rfl)
  · obtain ⟨hj1, ea1⟩ := inB_tn (by decide) c_21
    rw [ea1] at hl
    refine lv_iload_n hx hb dX3_plenty_8 rfl (lv_at hl 2 rfl) ?_
    refine kM_isGood S hK hM hg hS a2  (Nat.le_of_ble_eq_true rfl) (Nat.le_of_ble_eq_true rfl) hl.1 (Nat.le_of_ble_eq_true rfl) dX3_plenty_9 (Nat.zero_le _) (Nat.zero_le _) (fun locs hS => ?_)
    refine zr_if_eqB (b := inB a2 5) (tgt := 19) hx hb dX3_plenty_12 (by decide) (fun c_22 => ?_) (fun c_22 => ?_)
    · refine lv_iconst (v := nI 0) hx hb dX3_plenty_19 zi_0 ?_
      rw [← ea1] at hl
      exact J_20 _ (congrArg (fun z : Bool => nI z.toNat) (show (false : Bool) = ((inB a1 5) && ((inB a2 5))) from by first | with_reducible rfl | (simp [c_21, c_22, gA, mPlenG, mPlenR]; done) | (simp only [c_21, c_22] <;> simp [gA, mPlenG, mPlenR]; done) | (simp only [gA, mPlenG, mPlenR, c_21, c_22] <;> simp [gA, mPlenG, mPlenR]; done) | (simp [c_21, c_22, gA, mPlenG, mPlenR, Bool.and_assoc]; done) | (simp [c_21, c_22, gA, mPlenG, mPlenR, Bool.and_assoc, Bool.or_assoc]; done) | rfl | (simp [c_21, c_22, gA, mPlenG, mPlenR]; omega))) H0 locs hM hS ls (lv_sub hl [0, 1, 2] rfl)
    · obtain ⟨hj2, ea2⟩ := inB_tn (by decide) c_22
      rw [ea2] at hl
      refine lv_iconst (v := nI 1) hx hb dX3_plenty_15 zi_1 ?_
      refine lv_goto (tgt := 20) hx hb dX3_plenty_16 (by decide) ?_
      rw [← ea1] at hl
      rw [← ea2] at hl
      exact J_20 _ (congrArg (fun z : Bool => nI z.toNat) (show (true : Bool) = ((inB a1 5) && ((inB a2 5))) from by first | with_reducible rfl | (simp [c_21, c_22, gA, mPlenG, mPlenR]; done) | (simp only [c_21, c_22] <;> simp [gA, mPlenG, mPlenR]; done) | (simp only [gA, mPlenG, mPlenR, c_21, c_22] <;> simp [gA, mPlenG, mPlenR]; done) | (simp [c_21, c_22, gA, mPlenG, mPlenR, Bool.and_assoc]; done) | (simp [c_21, c_22, gA, mPlenG, mPlenR, Bool.and_assoc, Bool.or_assoc]; done) | rfl | (simp [c_21, c_22, gA, mPlenG, mPlenR]; omega))) H0 locs hM hS ls (lv_sub hl [0, 1, 2] rfl)
def mKniG (g : G) (a1 : Int32) (a2 : Int32) (a3 : Int32) : G := if (inB a1 7 && (okV a2 && inR a3 0 999)) = true then (if (mUse (gs g 22 0 0) 0 && mMayRob (gs g 22 0 0) (tn a1) (tv a2)) = true then gWin (gRob (gs (gs (gUse (gs g 22 0 0) 0) 6 (g 7 4) (g 6 (g 7 4) + 1)) 7 8 (if (!decide (g 6 (g 7 4) + 1 < 3) && (decide (g 7 8 = 0) || decide ((gs (gUse (gs g 22 0 0) 0) 6 (g 7 4) (g 6 (g 7 4) + 1)) 6 (g 7 8 - 1) < g 6 (g 7 4) + 1))) = true then g 7 4 + 1 else g 7 8)) (tn a1) (tv a2) (tn a3)) else gs (gs g 22 0 0) 22 0 3) else gs g 22 0 (rbCode a1 a2 a3)
def mKniR (g : G) (a1 : Int32) (a2 : Int32) (a3 : Int32) : Nat := if (inB a1 7 && (okV a2 && inR a3 0 999)) = true then (if (mUse (gs g 22 0 0) 0 && mMayRob (gs g 22 0 0) (tn a1) (tv a2)) = true then (if tv a2 = 0 then 0 else robK (gs (gs (gUse (gs g 22 0 0) 0) 6 (g 7 4) (g 6 (g 7 4) + 1)) 7 8 (if (!decide (g 6 (g 7 4) + 1 < 3) && (decide (g 7 8 = 0) || decide ((gs (gUse (gs g 22 0 0) 0) 6 (g 7 4) (g 6 (g 7 4) + 1)) 6 (g 7 8 - 1) < g 6 (g 7 4) + 1))) = true then g 7 4 + 1 else g 7 8)) (tv a2 - 1) (rX (gs (gs (gUse (gs g 22 0 0) 0) 6 (g 7 4) (g 6 (g 7 4) + 1)) 7 8 (if (!decide (g 6 (g 7 4) + 1 < 3) && (decide (g 7 8 = 0) || decide ((gs (gUse (gs g 22 0 0) 0) 6 (g 7 4) (g 6 (g 7 4) + 1)) 6 (g 7 8 - 1) < g 6 (g 7 4) + 1))) = true then g 7 4 + 1 else g 7 8)) (tv a2) (tn a3)) + 1) else 1) else 1
set_option maxHeartbeats 1000000 in
set_option maxRecDepth 100000 in
theorem cM_knight (l : Launch) {D : va_G} {dA : Nat → ClassId} {A : Nat → Prop} {ad : Nat → Nat} {g : G} (hg : Sm g) (a1 : Int32) (a2 : Int32) (a3 : Int32) (ht : g 7 4 < 3) (hb4 : ∀ j, j < 20 → g 4 j ≤ 100) (hk6 : ∀ p, p < 3 → g 6 p ≤ 100) (h78 : g 7 8 ≤ 3) (H0 : Heap) (hM : MS D dA A ad g H0) {Post : Option Value → Heap → Prop} (hPost : ∀ H : Heap, MS D dA A ad (mKniG g a1 a2 a3) H → Sm (mKniG g a1 a2 a3) → Post (some (.int (mI (mKniR g a1 a2 a3)))) H) : Ct l yX3_knight (ws_ yX3_knight cX3_knight 6 (some .int)) (rmF 5 0 0 99) A (KT D dA) [.ref (ad 0), .int a1, .int a2, .int a3] H0 Post := by
  refine zc_of RX3 rfl (by decide) (Nat.le_of_ble_eq_true rfl) ?_
  intro pr en s m args below meth cd S hr hlk hnm hh hK ls hl
  have hS : va_S A s.heap H0 [] := zc_start hh
  have hg0 := hg
  have hx := S.1
  have hb := S.2.1
  have hown := S.2.2.2.1
  have hts := S.2.2.2.2
  have hl : lv_has ls 6 [(0, .ref (ad 0)), (1, .int a1), (2, .int a2), (3, .int a3)] := hl
  refine lv_aload_n hx hb dX3_knight_0 rfl (lv_at hl 0 rfl) ?_
  refine lv_iload_n hx hb dX3_knight_1 rfl (lv_at hl 1 rfl) ?_
  refine lv_iload_n hx hb dX3_knight_2 rfl (lv_at hl 2 rfl) ?_
  refine lv_iload_n hx hb dX3_knight_3 rfl (lv_at hl 3 rfl) ?_
  refine kM_asksRob S hK hM hg hS a1 a2 a3  (Nat.le_of_ble_eq_true rfl) (Nat.le_of_ble_eq_true rfl) hl.1 (Nat.le_of_ble_eq_true rfl) dX3_knight_4 (Nat.zero_le _) (Nat.zero_le _) (fun H locs hM hg hS => ?_)
  refine zr_if_neB (b := inB a1 7 && (okV a2 && inR a3 0 999)) (tgt := 12) hx hb dX3_knight_7 (by decide) (fun c_1 => ?_) (fun c_1 => ?_)
  · have hc_2 := c_1
    simp only [Bool.and_eq_true] at hc_2
    obtain ⟨q_3, ⟨q_4, q_5⟩⟩ := hc_2
    obtain ⟨hj1, ea1⟩ := inB_tn (by decide) q_3
    rw [ea1] at hl
    obtain ⟨hj2, ea2⟩ := okV_tv q_4
    rw [ea2] at hl
    obtain ⟨lj3, hj3, ea3⟩ := inR_tn (by decide) (by decide) q_5
    rw [ea3] at hl
    rw [rbCode_0 c_1] at hM hg
    refine lv_aload_n hx hb dX3_knight_12 rfl (lv_at hl 0 rfl) ?_
    refine lv_iconst (v := nI 0) hx hb dX3_knight_13 zi_0 ?_
    refine kM_mayUse S hK hM hg hS 0 (by first | omega | assumption | grind) (by first | omega | assumption | grind) (Nat.le_of_ble_eq_true rfl) (Nat.le_of_ble_eq_true rfl) hl.1 (Nat.le_of_ble_eq_true rfl) dX3_knight_14 (Nat.zero_le _) (Nat.zero_le _) (fun locs hS => ?_)
    refine zr_if_eqB (b := mUse (gs g 22 0 0) 0) (tgt := 29) hx hb dX3_knight_17 (by decide) (fun c_6 => ?_) (fun c_6 => ?_)
    · refine lv_aload_n hx hb dX3_knight_29 rfl (lv_at hl 0 rfl) ?_
      refine lv_iconst (v := nI 3) hx hb dX3_knight_30 zi_3 ?_
      refine kM_fails S hK hM hg hS 3 (by first | omega | assumption | grind) (Nat.le_of_ble_eq_true rfl) (Nat.le_of_ble_eq_true rfl) hl.1 (Nat.le_of_ble_eq_true rfl) dX3_knight_31 (Nat.zero_le _) (Nat.zero_le _) (fun H locs hM hg hS => ?_)
      rw [show (gs (gs g 22 0 0) 22 0 3 : G) = mKniG g a1 a2 a3 from by first | with_reducible rfl | (simp [c_1, q_3, q_4, q_5, c_6, mKniG, mKniR]; done) | (simp only [c_1, q_3, q_4, q_5, c_6] <;> simp [mKniG, mKniR]; done) | (simp only [mKniG, mKniR, c_1, q_3, q_4, q_5, c_6] <;> simp [mKniG, mKniR]; done) | (simp [c_1, q_3, q_4, q_5, c_6, mKniG, mKniR, Bool.and_assoc]; done) | (simp [c_1, q_3, q_4, q_5, c_6, mKniG, mKniR, Bool.and_assoc, Bool.or_assoc]; done) | rfl | (simp [c_1, q_3, q_4, q_5, c_6, mKniG, mKniR]; omega)] at hM hg
      exact zc_nret (mI (mKniR g a1 a2 a3)) ((mI_succ 0).symm.trans (congrArg mI (show (1 : Nat) = (mKniR g a1 a2 a3) from by first | with_reducible rfl | (simp [c_1, q_3, q_4, q_5, c_6, mKniG, mKniR]; done) | (simp only [c_1, q_3, q_4, q_5, c_6] <;> simp [mKniG, mKniR]; done) | (simp only [mKniG, mKniR, c_1, q_3, q_4, q_5, c_6] <;> simp [mKniG, mKniR]; done) | (simp [c_1, q_3, q_4, q_5, c_6, mKniG, mKniR, Bool.and_assoc]; done) | (simp [c_1, q_3, q_4, q_5, c_6, mKniG, mKniR, Bool.and_assoc, Bool.or_assoc]; done) | rfl | (simp [c_1, q_3, q_4, q_5, c_6, mKniG, mKniR]; omega)))) (hPost H hM hg) hS hx hb hr hlk (Nat.zero_le _) (Nat.zero_le _) dX3_knight_34
    · have hU := c_6
      refine lv_aload_n hx hb dX3_knight_20 rfl (lv_at hl 0 rfl) ?_
      refine lv_iload_n hx hb dX3_knight_21 rfl (lv_at hl 1 rfl) ?_
      refine lv_iload_n hx hb dX3_knight_22 rfl (lv_at hl 2 rfl) ?_
      refine kM_mayRob S hK hM hg hS (tn a1) (tv a2) (by first | omega | assumption | grind) (by first | omega | assumption | grind) (Nat.le_of_ble_eq_true rfl) (Nat.le_of_ble_eq_true rfl) hl.1 (Nat.le_of_ble_eq_true rfl) dX3_knight_23 (Nat.zero_le _) (Nat.zero_le _) (fun locs hS => ?_)
      refine zr_if_neB (b := mMayRob (gs g 22 0 0) (tn a1) (tv a2)) (tgt := 35) hx hb dX3_knight_26 (by decide) (fun c_7 => ?_) (fun c_7 => ?_)
      · have hMR := c_7
        have hkn := hk6 (g 7 4) ht
        refine lv_aload_n hx hb dX3_knight_35 rfl (lv_at hl 0 rfl) ?_
        refine lv_iconst (v := nI 0) hx hb dX3_knight_36 zi_0 ?_
        refine kM_uses S hK hM hg hS 0 (by first | omega | assumption | grind) (by first | omega | assumption | grind) (by exact mUse_pos hU) (Nat.le_of_ble_eq_true rfl) (Nat.le_of_ble_eq_true rfl) hl.1 (Nat.le_of_ble_eq_true rfl) dX3_knight_37 (Nat.zero_le _) (Nat.zero_le _) (fun H locs hM hg hS => ?_)
        refine lv_aload_n hx hb dX3_knight_40 rfl (lv_at hl 0 rfl) ?_
        refine gM_knights S hK hM dX3_knight_41 ?_
        refine lv_aload_n hx hb dX3_knight_44 rfl (lv_at hl 0 rfl) ?_
        refine gM_turn S hK hM (g 7 4) (by first | rfl | (simp [gUse, gs]; done)) dX3_knight_45 ?_
        have hb_8 : g 7 4 < 1048576 := by first | exact hg 7 4 | exact hg0 _ _ | (have := hg 7 4; omega) | omega
        refine lv_dup2_11 hx hb dX3_knight_48 rfl rfl ?_
        refine lM_knights S hK hM (g 7 4) (by omega) (g 6 (g 7 4)) (by first | rfl | (simp [gUse, gs]; done)) dX3_knight_49 ?_
        have hb_9 : g 6 (g 7 4) < 1048576 := by first | exact hg 6 (g 7 4) | exact hg0 _ _ | (have := hg 6 (g 7 4); omega) | omega
        refine lv_iconst (v := nI 1) hx hb dX3_knight_50 zi_1 ?_
        refine zr_addN (a := (g 6 (g 7 4))) (b := 1) hx hb dX3_knight_51 ?_
        refine sM_knights S hK hM hS (g 7 4) (by omega) ((g 6 (g 7 4)) + 1) dX3_knight_52 (fun H locs hM hS => ?_)
        have hg : Sm (gs (gUse (gs g 22 0 0) 0) 6 (g 7 4) ((g 6 (g 7 4)) + 1)) := Sm_gs hg (by first | omega | exact Nat.lt_of_le_of_lt (Bool.toNat_le _) (by decide) | ((repeat' split) <;> omega))
        refine lv_aload_n hx hb dX3_knight_53 rfl (lv_at hl 0 rfl) ?_
        refine gM_knights S hK hM dX3_knight_54 ?_
        refine lv_aload_n hx hb dX3_knight_57 rfl (lv_at hl 0 rfl) ?_
        refine gM_turn S hK hM (g 7 4) (by first | rfl | (simp [gUse, gs]; done)) dX3_knight_58 ?_
        have hb_10 : g 7 4 < 1048576 := by first | exact hg 7 4 | exact hg0 _ _ | (have := hg 7 4; omega) | omega
        refine lM_knights S hK hM (g 7 4) (by omega) ((g 6 (g 7 4)) + 1) (by first | rfl | simp [gs]) dX3_knight_61 ?_
        have hb_11 : (g 6 (g 7 4)) + 1 < 1048576 := by first | exact hg 6 (g 7 4) | exact hg0 _ _ | (have := hg 6 (g 7 4); omega) | omega
        refine lv_iconst (v := nI 3) hx hb dX3_knight_62 zi_3 ?_
        have J_100 : ∀ yS0_100 : Int32, yS0_100 = nI (!decide (((g 6 (g 7 4)) + 1) < 3) && (decide ((g 7 8) = 0) || (decide (((gs (gUse (gs g 22 0 0) 0) 6 (g 7 4) ((g 6 (g 7 4)) + 1)) 6 ((g 7 8) - 1)) < ((g 6 (g 7 4)) + 1))))).toNat → ∀ (H : Heap) (locs : List Loc), MS D dA A ad (gs (gUse (gs g 22 0 0) 0) 6 (g 7 4) ((g 6 (g 7 4)) + 1)) H → va_S A s.heap H locs → ∀ ls : Array Slot, lv_has ls 6 [(0, .ref (ad 0)), (1, .int (nI (tn a1))), (2, .int (mI (tv a2))), (3, .int (nI (tn a3)))] → W pr l en (rmF 5 0 0 99) s m args below meth cd H locs 0 0 (MQ below (zc_Q Post A) args s 0 0 A) (F0 m 100 ls [.int yS0_100]) := by
          intro yS0_100 eyS0_100 H locs hM hS ls hl
          subst eyS0_100
          refine lv_istore (lv' := [(4, .int (nI (!decide (((g 6 (g 7 4)) + 1) < 3) && (decide ((g 7 8) = 0) || (decide (((gs (gUse (gs g 22 0 0) 0) 6 (g 7 4) ((g 6 (g 7 4)) + 1)) 6 ((g 7 8) - 1)) < ((g 6 (g 7 4)) + 1))))).toNat)), (0, .ref (ad 0)), (1, .int (nI (tn a1))), (2, .int (mI (tv a2))), (3, .int (nI (tn a3)))]) hx hb dX3_knight_100 hl (by decide) rfl (fun ls hl => ?_)
          refine lv_aload_n hx hb dX3_knight_102 rfl (lv_at hl 1 rfl) ?_
          refine lv_iload hx hb dX3_knight_103 (lv_at hl 0 rfl) ?_
          have J_119 : ∀ yS0_119 : Int32, yS0_119 = mI ((if (!decide (((g 6 (g 7 4)) + 1) < 3) && (decide ((g 7 8) = 0) || (decide (((gs (gUse (gs g 22 0 0) 0) 6 (g 7 4) ((g 6 (g 7 4)) + 1)) 6 ((g 7 8) - 1)) < ((g 6 (g 7 4)) + 1))))) = true then g 7 4 + 1 else g 7 8)) → ∀ (H : Heap) (locs : List Loc), MS D dA A ad (gs (gUse (gs g 22 0 0) 0) 6 (g 7 4) ((g 6 (g 7 4)) + 1)) H → va_S A s.heap H locs → ∀ ls : Array Slot, lv_has ls 6 [(0, .ref (ad 0)), (1, .int (nI (tn a1))), (2, .int (mI (tv a2))), (3, .int (nI (tn a3)))] → W pr l en (rmF 5 0 0 99) s m args below meth cd H locs 0 0 (MQ below (zc_Q Post A) args s 0 0 A) (F0 m 119 ls [.int yS0_119, .ref (ad 0)]) := by
            intro yS0_119 eyS0_119 H locs hM hS ls hl
            subst eyS0_119
            refine pM_army S hK hM hS ((if (!decide (((g 6 (g 7 4)) + 1) < 3) && (decide ((g 7 8) = 0) || (decide (((gs (gUse (gs g 22 0 0) 0) 6 (g 7 4) ((g 6 (g 7 4)) + 1)) 6 ((g 7 8) - 1)) < ((g 6 (g 7 4)) + 1))))) = true then g 7 4 + 1 else g 7 8)) dX3_knight_119 (fun H locs hM hS => ?_)
            have hg : Sm (gs (gs (gUse (gs g 22 0 0) 0) 6 (g 7 4) ((g 6 (g 7 4)) + 1)) 7 8 ((if (!decide (((g 6 (g 7 4)) + 1) < 3) && (decide ((g 7 8) = 0) || (decide (((gs (gUse (gs g 22 0 0) 0) 6 (g 7 4) ((g 6 (g 7 4)) + 1)) 6 ((g 7 8) - 1)) < ((g 6 (g 7 4)) + 1))))) = true then g 7 4 + 1 else g 7 8))) := Sm_gs hg (by first | omega | exact Nat.lt_of_le_of_lt (Bool.toNat_le _) (by decide) | ((repeat' split) <;> omega))
            refine lv_aload_n hx hb dX3_knight_122 rfl (lv_at hl 0 rfl) ?_
            refine lv_iload_n hx hb dX3_knight_123 rfl (lv_at hl 1 rfl) ?_
            refine lv_iload_n hx hb dX3_knight_124 rfl (lv_at hl 2 rfl) ?_
            refine lv_iload_n hx hb dX3_knight_125 rfl (lv_at hl 3 rfl) ?_
            refine kM_robs S hK hM hg hS (tn a1) (tv a2) (tn a3) (by first | omega | assumption | grind) (by first | omega | assumption | grind) (by first | omega | assumption | grind) (by exact ht) (by exact hb4) (by exact mMayRob_pos hMR) (Nat.le_of_ble_eq_true rfl) (Nat.le_of_ble_eq_true rfl) hl.1 (Nat.le_of_ble_eq_true rfl) dX3_knight_126 (Nat.zero_le _) (Nat.zero_le _) (fun H locs hM hg hS => ?_)
            refine lv_istore (lv' := [(5, .int (mI (if (tv a2) = 0 then 0 else robK (gs (gs (gUse (gs g 22 0 0) 0) 6 (g 7 4) ((g 6 (g 7 4)) + 1)) 7 8 ((if (!decide (((g 6 (g 7 4)) + 1) < 3) && (decide ((g 7 8) = 0) || (decide (((gs (gUse (gs g 22 0 0) 0) 6 (g 7 4) ((g 6 (g 7 4)) + 1)) 6 ((g 7 8) - 1)) < ((g 6 (g 7 4)) + 1))))) = true then g 7 4 + 1 else g 7 8))) ((tv a2) - 1) (rX (gs (gs (gUse (gs g 22 0 0) 0) 6 (g 7 4) ((g 6 (g 7 4)) + 1)) 7 8 ((if (!decide (((g 6 (g 7 4)) + 1) < 3) && (decide ((g 7 8) = 0) || (decide (((gs (gUse (gs g 22 0 0) 0) 6 (g 7 4) ((g 6 (g 7 4)) + 1)) 6 ((g 7 8) - 1)) < ((g 6 (g 7 4)) + 1))))) = true then g 7 4 + 1 else g 7 8))) (tv a2) (tn a3)) + 1))), (0, .ref (ad 0)), (1, .int (nI (tn a1))), (2, .int (mI (tv a2))), (3, .int (nI (tn a3)))]) hx hb dX3_knight_129 hl (by decide) rfl (fun ls hl => ?_)
            refine lv_aload_n hx hb dX3_knight_131 rfl (lv_at hl 1 rfl) ?_
            refine kM_looksAtWinner S hK hM hg hS  (by show gRob _ _ _ _ 7 4 < 3; rw [gRob_7 _ _ _ _ (by decide)]; exact ht) (Nat.le_of_ble_eq_true rfl) (Nat.le_of_ble_eq_true rfl) hl.1 (Nat.le_of_ble_eq_true rfl) dX3_knight_132 (Nat.zero_le _) (Nat.zero_le _) (fun H locs hM hg hS => ?_)
            refine lv_iload hx hb dX3_knight_135 (lv_at hl 0 rfl) ?_
            rw [show (gWin (gRob (gs (gs (gUse (gs g 22 0 0) 0) 6 (g 7 4) ((g 6 (g 7 4)) + 1)) 7 8 ((if (!decide (((g 6 (g 7 4)) + 1) < 3) && (decide ((g 7 8) = 0) || (decide (((gs (gUse (gs g 22 0 0) 0) 6 (g 7 4) ((g 6 (g 7 4)) + 1)) 6 ((g 7 8) - 1)) < ((g 6 (g 7 4)) + 1))))) = true then g 7 4 + 1 else g 7 8))) (tn a1) (tv a2) (tn a3)) : G) = mKniG g a1 a2 a3 from by first | with_reducible rfl | (simp [c_1, q_3, q_4, q_5, c_6, c_7, mKniG, mKniR]; done) | (simp only [c_1, q_3, q_4, q_5, c_6, c_7] <;> simp [mKniG, mKniR]; done) | (simp only [mKniG, mKniR, c_1, q_3, q_4, q_5, c_6, c_7] <;> simp [mKniG, mKniR]; done) | (simp [c_1, q_3, q_4, q_5, c_6, c_7, mKniG, mKniR, Bool.and_assoc]; done) | (simp [c_1, q_3, q_4, q_5, c_6, c_7, mKniG, mKniR, Bool.and_assoc, Bool.or_assoc]; done) | rfl | (simp [c_1, q_3, q_4, q_5, c_6, c_7, mKniG, mKniR]; omega)] at hM hg
            exact zc_nret (mI (mKniR g a1 a2 a3)) (congrArg mI (show (if (tv a2) = 0 then 0 else robK (gs (gs (gUse (gs g 22 0 0) 0) 6 (g 7 4) ((g 6 (g 7 4)) + 1)) 7 8 ((if (!decide (((g 6 (g 7 4)) + 1) < 3) && (decide ((g 7 8) = 0) || (decide (((gs (gUse (gs g 22 0 0) 0) 6 (g 7 4) ((g 6 (g 7 4)) + 1)) 6 ((g 7 8) - 1)) < ((g 6 (g 7 4)) + 1))))) = true then g 7 4 + 1 else g 7 8))) ((tv a2) - 1) (rX (gs (gs (gUse (gs g 22 0 0) 0) 6 (g 7 4) ((g 6 (g 7 4)) + 1)) 7 8 ((if (!decide (((g 6 (g 7 4)) + 1) < 3) && (decide ((g 7 8) = 0) || (decide (((gs (gUse (gs g 22 0 0) 0) 6 (g 7 4) ((g 6 (g 7 4)) + 1)) 6 ((g 7 8) - 1)) < ((g 6 (g 7 4)) + 1))))) = true then g 7 4 + 1 else g 7 8))) (tv a2) (tn a3)) + 1 : Nat) = (mKniR g a1 a2 a3) from by first | with_reducible rfl | (simp [c_1, q_3, q_4, q_5, c_6, c_7, mKniG, mKniR]; done) | (simp only [c_1, q_3, q_4, q_5, c_6, c_7] <;> simp [mKniG, mKniR]; done) | (simp only [mKniG, mKniR, c_1, q_3, q_4, q_5, c_6, c_7] <;> simp [mKniG, mKniR]; done) | (simp [c_1, q_3, q_4, q_5, c_6, c_7, mKniG, mKniR, Bool.and_assoc]; done) | (simp [c_1, q_3, q_4, q_5, c_6, c_7, mKniG, mKniR, Bool.and_assoc, Bool.or_assoc]; done) | rfl | (simp [c_1, q_3, q_4, q_5, c_6, c_7, mKniG, mKniR]; omega))) (hPost H hM hg) hS hx hb hr hlk (Nat.zero_le _) (Nat.zero_le _) dX3_knight_137
          refine zr_if_eqB (b := !decide (((g 6 (g 7 4)) + 1) < 3) && (decide ((g 7 8) = 0) || (decide (((gs (gUse (gs g 22 0 0) 0) 6 (g 7 4) ((g 6 (g 7 4)) + 1)) 6 ((g 7 8) - 1)) < ((g 6 (g 7 4)) + 1))))) (tgt := 115) hx hb dX3_knight_105 (by decide) (fun c_23 => ?_) (fun c_23 => ?_)
          · refine lv_aload_n hx hb dX3_knight_115 rfl (lv_at hl 1 rfl) ?_
            refine gM_army S hK hM (g 7 8) (by first | rfl | (simp [gUse, gs]; done)) dX3_knight_116 ?_
            have hb_24 : g 7 8 < 1048576 := by first | exact hg 7 8 | exact hg0 _ _ | (have := hg 7 8; omega) | omega
            exact J_119 _ (congrArg mI (show (g 7 8 : Nat) = ((if (!decide (((g 6 (g 7 4)) + 1) < 3) && (decide ((g 7 8) = 0) || (decide (((gs (gUse (gs g 22 0 0) 0) 6 (g 7 4) ((g 6 (g 7 4)) + 1)) 6 ((g 7 8) - 1)) < ((g 6 (g 7 4)) + 1))))) = true then g 7 4 + 1 else g 7 8)) from by first | with_reducible rfl | (simp [c_1, q_3, q_4, q_5, c_6, c_7, c_23, mKniG, mKniR]; done) | (simp only [c_1, q_3, q_4, q_5, c_6, c_7, c_23] <;> simp [mKniG, mKniR]; done) | (simp only [mKniG, mKniR, c_1, q_3, q_4, q_5, c_6, c_7, c_23] <;> simp [mKniG, mKniR]; done) | (simp [c_1, q_3, q_4, q_5, c_6, c_7, c_23, mKniG, mKniR, Bool.and_assoc]; done) | (simp [c_1, q_3, q_4, q_5, c_6, c_7, c_23, mKniG, mKniR, Bool.and_assoc, Bool.or_assoc]; done) | rfl | (simp [c_1, q_3, q_4, q_5, c_6, c_7, c_23, mKniG, mKniR]; omega))) H locs hM hS ls (lv_sub hl [1, 2, 3, 4] rfl)
          · refine lv_aload_n hx hb dX3_knight_108 rfl (lv_at hl 1 rfl) ?_
            refine gM_turn S hK hM (g 7 4) (by first | rfl | (simp [gUse, gs]; done)) dX3_knight_109 ?_
            have hb_25 : g 7 4 < 1048576 := by first | exact hg 7 4 | exact hg0 _ _ | (have := hg 7 4; omega) | omega
            refine lv_goto (tgt := 119) hx hb dX3_knight_112 (by decide) ?_
            exact J_119 _ ((mI_succ (g 7 4)).symm.trans (congrArg mI (show (g 7 4 + 1 : Nat) = ((if (!decide (((g 6 (g 7 4)) + 1) < 3) && (decide ((g 7 8) = 0) || (decide (((gs (gUse (gs g 22 0 0) 0) 6 (g 7 4) ((g 6 (g 7 4)) + 1)) 6 ((g 7 8) - 1)) < ((g 6 (g 7 4)) + 1))))) = true then g 7 4 + 1 else g 7 8)) from by first | with_reducible rfl | (simp [c_1, q_3, q_4, q_5, c_6, c_7, c_23, mKniG, mKniR]; done) | (simp only [c_1, q_3, q_4, q_5, c_6, c_7, c_23] <;> simp [mKniG, mKniR]; done) | (simp only [mKniG, mKniR, c_1, q_3, q_4, q_5, c_6, c_7, c_23] <;> simp [mKniG, mKniR]; done) | (simp [c_1, q_3, q_4, q_5, c_6, c_7, c_23, mKniG, mKniR, Bool.and_assoc]; done) | (simp [c_1, q_3, q_4, q_5, c_6, c_7, c_23, mKniG, mKniR, Bool.and_assoc, Bool.or_assoc]; done) | rfl | (simp [c_1, q_3, q_4, q_5, c_6, c_7, c_23, mKniG, mKniR]; omega)))) H locs hM hS ls (lv_sub hl [1, 2, 3, 4] rfl)
        refine zr_icmp_ltN (a := ((g 6 (g 7 4)) + 1)) (b := 3) (tgt := 99) hx hb (by omega) (by omega) dX3_knight_63 (by decide) (fun c_26 => ?_) (fun c_26 => ?_)
        · refine lv_iconst (v := nI 0) hx hb dX3_knight_99 zi_0 ?_
          exact J_100 _ (congrArg (fun z : Bool => nI z.toNat) (show (false : Bool) = (!decide (((g 6 (g 7 4)) + 1) < 3) && (decide ((g 7 8) = 0) || (decide (((gs (gUse (gs g 22 0 0) 0) 6 (g 7 4) ((g 6 (g 7 4)) + 1)) 6 ((g 7 8) - 1)) < ((g 6 (g 7 4)) + 1))))) from by first | with_reducible rfl | (simp [c_1, q_3, q_4, q_5, c_6, c_7, c_26, mKniG, mKniR]; done) | (simp only [c_1, q_3, q_4, q_5, c_6, c_7, c_26] <;> simp [mKniG, mKniR]; done) | (simp only [mKniG, mKniR, c_1, q_3, q_4, q_5, c_6, c_7, c_26] <;> simp [mKniG, mKniR]; done) | (simp [c_1, q_3, q_4, q_5, c_6, c_7, c_26, mKniG, mKniR, Bool.and_assoc]; done) | (simp [c_1, q_3, q_4, q_5, c_6, c_7, c_26, mKniG, mKniR, Bool.and_assoc, Bool.or_assoc]; done) | rfl | (simp [c_1, q_3, q_4, q_5, c_6, c_7, c_26, mKniG, mKniR]; omega))) H locs hM hS ls (lv_sub hl [0, 1, 2, 3] rfl)
        · refine lv_aload_n hx hb dX3_knight_66 rfl (lv_at hl 0 rfl) ?_
          refine gM_army S hK hM (g 7 8) (by first | rfl | (simp [gUse, gs]; done)) dX3_knight_67 ?_
          have hb_27 : g 7 8 < 1048576 := by first | exact hg 7 8 | exact hg0 _ _ | (have := hg 7 8; omega) | omega
          refine lv_iconst (v := mI 0) hx hb dX3_knight_70 zi_m1 ?_
          refine zr_icmp_eqM (a := (g 7 8)) (b := 0) (tgt := 95) hx hb (by omega) (by omega) dX3_knight_71 (by decide) (fun c_28 => ?_) (fun c_28 => ?_)
          · refine lv_iconst (v := nI 1) hx hb dX3_knight_95 zi_1 ?_
            refine lv_goto (tgt := 100) hx hb dX3_knight_96 (by decide) ?_
            exact J_100 _ (congrArg (fun z : Bool => nI z.toNat) (show (true : Bool) = (!decide (((g 6 (g 7 4)) + 1) < 3) && (decide ((g 7 8) = 0) || (decide (((gs (gUse (gs g 22 0 0) 0) 6 (g 7 4) ((g 6 (g 7 4)) + 1)) 6 ((g 7 8) - 1)) < ((g 6 (g 7 4)) + 1))))) from by first | with_reducible rfl | (simp [c_1, q_3, q_4, q_5, c_6, c_7, c_26, c_28, mKniG, mKniR]; done) | (simp only [c_1, q_3, q_4, q_5, c_6, c_7, c_26, c_28] <;> simp [mKniG, mKniR]; done) | (simp only [mKniG, mKniR, c_1, q_3, q_4, q_5, c_6, c_7, c_26, c_28] <;> simp [mKniG, mKniR]; done) | (simp [c_1, q_3, q_4, q_5, c_6, c_7, c_26, c_28, mKniG, mKniR, Bool.and_assoc]; done) | (simp [c_1, q_3, q_4, q_5, c_6, c_7, c_26, c_28, mKniG, mKniR, Bool.and_assoc, Bool.or_assoc]; done) | rfl | (simp [c_1, q_3, q_4, q_5, c_6, c_7, c_26, c_28, mKniG, mKniR]; omega))) H locs hM hS ls (lv_sub hl [0, 1, 2, 3] rfl)
          · have hk9 : (gs (gUse (gs g 22 0 0) 0) 6 (g 7 4) (g 6 (g 7 4) + 1)) 6 (g 7 8 - 1) ≤ 101 := by
              by_cases q : g 7 8 - 1 = g 7 4
              · rw [q, gs_eq]; omega
              · rw [gs_ni _ q]; exact Nat.le_trans (hk6 _ (by omega)) (by decide)
            refine lv_aload_n hx hb dX3_knight_74 rfl (lv_at hl 0 rfl) ?_
            refine gM_knights S hK hM dX3_knight_75 ?_
            refine lv_aload_n hx hb dX3_knight_78 rfl (lv_at hl 0 rfl) ?_
            refine gM_turn S hK hM (g 7 4) (by first | rfl | (simp [gUse, gs]; done)) dX3_knight_79 ?_
            have hb_29 : g 7 4 < 1048576 := by first | exact hg 7 4 | exact hg0 _ _ | (have := hg 7 4; omega) | omega
            refine lM_knights S hK hM (g 7 4) (by omega) ((g 6 (g 7 4)) + 1) (by first | rfl | simp [gs]) dX3_knight_82 ?_
            have hb_30 : (g 6 (g 7 4)) + 1 < 1048576 := by first | exact hg 6 (g 7 4) | exact hg0 _ _ | (have := hg 6 (g 7 4); omega) | omega
            refine lv_aload_n hx hb dX3_knight_83 rfl (lv_at hl 0 rfl) ?_
            refine gM_knights S hK hM dX3_knight_84 ?_
            refine lv_aload_n hx hb dX3_knight_87 rfl (lv_at hl 0 rfl) ?_
            refine gM_army S hK hM (g 7 8) (by first | rfl | (simp [gUse, gs]; done)) dX3_knight_88 ?_
            have hb_31 : g 7 8 < 1048576 := by first | exact hg 7 8 | exact hg0 _ _ | (have := hg 7 8; omega) | omega
            rw [mI_pred (show 0 < (g 7 8) from by omega)]
            refine lM_knights S hK hM ((g 7 8) - 1) (by omega) ((gs (gUse (gs g 22 0 0) 0) 6 (g 7 4) ((g 6 (g 7 4)) + 1)) 6 ((g 7 8) - 1)) (by first | rfl | simp [gs]) dX3_knight_91 ?_
            have hb_32 : (gs (gUse (gs g 22 0 0) 0) 6 (g 7 4) ((g 6 (g 7 4)) + 1)) 6 ((g 7 8) - 1) < 1048576 := by first | exact hg 6 ((g 7 8) - 1) | exact hg0 _ _ | (have := hg 6 ((g 7 8) - 1); omega) | omega
            refine zr_icmp_leN (a := ((g 6 (g 7 4)) + 1)) (b := ((gs (gUse (gs g 22 0 0) 0) 6 (g 7 4) ((g 6 (g 7 4)) + 1)) 6 ((g 7 8) - 1))) (tgt := 99) hx hb (by omega) (by omega) dX3_knight_92 (by decide) (fun c_33 => ?_) (fun c_33 => ?_)
            · refine lv_iconst (v := nI 0) hx hb dX3_knight_99 zi_0 ?_
              exact J_100 _ (congrArg (fun z : Bool => nI z.toNat) (show (false : Bool) = (!decide (((g 6 (g 7 4)) + 1) < 3) && (decide ((g 7 8) = 0) || (decide (((gs (gUse (gs g 22 0 0) 0) 6 (g 7 4) ((g 6 (g 7 4)) + 1)) 6 ((g 7 8) - 1)) < ((g 6 (g 7 4)) + 1))))) from by first | with_reducible rfl | (simp [c_1, q_3, q_4, q_5, c_6, c_7, c_26, c_28, c_33, mKniG, mKniR]; done) | (simp only [c_1, q_3, q_4, q_5, c_6, c_7, c_26, c_28, c_33] <;> simp [mKniG, mKniR]; done) | (simp only [mKniG, mKniR, c_1, q_3, q_4, q_5, c_6, c_7, c_26, c_28, c_33] <;> simp [mKniG, mKniR]; done) | (simp [c_1, q_3, q_4, q_5, c_6, c_7, c_26, c_28, c_33, mKniG, mKniR, Bool.and_assoc]; done) | (simp [c_1, q_3, q_4, q_5, c_6, c_7, c_26, c_28, c_33, mKniG, mKniR, Bool.and_assoc, Bool.or_assoc]; done) | rfl | (simp [c_1, q_3, q_4, q_5, c_6, c_7, c_26, c_28, c_33, mKniG, mKniR]; omega))) H locs hM hS ls (lv_sub hl [0, 1, 2, 3] rfl)
            · refine lv_iconst (v := nI 1) hx hb dX3_knight_95 zi_1 ?_
              refine lv_goto (tgt := 100) hx hb dX3_knight_96 (by decide) ?_
              exact J_100 _ (congrArg (fun z : Bool => nI z.toNat) (show (true : Bool) = (!decide (((g 6 (g 7 4)) + 1) < 3) && (decide ((g 7 8) = 0) || (decide (((gs (gUse (gs g 22 0 0) 0) 6 (g 7 4) ((g 6 (g 7 4)) + 1)) 6 ((g 7 8) - 1)) < ((g 6 (g 7 4)) + 1))))) from by first | with_reducible rfl | (simp [c_1, q_3, q_4, q_5, c_6, c_7, c_26, c_28, c_33, mKniG, mKniR]; done) | (simp only [c_1, q_3, q_4, q_5, c_6, c_7, c_26, c_28, c_33] <;> simp [mKniG, mKniR]; done) | (simp only [mKniG, mKniR, c_1, q_3, q_4, q_5, c_6, c_7, c_26, c_28, c_33] <;> simp [mKniG, mKniR]; done) | (simp [c_1, q_3, q_4, q_5, c_6, c_7, c_26, c_28, c_33, mKniG, mKniR, Bool.and_assoc]; done) | (simp [c_1, q_3, q_4, q_5, c_6, c_7, c_26, c_28, c_33, mKniG, mKniR, Bool.and_assoc, Bool.or_assoc]; done) | rfl | (simp [c_1, q_3, q_4, q_5, c_6, c_7, c_26, c_28, c_33, mKniG, mKniR]; omega))) H locs hM hS ls (lv_sub hl [0, 1, 2, 3] rfl)
      · refine lv_aload_n hx hb dX3_knight_29 rfl (lv_at hl 0 rfl) ?_
        refine lv_iconst (v := nI 3) hx hb dX3_knight_30 zi_3 ?_
        refine kM_fails S hK hM hg hS 3 (by first | omega | assumption | grind) (Nat.le_of_ble_eq_true rfl) (Nat.le_of_ble_eq_true rfl) hl.1 (Nat.le_of_ble_eq_true rfl) dX3_knight_31 (Nat.zero_le _) (Nat.zero_le _) (fun H locs hM hg hS => ?_)
        rw [show (gs (gs g 22 0 0) 22 0 3 : G) = mKniG g a1 a2 a3 from by first | with_reducible rfl | (simp [c_1, q_3, q_4, q_5, c_6, c_7, mKniG, mKniR]; done) | (simp only [c_1, q_3, q_4, q_5, c_6, c_7] <;> simp [mKniG, mKniR]; done) | (simp only [mKniG, mKniR, c_1, q_3, q_4, q_5, c_6, c_7] <;> simp [mKniG, mKniR]; done) | (simp [c_1, q_3, q_4, q_5, c_6, c_7, mKniG, mKniR, Bool.and_assoc]; done) | (simp [c_1, q_3, q_4, q_5, c_6, c_7, mKniG, mKniR, Bool.and_assoc, Bool.or_assoc]; done) | rfl | (simp [c_1, q_3, q_4, q_5, c_6, c_7, mKniG, mKniR]; omega)] at hM hg
        exact zc_nret (mI (mKniR g a1 a2 a3)) ((mI_succ 0).symm.trans (congrArg mI (show (1 : Nat) = (mKniR g a1 a2 a3) from by first | with_reducible rfl | (simp [c_1, q_3, q_4, q_5, c_6, c_7, mKniG, mKniR]; done) | (simp only [c_1, q_3, q_4, q_5, c_6, c_7] <;> simp [mKniG, mKniR]; done) | (simp only [mKniG, mKniR, c_1, q_3, q_4, q_5, c_6, c_7] <;> simp [mKniG, mKniR]; done) | (simp [c_1, q_3, q_4, q_5, c_6, c_7, mKniG, mKniR, Bool.and_assoc]; done) | (simp [c_1, q_3, q_4, q_5, c_6, c_7, mKniG, mKniR, Bool.and_assoc, Bool.or_assoc]; done) | rfl | (simp [c_1, q_3, q_4, q_5, c_6, c_7, mKniG, mKniR]; omega)))) (hPost H hM hg) hS hx hb hr hlk (Nat.zero_le _) (Nat.zero_le _) dX3_knight_34
  · refine lv_iconst (v := nI 0) hx hb dX3_knight_10 zi_0 ?_
    rw [show (gs g 22 0 (rbCode a1 a2 a3) : G) = mKniG g a1 a2 a3 from by first | with_reducible rfl | (simp [c_1, mKniG, mKniR]; done) | (simp only [c_1] <;> simp [mKniG, mKniR]; done) | (simp only [mKniG, mKniR, c_1] <;> simp [mKniG, mKniR]; done) | (simp [c_1, mKniG, mKniR, Bool.and_assoc]; done) | (simp [c_1, mKniG, mKniR, Bool.and_assoc, Bool.or_assoc]; done) | rfl | (simp [c_1, mKniG, mKniR]; omega)] at hM hg
    exact zc_nret (mI (mKniR g a1 a2 a3)) ((mI_succ 0).symm.trans (congrArg mI (show (1 : Nat) = (mKniR g a1 a2 a3) from by first | with_reducible rfl | (simp [c_1, mKniG, mKniR]; done) | (simp only [c_1] <;> simp [mKniG, mKniR]; done) | (simp only [mKniG, mKniR, c_1] <;> simp [mKniG, mKniR]; done) | (simp [c_1, mKniG, mKniR, Bool.and_assoc]; done) | (simp [c_1, mKniG, mKniR, Bool.and_assoc, Bool.or_assoc]; done) | rfl | (simp [c_1, mKniG, mKniR]; omega)))) (hPost H hM hg) hS hx hb hr hlk (Nat.zero_le _) (Nat.zero_le _) dX3_knight_11
