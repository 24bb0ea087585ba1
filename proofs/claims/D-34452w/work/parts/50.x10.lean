/-! THE CLASS: cards are bought (printed by gen/x10.py) -/
theorem cdP_nf (g : G) (w b : Nat) {f : Nat} (h : f < 8 ∨ 11 < f) (j : Nat) : cdP g w b f j = g f j := by
  unfold cdP
  rw [gs_nf _ (by omega), gs_nf _ (by omega), gs_nf _ (by omega), gs_nf _ (by omega)]
theorem cdP_80 (g : G) (w b : Nat) : cdP g w b 8 0 = g 8 0 + 1 := by
  unfold cdP
  rw [gs_eq]
theorem Sm_cdP {g : G} {w b : Nat} (hg : Sm g) (hw : w < 1048576) (hb : b < 1048576) (h8 : g 8 0 < 1048575) : Sm (cdP g w b) :=
  Sm_gs (Sm_gs (Sm_gs (Sm_gs hg hw) hb) (by decide)) (by omega)
def cdBuy (g : G) : Nat := (if (decide (g 7 1 = 2) && (decide (g 8 0 < 15) && hasG g (g 7 4) 11100)) = true then 0 else 3)
set_option maxHeartbeats 1000000 in
set_option maxRecDepth 100000 in
theorem cX_buy (l : Launch) (hfl : l.stackTraces = false) {D : va_G} {dA : Nat → ClassId} {cn : Nat → Nat} {A : Nat → Prop} {pa : NM → Nat} {g : G} {T : va_W} (hg : Sm g) (ht : g 7 4 < 3) (hb4 : ∀ j, j < 20 → g 4 j ≤ 100) (hv : g 8 1 ≤ 1900) (h6 : ∀ c, c < 24 → g 2 c ≤ 6) (hr8 : ∀ p, p < 3 → roadsN g p 30 ≤ 8) (h7 : g 7 7 ≤ 3) (hnc : g 8 0 ≤ 15) (H0 : Heap) (hM : XS D dA cn A pa g T H0) (hA : ∀ q, H0.size ≤ q → A q) {Post : Option Value → Heap → Prop} {XPost : String → Heap → Prop} (hPost : (cdBuy g ) = 0 → ∀ (pa1 : NM → Nat), pa1 (0, 0) = pa (0, 0) → ∀ H : Heap, XS D dA cn A pa1 (gDoneX (cdP (giveX g (g 7 4) 3 11100 5) (g 7 4) (g 7 3)) false) T H → Sm (gDoneX (cdP (giveX g (g 7 4) 3 11100 5) (g 7 4) (g 7 3)) false) → Post (some (.int (nI (deckK (g 8 0))))) H) (hXP : ∀ n : Nat, (cdBuy g ) = n → n ≠ 0 → ∀ H : Heap, XS D dA cn A pa g T H → XPost (exS n) H) : vCt l yX1_buy (ws_ yX1_buy cX1_buy 2 (some .int)) (rmF 18 16 28038 834) A (KX D dA cn A) [.ref (pa (0, 0))] H0 Post XPost := by
  refine vc_of RX1 rfl (by decide) (Nat.le_of_ble_eq_true rfl) ?_
  intro pr en s m args below meth cd S hr hlk hnm hno hh hKX ls hl
  have hS : va_S A s.heap H0 [] := zc_start hh
  have hA : ∀ q, s.heap.size ≤ q → A q := fun q h => hA q (by rw [← hh]; exact h)
  have hg0 := hg
  have hx := S.1
  have hb := S.2.1
  have hown := S.2.2.2.1
  have hts := S.2.2.2.2
  have hK := hKX.1
  have hN := hKX.2.1.1
  have hl : lv_has ls 2 [(0, .ref (pa (0, 0)))] := hl
  refine lv_aload_n hx hb dX1_buy_0 rfl (lv_at hl 0 rfl) ?_
  refine lv_aload_n hx hb dX1_buy_1 rfl (lv_at hl 0 rfl) ?_
  refine gX_cards S hK hM dX1_buy_2 ?_
  refine kL_size_c S hKX hM hS (Nat.le_of_ble_eq_true rfl) (Nat.le_of_ble_eq_true rfl) hl.1 (Nat.le_of_ble_eq_true rfl) (Nat.le_of_ble_eq_true rfl) (Nat.le_of_ble_eq_true rfl) dX1_buy_5 (fun locs hS => ?_)
  have hb_1 : g 8 0 < 1048576 := by first | exact hg 8 0 | exact hg0 _ _ | (have := hg 8 0; omega) | omega
  refine xk_deck S hKX hS dX1_buy_10 ?_
  refine xk_dlen S hKX hS dX1_buy_13 ?_
  have J_22 : ∀ yS0_22 : Int32, yS0_22 = nI (decide ((g 8 0) < 15)).toNat → ∀ (H : Heap) (locs : List Loc), XS D dA cn A pa g T H → va_S A s.heap H locs → ∀ ls : Array Slot, lv_has ls 2 [(0, .ref (pa (0, 0)))] → W pr l en (rmF 18 16 28038 834) s m args below meth cd H locs (0) (0) (vx_MQ below (zc_Q Post A) (vc_X XPost A) args s 16 28038 A) (F0 m 22 ls [.int yS0_22, .ref (pa (0, 0))]) := by
    intro yS0_22 eyS0_22 H locs hM hS ls hl
    subst eyS0_22
    refine lv_sipush (v := nI 11100) hx hb dX1_buy_22 zs_11100 ?_
    refine kX_checkBuilding hfl S hKX hM hg hS (fun q h => hA q (Nat.le_trans hS.1 h)) (decide ((g 8 0) < 15)) 11100 (by first | omega | assumption | grind) (by first | omega | assumption | grind) (Nat.le_of_ble_eq_true rfl) (Nat.le_of_ble_eq_true rfl) hl.1 (Nat.le_of_ble_eq_true rfl) dX1_buy_25 (Nat.le_of_ble_eq_true rfl) (Nat.le_of_ble_eq_true rfl) hno hlk (Nat.le_of_ble_eq_true rfl) (Nat.le_of_ble_eq_true rfl) (fun c_3 H1 hM1 => hXP 3 (by first | (simp only [c_3, cdBuy, Bool.true_and, Bool.and_true, Bool.false_and, Bool.and_false, reduceIte, Bool.false_eq_true]; done) | (simp [c_3, cdBuy]; done) | grind | (simp_all; done)) (by decide) H1 hM1) (fun c_3 H locs hM hg hS => ?_)
    have hHG : hasG g (g 7 4) 11100 = true := by have q := c_3; simp only [Bool.and_eq_true, decide_eq_true_eq, Bool.not_eq_true', decide_eq_false_iff_not] at q; exact q.2.2
    have hc15 : g 8 0 < 15 := by have q := c_3; simp only [Bool.and_eq_true, decide_eq_true_eq, Bool.not_eq_true', decide_eq_false_iff_not] at q; exact q.2.1
    refine lv_aload_n hx hb dX1_buy_28 rfl (lv_at hl 0 rfl) ?_
    refine lv_sipush (v := nI 11100) hx hb dX1_buy_29 zs_11100 ?_
    refine kX_pay S hKX hM hg hS (fun q h => hA q (Nat.le_trans hS.1 h)) 11100 (by first | omega | assumption | grind) (by first | omega | assumption | grind) (by exact hasG_le hHG) (by exact fun j hj => Nat.le_trans (hb4 j hj) (by decide)) (by first | omega | assumption | grind) (Nat.le_of_ble_eq_true rfl) (Nat.le_of_ble_eq_true rfl) hl.1 (Nat.le_of_ble_eq_true rfl) dX1_buy_32 (Nat.le_of_ble_eq_true rfl) (Nat.le_of_ble_eq_true rfl) (fun H locs hM hg hS => ?_)
    have h80 : (giveX g (g 7 4) 3 11100 5) 8 0 < 15 := by rw [giveX_80]; exact hc15
    refine nw_X8 S hK hM hS hA (Nat.le_of_ble_eq_true rfl) (Nat.le_of_ble_eq_true rfl) dX1_buy_35 (fun q_4 H hM hS => ?_)
    refine lv_dup hx hb dX1_buy_38 rfl ?_
    refine xk_deck S hKX hS dX1_buy_39 ?_
    refine lv_aload_n hx hb dX1_buy_42 rfl (lv_at hl 0 rfl) ?_
    refine gX_cards S hK hM dX1_buy_43 ?_
    refine kL_size_c S hKX hM hS (Nat.le_of_ble_eq_true rfl) (Nat.le_of_ble_eq_true rfl) hl.1 (Nat.le_of_ble_eq_true rfl) (Nat.le_of_ble_eq_true rfl) (Nat.le_of_ble_eq_true rfl) dX1_buy_46 (fun locs hS => ?_)
    have hb_5 : (giveX g (g 7 4) 3 11100 5) 8 0 < 1048576 := by first | exact hg 8 0 | exact hg0 _ _ | (have := hg 8 0; omega) | omega
    refine xk_dld S hKX hS ((giveX g (g 7 4) 3 11100 5) 8 0) (by omega) dX1_buy_51 ?_
    refine lv_aload_n hx hb dX1_buy_52 rfl (lv_at hl 0 rfl) ?_
    refine gX_turn S hK hM (g 7 4) (by first | with_reducible rfl | exact giveX_nf _ _ _ _ (by decide) (by decide) (by decide) _ _) dX1_buy_53 ?_
    have hb_6 : g 7 4 < 1048576 := by first | exact hg 7 4 | exact hg0 _ _ | (have := hg 7 4; omega) | omega
    refine lv_aload_n hx hb dX1_buy_56 rfl (lv_at hl 0 rfl) ?_
    refine gX_turns S hK hM (g 7 3) (by first | with_reducible rfl | exact giveX_nf _ _ _ _ (by decide) (by decide) (by decide) _ _) dX1_buy_57 ?_
    have hb_7 : g 7 3 < 1048576 := by first | exact hg 7 3 | exact hg0 _ _ | (have := hg 7 3; omega) | omega
    refine kN_X8 S hKX hM hS (Nat.le_of_ble_eq_true rfl) (Nat.le_of_ble_eq_true rfl) hl.1 (Nat.le_of_ble_eq_true rfl) (Nat.le_of_ble_eq_true rfl) (Nat.le_of_ble_eq_true rfl) dX1_buy_60 (fun H locs hM hS => ?_)
    refine lv_astore_n (lv' := [(1, .ref q_4), (0, .ref (pa (0, 0)))]) hx hb dX1_buy_63 rfl hl (by decide) rfl (fun ls hl => ?_)
    refine lv_aload_n hx hb dX1_buy_64 rfl (lv_at hl 1 rfl) ?_
    refine gX_cards S hK hM dX1_buy_65 ?_
    refine lv_aload_n hx hb dX1_buy_68 rfl (lv_at hl 0 rfl) ?_
    refine kL_add_c S hKX (vw := g 7 4) (vb := g 7 3) hM hS (fun q h => hA q (Nat.le_trans hS.1 h)) (by omega) (Nat.le_of_ble_eq_true rfl) (Nat.le_of_ble_eq_true rfl) hl.1 (Nat.le_of_ble_eq_true rfl) (Nat.le_of_ble_eq_true rfl) (Nat.le_of_ble_eq_true rfl) dX1_buy_69 (fun H locs hM hS => ?_)
    have hg : Sm (cdP (giveX g (g 7 4) 3 11100 5) (g 7 4) (g 7 3)) := Sm_cdP hg (by omega) (by omega) (by omega)
    obtain ⟨pa1, hpa1⟩ : ∃ p : NM → Nat, p = upA pa (13, (giveX g (g 7 4) 3 11100 5) 8 0) q_4 := ⟨_, rfl⟩
    rw [← hpa1] at hM
    have hp0_1 : pa1 (0, 0) = pa (0, 0) := by rw [hpa1]; rfl
    rw [← hp0_1] at hl
    have hcd : pa1 (13, (giveX g (g 7 4) 3 11100 5) 8 0) = q_4 := by rw [hpa1]; exact upA_eq _ _ _
    rw [← hcd] at hl
    refine lv_pop hx hb dX1_buy_74 rfl ?_
    have hrf : ∀ j, (cdP (giveX g (g 7 4) 3 11100 5) (g 7 4) (g 7 3)) 3 j = g 3 j := fun j => (cdP_nf _ _ _ (by decide) j).trans (giveX_nf g (g 7 4) 3 11100 (by decide) (by decide) (by decide) 5 j)
    refine lv_aload_n hx hb dX1_buy_75 rfl (lv_at hl 1 rfl) ?_
    refine lv_iconst (v := nI 0) hx hb dX1_buy_76 zi_0 ?_
    refine kX_done S hKX hM hg hS (fun q h => hA q (Nat.le_trans hS.1 h)) false (by rw [cdP_nf _ _ _ (by decide), giveX_nf _ _ _ _ (by decide) (by decide) (by decide)]; exact ht) (by intro c hc; rw [cdP_nf _ _ _ (by decide), giveX_nf _ _ _ _ (by decide) (by decide) (by decide)]; exact h6 c hc) (by intro p hp; rw [roadsN_f3 hrf]; exact hr8 p hp) (by rw [cdP_nf _ _ _ (by decide), giveX_nf _ _ _ _ (by decide) (by decide) (by decide)]; exact h7) (by rw [cdP_80]; omega) (Nat.le_of_ble_eq_true rfl) (Nat.le_of_ble_eq_true rfl) hl.1 (Nat.le_of_ble_eq_true rfl) dX1_buy_77 (Nat.le_of_ble_eq_true rfl) (Nat.le_of_ble_eq_true rfl) (fun H locs hM hg hS => ?_)
    have hx9 : (giveX g (g 7 4) 3 11100 5) 8 0 < (gDoneX (cdP (giveX g (g 7 4) 3 11100 5) (g 7 4) (g 7 3)) false) 8 0 := by rw [gDoneX_nf _ _ (by decide), cdP_80]; omega
    refine lv_aload_n hx hb dX1_buy_80 rfl (lv_at hl 0 rfl) ?_
    refine gN_card_kind S hK hM hN ((giveX g (g 7 4) 3 11100 5) 8 0) (by omega) dX1_buy_81 ?_
    refine kI_kord S hKX hS (deckK ((giveX g (g 7 4) 3 11100 5) 8 0)) (deckK_lt _) (Nat.le_of_ble_eq_true rfl) (Nat.le_of_ble_eq_true rfl) hl.1 (Nat.le_of_ble_eq_true rfl) (Nat.le_of_ble_eq_true rfl) (Nat.le_of_ble_eq_true rfl) dX1_buy_84 (fun locs hS => ?_)
    have hb_8 : deckK ((giveX g (g 7 4) 3 11100 5) 8 0) < 5 := (deckK_lt _)
    exact vx_ret (zc_nret (nI (deckK (g 8 0))) (congrArg nI (show (deckK ((giveX g (g 7 4) 3 11100 5) 8 0) : Nat) = (deckK (g 8 0)) from by rw [giveX_80])) (hPost (by first | rfl | (simp only [c_3, cdBuy, Bool.true_and, Bool.and_true, reduceIte]; done) | (simp [c_3, cdBuy]; done) | grind | (simp_all; done)) pa1 hp0_1 H hM hg) hS hx hb hr hlk (Nat.le_of_ble_eq_true rfl) (Nat.le_of_ble_eq_true rfl) dX1_buy_87)
  refine zr_icmp_geN (a := (g 8 0)) (b := 15) (tgt := 21) hx hb (by omega) (by omega) dX1_buy_14 (by decide) (fun c_9 => ?_) (fun c_9 => ?_)
  · refine lv_iconst (v := nI 0) hx hb dX1_buy_21 zi_0 ?_
    exact J_22 _ (congrArg (fun z : Bool => nI z.toNat) (show (false : Bool) = (decide ((g 8 0) < 15)) from by first | with_reducible rfl | (simp [c_9, cdBuy]; done) | (simp only [c_9] <;> simp [cdBuy]; done) | (simp only [cdBuy, c_9] <;> simp [cdBuy]; done) | (simp [c_9, cdBuy, Bool.and_assoc]; done) | (simp [c_9, cdBuy, Bool.and_assoc, Bool.or_assoc]; done) | rfl | (simp [c_9, cdBuy]; omega) | (simp_all [cdBuy]; done))) H0 locs hM hS ls (lv_sub hl [0] rfl)
  · refine lv_iconst (v := nI 1) hx hb dX1_buy_17 zi_1 ?_
    refine lv_goto (tgt := 22) hx hb dX1_buy_18 (by decide) ?_
    exact J_22 _ (congrArg (fun z : Bool => nI z.toNat) (show (true : Bool) = (decide ((g 8 0) < 15)) from by first | with_reducible rfl | (simp [c_9, cdBuy]; done) | (simp only [c_9] <;> simp [cdBuy]; done) | (simp only [cdBuy, c_9] <;> simp [cdBuy]; done) | (simp [c_9, cdBuy, Bool.and_assoc]; done) | (simp [c_9, cdBuy, Bool.and_assoc, Bool.or_assoc]; done) | rfl | (simp [c_9, cdBuy]; omega) | (simp_all [cdBuy]; done))) H0 locs hM hS ls (lv_sub hl [0] rfl)
def cdRoads (g : G) (a1 : Int32) (a2 : Int32) : Nat := (if (inB a1 30 && okN a2 30) = true then (if (decide (xUse g 1 ≠ 0) && mMayRoad g (g 7 4) (tn a1)) = true then (if (decide (tv a2 = 0) || mMayRoad (gs g 3 (tn a1) (g 7 4 + 1)) (g 7 4) (tv a2 - 1)) = true then 0 else 3) else 3) else 1)
set_option maxHeartbeats 1000000 in
set_option maxRecDepth 100000 in
theorem cX_roads (l : Launch) (hfl : l.stackTraces = false) {D : va_G} {dA : Nat → ClassId} {cn : Nat → Nat} {A : Nat → Prop} {pa : NM → Nat} {g : G} {T : va_W} (hg : Sm g) (a1 : Int32) (a2 : Int32) (ht : g 7 4 < 3) (h6 : ∀ c, c < 24 → g 2 c ≤ 6) (hr8 : ∀ p, p < 3 → roadsN g p 30 ≤ 8) (h7 : g 7 7 ≤ 3) (hnc : g 8 0 ≤ 15) (H0 : Heap) (hM : XS D dA cn A pa g T H0) (hA : ∀ q, H0.size ≤ q → A q) {Post : Option Value → Heap → Prop} {XPost : String → Heap → Prop} (hPost : (cdRoads g a1 a2) = 0 → ∀ H : Heap, XS D dA cn A pa (gDoneX (gUseX (if tv a2 = 0 then gs g 3 (tn a1) (g 7 4 + 1) else gs (gs g 3 (tn a1) (g 7 4 + 1)) 3 (tv a2 - 1) (g 7 4 + 1)) (xUse g 1 - 1)) true) T H → Sm (gDoneX (gUseX (if tv a2 = 0 then gs g 3 (tn a1) (g 7 4 + 1) else gs (gs g 3 (tn a1) (g 7 4 + 1)) 3 (tv a2 - 1) (g 7 4 + 1)) (xUse g 1 - 1)) true) → Post (some (.int (nI (xLong (gDoneX (gUseX (if tv a2 = 0 then gs g 3 (tn a1) (g 7 4 + 1) else gs (gs g 3 (tn a1) (g 7 4 + 1)) 3 (tv a2 - 1) (g 7 4 + 1)) (xUse g 1 - 1)) true) (g 7 4))))) H) (hXP : ∀ n : Nat, (cdRoads g a1 a2) = n → n ≠ 0 → ∀ H : Heap, XS D dA cn A pa g T H → XPost (exS n) H) : vCt l yX1_roads (ws_ yX1_roads cX1_roads 5 (some .int)) (rmF 18 6 32 834) A (KX D dA cn A) [.ref (pa (0, 0)), .int a1, .int a2] H0 Post XPost := by
  refine vc_of RX1 rfl (by decide) (Nat.le_of_ble_eq_true rfl) ?_
  intro pr en s m args below meth cd S hr hlk hnm hno hh hKX ls hl
  have hS : va_S A s.heap H0 [] := zc_start hh
  have hA : ∀ q, s.heap.size ≤ q → A q := fun q h => hA q (by rw [← hh]; exact h)
  have hg0 := hg
  have hx := S.1
  have hb := S.2.1
  have hown := S.2.2.2.1
  have hts := S.2.2.2.2
  have hK := hKX.1
  have hN := hKX.2.1.1
  have hl : lv_has ls 5 [(0, .ref (pa (0, 0))), (1, .int a1), (2, .int a2)] := hl
  refine lv_iload_n hx hb dX1_roads_0 rfl (lv_at hl 1 rfl) ?_
  refine lv_bipush (v := nI 30) hx hb dX1_roads_1 zb_30 ?_
  refine kX_check hfl S hKX hM hg hS (fun q h => hA q (Nat.le_trans hS.1 h)) a1 30 (by first | omega | assumption | grind) (Nat.le_of_ble_eq_true rfl) (Nat.le_of_ble_eq_true rfl) hl.1 (Nat.le_of_ble_eq_true rfl) dX1_roads_3 (Nat.le_of_ble_eq_true rfl) (Nat.le_of_ble_eq_true rfl) hno hlk (Nat.le_of_ble_eq_true rfl) (Nat.le_of_ble_eq_true rfl) (fun c_1 H1 hM1 => hXP 1 (by first | (simp only [c_1, opB, cdRoads, Bool.true_and, Bool.and_true, Bool.false_and, Bool.and_false, reduceIte, Bool.false_eq_true]; done) | (simp [c_1, opB, cdRoads]; done) | grind | (simp_all; done)) (by decide) H1 hM1) (fun c_1 H locs hM hg hS => ?_)
  obtain ⟨hj1, ea1⟩ := inB_tn (by decide) c_1
  rw [ea1] at hl
  refine lv_iload_n hx hb dX1_roads_6 rfl (lv_at hl 2 rfl) ?_
  refine lv_bipush (v := nI 30) hx hb dX1_roads_7 zb_30 ?_
  refine kX_checkOrNone hfl S hKX hM hg hS (fun q h => hA q (Nat.le_trans hS.1 h)) a2 30 (by first | omega | assumption | grind) (Nat.le_of_ble_eq_true rfl) (Nat.le_of_ble_eq_true rfl) hl.1 (Nat.le_of_ble_eq_true rfl) dX1_roads_9 (Nat.le_of_ble_eq_true rfl) (Nat.le_of_ble_eq_true rfl) hno hlk (Nat.le_of_ble_eq_true rfl) (Nat.le_of_ble_eq_true rfl) (fun c_2 H1 hM1 => hXP 1 (by first | (simp only [c_1, c_2, opB, cdRoads, Bool.true_and, Bool.and_true, Bool.false_and, Bool.and_false, reduceIte, Bool.false_eq_true]; done) | (simp [c_1, c_2, opB, cdRoads]; done) | grind | (simp_all; done)) (by decide) H1 hM1) (fun c_2 H locs hM hg hS => ?_)
  obtain ⟨hj2, ea2⟩ := okN_tv (by decide) c_2
  rw [ea2] at hl
  refine lv_aload_n hx hb dX1_roads_12 rfl (lv_at hl 0 rfl) ?_
  refine xk_get 1 317 (by decide) q841 S hKX hS dX1_roads_13 ?_
  refine kX_usable S hKX hM hg hS (fun q h => hA q (Nat.le_trans hS.1 h)) 1 (by first | omega | assumption | grind) (by first | omega | assumption | grind) (Nat.le_of_ble_eq_true rfl) (Nat.le_of_ble_eq_true rfl) hl.1 (Nat.le_of_ble_eq_true rfl) dX1_roads_16 (Nat.le_of_ble_eq_true rfl) (Nat.le_of_ble_eq_true rfl) (fun H locs hM hg hS => ?_)
  refine zr_astore_no (lv' := [(3, va_rf (opB (decide (xUse g 1 ≠ 0)) (pa (13, xUse g 1 - 1)))), (0, .ref (pa (0, 0))), (1, .int (nI (tn a1))), (2, .int (mI (tv a2)))]) hx hb dX1_roads_19 rfl hl (by decide) rfl (fun ls hl => ?_)
  refine zr_aload_no hx hb dX1_roads_20 rfl (lv_at hl 0 rfl) ?_
  have J_41 : ∀ yL3_41 : Option Nat, yL3_41 = opB (decide (xUse g 1 ≠ 0)) (pa (13, xUse g 1 - 1)) → ∀ yS0_41 : Int32, yS0_41 = nI (decide (xUse g 1 ≠ 0) && mMayRoad g (g 7 4) (tn a1)).toNat → ∀ (H : Heap) (locs : List Loc), XS D dA cn A pa g T H → va_S A s.heap H locs → ∀ ls : Array Slot, lv_has ls 5 [(0, .ref (pa (0, 0))), (1, .int (nI (tn a1))), (2, .int (mI (tv a2))), (3, va_rf yL3_41)] → W pr l en (rmF 18 6 32 834) s m args below meth cd H locs (3) (16) (vx_MQ below (zc_Q Post A) (vc_X XPost A) args s 6 32 A) (F0 m 41 ls [.int yS0_41]) := by
    intro yL3_41 eyL3_41 yS0_41 eyS0_41 H locs hM hS ls hl
    subst eyL3_41
    subst eyS0_41
    refine kX_checkState hfl S hKX hM hg hS (fun q h => hA q (Nat.le_trans hS.1 h)) (decide (xUse g 1 ≠ 0) && mMayRoad g (g 7 4) (tn a1))  (Nat.le_of_ble_eq_true rfl) (Nat.le_of_ble_eq_true rfl) hl.1 (Nat.le_of_ble_eq_true rfl) dX1_roads_41 (Nat.le_of_ble_eq_true rfl) (Nat.le_of_ble_eq_true rfl) hno hlk (Nat.le_of_ble_eq_true rfl) (Nat.le_of_ble_eq_true rfl) (fun c_6 H1 hM1 => hXP 3 (by first | (simp only [c_1, c_2, c_6, opB, cdRoads, Bool.true_and, Bool.and_true, Bool.false_and, Bool.and_false, reduceIte, Bool.false_eq_true]; done) | (simp [c_1, c_2, c_6, opB, cdRoads]; done) | grind | (simp_all; done)) (by decide) H1 hM1) (fun c_6 H locs hM hg hS => ?_)
    have hus : decide (xUse g 1 ≠ 0) = true := by have q := c_6; simp only [Bool.and_eq_true, Bool.not_eq_true', decide_eq_false_iff_not] at q; exact q.1
    have hMR : mMayRoad g (g 7 4) (tn a1) = true := by have q := c_6; simp only [Bool.and_eq_true, decide_eq_true_eq, Bool.not_eq_true', decide_eq_false_iff_not] at q; exact q.2
    have hul := xUse_le g 1
    have hu0 : xUse g 1 ≠ 0 := of_decide_eq_true hus
    rw [opB_t hus] at hl
    have hz : g 3 (tn a1) = 0 := by have q := hMR; unfold mMayRoad at q; simp at q; exact q.1
    have hlt8 : roadsN g (g 7 4) 30 < 8 := by have q := hMR; unfold mMayRoad at q; simp at q; exact q.2.1
    have hlay : ∀ p, p < 3 → roadsN (gs g 3 (tn a1) (g 7 4 + 1)) p 30 ≤ 8 := lay_roads (t := g 7 4) (fun j => rfl) hr8 hlt8
    refine lv_aload_n hx hb dX1_roads_44 rfl (lv_at hl 0 rfl) ?_
    refine gX_roads S hK hM dX1_roads_45 ?_
    refine lv_iload_n hx hb dX1_roads_48 rfl (lv_at hl 1 rfl) ?_
    refine lv_aload_n hx hb dX1_roads_49 rfl (lv_at hl 0 rfl) ?_
    refine gX_turn S hK hM (g 7 4) rfl dX1_roads_50 ?_
    have hb_7 : g 7 4 < 1048576 := by first | exact hg 7 4 | exact hg0 _ _ | (have := hg 7 4; omega) | omega
    refine zr_nm ?_
    refine sX_roads S hK hM hS (tn a1) (by omega) (g 7 4 + 1) dX1_roads_53 (fun H locs hM hS => ?_)
    have hg : Sm (gs g 3 (tn a1) (g 7 4 + 1)) := Sm_gs hg (by first | omega | exact Nat.lt_of_le_of_lt (Bool.toNat_le _) (by decide) | ((repeat' split) <;> omega))
    refine lv_iload_n hx hb dX1_roads_54 rfl (lv_at hl 2 rfl) ?_
    refine lv_iconst (v := mI 0) hx hb dX1_roads_55 zi_m1 ?_
    have J_76 : ∀ yS0_76 : Int32, yS0_76 = nI (decide (tv a2 = 0) || mMayRoad (gs g 3 (tn a1) (g 7 4 + 1)) (g 7 4) (tv a2 - 1)).toNat → ∀ (H : Heap) (locs : List Loc), XS D dA cn A pa (gs g 3 (tn a1) (g 7 4 + 1)) T H → va_S A s.heap H locs → ∀ ls : Array Slot, lv_has ls 5 [(0, .ref (pa (0, 0))), (1, .int (nI (tn a1))), (2, .int (mI (tv a2))), (3, .ref (pa (13, xUse g 1 - 1)))] → W pr l en (rmF 18 6 32 834) s m args below meth cd H locs (4) (22) (vx_MQ below (zc_Q Post A) (vc_X XPost A) args s 6 32 A) (F0 m 76 ls [.int yS0_76]) := by
      intro yS0_76 eyS0_76 H locs hM hS ls hl
      subst eyS0_76
      refine lv_istore (lv' := [(4, .int (nI (decide (tv a2 = 0) || mMayRoad (gs g 3 (tn a1) (g 7 4 + 1)) (g 7 4) (tv a2 - 1)).toNat)), (0, .ref (pa (0, 0))), (1, .int (nI (tn a1))), (2, .int (mI (tv a2))), (3, .ref (pa (13, xUse g 1 - 1)))]) hx hb dX1_roads_76 hl (by decide) rfl (fun ls hl => ?_)
      refine lv_aload_n hx hb dX1_roads_78 rfl (lv_at hl 1 rfl) ?_
      refine gX_roads S hK hM dX1_roads_79 ?_
      refine lv_iload_n hx hb dX1_roads_82 rfl (lv_at hl 2 rfl) ?_
      refine lv_iload hx hb dX1_roads_83 (lv_at hl 0 rfl) ?_
      have J_96 : ∀ yS0_96 : Int32, yS0_96 = mI (if (decide (tv a2 = 0) || mMayRoad (gs g 3 (tn a1) (g 7 4 + 1)) (g 7 4) (tv a2 - 1)) = true then g 7 4 + 1 else 0) → ∀ (H : Heap) (locs : List Loc), XS D dA cn A pa (gs g 3 (tn a1) (g 7 4 + 1)) T H → va_S A s.heap H locs → ∀ ls : Array Slot, lv_has ls 5 [(0, .ref (pa (0, 0))), (2, .int (mI (tv a2))), (3, .ref (pa (13, xUse g 1 - 1))), (4, .int (nI (decide (tv a2 = 0) || mMayRoad (gs g 3 (tn a1) (g 7 4 + 1)) (g 7 4) (tv a2 - 1)).toNat))] → W pr l en (rmF 18 6 32 834) s m args below meth cd H locs (4) (22) (vx_MQ below (zc_Q Post A) (vc_X XPost A) args s 6 32 A) (F0 m 96 ls [.int yS0_96, .int (nI (tn a1)), .ref (pa (6, 0))]) := by
        intro yS0_96 eyS0_96 H locs hM hS ls hl
        subst eyS0_96
        refine sX_roads S hK hM hS (tn a1) (by omega) (if (decide (tv a2 = 0) || mMayRoad (gs g 3 (tn a1) (g 7 4 + 1)) (g 7 4) (tv a2 - 1)) = true then g 7 4 + 1 else 0) dX1_roads_96 (fun H locs hM hS => ?_)
        have hg : Sm (gs (gs g 3 (tn a1) (g 7 4 + 1)) 3 (tn a1) (if (decide (tv a2 = 0) || mMayRoad (gs g 3 (tn a1) (g 7 4 + 1)) (g 7 4) (tv a2 - 1)) = true then g 7 4 + 1 else 0)) := Sm_gs hg (by first | omega | exact Nat.lt_of_le_of_lt (Bool.toNat_le _) (by decide) | ((repeat' split) <;> omega))
        refine lv_iload hx hb dX1_roads_97 (lv_at hl 3 rfl) ?_
        refine kX_checkState hfl S hKX hM hg hS (fun q h => hA q (Nat.le_trans hS.1 h)) (decide (tv a2 = 0) || mMayRoad (gs g 3 (tn a1) (g 7 4 + 1)) (g 7 4) (tv a2 - 1))  (Nat.le_of_ble_eq_true rfl) (Nat.le_of_ble_eq_true rfl) hl.1 (Nat.le_of_ble_eq_true rfl) dX1_roads_99 (Nat.le_of_ble_eq_true rfl) (Nat.le_of_ble_eq_true rfl) hno hlk (Nat.le_of_ble_eq_true rfl) (Nat.le_of_ble_eq_true rfl) (fun c_13 H1 hM1 => hXP 3 (by first | (simp only [c_1, c_2, c_6, c_13, opB, cdRoads, Bool.true_and, Bool.and_true, Bool.false_and, Bool.and_false, reduceIte, Bool.false_eq_true]; done) | (simp [c_1, c_2, c_6, c_13, opB, cdRoads]; done) | grind | (simp_all; done)) (by decide) H1 (by have q := hM1; rw [if_neg c_13, gs_back hz] at q; exact q)) (fun c_13 H locs hM hg hS => ?_)
        have hcan : (decide (tv a2 = 0) || mMayRoad (gs g 3 (tn a1) (g 7 4 + 1)) (g 7 4) (tv a2 - 1)) = true := c_13
        rw [if_pos hcan, gs_gs] at hM hg
        refine lv_iload_n hx hb dX1_roads_102 rfl (lv_at hl 1 rfl) ?_
        refine lv_iconst (v := mI 0) hx hb dX1_roads_103 zi_m1 ?_
        have J_117 : ∀ gJ : G, gJ = (if tv a2 = 0 then gs g 3 (tn a1) (g 7 4 + 1) else gs (gs g 3 (tn a1) (g 7 4 + 1)) 3 (tv a2 - 1) (g 7 4 + 1)) → Sm gJ → ∀ (H : Heap) (locs : List Loc), XS D dA cn A pa gJ T H → va_S A s.heap H locs → ∀ ls : Array Slot, lv_has ls 5 [(0, .ref (pa (0, 0))), (3, .ref (pa (13, xUse g 1 - 1)))] → W pr l en (rmF 18 6 32 834) s m args below meth cd H locs (5) (28) (vx_MQ below (zc_Q Post A) (vc_X XPost A) args s 6 32 A) (F0 m 117 ls []) := by
          intro gJ egJ hg H locs hM hS ls hl
          subst egJ
          have hL74 : (gUseX (if tv a2 = 0 then gs g 3 (tn a1) (g 7 4 + 1) else gs (gs g 3 (tn a1) (g 7 4 + 1)) 3 (tv a2 - 1) (g 7 4 + 1)) (xUse g 1 - 1)) 7 4 = g 7 4 := by unfold gUseX; rw [gs_ni _ (by decide), gs_nf _ (by decide)]; split <;> rfl
          have hL77 : (gUseX (if tv a2 = 0 then gs g 3 (tn a1) (g 7 4 + 1) else gs (gs g 3 (tn a1) (g 7 4 + 1)) 3 (tv a2 - 1) (g 7 4 + 1)) (xUse g 1 - 1)) 7 7 = g 7 7 := by unfold gUseX; rw [gs_ni _ (by decide), gs_nf _ (by decide)]; split <;> rfl
          have hL80 : (gUseX (if tv a2 = 0 then gs g 3 (tn a1) (g 7 4 + 1) else gs (gs g 3 (tn a1) (g 7 4 + 1)) 3 (tv a2 - 1) (g 7 4 + 1)) (xUse g 1 - 1)) 8 0 = g 8 0 := by unfold gUseX; rw [gs_nf _ (by decide), gs_nf _ (by decide)]; split <;> rfl
          have hL3 : ∀ j, (gUseX (if tv a2 = 0 then gs g 3 (tn a1) (g 7 4 + 1) else gs (gs g 3 (tn a1) (g 7 4 + 1)) 3 (tv a2 - 1) (g 7 4 + 1)) (xUse g 1 - 1)) 3 j = (if tv a2 = 0 then gs g 3 (tn a1) (g 7 4 + 1) else gs (gs g 3 (tn a1) (g 7 4 + 1)) 3 (tv a2 - 1) (g 7 4 + 1)) 3 j := fun j => by unfold gUseX; rw [gs_nf _ (by decide), gs_nf _ (by decide)]
          have h6n : ∀ c, c < 24 → (gUseX (if tv a2 = 0 then gs g 3 (tn a1) (g 7 4 + 1) else gs (gs g 3 (tn a1) (g 7 4 + 1)) 3 (tv a2 - 1) (g 7 4 + 1)) (xUse g 1 - 1)) 2 c ≤ 6 := by intro c hc; unfold gUseX; rw [gs_nf _ (by decide), gs_nf _ (by decide)]; split <;> exact h6 c hc
          have hr8n : ∀ p, p < 3 → roadsN (gUseX (if tv a2 = 0 then gs g 3 (tn a1) (g 7 4 + 1) else gs (gs g 3 (tn a1) (g 7 4 + 1)) 3 (tv a2 - 1) (g 7 4 + 1)) (xUse g 1 - 1)) p 30 ≤ 8 := by
            intro p hp
            rw [roadsN_f3 hL3]
            by_cases q : tv a2 = 0
            · rw [if_pos q]; exact hlay p hp
            · rw [if_neg q]
              have q2 := hcan
              rw [Bool.or_eq_true, decide_eq_true_eq] at q2
              have q3 := q2.resolve_left q
              unfold mMayRoad at q3
              simp at q3
              exact lay_roads (t := g 7 4) (fun j => rfl) hlay q3.2.1 p hp
          refine lv_aload_n hx hb dX1_roads_117 rfl (lv_at hl 0 rfl) ?_
          refine lv_aload_n hx hb dX1_roads_118 rfl (lv_at hl 1 rfl) ?_
          refine kX_use S hKX hM hg hS (fun q h => hA q (Nat.le_trans hS.1 h)) (xUse g 1 - 1) (by split <;> (show xUse g 1 - 1 < g 8 0; omega)) (Nat.le_of_ble_eq_true rfl) (Nat.le_of_ble_eq_true rfl) hl.1 (Nat.le_of_ble_eq_true rfl) dX1_roads_119 (Nat.le_of_ble_eq_true rfl) (Nat.le_of_ble_eq_true rfl) (fun H locs hM hg hS => ?_)
          refine lv_aload_n hx hb dX1_roads_122 rfl (lv_at hl 0 rfl) ?_
          refine lv_iconst (v := nI 1) hx hb dX1_roads_123 zi_1 ?_
          refine kX_done S hKX hM hg hS (fun q h => hA q (Nat.le_trans hS.1 h)) true (by rw [hL74]; exact ht) (by exact h6n) (by exact hr8n) (by rw [hL77]; exact h7) (by rw [hL80]; exact hnc) (Nat.le_of_ble_eq_true rfl) (Nat.le_of_ble_eq_true rfl) hl.1 (Nat.le_of_ble_eq_true rfl) dX1_roads_124 (Nat.le_of_ble_eq_true rfl) (Nat.le_of_ble_eq_true rfl) (fun H locs hM hg hS => ?_)
          refine lv_aload_n hx hb dX1_roads_127 rfl (lv_at hl 0 rfl) ?_
          refine lv_aload_n hx hb dX1_roads_128 rfl (lv_at hl 0 rfl) ?_
          refine gX_turn S hK hM (g 7 4) (by first | with_reducible rfl | (split <;> rfl) | exact (gDoneX_7 _ _ (by decide) (by decide)).trans hL74 | rfl) dX1_roads_129 ?_
          have hb_16 : g 7 4 < 1048576 := by first | exact hg 7 4 | exact hg0 _ _ | (have := hg 7 4; omega) | omega
          refine kX_longest S hKX hM hg hS (g 7 4) (by exact ht) (by intro c hc; rw [gDoneX_nf _ _ (by decide)]; exact h6n c hc) (by intro p hp; rw [roadsN_f3 (y := gUseX (if tv a2 = 0 then gs g 3 (tn a1) (g 7 4 + 1) else gs (gs g 3 (tn a1) (g 7 4 + 1)) 3 (tv a2 - 1) (g 7 4 + 1)) (xUse g 1 - 1)) (fun j => gDoneX_nf _ _ (by decide) j)]; exact hr8n p hp) (Nat.le_of_ble_eq_true rfl) (Nat.le_of_ble_eq_true rfl) hl.1 (Nat.le_of_ble_eq_true rfl) dX1_roads_132 (Nat.le_of_ble_eq_true rfl) (Nat.le_of_ble_eq_true rfl) (fun locs hS => ?_)
          have f132_0 : xLong (gDoneX (gUseX ((if tv a2 = 0 then gs g 3 (tn a1) (g 7 4 + 1) else gs (gs g 3 (tn a1) (g 7 4 + 1)) 3 (tv a2 - 1) (g 7 4 + 1))) (xUse g 1 - 1)) true) (g 7 4) ≤ 9 := xLong_le _ _
          rw [show (gDoneX (gUseX ((if tv a2 = 0 then gs g 3 (tn a1) (g 7 4 + 1) else gs (gs g 3 (tn a1) (g 7 4 + 1)) 3 (tv a2 - 1) (g 7 4 + 1))) (xUse g 1 - 1)) true : G) = gDoneX (gUseX (if tv a2 = 0 then gs g 3 (tn a1) (g 7 4 + 1) else gs (gs g 3 (tn a1) (g 7 4 + 1)) 3 (tv a2 - 1) (g 7 4 + 1)) (xUse g 1 - 1)) true from by first | with_reducible rfl | (simp [c_1, c_2, c_6, c_13, opB, cdRoads]; done) | (simp only [c_1, c_2, c_6, c_13] <;> simp [opB, cdRoads]; done) | (simp only [opB, cdRoads, c_1, c_2, c_6, c_13] <;> simp [opB, cdRoads]; done) | (simp [c_1, c_2, c_6, c_13, opB, cdRoads, Bool.and_assoc]; done) | (simp [c_1, c_2, c_6, c_13, opB, cdRoads, Bool.and_assoc, Bool.or_assoc]; done) | rfl | (simp [c_1, c_2, c_6, c_13, opB, cdRoads]; omega) | (simp_all [opB, cdRoads]; done)] at hM hg
          exact vx_ret (zc_nret (nI (xLong (gDoneX (gUseX (if tv a2 = 0 then gs g 3 (tn a1) (g 7 4 + 1) else gs (gs g 3 (tn a1) (g 7 4 + 1)) 3 (tv a2 - 1) (g 7 4 + 1)) (xUse g 1 - 1)) true) (g 7 4))) (congrArg nI (show (xLong (gDoneX (gUseX ((if tv a2 = 0 then gs g 3 (tn a1) (g 7 4 + 1) else gs (gs g 3 (tn a1) (g 7 4 + 1)) 3 (tv a2 - 1) (g 7 4 + 1))) (xUse g 1 - 1)) true) (g 7 4) : Nat) = (xLong (gDoneX (gUseX (if tv a2 = 0 then gs g 3 (tn a1) (g 7 4 + 1) else gs (gs g 3 (tn a1) (g 7 4 + 1)) 3 (tv a2 - 1) (g 7 4 + 1)) (xUse g 1 - 1)) true) (g 7 4)) from by first | with_reducible rfl | (simp [c_1, c_2, c_6, c_13, opB, cdRoads]; done) | (simp only [c_1, c_2, c_6, c_13] <;> simp [opB, cdRoads]; done) | (simp only [opB, cdRoads, c_1, c_2, c_6, c_13] <;> simp [opB, cdRoads]; done) | (simp [c_1, c_2, c_6, c_13, opB, cdRoads, Bool.and_assoc]; done) | (simp [c_1, c_2, c_6, c_13, opB, cdRoads, Bool.and_assoc, Bool.or_assoc]; done) | rfl | (simp [c_1, c_2, c_6, c_13, opB, cdRoads]; omega) | (simp_all [opB, cdRoads]; done))) (hPost (by first | rfl | (simp only [c_1, c_2, c_6, c_13, opB, cdRoads, Bool.true_and, Bool.and_true, reduceIte]; done) | (simp [c_1, c_2, c_6, c_13, opB, cdRoads]; done) | grind | (simp_all; done)) H hM hg) hS hx hb hr hlk (Nat.le_of_ble_eq_true rfl) (Nat.le_of_ble_eq_true rfl) dX1_roads_135)
        refine zr_icmp_eqM (a := (tv a2)) (b := 0) (tgt := 117) hx hb (by omega) (by omega) dX1_roads_104 (by decide) (fun c_17 => ?_) (fun c_17 => ?_)
        · exact J_117 _ (show (gs g 3 (tn a1) (g 7 4 + 1) : G) = (if tv a2 = 0 then gs g 3 (tn a1) (g 7 4 + 1) else gs (gs g 3 (tn a1) (g 7 4 + 1)) 3 (tv a2 - 1) (g 7 4 + 1)) from by first | (rw [if_pos (by first | assumption | omega)]; done) | (rw [if_neg (by first | assumption | omega)]; done)) hg H locs hM hS ls (lv_sub hl [0, 2] rfl)
        · refine lv_aload_n hx hb dX1_roads_107 rfl (lv_at hl 0 rfl) ?_
          refine gX_roads S hK hM dX1_roads_108 ?_
          refine lv_iload_n hx hb dX1_roads_111 rfl (lv_at hl 1 rfl) ?_
          refine lv_aload_n hx hb dX1_roads_112 rfl (lv_at hl 0 rfl) ?_
          refine gX_turn S hK hM (g 7 4) (by first | rfl | simp [gs]) dX1_roads_113 ?_
          have hb_18 : g 7 4 < 1048576 := by first | exact hg 7 4 | exact hg0 _ _ | (have := hg 7 4; omega) | omega
          rw [mI_pred (show 0 < (tv a2) from by omega)]
          refine zr_nm ?_
          refine sX_roads S hK hM hS ((tv a2) - 1) (by omega) (g 7 4 + 1) dX1_roads_116 (fun H locs hM hS => ?_)
          have hg : Sm (gs (gs g 3 (tn a1) (g 7 4 + 1)) 3 ((tv a2) - 1) (g 7 4 + 1)) := Sm_gs hg (by first | omega | exact Nat.lt_of_le_of_lt (Bool.toNat_le _) (by decide) | ((repeat' split) <;> omega))
          exact J_117 _ (show (gs (gs g 3 (tn a1) (g 7 4 + 1)) 3 ((tv a2) - 1) (g 7 4 + 1) : G) = (if tv a2 = 0 then gs g 3 (tn a1) (g 7 4 + 1) else gs (gs g 3 (tn a1) (g 7 4 + 1)) 3 (tv a2 - 1) (g 7 4 + 1)) from by first | (rw [if_pos (by first | assumption | omega)]; done) | (rw [if_neg (by first | assumption | omega)]; done)) hg H locs hM hS ls (lv_sub hl [0, 2] rfl)
      refine zr_if_eqB (b := decide (tv a2 = 0) || mMayRoad (gs g 3 (tn a1) (g 7 4 + 1)) (g 7 4) (tv a2 - 1)) (tgt := 95) hx hb dX1_roads_85 (by decide) (fun c_19 => ?_) (fun c_19 => ?_)
      · refine lv_iconst (v := mI 0) hx hb dX1_roads_95 zi_m1 ?_
        exact J_96 _ (congrArg mI (show (0 : Nat) = (if (decide (tv a2 = 0) || mMayRoad (gs g 3 (tn a1) (g 7 4 + 1)) (g 7 4) (tv a2 - 1)) = true then g 7 4 + 1 else 0) from by first | with_reducible rfl | (simp [c_1, c_2, c_6, c_19, opB, cdRoads]; done) | (simp only [c_1, c_2, c_6, c_19] <;> simp [opB, cdRoads]; done) | (simp only [opB, cdRoads, c_1, c_2, c_6, c_19] <;> simp [opB, cdRoads]; done) | (simp [c_1, c_2, c_6, c_19, opB, cdRoads, Bool.and_assoc]; done) | (simp [c_1, c_2, c_6, c_19, opB, cdRoads, Bool.and_assoc, Bool.or_assoc]; done) | rfl | (simp [c_1, c_2, c_6, c_19, opB, cdRoads]; omega) | (simp_all [opB, cdRoads]; done))) H locs hM hS ls (lv_sub hl [1, 3, 4, 0] rfl)
      · refine lv_aload_n hx hb dX1_roads_88 rfl (lv_at hl 1 rfl) ?_
        refine gX_turn S hK hM (g 7 4) (by first | rfl | simp [gs]) dX1_roads_89 ?_
        have hb_20 : g 7 4 < 1048576 := by first | exact hg 7 4 | exact hg0 _ _ | (have := hg 7 4; omega) | omega
        refine lv_goto (tgt := 96) hx hb dX1_roads_92 (by decide) ?_
        exact J_96 _ ((mI_succ (g 7 4)).symm.trans (congrArg mI (show (g 7 4 + 1 : Nat) = (if (decide (tv a2 = 0) || mMayRoad (gs g 3 (tn a1) (g 7 4 + 1)) (g 7 4) (tv a2 - 1)) = true then g 7 4 + 1 else 0) from by first | with_reducible rfl | (simp [c_1, c_2, c_6, c_19, opB, cdRoads]; done) | (simp only [c_1, c_2, c_6, c_19] <;> simp [opB, cdRoads]; done) | (simp only [opB, cdRoads, c_1, c_2, c_6, c_19] <;> simp [opB, cdRoads]; done) | (simp [c_1, c_2, c_6, c_19, opB, cdRoads, Bool.and_assoc]; done) | (simp [c_1, c_2, c_6, c_19, opB, cdRoads, Bool.and_assoc, Bool.or_assoc]; done) | rfl | (simp [c_1, c_2, c_6, c_19, opB, cdRoads]; omega) | (simp_all [opB, cdRoads]; done)))) H locs hM hS ls (lv_sub hl [1, 3, 4, 0] rfl)
    refine zr_icmp_eqM (a := (tv a2)) (b := 0) (tgt := 71) hx hb (by omega) (by omega) dX1_roads_56 (by decide) (fun c_21 => ?_) (fun c_21 => ?_)
    · refine lv_iconst (v := nI 1) hx hb dX1_roads_71 zi_1 ?_
      refine lv_goto (tgt := 76) hx hb dX1_roads_72 (by decide) ?_
      exact J_76 _ (congrArg (fun z : Bool => nI z.toNat) (show (true : Bool) = (decide (tv a2 = 0) || mMayRoad (gs g 3 (tn a1) (g 7 4 + 1)) (g 7 4) (tv a2 - 1)) from by first | with_reducible rfl | (simp [c_1, c_2, c_6, c_21, opB, cdRoads]; done) | (simp only [c_1, c_2, c_6, c_21] <;> simp [opB, cdRoads]; done) | (simp only [opB, cdRoads, c_1, c_2, c_6, c_21] <;> simp [opB, cdRoads]; done) | (simp [c_1, c_2, c_6, c_21, opB, cdRoads, Bool.and_assoc]; done) | (simp [c_1, c_2, c_6, c_21, opB, cdRoads, Bool.and_assoc, Bool.or_assoc]; done) | rfl | (simp [c_1, c_2, c_6, c_21, opB, cdRoads]; omega) | (simp_all [opB, cdRoads]; done))) H locs hM hS ls (lv_sub hl [0, 1, 2, 3] rfl)
    · refine lv_aload_n hx hb dX1_roads_59 rfl (lv_at hl 0 rfl) ?_
      refine lv_iload_n hx hb dX1_roads_60 rfl (lv_at hl 2 rfl) ?_
      refine lv_aload_n hx hb dX1_roads_61 rfl (lv_at hl 0 rfl) ?_
      refine gX_turn S hK hM (g 7 4) (by first | rfl | simp [gs]) dX1_roads_62 ?_
      have hb_22 : g 7 4 < 1048576 := by first | exact hg 7 4 | exact hg0 _ _ | (have := hg 7 4; omega) | omega
      rw [mI_pred (show 0 < (tv a2) from by omega)]
      refine kX_canHaveRoad S hKX hM hg hS ((tv a2) - 1) (g 7 4) (by first | omega | assumption | grind) (by first | omega | assumption | grind) (by exact h6) (Nat.le_of_ble_eq_true rfl) (Nat.le_of_ble_eq_true rfl) hl.1 (Nat.le_of_ble_eq_true rfl) dX1_roads_65 (Nat.le_of_ble_eq_true rfl) (Nat.le_of_ble_eq_true rfl) (fun locs hS => ?_)
      refine zr_if_eqB (b := mMayRoad (gs g 3 (tn a1) (g 7 4 + 1)) (g 7 4) ((tv a2) - 1)) (tgt := 75) hx hb dX1_roads_68 (by decide) (fun c_23 => ?_) (fun c_23 => ?_)
      · refine lv_iconst (v := nI 0) hx hb dX1_roads_75 zi_0 ?_
        exact J_76 _ (congrArg (fun z : Bool => nI z.toNat) (show (false : Bool) = (decide (tv a2 = 0) || mMayRoad (gs g 3 (tn a1) (g 7 4 + 1)) (g 7 4) (tv a2 - 1)) from by first | with_reducible rfl | (simp [c_1, c_2, c_6, c_21, c_23, opB, cdRoads]; done) | (simp only [c_1, c_2, c_6, c_21, c_23] <;> simp [opB, cdRoads]; done) | (simp only [opB, cdRoads, c_1, c_2, c_6, c_21, c_23] <;> simp [opB, cdRoads]; done) | (simp [c_1, c_2, c_6, c_21, c_23, opB, cdRoads, Bool.and_assoc]; done) | (simp [c_1, c_2, c_6, c_21, c_23, opB, cdRoads, Bool.and_assoc, Bool.or_assoc]; done) | rfl | (simp [c_1, c_2, c_6, c_21, c_23, opB, cdRoads]; omega) | (simp_all [opB, cdRoads]; done))) H locs hM hS ls (lv_sub hl [0, 1, 2, 3] rfl)
      · refine lv_iconst (v := nI 1) hx hb dX1_roads_71 zi_1 ?_
        refine lv_goto (tgt := 76) hx hb dX1_roads_72 (by decide) ?_
        exact J_76 _ (congrArg (fun z : Bool => nI z.toNat) (show (true : Bool) = (decide (tv a2 = 0) || mMayRoad (gs g 3 (tn a1) (g 7 4 + 1)) (g 7 4) (tv a2 - 1)) from by first | with_reducible rfl | (simp [c_1, c_2, c_6, c_21, c_23, opB, cdRoads]; done) | (simp only [c_1, c_2, c_6, c_21, c_23] <;> simp [opB, cdRoads]; done) | (simp only [opB, cdRoads, c_1, c_2, c_6, c_21, c_23] <;> simp [opB, cdRoads]; done) | (simp [c_1, c_2, c_6, c_21, c_23, opB, cdRoads, Bool.and_assoc]; done) | (simp [c_1, c_2, c_6, c_21, c_23, opB, cdRoads, Bool.and_assoc, Bool.or_assoc]; done) | rfl | (simp [c_1, c_2, c_6, c_21, c_23, opB, cdRoads]; omega) | (simp_all [opB, cdRoads]; done))) H locs hM hS ls (lv_sub hl [0, 1, 2, 3] rfl)
  refine zr_ifnullB (b := decide (xUse g 1 ≠ 0)) (tgt := 40) hx hb dX1_roads_21 (by decide) (fun c_24 => ?_) (fun c_24 => ?_)
  · rw [opB_f c_24] at hl
    refine lv_iconst (v := nI 0) hx hb dX1_roads_40 zi_0 ?_
    exact J_41 _ (show (none : Option Nat) = (opB (decide (xUse g 1 ≠ 0)) (pa (13, xUse g 1 - 1))) from by first | with_reducible rfl | (simp [c_1, c_2, c_24, opB, cdRoads]; done) | (simp only [c_1, c_2, c_24] <;> simp [opB, cdRoads]; done) | (simp only [opB, cdRoads, c_1, c_2, c_24] <;> simp [opB, cdRoads]; done) | (simp [c_1, c_2, c_24, opB, cdRoads, Bool.and_assoc]; done) | (simp [c_1, c_2, c_24, opB, cdRoads, Bool.and_assoc, Bool.or_assoc]; done) | rfl | (simp [c_1, c_2, c_24, opB, cdRoads]; omega) | (simp_all [opB, cdRoads]; done)) _ (congrArg (fun z : Bool => nI z.toNat) (show (false : Bool) = (decide (xUse g 1 ≠ 0) && mMayRoad g (g 7 4) (tn a1)) from by first | with_reducible rfl | (simp [c_1, c_2, c_24, opB, cdRoads]; done) | (simp only [c_1, c_2, c_24] <;> simp [opB, cdRoads]; done) | (simp only [opB, cdRoads, c_1, c_2, c_24] <;> simp [opB, cdRoads]; done) | (simp [c_1, c_2, c_24, opB, cdRoads, Bool.and_assoc]; done) | (simp [c_1, c_2, c_24, opB, cdRoads, Bool.and_assoc, Bool.or_assoc]; done) | rfl | (simp [c_1, c_2, c_24, opB, cdRoads]; omega) | (simp_all [opB, cdRoads]; done))) H locs hM hS ls (lv_sub hl [1, 2, 3, 0] rfl)
  · rw [opB_t c_24] at hl
    refine lv_aload_n hx hb dX1_roads_24 rfl (lv_at hl 1 rfl) ?_
    refine lv_iload_n hx hb dX1_roads_25 rfl (lv_at hl 2 rfl) ?_
    refine lv_aload_n hx hb dX1_roads_26 rfl (lv_at hl 1 rfl) ?_
    refine gX_turn S hK hM (g 7 4) rfl dX1_roads_27 ?_
    have hb_25 : g 7 4 < 1048576 := by first | exact hg 7 4 | exact hg0 _ _ | (have := hg 7 4; omega) | omega
    refine kX_canHaveRoad S hKX hM hg hS (tn a1) (g 7 4) (by first | omega | assumption | grind) (by first | omega | assumption | grind) (by first | omega | assumption | grind) (Nat.le_of_ble_eq_true rfl) (Nat.le_of_ble_eq_true rfl) hl.1 (Nat.le_of_ble_eq_true rfl) dX1_roads_30 (Nat.le_of_ble_eq_true rfl) (Nat.le_of_ble_eq_true rfl) (fun locs hS => ?_)
    refine zr_if_eqB (b := mMayRoad g (g 7 4) (tn a1)) (tgt := 40) hx hb dX1_roads_33 (by decide) (fun c_26 => ?_) (fun c_26 => ?_)
    · refine lv_iconst (v := nI 0) hx hb dX1_roads_40 zi_0 ?_
      exact J_41 _ (show (some (pa (13, xUse g 1 - 1)) : Option Nat) = (opB (decide (xUse g 1 ≠ 0)) (pa (13, xUse g 1 - 1))) from by first | with_reducible rfl | (simp [c_1, c_2, c_24, c_26, opB, cdRoads]; done) | (simp only [c_1, c_2, c_24, c_26] <;> simp [opB, cdRoads]; done) | (simp only [opB, cdRoads, c_1, c_2, c_24, c_26] <;> simp [opB, cdRoads]; done) | (simp [c_1, c_2, c_24, c_26, opB, cdRoads, Bool.and_assoc]; done) | (simp [c_1, c_2, c_24, c_26, opB, cdRoads, Bool.and_assoc, Bool.or_assoc]; done) | rfl | (simp [c_1, c_2, c_24, c_26, opB, cdRoads]; omega) | (simp_all [opB, cdRoads]; done)) _ (congrArg (fun z : Bool => nI z.toNat) (show (false : Bool) = (decide (xUse g 1 ≠ 0) && mMayRoad g (g 7 4) (tn a1)) from by first | with_reducible rfl | (simp [c_1, c_2, c_24, c_26, opB, cdRoads]; done) | (simp only [c_1, c_2, c_24, c_26] <;> simp [opB, cdRoads]; done) | (simp only [opB, cdRoads, c_1, c_2, c_24, c_26] <;> simp [opB, cdRoads]; done) | (simp [c_1, c_2, c_24, c_26, opB, cdRoads, Bool.and_assoc]; done) | (simp [c_1, c_2, c_24, c_26, opB, cdRoads, Bool.and_assoc, Bool.or_assoc]; done) | rfl | (simp [c_1, c_2, c_24, c_26, opB, cdRoads]; omega) | (simp_all [opB, cdRoads]; done))) H locs hM hS ls (lv_sub hl [1, 2, 3, 0] rfl)
    · refine lv_iconst (v := nI 1) hx hb dX1_roads_36 zi_1 ?_
      refine lv_goto (tgt := 41) hx hb dX1_roads_37 (by decide) ?_
      exact J_41 _ (show (some (pa (13, xUse g 1 - 1)) : Option Nat) = (opB (decide (xUse g 1 ≠ 0)) (pa (13, xUse g 1 - 1))) from by first | with_reducible rfl | (simp [c_1, c_2, c_24, c_26, opB, cdRoads]; done) | (simp only [c_1, c_2, c_24, c_26] <;> simp [opB, cdRoads]; done) | (simp only [opB, cdRoads, c_1, c_2, c_24, c_26] <;> simp [opB, cdRoads]; done) | (simp [c_1, c_2, c_24, c_26, opB, cdRoads, Bool.and_assoc]; done) | (simp [c_1, c_2, c_24, c_26, opB, cdRoads, Bool.and_assoc, Bool.or_assoc]; done) | rfl | (simp [c_1, c_2, c_24, c_26, opB, cdRoads]; omega) | (simp_all [opB, cdRoads]; done)) _ (congrArg (fun z : Bool => nI z.toNat) (show (true : Bool) = (decide (xUse g 1 ≠ 0) && mMayRoad g (g 7 4) (tn a1)) from by first | with_reducible rfl | (simp [c_1, c_2, c_24, c_26, opB, cdRoads]; done) | (simp only [c_1, c_2, c_24, c_26] <;> simp [opB, cdRoads]; done) | (simp only [opB, cdRoads, c_1, c_2, c_24, c_26] <;> simp [opB, cdRoads]; done) | (simp [c_1, c_2, c_24, c_26, opB, cdRoads, Bool.and_assoc]; done) | (simp [c_1, c_2, c_24, c_26, opB, cdRoads, Bool.and_assoc, Bool.or_assoc]; done) | rfl | (simp [c_1, c_2, c_24, c_26, opB, cdRoads]; omega) | (simp_all [opB, cdRoads]; done))) H locs hM hS ls (lv_sub hl [1, 2, 3, 0] rfl)
