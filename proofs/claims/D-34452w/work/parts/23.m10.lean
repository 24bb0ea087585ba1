/-! THE MODEL: the card of roads (printed by gen/m10.py) -/
def okE (x : Int32) : Bool := decide (x = mI 0) || inB x 30
theorem okE_tv {x : Int32} (h : okE x = true) : tv x ≤ 30 ∧ x = mI (tv x) := by
  unfold okE at h
  rw [Bool.or_eq_true, decide_eq_true_eq] at h
  rcases h with rfl | h
  · rw [tv_mI (by decide)]; exact ⟨by decide, rfl⟩
  · obtain ⟨j, hj, rfl⟩ := inB_of (by decide) h
    rw [← mI_succ, tv_mI (by omega)]
    exact ⟨by omega, rfl⟩
theorem gs_back {y : G} {f i v w : Nat} (h : y f i = w) : gs (gs y f i v) f i w = y := by
  funext a b
  unfold gs
  split
  · rename_i q
    split
    · rename_i r; rw [q, r, h]
    · rfl
  · rfl
def okRds (g : G) (o v : Nat) : Bool := (mUse (gs g 22 0 0) 1 && mMayRoad (gs g 22 0 0) (g 7 4) o) && (decide (v = 0) || mMayRoad (gs (gs g 22 0 0) 3 o (g 7 4 + 1)) (g 7 4) (v - 1))
def mRdsG (g : G) (a1 : Int32) (a2 : Int32) : G := if (inB a1 30 && okE a2) = true then (if (okRds g (tn a1) (tv a2)) = true then (gO (gWin (if tv a2 = 0 then gLay (gUse (gs g 22 0 0) 1) (tn a1) else gLay (gLay (gUse (gs g 22 0 0) 1) (tn a1)) (tv a2 - 1))) (g 7 4) 30) else gs (gs g 22 0 0) 22 0 2) else gs g 22 0 1
def mRdsR (g : G) (a1 : Int32) (a2 : Int32) : Nat := if (inB a1 30 && okE a2) = true then (if (okRds g (tn a1) (tv a2)) = true then (trailN (gWin (if tv a2 = 0 then gLay (gUse (gs g 22 0 0) 1) (tn a1) else gLay (gLay (gUse (gs g 22 0 0) 1) (tn a1)) (tv a2 - 1))) (g 7 4)) else 0) else 0
set_option maxHeartbeats 1000000 in
set_option maxRecDepth 100000 in
theorem cM_roads (l : Launch) {D : va_G} {dA : Nat → ClassId} {A : Nat → Prop} {ad : Nat → Nat} {g : G} (hg : Sm g) (a1 : Int32) (a2 : Int32) (ht : g 7 4 < 3) (hr8 : ∀ p, p < 3 → roadsN g p 30 ≤ 8) (H0 : Heap) (hM : MS D dA A ad g H0) {Post : Option Value → Heap → Prop} (hPost : ∀ H : Heap, MS D dA A ad (mRdsG g a1 a2) H → Sm (mRdsG g a1 a2) → Post (some (.int (nI (mRdsR g a1 a2)))) H) : Ct l yX3_roads (ws_ yX3_roads cX3_roads 4 (some .int)) (rmF 8 0 0 177) A (KT D dA) [.ref (ad 0), .int a1, .int a2] H0 Post := by
  refine zc_of RX3 rfl (by decide) (Nat.le_of_ble_eq_true rfl) ?_
  intro pr en s m args below meth cd S hr hlk hnm hh hK ls hl
  have hS : va_S A s.heap H0 [] := zc_start hh
  have hg0 := hg
  have hx := S.1
  have hb := S.2.1
  have hown := S.2.2.2.1
  have hts := S.2.2.2.2
  have hl : lv_has ls 4 [(0, .ref (ad 0)), (1, .int a1), (2, .int a2)] := hl
  refine lv_aload_n hx hb dX3_roads_0 rfl (lv_at hl 0 rfl) ?_
  refine lv_iload_n hx hb dX3_roads_1 rfl (lv_at hl 1 rfl) ?_
  refine kM_isEdge S hK hM hg hS a1  (Nat.le_of_ble_eq_true rfl) (Nat.le_of_ble_eq_true rfl) hl.1 (Nat.le_of_ble_eq_true rfl) dX3_roads_2 (Nat.zero_le _) (Nat.zero_le _) (fun locs hS => ?_)
  have J_25 : ∀ yS0_25 : Int32, yS0_25 = nI (inB a1 30 && okE a2).toNat → ∀ (H : Heap) (locs : List Loc), MS D dA A ad g H → va_S A s.heap H locs → ∀ ls : Array Slot, lv_has ls 4 [(0, .ref (ad 0)), (1, .int a1), (2, .int a2)] → W pr l en (rmF 8 0 0 177) s m args below meth cd H locs 0 0 (MQ below (zc_Q Post A) args s 0 0 A) (F0 m 25 ls [.int yS0_25, .ref (ad 0)]) := by
    intro yS0_25 eyS0_25 H locs hM hS ls hl
    subst eyS0_25
    refine kM_asks S hK hM hg hS (inB a1 30 && okE a2)  (Nat.le_of_ble_eq_true rfl) (Nat.le_of_ble_eq_true rfl) hl.1 (Nat.le_of_ble_eq_true rfl) dX3_roads_25 (Nat.zero_le _) (Nat.zero_le _) (fun H locs hM hg hS => ?_)
    refine zr_if_neB (b := (inB a1 30 && okE a2)) (tgt := 33) hx hb dX3_roads_28 (by decide) (fun c_4 => ?_) (fun c_4 => ?_)
    · rw [show (!(inB a1 30 && okE a2)).toNat = 0 from by rw [c_4]; rfl] at hM hg
      have hc_5 := c_4
      simp only [Bool.and_eq_true] at hc_5
      obtain ⟨q_6, q_7⟩ := hc_5
      obtain ⟨hj1, ea1⟩ := inB_tn (by decide) q_6
      rw [ea1] at hl
      obtain ⟨hj2, ea2⟩ := okE_tv q_7
      rw [ea2] at hl
      refine lv_aload_n hx hb dX3_roads_33 rfl (lv_at hl 0 rfl) ?_
      refine lv_iconst (v := nI 1) hx hb dX3_roads_34 zi_1 ?_
      refine kM_mayUse S hK hM hg hS 1 (by first | omega | assumption | grind) (by first | omega | assumption | grind) (Nat.le_of_ble_eq_true rfl) (Nat.le_of_ble_eq_true rfl) hl.1 (Nat.le_of_ble_eq_true rfl) dX3_roads_35 (Nat.zero_le _) (Nat.zero_le _) (fun locs hS => ?_)
      have J_58 : ∀ yS0_58 : Int32, yS0_58 = nI ((mUse (gs g 22 0 0) 1) && ((mMayRoad (gs g 22 0 0) (g 7 4) (tn a1)))).toNat → ∀ (H : Heap) (locs : List Loc), MS D dA A ad (gs g 22 0 0) H → va_S A s.heap H locs → ∀ ls : Array Slot, lv_has ls 4 [(0, .ref (ad 0)), (1, .int (nI (tn a1))), (2, .int (mI (tv a2)))] → W pr l en (rmF 8 0 0 177) s m args below meth cd H locs 0 0 (MQ below (zc_Q Post A) args s 0 0 A) (F0 m 58 ls [.int yS0_58]) := by
        intro yS0_58 eyS0_58 H locs hM hS ls hl
        subst eyS0_58
        refine lv_istore_n (lv' := [(3, .int (nI ((mUse (gs g 22 0 0) 1) && ((mMayRoad (gs g 22 0 0) (g 7 4) (tn a1)))).toNat)), (0, .ref (ad 0)), (1, .int (nI (tn a1))), (2, .int (mI (tv a2)))]) hx hb dX3_roads_58 rfl hl (by decide) rfl (fun ls hl => ?_)
        refine lv_iload_n hx hb dX3_roads_59 rfl (lv_at hl 0 rfl) ?_
        have J_97 : ∀ yL3_97 : Int32, yL3_97 = nI (okRds g (tn a1) (tv a2)).toNat → ∀ gJ : G, gJ = gs g 22 0 0 → Sm gJ → ∀ (H : Heap) (locs : List Loc), MS D dA A ad gJ H → va_S A s.heap H locs → ∀ ls : Array Slot, lv_has ls 4 [(0, .ref (ad 0)), (1, .int (nI (tn a1))), (2, .int (mI (tv a2))), (3, .int yL3_97)] → W pr l en (rmF 8 0 0 177) s m args below meth cd H locs 0 0 (MQ below (zc_Q Post A) args s 0 0 A) (F0 m 97 ls []) := by
          intro yL3_97 eyL3_97 gJ egJ hg H locs hM hS ls hl
          subst eyL3_97
          subst egJ
          refine lv_iload_n hx hb dX3_roads_97 rfl (lv_at hl 3 rfl) ?_
          refine zr_if_neB (b := okRds g (tn a1) (tv a2)) (tgt := 107) hx hb dX3_roads_98 (by decide) (fun c_15 => ?_) (fun c_15 => ?_)
          · have hOK := c_15
            unfold okRds at hOK
            simp only [Bool.and_eq_true, Bool.or_eq_true, decide_eq_true_eq] at hOK
            obtain ⟨⟨hU, hR1⟩, hR2⟩ := hOK
            have hlt8 : roadsN g (g 7 4) 30 < 8 := by unfold mMayRoad at hR1; simp at hR1; exact hR1.2.1
            have hlay : ∀ p, p < 3 → roadsN (gs (gUse (gs g 22 0 0) 1) 3 (tn a1) ((gUse (gs g 22 0 0) 1) 7 4 + 1)) p 30 ≤ 8 := lay_roads (t := g 7 4) (fun j => rfl) hr8 hlt8
            have hlay2 : 0 < tv a2 → ∀ p, p < 3 → roadsN (gs (gLay (gUse (gs g 22 0 0) 1) (tn a1)) 3 (tv a2 - 1) ((gLay (gUse (gs g 22 0 0) 1) (tn a1)) 7 4 + 1)) p 30 ≤ 8 := by
              intro hv
              have h74 : (gLay (gUse (gs g 22 0 0) 1) (tn a1)) 7 4 = g 7 4 := gLay_7 _ _ (by decide)
              rw [h74]
              have q := hR2.resolve_left (by omega)
              unfold mMayRoad at q
              simp at q
              exact lay_roads (g := gs (gs g 22 0 0) 3 (tn a1) (g 7 4 + 1)) (fun j => (gLay_nf _ _ (by decide) (by decide) _).trans rfl) hlay q.2.1
            refine lv_aload_n hx hb dX3_roads_107 rfl (lv_at hl 0 rfl) ?_
            refine lv_iconst (v := nI 1) hx hb dX3_roads_108 zi_1 ?_
            refine kM_uses S hK hM hg hS 1 (by first | omega | assumption | grind) (by first | omega | assumption | grind) (by exact mUse_pos hU) (Nat.le_of_ble_eq_true rfl) (Nat.le_of_ble_eq_true rfl) hl.1 (Nat.le_of_ble_eq_true rfl) dX3_roads_109 (Nat.zero_le _) (Nat.zero_le _) (fun H locs hM hg hS => ?_)
            refine lv_aload_n hx hb dX3_roads_112 rfl (lv_at hl 0 rfl) ?_
            refine lv_iload_n hx hb dX3_roads_113 rfl (lv_at hl 1 rfl) ?_
            refine kM_lays S hK hM hg hS (tn a1) (by exact ht) (by first | omega | assumption | grind) (by exact hlay) (Nat.le_of_ble_eq_true rfl) (Nat.le_of_ble_eq_true rfl) hl.1 (Nat.le_of_ble_eq_true rfl) dX3_roads_114 (Nat.zero_le _) (Nat.zero_le _) (fun H locs hM hg hS => ?_)
            refine lv_iload_n hx hb dX3_roads_117 rfl (lv_at hl 2 rfl) ?_
            refine lv_iconst (v := mI 0) hx hb dX3_roads_118 zi_m1 ?_
            have J_127 : ∀ gJ : G, gJ = (if (tv a2) = 0 then gLay (gUse (gs g 22 0 0) 1) (tn a1) else gLay (gLay (gUse (gs g 22 0 0) 1) (tn a1)) ((tv a2) - 1)) → Sm gJ → ∀ (H : Heap) (locs : List Loc), MS D dA A ad gJ H → va_S A s.heap H locs → ∀ ls : Array Slot, lv_has ls 4 [(0, .ref (ad 0))] → W pr l en (rmF 8 0 0 177) s m args below meth cd H locs 0 0 (MQ below (zc_Q Post A) args s 0 0 A) (F0 m 127 ls []) := by
              intro gJ egJ hg H locs hM hS ls hl
              subst egJ
              refine lv_aload_n hx hb dX3_roads_127 rfl (lv_at hl 0 rfl) ?_
              refine kM_looksAtWinner S hK hM hg hS  (by split; (rw [gLay_7 _ _ (by decide)]; exact ht); (rw [gLay_7 _ _ (by decide), gLay_7 _ _ (by decide)]; exact ht)) (Nat.le_of_ble_eq_true rfl) (Nat.le_of_ble_eq_true rfl) hl.1 (Nat.le_of_ble_eq_true rfl) dX3_roads_128 (Nat.zero_le _) (Nat.zero_le _) (fun H locs hM hg hS => ?_)
              have hl8 : roadsN (gWin (if tv a2 = 0 then gLay (gUse (gs g 22 0 0) 1) (tn a1) else gLay (gLay (gUse (gs g 22 0 0) 1) (tn a1)) (tv a2 - 1))) (g 7 4) 30 ≤ 8 := by
                rw [roadsN_f3 (y := (if tv a2 = 0 then gLay (gUse (gs g 22 0 0) 1) (tn a1) else gLay (gLay (gUse (gs g 22 0 0) 1) (tn a1)) (tv a2 - 1))) (fun j => gWin_nf _ (by decide) _)]
                by_cases q : tv a2 = 0
                · rw [if_pos q, roadsN_f3 (fun j => gLay_nf _ _ (by decide) (by decide) _)]; exact hlay _ ht
                · rw [if_neg q, roadsN_f3 (fun j => gLay_nf _ _ (by decide) (by decide) _)]; exact hlay2 (by omega) _ ht
              refine lv_aload_n hx hb dX3_roads_131 rfl (lv_at hl 0 rfl) ?_
              refine lv_aload_n hx hb dX3_roads_132 rfl (lv_at hl 0 rfl) ?_
              refine gM_turn S hK hM (g 7 4) (by first | rfl | (simp [gUse, gLay_nf, gLay_7, gWin_7, gs]; done) | ((repeat' split) <;> simp [gUse, gLay_nf, gLay_7, gWin_7, gs]; done) | (simp only [gWin_7 _ (show (4:Nat) ≠ 1 from by decide)]; split <;> simp [gUse, gLay_7, gs]; done)) dX3_roads_133 ?_
              have hb_17 : g 7 4 < 1048576 := by first | exact hg 7 4 | exact hg0 _ _ | (have := hg 7 4; omega) | omega
              refine kM_trailOf S hK hM hg hS (g 7 4) (by first | omega | assumption | grind) (by exact hl8) (Nat.le_of_ble_eq_true rfl) (Nat.le_of_ble_eq_true rfl) hl.1 (Nat.le_of_ble_eq_true rfl) dX3_roads_136 (Nat.zero_le _) (Nat.zero_le _) (fun H locs hM hg hS => ?_)
              have f136_0 : trailN (gWin ((if (tv a2) = 0 then gLay (gUse (gs g 22 0 0) 1) (tn a1) else gLay (gLay (gUse (gs g 22 0 0) 1) (tn a1)) ((tv a2) - 1)))) (g 7 4) ≤ 8 := trailN_le _ _
              rw [show (gO (gWin ((if (tv a2) = 0 then gLay (gUse (gs g 22 0 0) 1) (tn a1) else gLay (gLay (gUse (gs g 22 0 0) 1) (tn a1)) ((tv a2) - 1)))) (g 7 4) 30 : G) = mRdsG g a1 a2 from by first | (simp [mRdsG, c_4, q_6, q_7, c_15]; done) | (simp only [mRdsG, c_4, q_6, q_7, c_15]; done)] at hM hg
              exact zc_nret (nI (mRdsR g a1 a2)) (congrArg nI (show (trailN (gWin ((if (tv a2) = 0 then gLay (gUse (gs g 22 0 0) 1) (tn a1) else gLay (gLay (gUse (gs g 22 0 0) 1) (tn a1)) ((tv a2) - 1)))) (g 7 4) : Nat) = (mRdsR g a1 a2) from by first | (simp [mRdsR, c_4, q_6, q_7, c_15]; done) | (simp only [mRdsR, c_4, q_6, q_7, c_15]; done))) (hPost H hM hg) hS hx hb hr hlk (Nat.zero_le _) (Nat.zero_le _) dX3_roads_139
            refine zr_icmp_eqM (a := (tv a2)) (b := 0) (tgt := 127) hx hb (by omega) (by omega) dX3_roads_119 (by decide) (fun c_18 => ?_) (fun c_18 => ?_)
            · exact J_127 _ (show (gLay (gUse (gs g 22 0 0) 1) (tn a1) : G) = (if (tv a2) = 0 then gLay (gUse (gs g 22 0 0) 1) (tn a1) else gLay (gLay (gUse (gs g 22 0 0) 1) (tn a1)) ((tv a2) - 1)) from by first | exact gs_back hz | rfl | (simp [c_4, q_6, q_7, c_15, c_18]; done)) hg H locs hM hS ls (lv_sub hl [0] rfl)
            · have hlay2 := hlay2 (by omega)
              refine lv_aload_n hx hb dX3_roads_122 rfl (lv_at hl 0 rfl) ?_
              refine lv_iload_n hx hb dX3_roads_123 rfl (lv_at hl 2 rfl) ?_
              rw [mI_pred (show 0 < (tv a2) from by omega)]
              refine kM_lays S hK hM hg hS ((tv a2) - 1) (by rw [gLay_7 _ _ (by decide)]; exact ht) (by first | omega | assumption | grind) (by exact hlay2) (Nat.le_of_ble_eq_true rfl) (Nat.le_of_ble_eq_true rfl) hl.1 (Nat.le_of_ble_eq_true rfl) dX3_roads_124 (Nat.zero_le _) (Nat.zero_le _) (fun H locs hM hg hS => ?_)
              exact J_127 _ (show (gLay (gLay (gUse (gs g 22 0 0) 1) (tn a1)) ((tv a2) - 1) : G) = (if (tv a2) = 0 then gLay (gUse (gs g 22 0 0) 1) (tn a1) else gLay (gLay (gUse (gs g 22 0 0) 1) (tn a1)) ((tv a2) - 1)) from by first | exact gs_back hz | rfl | (simp [c_4, q_6, q_7, c_15, c_18]; done)) hg H locs hM hS ls (lv_sub hl [0] rfl)
          · refine lv_aload_n hx hb dX3_roads_101 rfl (lv_at hl 0 rfl) ?_
            refine lv_iconst (v := nI 2) hx hb dX3_roads_102 zi_2 ?_
            refine kM_fails S hK hM hg hS 2 (by first | omega | assumption | grind) (Nat.le_of_ble_eq_true rfl) (Nat.le_of_ble_eq_true rfl) hl.1 (Nat.le_of_ble_eq_true rfl) dX3_roads_103 (Nat.zero_le _) (Nat.zero_le _) (fun H locs hM hg hS => ?_)
            rw [show (gs (gs g 22 0 0) 22 0 2 : G) = mRdsG g a1 a2 from by first | (simp [mRdsG, c_4, q_6, q_7, c_15]; done) | (simp only [mRdsG, c_4, q_6, q_7, c_15]; done)] at hM hg
            exact zc_nret (nI (mRdsR g a1 a2)) (congrArg nI (show (0 : Nat) = (mRdsR g a1 a2) from by first | (simp [mRdsR, c_4, q_6, q_7, c_15]; done) | (simp only [mRdsR, c_4, q_6, q_7, c_15]; done))) (hPost H hM hg) hS hx hb hr hlk (Nat.zero_le _) (Nat.zero_le _) dX3_roads_106
        refine zr_if_eqB (b := (mUse (gs g 22 0 0) 1) && ((mMayRoad (gs g 22 0 0) (g 7 4) (tn a1)))) (tgt := 97) hx hb dX3_roads_60 (by decide) (fun c_19 => ?_) (fun c_19 => ?_)
        · exact J_97 _ (congrArg (fun z : Bool => nI z.toNat) (show ((mUse (gs g 22 0 0) 1) && ((mMayRoad (gs g 22 0 0) (g 7 4) (tn a1))) : Bool) = (okRds g (tn a1) (tv a2)) from by first | with_reducible rfl | (simp [c_4, q_6, q_7, c_19, okE, okRds]; done) | (simp only [c_4, q_6, q_7, c_19] <;> simp [okE, okRds]; done) | (simp only [okE, okRds, c_4, q_6, q_7, c_19] <;> simp [okE, okRds]; done) | (simp [c_4, q_6, q_7, c_19, okE, okRds, Bool.and_assoc]; done) | (simp [c_4, q_6, q_7, c_19, okE, okRds, Bool.and_assoc, Bool.or_assoc]; done) | rfl | (simp [c_4, q_6, q_7, c_19, okE, okRds]; omega))) _ rfl hg H locs hM hS ls (lv_sub hl [1, 2, 3, 0] rfl)
        · have hMR1 := c_19
          have hz : gs g 22 0 0 3 (tn a1) = 0 := by simp only [Bool.and_eq_true] at hMR1; have q := hMR1.2; unfold mMayRoad at q; simp at q; exact q.1
          refine lv_iload_n hx hb dX3_roads_63 rfl (lv_at hl 3 rfl) ?_
          refine lv_iconst (v := mI 0) hx hb dX3_roads_64 zi_m1 ?_
          refine zr_icmp_eqM (a := (tv a2)) (b := 0) (tgt := 97) hx hb (by omega) (by omega) dX3_roads_65 (by decide) (fun c_20 => ?_) (fun c_20 => ?_)
          · exact J_97 _ (congrArg (fun z : Bool => nI z.toNat) (show ((mUse (gs g 22 0 0) 1) && ((mMayRoad (gs g 22 0 0) (g 7 4) (tn a1))) : Bool) = (okRds g (tn a1) (tv a2)) from by first | with_reducible rfl | (simp [c_4, q_6, q_7, c_19, c_20, okE, okRds]; done) | (simp only [c_4, q_6, q_7, c_19, c_20] <;> simp [okE, okRds]; done) | (simp only [okE, okRds, c_4, q_6, q_7, c_19, c_20] <;> simp [okE, okRds]; done) | (simp [c_4, q_6, q_7, c_19, c_20, okE, okRds, Bool.and_assoc]; done) | (simp [c_4, q_6, q_7, c_19, c_20, okE, okRds, Bool.and_assoc, Bool.or_assoc]; done) | rfl | (simp [c_4, q_6, q_7, c_19, c_20, okE, okRds]; omega))) _ rfl hg H locs hM hS ls (lv_sub hl [1, 2, 3, 0] rfl)
          · refine lv_aload_n hx hb dX3_roads_68 rfl (lv_at hl 1 rfl) ?_
            refine gM_road S hK hM dX3_roads_69 ?_
            refine lv_iload_n hx hb dX3_roads_72 rfl (lv_at hl 2 rfl) ?_
            refine lv_aload_n hx hb dX3_roads_73 rfl (lv_at hl 1 rfl) ?_
            refine gM_turn S hK hM (g 7 4) (by first | rfl | simp [gs]) dX3_roads_74 ?_
            have hb_21 : g 7 4 < 1048576 := by first | exact hg 7 4 | exact hg0 _ _ | (have := hg 7 4; omega) | omega
            refine lv_iconst (v := nI 1) hx hb dX3_roads_77 zi_1 ?_
            refine zr_addN (a := (g 7 4)) (b := 1) hx hb dX3_roads_78 ?_
            refine sM_road S hK hM hS (tn a1) (by omega) ((g 7 4) + 1) dX3_roads_79 (fun H locs hM hS => ?_)
            have hg : Sm (gs (gs g 22 0 0) 3 (tn a1) ((g 7 4) + 1)) := Sm_gs hg (by first | omega | exact Nat.lt_of_le_of_lt (Bool.toNat_le _) (by decide) | ((repeat' split) <;> omega))
            refine lv_aload_n hx hb dX3_roads_80 rfl (lv_at hl 1 rfl) ?_
            refine lv_aload_n hx hb dX3_roads_81 rfl (lv_at hl 1 rfl) ?_
            refine gM_turn S hK hM (g 7 4) (by first | rfl | simp [gs]) dX3_roads_82 ?_
            have hb_22 : g 7 4 < 1048576 := by first | exact hg 7 4 | exact hg0 _ _ | (have := hg 7 4; omega) | omega
            refine lv_iload_n hx hb dX3_roads_85 rfl (lv_at hl 3 rfl) ?_
            rw [mI_pred (show 0 < (tv a2) from by omega)]
            refine kM_mayRoad S hK hM hg hS (g 7 4) ((tv a2) - 1) (by first | omega | assumption | grind) (by first | omega | assumption | grind) (Nat.le_of_ble_eq_true rfl) (Nat.le_of_ble_eq_true rfl) hl.1 (Nat.le_of_ble_eq_true rfl) dX3_roads_86 (Nat.zero_le _) (Nat.zero_le _) (fun locs hS => ?_)
            refine lv_istore_n (lv' := [(3, .int (nI (mMayRoad (gs (gs g 22 0 0) 3 (tn a1) ((g 7 4) + 1)) (g 7 4) ((tv a2) - 1)).toNat)), (0, .ref (ad 0)), (1, .int (nI (tn a1))), (2, .int (mI (tv a2)))]) hx hb dX3_roads_89 rfl hl (by decide) rfl (fun ls hl => ?_)
            refine lv_aload_n hx hb dX3_roads_90 rfl (lv_at hl 1 rfl) ?_
            refine gM_road S hK hM dX3_roads_91 ?_
            refine lv_iload_n hx hb dX3_roads_94 rfl (lv_at hl 2 rfl) ?_
            refine lv_iconst (v := nI 0) hx hb dX3_roads_95 zi_0 ?_
            refine sM_road S hK hM hS (tn a1) (by omega) 0 dX3_roads_96 (fun H locs hM hS => ?_)
            have hg : Sm (gs (gs (gs g 22 0 0) 3 (tn a1) ((g 7 4) + 1)) 3 (tn a1) 0) := Sm_gs hg (by first | omega | exact Nat.lt_of_le_of_lt (Bool.toNat_le _) (by decide) | ((repeat' split) <;> omega))
            exact J_97 _ (congrArg (fun z : Bool => nI z.toNat) (show (mMayRoad (gs (gs g 22 0 0) 3 (tn a1) ((g 7 4) + 1)) (g 7 4) ((tv a2) - 1) : Bool) = (okRds g (tn a1) (tv a2)) from by first | with_reducible rfl | (simp [c_4, q_6, q_7, c_19, c_20, okE, okRds]; done) | (simp only [c_4, q_6, q_7, c_19, c_20] <;> simp [okE, okRds]; done) | (simp only [okE, okRds, c_4, q_6, q_7, c_19, c_20] <;> simp [okE, okRds]; done) | (simp [c_4, q_6, q_7, c_19, c_20, okE, okRds, Bool.and_assoc]; done) | (simp [c_4, q_6, q_7, c_19, c_20, okE, okRds, Bool.and_assoc, Bool.or_assoc]; done) | rfl | (simp [c_4, q_6, q_7, c_19, c_20, okE, okRds]; omega))) _ (show (gs (gs (gs g 22 0 0) 3 (tn a1) ((g 7 4) + 1)) 3 (tn a1) 0 : G) = gs g 22 0 0 from by first | exact gs_back hz | rfl | (simp [c_4, q_6, q_7, c_19, c_20]; done)) hg H locs hM hS ls (lv_sub hl [1, 2, 3, 0] rfl)
      refine zr_if_eqB (b := mUse (gs g 22 0 0) 1) (tgt := 57) hx hb dX3_roads_38 (by decide) (fun c_23 => ?_) (fun c_23 => ?_)
      · refine lv_iconst (v := nI 0) hx hb dX3_roads_57 zi_0 ?_
        exact J_58 _ (congrArg (fun z : Bool => nI z.toNat) (show (false : Bool) = ((mUse (gs g 22 0 0) 1) && ((mMayRoad (gs g 22 0 0) (g 7 4) (tn a1)))) from by first | with_reducible rfl | (simp [c_4, q_6, q_7, c_23, okE, okRds]; done) | (simp only [c_4, q_6, q_7, c_23] <;> simp [okE, okRds]; done) | (simp only [okE, okRds, c_4, q_6, q_7, c_23] <;> simp [okE, okRds]; done) | (simp [c_4, q_6, q_7, c_23, okE, okRds, Bool.and_assoc]; done) | (simp [c_4, q_6, q_7, c_23, okE, okRds, Bool.and_assoc, Bool.or_assoc]; done) | rfl | (simp [c_4, q_6, q_7, c_23, okE, okRds]; omega))) H locs hM hS ls (lv_sub hl [0, 1, 2] rfl)
      · refine lv_aload_n hx hb dX3_roads_41 rfl (lv_at hl 0 rfl) ?_
        refine lv_aload_n hx hb dX3_roads_42 rfl (lv_at hl 0 rfl) ?_
        refine gM_turn S hK hM (g 7 4) (by first | rfl | simp [gs]) dX3_roads_43 ?_
        have hb_24 : g 7 4 < 1048576 := by first | exact hg 7 4 | exact hg0 _ _ | (have := hg 7 4; omega) | omega
        refine lv_iload_n hx hb dX3_roads_46 rfl (lv_at hl 1 rfl) ?_
        refine kM_mayRoad S hK hM hg hS (g 7 4) (tn a1) (by first | omega | assumption | grind) (by first | omega | assumption | grind) (Nat.le_of_ble_eq_true rfl) (Nat.le_of_ble_eq_true rfl) hl.1 (Nat.le_of_ble_eq_true rfl) dX3_roads_47 (Nat.zero_le _) (Nat.zero_le _) (fun locs hS => ?_)
        refine zr_if_eqB (b := mMayRoad (gs g 22 0 0) (g 7 4) (tn a1)) (tgt := 57) hx hb dX3_roads_50 (by decide) (fun c_25 => ?_) (fun c_25 => ?_)
        · refine lv_iconst (v := nI 0) hx hb dX3_roads_57 zi_0 ?_
          exact J_58 _ (congrArg (fun z : Bool => nI z.toNat) (show (false : Bool) = ((mUse (gs g 22 0 0) 1) && ((mMayRoad (gs g 22 0 0) (g 7 4) (tn a1)))) from by first | with_reducible rfl | (simp [c_4, q_6, q_7, c_23, c_25, okE, okRds]; done) | (simp only [c_4, q_6, q_7, c_23, c_25] <;> simp [okE, okRds]; done) | (simp only [okE, okRds, c_4, q_6, q_7, c_23, c_25] <;> simp [okE, okRds]; done) | (simp [c_4, q_6, q_7, c_23, c_25, okE, okRds, Bool.and_assoc]; done) | (simp [c_4, q_6, q_7, c_23, c_25, okE, okRds, Bool.and_assoc, Bool.or_assoc]; done) | rfl | (simp [c_4, q_6, q_7, c_23, c_25, okE, okRds]; omega))) H locs hM hS ls (lv_sub hl [0, 1, 2] rfl)
        · refine lv_iconst (v := nI 1) hx hb dX3_roads_53 zi_1 ?_
          refine lv_goto (tgt := 58) hx hb dX3_roads_54 (by decide) ?_
          exact J_58 _ (congrArg (fun z : Bool => nI z.toNat) (show (true : Bool) = ((mUse (gs g 22 0 0) 1) && ((mMayRoad (gs g 22 0 0) (g 7 4) (tn a1)))) from by first | with_reducible rfl | (simp [c_4, q_6, q_7, c_23, c_25, okE, okRds]; done) | (simp only [c_4, q_6, q_7, c_23, c_25] <;> simp [okE, okRds]; done) | (simp only [okE, okRds, c_4, q_6, q_7, c_23, c_25] <;> simp [okE, okRds]; done) | (simp [c_4, q_6, q_7, c_23, c_25, okE, okRds, Bool.and_assoc]; done) | (simp [c_4, q_6, q_7, c_23, c_25, okE, okRds, Bool.and_assoc, Bool.or_assoc]; done) | rfl | (simp [c_4, q_6, q_7, c_23, c_25, okE, okRds]; omega))) H locs hM hS ls (lv_sub hl [0, 1, 2] rfl)
    · rw [show (!(inB a1 30 && okE a2)).toNat = 1 from by rw [c_4]; rfl] at hM hg
      refine lv_iconst (v := nI 0) hx hb dX3_roads_31 zi_0 ?_
      rw [show (gs g 22 0 1 : G) = mRdsG g a1 a2 from by first | (simp [mRdsG, c_4]; done) | (simp only [mRdsG, c_4]; done)] at hM hg
      exact zc_nret (nI (mRdsR g a1 a2)) (congrArg nI (show (0 : Nat) = (mRdsR g a1 a2) from by first | (simp [mRdsR, c_4]; done) | (simp only [mRdsR, c_4]; done))) (hPost H hM hg) hS hx hb hr hlk (Nat.zero_le _) (Nat.zero_le _) dX3_roads_32
  refine zr_if_eqB (b := inB a1 30) (tgt := 24) hx hb dX3_roads_5 (by decide) (fun c_26 => ?_) (fun c_26 => ?_)
  · refine lv_iconst (v := nI 0) hx hb dX3_roads_24 zi_0 ?_
    exact J_25 _ (congrArg (fun z : Bool => nI z.toNat) (show (false : Bool) = (inB a1 30 && okE a2) from by first | with_reducible rfl | (simp [c_26, okE, okRds]; done) | (simp only [c_26] <;> simp [okE, okRds]; done) | (simp only [okE, okRds, c_26] <;> simp [okE, okRds]; done) | (simp [c_26, okE, okRds, Bool.and_assoc]; done) | (simp [c_26, okE, okRds, Bool.and_assoc, Bool.or_assoc]; done) | rfl | (simp [c_26, okE, okRds]; omega))) H0 locs hM hS ls (lv_sub hl [0, 1, 2] rfl)
  · obtain ⟨hj1, ea1⟩ := inB_tn (by decide) c_26
    rw [ea1] at hl
    refine lv_iload_n hx hb dX3_roads_8 rfl (lv_at hl 2 rfl) ?_
    refine lv_iconst (v := mI 0) hx hb dX3_roads_9 zi_m1 ?_
    refine lv_icmp_eq (tgt := 20) hx hb dX3_roads_10 (by decide) (fun c_27 => ?_) (fun c_27 => ?_)
    · refine lv_iconst (v := nI 1) hx hb dX3_roads_20 zi_1 ?_
      refine lv_goto (tgt := 25) hx hb dX3_roads_21 (by decide) ?_
      rw [← ea1] at hl
      exact J_25 _ (congrArg (fun z : Bool => nI z.toNat) (show (true : Bool) = (inB a1 30 && okE a2) from by first | with_reducible rfl | (simp [c_26, c_27, okE, okRds]; done) | (simp only [c_26, c_27] <;> simp [okE, okRds]; done) | (simp only [okE, okRds, c_26, c_27] <;> simp [okE, okRds]; done) | (simp [c_26, c_27, okE, okRds, Bool.and_assoc]; done) | (simp [c_26, c_27, okE, okRds, Bool.and_assoc, Bool.or_assoc]; done) | rfl | (simp [c_26, c_27, okE, okRds]; omega))) H0 locs hM hS ls (lv_sub hl [0, 1, 2] rfl)
    · refine lv_iload_n hx hb dX3_roads_13 rfl (lv_at hl 2 rfl) ?_
      refine kM_isEdge S hK hM hg hS a2  (Nat.le_of_ble_eq_true rfl) (Nat.le_of_ble_eq_true rfl) hl.1 (Nat.le_of_ble_eq_true rfl) dX3_roads_14 (Nat.zero_le _) (Nat.zero_le _) (fun locs hS => ?_)
      refine zr_if_eqB (b := inB a2 30) (tgt := 24) hx hb dX3_roads_17 (by decide) (fun c_28 => ?_) (fun c_28 => ?_)
      · refine lv_iconst (v := nI 0) hx hb dX3_roads_24 zi_0 ?_
        rw [← ea1] at hl
        exact J_25 _ (congrArg (fun z : Bool => nI z.toNat) (show (false : Bool) = (inB a1 30 && okE a2) from by first | with_reducible rfl | (simp [c_26, c_27, c_28, okE, okRds]; done) | (simp only [c_26, c_27, c_28] <;> simp [okE, okRds]; done) | (simp only [okE, okRds, c_26, c_27, c_28] <;> simp [okE, okRds]; done) | (simp [c_26, c_27, c_28, okE, okRds, Bool.and_assoc]; done) | (simp [c_26, c_27, c_28, okE, okRds, Bool.and_assoc, Bool.or_assoc]; done) | rfl | (simp [c_26, c_27, c_28, okE, okRds]; omega))) H0 locs hM hS ls (lv_sub hl [0, 1, 2] rfl)
      · obtain ⟨hj2, ea2⟩ := inB_tn (by decide) c_28
        rw [ea2] at hl
        refine lv_iconst (v := nI 1) hx hb dX3_roads_20 zi_1 ?_
        refine lv_goto (tgt := 25) hx hb dX3_roads_21 (by decide) ?_
        rw [← ea1] at hl
        rw [← ea2] at hl
        exact J_25 _ (congrArg (fun z : Bool => nI z.toNat) (show (true : Bool) = (inB a1 30 && okE a2) from by first | with_reducible rfl | (simp [c_26, c_27, c_28, okE, okRds]; done) | (simp only [c_26, c_27, c_28] <;> simp [okE, okRds]; done) | (simp only [okE, okRds, c_26, c_27, c_28] <;> simp [okE, okRds]; done) | (simp [c_26, c_27, c_28, okE, okRds, Bool.and_assoc]; done) | (simp [c_26, c_27, c_28, okE, okRds, Bool.and_assoc, Bool.or_assoc]; done) | rfl | (simp [c_26, c_27, c_28, okE, okRds]; omega))) H0 locs hM hS ls (lv_sub hl [0, 1, 2] rfl)
