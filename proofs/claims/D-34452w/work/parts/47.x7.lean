/-! THE CLASS: walks over the cards and the moves, points (printed by gen/x7.py) -/
/-- points of a player -/
def xPB (g : G) (p : Nat) : Nat → Nat
  | 0 => 0
  | c + 1 => xPB g p c + (if own1 g c = p + 1 then (if g 2 c ≤ 3 then 1 else 2) else 0)
def xPC (g : G) (p : Nat) : Nat → Nat
  | 0 => 0
  | i + 1 => xPC g p i + (if g 9 i = p then (if deckK i = 4 then 1 else 0) else 0)
def xPts (g : G) (p : Nat) : Nat := xPB g p 24 + xPC g p (g 8 0) + (if g 7 7 = p + 1 then 2 else 0) + (if g 7 8 = p + 1 then 2 else 0)
theorem xPB_le (g : G) (p : Nat) : ∀ i, xPB g p i ≤ 2 * i := by
  intro i
  induction i with
  | zero => exact Nat.le_refl _
  | succ i ih => simp only [xPB]; (repeat' split) <;> omega
theorem xPC_le (g : G) (p : Nat) : ∀ i, xPC g p i ≤ i := by
  intro i
  induction i with
  | zero => exact Nat.le_refl _
  | succ i ih => simp only [xPC]; (repeat' split) <;> omega
theorem xPB_s (g : G) (p c : Nat) : xPB g p c + (if decide (g 2 c ≠ 0) = true then (if own1 g c = p + 1 then (if g 2 c ≤ 3 then 1 else 2) else 0) else 0) = xPB g p (c + 1) := by
  simp only [xPB, decide_eq_true_eq]
  by_cases q : g 2 c = 0
  · have h : ¬ own1 g c = p + 1 := by
      unfold own1
      rw [q]; simp
    rw [if_neg (by simp [q]), if_neg h]
  · rw [if_pos q]
theorem xPts_lt {g : G} {p : Nat} (h : g 8 0 ≤ 15) : xPts g p < 1000 := by
  have h1 := xPB_le g p 24
  have h2 := xPC_le g p (g 8 0)
  unfold xPts
  (repeat' split) <;> omega
set_option maxHeartbeats 1000000 in
set_option maxRecDepth 100000 in
theorem cX_pointsOf (l : Launch) {D : va_G} {dA : Nat → ClassId} {cn : Nat → Nat} {A : Nat → Prop} {pa : NM → Nat} {g : G} {T : va_W} (hg : Sm g) (a1 : Nat) (h1 : a1 < 3) (h6 : ∀ c, c < 24 → g 2 c ≤ 6) (hnc : g 8 0 ≤ 15) (H0 : Heap) (hM : XS D dA cn A pa g T H0) (hA : ∀ q, H0.size ≤ q → A q) {Post : Option Value → Heap → Prop} (hPost : ∀ H : Heap, XS D dA cn A pa g T H → Sm g → Post (some (.int (nI (xPts g a1)))) H) : Ct l yX1_pointsOf (ws_ yX1_pointsOf cX1_pointsOf 7 (some .int)) (rmF 9 1 4 500) A (KX D dA cn A) [.ref (pa (0, 0)), .int (nI a1)] H0 Post := by
  refine zc_of RX1 rfl (by decide) (Nat.le_of_ble_eq_true rfl) ?_
  intro pr en s m args below meth cd S hr hlk hnm hh hKX ls hl
  have hS : va_S A s.heap H0 [] := zc_start hh
  have hA : ∀ q, s.heap.size ≤ q → A q := fun q h => hA q (by rw [← hh]; exact h)
  have hg0 := hg
  have hx := S.1
  have hb := S.2.1
  have hown := S.2.2.2.1
  have hts := S.2.2.2.2
  have hK := hKX.1
  have hN := hKX.2.1.1
  have hl : lv_has ls 7 [(0, .ref (pa (0, 0))), (1, .int (nI a1))] := hl
  refine lv_iconst (v := nI 0) hx hb dX1_pointsOf_0 zi_0 ?_
  refine lv_istore_n (lv' := [(2, .int (nI 0)), (0, .ref (pa (0, 0))), (1, .int (nI a1))]) hx hb dX1_pointsOf_1 rfl hl (by decide) rfl (fun ls hl => ?_)
  refine lv_aload_n hx hb dX1_pointsOf_2 rfl (lv_at hl 1 rfl) ?_
  refine gX_buildings S hK hM dX1_pointsOf_3 ?_
  refine lv_astore_n (lv' := [(3, .ref (pa (4, 0))), (2, .int (nI 0)), (0, .ref (pa (0, 0))), (1, .int (nI a1))]) hx hb dX1_pointsOf_6 rfl hl (by decide) rfl (fun ls hl => ?_)
  refine lv_aload_n hx hb dX1_pointsOf_7 rfl (lv_at hl 0 rfl) ?_
  refine nX_buildings S hK hM dX1_pointsOf_8 ?_
  refine lv_istore (lv' := [(4, .int (nI 24)), (3, .ref (pa (4, 0))), (2, .int (nI 0)), (0, .ref (pa (0, 0))), (1, .int (nI a1))]) hx hb dX1_pointsOf_9 hl (by decide) rfl (fun ls hl => ?_)
  refine lv_iconst (v := nI 0) hx hb dX1_pointsOf_11 zi_0 ?_
  refine lv_istore (lv' := [(5, .int (nI 0)), (4, .int (nI 24)), (3, .ref (pa (4, 0))), (2, .int (nI 0)), (0, .ref (pa (0, 0))), (1, .int (nI a1))]) hx hb dX1_pointsOf_12 hl (by decide) rfl (fun ls hl => ?_)
  have L_14 : ∀ (n_14 : Nat) (c : Nat), c ≤ 24 → 24 - c < n_14 → ∀ x2_14 : Int32, x2_14 = nI (xPB g a1 c) → ∀ (H : Heap) (locs : List Loc), XS D dA cn A pa g T H → va_S A s.heap H locs → ∀ ls : Array Slot, lv_has ls 7 [(0, .ref (pa (0, 0))), (1, .int (nI a1)), (2, .int x2_14), (3, .ref (pa (4, 0))), (4, .int (nI 24)), (5, .int (nI c))] → W pr l en (rmF 9 1 4 500) s m args below meth cd H locs (0) (0) (MQ below (zc_Q Post A) args s 1 4 A) (F0 m 14 ls []) := by
    intro n_14
    induction n_14 with
    | zero => intro c hi_14 hm_14; exact absurd hm_14 (Nat.not_lt_zero _)
    | succ n_14 ih_14 =>
      intro c hi_14 hm_14 x2_14 ex2_14 H locs hM hS ls hl
      subst ex2_14
      refine lv_iload hx hb dX1_pointsOf_14 (lv_at hl 5 rfl) ?_
      refine lv_iload hx hb dX1_pointsOf_16 (lv_at hl 4 rfl) ?_
      refine zr_icmp_geN (a := c) (b := 24) (tgt := 63) hx hb (by omega) (by omega) dX1_pointsOf_18 (by decide) (fun c_1 => ?_) (fun c_1 => ?_)
      · have e_c : 24 = c := by omega
        subst e_c
        refine lv_aload_n hx hb dX1_pointsOf_63 rfl (lv_at hl 0 rfl) ?_
        refine gX_cards S hK hM dX1_pointsOf_64 ?_
        refine kL_iter_c S hKX hM hS (fun q h => hA q (Nat.le_trans hS.1 h)) (Nat.le_of_ble_eq_true rfl) (Nat.le_of_ble_eq_true rfl) hl.1 (Nat.le_of_ble_eq_true rfl) (Nat.le_of_ble_eq_true rfl) (Nat.le_of_ble_eq_true rfl) dX1_pointsOf_67 (fun it_2 H locs hM hS => ?_)
        refine lv_astore_n (lv' := [(3, .ref it_2), (0, .ref (pa (0, 0))), (1, .int (nI a1)), (2, .int (nI (xPB g a1 24))), (4, .int (nI 24)), (5, .int (nI 24))]) hx hb dX1_pointsOf_72 rfl hl (by decide) rfl (fun ls hl => ?_)
        have L_73 : ∀ (n_73 : Nat) (i : Nat), i ≤ g 8 0 → g 8 0 - i < n_73 → ∀ x2_73 : Int32, x2_73 = nI (xPB g a1 24 + xPC g a1 i) → ∀ (H : Heap) (locs : List Loc), XS D dA cn A pa g (T ++ [(it_2, itC pa (g 8 0) i)]) H → va_S A s.heap H locs → ∀ ls : Array Slot, lv_has ls 7 [(0, .ref (pa (0, 0))), (1, .int (nI a1)), (2, .int x2_73), (3, .ref it_2)] → W pr l en (rmF 9 1 4 500) s m args below meth cd H locs (1) (4) (MQ below (zc_Q Post A) args s 1 4 A) (F0 m 73 ls []) := by
          intro n_73
          induction n_73 with
          | zero => intro i hi_73 hm_73; exact absurd hm_73 (Nat.not_lt_zero _)
          | succ n_73 ih_73 =>
            intro i hi_73 hm_73 x2_73 ex2_73 H locs hM hS ls hl
            subst ex2_73
            refine lv_aload_n hx hb dX1_pointsOf_73 rfl (lv_at hl 3 rfl) ?_
            refine kL_has_c S hKX (i := i) hM hS (by omega) (by omega) (Nat.le_of_ble_eq_true rfl) (Nat.le_of_ble_eq_true rfl) hl.1 (Nat.le_of_ble_eq_true rfl) (Nat.le_of_ble_eq_true rfl) (Nat.le_of_ble_eq_true rfl) dX1_pointsOf_74 (fun locs hS => ?_)
            refine zr_if_eqB (b := decide (i < g 8 0)) (tgt := 120) hx hb dX1_pointsOf_79 (by decide) (fun c_3 => ?_) (fun c_3 => ?_)
            · have hge_79 : ¬ i < g 8 0 := by simpa using c_3
              have e_i : g 8 0 = i := by omega
              subst e_i
              refine lv_iload_n hx hb dX1_pointsOf_120 rfl (lv_at hl 2 rfl) ?_
              refine lv_aload_n hx hb dX1_pointsOf_121 rfl (lv_at hl 0 rfl) ?_
              refine gX_trailHolder S hK hM (g 7 7) rfl dX1_pointsOf_122 ?_
              have hb_4 : g 7 7 < 1048576 := by first | exact hg 7 7 | exact hg0 _ _ | (have := hg 7 7; omega) | omega
              refine lv_iload_n hx hb dX1_pointsOf_125 rfl (lv_at hl 1 rfl) ?_
              have J_134 : ∀ yS0_134 : Int32, yS0_134 = nI ((if (g 7 7) = (a1 + 1) then 2 else 0)) → ∀ (H : Heap) (locs : List Loc), XS D dA cn A pa g (T ++ [(it_2, itC pa (g 8 0) (g 8 0))]) H → va_S A s.heap H locs → ∀ ls : Array Slot, lv_has ls 7 [(0, .ref (pa (0, 0))), (1, .int (nI a1))] → W pr l en (rmF 9 1 4 500) s m args below meth cd H locs (1) (4) (MQ below (zc_Q Post A) args s 1 4 A) (F0 m 134 ls [.int yS0_134, .int (nI (xPB g a1 24 + xPC g a1 (g 8 0)))]) := by
                intro yS0_134 eyS0_134 H locs hM hS ls hl
                subst eyS0_134
                refine zr_addN (a := (xPB g a1 24 + xPC g a1 (g 8 0))) (b := ((if (g 7 7) = (a1 + 1) then 2 else 0))) hx hb dX1_pointsOf_134 ?_
                refine lv_aload_n hx hb dX1_pointsOf_135 rfl (lv_at hl 0 rfl) ?_
                refine gX_armyHolder S hK hM (g 7 8) rfl dX1_pointsOf_136 ?_
                have hb_6 : g 7 8 < 1048576 := by first | exact hg 7 8 | exact hg0 _ _ | (have := hg 7 8; omega) | omega
                refine lv_iload_n hx hb dX1_pointsOf_139 rfl (lv_at hl 1 rfl) ?_
                rw [← mI_succ a1]
                refine zr_icmp_neM (a := (g 7 8)) (b := (a1 + 1)) (tgt := 147) hx hb (by omega) (by omega) dX1_pointsOf_140 (by decide) (fun c_7 => ?_) (fun c_7 => ?_)
                · refine lv_iconst (v := nI 0) hx hb dX1_pointsOf_147 zi_0 ?_
                  refine zr_addN (a := ((xPB g a1 24 + xPC g a1 (g 8 0)) + ((if (g 7 7) = (a1 + 1) then 2 else 0)))) (b := 0) hx hb dX1_pointsOf_148 ?_
                  have hM := hM.drop
                  exact zc_nret (nI (xPts g a1)) (congrArg nI (show (((xPB g a1 24 + xPC g a1 (g 8 0)) + ((if (g 7 7) = (a1 + 1) then 2 else 0))) + 0 : Nat) = (xPts g a1) from by first | with_reducible rfl | (simp [c_1, c_3, c_7, xPB, xPC, xPts]; done) | (simp only [c_1, c_3, c_7] <;> simp [xPB, xPC, xPts]; done) | (simp only [xPB, xPC, xPts, c_1, c_3, c_7] <;> simp [xPB, xPC, xPts]; done) | (simp [c_1, c_3, c_7, xPB, xPC, xPts, Bool.and_assoc]; done) | (simp [c_1, c_3, c_7, xPB, xPC, xPts, Bool.and_assoc, Bool.or_assoc]; done) | rfl | (simp [c_1, c_3, c_7, xPB, xPC, xPts]; omega) | (simp_all [xPB, xPC, xPts]; done))) (hPost H hM hg) hS hx hb hr hlk (Nat.le_of_ble_eq_true rfl) (Nat.le_of_ble_eq_true rfl) dX1_pointsOf_149
                · refine lv_iconst (v := nI 2) hx hb dX1_pointsOf_143 zi_2 ?_
                  refine lv_goto (tgt := 148) hx hb dX1_pointsOf_144 (by decide) ?_
                  refine zr_addN (a := ((xPB g a1 24 + xPC g a1 (g 8 0)) + ((if (g 7 7) = (a1 + 1) then 2 else 0)))) (b := 2) hx hb dX1_pointsOf_148 ?_
                  have hM := hM.drop
                  exact zc_nret (nI (xPts g a1)) (congrArg nI (show (((xPB g a1 24 + xPC g a1 (g 8 0)) + ((if (g 7 7) = (a1 + 1) then 2 else 0))) + 2 : Nat) = (xPts g a1) from by first | with_reducible rfl | (simp [c_1, c_3, c_7, xPB, xPC, xPts]; done) | (simp only [c_1, c_3, c_7] <;> simp [xPB, xPC, xPts]; done) | (simp only [xPB, xPC, xPts, c_1, c_3, c_7] <;> simp [xPB, xPC, xPts]; done) | (simp [c_1, c_3, c_7, xPB, xPC, xPts, Bool.and_assoc]; done) | (simp [c_1, c_3, c_7, xPB, xPC, xPts, Bool.and_assoc, Bool.or_assoc]; done) | rfl | (simp [c_1, c_3, c_7, xPB, xPC, xPts]; omega) | (simp_all [xPB, xPC, xPts]; done))) (hPost H hM hg) hS hx hb hr hlk (Nat.le_of_ble_eq_true rfl) (Nat.le_of_ble_eq_true rfl) dX1_pointsOf_149
              rw [← mI_succ a1]
              refine zr_icmp_neM (a := (g 7 7)) (b := (a1 + 1)) (tgt := 133) hx hb (by omega) (by omega) dX1_pointsOf_126 (by decide) (fun c_8 => ?_) (fun c_8 => ?_)
              · refine lv_iconst (v := nI 0) hx hb dX1_pointsOf_133 zi_0 ?_
                exact J_134 _ (congrArg nI (show (0 : Nat) = ((if (g 7 7) = (a1 + 1) then 2 else 0)) from by first | with_reducible rfl | (simp [c_1, c_3, c_8, xPB, xPC, xPts]; done) | (simp only [c_1, c_3, c_8] <;> simp [xPB, xPC, xPts]; done) | (simp only [xPB, xPC, xPts, c_1, c_3, c_8] <;> simp [xPB, xPC, xPts]; done) | (simp [c_1, c_3, c_8, xPB, xPC, xPts, Bool.and_assoc]; done) | (simp [c_1, c_3, c_8, xPB, xPC, xPts, Bool.and_assoc, Bool.or_assoc]; done) | rfl | (simp [c_1, c_3, c_8, xPB, xPC, xPts]; omega) | (simp_all [xPB, xPC, xPts]; done))) H locs hM hS ls (lv_sub hl [0, 1] rfl)
              · refine lv_iconst (v := nI 2) hx hb dX1_pointsOf_129 zi_2 ?_
                refine lv_goto (tgt := 134) hx hb dX1_pointsOf_130 (by decide) ?_
                exact J_134 _ (congrArg nI (show (2 : Nat) = ((if (g 7 7) = (a1 + 1) then 2 else 0)) from by first | with_reducible rfl | (simp [c_1, c_3, c_8, xPB, xPC, xPts]; done) | (simp only [c_1, c_3, c_8] <;> simp [xPB, xPC, xPts]; done) | (simp only [xPB, xPC, xPts, c_1, c_3, c_8] <;> simp [xPB, xPC, xPts]; done) | (simp [c_1, c_3, c_8, xPB, xPC, xPts, Bool.and_assoc]; done) | (simp [c_1, c_3, c_8, xPB, xPC, xPts, Bool.and_assoc, Bool.or_assoc]; done) | rfl | (simp [c_1, c_3, c_8, xPB, xPC, xPts]; omega) | (simp_all [xPB, xPC, xPts]; done))) H locs hM hS ls (lv_sub hl [0, 1] rfl)
            · have hlt_79 := of_decide_eq_true c_3
              have hpc := xPC_le g a1 i
              have hpb := xPB_le g a1 24
              refine lv_aload_n hx hb dX1_pointsOf_82 rfl (lv_at hl 3 rfl) ?_
              refine kL_next_c S hKX (i := i) hM hS (by omega) (by omega) (Nat.le_of_ble_eq_true rfl) (Nat.le_of_ble_eq_true rfl) hl.1 (Nat.le_of_ble_eq_true rfl) (Nat.le_of_ble_eq_true rfl) (Nat.le_of_ble_eq_true rfl) dX1_pointsOf_83 (fun H locs hM hS => ?_)
              have hM := itC_s hM
              refine kL_cast_c S hKX hM (i := i) (by omega) dX1_pointsOf_88 ?_
              refine lv_astore (lv' := [(4, .ref (pa (13, i))), (0, .ref (pa (0, 0))), (1, .int (nI a1)), (2, .int (nI (xPB g a1 24 + xPC g a1 i))), (3, .ref it_2)]) hx hb dX1_pointsOf_91 hl (by decide) rfl (fun ls hl => ?_)
              refine lv_iload_n hx hb dX1_pointsOf_93 rfl (lv_at hl 3 rfl) ?_
              refine lv_aload hx hb dX1_pointsOf_94 (lv_at hl 0 rfl) ?_
              refine gN_card_owner S hK hM hN i (by omega) (g 9 i) rfl dX1_pointsOf_96 ?_
              have hb_9 : g 9 i < 1048576 := by first | exact hg 9 i | exact hg0 _ _ | (have := hg 9 i; omega) | omega
              refine lv_iload_n hx hb dX1_pointsOf_99 rfl (lv_at hl 2 rfl) ?_
              have J_115 : ∀ yS0_115 : Int32, yS0_115 = nI ((if (g 9 i) = a1 then if deckK i = 4 then 1 else 0 else 0)) → ∀ (H : Heap) (locs : List Loc), XS D dA cn A pa g (T ++ [(it_2, itC pa (g 8 0) (i + 1))]) H → va_S A s.heap H locs → ∀ ls : Array Slot, lv_has ls 7 [(0, .ref (pa (0, 0))), (1, .int (nI a1)), (3, .ref it_2)] → W pr l en (rmF 9 1 4 500) s m args below meth cd H locs (1) (4) (MQ below (zc_Q Post A) args s 1 4 A) (F0 m 115 ls [.int yS0_115, .int (nI (xPB g a1 24 + xPC g a1 i))]) := by
                intro yS0_115 eyS0_115 H locs hM hS ls hl
                subst eyS0_115
                refine zr_addN (a := (xPB g a1 24 + xPC g a1 i)) (b := ((if (g 9 i) = a1 then if deckK i = 4 then 1 else 0 else 0))) hx hb dX1_pointsOf_115 ?_
                refine lv_istore_n (lv' := [(2, .int (nI ((xPB g a1 24 + xPC g a1 i) + ((if (g 9 i) = a1 then if deckK i = 4 then 1 else 0 else 0))))), (0, .ref (pa (0, 0))), (1, .int (nI a1)), (3, .ref it_2)]) hx hb dX1_pointsOf_116 rfl hl (by decide) rfl (fun ls hl => ?_)
                refine lv_goto (tgt := 73) hx hb dX1_pointsOf_117 (by decide) ?_
                exact ih_73 (i + 1) (by first | omega | assumption | (simp; done) | grind) (by omega) _ (congrArg nI (show ((xPB g a1 24 + xPC g a1 i) + ((if (g 9 i) = a1 then if deckK i = 4 then 1 else 0 else 0)) : Nat) = (xPB g a1 24 + xPC g a1 (i + 1)) from by first | with_reducible rfl | (simp [c_1, c_3, xPB, xPC, xPts]; done) | (simp only [c_1, c_3] <;> simp [xPB, xPC, xPts]; done) | (simp only [xPB, xPC, xPts, c_1, c_3] <;> simp [xPB, xPC, xPts]; done) | (simp [c_1, c_3, xPB, xPC, xPts, Bool.and_assoc]; done) | (simp [c_1, c_3, xPB, xPC, xPts, Bool.and_assoc, Bool.or_assoc]; done) | rfl | (simp [c_1, c_3, xPB, xPC, xPts]; omega) | (simp_all [xPB, xPC, xPts]; done))) H locs hM hS ls (lv_sub hl [1, 2, 0, 3] rfl)
              refine zr_icmp_neN (a := (g 9 i)) (b := a1) (tgt := 114) hx hb (by omega) (by omega) dX1_pointsOf_100 (by decide) (fun c_12 => ?_) (fun c_12 => ?_)
              · refine lv_iconst (v := nI 0) hx hb dX1_pointsOf_114 zi_0 ?_
                exact J_115 _ (congrArg nI (show (0 : Nat) = ((if (g 9 i) = a1 then if deckK i = 4 then 1 else 0 else 0)) from by first | with_reducible rfl | (simp [c_1, c_3, c_12, xPB, xPC, xPts]; done) | (simp only [c_1, c_3, c_12] <;> simp [xPB, xPC, xPts]; done) | (simp only [xPB, xPC, xPts, c_1, c_3, c_12] <;> simp [xPB, xPC, xPts]; done) | (simp [c_1, c_3, c_12, xPB, xPC, xPts, Bool.and_assoc]; done) | (simp [c_1, c_3, c_12, xPB, xPC, xPts, Bool.and_assoc, Bool.or_assoc]; done) | rfl | (simp [c_1, c_3, c_12, xPB, xPC, xPts]; omega) | (simp_all [xPB, xPC, xPts]; done))) H locs hM hS ls (lv_sub hl [1, 2, 4] rfl)
              · refine lv_aload hx hb dX1_pointsOf_103 (lv_at hl 0 rfl) ?_
                refine gN_card_kind S hK hM hN i (by omega) dX1_pointsOf_105 ?_
                refine kI_kpoints S hKX hS (deckK i) (deckK_lt _) (Nat.le_of_ble_eq_true rfl) (Nat.le_of_ble_eq_true rfl) hl.1 (Nat.le_of_ble_eq_true rfl) (Nat.le_of_ble_eq_true rfl) (Nat.le_of_ble_eq_true rfl) dX1_pointsOf_108 (fun locs hS => ?_)
                have hb_13 : (if deckK i = 4 then 1 else 0 : Nat) ≤ 1 := by split <;> omega
                refine lv_goto (tgt := 115) hx hb dX1_pointsOf_111 (by decide) ?_
                exact J_115 _ (congrArg nI (show (if deckK i = 4 then 1 else 0 : Nat) = ((if (g 9 i) = a1 then if deckK i = 4 then 1 else 0 else 0)) from by first | with_reducible rfl | (simp [c_1, c_3, c_12, xPB, xPC, xPts]; done) | (simp only [c_1, c_3, c_12] <;> simp [xPB, xPC, xPts]; done) | (simp only [xPB, xPC, xPts, c_1, c_3, c_12] <;> simp [xPB, xPC, xPts]; done) | (simp [c_1, c_3, c_12, xPB, xPC, xPts, Bool.and_assoc]; done) | (simp [c_1, c_3, c_12, xPB, xPC, xPts, Bool.and_assoc, Bool.or_assoc]; done) | rfl | (simp [c_1, c_3, c_12, xPB, xPC, xPts]; omega) | (simp_all [xPB, xPC, xPts]; done))) H locs hM hS ls (lv_sub hl [1, 2, 4] rfl)
        exact L_73 _ 0 (by first | omega | assumption | (simp; done) | grind) (Nat.lt_succ_self _) _ (congrArg nI (show (xPB g a1 24 : Nat) = (xPB g a1 24 + xPC g a1 0) from by first | with_reducible rfl | (simp [c_1, xPB, xPC, xPts]; done) | (simp only [c_1] <;> simp [xPB, xPC, xPts]; done) | (simp only [xPB, xPC, xPts, c_1] <;> simp [xPB, xPC, xPts]; done) | (simp [c_1, xPB, xPC, xPts, Bool.and_assoc]; done) | (simp [c_1, xPB, xPC, xPts, Bool.and_assoc, Bool.or_assoc]; done) | rfl | (simp [c_1, xPB, xPC, xPts]; omega) | (simp_all [xPB, xPC, xPts]; done))) H locs hM hS ls (lv_sub hl [1, 2, 3, 0] rfl)
      · have hpb := xPB_le g a1 c
        refine lv_aload_n hx hb dX1_pointsOf_21 rfl (lv_at hl 3 rfl) ?_
        refine lv_iload hx hb dX1_pointsOf_22 (lv_at hl 5 rfl) ?_
        refine lX_bld S hK hM c (by omega) dX1_pointsOf_24 ?_
        refine zr_astore_o (lv' := [(6, va_rf (opB (decide (g 2 c ≠ 0)) (pa (5, c)))), (0, .ref (pa (0, 0))), (1, .int (nI a1)), (2, .int (nI (xPB g a1 c))), (3, .ref (pa (4, 0))), (4, .int (nI 24)), (5, .int (nI c))]) hx hb dX1_pointsOf_25 hl (by decide) rfl (fun ls hl => ?_)
        refine lv_iload_n hx hb dX1_pointsOf_27 rfl (lv_at hl 3 rfl) ?_
        refine zr_aload_o hx hb dX1_pointsOf_28 (lv_at hl 0 rfl) ?_
        have J_55 : ∀ yS0_55 : Int32, yS0_55 = nI ((if (decide (g 2 c ≠ 0)) = true then (if (own1 g c) = (a1 + 1) then if g 2 c ≤ 3 then 1 else 2 else 0) else 0)) → ∀ (H : Heap) (locs : List Loc), XS D dA cn A pa g T H → va_S A s.heap H locs → ∀ ls : Array Slot, lv_has ls 7 [(0, .ref (pa (0, 0))), (1, .int (nI a1)), (3, .ref (pa (4, 0))), (4, .int (nI 24)), (5, .int (nI c))] → W pr l en (rmF 9 1 4 500) s m args below meth cd H locs (0) (0) (MQ below (zc_Q Post A) args s 1 4 A) (F0 m 55 ls [.int yS0_55, .int (nI (xPB g a1 c))]) := by
          intro yS0_55 eyS0_55 H locs hM hS ls hl
          subst eyS0_55
          refine zr_addN (a := (xPB g a1 c)) (b := ((if (decide (g 2 c ≠ 0)) = true then (if (own1 g c) = (a1 + 1) then if g 2 c ≤ 3 then 1 else 2 else 0) else 0))) hx hb dX1_pointsOf_55 ?_
          refine lv_istore_n (lv' := [(2, .int (nI ((xPB g a1 c) + ((if (decide (g 2 c ≠ 0)) = true then (if (own1 g c) = (a1 + 1) then if g 2 c ≤ 3 then 1 else 2 else 0) else 0))))), (0, .ref (pa (0, 0))), (1, .int (nI a1)), (3, .ref (pa (4, 0))), (4, .int (nI 24)), (5, .int (nI c))]) hx hb dX1_pointsOf_56 rfl hl (by decide) rfl (fun ls hl => ?_)
          refine lv_iinc (v := nI (c + 1)) (lv' := [(5, .int (nI (c + 1))), (2, .int (nI ((xPB g a1 c) + ((if (decide (g 2 c ≠ 0)) = true then (if (own1 g c) = (a1 + 1) then if g 2 c ≤ 3 then 1 else 2 else 0) else 0))))), (0, .ref (pa (0, 0))), (1, .int (nI a1)), (3, .ref (pa (4, 0))), (4, .int (nI 24))]) hx hb dX1_pointsOf_57 hl (k := 5) rfl (zk_inc _) (by decide) rfl (fun ls hl => ?_)
          refine lv_goto (tgt := 14) hx hb dX1_pointsOf_60 (by decide) ?_
          exact ih_14 (c + 1) (by first | omega | assumption | (simp; done) | grind) (by omega) _ (congrArg nI (xPB_s g a1 c)) H locs hM hS ls (lv_sub hl [2, 3, 1, 4, 5, 0] rfl)
        refine zr_ifnullB (b := decide (g 2 c ≠ 0)) (tgt := 54) hx hb dX1_pointsOf_30 (by decide) (fun c_19 => ?_) (fun c_19 => ?_)
        · rw [opB_f c_19] at hl
          refine lv_iconst (v := nI 0) hx hb dX1_pointsOf_54 zi_0 ?_
          exact J_55 _ (congrArg nI (show (0 : Nat) = ((if (decide (g 2 c ≠ 0)) = true then (if (own1 g c) = (a1 + 1) then if g 2 c ≤ 3 then 1 else 2 else 0) else 0)) from by first | with_reducible rfl | (simp [c_1, c_19, xPB, xPC, xPts]; done) | (simp only [c_1, c_19] <;> simp [xPB, xPC, xPts]; done) | (simp only [xPB, xPC, xPts, c_1, c_19] <;> simp [xPB, xPC, xPts]; done) | (simp [c_1, c_19, xPB, xPC, xPts, Bool.and_assoc]; done) | (simp [c_1, c_19, xPB, xPC, xPts, Bool.and_assoc, Bool.or_assoc]; done) | rfl | (simp [c_1, c_19, xPB, xPC, xPts]; omega) | (simp_all [xPB, xPC, xPts]; done))) H locs hM hS ls (lv_sub hl [1, 2, 4, 5, 6] rfl)
        · rw [opB_t c_19] at hl
          refine lv_aload hx hb dX1_pointsOf_33 (lv_at hl 0 rfl) ?_
          refine kI_owner S hKX hM hS c (by omega) c_19 (by exact h6 _ (by omega)) (Nat.le_of_ble_eq_true rfl) (Nat.le_of_ble_eq_true rfl) hl.1 (Nat.le_of_ble_eq_true rfl) (Nat.le_of_ble_eq_true rfl) (Nat.le_of_ble_eq_true rfl) dX1_pointsOf_35 (fun locs hS => ?_)
          have hb_20 : own1 g c < 4 := own1_lt _ _
          have hb_21 : own1 g c ≠ 0 := own1_pos c_19
          refine lv_iload_n hx hb dX1_pointsOf_40 rfl (lv_at hl 2 rfl) ?_
          rw [← mI_succ a1]
          refine zr_icmp_neM (a := (own1 g c)) (b := (a1 + 1)) (tgt := 54) hx hb (by omega) (by omega) dX1_pointsOf_41 (by decide) (fun c_22 => ?_) (fun c_22 => ?_)
          · refine lv_iconst (v := nI 0) hx hb dX1_pointsOf_54 zi_0 ?_
            exact J_55 _ (congrArg nI (show (0 : Nat) = ((if (decide (g 2 c ≠ 0)) = true then (if (own1 g c) = (a1 + 1) then if g 2 c ≤ 3 then 1 else 2 else 0) else 0)) from by first | with_reducible rfl | (simp [c_1, c_19, c_22, xPB, xPC, xPts]; done) | (simp only [c_1, c_19, c_22] <;> simp [xPB, xPC, xPts]; done) | (simp only [xPB, xPC, xPts, c_1, c_19, c_22] <;> simp [xPB, xPC, xPts]; done) | (simp [c_1, c_19, c_22, xPB, xPC, xPts, Bool.and_assoc]; done) | (simp [c_1, c_19, c_22, xPB, xPC, xPts, Bool.and_assoc, Bool.or_assoc]; done) | rfl | (simp [c_1, c_19, c_22, xPB, xPC, xPts]; omega) | (simp_all [xPB, xPC, xPts]; done))) H locs hM hS ls (lv_sub hl [1, 2, 4, 5, 6] rfl)
          · refine lv_aload hx hb dX1_pointsOf_44 (lv_at hl 0 rfl) ?_
            refine kI_points S hKX hM hS c (by omega) c_19 (by exact h6 _ (by omega)) (Nat.le_of_ble_eq_true rfl) (Nat.le_of_ble_eq_true rfl) hl.1 (Nat.le_of_ble_eq_true rfl) (Nat.le_of_ble_eq_true rfl) (Nat.le_of_ble_eq_true rfl) dX1_pointsOf_46 (fun locs hS => ?_)
            have hb_23 : (if g 2 c ≤ 3 then 1 else 2 : Nat) ≤ 2 := by split <;> omega
            refine lv_goto (tgt := 55) hx hb dX1_pointsOf_51 (by decide) ?_
            exact J_55 _ (congrArg nI (show (if g 2 c ≤ 3 then 1 else 2 : Nat) = ((if (decide (g 2 c ≠ 0)) = true then (if (own1 g c) = (a1 + 1) then if g 2 c ≤ 3 then 1 else 2 else 0) else 0)) from by first | with_reducible rfl | (simp [c_1, c_19, c_22, xPB, xPC, xPts]; done) | (simp only [c_1, c_19, c_22] <;> simp [xPB, xPC, xPts]; done) | (simp only [xPB, xPC, xPts, c_1, c_19, c_22] <;> simp [xPB, xPC, xPts]; done) | (simp [c_1, c_19, c_22, xPB, xPC, xPts, Bool.and_assoc]; done) | (simp [c_1, c_19, c_22, xPB, xPC, xPts, Bool.and_assoc, Bool.or_assoc]; done) | rfl | (simp [c_1, c_19, c_22, xPB, xPC, xPts]; omega) | (simp_all [xPB, xPC, xPts]; done))) H locs hM hS ls (lv_sub hl [1, 2, 4, 5, 6] rfl)
  exact L_14 _ 0 (by first | omega | assumption | (simp; done) | grind) (Nat.lt_succ_self _) _ (congrArg nI (show (0 : Nat) = (xPB g a1 0) from by first | with_reducible rfl | (simp [xPB, xPC, xPts]; done) | (simp [xPB, xPC, xPts, Bool.and_assoc]; done) | (simp [xPB, xPC, xPts, Bool.and_assoc, Bool.or_assoc]; done) | rfl | (simp [xPB, xPC, xPts]; omega) | (simp_all [xPB, xPC, xPts]; done))) H0 [] hM hS ls (lv_sub hl [4, 5, 3, 2, 1, 0] rfl)
theorem kX_pointsOf {pr : Program} {l : Launch} {en : Env} {R : Room} {s : State} {m : MethodId} {args : Array Value} {below : List Frame} {meth : Method} {cd : Code} {H : Heap} {locs : List Loc} {cells slots : Nat} {cc : ByteArray} {pc nL : Nat} {ls : Array Slot} {rest : List Value} {D : va_G} {dA : Nat → ClassId} {cn : Nat → Nat} {A : Nat → Prop} {pa : NM → Nat} {g : G} {T : va_W} {Q : State → Prop} (S : CallFix pr m cd cc nL s args lw_all RX1) (hKX : KX D dA cn A s) (hM : XS D dA cn A pa g T H) (hg : Sm g) (hS : va_S A s.heap H locs) (hA : ∀ q, H.size ≤ q → A q) (a1 : Nat) (h1 : a1 < 3) (h6 : ∀ c, c < 24 → g 2 c ≤ 6) (hnc : g 8 0 ≤ 15) (hf : 9 + 1 ≤ R.frames) (hlo : 8 + (7 + 11) + 500 ≤ R.locals) (hsz : ls.size = nL) (hcat : (rest.map fun v => v.category).sum ≤ 8) (hdg : decode cc pc = .ok (.invokevirtual 179, 3)) (hq1 : cells + 1 ≤ R.cells) (hq2 : slots + 4 ≤ R.slots) (kk : ∀ (H1 : Heap) (locs1 : List Loc), XS D dA cn A pa g T H1 → Sm g → va_S A s.heap H1 locs1 → W pr l en R s m args below meth cd H1 locs1 (cells + 1) (slots + 4) Q (F0 m (pc + 3) ls (.int (nI (xPts g a1)) :: rest))) : W pr l en R s m args below meth cd H locs cells slots Q (F0 m pc ls (.int (nI a1) :: .ref (pa (0, 0)) :: rest)) :=
  zc_callV (n := 1) (As := [.int (nI a1)]) (rest := rest) S (cX_pointsOf l hg a1 h1 h6 hnc H hM hA (Post := (fun v H1 => v = some (.int (nI (xPts g a1))) ∧ XS D dA cn A pa g T H1 ∧ Sm g)) (fun H1 h h2 => ⟨rfl, h, h2⟩)) (lw_V q550 q552 qs12 q71 q553) (by decide +kernel) ⟨hf, hlo⟩ ⟨hq1, hq2⟩ (zx_recv hKX.1 hM) KX_mv (zc_K KX_mv hKX hS) hS (fun _ h => h) rfl hsz rfl hcat hdg (fun v H1 locs1 hp _ _ hS1 => by obtain ⟨rfl, hM1, hg1⟩ := hp; exact kk H1 locs1 hM1 hg1 hS1)
def gWinX (g : G) : G := gs g 7 1 (if g 7 1 = 0 then g 7 1 else if xPts g (g 7 4) < 8 then g 7 1 else 5)
/-- the last card of a kind that can be used (its number and one; 0: none): the first one -/
def xIs (g : G) (k i : Nat) : Bool := decide (deckK i = k) && (decide (g 9 i = g 7 4) && (decide (g 10 i < g 7 3) && decide (g 11 i = 0)))
def xFnd (g : G) (k : Nat) : Nat → Nat
  | 0 => 0
  | i + 1 => if xFnd g k i = 0 then (if xIs g k i = true then i + 1 else 0) else xFnd g k i
def xUse (g : G) (k : Nat) : Nat := if g 7 6 = 0 then (if g 7 1 = 1 then xFnd g k (g 8 0) else if g 7 1 = 2 then xFnd g k (g 8 0) else 0) else 0
theorem xFnd_le (g : G) (k : Nat) : ∀ i, xFnd g k i ≤ i := by
  intro i
  induction i with
  | zero => exact Nat.le_refl _
  | succ i ih => simp only [xFnd]; (repeat' split) <;> omega
theorem xUse_le (g : G) (k : Nat) : xUse g k ≤ g 8 0 := by
  have := xFnd_le g k (g 8 0)
  unfold xUse; (repeat' split) <;> omega
set_option maxHeartbeats 1000000 in
set_option maxRecDepth 100000 in
theorem cX_lookForWinner (l : Launch) {D : va_G} {dA : Nat → ClassId} {cn : Nat → Nat} {A : Nat → Prop} {pa : NM → Nat} {g : G} {T : va_W} (hg : Sm g) (ht : g 7 4 < 3) (h6 : ∀ c, c < 24 → g 2 c ≤ 6) (hnc : g 8 0 ≤ 15) (H0 : Heap) (hM : XS D dA cn A pa g T H0) (hA : ∀ q, H0.size ≤ q → A q) {Post : Option Value → Heap → Prop} (hPost : ∀ H : Heap, XS D dA cn A pa (gWinX g) T H → Sm (gWinX g) → Post (none) H) : Ct l yX1_lookForWinner (ws_ yX1_lookForWinner cX1_lookForWinner 1 none) (rmF 10 1 4 526) A (KX D dA cn A) [.ref (pa (0, 0))] H0 Post := by
  refine zc_of RX1 rfl (by decide) (Nat.le_of_ble_eq_true rfl) ?_
  intro pr en s m args below meth cd S hr hlk hnm hh hKX ls hl
  have hS : va_S A s.heap H0 [] := zc_start hh
  have hA : ∀ q, s.heap.size ≤ q → A q := fun q h => hA q (by rw [← hh]; exact h)
  have hg0 := hg
  have hx := S.1
  have hb := S.2.1
  have hown := S.2.2.2.1
  have hts := S.2.2.2.2
  have hK := hKX.1
  have hN := hKX.2.1.1
  have hl : lv_has ls 1 [(0, .ref (pa (0, 0)))] := hl
  refine lv_aload_n hx hb dX1_lookForWinner_0 rfl (lv_at hl 0 rfl) ?_
  refine lv_aload_n hx hb dX1_lookForWinner_1 rfl (lv_at hl 0 rfl) ?_
  refine gX_phase S hK hM (g 7 1) rfl dX1_lookForWinner_2 ?_
  have hb_1 : g 7 1 < 1048576 := by first | exact hg 7 1 | exact hg0 _ _ | (have := hg 7 1; omega) | omega
  refine zr_if_eqN (a := (g 7 1)) (tgt := 25) hx hb (by omega) dX1_lookForWinner_5 (by decide) (fun c_2 => ?_) (fun c_2 => ?_)
  · refine lv_aload_n hx hb dX1_lookForWinner_25 rfl (lv_at hl 0 rfl) ?_
    refine gX_phase S hK hM (g 7 1) rfl dX1_lookForWinner_26 ?_
    have hb_3 : g 7 1 < 1048576 := by first | exact hg 7 1 | exact hg0 _ _ | (have := hg 7 1; omega) | omega
    refine pX_phase S hK hM hS (g 7 1) dX1_lookForWinner_29 (fun H locs hM hS => ?_)
    have hg : Sm (gs g 7 1 (g 7 1)) := Sm_gs hg (by first | omega | exact Nat.lt_of_le_of_lt (Bool.toNat_le _) (by decide) | ((repeat' split) <;> omega))
    rw [show (gs g 7 1 (g 7 1) : G) = gWinX g from by first | with_reducible rfl | (simp [c_2, gWinX]; done) | (simp only [c_2] <;> simp [gWinX]; done) | (simp only [gWinX, c_2] <;> simp [gWinX]; done) | (simp [c_2, gWinX, Bool.and_assoc]; done) | (simp [c_2, gWinX, Bool.and_assoc, Bool.or_assoc]; done) | rfl | (simp [c_2, gWinX]; omega) | (simp_all [gWinX]; done)] at hM hg
    exact zc_vret (hPost H hM hg) hS hx hb hr hlk (Nat.le_of_ble_eq_true rfl) (Nat.le_of_ble_eq_true rfl) dX1_lookForWinner_32
  · refine lv_aload_n hx hb dX1_lookForWinner_8 rfl (lv_at hl 0 rfl) ?_
    refine lv_aload_n hx hb dX1_lookForWinner_9 rfl (lv_at hl 0 rfl) ?_
    refine gX_turn S hK hM (g 7 4) rfl dX1_lookForWinner_10 ?_
    have hb_4 : g 7 4 < 1048576 := by first | exact hg 7 4 | exact hg0 _ _ | (have := hg 7 4; omega) | omega
    refine kX_pointsOf S hKX hM hg hS (fun q h => hA q (Nat.le_trans hS.1 h)) (g 7 4) (by first | omega | assumption | grind) (by first | omega | assumption | grind) (by first | omega | assumption | grind) (Nat.le_of_ble_eq_true rfl) (Nat.le_of_ble_eq_true rfl) hl.1 (Nat.le_of_ble_eq_true rfl) dX1_lookForWinner_13 (Nat.le_of_ble_eq_true rfl) (Nat.le_of_ble_eq_true rfl) (fun H locs hM hg hS => ?_)
    have f13_0 : xPts g (g 7 4) < 1000 := xPts_lt hnc
    refine lv_bipush (v := nI 8) hx hb dX1_lookForWinner_16 zb_8 ?_
    refine zr_icmp_ltN (a := (xPts g (g 7 4))) (b := 8) (tgt := 25) hx hb (by omega) (by omega) dX1_lookForWinner_18 (by decide) (fun c_5 => ?_) (fun c_5 => ?_)
    · refine lv_aload_n hx hb dX1_lookForWinner_25 rfl (lv_at hl 0 rfl) ?_
      refine gX_phase S hK hM (g 7 1) rfl dX1_lookForWinner_26 ?_
      have hb_6 : g 7 1 < 1048576 := by first | exact hg 7 1 | exact hg0 _ _ | (have := hg 7 1; omega) | omega
      refine pX_phase S hK hM hS (g 7 1) dX1_lookForWinner_29 (fun H locs hM hS => ?_)
      have hg : Sm (gs g 7 1 (g 7 1)) := Sm_gs hg (by first | omega | exact Nat.lt_of_le_of_lt (Bool.toNat_le _) (by decide) | ((repeat' split) <;> omega))
      rw [show (gs g 7 1 (g 7 1) : G) = gWinX g from by first | with_reducible rfl | (simp [c_2, c_5, gWinX]; done) | (simp only [c_2, c_5] <;> simp [gWinX]; done) | (simp only [gWinX, c_2, c_5] <;> simp [gWinX]; done) | (simp [c_2, c_5, gWinX, Bool.and_assoc]; done) | (simp [c_2, c_5, gWinX, Bool.and_assoc, Bool.or_assoc]; done) | rfl | (simp [c_2, c_5, gWinX]; omega) | (simp_all [gWinX]; done)] at hM hg
      exact zc_vret (hPost H hM hg) hS hx hb hr hlk (Nat.le_of_ble_eq_true rfl) (Nat.le_of_ble_eq_true rfl) dX1_lookForWinner_32
    · refine lv_iconst (v := nI 5) hx hb dX1_lookForWinner_21 zi_5 ?_
      refine lv_goto (tgt := 29) hx hb dX1_lookForWinner_22 (by decide) ?_
      refine pX_phase S hK hM hS 5 dX1_lookForWinner_29 (fun H locs hM hS => ?_)
      have hg : Sm (gs g 7 1 5) := Sm_gs hg (by first | omega | exact Nat.lt_of_le_of_lt (Bool.toNat_le _) (by decide) | ((repeat' split) <;> omega))
      rw [show (gs g 7 1 5 : G) = gWinX g from by first | with_reducible rfl | (simp [c_2, c_5, gWinX]; done) | (simp only [c_2, c_5] <;> simp [gWinX]; done) | (simp only [gWinX, c_2, c_5] <;> simp [gWinX]; done) | (simp [c_2, c_5, gWinX, Bool.and_assoc]; done) | (simp [c_2, c_5, gWinX, Bool.and_assoc, Bool.or_assoc]; done) | rfl | (simp [c_2, c_5, gWinX]; omega) | (simp_all [gWinX]; done)] at hM hg
      exact zc_vret (hPost H hM hg) hS hx hb hr hlk (Nat.le_of_ble_eq_true rfl) (Nat.le_of_ble_eq_true rfl) dX1_lookForWinner_32
theorem kX_lookForWinner {pr : Program} {l : Launch} {en : Env} {R : Room} {s : State} {m : MethodId} {args : Array Value} {below : List Frame} {meth : Method} {cd : Code} {H : Heap} {locs : List Loc} {cells slots : Nat} {cc : ByteArray} {pc nL : Nat} {ls : Array Slot} {rest : List Value} {D : va_G} {dA : Nat → ClassId} {cn : Nat → Nat} {A : Nat → Prop} {pa : NM → Nat} {g : G} {T : va_W} {Q : State → Prop} (S : CallFix pr m cd cc nL s args lw_all RX1) (hKX : KX D dA cn A s) (hM : XS D dA cn A pa g T H) (hg : Sm g) (hS : va_S A s.heap H locs) (hA : ∀ q, H.size ≤ q → A q) (ht : g 7 4 < 3) (h6 : ∀ c, c < 24 → g 2 c ≤ 6) (hnc : g 8 0 ≤ 15) (hf : 10 + 1 ≤ R.frames) (hlo : 8 + (1 + 11) + 526 ≤ R.locals) (hsz : ls.size = nL) (hcat : (rest.map fun v => v.category).sum ≤ 8) (hdg : decode cc pc = .ok (.invokevirtual 221, 3)) (hq1 : cells + 1 ≤ R.cells) (hq2 : slots + 4 ≤ R.slots) (kk : ∀ (H1 : Heap) (locs1 : List Loc), XS D dA cn A pa (gWinX g) T H1 → Sm (gWinX g) → va_S A s.heap H1 locs1 → W pr l en R s m args below meth cd H1 locs1 (cells + 1) (slots + 4) Q (F0 m (pc + 3) ls (rest))) : W pr l en R s m args below meth cd H locs cells slots Q (F0 m pc ls (.ref (pa (0, 0)) :: rest)) :=
  zc_callV (n := 0) (As := []) (rest := rest) S (cX_lookForWinner l hg ht h6 hnc H hM hA (Post := (fun v H1 => v = none ∧ XS D dA cn A pa (gWinX g) T H1 ∧ Sm (gWinX g))) (fun H1 h h2 => ⟨rfl, h, h2⟩)) (lw_V q546 q548 qs11 q71 q549) (by decide +kernel) ⟨hf, hlo⟩ ⟨hq1, hq2⟩ (zx_recv hKX.1 hM) KX_mv (zc_K KX_mv hKX hS) hS (fun _ h => h) rfl hsz rfl hcat hdg (fun v H1 locs1 hp _ _ hS1 => by obtain ⟨rfl, hM1, hg1⟩ := hp; exact kk H1 locs1 hM1 hg1 hS1)
def cdPoints (g : G) (a1 : Int32) : Nat := (if (inB a1 3) = true then 0 else 1)
set_option maxHeartbeats 1000000 in
set_option maxRecDepth 100000 in
theorem cX_points (l : Launch) (hfl : l.stackTraces = false) {D : va_G} {dA : Nat → ClassId} {cn : Nat → Nat} {A : Nat → Prop} {pa : NM → Nat} {g : G} {T : va_W} (hg : Sm g) (a1 : Int32) (h6 : ∀ c, c < 24 → g 2 c ≤ 6) (hnc : g 8 0 ≤ 15) (H0 : Heap) (hM : XS D dA cn A pa g T H0) (hA : ∀ q, H0.size ≤ q → A q) {Post : Option Value → Heap → Prop} {XPost : String → Heap → Prop} (hPost : (cdPoints g a1) = 0 → ∀ H : Heap, XS D dA cn A pa g T H → Sm g → Post (some (.int (nI (xPts g (tn a1))))) H) (hXP : ∀ n : Nat, (cdPoints g a1) = n → n ≠ 0 → ∀ H : Heap, XS D dA cn A pa g T H → XPost (exS n) H) : vCt l yX1_points (ws_ yX1_points cX1_points 2 (some .int)) (rmF 10 2 10 526) A (KX D dA cn A) [.ref (pa (0, 0)), .int a1] H0 Post XPost := by
  refine vc_of RX1 rfl (by decide) (Nat.le_of_ble_eq_true rfl) ?_
  intro pr en s m args below meth cd S hr hlk hnm hno hh hKX ls hl
  have hS : va_S A s.heap H0 [] := zc_start hh
  have hA : ∀ q, s.heap.size ≤ q → A q := fun q h => hA q (by rw [← hh]; exact h)
  have hg0 := hg
  have hx := S.1
  have hb := S.2.1
  have hown := S.2.2.2.1
  have hts := S.2.2.2.2
  have hK := hKX.1
  have hN := hKX.2.1.1
  have hl : lv_has ls 2 [(0, .ref (pa (0, 0))), (1, .int a1)] := hl
  refine lv_iload_n hx hb dX1_points_0 rfl (lv_at hl 1 rfl) ?_
  refine lv_iconst (v := nI 3) hx hb dX1_points_1 zi_3 ?_
  refine kX_check hfl S hKX hM hg hS (fun q h => hA q (Nat.le_trans hS.1 h)) a1 3 (by first | omega | assumption | grind) (Nat.le_of_ble_eq_true rfl) (Nat.le_of_ble_eq_true rfl) hl.1 (Nat.le_of_ble_eq_true rfl) dX1_points_2 (Nat.le_of_ble_eq_true rfl) (Nat.le_of_ble_eq_true rfl) hno hlk (Nat.le_of_ble_eq_true rfl) (Nat.le_of_ble_eq_true rfl) (fun c_1 H1 hM1 => hXP 1 (by first | (simp only [c_1, cdPoints, Bool.true_and, Bool.and_true, Bool.false_and, Bool.and_false, reduceIte, Bool.false_eq_true]; done) | (simp [c_1, cdPoints]; done) | grind | (simp_all; done)) (by decide) H1 hM1) (fun c_1 H locs hM hg hS => ?_)
  obtain ⟨hj1, ea1⟩ := inB_tn (by decide) c_1
  rw [ea1] at hl
  refine lv_aload_n hx hb dX1_points_5 rfl (lv_at hl 0 rfl) ?_
  refine lv_iload_n hx hb dX1_points_6 rfl (lv_at hl 1 rfl) ?_
  refine kX_pointsOf S hKX hM hg hS (fun q h => hA q (Nat.le_trans hS.1 h)) (tn a1) (by first | omega | assumption | grind) (by first | omega | assumption | grind) (by first | omega | assumption | grind) (Nat.le_of_ble_eq_true rfl) (Nat.le_of_ble_eq_true rfl) hl.1 (Nat.le_of_ble_eq_true rfl) dX1_points_7 (Nat.le_of_ble_eq_true rfl) (Nat.le_of_ble_eq_true rfl) (fun H locs hM hg hS => ?_)
  have f7_0 : xPts g (tn a1) < 1000 := xPts_lt hnc
  exact vx_ret (zc_nret (nI (xPts g (tn a1))) rfl (hPost (by first | rfl | (simp only [c_1, cdPoints, Bool.true_and, Bool.and_true, reduceIte]; done) | (simp [c_1, cdPoints]; done) | grind | (simp_all; done)) H hM hg) hS hx hb hr hlk (Nat.le_of_ble_eq_true rfl) (Nat.le_of_ble_eq_true rfl) dX1_points_10)
set_option maxHeartbeats 1000000 in
set_option maxRecDepth 100000 in
theorem cX_usable (l : Launch) {D : va_G} {dA : Nat → ClassId} {cn : Nat → Nat} {A : Nat → Prop} {pa : NM → Nat} {g : G} {T : va_W} (hg : Sm g) (a1 : Nat) (h1 : a1 < 5) (hnc : g 8 0 ≤ 15) (H0 : Heap) (hM : XS D dA cn A pa g T H0) (hA : ∀ q, H0.size ≤ q → A q) {Post : Option Value → Heap → Prop} (hPost : ∀ H : Heap, XS D dA cn A pa g T H → Sm g → Post (some (va_rf (opB (decide (xUse g a1 ≠ 0)) (pa (13, xUse g a1 - 1))))) H) : Ct l yX1_usable (ws_ yX1_usable cX1_usable 6 (some (.object "Hexstead$Card"))) (rmF 9 1 4 500) A (KX D dA cn A) [.ref (pa (0, 0)), .ref (cn (3 + a1))] H0 Post := by
  refine zc_of RX1 rfl (by decide) (Nat.le_of_ble_eq_true rfl) ?_
  intro pr en s m args below meth cd S hr hlk hnm hh hKX ls hl
  have hS : va_S A s.heap H0 [] := zc_start hh
  have hA : ∀ q, s.heap.size ≤ q → A q := fun q h => hA q (by rw [← hh]; exact h)
  have hg0 := hg
  have hx := S.1
  have hb := S.2.1
  have hown := S.2.2.2.1
  have hts := S.2.2.2.2
  have hK := hKX.1
  have hN := hKX.2.1.1
  have hl : lv_has ls 6 [(0, .ref (pa (0, 0))), (1, .ref (cn (3 + a1)))] := hl
  refine lv_null hx hb dX1_usable_0 ?_
  refine lv_astore_nN (lv' := [(2, .null), (0, .ref (pa (0, 0))), (1, .ref (cn (3 + a1)))]) hx hb dX1_usable_1 rfl hl (by decide) rfl (fun ls hl => ?_)
  refine lv_aload_n hx hb dX1_usable_2 rfl (lv_at hl 1 rfl) ?_
  refine gX_cards S hK hM dX1_usable_3 ?_
  refine kL_iter_c S hKX hM hS (fun q h => hA q (Nat.le_trans hS.1 h)) (Nat.le_of_ble_eq_true rfl) (Nat.le_of_ble_eq_true rfl) hl.1 (Nat.le_of_ble_eq_true rfl) (Nat.le_of_ble_eq_true rfl) (Nat.le_of_ble_eq_true rfl) dX1_usable_6 (fun it_1 H locs hM hS => ?_)
  refine lv_astore_n (lv' := [(3, .ref it_1), (2, .null), (0, .ref (pa (0, 0))), (1, .ref (cn (3 + a1)))]) hx hb dX1_usable_11 rfl hl (by decide) rfl (fun ls hl => ?_)
  have L_12 : ∀ (n_12 : Nat) (i : Nat), i ≤ g 8 0 → g 8 0 - i < n_12 → ∀ x2_12 : Option Nat, x2_12 = opB (decide (xFnd g a1 i ≠ 0)) (pa (13, xFnd g a1 i - 1)) → ∀ (H : Heap) (locs : List Loc), XS D dA cn A pa g (T ++ [(it_1, itC pa (g 8 0) i)]) H → va_S A s.heap H locs → ∀ ls : Array Slot, lv_has ls 6 [(0, .ref (pa (0, 0))), (1, .ref (cn (3 + a1))), (2, va_rf x2_12), (3, .ref it_1)] → W pr l en (rmF 9 1 4 500) s m args below meth cd H locs (1) (4) (MQ below (zc_Q Post A) args s 1 4 A) (F0 m 12 ls []) := by
    intro n_12
    induction n_12 with
    | zero => intro i hi_12 hm_12; exact absurd hm_12 (Nat.not_lt_zero _)
    | succ n_12 ih_12 =>
      intro i hi_12 hm_12 x2_12 ex2_12 H locs hM hS ls hl
      subst ex2_12
      refine lv_aload_n hx hb dX1_usable_12 rfl (lv_at hl 3 rfl) ?_
      refine kL_has_c S hKX (i := i) hM hS (by omega) (by omega) (Nat.le_of_ble_eq_true rfl) (Nat.le_of_ble_eq_true rfl) hl.1 (Nat.le_of_ble_eq_true rfl) (Nat.le_of_ble_eq_true rfl) (Nat.le_of_ble_eq_true rfl) dX1_usable_13 (fun locs hS => ?_)
      refine zr_if_eqB (b := decide (i < g 8 0)) (tgt := 99) hx hb dX1_usable_18 (by decide) (fun c_2 => ?_) (fun c_2 => ?_)
      · have hge_18 : ¬ i < g 8 0 := by simpa using c_2
        have e_i : g 8 0 = i := by omega
        subst e_i
        refine lv_aload_n hx hb dX1_usable_99 rfl (lv_at hl 0 rfl) ?_
        refine gX_hasUsed S hK hM (g 7 6) rfl dX1_usable_100 ?_
        have hb_3 : g 7 6 < 1048576 := by first | exact hg 7 6 | exact hg0 _ _ | (have := hg 7 6; omega) | omega
        refine zr_if_neN (a := (g 7 6)) (tgt := 122) hx hb (by omega) dX1_usable_103 (by decide) (fun c_4 => ?_) (fun c_4 => ?_)
        · refine lv_null hx hb dX1_usable_122 ?_
          refine lv_goto (tgt := 127) hx hb dX1_usable_123 (by decide) ?_
          have hM := hM.drop
          exact zc_aretO (r := none) (show (none : Option Nat) = (opB (decide (xUse g a1 ≠ 0)) (pa (13, xUse g a1 - 1))) from by simp [xUse, opB, c_2, c_4]) (hPost H hM hg) hS hx hb hr hlk (Nat.le_of_ble_eq_true rfl) (Nat.le_of_ble_eq_true rfl) dX1_usable_127
        · refine lv_aload_n hx hb dX1_usable_106 rfl (lv_at hl 0 rfl) ?_
          refine gX_phase S hK hM (g 7 1) rfl dX1_usable_107 ?_
          have hb_5 : g 7 1 < 1048576 := by first | exact hg 7 1 | exact hg0 _ _ | (have := hg 7 1; omega) | omega
          refine lv_iconst (v := nI 1) hx hb dX1_usable_110 zi_1 ?_
          refine zr_icmp_eqN (a := (g 7 1)) (b := 1) (tgt := 126) hx hb (by omega) (by omega) dX1_usable_111 (by decide) (fun c_6 => ?_) (fun c_6 => ?_)
          · refine zr_aload_no hx hb dX1_usable_126 rfl (lv_at hl 2 rfl) ?_
            have hM := hM.drop
            exact zc_aretO (r := opB (decide (xFnd g a1 (g 8 0) ≠ 0)) (pa (13, xFnd g a1 (g 8 0) - 1))) (show (opB (decide (xFnd g a1 (g 8 0) ≠ 0)) (pa (13, xFnd g a1 (g 8 0) - 1)) : Option Nat) = (opB (decide (xUse g a1 ≠ 0)) (pa (13, xUse g a1 - 1))) from by simp [xUse, opB, c_2, c_4, c_6]) (hPost H hM hg) hS hx hb hr hlk (Nat.le_of_ble_eq_true rfl) (Nat.le_of_ble_eq_true rfl) dX1_usable_127
          · refine lv_aload_n hx hb dX1_usable_114 rfl (lv_at hl 0 rfl) ?_
            refine gX_phase S hK hM (g 7 1) rfl dX1_usable_115 ?_
            have hb_7 : g 7 1 < 1048576 := by first | exact hg 7 1 | exact hg0 _ _ | (have := hg 7 1; omega) | omega
            refine lv_iconst (v := nI 2) hx hb dX1_usable_118 zi_2 ?_
            refine zr_icmp_eqN (a := (g 7 1)) (b := 2) (tgt := 126) hx hb (by omega) (by omega) dX1_usable_119 (by decide) (fun c_8 => ?_) (fun c_8 => ?_)
            · refine zr_aload_no hx hb dX1_usable_126 rfl (lv_at hl 2 rfl) ?_
              have hM := hM.drop
              exact zc_aretO (r := opB (decide (xFnd g a1 (g 8 0) ≠ 0)) (pa (13, xFnd g a1 (g 8 0) - 1))) (show (opB (decide (xFnd g a1 (g 8 0) ≠ 0)) (pa (13, xFnd g a1 (g 8 0) - 1)) : Option Nat) = (opB (decide (xUse g a1 ≠ 0)) (pa (13, xUse g a1 - 1))) from by simp [xUse, opB, c_2, c_4, c_6, c_8]) (hPost H hM hg) hS hx hb hr hlk (Nat.le_of_ble_eq_true rfl) (Nat.le_of_ble_eq_true rfl) dX1_usable_127
            · refine lv_null hx hb dX1_usable_122 ?_
              refine lv_goto (tgt := 127) hx hb dX1_usable_123 (by decide) ?_
              have hM := hM.drop
              exact zc_aretO (r := none) (show (none : Option Nat) = (opB (decide (xUse g a1 ≠ 0)) (pa (13, xUse g a1 - 1))) from by simp [xUse, opB, c_2, c_4, c_6, c_8]) (hPost H hM hg) hS hx hb hr hlk (Nat.le_of_ble_eq_true rfl) (Nat.le_of_ble_eq_true rfl) dX1_usable_127
      · have hlt_18 := of_decide_eq_true c_2
        refine lv_aload_n hx hb dX1_usable_21 rfl (lv_at hl 3 rfl) ?_
        refine kL_next_c S hKX (i := i) hM hS (by omega) (by omega) (Nat.le_of_ble_eq_true rfl) (Nat.le_of_ble_eq_true rfl) hl.1 (Nat.le_of_ble_eq_true rfl) (Nat.le_of_ble_eq_true rfl) (Nat.le_of_ble_eq_true rfl) dX1_usable_22 (fun H locs hM hS => ?_)
        have hM := itC_s hM
        refine kL_cast_c S hKX hM (i := i) (by omega) dX1_usable_27 ?_
        refine lv_astore (lv' := [(4, .ref (pa (13, i))), (0, .ref (pa (0, 0))), (1, .ref (cn (3 + a1))), (2, va_rf (opB (decide (xFnd g a1 i ≠ 0)) (pa (13, xFnd g a1 i - 1)))), (3, .ref it_1)]) hx hb dX1_usable_30 hl (by decide) rfl (fun ls hl => ?_)
        refine lv_aload hx hb dX1_usable_32 (lv_at hl 0 rfl) ?_
        refine gN_card_kind S hK hM hN i (by omega) dX1_usable_34 ?_
        refine lv_aload_n hx hb dX1_usable_37 rfl (lv_at hl 2 rfl) ?_
        have J_78 : ∀ yS0_78 : Int32, yS0_78 = nI ((deckK i = a1) && (decide ((g 9 i) = (g 7 4)) && (decide ((g 10 i) < (g 7 3)) && (decide ((g 11 i) = 0))))).toNat → ∀ (H : Heap) (locs : List Loc), XS D dA cn A pa g (T ++ [(it_1, itC pa (g 8 0) (i + 1))]) H → va_S A s.heap H locs → ∀ ls : Array Slot, lv_has ls 6 [(0, .ref (pa (0, 0))), (1, .ref (cn (3 + a1))), (2, va_rf (opB (decide (xFnd g a1 i ≠ 0)) (pa (13, xFnd g a1 i - 1)))), (3, .ref it_1), (4, .ref (pa (13, i)))] → W pr l en (rmF 9 1 4 500) s m args below meth cd H locs (1) (4) (MQ below (zc_Q Post A) args s 1 4 A) (F0 m 78 ls [.int yS0_78]) := by
          intro yS0_78 eyS0_78 H locs hM hS ls hl
          subst eyS0_78
          refine lv_istore (lv' := [(5, .int (nI ((deckK i = a1) && (decide ((g 9 i) = (g 7 4)) && (decide ((g 10 i) < (g 7 3)) && (decide ((g 11 i) = 0))))).toNat)), (0, .ref (pa (0, 0))), (1, .ref (cn (3 + a1))), (2, va_rf (opB (decide (xFnd g a1 i ≠ 0)) (pa (13, xFnd g a1 i - 1)))), (3, .ref it_1), (4, .ref (pa (13, i)))]) hx hb dX1_usable_78 hl (by decide) rfl (fun ls hl => ?_)
          refine zr_aload_no hx hb dX1_usable_80 rfl (lv_at hl 3 rfl) ?_
          refine zr_ifnonnullB (b := decide (xFnd g a1 i ≠ 0)) (tgt := 94) hx hb dX1_usable_81 (by decide) (fun c_18 => ?_) (fun c_18 => ?_)
          · rw [opB_t c_18] at hl
            refine lv_aload_n hx hb dX1_usable_94 rfl (lv_at hl 3 rfl) ?_
            refine lv_astore_n (lv' := [(2, .ref (pa (13, xFnd g a1 i - 1))), (5, .int (nI ((deckK i = a1) && (decide ((g 9 i) = (g 7 4)) && (decide ((g 10 i) < (g 7 3)) && (decide ((g 11 i) = 0))))).toNat)), (0, .ref (pa (0, 0))), (1, .ref (cn (3 + a1))), (3, .ref it_1), (4, .ref (pa (13, i)))]) hx hb dX1_usable_95 rfl hl (by decide) rfl (fun ls hl => ?_)
            refine lv_goto (tgt := 12) hx hb dX1_usable_96 (by decide) ?_
            exact ih_12 (i + 1) (by first | omega | assumption | (simp; done) | grind) (by omega) _ (show (some (pa (13, xFnd g a1 i - 1)) : Option Nat) = (opB (decide (xFnd g a1 (i + 1) ≠ 0)) (pa (13, xFnd g a1 (i + 1) - 1))) from by first | with_reducible rfl | (simp [c_2, c_18, xUse, xFnd, xIs, opB]; done) | (simp only [c_2, c_18] <;> simp [xUse, xFnd, xIs, opB]; done) | (simp only [xUse, xFnd, xIs, opB, c_2, c_18] <;> simp [xUse, xFnd, xIs, opB]; done) | (simp [c_2, c_18, xUse, xFnd, xIs, opB, Bool.and_assoc]; done) | (simp [c_2, c_18, xUse, xFnd, xIs, opB, Bool.and_assoc, Bool.or_assoc]; done) | rfl | (simp [c_2, c_18, xUse, xFnd, xIs, opB]; omega) | (simp_all [xUse, xFnd, xIs, opB]; done)) H locs hM hS ls (lv_sub hl [2, 3, 0, 4] rfl)
          · rw [opB_f c_18] at hl
            refine lv_iload hx hb dX1_usable_84 (lv_at hl 0 rfl) ?_
            refine zr_if_eqB (b := (deckK i = a1) && (decide ((g 9 i) = (g 7 4)) && (decide ((g 10 i) < (g 7 3)) && (decide ((g 11 i) = 0))))) (tgt := 94) hx hb dX1_usable_86 (by decide) (fun c_19 => ?_) (fun c_19 => ?_)
            · refine lv_aload_nN hx hb dX1_usable_94 rfl (lv_at hl 3 rfl) ?_
              refine lv_astore_nN (lv' := [(2, .null), (5, .int (nI ((deckK i = a1) && (decide ((g 9 i) = (g 7 4)) && (decide ((g 10 i) < (g 7 3)) && (decide ((g 11 i) = 0))))).toNat)), (0, .ref (pa (0, 0))), (1, .ref (cn (3 + a1))), (3, .ref it_1), (4, .ref (pa (13, i)))]) hx hb dX1_usable_95 rfl hl (by decide) rfl (fun ls hl => ?_)
              refine lv_goto (tgt := 12) hx hb dX1_usable_96 (by decide) ?_
              exact ih_12 (i + 1) (by first | omega | assumption | (simp; done) | grind) (by omega) _ (show (none : Option Nat) = (opB (decide (xFnd g a1 (i + 1) ≠ 0)) (pa (13, xFnd g a1 (i + 1) - 1))) from by first | with_reducible rfl | (simp [c_2, c_18, c_19, xUse, xFnd, xIs, opB]; done) | (simp only [c_2, c_18, c_19] <;> simp [xUse, xFnd, xIs, opB]; done) | (simp only [xUse, xFnd, xIs, opB, c_2, c_18, c_19] <;> simp [xUse, xFnd, xIs, opB]; done) | (simp [c_2, c_18, c_19, xUse, xFnd, xIs, opB, Bool.and_assoc]; done) | (simp [c_2, c_18, c_19, xUse, xFnd, xIs, opB, Bool.and_assoc, Bool.or_assoc]; done) | rfl | (simp [c_2, c_18, c_19, xUse, xFnd, xIs, opB]; omega) | (simp_all [xUse, xFnd, xIs, opB]; done)) H locs hM hS ls (lv_sub hl [2, 3, 0, 4] rfl)
            · refine lv_aload hx hb dX1_usable_89 (lv_at hl 5 rfl) ?_
              refine lv_goto (tgt := 95) hx hb dX1_usable_91 (by decide) ?_
              refine lv_astore_n (lv' := [(2, .ref (pa (13, i))), (5, .int (nI ((deckK i = a1) && (decide ((g 9 i) = (g 7 4)) && (decide ((g 10 i) < (g 7 3)) && (decide ((g 11 i) = 0))))).toNat)), (0, .ref (pa (0, 0))), (1, .ref (cn (3 + a1))), (3, .ref it_1), (4, .ref (pa (13, i)))]) hx hb dX1_usable_95 rfl hl (by decide) rfl (fun ls hl => ?_)
              refine lv_goto (tgt := 12) hx hb dX1_usable_96 (by decide) ?_
              exact ih_12 (i + 1) (by first | omega | assumption | (simp; done) | grind) (by omega) _ (show (some (pa (13, i)) : Option Nat) = (opB (decide (xFnd g a1 (i + 1) ≠ 0)) (pa (13, xFnd g a1 (i + 1) - 1))) from by first | with_reducible rfl | (simp [c_2, c_18, c_19, xUse, xFnd, xIs, opB]; done) | (simp only [c_2, c_18, c_19] <;> simp [xUse, xFnd, xIs, opB]; done) | (simp only [xUse, xFnd, xIs, opB, c_2, c_18, c_19] <;> simp [xUse, xFnd, xIs, opB]; done) | (simp [c_2, c_18, c_19, xUse, xFnd, xIs, opB, Bool.and_assoc]; done) | (simp [c_2, c_18, c_19, xUse, xFnd, xIs, opB, Bool.and_assoc, Bool.or_assoc]; done) | rfl | (simp [c_2, c_18, c_19, xUse, xFnd, xIs, opB]; omega) | (simp_all [xUse, xFnd, xIs, opB]; done)) H locs hM hS ls (lv_sub hl [2, 3, 0, 4] rfl)
        refine xk_ne S hKX (deckK i) a1 (deckK_lt _) (by omega) (tgt := 77) dX1_usable_38 (by decide) (fun c_20 => ?_) (fun c_20 => ?_)
        · refine lv_iconst (v := nI 0) hx hb dX1_usable_77 zi_0 ?_
          exact J_78 _ (congrArg (fun z : Bool => nI z.toNat) (show (false : Bool) = ((deckK i = a1) && (decide ((g 9 i) = (g 7 4)) && (decide ((g 10 i) < (g 7 3)) && (decide ((g 11 i) = 0))))) from by first | with_reducible rfl | (simp [c_2, c_20, xUse, xFnd, xIs, opB]; done) | (simp only [c_2, c_20] <;> simp [xUse, xFnd, xIs, opB]; done) | (simp only [xUse, xFnd, xIs, opB, c_2, c_20] <;> simp [xUse, xFnd, xIs, opB]; done) | (simp [c_2, c_20, xUse, xFnd, xIs, opB, Bool.and_assoc]; done) | (simp [c_2, c_20, xUse, xFnd, xIs, opB, Bool.and_assoc, Bool.or_assoc]; done) | rfl | (simp [c_2, c_20, xUse, xFnd, xIs, opB]; omega) | (simp_all [xUse, xFnd, xIs, opB]; done))) H locs hM hS ls (lv_sub hl [1, 2, 3, 4, 0] rfl)
        · refine lv_aload hx hb dX1_usable_41 (lv_at hl 0 rfl) ?_
          refine gN_card_owner S hK hM hN i (by omega) (g 9 i) rfl dX1_usable_43 ?_
          have hb_21 : g 9 i < 1048576 := by first | exact hg 9 i | exact hg0 _ _ | (have := hg 9 i; omega) | omega
          refine lv_aload_n hx hb dX1_usable_46 rfl (lv_at hl 1 rfl) ?_
          refine gX_turn S hK hM (g 7 4) rfl dX1_usable_47 ?_
          have hb_22 : g 7 4 < 1048576 := by first | exact hg 7 4 | exact hg0 _ _ | (have := hg 7 4; omega) | omega
          refine zr_icmp_neN (a := (g 9 i)) (b := (g 7 4)) (tgt := 77) hx hb (by omega) (by omega) dX1_usable_50 (by decide) (fun c_23 => ?_) (fun c_23 => ?_)
          · refine lv_iconst (v := nI 0) hx hb dX1_usable_77 zi_0 ?_
            exact J_78 _ (congrArg (fun z : Bool => nI z.toNat) (show (false : Bool) = ((deckK i = a1) && (decide ((g 9 i) = (g 7 4)) && (decide ((g 10 i) < (g 7 3)) && (decide ((g 11 i) = 0))))) from by first | with_reducible rfl | (simp [c_2, c_20, c_23, xUse, xFnd, xIs, opB]; done) | (simp only [c_2, c_20, c_23] <;> simp [xUse, xFnd, xIs, opB]; done) | (simp only [xUse, xFnd, xIs, opB, c_2, c_20, c_23] <;> simp [xUse, xFnd, xIs, opB]; done) | (simp [c_2, c_20, c_23, xUse, xFnd, xIs, opB, Bool.and_assoc]; done) | (simp [c_2, c_20, c_23, xUse, xFnd, xIs, opB, Bool.and_assoc, Bool.or_assoc]; done) | rfl | (simp [c_2, c_20, c_23, xUse, xFnd, xIs, opB]; omega) | (simp_all [xUse, xFnd, xIs, opB]; done))) H locs hM hS ls (lv_sub hl [1, 2, 3, 4, 0] rfl)
          · refine lv_aload hx hb dX1_usable_53 (lv_at hl 0 rfl) ?_
            refine gN_card_bought S hK hM hN i (by omega) (g 10 i) rfl dX1_usable_55 ?_
            have hb_24 : g 10 i < 1048576 := by first | exact hg 10 i | exact hg0 _ _ | (have := hg 10 i; omega) | omega
            refine lv_aload_n hx hb dX1_usable_58 rfl (lv_at hl 1 rfl) ?_
            refine gX_turns S hK hM (g 7 3) rfl dX1_usable_59 ?_
            have hb_25 : g 7 3 < 1048576 := by first | exact hg 7 3 | exact hg0 _ _ | (have := hg 7 3; omega) | omega
            refine zr_icmp_geN (a := (g 10 i)) (b := (g 7 3)) (tgt := 77) hx hb (by omega) (by omega) dX1_usable_62 (by decide) (fun c_26 => ?_) (fun c_26 => ?_)
            · refine lv_iconst (v := nI 0) hx hb dX1_usable_77 zi_0 ?_
              exact J_78 _ (congrArg (fun z : Bool => nI z.toNat) (show (false : Bool) = ((deckK i = a1) && (decide ((g 9 i) = (g 7 4)) && (decide ((g 10 i) < (g 7 3)) && (decide ((g 11 i) = 0))))) from by first | with_reducible rfl | (simp [c_2, c_20, c_23, c_26, xUse, xFnd, xIs, opB]; done) | (simp only [c_2, c_20, c_23, c_26] <;> simp [xUse, xFnd, xIs, opB]; done) | (simp only [xUse, xFnd, xIs, opB, c_2, c_20, c_23, c_26] <;> simp [xUse, xFnd, xIs, opB]; done) | (simp [c_2, c_20, c_23, c_26, xUse, xFnd, xIs, opB, Bool.and_assoc]; done) | (simp [c_2, c_20, c_23, c_26, xUse, xFnd, xIs, opB, Bool.and_assoc, Bool.or_assoc]; done) | rfl | (simp [c_2, c_20, c_23, c_26, xUse, xFnd, xIs, opB]; omega) | (simp_all [xUse, xFnd, xIs, opB]; done))) H locs hM hS ls (lv_sub hl [1, 2, 3, 4, 0] rfl)
            · refine lv_aload hx hb dX1_usable_65 (lv_at hl 0 rfl) ?_
              refine gN_card_isUsed S hK hM hN i (by omega) (g 11 i) rfl dX1_usable_67 ?_
              have hb_27 : g 11 i < 1048576 := by first | exact hg 11 i | exact hg0 _ _ | (have := hg 11 i; omega) | omega
              refine zr_if_neN (a := (g 11 i)) (tgt := 77) hx hb (by omega) dX1_usable_70 (by decide) (fun c_28 => ?_) (fun c_28 => ?_)
              · refine lv_iconst (v := nI 0) hx hb dX1_usable_77 zi_0 ?_
                exact J_78 _ (congrArg (fun z : Bool => nI z.toNat) (show (false : Bool) = ((deckK i = a1) && (decide ((g 9 i) = (g 7 4)) && (decide ((g 10 i) < (g 7 3)) && (decide ((g 11 i) = 0))))) from by first | with_reducible rfl | (simp [c_2, c_20, c_23, c_26, c_28, xUse, xFnd, xIs, opB]; done) | (simp only [c_2, c_20, c_23, c_26, c_28] <;> simp [xUse, xFnd, xIs, opB]; done) | (simp only [xUse, xFnd, xIs, opB, c_2, c_20, c_23, c_26, c_28] <;> simp [xUse, xFnd, xIs, opB]; done) | (simp [c_2, c_20, c_23, c_26, c_28, xUse, xFnd, xIs, opB, Bool.and_assoc]; done) | (simp [c_2, c_20, c_23, c_26, c_28, xUse, xFnd, xIs, opB, Bool.and_assoc, Bool.or_assoc]; done) | rfl | (simp [c_2, c_20, c_23, c_26, c_28, xUse, xFnd, xIs, opB]; omega) | (simp_all [xUse, xFnd, xIs, opB]; done))) H locs hM hS ls (lv_sub hl [1, 2, 3, 4, 0] rfl)
              · refine lv_iconst (v := nI 1) hx hb dX1_usable_73 zi_1 ?_
                refine lv_goto (tgt := 78) hx hb dX1_usable_74 (by decide) ?_
                exact J_78 _ (congrArg (fun z : Bool => nI z.toNat) (show (true : Bool) = ((deckK i = a1) && (decide ((g 9 i) = (g 7 4)) && (decide ((g 10 i) < (g 7 3)) && (decide ((g 11 i) = 0))))) from by first | with_reducible rfl | (simp [c_2, c_20, c_23, c_26, c_28, xUse, xFnd, xIs, opB]; done) | (simp only [c_2, c_20, c_23, c_26, c_28] <;> simp [xUse, xFnd, xIs, opB]; done) | (simp only [xUse, xFnd, xIs, opB, c_2, c_20, c_23, c_26, c_28] <;> simp [xUse, xFnd, xIs, opB]; done) | (simp [c_2, c_20, c_23, c_26, c_28, xUse, xFnd, xIs, opB, Bool.and_assoc]; done) | (simp [c_2, c_20, c_23, c_26, c_28, xUse, xFnd, xIs, opB, Bool.and_assoc, Bool.or_assoc]; done) | rfl | (simp [c_2, c_20, c_23, c_26, c_28, xUse, xFnd, xIs, opB]; omega) | (simp_all [xUse, xFnd, xIs, opB]; done))) H locs hM hS ls (lv_sub hl [1, 2, 3, 4, 0] rfl)
  exact L_12 _ 0 (by first | omega | assumption | (simp; done) | grind) (Nat.lt_succ_self _) _ (show (none : Option Nat) = (opB (decide (xFnd g a1 0 ≠ 0)) (pa (13, xFnd g a1 0 - 1))) from by first | with_reducible rfl | (simp [xUse, xFnd, xIs, opB]; done) | (simp [xUse, xFnd, xIs, opB, Bool.and_assoc]; done) | (simp [xUse, xFnd, xIs, opB, Bool.and_assoc, Bool.or_assoc]; done) | rfl | (simp [xUse, xFnd, xIs, opB]; omega) | (simp_all [xUse, xFnd, xIs, opB]; done)) H locs hM hS ls (lv_sub hl [2, 3, 1, 0] rfl)
theorem kX_usable {pr : Program} {l : Launch} {en : Env} {R : Room} {s : State} {m : MethodId} {args : Array Value} {below : List Frame} {meth : Method} {cd : Code} {H : Heap} {locs : List Loc} {cells slots : Nat} {cc : ByteArray} {pc nL : Nat} {ls : Array Slot} {rest : List Value} {D : va_G} {dA : Nat → ClassId} {cn : Nat → Nat} {A : Nat → Prop} {pa : NM → Nat} {g : G} {T : va_W} {Q : State → Prop} (S : CallFix pr m cd cc nL s args lw_all RX1) (hKX : KX D dA cn A s) (hM : XS D dA cn A pa g T H) (hg : Sm g) (hS : va_S A s.heap H locs) (hA : ∀ q, H.size ≤ q → A q) (a1 : Nat) (h1 : a1 < 5) (hnc : g 8 0 ≤ 15) (hf : 9 + 1 ≤ R.frames) (hlo : 8 + (6 + 11) + 500 ≤ R.locals) (hsz : ls.size = nL) (hcat : (rest.map fun v => v.category).sum ≤ 8) (hdg : decode cc pc = .ok (.invokevirtual 309, 3)) (hq1 : cells + 1 ≤ R.cells) (hq2 : slots + 4 ≤ R.slots) (kk : ∀ (H1 : Heap) (locs1 : List Loc), XS D dA cn A pa g T H1 → Sm g → va_S A s.heap H1 locs1 → W pr l en R s m args below meth cd H1 locs1 (cells + 1) (slots + 4) Q (F0 m (pc + 3) ls (va_rf (opB (decide (xUse g a1 ≠ 0)) (pa (13, xUse g a1 - 1))) :: rest))) : W pr l en R s m args below meth cd H locs cells slots Q (F0 m pc ls (.ref (cn (3 + a1)) :: .ref (pa (0, 0)) :: rest)) :=
  zc_callV (n := 1) (As := [.ref (cn (3 + a1))]) (rest := rest) S (cX_usable l hg a1 h1 hnc H hM hA (Post := (fun v H1 => v = some (va_rf (opB (decide (xUse g a1 ≠ 0)) (pa (13, xUse g a1 - 1)))) ∧ XS D dA cn A pa g T H1 ∧ Sm g)) (fun H1 h h2 => ⟨rfl, h, h2⟩)) (lw_V q826 q828 qs28 q71 q829) (by decide +kernel) ⟨hf, hlo⟩ ⟨hq1, hq2⟩ (zx_recv hKX.1 hM) KX_mv (zc_K KX_mv hKX hS) hS (fun _ h => h) rfl hsz rfl hcat hdg (fun v H1 locs1 hp _ _ hS1 => by obtain ⟨rfl, hM1, hg1⟩ := hp; exact kk H1 locs1 hM1 hg1 hS1)
def gUseX (g : G) (i : Nat) : G := gs (gs g 11 i 1) 7 6 1
def gDoneX (g : G) (b : Bool) : G := gWinX (if b = true then gs g 7 7 (xHold g) else g)
set_option maxHeartbeats 1000000 in
set_option maxRecDepth 100000 in
theorem cX_use (l : Launch) {D : va_G} {dA : Nat → ClassId} {cn : Nat → Nat} {A : Nat → Prop} {pa : NM → Nat} {g : G} {T : va_W} (hg : Sm g) (a9 : Nat) (h9 : a9 < g 8 0) (H0 : Heap) (hM : XS D dA cn A pa g T H0) (hA : ∀ q, H0.size ≤ q → A q) {Post : Option Value → Heap → Prop} (hPost : ∀ H : Heap, XS D dA cn A pa (gUseX g a9) T H → Sm (gUseX g a9) → Post (none) H) : Ct l yX1_use (ws_ yX1_use cX1_use 2 none) (rmF 1 0 0 13) A (KX D dA cn A) [.ref (pa (0, 0)), .ref (pa (13, a9))] H0 Post := by
  refine zc_of RX1 rfl (by decide) (Nat.le_of_ble_eq_true rfl) ?_
  intro pr en s m args below meth cd S hr hlk hnm hh hKX ls hl
  have hS : va_S A s.heap H0 [] := zc_start hh
  have hA : ∀ q, s.heap.size ≤ q → A q := fun q h => hA q (by rw [← hh]; exact h)
  have hg0 := hg
  have hx := S.1
  have hb := S.2.1
  have hown := S.2.2.2.1
  have hts := S.2.2.2.2
  have hK := hKX.1
  have hN := hKX.2.1.1
  have hl : lv_has ls 2 [(0, .ref (pa (0, 0))), (1, .ref (pa (13, a9)))] := hl
  refine lv_aload_n hx hb dX1_use_0 rfl (lv_at hl 1 rfl) ?_
  refine lv_iconst (v := nI 1) hx hb dX1_use_1 zi_1 ?_
  refine pN_card_isUsed S hK hM hN hS a9 (by omega) 1 (by omega) dX1_use_2 (fun H locs hM hS => ?_)
  have hg : Sm (gs g 11 a9 1) := Sm_gs hg (by first | omega | exact Nat.lt_of_le_of_lt (Bool.toNat_le _) (by decide) | ((repeat' split) <;> omega))
  refine lv_aload_n hx hb dX1_use_5 rfl (lv_at hl 0 rfl) ?_
  refine lv_iconst (v := nI 1) hx hb dX1_use_6 zi_1 ?_
  refine pX_hasUsed S hK hM hS 1 (by omega) dX1_use_7 (fun H locs hM hS => ?_)
  have hg : Sm (gs (gs g 11 a9 1) 7 6 1) := Sm_gs hg (by first | omega | exact Nat.lt_of_le_of_lt (Bool.toNat_le _) (by decide) | ((repeat' split) <;> omega))
  rw [show (gs (gs g 11 a9 1) 7 6 1 : G) = gUseX g a9 from by first | with_reducible rfl | (simp [gUseX]; done) | (simp [gUseX, Bool.and_assoc]; done) | (simp [gUseX, Bool.and_assoc, Bool.or_assoc]; done) | rfl | (simp [gUseX]; omega) | (simp_all [gUseX]; done)] at hM hg
  exact zc_vret (hPost H hM hg) hS hx hb hr hlk (Nat.le_of_ble_eq_true rfl) (Nat.le_of_ble_eq_true rfl) dX1_use_10
theorem kX_use {pr : Program} {l : Launch} {en : Env} {R : Room} {s : State} {m : MethodId} {args : Array Value} {below : List Frame} {meth : Method} {cd : Code} {H : Heap} {locs : List Loc} {cells slots : Nat} {cc : ByteArray} {pc nL : Nat} {ls : Array Slot} {rest : List Value} {D : va_G} {dA : Nat → ClassId} {cn : Nat → Nat} {A : Nat → Prop} {pa : NM → Nat} {g : G} {T : va_W} {Q : State → Prop} (S : CallFix pr m cd cc nL s args lw_all RX1) (hKX : KX D dA cn A s) (hM : XS D dA cn A pa g T H) (hg : Sm g) (hS : va_S A s.heap H locs) (hA : ∀ q, H.size ≤ q → A q) (a9 : Nat) (h9 : a9 < g 8 0) (hf : 1 + 1 ≤ R.frames) (hlo : 8 + (2 + 11) + 13 ≤ R.locals) (hsz : ls.size = nL) (hcat : (rest.map fun v => v.category).sum ≤ 8) (hdg : decode cc pc = .ok (.invokevirtual 313, 3)) (hq1 : cells + 0 ≤ R.cells) (hq2 : slots + 0 ≤ R.slots) (kk : ∀ (H1 : Heap) (locs1 : List Loc), XS D dA cn A pa (gUseX g a9) T H1 → Sm (gUseX g a9) → va_S A s.heap H1 locs1 → W pr l en R s m args below meth cd H1 locs1 (cells + 0) (slots + 0) Q (F0 m (pc + 3) ls (rest))) : W pr l en R s m args below meth cd H locs cells slots Q (F0 m pc ls (.ref (pa (13, a9)) :: .ref (pa (0, 0)) :: rest)) :=
  zc_callV (n := 1) (As := [.ref (pa (13, a9))]) (rest := rest) S (cX_use l hg a9 h9 H hM hA (Post := (fun v H1 => v = none ∧ XS D dA cn A pa (gUseX g a9) T H1 ∧ Sm (gUseX g a9))) (fun H1 h h2 => ⟨rfl, h, h2⟩)) (lw_V q830 q832 qs29 q71 q833) (by decide +kernel) ⟨hf, hlo⟩ ⟨hq1, hq2⟩ (zx_recv hKX.1 hM) KX_mv (zc_K KX_mv hKX hS) hS (fun _ h => h) rfl hsz rfl hcat hdg (fun v H1 locs1 hp _ _ hS1 => by obtain ⟨rfl, hM1, hg1⟩ := hp; exact kk H1 locs1 hM1 hg1 hS1)
set_option maxHeartbeats 1000000 in
set_option maxRecDepth 100000 in
theorem cX_done (l : Launch) {D : va_G} {dA : Nat → ClassId} {cn : Nat → Nat} {A : Nat → Prop} {pa : NM → Nat} {g : G} {T : va_W} (hg : Sm g) (a1 : Bool) (ht : g 7 4 < 3) (h6 : ∀ c, c < 24 → g 2 c ≤ 6) (hr8 : ∀ p, p < 3 → roadsN g p 30 ≤ 8) (h7 : g 7 7 ≤ 3) (hnc : g 8 0 ≤ 15) (H0 : Heap) (hM : XS D dA cn A pa g T H0) (hA : ∀ q, H0.size ≤ q → A q) {Post : Option Value → Heap → Prop} (hPost : ∀ H : Heap, XS D dA cn A pa (gDoneX g a1) T H → Sm (gDoneX g a1) → Post (none) H) : Ct l yX1_done (ws_ yX1_done cX1_done 2 none) (rmF 17 1 4 813) A (KX D dA cn A) [.ref (pa (0, 0)), .int (nI (a1).toNat)] H0 Post := by
  refine zc_of RX1 rfl (by decide) (Nat.le_of_ble_eq_true rfl) ?_
  intro pr en s m args below meth cd S hr hlk hnm hh hKX ls hl
  have hS : va_S A s.heap H0 [] := zc_start hh
  have hA : ∀ q, s.heap.size ≤ q → A q := fun q h => hA q (by rw [← hh]; exact h)
  have hg0 := hg
  have hx := S.1
  have hb := S.2.1
  have hown := S.2.2.2.1
  have hts := S.2.2.2.2
  have hK := hKX.1
  have hN := hKX.2.1.1
  have hl : lv_has ls 2 [(0, .ref (pa (0, 0))), (1, .int (nI (a1).toNat))] := hl
  refine lv_iload_n hx hb dX1_done_0 rfl (lv_at hl 1 rfl) ?_
  refine zr_if_eqB (b := a1) (tgt := 8) hx hb dX1_done_1 (by decide) (fun c_1 => ?_) (fun c_1 => ?_)
  · refine lv_aload_n hx hb dX1_done_8 rfl (lv_at hl 0 rfl) ?_
    refine kX_lookForWinner S hKX hM hg hS (fun q h => hA q (Nat.le_trans hS.1 h))  (by exact ht) (by exact h6) (by exact hnc) (Nat.le_of_ble_eq_true rfl) (Nat.le_of_ble_eq_true rfl) hl.1 (Nat.le_of_ble_eq_true rfl) dX1_done_9 (Nat.le_of_ble_eq_true rfl) (Nat.le_of_ble_eq_true rfl) (fun H locs hM hg hS => ?_)
    rw [show (gWinX g : G) = gDoneX g a1 from by first | with_reducible rfl | (simp [c_1, gDoneX]; done) | (simp only [c_1] <;> simp [gDoneX]; done) | (simp only [gDoneX, c_1] <;> simp [gDoneX]; done) | (simp [c_1, gDoneX, Bool.and_assoc]; done) | (simp [c_1, gDoneX, Bool.and_assoc, Bool.or_assoc]; done) | rfl | (simp [c_1, gDoneX]; omega) | (simp_all [gDoneX]; done)] at hM hg
    exact zc_vret (hPost H hM hg) hS hx hb hr hlk (Nat.le_of_ble_eq_true rfl) (Nat.le_of_ble_eq_true rfl) dX1_done_12
  · refine lv_aload_n hx hb dX1_done_4 rfl (lv_at hl 0 rfl) ?_
    refine kX_lookAtTrails S hKX hM hg hS (fun q h => hA q (Nat.le_trans hS.1 h))  (by first | omega | assumption | grind) (by first | omega | assumption | grind) (by first | omega | assumption | grind) (Nat.le_of_ble_eq_true rfl) (Nat.le_of_ble_eq_true rfl) hl.1 (Nat.le_of_ble_eq_true rfl) dX1_done_5 (Nat.le_of_ble_eq_true rfl) (Nat.le_of_ble_eq_true rfl) (fun H locs hM hg hS => ?_)
    refine lv_aload_n hx hb dX1_done_8 rfl (lv_at hl 0 rfl) ?_
    refine kX_lookForWinner S hKX hM hg hS (fun q h => hA q (Nat.le_trans hS.1 h))  (by exact ht) (by exact h6) (by exact hnc) (Nat.le_of_ble_eq_true rfl) (Nat.le_of_ble_eq_true rfl) hl.1 (Nat.le_of_ble_eq_true rfl) dX1_done_9 (Nat.le_of_ble_eq_true rfl) (Nat.le_of_ble_eq_true rfl) (fun H locs hM hg hS => ?_)
    rw [show (gWinX (gs g 7 7 (xHold g)) : G) = gDoneX g a1 from by first | with_reducible rfl | (simp [c_1, gDoneX]; done) | (simp only [c_1] <;> simp [gDoneX]; done) | (simp only [gDoneX, c_1] <;> simp [gDoneX]; done) | (simp [c_1, gDoneX, Bool.and_assoc]; done) | (simp [c_1, gDoneX, Bool.and_assoc, Bool.or_assoc]; done) | rfl | (simp [c_1, gDoneX]; omega) | (simp_all [gDoneX]; done)] at hM hg
    exact zc_vret (hPost H hM hg) hS hx hb hr hlk (Nat.le_of_ble_eq_true rfl) (Nat.le_of_ble_eq_true rfl) dX1_done_12
theorem kX_done {pr : Program} {l : Launch} {en : Env} {R : Room} {s : State} {m : MethodId} {args : Array Value} {below : List Frame} {meth : Method} {cd : Code} {H : Heap} {locs : List Loc} {cells slots : Nat} {cc : ByteArray} {pc nL : Nat} {ls : Array Slot} {rest : List Value} {D : va_G} {dA : Nat → ClassId} {cn : Nat → Nat} {A : Nat → Prop} {pa : NM → Nat} {g : G} {T : va_W} {Q : State → Prop} (S : CallFix pr m cd cc nL s args lw_all RX1) (hKX : KX D dA cn A s) (hM : XS D dA cn A pa g T H) (hg : Sm g) (hS : va_S A s.heap H locs) (hA : ∀ q, H.size ≤ q → A q) (a1 : Bool) (ht : g 7 4 < 3) (h6 : ∀ c, c < 24 → g 2 c ≤ 6) (hr8 : ∀ p, p < 3 → roadsN g p 30 ≤ 8) (h7 : g 7 7 ≤ 3) (hnc : g 8 0 ≤ 15) (hf : 17 + 1 ≤ R.frames) (hlo : 8 + (2 + 11) + 813 ≤ R.locals) (hsz : ls.size = nL) (hcat : (rest.map fun v => v.category).sum ≤ 8) (hdg : decode cc pc = .ok (.invokevirtual 246, 3)) (hq1 : cells + 1 ≤ R.cells) (hq2 : slots + 4 ≤ R.slots) (kk : ∀ (H1 : Heap) (locs1 : List Loc), XS D dA cn A pa (gDoneX g a1) T H1 → Sm (gDoneX g a1) → va_S A s.heap H1 locs1 → W pr l en R s m args below meth cd H1 locs1 (cells + 1) (slots + 4) Q (F0 m (pc + 3) ls (rest))) : W pr l en R s m args below meth cd H locs cells slots Q (F0 m pc ls (.int (nI (a1).toNat) :: .ref (pa (0, 0)) :: rest)) :=
  zc_callV (n := 1) (As := [.int (nI (a1).toNat)]) (rest := rest) S (cX_done l hg a1 ht h6 hr8 h7 hnc H hM hA (Post := (fun v H1 => v = none ∧ XS D dA cn A pa (gDoneX g a1) T H1 ∧ Sm (gDoneX g a1))) (fun H1 h h2 => ⟨rfl, h, h2⟩)) (lw_V q510 q512 qs6 q71 q513) (by decide +kernel) ⟨hf, hlo⟩ ⟨hq1, hq2⟩ (zx_recv hKX.1 hM) KX_mv (zc_K KX_mv hKX hS) hS (fun _ h => h) rfl hsz rfl hcat hdg (fun v H1 locs1 hp _ _ hS1 => by obtain ⟨rfl, hM1, hg1⟩ := hp; exact kk H1 locs1 hM1 hg1 hS1)
def cdEndTurn (g : G) : Nat := (if (decide (g 7 1 = 2)) = true then 0 else 3)
set_option maxHeartbeats 1000000 in
set_option maxRecDepth 100000 in
theorem cX_endTurn (l : Launch) (hfl : l.stackTraces = false) {D : va_G} {dA : Nat → ClassId} {cn : Nat → Nat} {A : Nat → Prop} {pa : NM → Nat} {g : G} {T : va_W} (hg : Sm g) (ht : g 7 4 < 3) (h6 : ∀ c, c < 24 → g 2 c ≤ 6) (hnc : g 8 0 ≤ 15) (htn : g 7 3 ≤ 1000) (H0 : Heap) (hM : XS D dA cn A pa g T H0) (hA : ∀ q, H0.size ≤ q → A q) {Post : Option Value → Heap → Prop} {XPost : String → Heap → Prop} (hPost : (cdEndTurn g ) = 0 → ∀ H : Heap, XS D dA cn A pa (gWinX (gs (gs (gs (gs (eoN g 3) 7 4 ((eoN g 3 7 4 + 1) % 3)) 7 3 (eoN g 3 7 3 + 1)) 7 6 0) 7 1 1)) T H → Sm (gWinX (gs (gs (gs (gs (eoN g 3) 7 4 ((eoN g 3 7 4 + 1) % 3)) 7 3 (eoN g 3 7 3 + 1)) 7 6 0) 7 1 1)) → Post (some (.int (nI ((gWinX (gs (gs (gs (gs (eoN g 3) 7 4 ((eoN g 3 7 4 + 1) % 3)) 7 3 (eoN g 3 7 3 + 1)) 7 6 0) 7 1 1)) 7 4)))) H) (hXP : ∀ n : Nat, (cdEndTurn g ) = n → n ≠ 0 → ∀ H : Heap, XS D dA cn A pa g T H → XPost (exS n) H) : vCt l yX1_endTurn (ws_ yX1_endTurn cX1_endTurn 1 (some .int)) (rmF 11 2 10 546) A (KX D dA cn A) [.ref (pa (0, 0))] H0 Post XPost := by
  refine vc_of RX1 rfl (by decide) (Nat.le_of_ble_eq_true rfl) ?_
  intro pr en s m args below meth cd S hr hlk hnm hno hh hKX ls hl
  have hS : va_S A s.heap H0 [] := zc_start hh
  have hA : ∀ q, s.heap.size ≤ q → A q := fun q h => hA q (by rw [← hh]; exact h)
  have hg0 := hg
  have hx := S.1
  have hb := S.2.1
  have hown := S.2.2.2.1
  have hts := S.2.2.2.2
  have hK := hKX.1
  have hN := hKX.2.1.1
  have hl : lv_has ls 1 [(0, .ref (pa (0, 0)))] := hl
  refine lv_aload_n hx hb dX1_endTurn_0 rfl (lv_at hl 0 rfl) ?_
  refine gX_phase S hK hM (g 7 1) rfl dX1_endTurn_1 ?_
  have hb_1 : g 7 1 < 1048576 := by first | exact hg 7 1 | exact hg0 _ _ | (have := hg 7 1; omega) | omega
  refine lv_iconst (v := nI 2) hx hb dX1_endTurn_4 zi_2 ?_
  have J_13 : ∀ yS0_13 : Int32, yS0_13 = nI (decide ((g 7 1) = 2)).toNat → ∀ (H : Heap) (locs : List Loc), XS D dA cn A pa g T H → va_S A s.heap H locs → ∀ ls : Array Slot, lv_has ls 1 [(0, .ref (pa (0, 0)))] → W pr l en (rmF 11 2 10 546) s m args below meth cd H locs (0) (0) (vx_MQ below (zc_Q Post A) (vc_X XPost A) args s 2 10 A) (F0 m 13 ls [.int yS0_13]) := by
    intro yS0_13 eyS0_13 H locs hM hS ls hl
    subst eyS0_13
    refine kX_checkState hfl S hKX hM hg hS (fun q h => hA q (Nat.le_trans hS.1 h)) (decide ((g 7 1) = 2))  (Nat.le_of_ble_eq_true rfl) (Nat.le_of_ble_eq_true rfl) hl.1 (Nat.le_of_ble_eq_true rfl) dX1_endTurn_13 (Nat.le_of_ble_eq_true rfl) (Nat.le_of_ble_eq_true rfl) hno hlk (Nat.le_of_ble_eq_true rfl) (Nat.le_of_ble_eq_true rfl) (fun c_3 H1 hM1 => hXP 3 (by first | (simp only [c_3, cdEndTurn, Bool.true_and, Bool.and_true, Bool.false_and, Bool.and_false, reduceIte, Bool.false_eq_true]; done) | (simp [c_3, cdEndTurn]; done) | grind | (simp_all; done)) (by decide) H1 hM1) (fun c_3 H locs hM hg hS => ?_)
    refine lv_aload_n hx hb dX1_endTurn_16 rfl (lv_at hl 0 rfl) ?_
    refine kX_forgetOffers S hKX hM hg hS (fun q h => hA q (Nat.le_trans hS.1 h))   (Nat.le_of_ble_eq_true rfl) (Nat.le_of_ble_eq_true rfl) hl.1 (Nat.le_of_ble_eq_true rfl) dX1_endTurn_17 (Nat.le_of_ble_eq_true rfl) (Nat.le_of_ble_eq_true rfl) (fun H locs hM hg hS => ?_)
    refine lv_aload_n hx hb dX1_endTurn_20 rfl (lv_at hl 0 rfl) ?_
    refine lv_aload_n hx hb dX1_endTurn_21 rfl (lv_at hl 0 rfl) ?_
    refine gX_turn S hK hM ((eoN g 3) 7 4) rfl dX1_endTurn_22 ?_
    have hb_4 : (eoN g 3) 7 4 < 1048576 := by first | exact hg 7 4 | exact hg0 _ _ | (have := hg 7 4; omega) | omega
    refine lv_iconst (v := nI 1) hx hb dX1_endTurn_25 zi_1 ?_
    refine zr_addN (a := ((eoN g 3) 7 4)) (b := 1) hx hb dX1_endTurn_26 ?_
    refine lv_iconst (v := nI 3) hx hb dX1_endTurn_27 zi_3 ?_
    refine zr_remN (a := (((eoN g 3) 7 4) + 1)) (b := 3) hx hb (by omega) (by omega) (by omega) dX1_endTurn_28 ?_
    refine pX_turn S hK hM hS ((((eoN g 3) 7 4) + 1) % 3) dX1_endTurn_29 (fun H locs hM hS => ?_)
    have hg : Sm (gs (eoN g 3) 7 4 ((((eoN g 3) 7 4) + 1) % 3)) := Sm_gs hg (by first | omega | exact Nat.lt_of_le_of_lt (Bool.toNat_le _) (by decide) | ((repeat' split) <;> omega))
    refine lv_aload_n hx hb dX1_endTurn_32 rfl (lv_at hl 0 rfl) ?_
    refine lv_dup hx hb dX1_endTurn_33 rfl ?_
    refine gX_turns S hK hM ((eoN g 3) 7 3) (by first | rfl | simp [gs]) dX1_endTurn_34 ?_
    have hb_5 : (eoN g 3) 7 3 < 1048576 := by first | exact hg 7 3 | exact hg0 _ _ | (have := hg 7 3; omega) | omega
    have hts2 : (eoN g 3) 7 3 ≤ 1000 := by rw [eoN_nf _ (by decide) (by decide) (by decide)]; exact htn
    refine lv_iconst (v := nI 1) hx hb dX1_endTurn_37 zi_1 ?_
    refine zr_addN (a := ((eoN g 3) 7 3)) (b := 1) hx hb dX1_endTurn_38 ?_
    refine pX_turns S hK hM hS (((eoN g 3) 7 3) + 1) dX1_endTurn_39 (fun H locs hM hS => ?_)
    have hg : Sm (gs (gs (eoN g 3) 7 4 ((((eoN g 3) 7 4) + 1) % 3)) 7 3 (((eoN g 3) 7 3) + 1)) := Sm_gs hg (by first | omega | exact Nat.lt_of_le_of_lt (Bool.toNat_le _) (by decide) | ((repeat' split) <;> omega))
    refine lv_aload_n hx hb dX1_endTurn_42 rfl (lv_at hl 0 rfl) ?_
    refine lv_iconst (v := nI 0) hx hb dX1_endTurn_43 zi_0 ?_
    refine pX_hasUsed S hK hM hS 0 (by omega) dX1_endTurn_44 (fun H locs hM hS => ?_)
    have hg : Sm (gs (gs (gs (eoN g 3) 7 4 ((((eoN g 3) 7 4) + 1) % 3)) 7 3 (((eoN g 3) 7 3) + 1)) 7 6 0) := Sm_gs hg (by first | omega | exact Nat.lt_of_le_of_lt (Bool.toNat_le _) (by decide) | ((repeat' split) <;> omega))
    refine lv_aload_n hx hb dX1_endTurn_47 rfl (lv_at hl 0 rfl) ?_
    refine lv_iconst (v := nI 1) hx hb dX1_endTurn_48 zi_1 ?_
    refine pX_phase S hK hM hS 1 dX1_endTurn_49 (fun H locs hM hS => ?_)
    have hg : Sm (gs (gs (gs (gs (eoN g 3) 7 4 ((((eoN g 3) 7 4) + 1) % 3)) 7 3 (((eoN g 3) 7 3) + 1)) 7 6 0) 7 1 1) := Sm_gs hg (by first | omega | exact Nat.lt_of_le_of_lt (Bool.toNat_le _) (by decide) | ((repeat' split) <;> omega))
    refine lv_aload_n hx hb dX1_endTurn_52 rfl (lv_at hl 0 rfl) ?_
    refine kX_lookForWinner S hKX hM hg hS (fun q h => hA q (Nat.le_trans hS.1 h))  (by exact Nat.mod_lt _ (by decide)) (by intro c hc; show eoN g 3 2 c ≤ 6; rw [eoN_nf _ (by decide) (by decide) (by decide)]; exact h6 c hc) (by show eoN g 3 8 0 ≤ 15; rw [eoN_nf _ (by decide) (by decide) (by decide)]; exact hnc) (Nat.le_of_ble_eq_true rfl) (Nat.le_of_ble_eq_true rfl) hl.1 (Nat.le_of_ble_eq_true rfl) dX1_endTurn_53 (Nat.le_of_ble_eq_true rfl) (Nat.le_of_ble_eq_true rfl) (fun H locs hM hg hS => ?_)
    refine lv_aload_n hx hb dX1_endTurn_56 rfl (lv_at hl 0 rfl) ?_
    refine gX_turn S hK hM ((gWinX (gs (gs (gs (gs (eoN g 3) 7 4 ((((eoN g 3) 7 4) + 1) % 3)) 7 3 (((eoN g 3) 7 3) + 1)) 7 6 0) 7 1 1)) 7 4) rfl dX1_endTurn_57 ?_
    have hb_6 : (gWinX (gs (gs (gs (gs (eoN g 3) 7 4 ((((eoN g 3) 7 4) + 1) % 3)) 7 3 (((eoN g 3) 7 3) + 1)) 7 6 0) 7 1 1)) 7 4 < 1048576 := by first | exact hg 7 4 | exact hg0 _ _ | (have := hg 7 4; omega) | omega
    rw [show (gWinX (gs (gs (gs (gs (eoN g 3) 7 4 ((((eoN g 3) 7 4) + 1) % 3)) 7 3 (((eoN g 3) 7 3) + 1)) 7 6 0) 7 1 1) : G) = gWinX (gs (gs (gs (gs (eoN g 3) 7 4 ((eoN g 3 7 4 + 1) % 3)) 7 3 (eoN g 3 7 3 + 1)) 7 6 0) 7 1 1) from by first | with_reducible rfl | (simp [c_3, cdEndTurn]; done) | (simp only [c_3] <;> simp [cdEndTurn]; done) | (simp only [cdEndTurn, c_3] <;> simp [cdEndTurn]; done) | (simp [c_3, cdEndTurn, Bool.and_assoc]; done) | (simp [c_3, cdEndTurn, Bool.and_assoc, Bool.or_assoc]; done) | rfl | (simp [c_3, cdEndTurn]; omega) | (simp_all [cdEndTurn]; done)] at hM hg
    exact vx_ret (zc_nret (nI ((gWinX (gs (gs (gs (gs (eoN g 3) 7 4 ((eoN g 3 7 4 + 1) % 3)) 7 3 (eoN g 3 7 3 + 1)) 7 6 0) 7 1 1)) 7 4)) (congrArg nI (show ((gWinX (gs (gs (gs (gs (eoN g 3) 7 4 ((((eoN g 3) 7 4) + 1) % 3)) 7 3 (((eoN g 3) 7 3) + 1)) 7 6 0) 7 1 1)) 7 4 : Nat) = ((gWinX (gs (gs (gs (gs (eoN g 3) 7 4 ((eoN g 3 7 4 + 1) % 3)) 7 3 (eoN g 3 7 3 + 1)) 7 6 0) 7 1 1)) 7 4) from by first | with_reducible rfl | (simp [c_3, cdEndTurn]; done) | (simp only [c_3] <;> simp [cdEndTurn]; done) | (simp only [cdEndTurn, c_3] <;> simp [cdEndTurn]; done) | (simp [c_3, cdEndTurn, Bool.and_assoc]; done) | (simp [c_3, cdEndTurn, Bool.and_assoc, Bool.or_assoc]; done) | rfl | (simp [c_3, cdEndTurn]; omega) | (simp_all [cdEndTurn]; done))) (hPost (by first | rfl | (simp only [c_3, cdEndTurn, Bool.true_and, Bool.and_true, reduceIte]; done) | (simp [c_3, cdEndTurn]; done) | grind | (simp_all; done)) H hM hg) hS hx hb hr hlk (Nat.le_of_ble_eq_true rfl) (Nat.le_of_ble_eq_true rfl) dX1_endTurn_60)
  refine zr_icmp_neN (a := (g 7 1)) (b := 2) (tgt := 12) hx hb (by omega) (by omega) dX1_endTurn_5 (by decide) (fun c_7 => ?_) (fun c_7 => ?_)
  · refine lv_iconst (v := nI 0) hx hb dX1_endTurn_12 zi_0 ?_
    exact J_13 _ (congrArg (fun z : Bool => nI z.toNat) (show (false : Bool) = (decide ((g 7 1) = 2)) from by first | with_reducible rfl | (simp [c_7, cdEndTurn]; done) | (simp only [c_7] <;> simp [cdEndTurn]; done) | (simp only [cdEndTurn, c_7] <;> simp [cdEndTurn]; done) | (simp [c_7, cdEndTurn, Bool.and_assoc]; done) | (simp [c_7, cdEndTurn, Bool.and_assoc, Bool.or_assoc]; done) | rfl | (simp [c_7, cdEndTurn]; omega) | (simp_all [cdEndTurn]; done))) H0 [] hM hS ls (lv_sub hl [0] rfl)
  · refine lv_iconst (v := nI 1) hx hb dX1_endTurn_8 zi_1 ?_
    refine lv_goto (tgt := 13) hx hb dX1_endTurn_9 (by decide) ?_
    exact J_13 _ (congrArg (fun z : Bool => nI z.toNat) (show (true : Bool) = (decide ((g 7 1) = 2)) from by first | with_reducible rfl | (simp [c_7, cdEndTurn]; done) | (simp only [c_7] <;> simp [cdEndTurn]; done) | (simp only [cdEndTurn, c_7] <;> simp [cdEndTurn]; done) | (simp [c_7, cdEndTurn, Bool.and_assoc]; done) | (simp [c_7, cdEndTurn, Bool.and_assoc, Bool.or_assoc]; done) | rfl | (simp [c_7, cdEndTurn]; omega) | (simp_all [cdEndTurn]; done))) H0 [] hM hS ls (lv_sub hl [0] rfl)
def xCds (g : G) (p k : Nat) : Nat → Nat
  | 0 => 0
  | i + 1 => xCds g p k i + (decide (g 9 i = p) && (decide (deckK i = k) && decide (g 11 i = 0))).toNat
theorem xCds_le (g : G) (p k : Nat) : ∀ i, xCds g p k i ≤ i := by
  intro i
  induction i with
  | zero => exact Nat.le_refl _
  | succ i ih => have := Bool.toNat_le (decide (g 9 i = p) && (decide (deckK i = k) && decide (g 11 i = 0))); simp only [xCds]; omega
def cdCards (g : G) (a1 : Int32) (a2 : Int32) : Nat := (if (inB a1 3) = true then (if (inR a2 0 4) = true then 0 else 2) else 1)
set_option maxHeartbeats 1000000 in
set_option maxRecDepth 100000 in
theorem cX_cards (l : Launch) (hfl : l.stackTraces = false) {D : va_G} {dA : Nat → ClassId} {cn : Nat → Nat} {A : Nat → Prop} {pa : NM → Nat} {g : G} {T : va_W} (hg : Sm g) (a1 : Int32) (a2 : Int32) (hnc : g 8 0 ≤ 15) (H0 : Heap) (hM : XS D dA cn A pa g T H0) (hA : ∀ q, H0.size ≤ q → A q) {Post : Option Value → Heap → Prop} {XPost : String → Heap → Prop} (hPost : (cdCards g a1 a2) = 0 → ∀ H : Heap, XS D dA cn A pa g T H → Sm g → Post (some (.int (nI (xCds g (tn a1) (tn a2) (g 8 0))))) H) (hXP : ∀ n : Nat, (cdCards g a1 a2) = n → n ≠ 0 → ∀ H : Heap, XS D dA cn A pa g T H → XPost (exS n) H) : vCt l yX1_cards (ws_ yX1_cards cX1_cards 6 (some .int)) (rmF 9 3 16 500) A (KX D dA cn A) [.ref (pa (0, 0)), .int a1, .int a2] H0 Post XPost := by
  refine vc_of RX1 rfl (by decide) (Nat.le_of_ble_eq_true rfl) ?_
  intro pr en s m args below meth cd S hr hlk hnm hno hh hKX ls hl
  have hS : va_S A s.heap H0 [] := zc_start hh
  have hA : ∀ q, s.heap.size ≤ q → A q := fun q h => hA q (by rw [← hh]; exact h)
  have hg0 := hg
  have hx := S.1
  have hb := S.2.1
  have hown := S.2.2.2.1
  have hts := S.2.2.2.2
  have hK := hKX.1
  have hN := hKX.2.1.1
  have hl : lv_has ls 6 [(0, .ref (pa (0, 0))), (1, .int a1), (2, .int a2)] := hl
  refine lv_iload_n hx hb dX1_cards_0 rfl (lv_at hl 1 rfl) ?_
  refine lv_iconst (v := nI 3) hx hb dX1_cards_1 zi_3 ?_
  refine kX_check hfl S hKX hM hg hS (fun q h => hA q (Nat.le_trans hS.1 h)) a1 3 (by first | omega | assumption | grind) (Nat.le_of_ble_eq_true rfl) (Nat.le_of_ble_eq_true rfl) hl.1 (Nat.le_of_ble_eq_true rfl) dX1_cards_2 (Nat.le_of_ble_eq_true rfl) (Nat.le_of_ble_eq_true rfl) hno hlk (Nat.le_of_ble_eq_true rfl) (Nat.le_of_ble_eq_true rfl) (fun c_1 H1 hM1 => hXP 1 (by first | (simp only [c_1, xCds, cdCards, Bool.true_and, Bool.and_true, Bool.false_and, Bool.and_false, reduceIte, Bool.false_eq_true]; done) | (simp [c_1, xCds, cdCards]; done) | grind | (simp_all; done)) (by decide) H1 hM1) (fun c_1 H locs hM hg hS => ?_)
  obtain ⟨hj1, ea1⟩ := inB_tn (by decide) c_1
  rw [ea1] at hl
  refine lv_iload_n hx hb dX1_cards_5 rfl (lv_at hl 2 rfl) ?_
  refine lv_iconst (v := nI 0) hx hb dX1_cards_6 zi_0 ?_
  refine lv_iconst (v := nI 4) hx hb dX1_cards_7 zi_4 ?_
  refine kX_checkRange hfl S hKX hM hg hS (fun q h => hA q (Nat.le_trans hS.1 h)) a2 0 4 (by first | omega | assumption | grind) (by first | omega | assumption | grind) (Nat.le_of_ble_eq_true rfl) (Nat.le_of_ble_eq_true rfl) hl.1 (Nat.le_of_ble_eq_true rfl) dX1_cards_8 (Nat.le_of_ble_eq_true rfl) (Nat.le_of_ble_eq_true rfl) hno hlk (Nat.le_of_ble_eq_true rfl) (Nat.le_of_ble_eq_true rfl) (fun c_2 H1 hM1 => hXP 2 (by first | (simp only [c_1, c_2, xCds, cdCards, Bool.true_and, Bool.and_true, Bool.false_and, Bool.and_false, reduceIte, Bool.false_eq_true]; done) | (simp [c_1, c_2, xCds, cdCards]; done) | grind | (simp_all; done)) (by decide) H1 hM1) (fun c_2 H locs hM hg hS => ?_)
  obtain ⟨lj2, hj2, ea2⟩ := inR_tn (by decide) (by decide) c_2
  rw [ea2] at hl
  refine lv_iconst (v := nI 0) hx hb dX1_cards_11 zi_0 ?_
  refine lv_istore_n (lv' := [(3, .int (nI 0)), (0, .ref (pa (0, 0))), (1, .int (nI (tn a1))), (2, .int (nI (tn a2)))]) hx hb dX1_cards_12 rfl hl (by decide) rfl (fun ls hl => ?_)
  refine lv_aload_n hx hb dX1_cards_13 rfl (lv_at hl 1 rfl) ?_
  refine gX_cards S hK hM dX1_cards_14 ?_
  refine kL_iter_c S hKX hM hS (fun q h => hA q (Nat.le_trans hS.1 h)) (Nat.le_of_ble_eq_true rfl) (Nat.le_of_ble_eq_true rfl) hl.1 (Nat.le_of_ble_eq_true rfl) (Nat.le_of_ble_eq_true rfl) (Nat.le_of_ble_eq_true rfl) dX1_cards_17 (fun it_3 H locs hM hS => ?_)
  refine lv_astore (lv' := [(4, .ref it_3), (3, .int (nI 0)), (0, .ref (pa (0, 0))), (1, .int (nI (tn a1))), (2, .int (nI (tn a2)))]) hx hb dX1_cards_22 hl (by decide) rfl (fun ls hl => ?_)
  have L_24 : ∀ (n_24 : Nat) (i : Nat), i ≤ g 8 0 → g 8 0 - i < n_24 → ∀ x3_24 : Int32, x3_24 = nI (xCds g (tn a1) (tn a2) i) → ∀ (H : Heap) (locs : List Loc), XS D dA cn A pa g (T ++ [(it_3, itC pa (g 8 0) i)]) H → va_S A s.heap H locs → ∀ ls : Array Slot, lv_has ls 6 [(1, .int (nI (tn a1))), (2, .int (nI (tn a2))), (3, .int x3_24), (4, .ref it_3)] → W pr l en (rmF 9 3 16 500) s m args below meth cd H locs (3) (16) (vx_MQ below (zc_Q Post A) (vc_X XPost A) args s 3 16 A) (F0 m 24 ls []) := by
    intro n_24
    induction n_24 with
    | zero => intro i hi_24 hm_24; exact absurd hm_24 (Nat.not_lt_zero _)
    | succ n_24 ih_24 =>
      intro i hi_24 hm_24 x3_24 ex3_24 H locs hM hS ls hl
      subst ex3_24
      refine lv_aload hx hb dX1_cards_24 (lv_at hl 3 rfl) ?_
      refine kL_has_c S hKX (i := i) hM hS (by omega) (by omega) (Nat.le_of_ble_eq_true rfl) (Nat.le_of_ble_eq_true rfl) hl.1 (Nat.le_of_ble_eq_true rfl) (Nat.le_of_ble_eq_true rfl) (Nat.le_of_ble_eq_true rfl) dX1_cards_26 (fun locs hS => ?_)
      refine zr_if_eqB (b := decide (i < g 8 0)) (tgt := 86) hx hb dX1_cards_31 (by decide) (fun c_4 => ?_) (fun c_4 => ?_)
      · have hge_31 : ¬ i < g 8 0 := by simpa using c_4
        have e_i : g 8 0 = i := by omega
        subst e_i
        refine lv_iload_n hx hb dX1_cards_86 rfl (lv_at hl 2 rfl) ?_
        have hM := hM.drop
        exact vx_ret (zc_nret (nI (xCds g (tn a1) (tn a2) (g 8 0))) rfl (hPost (by first | rfl | (simp only [c_1, c_2, c_4, xCds, cdCards, Bool.true_and, Bool.and_true, reduceIte]; done) | (simp [c_1, c_2, c_4, xCds, cdCards]; done) | grind | (simp_all; done)) H hM hg) hS hx hb hr hlk (Nat.le_of_ble_eq_true rfl) (Nat.le_of_ble_eq_true rfl) dX1_cards_87)
      · have hlt_31 := of_decide_eq_true c_4
        have hcd := xCds_le g (tn a1) (tn a2) i
        refine lv_aload hx hb dX1_cards_34 (lv_at hl 3 rfl) ?_
        refine kL_next_c S hKX (i := i) hM hS (by omega) (by omega) (Nat.le_of_ble_eq_true rfl) (Nat.le_of_ble_eq_true rfl) hl.1 (Nat.le_of_ble_eq_true rfl) (Nat.le_of_ble_eq_true rfl) (Nat.le_of_ble_eq_true rfl) dX1_cards_36 (fun H locs hM hS => ?_)
        have hM := itC_s hM
        refine kL_cast_c S hKX hM (i := i) (by omega) dX1_cards_41 ?_
        refine lv_astore (lv' := [(5, .ref (pa (13, i))), (1, .int (nI (tn a1))), (2, .int (nI (tn a2))), (3, .int (nI (xCds g (tn a1) (tn a2) i))), (4, .ref it_3)]) hx hb dX1_cards_44 hl (by decide) rfl (fun ls hl => ?_)
        refine lv_iload_n hx hb dX1_cards_46 rfl (lv_at hl 3 rfl) ?_
        refine lv_aload hx hb dX1_cards_47 (lv_at hl 0 rfl) ?_
        refine gN_card_owner S hK hM hN i (by omega) (g 9 i) rfl dX1_cards_49 ?_
        have hb_5 : g 9 i < 1048576 := by first | exact hg 9 i | exact hg0 _ _ | (have := hg 9 i; omega) | omega
        refine lv_iload_n hx hb dX1_cards_52 rfl (lv_at hl 1 rfl) ?_
        have J_81 : ∀ yS0_81 : Int32, yS0_81 = nI (decide ((g 9 i) = (tn a1)) && (decide ((deckK i) = (tn a2)) && (decide ((g 11 i) = 0)))).toNat → ∀ (H : Heap) (locs : List Loc), XS D dA cn A pa g (T ++ [(it_3, itC pa (g 8 0) (i + 1))]) H → va_S A s.heap H locs → ∀ ls : Array Slot, lv_has ls 6 [(1, .int (nI (tn a1))), (2, .int (nI (tn a2))), (4, .ref it_3)] → W pr l en (rmF 9 3 16 500) s m args below meth cd H locs (3) (16) (vx_MQ below (zc_Q Post A) (vc_X XPost A) args s 3 16 A) (F0 m 81 ls [.int yS0_81, .int (nI (xCds g (tn a1) (tn a2) i))]) := by
          intro yS0_81 eyS0_81 H locs hM hS ls hl
          subst eyS0_81
          refine zr_addN (a := (xCds g (tn a1) (tn a2) i)) (b := ((decide ((g 9 i) = (tn a1)) && (decide ((deckK i) = (tn a2)) && (decide ((g 11 i) = 0)))).toNat)) hx hb dX1_cards_81 ?_
          refine lv_istore_n (lv' := [(3, .int (nI ((xCds g (tn a1) (tn a2) i) + ((decide ((g 9 i) = (tn a1)) && (decide ((deckK i) = (tn a2)) && (decide ((g 11 i) = 0)))).toNat)))), (1, .int (nI (tn a1))), (2, .int (nI (tn a2))), (4, .ref it_3)]) hx hb dX1_cards_82 rfl hl (by decide) rfl (fun ls hl => ?_)
          refine lv_goto (tgt := 24) hx hb dX1_cards_83 (by decide) ?_
          exact ih_24 (i + 1) (by first | omega | assumption | (simp; done) | grind) (by omega) _ (rfl) H locs hM hS ls (lv_sub hl [1, 2, 0, 3] rfl)
        refine zr_icmp_neN (a := (g 9 i)) (b := (tn a1)) (tgt := 80) hx hb (by omega) (by omega) dX1_cards_53 (by decide) (fun c_11 => ?_) (fun c_11 => ?_)
        · refine lv_iconst (v := nI 0) hx hb dX1_cards_80 zi_0 ?_
          exact J_81 _ (congrArg (fun z : Bool => nI z.toNat) (show (false : Bool) = (decide ((g 9 i) = (tn a1)) && (decide ((deckK i) = (tn a2)) && (decide ((g 11 i) = 0)))) from by first | with_reducible rfl | (simp [c_1, c_2, c_4, c_11, xCds, cdCards]; done) | (simp only [c_1, c_2, c_4, c_11] <;> simp [xCds, cdCards]; done) | (simp only [xCds, cdCards, c_1, c_2, c_4, c_11] <;> simp [xCds, cdCards]; done) | (simp [c_1, c_2, c_4, c_11, xCds, cdCards, Bool.and_assoc]; done) | (simp [c_1, c_2, c_4, c_11, xCds, cdCards, Bool.and_assoc, Bool.or_assoc]; done) | rfl | (simp [c_1, c_2, c_4, c_11, xCds, cdCards]; omega) | (simp_all [xCds, cdCards]; done))) H locs hM hS ls (lv_sub hl [1, 2, 4] rfl)
        · refine lv_aload hx hb dX1_cards_56 (lv_at hl 0 rfl) ?_
          refine gN_card_kind S hK hM hN i (by omega) dX1_cards_58 ?_
          refine kI_kord S hKX hS (deckK i) (deckK_lt _) (Nat.le_of_ble_eq_true rfl) (Nat.le_of_ble_eq_true rfl) hl.1 (Nat.le_of_ble_eq_true rfl) (Nat.le_of_ble_eq_true rfl) (Nat.le_of_ble_eq_true rfl) dX1_cards_61 (fun locs hS => ?_)
          have hb_12 : deckK i < 5 := (deckK_lt _)
          refine lv_iload_n hx hb dX1_cards_64 rfl (lv_at hl 2 rfl) ?_
          refine zr_icmp_neN (a := (deckK i)) (b := (tn a2)) (tgt := 80) hx hb (by omega) (by omega) dX1_cards_65 (by decide) (fun c_13 => ?_) (fun c_13 => ?_)
          · refine lv_iconst (v := nI 0) hx hb dX1_cards_80 zi_0 ?_
            exact J_81 _ (congrArg (fun z : Bool => nI z.toNat) (show (false : Bool) = (decide ((g 9 i) = (tn a1)) && (decide ((deckK i) = (tn a2)) && (decide ((g 11 i) = 0)))) from by first | with_reducible rfl | (simp [c_1, c_2, c_4, c_11, c_13, xCds, cdCards]; done) | (simp only [c_1, c_2, c_4, c_11, c_13] <;> simp [xCds, cdCards]; done) | (simp only [xCds, cdCards, c_1, c_2, c_4, c_11, c_13] <;> simp [xCds, cdCards]; done) | (simp [c_1, c_2, c_4, c_11, c_13, xCds, cdCards, Bool.and_assoc]; done) | (simp [c_1, c_2, c_4, c_11, c_13, xCds, cdCards, Bool.and_assoc, Bool.or_assoc]; done) | rfl | (simp [c_1, c_2, c_4, c_11, c_13, xCds, cdCards]; omega) | (simp_all [xCds, cdCards]; done))) H locs hM hS ls (lv_sub hl [1, 2, 4] rfl)
          · refine lv_aload hx hb dX1_cards_68 (lv_at hl 0 rfl) ?_
            refine gN_card_isUsed S hK hM hN i (by omega) (g 11 i) rfl dX1_cards_70 ?_
            have hb_14 : g 11 i < 1048576 := by first | exact hg 11 i | exact hg0 _ _ | (have := hg 11 i; omega) | omega
            refine zr_if_neN (a := (g 11 i)) (tgt := 80) hx hb (by omega) dX1_cards_73 (by decide) (fun c_15 => ?_) (fun c_15 => ?_)
            · refine lv_iconst (v := nI 0) hx hb dX1_cards_80 zi_0 ?_
              exact J_81 _ (congrArg (fun z : Bool => nI z.toNat) (show (false : Bool) = (decide ((g 9 i) = (tn a1)) && (decide ((deckK i) = (tn a2)) && (decide ((g 11 i) = 0)))) from by first | with_reducible rfl | (simp [c_1, c_2, c_4, c_11, c_13, c_15, xCds, cdCards]; done) | (simp only [c_1, c_2, c_4, c_11, c_13, c_15] <;> simp [xCds, cdCards]; done) | (simp only [xCds, cdCards, c_1, c_2, c_4, c_11, c_13, c_15] <;> simp [xCds, cdCards]; done) | (simp [c_1, c_2, c_4, c_11, c_13, c_15, xCds, cdCards, Bool.and_assoc]; done) | (simp [c_1, c_2, c_4, c_11, c_13, c_15, xCds, cdCards, Bool.and_assoc, Bool.or_assoc]; done) | rfl | (simp [c_1, c_2, c_4, c_11, c_13, c_15, xCds, cdCards]; omega) | (simp_all [xCds, cdCards]; done))) H locs hM hS ls (lv_sub hl [1, 2, 4] rfl)
            · refine lv_iconst (v := nI 1) hx hb dX1_cards_76 zi_1 ?_
              refine lv_goto (tgt := 81) hx hb dX1_cards_77 (by decide) ?_
              exact J_81 _ (congrArg (fun z : Bool => nI z.toNat) (show (true : Bool) = (decide ((g 9 i) = (tn a1)) && (decide ((deckK i) = (tn a2)) && (decide ((g 11 i) = 0)))) from by first | with_reducible rfl | (simp [c_1, c_2, c_4, c_11, c_13, c_15, xCds, cdCards]; done) | (simp only [c_1, c_2, c_4, c_11, c_13, c_15] <;> simp [xCds, cdCards]; done) | (simp only [xCds, cdCards, c_1, c_2, c_4, c_11, c_13, c_15] <;> simp [xCds, cdCards]; done) | (simp [c_1, c_2, c_4, c_11, c_13, c_15, xCds, cdCards, Bool.and_assoc]; done) | (simp [c_1, c_2, c_4, c_11, c_13, c_15, xCds, cdCards, Bool.and_assoc, Bool.or_assoc]; done) | rfl | (simp [c_1, c_2, c_4, c_11, c_13, c_15, xCds, cdCards]; omega) | (simp_all [xCds, cdCards]; done))) H locs hM hS ls (lv_sub hl [1, 2, 4] rfl)
  exact L_24 _ 0 (by first | omega | assumption | (simp; done) | grind) (Nat.lt_succ_self _) _ (congrArg nI (show (0 : Nat) = (xCds g (tn a1) (tn a2) 0) from by first | with_reducible rfl | (simp [c_1, c_2, xCds, cdCards]; done) | (simp only [c_1, c_2] <;> simp [xCds, cdCards]; done) | (simp only [xCds, cdCards, c_1, c_2] <;> simp [xCds, cdCards]; done) | (simp [c_1, c_2, xCds, cdCards, Bool.and_assoc]; done) | (simp [c_1, c_2, xCds, cdCards, Bool.and_assoc, Bool.or_assoc]; done) | rfl | (simp [c_1, c_2, xCds, cdCards]; omega) | (simp_all [xCds, cdCards]; done))) H locs hM hS ls (lv_sub hl [3, 4, 1, 0] rfl)
