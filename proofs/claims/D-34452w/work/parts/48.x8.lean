/-! THE CLASS: cards that are used (printed by gen/x8.py) -/
def moX (y : G) (t gd : Nat) : Nat → G
  | 0 => y
  | i + 1 => if i = t then moX y t gd i else mvX (moX y t gd i) i t gd (moX y t gd i 4 (5 * i + gd))
def msX (y : G) (t gd : Nat) : Nat → Nat
  | 0 => 0
  | i + 1 => msX y t gd i + (if i = t then 0 else moX y t gd i 4 (5 * i + gd))
theorem mvX_le {y : G} {a b k n B C : Nat} (hb : ∀ j, j < 20 → y 4 j ≤ B) (hn : n ≤ C) : ∀ j, j < 20 → mvX y a b k n 4 j ≤ B + C := fun j hj => by rw [mvX_4]; exact moveN_le hb hn j hj
theorem moX_le {y : G} {t gd : Nat} (hg : gd < 5) (hb : ∀ j, j < 20 → y 4 j ≤ 100) : ∀ i, i ≤ 3 → ∀ j, j < 20 → moX y t gd i 4 j ≤ 100 * 2 ^ i := by
  intro i
  induction i with
  | zero => intro _ j hj; exact hb j hj
  | succ i ih =>
    intro hi j hj
    have h1 := ih (by omega)
    rw [Nat.pow_succ]
    simp only [moX]
    split
    · have := h1 j hj; omega
    · have h2 := mvX_le (a := i) (b := t) (k := gd) (n := moX y t gd i 4 (5 * i + gd)) (C := 100 * 2 ^ i) h1 (h1 _ (by omega)) j hj
      omega
theorem moX_81 (y : G) (t gd : Nat) : ∀ i, moX y t gd i 8 1 ≤ y 8 1 + i := by
  intro i
  induction i with
  | zero => exact Nat.le_refl _
  | succ i ih =>
    simp only [moX]
    split
    · omega
    · have := mvX_81 (moX y t gd i) i t gd (moX y t gd i 4 (5 * i + gd)); omega
theorem moX_nf (y : G) (t gd : Nat) {f : Nat} (h0 : f ≠ 4) (h1 : f ≠ 8) (h2 : f < 12 ∨ 15 < f) : ∀ i j, moX y t gd i f j = y f j := by
  intro i
  induction i with
  | zero => intro j; rfl
  | succ i ih =>
    intro j
    simp only [moX]
    split
    · exact ih j
    · exact (mvX_nf _ _ _ _ _ h0 h1 h2 j).trans (ih j)
theorem msX_le {y : G} {t gd : Nat} (hg : gd < 5) (hb : ∀ j, j < 20 → y 4 j ≤ 100) : ∀ i, i ≤ 3 → msX y t gd i ≤ 800 * i := by
  intro i
  induction i with
  | zero => intro _; exact Nat.le_refl _
  | succ i ih =>
    intro hi
    have h1 := ih (by omega)
    have h2 := moX_le (t := t) hg hb i (by omega) (5 * i + gd) (by omega)
    have h4 : 100 * 2 ^ i ≤ 800 := by
      rcases (show i = 0 ∨ i = 1 ∨ i = 2 by omega) with rfl | rfl | rfl <;> decide
    simp only [msX]
    split <;> omega
theorem gs_self {y : G} {f i v : Nat} (h : y f i = v) : gs y f i v = y := by
  funext a b
  unfold gs
  split
  · rename_i q
    split
    · rename_i r; rw [q, r, h]
    · rfl
  · rfl
theorem mvX_80 (g : G) (a b k n : Nat) : mvX g a b k n 8 0 = g 8 0 := by
  unfold mvX
  split
  · rfl
  · show moveN g a b k n 8 0 = _
    exact moveN_nf _ _ _ _ _ (by decide) _
theorem gRobX_nf (y : G) (h v d : Nat) {f : Nat} (h4 : f ≠ 4) (h7 : f ≠ 7) (h8 : f ≠ 8) (h9 : f < 12 ∨ 15 < f) (j : Nat) : gRobX y h v d f j = y f j := by
  unfold gRobX
  split
  · exact gs_nf _ h7
  · exact (mvX_nf _ _ _ _ _ h4 h8 h9 j).trans (gs_nf _ h7)
theorem gRobX_7 (y : G) (h v d : Nat) {j : Nat} (hj : j ≠ 0) : gRobX y h v d 7 j = y 7 j := by
  unfold gRobX
  split
  · exact gs_ni _ hj
  · exact (mvX_nf _ _ _ _ _ (by decide) (by decide) (by decide) j).trans (gs_ni _ hj)
theorem gRobX_80 (y : G) (h v d : Nat) : gRobX y h v d 8 0 = y 8 0 := by
  unfold gRobX
  split
  · rfl
  · exact mvX_80 _ _ _ _ _
def cdMonopoly (g : G) (a1 : Int32) : Nat := (if (inB a1 5) = true then (if (decide (xUse g 3 ≠ 0)) = true then 0 else 3) else 2)
set_option maxHeartbeats 1000000 in
set_option maxRecDepth 100000 in
theorem cX_monopoly (l : Launch) (hfl : l.stackTraces = false) {D : va_G} {dA : Nat → ClassId} {cn : Nat → Nat} {A : Nat → Prop} {pa : NM → Nat} {g : G} {T : va_W} (hg : Sm g) (a1 : Int32) (ht : g 7 4 < 3) (hb4 : ∀ j, j < 20 → g 4 j ≤ 100) (hv : g 8 1 ≤ 1900) (hnc : g 8 0 ≤ 15) (H0 : Heap) (hM : XS D dA cn A pa g T H0) (hA : ∀ q, H0.size ≤ q → A q) {Post : Option Value → Heap → Prop} {XPost : String → Heap → Prop} (hPost : (cdMonopoly g a1) = 0 → ∀ H : Heap, XS D dA cn A pa (moX (gUseX g (xUse g 3 - 1)) (g 7 4) (tn a1) 3) T H → Sm (moX (gUseX g (xUse g 3 - 1)) (g 7 4) (tn a1) 3) → Post (some (.int (nI (msX (gUseX g (xUse g 3 - 1)) (g 7 4) (tn a1) 3)))) H) (hXP : ∀ n : Nat, (cdMonopoly g a1) = n → n ≠ 0 → ∀ H : Heap, XS D dA cn A pa g T H → XPost (exS n) H) : vCt l yX1_monopoly (ws_ yX1_monopoly cX1_monopoly 5 (some .int)) (rmF 10 11 16032 525) A (KX D dA cn A) [.ref (pa (0, 0)), .int a1] H0 Post XPost := by
  refine vc_of RX1 rfl (by decide) (Nat.le_of_ble_eq_true rfl) ?_
  intro pr en s m args below meth cd S hr hlk hnm hno hh hKX ls hl
  have hS : va_S A s.heap H0 [] := zc_start hh
  have hA : ∀ q, s.heap.size ≤ q → A q := fun q h => hA q (by rw [← hh]; exact h)
  have hg0 := hg
  have hx := S.1
  have hb := S.2.1
  have hown := S.2.2.2.1
  have hts := S.2.2.2.2
  have hK := hKX.1
  have hN := hKX.2.1.1
  have hl : lv_has ls 5 [(0, .ref (pa (0, 0))), (1, .int a1)] := hl
  refine lv_iload_n hx hb dX1_monopoly_0 rfl (lv_at hl 1 rfl) ?_
  refine kX_checkGood hfl S hKX hM hg hS (fun q h => hA q (Nat.le_trans hS.1 h)) a1  (Nat.le_of_ble_eq_true rfl) (Nat.le_of_ble_eq_true rfl) hl.1 (Nat.le_of_ble_eq_true rfl) dX1_monopoly_1 (Nat.le_of_ble_eq_true rfl) (Nat.le_of_ble_eq_true rfl) hno hlk (Nat.le_of_ble_eq_true rfl) (Nat.le_of_ble_eq_true rfl) (fun c_1 H1 hM1 => hXP 2 (by first | (simp only [c_1, opB, cdMonopoly, Bool.true_and, Bool.and_true, Bool.false_and, Bool.and_false, reduceIte, Bool.false_eq_true]; done) | (simp [c_1, opB, cdMonopoly]; done) | grind | (simp_all; done)) (by decide) H1 hM1) (fun c_1 H locs hM hg hS => ?_)
  obtain ⟨hj1, ea1⟩ := inB_tn (by decide) c_1
  rw [ea1] at hl
  refine lv_aload_n hx hb dX1_monopoly_4 rfl (lv_at hl 0 rfl) ?_
  refine xk_get 3 326 (by decide) q862 S hKX hS dX1_monopoly_5 ?_
  refine kX_usable S hKX hM hg hS (fun q h => hA q (Nat.le_trans hS.1 h)) 3 (by first | omega | assumption | grind) (by first | omega | assumption | grind) (Nat.le_of_ble_eq_true rfl) (Nat.le_of_ble_eq_true rfl) hl.1 (Nat.le_of_ble_eq_true rfl) dX1_monopoly_8 (Nat.le_of_ble_eq_true rfl) (Nat.le_of_ble_eq_true rfl) (fun H locs hM hg hS => ?_)
  refine zr_astore_no (lv' := [(2, va_rf (opB (decide (xUse g 3 ≠ 0)) (pa (13, xUse g 3 - 1)))), (0, .ref (pa (0, 0))), (1, .int (nI (tn a1)))]) hx hb dX1_monopoly_11 rfl hl (by decide) rfl (fun ls hl => ?_)
  refine zr_aload_no hx hb dX1_monopoly_12 rfl (lv_at hl 0 rfl) ?_
  have J_21 : ∀ yL2_21 : Option Nat, yL2_21 = opB (decide (xUse g 3 ≠ 0)) (pa (13, xUse g 3 - 1)) → ∀ yS0_21 : Int32, yS0_21 = nI (decide (xUse g 3 ≠ 0)).toNat → ∀ (H : Heap) (locs : List Loc), XS D dA cn A pa g T H → va_S A s.heap H locs → ∀ ls : Array Slot, lv_has ls 5 [(0, .ref (pa (0, 0))), (1, .int (nI (tn a1))), (2, va_rf yL2_21)] → W pr l en (rmF 10 11 16032 525) s m args below meth cd H locs (2) (10) (vx_MQ below (zc_Q Post A) (vc_X XPost A) args s 11 16032 A) (F0 m 21 ls [.int yS0_21]) := by
    intro yL2_21 eyL2_21 yS0_21 eyS0_21 H locs hM hS ls hl
    subst eyL2_21
    subst eyS0_21
    refine kX_checkState hfl S hKX hM hg hS (fun q h => hA q (Nat.le_trans hS.1 h)) (decide (xUse g 3 ≠ 0))  (Nat.le_of_ble_eq_true rfl) (Nat.le_of_ble_eq_true rfl) hl.1 (Nat.le_of_ble_eq_true rfl) dX1_monopoly_21 (Nat.le_of_ble_eq_true rfl) (Nat.le_of_ble_eq_true rfl) hno hlk (Nat.le_of_ble_eq_true rfl) (Nat.le_of_ble_eq_true rfl) (fun c_3 H1 hM1 => hXP 3 (by first | (simp only [c_1, c_3, opB, cdMonopoly, Bool.true_and, Bool.and_true, Bool.false_and, Bool.and_false, reduceIte, Bool.false_eq_true]; done) | (simp [c_1, c_3, opB, cdMonopoly]; done) | grind | (simp_all; done)) (by decide) H1 hM1) (fun c_3 H locs hM hg hS => ?_)
    have hus : decide (xUse g 3 ≠ 0) = true := c_3
    have hul := xUse_le g 3
    have hu0 : xUse g 3 ≠ 0 := of_decide_eq_true hus
    rw [opB_t hus] at hl
    have hb6 : ∀ j, j < 20 → (gUseX g (xUse g 3 - 1)) 4 j ≤ 100 := hb4
    refine lv_aload_n hx hb dX1_monopoly_24 rfl (lv_at hl 0 rfl) ?_
    refine lv_aload_n hx hb dX1_monopoly_25 rfl (lv_at hl 2 rfl) ?_
    refine kX_use S hKX hM hg hS (fun q h => hA q (Nat.le_trans hS.1 h)) (xUse g 3 - 1) (by first | omega | assumption | grind) (Nat.le_of_ble_eq_true rfl) (Nat.le_of_ble_eq_true rfl) hl.1 (Nat.le_of_ble_eq_true rfl) dX1_monopoly_26 (Nat.le_of_ble_eq_true rfl) (Nat.le_of_ble_eq_true rfl) (fun H locs hM hg hS => ?_)
    refine lv_iconst (v := nI 0) hx hb dX1_monopoly_29 zi_0 ?_
    refine lv_istore_n (lv' := [(3, .int (nI 0)), (0, .ref (pa (0, 0))), (1, .int (nI (tn a1))), (2, .ref (pa (13, xUse g 3 - 1)))]) hx hb dX1_monopoly_30 rfl hl (by decide) rfl (fun ls hl => ?_)
    refine lv_iconst (v := nI 0) hx hb dX1_monopoly_31 zi_0 ?_
    refine lv_istore (lv' := [(4, .int (nI 0)), (3, .int (nI 0)), (0, .ref (pa (0, 0))), (1, .int (nI (tn a1))), (2, .ref (pa (13, xUse g 3 - 1)))]) hx hb dX1_monopoly_32 hl (by decide) rfl (fun ls hl => ?_)
    have L_34 : ∀ (n_34 : Nat) (i : Nat), i ≤ 3 → 3 - i < n_34 → ∀ x3_34 : Int32, x3_34 = nI (msX (gUseX g (xUse g 3 - 1)) (g 7 4) (tn a1) i) → ∀ gLv : G, gLv = moX (gUseX g (xUse g 3 - 1)) (g 7 4) (tn a1) i → Sm gLv → ∀ (H : Heap) (locs : List Loc), XS D dA cn A pa gLv T H → va_S A s.heap H locs → ∀ ls : Array Slot, lv_has ls 5 [(0, .ref (pa (0, 0))), (1, .int (nI (tn a1))), (3, .int x3_34), (4, .int (nI i))] → W pr l en (rmF 10 11 16032 525) s m args below meth cd H locs (2 * i + 3) (4004 * i + 16) (vx_MQ below (zc_Q Post A) (vc_X XPost A) args s 11 16032 A) (F0 m 34 ls []) := by
      intro n_34
      induction n_34 with
      | zero => intro i hi_34 hm_34; exact absurd hm_34 (Nat.not_lt_zero _)
      | succ n_34 ih_34 =>
        intro i hi_34 hm_34 x3_34 ex3_34 gLv egL hg H locs hM hS ls hl
        subst ex3_34
        subst egL
        refine lv_iload hx hb dX1_monopoly_34 (lv_at hl 3 rfl) ?_
        refine lv_iconst (v := nI 3) hx hb dX1_monopoly_36 zi_3 ?_
        refine zr_icmp_geN (a := i) (b := 3) (tgt := 87) hx hb (by omega) (by omega) dX1_monopoly_37 (by decide) (fun c_4 => ?_) (fun c_4 => ?_)
        · have e_i : 3 = i := by omega
          subst e_i
          refine lv_iload_n hx hb dX1_monopoly_87 rfl (lv_at hl 2 rfl) ?_
          exact vx_ret (zc_nret (nI (msX (gUseX g (xUse g 3 - 1)) (g 7 4) (tn a1) 3)) rfl (hPost (by first | rfl | (simp only [c_1, c_3, c_4, opB, cdMonopoly, Bool.true_and, Bool.and_true, reduceIte]; done) | (simp [c_1, c_3, c_4, opB, cdMonopoly]; done) | grind | (simp_all; done)) H hM hg) hS hx hb hr hlk (Nat.le_of_ble_eq_true rfl) (Nat.le_of_ble_eq_true rfl) dX1_monopoly_88)
        · have hms := msX_le (t := g 7 4) hj1 hb6 i (by omega)
          have hml := moX_le (t := g 7 4) hj1 hb6 i (by omega)
          have hp9 : 100 * 2 ^ i ≤ 400 := by rcases (show i = 0 ∨ i = 1 ∨ i = 2 by omega) with q | q | q <;> (subst q; decide)
          have hmi := hml (5 * i + tn a1) (by omega)
          have hmt := hml (5 * g 7 4 + tn a1) (by omega)
          have hm81 : moX (gUseX g (xUse g 3 - 1)) (g 7 4) (tn a1) i 8 1 ≤ g 8 1 + i := moX_81 (gUseX g (xUse g 3 - 1)) (g 7 4) (tn a1) i
          refine lv_iload hx hb dX1_monopoly_40 (lv_at hl 3 rfl) ?_
          refine lv_aload_n hx hb dX1_monopoly_42 rfl (lv_at hl 0 rfl) ?_
          refine gX_turn S hK hM (g 7 4) (by first | rfl | exact moX_nf _ _ _ (by decide) (by decide) (by decide) _ _) dX1_monopoly_43 ?_
          have hb_5 : g 7 4 < 1048576 := by first | exact hg 7 4 | exact hg0 _ _ | (have := hg 7 4; omega) | omega
          refine zr_icmp_eqN (a := i) (b := (g 7 4)) (tgt := 81) hx hb (by omega) (by omega) dX1_monopoly_46 (by decide) (fun c_6 => ?_) (fun c_6 => ?_)
          · refine lv_iinc (v := nI (i + 1)) (lv' := [(4, .int (nI (i + 1))), (0, .ref (pa (0, 0))), (1, .int (nI (tn a1))), (3, .int (nI (msX (gUseX g (xUse g 3 - 1)) (g 7 4) (tn a1) i)))]) hx hb dX1_monopoly_81 hl (k := 3) rfl (zk_inc _) (by decide) rfl (fun ls hl => ?_)
            refine lv_goto (tgt := 34) hx hb dX1_monopoly_84 (by decide) ?_
            refine W.widen (k := 2 * (i + 1) + 3) (n := 4004 * (i + 1) + 16) (by omega) (by omega) ?_
            exact ih_34 (i + 1) (by first | omega | assumption | (simp; done) | grind) (by omega) _ (congrArg nI (by simp only [msX, c_1, c_3, c_4, c_6, if_true, if_false, Nat.add_zero])) (moX (gUseX g (xUse g 3 - 1)) (g 7 4) (tn a1) i) (by simp only [moX, c_1, c_3, c_4, c_6, if_true, if_false]) hg H locs hM hS ls (lv_sub hl [1, 2, 3, 0] rfl)
          · refine lv_iload_n hx hb dX1_monopoly_49 rfl (lv_at hl 2 rfl) ?_
            refine lv_aload_n hx hb dX1_monopoly_50 rfl (lv_at hl 0 rfl) ?_
            refine gX_hands S hK hM dX1_monopoly_51 ?_
            refine lv_iload hx hb dX1_monopoly_54 (lv_at hl 3 rfl) ?_
            refine lX_hands S hK hM i (by omega) dX1_monopoly_56 ?_
            refine lv_iload_n hx hb dX1_monopoly_57 rfl (lv_at hl 1 rfl) ?_
            refine lX_hand S hK hM i (by omega) (tn a1) (by omega) ((moX (gUseX g (xUse g 3 - 1)) (g 7 4) (tn a1) i) 4 (5 * i + (tn a1))) rfl dX1_monopoly_58 ?_
            have hb_7 : (moX (gUseX g (xUse g 3 - 1)) (g 7 4) (tn a1) i) 4 (5 * i + (tn a1)) < 1048576 := by first | exact hg 4 (5 * i + (tn a1)) | exact hg0 _ _ | (have := hg 4 (5 * i + (tn a1)); omega) | omega
            refine zr_addN (a := (msX (gUseX g (xUse g 3 - 1)) (g 7 4) (tn a1) i)) (b := ((moX (gUseX g (xUse g 3 - 1)) (g 7 4) (tn a1) i) 4 (5 * i + (tn a1)))) hx hb dX1_monopoly_59 ?_
            refine lv_istore_n (lv' := [(3, .int (nI ((msX (gUseX g (xUse g 3 - 1)) (g 7 4) (tn a1) i) + ((moX (gUseX g (xUse g 3 - 1)) (g 7 4) (tn a1) i) 4 (5 * i + (tn a1)))))), (0, .ref (pa (0, 0))), (1, .int (nI (tn a1))), (4, .int (nI i))]) hx hb dX1_monopoly_60 rfl hl (by decide) rfl (fun ls hl => ?_)
            refine lv_aload_n hx hb dX1_monopoly_61 rfl (lv_at hl 1 rfl) ?_
            refine lv_iload hx hb dX1_monopoly_62 (lv_at hl 3 rfl) ?_
            refine lv_aload_n hx hb dX1_monopoly_64 rfl (lv_at hl 1 rfl) ?_
            refine gX_turn S hK hM (g 7 4) (by first | rfl | exact moX_nf _ _ _ (by decide) (by decide) (by decide) _ _) dX1_monopoly_65 ?_
            have hb_8 : g 7 4 < 1048576 := by first | exact hg 7 4 | exact hg0 _ _ | (have := hg 7 4; omega) | omega
            refine lv_iload_n hx hb dX1_monopoly_68 rfl (lv_at hl 2 rfl) ?_
            refine lv_aload_n hx hb dX1_monopoly_69 rfl (lv_at hl 1 rfl) ?_
            refine gX_hands S hK hM dX1_monopoly_70 ?_
            refine lv_iload hx hb dX1_monopoly_73 (lv_at hl 3 rfl) ?_
            refine lX_hands S hK hM i (by omega) dX1_monopoly_75 ?_
            refine lv_iload_n hx hb dX1_monopoly_76 rfl (lv_at hl 2 rfl) ?_
            refine lX_hand S hK hM i (by omega) (tn a1) (by omega) ((moX (gUseX g (xUse g 3 - 1)) (g 7 4) (tn a1) i) 4 (5 * i + (tn a1))) rfl dX1_monopoly_77 ?_
            have hb_9 : (moX (gUseX g (xUse g 3 - 1)) (g 7 4) (tn a1) i) 4 (5 * i + (tn a1)) < 1048576 := by first | exact hg 4 (5 * i + (tn a1)) | exact hg0 _ _ | (have := hg 4 (5 * i + (tn a1)); omega) | omega
            refine kX_move S hKX hM hg hS (fun q h => hA q (Nat.le_trans hS.1 h)) i (g 7 4) (tn a1) ((moX (gUseX g (xUse g 3 - 1)) (g 7 4) (tn a1) i) 4 (5 * i + (tn a1))) (by first | omega | assumption | grind) (by first | omega | assumption | grind) (by first | omega | assumption | grind) (by exact Nat.le_refl _) (by first | omega | assumption | grind) (by first | omega | assumption | grind) (by first | omega | assumption | grind) (Nat.le_of_ble_eq_true rfl) (Nat.le_of_ble_eq_true rfl) hl.1 (Nat.le_of_ble_eq_true rfl) dX1_monopoly_78 (show 2 * i + 3 + 2 ≤ 11 from by omega) (show 4004 * i + 16 + 4004 ≤ 16032 from by omega) (fun H locs hM hg hS => ?_)
            refine lv_iinc (v := nI (i + 1)) (lv' := [(4, .int (nI (i + 1))), (3, .int (nI ((msX (gUseX g (xUse g 3 - 1)) (g 7 4) (tn a1) i) + ((moX (gUseX g (xUse g 3 - 1)) (g 7 4) (tn a1) i) 4 (5 * i + (tn a1)))))), (0, .ref (pa (0, 0))), (1, .int (nI (tn a1)))]) hx hb dX1_monopoly_81 hl (k := 3) rfl (zk_inc _) (by decide) rfl (fun ls hl => ?_)
            refine lv_goto (tgt := 34) hx hb dX1_monopoly_84 (by decide) ?_
            refine W.widen (k := 2 * (i + 1) + 3) (n := 4004 * (i + 1) + 16) (by omega) (by omega) ?_
            exact ih_34 (i + 1) (by first | omega | assumption | (simp; done) | grind) (by omega) _ (congrArg nI (by simp only [msX, c_1, c_3, c_4, c_6, if_true, if_false, Nat.add_zero])) (mvX (moX (gUseX g (xUse g 3 - 1)) (g 7 4) (tn a1) i) i (g 7 4) (tn a1) ((moX (gUseX g (xUse g 3 - 1)) (g 7 4) (tn a1) i) 4 (5 * i + (tn a1)))) (by simp only [moX, c_1, c_3, c_4, c_6, if_true, if_false]) hg H locs hM hS ls (lv_sub hl [2, 3, 1, 0] rfl)
    exact L_34 _ 0 (by first | omega | assumption | (simp; done) | grind) (Nat.lt_succ_self _) _ (congrArg nI (show (0 : Nat) = (msX (gUseX g (xUse g 3 - 1)) (g 7 4) (tn a1) 0) from by first | with_reducible rfl | (simp [c_1, c_3, opB, cdMonopoly]; done) | (simp only [c_1, c_3] <;> simp [opB, cdMonopoly]; done) | (simp only [opB, cdMonopoly, c_1, c_3] <;> simp [opB, cdMonopoly]; done) | (simp [c_1, c_3, opB, cdMonopoly, Bool.and_assoc]; done) | (simp [c_1, c_3, opB, cdMonopoly, Bool.and_assoc, Bool.or_assoc]; done) | rfl | (simp [c_1, c_3, opB, cdMonopoly]; omega) | (simp_all [opB, cdMonopoly]; done))) (gUseX g (xUse g 3 - 1)) (rfl) hg H locs hM hS ls (lv_sub hl [2, 3, 1, 0] rfl)
  refine zr_ifnullB (b := decide (xUse g 3 ≠ 0)) (tgt := 20) hx hb dX1_monopoly_13 (by decide) (fun c_10 => ?_) (fun c_10 => ?_)
  · rw [opB_f c_10] at hl
    refine lv_iconst (v := nI 0) hx hb dX1_monopoly_20 zi_0 ?_
    exact J_21 _ (show (none : Option Nat) = (opB (decide (xUse g 3 ≠ 0)) (pa (13, xUse g 3 - 1))) from by first | with_reducible rfl | (simp [c_1, c_10, opB, cdMonopoly]; done) | (simp only [c_1, c_10] <;> simp [opB, cdMonopoly]; done) | (simp only [opB, cdMonopoly, c_1, c_10] <;> simp [opB, cdMonopoly]; done) | (simp [c_1, c_10, opB, cdMonopoly, Bool.and_assoc]; done) | (simp [c_1, c_10, opB, cdMonopoly, Bool.and_assoc, Bool.or_assoc]; done) | rfl | (simp [c_1, c_10, opB, cdMonopoly]; omega) | (simp_all [opB, cdMonopoly]; done)) _ (congrArg (fun z : Bool => nI z.toNat) (show (false : Bool) = (decide (xUse g 3 ≠ 0)) from by first | with_reducible rfl | (simp [c_1, c_10, opB, cdMonopoly]; done) | (simp only [c_1, c_10] <;> simp [opB, cdMonopoly]; done) | (simp only [opB, cdMonopoly, c_1, c_10] <;> simp [opB, cdMonopoly]; done) | (simp [c_1, c_10, opB, cdMonopoly, Bool.and_assoc]; done) | (simp [c_1, c_10, opB, cdMonopoly, Bool.and_assoc, Bool.or_assoc]; done) | rfl | (simp [c_1, c_10, opB, cdMonopoly]; omega) | (simp_all [opB, cdMonopoly]; done))) H locs hM hS ls (lv_sub hl [1, 2, 0] rfl)
  · rw [opB_t c_10] at hl
    refine lv_iconst (v := nI 1) hx hb dX1_monopoly_16 zi_1 ?_
    refine lv_goto (tgt := 21) hx hb dX1_monopoly_17 (by decide) ?_
    exact J_21 _ (show (some (pa (13, xUse g 3 - 1)) : Option Nat) = (opB (decide (xUse g 3 ≠ 0)) (pa (13, xUse g 3 - 1))) from by first | with_reducible rfl | (simp [c_1, c_10, opB, cdMonopoly]; done) | (simp only [c_1, c_10] <;> simp [opB, cdMonopoly]; done) | (simp only [opB, cdMonopoly, c_1, c_10] <;> simp [opB, cdMonopoly]; done) | (simp [c_1, c_10, opB, cdMonopoly, Bool.and_assoc]; done) | (simp [c_1, c_10, opB, cdMonopoly, Bool.and_assoc, Bool.or_assoc]; done) | rfl | (simp [c_1, c_10, opB, cdMonopoly]; omega) | (simp_all [opB, cdMonopoly]; done)) _ (congrArg (fun z : Bool => nI z.toNat) (show (true : Bool) = (decide (xUse g 3 ≠ 0)) from by first | with_reducible rfl | (simp [c_1, c_10, opB, cdMonopoly]; done) | (simp only [c_1, c_10] <;> simp [opB, cdMonopoly]; done) | (simp only [opB, cdMonopoly, c_1, c_10] <;> simp [opB, cdMonopoly]; done) | (simp [c_1, c_10, opB, cdMonopoly, Bool.and_assoc]; done) | (simp [c_1, c_10, opB, cdMonopoly, Bool.and_assoc, Bool.or_assoc]; done) | rfl | (simp [c_1, c_10, opB, cdMonopoly]; omega) | (simp_all [opB, cdMonopoly]; done))) H locs hM hS ls (lv_sub hl [1, 2, 0] rfl)
def cdPlenty (g : G) (a1 : Int32) (a2 : Int32) : Nat := (if (inB a1 5 && inB a2 5) = true then (if (decide (xUse g 2 ≠ 0) && (decide ((decide (tn a1 = tn a2)).toNat < g 4 (5 * 3 + tn a1)) && decide (0 < g 4 (5 * 3 + tn a2)))) = true then 0 else 3) else 2)
set_option maxHeartbeats 1000000 in
set_option maxRecDepth 100000 in
theorem cX_plenty (l : Launch) (hfl : l.stackTraces = false) {D : va_G} {dA : Nat → ClassId} {cn : Nat → Nat} {A : Nat → Prop} {pa : NM → Nat} {g : G} {T : va_W} (hg : Sm g) (a1 : Int32) (a2 : Int32) (ht : g 7 4 < 3) (hb4 : ∀ j, j < 20 → g 4 j ≤ 100) (hv : g 8 1 ≤ 1900) (hnc : g 8 0 ≤ 15) (H0 : Heap) (hM : XS D dA cn A pa g T H0) (hA : ∀ q, H0.size ≤ q → A q) {Post : Option Value → Heap → Prop} {XPost : String → Heap → Prop} (hPost : (cdPlenty g a1 a2) = 0 → ∀ H : Heap, XS D dA cn A pa (mvX (mvX (gUseX g (xUse g 2 - 1)) 3 (g 7 4) (tn a1) 1) 3 (g 7 4) (tn a2) 1) T H → Sm (mvX (mvX (gUseX g (xUse g 2 - 1)) 3 (g 7 4) (tn a1) 1) 3 (g 7 4) (tn a2) 1) → Post (some (.int (nI (handN (mvX (mvX (gUseX g (xUse g 2 - 1)) 3 (g 7 4) (tn a1) 1) 3 (g 7 4) (tn a2) 1) (g 7 4) 5)))) H) (hXP : ∀ n : Nat, (cdPlenty g a1 a2) = n → n ≠ 0 → ∀ H : Heap, XS D dA cn A pa g T H → XPost (exS n) H) : vCt l yX1_plenty (ws_ yX1_plenty cX1_plenty 4 (some .int)) (rmF 10 8 8030 525) A (KX D dA cn A) [.ref (pa (0, 0)), .int a1, .int a2] H0 Post XPost := by
  refine vc_of RX1 rfl (by decide) (Nat.le_of_ble_eq_true rfl) ?_
  intro pr en s m args below meth cd S hr hlk hnm hno hh hKX ls hl
  have hS : va_S A s.heap H0 [] := zc_start hh
  have hA : ∀ q, s.heap.size ≤ q → A q := fun q h => hA q (by rw [← hh]; exact h)
  have hg0 := hg
  have hx := S.1
  have hb := S.2.1
  have hown := S.2.2.2.1
  have hts := S.2.2.2.2
  have hK := hKX.1
  have hN := hKX.2.1.1
  have hl : lv_has ls 4 [(0, .ref (pa (0, 0))), (1, .int a1), (2, .int a2)] := hl
  refine lv_iload_n hx hb dX1_plenty_0 rfl (lv_at hl 1 rfl) ?_
  refine kX_checkGood hfl S hKX hM hg hS (fun q h => hA q (Nat.le_trans hS.1 h)) a1  (Nat.le_of_ble_eq_true rfl) (Nat.le_of_ble_eq_true rfl) hl.1 (Nat.le_of_ble_eq_true rfl) dX1_plenty_1 (Nat.le_of_ble_eq_true rfl) (Nat.le_of_ble_eq_true rfl) hno hlk (Nat.le_of_ble_eq_true rfl) (Nat.le_of_ble_eq_true rfl) (fun c_1 H1 hM1 => hXP 2 (by first | (simp only [c_1, opB, cdPlenty, Bool.true_and, Bool.and_true, Bool.false_and, Bool.and_false, reduceIte, Bool.false_eq_true]; done) | (simp [c_1, opB, cdPlenty]; done) | grind | (simp_all; done)) (by decide) H1 hM1) (fun c_1 H locs hM hg hS => ?_)
  obtain ⟨hj1, ea1⟩ := inB_tn (by decide) c_1
  rw [ea1] at hl
  refine lv_iload_n hx hb dX1_plenty_4 rfl (lv_at hl 2 rfl) ?_
  refine kX_checkGood hfl S hKX hM hg hS (fun q h => hA q (Nat.le_trans hS.1 h)) a2  (Nat.le_of_ble_eq_true rfl) (Nat.le_of_ble_eq_true rfl) hl.1 (Nat.le_of_ble_eq_true rfl) dX1_plenty_5 (Nat.le_of_ble_eq_true rfl) (Nat.le_of_ble_eq_true rfl) hno hlk (Nat.le_of_ble_eq_true rfl) (Nat.le_of_ble_eq_true rfl) (fun c_2 H1 hM1 => hXP 2 (by first | (simp only [c_1, c_2, opB, cdPlenty, Bool.true_and, Bool.and_true, Bool.false_and, Bool.and_false, reduceIte, Bool.false_eq_true]; done) | (simp [c_1, c_2, opB, cdPlenty]; done) | grind | (simp_all; done)) (by decide) H1 hM1) (fun c_2 H locs hM hg hS => ?_)
  obtain ⟨hj2, ea2⟩ := inB_tn (by decide) c_2
  rw [ea2] at hl
  refine lv_aload_n hx hb dX1_plenty_8 rfl (lv_at hl 0 rfl) ?_
  refine xk_get 2 323 (by decide) q853 S hKX hS dX1_plenty_9 ?_
  refine kX_usable S hKX hM hg hS (fun q h => hA q (Nat.le_trans hS.1 h)) 2 (by first | omega | assumption | grind) (by first | omega | assumption | grind) (Nat.le_of_ble_eq_true rfl) (Nat.le_of_ble_eq_true rfl) hl.1 (Nat.le_of_ble_eq_true rfl) dX1_plenty_12 (Nat.le_of_ble_eq_true rfl) (Nat.le_of_ble_eq_true rfl) (fun H locs hM hg hS => ?_)
  refine zr_astore_no (lv' := [(3, va_rf (opB (decide (xUse g 2 ≠ 0)) (pa (13, xUse g 2 - 1)))), (0, .ref (pa (0, 0))), (1, .int (nI (tn a1))), (2, .int (nI (tn a2)))]) hx hb dX1_plenty_15 rfl hl (by decide) rfl (fun ls hl => ?_)
  refine zr_aload_no hx hb dX1_plenty_16 rfl (lv_at hl 0 rfl) ?_
  have J_57 : ∀ yL3_57 : Option Nat, yL3_57 = opB (decide (xUse g 2 ≠ 0)) (pa (13, xUse g 2 - 1)) → ∀ yS0_57 : Int32, yS0_57 = nI (decide (xUse g 2 ≠ 0) && (decide ((decide (tn a1 = tn a2)).toNat < g 4 (5 * 3 + tn a1)) && decide (0 < g 4 (5 * 3 + tn a2)))).toNat → ∀ (H : Heap) (locs : List Loc), XS D dA cn A pa g T H → va_S A s.heap H locs → ∀ ls : Array Slot, lv_has ls 4 [(0, .ref (pa (0, 0))), (1, .int (nI (tn a1))), (2, .int (nI (tn a2))), (3, va_rf yL3_57)] → W pr l en (rmF 10 8 8030 525) s m args below meth cd H locs (3) (16) (vx_MQ below (zc_Q Post A) (vc_X XPost A) args s 8 8030 A) (F0 m 57 ls [.int yS0_57]) := by
    intro yL3_57 eyL3_57 yS0_57 eyS0_57 H locs hM hS ls hl
    subst eyL3_57
    subst eyS0_57
    refine kX_checkState hfl S hKX hM hg hS (fun q h => hA q (Nat.le_trans hS.1 h)) (decide (xUse g 2 ≠ 0) && (decide ((decide (tn a1 = tn a2)).toNat < g 4 (5 * 3 + tn a1)) && decide (0 < g 4 (5 * 3 + tn a2))))  (Nat.le_of_ble_eq_true rfl) (Nat.le_of_ble_eq_true rfl) hl.1 (Nat.le_of_ble_eq_true rfl) dX1_plenty_57 (Nat.le_of_ble_eq_true rfl) (Nat.le_of_ble_eq_true rfl) hno hlk (Nat.le_of_ble_eq_true rfl) (Nat.le_of_ble_eq_true rfl) (fun c_12 H1 hM1 => hXP 3 (by first | (simp only [c_1, c_2, c_12, opB, cdPlenty, Bool.true_and, Bool.and_true, Bool.false_and, Bool.and_false, reduceIte, Bool.false_eq_true]; done) | (simp [c_1, c_2, c_12, opB, cdPlenty]; done) | grind | (simp_all; done)) (by decide) H1 hM1) (fun c_12 H locs hM hg hS => ?_)
    have hHP : decide (xUse g 2 ≠ 0) = true ∧ (decide (tn a1 = tn a2)).toNat < g 4 (5 * 3 + tn a1) ∧ 0 < g 4 (5 * 3 + tn a2) := by have q := c_12; simp only [Bool.and_eq_true, decide_eq_true_eq (p := _ < _), Bool.not_eq_true', decide_eq_false_iff_not] at q; exact q
    have hus := hHP.1
    have hul := xUse_le g 2
    have hu0 : xUse g 2 ≠ 0 := of_decide_eq_true hus
    rw [opB_t hus] at hl
    have hb6 : ∀ j, j < 20 → (gUseX g (xUse g 2 - 1)) 4 j ≤ 100 := hb4
    have hd1 : (decide (tn a1 = tn a2)).toNat ≤ 1 := Bool.toNat_le _
    refine lv_aload_n hx hb dX1_plenty_60 rfl (lv_at hl 0 rfl) ?_
    refine lv_aload_n hx hb dX1_plenty_61 rfl (lv_at hl 3 rfl) ?_
    refine kX_use S hKX hM hg hS (fun q h => hA q (Nat.le_trans hS.1 h)) (xUse g 2 - 1) (by first | omega | assumption | grind) (Nat.le_of_ble_eq_true rfl) (Nat.le_of_ble_eq_true rfl) hl.1 (Nat.le_of_ble_eq_true rfl) dX1_plenty_62 (Nat.le_of_ble_eq_true rfl) (Nat.le_of_ble_eq_true rfl) (fun H locs hM hg hS => ?_)
    refine lv_aload_n hx hb dX1_plenty_65 rfl (lv_at hl 0 rfl) ?_
    refine lv_iconst (v := nI 3) hx hb dX1_plenty_66 zi_3 ?_
    refine lv_aload_n hx hb dX1_plenty_67 rfl (lv_at hl 0 rfl) ?_
    refine gX_turn S hK hM (g 7 4) (by first | rfl | exact mvX_nf _ _ _ _ _ (by decide) (by decide) (by decide) _ | exact (mvX_nf _ _ _ _ _ (by decide) (by decide) (by decide) _).trans (mvX_nf _ _ _ _ _ (by decide) (by decide) (by decide) _)) dX1_plenty_68 ?_
    have hb_13 : g 7 4 < 1048576 := by first | exact hg 7 4 | exact hg0 _ _ | (have := hg 7 4; omega) | omega
    refine lv_iload_n hx hb dX1_plenty_71 rfl (lv_at hl 1 rfl) ?_
    refine lv_iconst (v := nI 1) hx hb dX1_plenty_72 zi_1 ?_
    refine kX_move S hKX hM hg hS (fun q h => hA q (Nat.le_trans hS.1 h)) 3 (g 7 4) (tn a1) 1 (by first | omega | assumption | grind) (by first | omega | assumption | grind) (by first | omega | assumption | grind) (by show 1 ≤ g 4 (5 * 3 + tn a1); omega) (by show g 4 (5 * g 7 4 + tn a1) ≤ 1000; have := hb4 (5 * g 7 4 + tn a1) (by omega); omega) (by first | omega | assumption | grind) (by show g 8 1 ≤ 2000; omega) (Nat.le_of_ble_eq_true rfl) (Nat.le_of_ble_eq_true rfl) hl.1 (Nat.le_of_ble_eq_true rfl) dX1_plenty_73 (Nat.le_of_ble_eq_true rfl) (Nat.le_of_ble_eq_true rfl) (fun H locs hM hg hS => ?_)
    have h110 : 1 ≤ (mvX (gUseX g (xUse g 2 - 1)) 3 (g 7 4) (tn a1) 1) 4 (5 * 3 + tn a2) := by
      rw [mvX_4]
      by_cases q : tn a1 = tn a2
      · have h1 := hHP.2.1
        rw [← q, moveN_from _ (by omega)]
        simp [q] at h1
        show 1 ≤ g 4 (15 + tn a1) - 1
        rw [q]; omega
      · rw [moveN_other _ (by omega) (by omega)]
        exact hHP.2.2
    refine lv_aload_n hx hb dX1_plenty_76 rfl (lv_at hl 0 rfl) ?_
    refine lv_iconst (v := nI 3) hx hb dX1_plenty_77 zi_3 ?_
    refine lv_aload_n hx hb dX1_plenty_78 rfl (lv_at hl 0 rfl) ?_
    refine gX_turn S hK hM (g 7 4) (by first | rfl | exact mvX_nf _ _ _ _ _ (by decide) (by decide) (by decide) _ | exact (mvX_nf _ _ _ _ _ (by decide) (by decide) (by decide) _).trans (mvX_nf _ _ _ _ _ (by decide) (by decide) (by decide) _)) dX1_plenty_79 ?_
    have hb_14 : g 7 4 < 1048576 := by first | exact hg 7 4 | exact hg0 _ _ | (have := hg 7 4; omega) | omega
    refine lv_iload_n hx hb dX1_plenty_82 rfl (lv_at hl 2 rfl) ?_
    refine lv_iconst (v := nI 1) hx hb dX1_plenty_83 zi_1 ?_
    refine kX_move S hKX hM hg hS (fun q h => hA q (Nat.le_trans hS.1 h)) 3 (g 7 4) (tn a2) 1 (by first | omega | assumption | grind) (by first | omega | assumption | grind) (by first | omega | assumption | grind) (by exact h110) (by exact Nat.le_trans (mvX_le (C := 1) hb6 (Nat.le_refl _) (5 * g 7 4 + tn a2) (by omega)) (by decide)) (by first | omega | assumption | grind) (by have := mvX_81 (gUseX g (xUse g 2 - 1)) 3 (g 7 4) (tn a1) 1; have e : (gUseX g (xUse g 2 - 1)) 8 1 = g 8 1 := rfl; omega) (Nat.le_of_ble_eq_true rfl) (Nat.le_of_ble_eq_true rfl) hl.1 (Nat.le_of_ble_eq_true rfl) dX1_plenty_84 (Nat.le_of_ble_eq_true rfl) (Nat.le_of_ble_eq_true rfl) (fun H locs hM hg hS => ?_)
    refine lv_aload_n hx hb dX1_plenty_87 rfl (lv_at hl 0 rfl) ?_
    refine lv_aload_n hx hb dX1_plenty_88 rfl (lv_at hl 0 rfl) ?_
    refine gX_turn S hK hM (g 7 4) (by first | rfl | exact mvX_nf _ _ _ _ _ (by decide) (by decide) (by decide) _ | exact (mvX_nf _ _ _ _ _ (by decide) (by decide) (by decide) _).trans (mvX_nf _ _ _ _ _ (by decide) (by decide) (by decide) _)) dX1_plenty_89 ?_
    have hb_15 : g 7 4 < 1048576 := by first | exact hg 7 4 | exact hg0 _ _ | (have := hg 7 4; omega) | omega
    refine kX_total S hKX hM hg hS (g 7 4) (by first | omega | assumption | grind) (Nat.le_of_ble_eq_true rfl) (Nat.le_of_ble_eq_true rfl) hl.1 (Nat.le_of_ble_eq_true rfl) dX1_plenty_92 (Nat.le_of_ble_eq_true rfl) (Nat.le_of_ble_eq_true rfl) (fun locs hS => ?_)
    have f92_0 : handN (mvX (mvX (gUseX g (xUse g 2 - 1)) 3 (g 7 4) (tn a1) 1) 3 (g 7 4) (tn a2) 1) (g 7 4) 5 < 5242880 := handN_lt hg _
    exact vx_ret (zc_nret (nI (handN (mvX (mvX (gUseX g (xUse g 2 - 1)) 3 (g 7 4) (tn a1) 1) 3 (g 7 4) (tn a2) 1) (g 7 4) 5)) rfl (hPost (by first | rfl | (simp only [c_1, c_2, c_12, opB, cdPlenty, Bool.true_and, Bool.and_true, reduceIte]; done) | (simp [c_1, c_2, c_12, opB, cdPlenty]; done) | grind | (simp_all; done)) H hM hg) hS hx hb hr hlk (Nat.le_of_ble_eq_true rfl) (Nat.le_of_ble_eq_true rfl) dX1_plenty_95)
  refine zr_ifnullB (b := decide (xUse g 2 ≠ 0)) (tgt := 56) hx hb dX1_plenty_17 (by decide) (fun c_16 => ?_) (fun c_16 => ?_)
  · rw [opB_f c_16] at hl
    refine lv_iconst (v := nI 0) hx hb dX1_plenty_56 zi_0 ?_
    exact J_57 _ (show (none : Option Nat) = (opB (decide (xUse g 2 ≠ 0)) (pa (13, xUse g 2 - 1))) from by first | with_reducible rfl | (simp [c_1, c_2, c_16, opB, cdPlenty]; done) | (simp only [c_1, c_2, c_16] <;> simp [opB, cdPlenty]; done) | (simp only [opB, cdPlenty, c_1, c_2, c_16] <;> simp [opB, cdPlenty]; done) | (simp [c_1, c_2, c_16, opB, cdPlenty, Bool.and_assoc]; done) | (simp [c_1, c_2, c_16, opB, cdPlenty, Bool.and_assoc, Bool.or_assoc]; done) | rfl | (simp [c_1, c_2, c_16, opB, cdPlenty]; omega) | (simp_all [opB, cdPlenty]; done)) _ (congrArg (fun z : Bool => nI z.toNat) (show (false : Bool) = (decide (xUse g 2 ≠ 0) && (decide ((decide (tn a1 = tn a2)).toNat < g 4 (5 * 3 + tn a1)) && decide (0 < g 4 (5 * 3 + tn a2)))) from by first | with_reducible rfl | (simp [c_1, c_2, c_16, opB, cdPlenty]; done) | (simp only [c_1, c_2, c_16] <;> simp [opB, cdPlenty]; done) | (simp only [opB, cdPlenty, c_1, c_2, c_16] <;> simp [opB, cdPlenty]; done) | (simp [c_1, c_2, c_16, opB, cdPlenty, Bool.and_assoc]; done) | (simp [c_1, c_2, c_16, opB, cdPlenty, Bool.and_assoc, Bool.or_assoc]; done) | rfl | (simp [c_1, c_2, c_16, opB, cdPlenty]; omega) | (simp_all [opB, cdPlenty]; done))) H locs hM hS ls (lv_sub hl [1, 2, 3, 0] rfl)
  · rw [opB_t c_16] at hl
    refine lv_aload_n hx hb dX1_plenty_20 rfl (lv_at hl 1 rfl) ?_
    refine gX_hands S hK hM dX1_plenty_21 ?_
    refine lv_iconst (v := nI 3) hx hb dX1_plenty_24 zi_3 ?_
    refine lX_hands S hK hM 3 (by omega) dX1_plenty_25 ?_
    refine lv_iload_n hx hb dX1_plenty_26 rfl (lv_at hl 2 rfl) ?_
    refine lX_hand S hK hM 3 (by omega) (tn a1) (by omega) (g 4 (5 * 3 + (tn a1))) rfl dX1_plenty_27 ?_
    have hb_17 : g 4 (5 * 3 + (tn a1)) < 1048576 := by first | exact hg 4 (5 * 3 + (tn a1)) | exact hg0 _ _ | (have := hg 4 (5 * 3 + (tn a1)); omega) | omega
    refine lv_iload_n hx hb dX1_plenty_28 rfl (lv_at hl 2 rfl) ?_
    refine lv_iload_n hx hb dX1_plenty_29 rfl (lv_at hl 3 rfl) ?_
    have J_38 : ∀ yS0_38 : Int32, yS0_38 = nI (decide ((tn a1) = (tn a2))).toNat → ∀ (H : Heap) (locs : List Loc), XS D dA cn A pa g T H → va_S A s.heap H locs → ∀ ls : Array Slot, lv_has ls 4 [(0, .ref (pa (0, 0))), (1, .int (nI (tn a1))), (2, .int (nI (tn a2))), (3, .ref (pa (13, xUse g 2 - 1)))] → W pr l en (rmF 10 8 8030 525) s m args below meth cd H locs (3) (16) (vx_MQ below (zc_Q Post A) (vc_X XPost A) args s 8 8030 A) (F0 m 38 ls [.int yS0_38, .int (nI (g 4 (5 * 3 + (tn a1))))]) := by
      intro yS0_38 eyS0_38 H locs hM hS ls hl
      subst eyS0_38
      have hd1 : (decide (tn a1 = tn a2)).toNat ≤ 1 := Bool.toNat_le _
      refine zr_icmp_leN (a := (g 4 (5 * 3 + (tn a1)))) (b := ((decide ((tn a1) = (tn a2))).toNat)) (tgt := 56) hx hb (by omega) (by omega) dX1_plenty_38 (by decide) (fun c_19 => ?_) (fun c_19 => ?_)
      · refine lv_iconst (v := nI 0) hx hb dX1_plenty_56 zi_0 ?_
        exact J_57 _ (show (some (pa (13, xUse g 2 - 1)) : Option Nat) = (opB (decide (xUse g 2 ≠ 0)) (pa (13, xUse g 2 - 1))) from by first | with_reducible rfl | (simp [c_1, c_2, c_16, c_19, opB, cdPlenty]; done) | (simp only [c_1, c_2, c_16, c_19] <;> simp [opB, cdPlenty]; done) | (simp only [opB, cdPlenty, c_1, c_2, c_16, c_19] <;> simp [opB, cdPlenty]; done) | (simp [c_1, c_2, c_16, c_19, opB, cdPlenty, Bool.and_assoc]; done) | (simp [c_1, c_2, c_16, c_19, opB, cdPlenty, Bool.and_assoc, Bool.or_assoc]; done) | rfl | (simp [c_1, c_2, c_16, c_19, opB, cdPlenty]; omega) | (simp_all [opB, cdPlenty]; done)) _ (congrArg (fun z : Bool => nI z.toNat) (show (false : Bool) = (decide (xUse g 2 ≠ 0) && (decide ((decide (tn a1 = tn a2)).toNat < g 4 (5 * 3 + tn a1)) && decide (0 < g 4 (5 * 3 + tn a2)))) from by first | with_reducible rfl | (simp [c_1, c_2, c_16, c_19, opB, cdPlenty]; done) | (simp only [c_1, c_2, c_16, c_19] <;> simp [opB, cdPlenty]; done) | (simp only [opB, cdPlenty, c_1, c_2, c_16, c_19] <;> simp [opB, cdPlenty]; done) | (simp [c_1, c_2, c_16, c_19, opB, cdPlenty, Bool.and_assoc]; done) | (simp [c_1, c_2, c_16, c_19, opB, cdPlenty, Bool.and_assoc, Bool.or_assoc]; done) | rfl | (simp [c_1, c_2, c_16, c_19, opB, cdPlenty]; omega) | (simp_all [opB, cdPlenty]; done))) H locs hM hS ls (lv_sub hl [0, 1, 2, 3] rfl)
      · refine lv_aload_n hx hb dX1_plenty_41 rfl (lv_at hl 0 rfl) ?_
        refine gX_hands S hK hM dX1_plenty_42 ?_
        refine lv_iconst (v := nI 3) hx hb dX1_plenty_45 zi_3 ?_
        refine lX_hands S hK hM 3 (by omega) dX1_plenty_46 ?_
        refine lv_iload_n hx hb dX1_plenty_47 rfl (lv_at hl 2 rfl) ?_
        refine lX_hand S hK hM 3 (by omega) (tn a2) (by omega) (g 4 (5 * 3 + (tn a2))) rfl dX1_plenty_48 ?_
        have hb_20 : g 4 (5 * 3 + (tn a2)) < 1048576 := by first | exact hg 4 (5 * 3 + (tn a2)) | exact hg0 _ _ | (have := hg 4 (5 * 3 + (tn a2)); omega) | omega
        refine zr_if_leN (a := (g 4 (5 * 3 + (tn a2)))) (tgt := 56) hx hb (by omega) dX1_plenty_49 (by decide) (fun c_21 => ?_) (fun c_21 => ?_)
        · refine lv_iconst (v := nI 0) hx hb dX1_plenty_56 zi_0 ?_
          exact J_57 _ (show (some (pa (13, xUse g 2 - 1)) : Option Nat) = (opB (decide (xUse g 2 ≠ 0)) (pa (13, xUse g 2 - 1))) from by first | with_reducible rfl | (simp [c_1, c_2, c_16, c_19, c_21, opB, cdPlenty]; done) | (simp only [c_1, c_2, c_16, c_19, c_21] <;> simp [opB, cdPlenty]; done) | (simp only [opB, cdPlenty, c_1, c_2, c_16, c_19, c_21] <;> simp [opB, cdPlenty]; done) | (simp [c_1, c_2, c_16, c_19, c_21, opB, cdPlenty, Bool.and_assoc]; done) | (simp [c_1, c_2, c_16, c_19, c_21, opB, cdPlenty, Bool.and_assoc, Bool.or_assoc]; done) | rfl | (simp [c_1, c_2, c_16, c_19, c_21, opB, cdPlenty]; omega) | (simp_all [opB, cdPlenty]; done)) _ (congrArg (fun z : Bool => nI z.toNat) (show (false : Bool) = (decide (xUse g 2 ≠ 0) && (decide ((decide (tn a1 = tn a2)).toNat < g 4 (5 * 3 + tn a1)) && decide (0 < g 4 (5 * 3 + tn a2)))) from by first | with_reducible rfl | (simp [c_1, c_2, c_16, c_19, c_21, opB, cdPlenty]; done) | (simp only [c_1, c_2, c_16, c_19, c_21] <;> simp [opB, cdPlenty]; done) | (simp only [opB, cdPlenty, c_1, c_2, c_16, c_19, c_21] <;> simp [opB, cdPlenty]; done) | (simp [c_1, c_2, c_16, c_19, c_21, opB, cdPlenty, Bool.and_assoc]; done) | (simp [c_1, c_2, c_16, c_19, c_21, opB, cdPlenty, Bool.and_assoc, Bool.or_assoc]; done) | rfl | (simp [c_1, c_2, c_16, c_19, c_21, opB, cdPlenty]; omega) | (simp_all [opB, cdPlenty]; done))) H locs hM hS ls (lv_sub hl [0, 1, 2, 3] rfl)
        · refine lv_iconst (v := nI 1) hx hb dX1_plenty_52 zi_1 ?_
          refine lv_goto (tgt := 57) hx hb dX1_plenty_53 (by decide) ?_
          exact J_57 _ (show (some (pa (13, xUse g 2 - 1)) : Option Nat) = (opB (decide (xUse g 2 ≠ 0)) (pa (13, xUse g 2 - 1))) from by first | with_reducible rfl | (simp [c_1, c_2, c_16, c_19, c_21, opB, cdPlenty]; done) | (simp only [c_1, c_2, c_16, c_19, c_21] <;> simp [opB, cdPlenty]; done) | (simp only [opB, cdPlenty, c_1, c_2, c_16, c_19, c_21] <;> simp [opB, cdPlenty]; done) | (simp [c_1, c_2, c_16, c_19, c_21, opB, cdPlenty, Bool.and_assoc]; done) | (simp [c_1, c_2, c_16, c_19, c_21, opB, cdPlenty, Bool.and_assoc, Bool.or_assoc]; done) | rfl | (simp [c_1, c_2, c_16, c_19, c_21, opB, cdPlenty]; omega) | (simp_all [opB, cdPlenty]; done)) _ (congrArg (fun z : Bool => nI z.toNat) (show (true : Bool) = (decide (xUse g 2 ≠ 0) && (decide ((decide (tn a1 = tn a2)).toNat < g 4 (5 * 3 + tn a1)) && decide (0 < g 4 (5 * 3 + tn a2)))) from by first | with_reducible rfl | (simp [c_1, c_2, c_16, c_19, c_21, opB, cdPlenty]; done) | (simp only [c_1, c_2, c_16, c_19, c_21] <;> simp [opB, cdPlenty]; done) | (simp only [opB, cdPlenty, c_1, c_2, c_16, c_19, c_21] <;> simp [opB, cdPlenty]; done) | (simp [c_1, c_2, c_16, c_19, c_21, opB, cdPlenty, Bool.and_assoc]; done) | (simp [c_1, c_2, c_16, c_19, c_21, opB, cdPlenty, Bool.and_assoc, Bool.or_assoc]; done) | rfl | (simp [c_1, c_2, c_16, c_19, c_21, opB, cdPlenty]; omega) | (simp_all [opB, cdPlenty]; done))) H locs hM hS ls (lv_sub hl [0, 1, 2, 3] rfl)
    refine zr_icmp_neN (a := (tn a1)) (b := (tn a2)) (tgt := 37) hx hb (by omega) (by omega) dX1_plenty_30 (by decide) (fun c_22 => ?_) (fun c_22 => ?_)
    · refine lv_iconst (v := nI 0) hx hb dX1_plenty_37 zi_0 ?_
      exact J_38 _ (congrArg (fun z : Bool => nI z.toNat) (show (false : Bool) = (decide ((tn a1) = (tn a2))) from by first | with_reducible rfl | (simp [c_1, c_2, c_16, c_22, opB, cdPlenty]; done) | (simp only [c_1, c_2, c_16, c_22] <;> simp [opB, cdPlenty]; done) | (simp only [opB, cdPlenty, c_1, c_2, c_16, c_22] <;> simp [opB, cdPlenty]; done) | (simp [c_1, c_2, c_16, c_22, opB, cdPlenty, Bool.and_assoc]; done) | (simp [c_1, c_2, c_16, c_22, opB, cdPlenty, Bool.and_assoc, Bool.or_assoc]; done) | rfl | (simp [c_1, c_2, c_16, c_22, opB, cdPlenty]; omega) | (simp_all [opB, cdPlenty]; done))) H locs hM hS ls (lv_sub hl [1, 2, 3, 0] rfl)
    · refine lv_iconst (v := nI 1) hx hb dX1_plenty_33 zi_1 ?_
      refine lv_goto (tgt := 38) hx hb dX1_plenty_34 (by decide) ?_
      exact J_38 _ (congrArg (fun z : Bool => nI z.toNat) (show (true : Bool) = (decide ((tn a1) = (tn a2))) from by first | with_reducible rfl | (simp [c_1, c_2, c_16, c_22, opB, cdPlenty]; done) | (simp only [c_1, c_2, c_16, c_22] <;> simp [opB, cdPlenty]; done) | (simp only [opB, cdPlenty, c_1, c_2, c_16, c_22] <;> simp [opB, cdPlenty]; done) | (simp [c_1, c_2, c_16, c_22, opB, cdPlenty, Bool.and_assoc]; done) | (simp [c_1, c_2, c_16, c_22, opB, cdPlenty, Bool.and_assoc, Bool.or_assoc]; done) | rfl | (simp [c_1, c_2, c_16, c_22, opB, cdPlenty]; omega) | (simp_all [opB, cdPlenty]; done))) H locs hM hS ls (lv_sub hl [1, 2, 3, 0] rfl)
def cdKnight (g : G) (a1 : Int32) (a2 : Int32) (a3 : Int32) : Nat := (if (inB a1 7 && okN a2 3) = true then (if (inR a3 0 999) = true then (if (decide (xUse g 0 ≠ 0) && mMayRob g (tn a1) (tv a2)) = true then 0 else 3) else 2) else 1)
set_option maxHeartbeats 1000000 in
set_option maxRecDepth 100000 in
theorem cX_knight (l : Launch) (hfl : l.stackTraces = false) {D : va_G} {dA : Nat → ClassId} {cn : Nat → Nat} {A : Nat → Prop} {pa : NM → Nat} {g : G} {T : va_W} (hg : Sm g) (a1 : Int32) (a2 : Int32) (a3 : Int32) (ht : g 7 4 < 3) (hb4 : ∀ j, j < 20 → g 4 j ≤ 100) (hv : g 8 1 ≤ 1900) (h6 : ∀ c, c < 24 → g 2 c ≤ 6) (hr8 : ∀ p, p < 3 → roadsN g p 30 ≤ 8) (h7 : g 7 7 ≤ 3) (hnc : g 8 0 ≤ 15) (hk6 : ∀ p, p < 3 → g 6 p ≤ 100) (h78 : g 7 8 ≤ 3) (H0 : Heap) (hM : XS D dA cn A pa g T H0) (hA : ∀ q, H0.size ≤ q → A q) {Post : Option Value → Heap → Prop} {XPost : String → Heap → Prop} (hPost : (cdKnight g a1 a2 a3) = 0 → ∀ H : Heap, XS D dA cn A pa (gDoneX (gRobX (gs (gs (gUseX g (xUse g 0 - 1)) 6 (g 7 4) (g 6 (g 7 4) + 1)) 7 8 (if (!decide (g 6 (g 7 4) + 1 < 3) && (decide (g 7 8 = 0) || decide ((gs (gUseX g (xUse g 0 - 1)) 6 (g 7 4) (g 6 (g 7 4) + 1)) 6 (g 7 8 - 1) < g 6 (g 7 4) + 1))) = true then g 7 4 + 1 else g 7 8)) (tn a1) (tv a2) (tn a3)) false) T H → Sm (gDoneX (gRobX (gs (gs (gUseX g (xUse g 0 - 1)) 6 (g 7 4) (g 6 (g 7 4) + 1)) 7 8 (if (!decide (g 6 (g 7 4) + 1 < 3) && (decide (g 7 8 = 0) || decide ((gs (gUseX g (xUse g 0 - 1)) 6 (g 7 4) (g 6 (g 7 4) + 1)) 6 (g 7 8 - 1) < g 6 (g 7 4) + 1))) = true then g 7 4 + 1 else g 7 8)) (tn a1) (tv a2) (tn a3)) false) → Post (some (.int (mI (if tv a2 = 0 then 0 else robK (gs (gs (gUseX g (xUse g 0 - 1)) 6 (g 7 4) (g 6 (g 7 4) + 1)) 7 8 (if (!decide (g 6 (g 7 4) + 1 < 3) && (decide (g 7 8 = 0) || decide ((gs (gUseX g (xUse g 0 - 1)) 6 (g 7 4) (g 6 (g 7 4) + 1)) 6 (g 7 8 - 1) < g 6 (g 7 4) + 1))) = true then g 7 4 + 1 else g 7 8)) (tv a2 - 1) (rX (gs (gs (gUseX g (xUse g 0 - 1)) 6 (g 7 4) (g 6 (g 7 4) + 1)) 7 8 (if (!decide (g 6 (g 7 4) + 1 < 3) && (decide (g 7 8 = 0) || decide ((gs (gUseX g (xUse g 0 - 1)) 6 (g 7 4) (g 6 (g 7 4) + 1)) 6 (g 7 8 - 1) < g 6 (g 7 4) + 1))) = true then g 7 4 + 1 else g 7 8)) (tv a2) (tn a3)) + 1)))) H) (hXP : ∀ n : Nat, (cdKnight g a1 a2 a3) = n → n ≠ 0 → ∀ H : Heap, XS D dA cn A pa g T H → XPost (exS n) H) : vCt l yX1_knight (ws_ yX1_knight cX1_knight 6 (some .int)) (rmF 18 8 4036 834) A (KX D dA cn A) [.ref (pa (0, 0)), .int a1, .int a2, .int a3] H0 Post XPost := by
  refine vc_of RX1 rfl (by decide) (Nat.le_of_ble_eq_true rfl) ?_
  intro pr en s m args below meth cd S hr hlk hnm hno hh hKX ls hl
  have hS : va_S A s.heap H0 [] := zc_start hh
  have hA : ∀ q, s.heap.size ≤ q → A q := fun q h => hA q (by rw [← hh]; exact h)
  have hg0 := hg
  have hx := S.1
  have hb := S.2.1
  have hown := S.2.2.2.1
  have hts := S.2.2.2.2
  have hK := hKX.1
  have hN := hKX.2.1.1
  have hl : lv_has ls 6 [(0, .ref (pa (0, 0))), (1, .int a1), (2, .int a2), (3, .int a3)] := hl
  refine lv_iload_n hx hb dX1_knight_0 rfl (lv_at hl 1 rfl) ?_
  refine lv_bipush (v := nI 7) hx hb dX1_knight_1 zb_7 ?_
  refine kX_check hfl S hKX hM hg hS (fun q h => hA q (Nat.le_trans hS.1 h)) a1 7 (by first | omega | assumption | grind) (Nat.le_of_ble_eq_true rfl) (Nat.le_of_ble_eq_true rfl) hl.1 (Nat.le_of_ble_eq_true rfl) dX1_knight_3 (Nat.le_of_ble_eq_true rfl) (Nat.le_of_ble_eq_true rfl) hno hlk (Nat.le_of_ble_eq_true rfl) (Nat.le_of_ble_eq_true rfl) (fun c_1 H1 hM1 => hXP 1 (by first | (simp only [c_1, opB, cdKnight, Bool.true_and, Bool.and_true, Bool.false_and, Bool.and_false, reduceIte, Bool.false_eq_true]; done) | (simp [c_1, opB, cdKnight]; done) | grind | (simp_all; done)) (by decide) H1 hM1) (fun c_1 H locs hM hg hS => ?_)
  obtain ⟨hj1, ea1⟩ := inB_tn (by decide) c_1
  rw [ea1] at hl
  refine lv_iload_n hx hb dX1_knight_6 rfl (lv_at hl 2 rfl) ?_
  refine lv_iconst (v := nI 3) hx hb dX1_knight_7 zi_3 ?_
  refine kX_checkOrNone hfl S hKX hM hg hS (fun q h => hA q (Nat.le_trans hS.1 h)) a2 3 (by first | omega | assumption | grind) (Nat.le_of_ble_eq_true rfl) (Nat.le_of_ble_eq_true rfl) hl.1 (Nat.le_of_ble_eq_true rfl) dX1_knight_8 (Nat.le_of_ble_eq_true rfl) (Nat.le_of_ble_eq_true rfl) hno hlk (Nat.le_of_ble_eq_true rfl) (Nat.le_of_ble_eq_true rfl) (fun c_2 H1 hM1 => hXP 1 (by first | (simp only [c_1, c_2, opB, cdKnight, Bool.true_and, Bool.and_true, Bool.false_and, Bool.and_false, reduceIte, Bool.false_eq_true]; done) | (simp [c_1, c_2, opB, cdKnight]; done) | grind | (simp_all; done)) (by decide) H1 hM1) (fun c_2 H locs hM hg hS => ?_)
  obtain ⟨hj2, ea2⟩ := okN_tv (by decide) c_2
  rw [ea2] at hl
  refine lv_iload_n hx hb dX1_knight_11 rfl (lv_at hl 3 rfl) ?_
  refine lv_iconst (v := nI 0) hx hb dX1_knight_12 zi_0 ?_
  refine lv_sipush (v := nI 999) hx hb dX1_knight_13 zs_999 ?_
  refine kX_checkRange hfl S hKX hM hg hS (fun q h => hA q (Nat.le_trans hS.1 h)) a3 0 999 (by first | omega | assumption | grind) (by first | omega | assumption | grind) (Nat.le_of_ble_eq_true rfl) (Nat.le_of_ble_eq_true rfl) hl.1 (Nat.le_of_ble_eq_true rfl) dX1_knight_16 (Nat.le_of_ble_eq_true rfl) (Nat.le_of_ble_eq_true rfl) hno hlk (Nat.le_of_ble_eq_true rfl) (Nat.le_of_ble_eq_true rfl) (fun c_3 H1 hM1 => hXP 2 (by first | (simp only [c_1, c_2, c_3, opB, cdKnight, Bool.true_and, Bool.and_true, Bool.false_and, Bool.and_false, reduceIte, Bool.false_eq_true]; done) | (simp [c_1, c_2, c_3, opB, cdKnight]; done) | grind | (simp_all; done)) (by decide) H1 hM1) (fun c_3 H locs hM hg hS => ?_)
  obtain ⟨lj3, hj3, ea3⟩ := inR_tn (by decide) (by decide) c_3
  rw [ea3] at hl
  refine lv_aload_n hx hb dX1_knight_19 rfl (lv_at hl 0 rfl) ?_
  refine xk_get 0 306 (by decide) q824 S hKX hS dX1_knight_20 ?_
  refine kX_usable S hKX hM hg hS (fun q h => hA q (Nat.le_trans hS.1 h)) 0 (by first | omega | assumption | grind) (by first | omega | assumption | grind) (Nat.le_of_ble_eq_true rfl) (Nat.le_of_ble_eq_true rfl) hl.1 (Nat.le_of_ble_eq_true rfl) dX1_knight_23 (Nat.le_of_ble_eq_true rfl) (Nat.le_of_ble_eq_true rfl) (fun H locs hM hg hS => ?_)
  refine zr_astore_o (lv' := [(4, va_rf (opB (decide (xUse g 0 ≠ 0)) (pa (13, xUse g 0 - 1)))), (0, .ref (pa (0, 0))), (1, .int (nI (tn a1))), (2, .int (mI (tv a2))), (3, .int (nI (tn a3)))]) hx hb dX1_knight_26 hl (by decide) rfl (fun ls hl => ?_)
  refine zr_aload_o hx hb dX1_knight_28 (lv_at hl 0 rfl) ?_
  have J_47 : ∀ yL4_47 : Option Nat, yL4_47 = opB (decide (xUse g 0 ≠ 0)) (pa (13, xUse g 0 - 1)) → ∀ yS0_47 : Int32, yS0_47 = nI (decide (xUse g 0 ≠ 0) && mMayRob g (tn a1) (tv a2)).toNat → ∀ (H : Heap) (locs : List Loc), XS D dA cn A pa g T H → va_S A s.heap H locs → ∀ ls : Array Slot, lv_has ls 6 [(0, .ref (pa (0, 0))), (1, .int (nI (tn a1))), (2, .int (mI (tv a2))), (3, .int (nI (tn a3))), (4, va_rf yL4_47)] → W pr l en (rmF 18 8 4036 834) s m args below meth cd H locs (4) (22) (vx_MQ below (zc_Q Post A) (vc_X XPost A) args s 8 4036 A) (F0 m 47 ls [.int yS0_47]) := by
    intro yL4_47 eyL4_47 yS0_47 eyS0_47 H locs hM hS ls hl
    subst eyL4_47
    subst eyS0_47
    refine kX_checkState hfl S hKX hM hg hS (fun q h => hA q (Nat.le_trans hS.1 h)) (decide (xUse g 0 ≠ 0) && mMayRob g (tn a1) (tv a2))  (Nat.le_of_ble_eq_true rfl) (Nat.le_of_ble_eq_true rfl) hl.1 (Nat.le_of_ble_eq_true rfl) dX1_knight_47 (Nat.le_of_ble_eq_true rfl) (Nat.le_of_ble_eq_true rfl) hno hlk (Nat.le_of_ble_eq_true rfl) (Nat.le_of_ble_eq_true rfl) (fun c_6 H1 hM1 => hXP 3 (by first | (simp only [c_1, c_2, c_3, c_6, opB, cdKnight, Bool.true_and, Bool.and_true, Bool.false_and, Bool.and_false, reduceIte, Bool.false_eq_true]; done) | (simp [c_1, c_2, c_3, c_6, opB, cdKnight]; done) | grind | (simp_all; done)) (by decide) H1 hM1) (fun c_6 H locs hM hg hS => ?_)
    have hMR : mMayRob g (tn a1) (tv a2) = true := by have q := c_6; simp only [Bool.and_eq_true, decide_eq_true_eq, Bool.not_eq_true', decide_eq_false_iff_not] at q; exact q.2
    have hus : decide (xUse g 0 ≠ 0) = true := by have q := c_6; rw [Bool.and_eq_true] at q; exact q.1
    have hul := xUse_le g 0
    have hu0 : xUse g 0 ≠ 0 := of_decide_eq_true hus
    rw [opB_t hus] at hl
    have hkn := hk6 (g 7 4) ht
    refine lv_aload_n hx hb dX1_knight_50 rfl (lv_at hl 0 rfl) ?_
    refine lv_aload hx hb dX1_knight_51 (lv_at hl 4 rfl) ?_
    refine kX_use S hKX hM hg hS (fun q h => hA q (Nat.le_trans hS.1 h)) (xUse g 0 - 1) (by first | omega | assumption | grind) (Nat.le_of_ble_eq_true rfl) (Nat.le_of_ble_eq_true rfl) hl.1 (Nat.le_of_ble_eq_true rfl) dX1_knight_53 (Nat.le_of_ble_eq_true rfl) (Nat.le_of_ble_eq_true rfl) (fun H locs hM hg hS => ?_)
    refine lv_aload_n hx hb dX1_knight_56 rfl (lv_at hl 0 rfl) ?_
    refine gX_knights S hK hM dX1_knight_57 ?_
    refine lv_aload_n hx hb dX1_knight_60 rfl (lv_at hl 0 rfl) ?_
    refine gX_turn S hK hM (g 7 4) (by first | rfl | (simp [gUseX, gs]; done)) dX1_knight_61 ?_
    have hb_7 : g 7 4 < 1048576 := by first | exact hg 7 4 | exact hg0 _ _ | (have := hg 7 4; omega) | omega
    refine lv_dup2_11 hx hb dX1_knight_64 rfl rfl ?_
    refine lX_knights S hK hM (g 7 4) (by omega) (g 6 (g 7 4)) (by first | rfl | (simp [gUseX, gs]; done)) dX1_knight_65 ?_
    have hb_8 : g 6 (g 7 4) < 1048576 := by first | exact hg 6 (g 7 4) | exact hg0 _ _ | (have := hg 6 (g 7 4); omega) | omega
    refine lv_iconst (v := nI 1) hx hb dX1_knight_66 zi_1 ?_
    refine zr_addN (a := (g 6 (g 7 4))) (b := 1) hx hb dX1_knight_67 ?_
    refine sX_knights S hK hM hS (g 7 4) (by omega) ((g 6 (g 7 4)) + 1) dX1_knight_68 (fun H locs hM hS => ?_)
    have hg : Sm (gs (gUseX g (xUse g 0 - 1)) 6 (g 7 4) ((g 6 (g 7 4)) + 1)) := Sm_gs hg (by first | omega | exact Nat.lt_of_le_of_lt (Bool.toNat_le _) (by decide) | ((repeat' split) <;> omega))
    refine lv_aload_n hx hb dX1_knight_69 rfl (lv_at hl 0 rfl) ?_
    refine gX_knights S hK hM dX1_knight_70 ?_
    refine lv_aload_n hx hb dX1_knight_73 rfl (lv_at hl 0 rfl) ?_
    refine gX_turn S hK hM (g 7 4) (by first | rfl | (simp [gUseX, gs]; done)) dX1_knight_74 ?_
    have hb_9 : g 7 4 < 1048576 := by first | exact hg 7 4 | exact hg0 _ _ | (have := hg 7 4; omega) | omega
    refine lX_knights S hK hM (g 7 4) (by omega) ((g 6 (g 7 4)) + 1) (by first | rfl | simp [gs]) dX1_knight_77 ?_
    have hb_10 : (g 6 (g 7 4)) + 1 < 1048576 := by first | exact hg 6 (g 7 4) | exact hg0 _ _ | (have := hg 6 (g 7 4); omega) | omega
    refine lv_iconst (v := nI 3) hx hb dX1_knight_78 zi_3 ?_
    have J_119 : ∀ gJ : G, gJ = gs (gs (gUseX g (xUse g 0 - 1)) 6 (g 7 4) (g 6 (g 7 4) + 1)) 7 8 (if (!decide (g 6 (g 7 4) + 1 < 3) && (decide (g 7 8 = 0) || decide ((gs (gUseX g (xUse g 0 - 1)) 6 (g 7 4) (g 6 (g 7 4) + 1)) 6 (g 7 8 - 1) < g 6 (g 7 4) + 1))) = true then g 7 4 + 1 else g 7 8) → Sm gJ → ∀ (H : Heap) (locs : List Loc), XS D dA cn A pa gJ T H → va_S A s.heap H locs → ∀ ls : Array Slot, lv_has ls 6 [(0, .ref (pa (0, 0))), (1, .int (nI (tn a1))), (2, .int (mI (tv a2))), (3, .int (nI (tn a3)))] → W pr l en (rmF 18 8 4036 834) s m args below meth cd H locs (5) (28) (vx_MQ below (zc_Q Post A) (vc_X XPost A) args s 8 4036 A) (F0 m 119 ls []) := by
      intro gJ egJ hg H locs hM hS ls hl
      subst egJ
      refine lv_aload_n hx hb dX1_knight_119 rfl (lv_at hl 0 rfl) ?_
      refine lv_iload_n hx hb dX1_knight_120 rfl (lv_at hl 1 rfl) ?_
      refine lv_iload_n hx hb dX1_knight_121 rfl (lv_at hl 2 rfl) ?_
      refine lv_iload_n hx hb dX1_knight_122 rfl (lv_at hl 3 rfl) ?_
      refine kX_doRob S hKX hM hg hS (fun q h => hA q (Nat.le_trans hS.1 h)) (tn a1) (tv a2) (tn a3) (by first | omega | assumption | grind) (by first | omega | assumption | grind) (by first | omega | assumption | grind) (by first | omega | assumption | grind) (by exact fun j hj => Nat.le_trans (hb4 j hj) (by decide)) (by first | omega | assumption | grind) (by exact mMayRob_pos hMR) (Nat.le_of_ble_eq_true rfl) (Nat.le_of_ble_eq_true rfl) hl.1 (Nat.le_of_ble_eq_true rfl) dX1_knight_123 (Nat.le_of_ble_eq_true rfl) (Nat.le_of_ble_eq_true rfl) (fun H locs hM hg hS => ?_)
      refine lv_istore (lv' := [(5, .int (mI (if (tv a2) = 0 then 0 else robK (gs (gs (gUseX g (xUse g 0 - 1)) 6 (g 7 4) (g 6 (g 7 4) + 1)) 7 8 (if (!decide (g 6 (g 7 4) + 1 < 3) && (decide (g 7 8 = 0) || decide ((gs (gUseX g (xUse g 0 - 1)) 6 (g 7 4) (g 6 (g 7 4) + 1)) 6 (g 7 8 - 1) < g 6 (g 7 4) + 1))) = true then g 7 4 + 1 else g 7 8)) ((tv a2) - 1) (rX (gs (gs (gUseX g (xUse g 0 - 1)) 6 (g 7 4) (g 6 (g 7 4) + 1)) 7 8 (if (!decide (g 6 (g 7 4) + 1 < 3) && (decide (g 7 8 = 0) || decide ((gs (gUseX g (xUse g 0 - 1)) 6 (g 7 4) (g 6 (g 7 4) + 1)) 6 (g 7 8 - 1) < g 6 (g 7 4) + 1))) = true then g 7 4 + 1 else g 7 8)) (tv a2) (tn a3)) + 1))), (0, .ref (pa (0, 0))), (1, .int (nI (tn a1))), (2, .int (mI (tv a2))), (3, .int (nI (tn a3)))]) hx hb dX1_knight_126 hl (by decide) rfl (fun ls hl => ?_)
      have hrf : ∀ j, (gRobX (gs (gs (gUseX g (xUse g 0 - 1)) 6 (g 7 4) (g 6 (g 7 4) + 1)) 7 8 (if (!decide (g 6 (g 7 4) + 1 < 3) && (decide (g 7 8 = 0) || decide ((gs (gUseX g (xUse g 0 - 1)) 6 (g 7 4) (g 6 (g 7 4) + 1)) 6 (g 7 8 - 1) < g 6 (g 7 4) + 1))) = true then g 7 4 + 1 else g 7 8)) (tn a1) (tv a2) (tn a3)) 3 j = g 3 j := fun j => (gRobX_nf (gs (gs (gUseX g (xUse g 0 - 1)) 6 (g 7 4) (g 6 (g 7 4) + 1)) 7 8 (if (!decide (g 6 (g 7 4) + 1 < 3) && (decide (g 7 8 = 0) || decide ((gs (gUseX g (xUse g 0 - 1)) 6 (g 7 4) (g 6 (g 7 4) + 1)) 6 (g 7 8 - 1) < g 6 (g 7 4) + 1))) = true then g 7 4 + 1 else g 7 8)) (tn a1) (tv a2) (tn a3) (by decide) (by decide) (by decide) (by decide) j).trans (show (gs (gs (gUseX g (xUse g 0 - 1)) 6 (g 7 4) (g 6 (g 7 4) + 1)) 7 8 (if (!decide (g 6 (g 7 4) + 1 < 3) && (decide (g 7 8 = 0) || decide ((gs (gUseX g (xUse g 0 - 1)) 6 (g 7 4) (g 6 (g 7 4) + 1)) 6 (g 7 8 - 1) < g 6 (g 7 4) + 1))) = true then g 7 4 + 1 else g 7 8)) 3 j = g 3 j from rfl)
      refine lv_aload_n hx hb dX1_knight_128 rfl (lv_at hl 1 rfl) ?_
      refine lv_iconst (v := nI 0) hx hb dX1_knight_129 zi_0 ?_
      refine kX_done S hKX hM hg hS (fun q h => hA q (Nat.le_trans hS.1 h)) false (by show gRobX _ _ _ _ 7 4 < 3; rw [gRobX_7 _ _ _ _ (by decide)]; exact ht) (by intro c hc; rw [gRobX_nf _ _ _ _ (by decide) (by decide) (by decide) (by decide)]; exact h6 c hc) (by intro p hp; rw [roadsN_f3 hrf]; exact hr8 p hp) (by rw [gRobX_7 _ _ _ _ (by decide)]; exact h7) (by rw [gRobX_80]; exact hnc) (Nat.le_of_ble_eq_true rfl) (Nat.le_of_ble_eq_true rfl) hl.1 (Nat.le_of_ble_eq_true rfl) dX1_knight_130 (Nat.le_of_ble_eq_true rfl) (Nat.le_of_ble_eq_true rfl) (fun H locs hM hg hS => ?_)
      refine lv_iload hx hb dX1_knight_133 (lv_at hl 0 rfl) ?_
      exact vx_ret (zc_nret (mI (if tv a2 = 0 then 0 else robK (gs (gs (gUseX g (xUse g 0 - 1)) 6 (g 7 4) (g 6 (g 7 4) + 1)) 7 8 (if (!decide (g 6 (g 7 4) + 1 < 3) && (decide (g 7 8 = 0) || decide ((gs (gUseX g (xUse g 0 - 1)) 6 (g 7 4) (g 6 (g 7 4) + 1)) 6 (g 7 8 - 1) < g 6 (g 7 4) + 1))) = true then g 7 4 + 1 else g 7 8)) (tv a2 - 1) (rX (gs (gs (gUseX g (xUse g 0 - 1)) 6 (g 7 4) (g 6 (g 7 4) + 1)) 7 8 (if (!decide (g 6 (g 7 4) + 1 < 3) && (decide (g 7 8 = 0) || decide ((gs (gUseX g (xUse g 0 - 1)) 6 (g 7 4) (g 6 (g 7 4) + 1)) 6 (g 7 8 - 1) < g 6 (g 7 4) + 1))) = true then g 7 4 + 1 else g 7 8)) (tv a2) (tn a3)) + 1)) (congrArg mI (show (if (tv a2) = 0 then 0 else robK (gs (gs (gUseX g (xUse g 0 - 1)) 6 (g 7 4) (g 6 (g 7 4) + 1)) 7 8 (if (!decide (g 6 (g 7 4) + 1 < 3) && (decide (g 7 8 = 0) || decide ((gs (gUseX g (xUse g 0 - 1)) 6 (g 7 4) (g 6 (g 7 4) + 1)) 6 (g 7 8 - 1) < g 6 (g 7 4) + 1))) = true then g 7 4 + 1 else g 7 8)) ((tv a2) - 1) (rX (gs (gs (gUseX g (xUse g 0 - 1)) 6 (g 7 4) (g 6 (g 7 4) + 1)) 7 8 (if (!decide (g 6 (g 7 4) + 1 < 3) && (decide (g 7 8 = 0) || decide ((gs (gUseX g (xUse g 0 - 1)) 6 (g 7 4) (g 6 (g 7 4) + 1)) 6 (g 7 8 - 1) < g 6 (g 7 4) + 1))) = true then g 7 4 + 1 else g 7 8)) (tv a2) (tn a3)) + 1 : Nat) = (if tv a2 = 0 then 0 else robK (gs (gs (gUseX g (xUse g 0 - 1)) 6 (g 7 4) (g 6 (g 7 4) + 1)) 7 8 (if (!decide (g 6 (g 7 4) + 1 < 3) && (decide (g 7 8 = 0) || decide ((gs (gUseX g (xUse g 0 - 1)) 6 (g 7 4) (g 6 (g 7 4) + 1)) 6 (g 7 8 - 1) < g 6 (g 7 4) + 1))) = true then g 7 4 + 1 else g 7 8)) (tv a2 - 1) (rX (gs (gs (gUseX g (xUse g 0 - 1)) 6 (g 7 4) (g 6 (g 7 4) + 1)) 7 8 (if (!decide (g 6 (g 7 4) + 1 < 3) && (decide (g 7 8 = 0) || decide ((gs (gUseX g (xUse g 0 - 1)) 6 (g 7 4) (g 6 (g 7 4) + 1)) 6 (g 7 8 - 1) < g 6 (g 7 4) + 1))) = true then g 7 4 + 1 else g 7 8)) (tv a2) (tn a3)) + 1) from by first | with_reducible rfl | (simp [c_1, c_2, c_3, c_6, opB, cdKnight]; done) | (simp only [c_1, c_2, c_3, c_6] <;> simp [opB, cdKnight]; done) | (simp only [opB, cdKnight, c_1, c_2, c_3, c_6] <;> simp [opB, cdKnight]; done) | (simp [c_1, c_2, c_3, c_6, opB, cdKnight, Bool.and_assoc]; done) | (simp [c_1, c_2, c_3, c_6, opB, cdKnight, Bool.and_assoc, Bool.or_assoc]; done) | rfl | (simp [c_1, c_2, c_3, c_6, opB, cdKnight]; omega) | (simp_all [opB, cdKnight]; done))) (hPost (by first | rfl | (simp only [c_1, c_2, c_3, c_6, opB, cdKnight, Bool.true_and, Bool.and_true, reduceIte]; done) | (simp [c_1, c_2, c_3, c_6, opB, cdKnight]; done) | grind | (simp_all; done)) H hM hg) hS hx hb hr hlk (Nat.le_of_ble_eq_true rfl) (Nat.le_of_ble_eq_true rfl) dX1_knight_135)
    refine zr_icmp_ltN (a := ((g 6 (g 7 4)) + 1)) (b := 3) (tgt := 119) hx hb (by omega) (by omega) dX1_knight_79 (by decide) (fun c_21 => ?_) (fun c_21 => ?_)
    · exact J_119 _ (show (gs (gUseX g (xUse g 0 - 1)) 6 (g 7 4) ((g 6 (g 7 4)) + 1) : G) = gs (gs (gUseX g (xUse g 0 - 1)) 6 (g 7 4) (g 6 (g 7 4) + 1)) 7 8 (if (!decide (g 6 (g 7 4) + 1 < 3) && (decide (g 7 8 = 0) || decide ((gs (gUseX g (xUse g 0 - 1)) 6 (g 7 4) (g 6 (g 7 4) + 1)) 6 (g 7 8 - 1) < g 6 (g 7 4) + 1))) = true then g 7 4 + 1 else g 7 8) from by first | (rw [if_neg (by simp [c_1, c_2, c_3, c_6, c_21])]; exact (gs_self rfl).symm) | (rw [if_pos (by simp [c_1, c_2, c_3, c_6, c_21])]; done)) hg H locs hM hS ls (lv_sub hl [0, 1, 2, 3] rfl)
    · refine lv_aload_n hx hb dX1_knight_82 rfl (lv_at hl 0 rfl) ?_
      refine gX_armyHolder S hK hM (g 7 8) (by first | rfl | (simp [gUseX, gs]; done)) dX1_knight_83 ?_
      have hb_22 : g 7 8 < 1048576 := by first | exact hg 7 8 | exact hg0 _ _ | (have := hg 7 8; omega) | omega
      refine lv_iconst (v := mI 0) hx hb dX1_knight_86 zi_m1 ?_
      have J_111 : (((g 7 8) = 0) ∨ (((gs (gUseX g (xUse g 0 - 1)) 6 (g 7 4) ((g 6 (g 7 4)) + 1)) 6 ((g 7 8) - 1)) < ((g 6 (g 7 4)) + 1))) → ∀ (H : Heap) (locs : List Loc), XS D dA cn A pa (gs (gUseX g (xUse g 0 - 1)) 6 (g 7 4) ((g 6 (g 7 4)) + 1)) T H → va_S A s.heap H locs → ∀ ls : Array Slot, lv_has ls 6 [(0, .ref (pa (0, 0))), (1, .int (nI (tn a1))), (2, .int (mI (tv a2))), (3, .int (nI (tn a3)))] → W pr l en (rmF 18 8 4036 834) s m args below meth cd H locs (5) (28) (vx_MQ below (zc_Q Post A) (vc_X XPost A) args s 8 4036 A) (F0 m 111 ls []) := by
        intro cJ_111 H locs hM hS ls hl
        refine lv_aload_n hx hb dX1_knight_111 rfl (lv_at hl 0 rfl) ?_
        refine lv_aload_n hx hb dX1_knight_112 rfl (lv_at hl 0 rfl) ?_
        refine gX_turn S hK hM (g 7 4) (by first | rfl | (simp [gUseX, gs]; done)) dX1_knight_113 ?_
        have hb_29 : g 7 4 < 1048576 := by first | exact hg 7 4 | exact hg0 _ _ | (have := hg 7 4; omega) | omega
        refine zr_nm ?_
        refine pX_armyHolder S hK hM hS (g 7 4 + 1) dX1_knight_116 (fun H locs hM hS => ?_)
        have hg : Sm (gs (gs (gUseX g (xUse g 0 - 1)) 6 (g 7 4) ((g 6 (g 7 4)) + 1)) 7 8 (g 7 4 + 1)) := Sm_gs hg (by first | omega | exact Nat.lt_of_le_of_lt (Bool.toNat_le _) (by decide) | ((repeat' split) <;> omega))
        exact J_119 _ (show (gs (gs (gUseX g (xUse g 0 - 1)) 6 (g 7 4) ((g 6 (g 7 4)) + 1)) 7 8 (g 7 4 + 1) : G) = gs (gs (gUseX g (xUse g 0 - 1)) 6 (g 7 4) (g 6 (g 7 4) + 1)) 7 8 (if (!decide (g 6 (g 7 4) + 1 < 3) && (decide (g 7 8 = 0) || decide ((gs (gUseX g (xUse g 0 - 1)) 6 (g 7 4) (g 6 (g 7 4) + 1)) 6 (g 7 8 - 1) < g 6 (g 7 4) + 1))) = true then g 7 4 + 1 else g 7 8) from by first | (rw [if_neg (by simp [c_1, c_2, c_3, c_6, c_21, cJ_111])]; exact (gs_self rfl).symm) | (rw [if_pos (by simp [c_1, c_2, c_3, c_6, c_21, cJ_111])]; done)) hg H locs hM hS ls (lv_sub hl [0, 1, 2, 3] rfl)
      refine zr_icmp_eqM (a := (g 7 8)) (b := 0) (tgt := 111) hx hb (by omega) (by omega) dX1_knight_87 (by decide) (fun c_30 => ?_) (fun c_30 => ?_)
      · exact J_111 (by first | assumption | omega | (simp [c_1, c_2, c_3, c_6, c_21, c_30, opB, cdKnight]; done) | (simp [c_1, c_2, c_3, c_6, c_21, c_30, opB, cdKnight]; omega) | grind) H locs hM hS ls (lv_sub hl [0, 1, 2, 3] rfl)
      · refine lv_aload_n hx hb dX1_knight_90 rfl (lv_at hl 0 rfl) ?_
        refine gX_knights S hK hM dX1_knight_91 ?_
        refine lv_aload_n hx hb dX1_knight_94 rfl (lv_at hl 0 rfl) ?_
        refine gX_turn S hK hM (g 7 4) (by first | rfl | (simp [gUseX, gs]; done)) dX1_knight_95 ?_
        have hb_31 : g 7 4 < 1048576 := by first | exact hg 7 4 | exact hg0 _ _ | (have := hg 7 4; omega) | omega
        refine lX_knights S hK hM (g 7 4) (by omega) ((g 6 (g 7 4)) + 1) (by first | rfl | simp [gs]) dX1_knight_98 ?_
        have hb_32 : (g 6 (g 7 4)) + 1 < 1048576 := by first | exact hg 6 (g 7 4) | exact hg0 _ _ | (have := hg 6 (g 7 4); omega) | omega
        have hk9 : (gs (gUseX g (xUse g 0 - 1)) 6 (g 7 4) (g 6 (g 7 4) + 1)) 6 (g 7 8 - 1) ≤ 101 := by
          by_cases q : g 7 8 - 1 = g 7 4
          · rw [q, gs_eq]; omega
          · rw [gs_ni _ q]; exact Nat.le_trans (hk6 _ (by omega)) (by decide)
        refine lv_aload_n hx hb dX1_knight_99 rfl (lv_at hl 0 rfl) ?_
        refine gX_knights S hK hM dX1_knight_100 ?_
        refine lv_aload_n hx hb dX1_knight_103 rfl (lv_at hl 0 rfl) ?_
        refine gX_armyHolder S hK hM (g 7 8) (by first | rfl | (simp [gUseX, gs]; done)) dX1_knight_104 ?_
        have hb_33 : g 7 8 < 1048576 := by first | exact hg 7 8 | exact hg0 _ _ | (have := hg 7 8; omega) | omega
        rw [mI_pred (show 0 < (g 7 8) from by omega)]
        refine lX_knights S hK hM ((g 7 8) - 1) (by omega) ((gs (gUseX g (xUse g 0 - 1)) 6 (g 7 4) ((g 6 (g 7 4)) + 1)) 6 ((g 7 8) - 1)) (by first | rfl | simp [gs]) dX1_knight_107 ?_
        have hb_34 : (gs (gUseX g (xUse g 0 - 1)) 6 (g 7 4) ((g 6 (g 7 4)) + 1)) 6 ((g 7 8) - 1) < 1048576 := by first | exact hg 6 ((g 7 8) - 1) | exact hg0 _ _ | (have := hg 6 ((g 7 8) - 1); omega) | omega
        refine zr_icmp_leN (a := ((g 6 (g 7 4)) + 1)) (b := ((gs (gUseX g (xUse g 0 - 1)) 6 (g 7 4) ((g 6 (g 7 4)) + 1)) 6 ((g 7 8) - 1))) (tgt := 119) hx hb (by omega) (by omega) dX1_knight_108 (by decide) (fun c_35 => ?_) (fun c_35 => ?_)
        · exact J_119 _ (show (gs (gUseX g (xUse g 0 - 1)) 6 (g 7 4) ((g 6 (g 7 4)) + 1) : G) = gs (gs (gUseX g (xUse g 0 - 1)) 6 (g 7 4) (g 6 (g 7 4) + 1)) 7 8 (if (!decide (g 6 (g 7 4) + 1 < 3) && (decide (g 7 8 = 0) || decide ((gs (gUseX g (xUse g 0 - 1)) 6 (g 7 4) (g 6 (g 7 4) + 1)) 6 (g 7 8 - 1) < g 6 (g 7 4) + 1))) = true then g 7 4 + 1 else g 7 8) from by first | (rw [if_neg (by simp [c_1, c_2, c_3, c_6, c_21, c_30, c_35])]; exact (gs_self rfl).symm) | (rw [if_pos (by simp [c_1, c_2, c_3, c_6, c_21, c_30, c_35])]; done)) hg H locs hM hS ls (lv_sub hl [0, 1, 2, 3] rfl)
        · exact J_111 (by first | assumption | omega | (simp [c_1, c_2, c_3, c_6, c_21, c_30, c_35, opB, cdKnight]; done) | (simp [c_1, c_2, c_3, c_6, c_21, c_30, c_35, opB, cdKnight]; omega) | grind) H locs hM hS ls (lv_sub hl [0, 1, 2, 3] rfl)
  refine zr_ifnullB (b := decide (xUse g 0 ≠ 0)) (tgt := 46) hx hb dX1_knight_30 (by decide) (fun c_36 => ?_) (fun c_36 => ?_)
  · rw [opB_f c_36] at hl
    refine lv_iconst (v := nI 0) hx hb dX1_knight_46 zi_0 ?_
    exact J_47 _ (show (none : Option Nat) = (opB (decide (xUse g 0 ≠ 0)) (pa (13, xUse g 0 - 1))) from by first | with_reducible rfl | (simp [c_1, c_2, c_3, c_36, opB, cdKnight]; done) | (simp only [c_1, c_2, c_3, c_36] <;> simp [opB, cdKnight]; done) | (simp only [opB, cdKnight, c_1, c_2, c_3, c_36] <;> simp [opB, cdKnight]; done) | (simp [c_1, c_2, c_3, c_36, opB, cdKnight, Bool.and_assoc]; done) | (simp [c_1, c_2, c_3, c_36, opB, cdKnight, Bool.and_assoc, Bool.or_assoc]; done) | rfl | (simp [c_1, c_2, c_3, c_36, opB, cdKnight]; omega) | (simp_all [opB, cdKnight]; done)) _ (congrArg (fun z : Bool => nI z.toNat) (show (false : Bool) = (decide (xUse g 0 ≠ 0) && mMayRob g (tn a1) (tv a2)) from by first | with_reducible rfl | (simp [c_1, c_2, c_3, c_36, opB, cdKnight]; done) | (simp only [c_1, c_2, c_3, c_36] <;> simp [opB, cdKnight]; done) | (simp only [opB, cdKnight, c_1, c_2, c_3, c_36] <;> simp [opB, cdKnight]; done) | (simp [c_1, c_2, c_3, c_36, opB, cdKnight, Bool.and_assoc]; done) | (simp [c_1, c_2, c_3, c_36, opB, cdKnight, Bool.and_assoc, Bool.or_assoc]; done) | rfl | (simp [c_1, c_2, c_3, c_36, opB, cdKnight]; omega) | (simp_all [opB, cdKnight]; done))) H locs hM hS ls (lv_sub hl [1, 2, 3, 4, 0] rfl)
  · rw [opB_t c_36] at hl
    refine lv_aload_n hx hb dX1_knight_33 rfl (lv_at hl 1 rfl) ?_
    refine lv_iload_n hx hb dX1_knight_34 rfl (lv_at hl 2 rfl) ?_
    refine lv_iload_n hx hb dX1_knight_35 rfl (lv_at hl 3 rfl) ?_
    refine kX_canRob S hKX hM hg hS (tn a1) (tv a2) (by first | omega | assumption | grind) (by first | omega | assumption | grind) (by first | omega | assumption | grind) (by first | omega | assumption | grind) (Nat.le_of_ble_eq_true rfl) (Nat.le_of_ble_eq_true rfl) hl.1 (Nat.le_of_ble_eq_true rfl) dX1_knight_36 (Nat.le_of_ble_eq_true rfl) (Nat.le_of_ble_eq_true rfl) (fun locs hS => ?_)
    refine zr_if_eqB (b := mMayRob g (tn a1) (tv a2)) (tgt := 46) hx hb dX1_knight_39 (by decide) (fun c_37 => ?_) (fun c_37 => ?_)
    · refine lv_iconst (v := nI 0) hx hb dX1_knight_46 zi_0 ?_
      exact J_47 _ (show (some (pa (13, xUse g 0 - 1)) : Option Nat) = (opB (decide (xUse g 0 ≠ 0)) (pa (13, xUse g 0 - 1))) from by first | with_reducible rfl | (simp [c_1, c_2, c_3, c_36, c_37, opB, cdKnight]; done) | (simp only [c_1, c_2, c_3, c_36, c_37] <;> simp [opB, cdKnight]; done) | (simp only [opB, cdKnight, c_1, c_2, c_3, c_36, c_37] <;> simp [opB, cdKnight]; done) | (simp [c_1, c_2, c_3, c_36, c_37, opB, cdKnight, Bool.and_assoc]; done) | (simp [c_1, c_2, c_3, c_36, c_37, opB, cdKnight, Bool.and_assoc, Bool.or_assoc]; done) | rfl | (simp [c_1, c_2, c_3, c_36, c_37, opB, cdKnight]; omega) | (simp_all [opB, cdKnight]; done)) _ (congrArg (fun z : Bool => nI z.toNat) (show (false : Bool) = (decide (xUse g 0 ≠ 0) && mMayRob g (tn a1) (tv a2)) from by first | with_reducible rfl | (simp [c_1, c_2, c_3, c_36, c_37, opB, cdKnight]; done) | (simp only [c_1, c_2, c_3, c_36, c_37] <;> simp [opB, cdKnight]; done) | (simp only [opB, cdKnight, c_1, c_2, c_3, c_36, c_37] <;> simp [opB, cdKnight]; done) | (simp [c_1, c_2, c_3, c_36, c_37, opB, cdKnight, Bool.and_assoc]; done) | (simp [c_1, c_2, c_3, c_36, c_37, opB, cdKnight, Bool.and_assoc, Bool.or_assoc]; done) | rfl | (simp [c_1, c_2, c_3, c_36, c_37, opB, cdKnight]; omega) | (simp_all [opB, cdKnight]; done))) H locs hM hS ls (lv_sub hl [1, 2, 3, 4, 0] rfl)
    · refine lv_iconst (v := nI 1) hx hb dX1_knight_42 zi_1 ?_
      refine lv_goto (tgt := 47) hx hb dX1_knight_43 (by decide) ?_
      exact J_47 _ (show (some (pa (13, xUse g 0 - 1)) : Option Nat) = (opB (decide (xUse g 0 ≠ 0)) (pa (13, xUse g 0 - 1))) from by first | with_reducible rfl | (simp [c_1, c_2, c_3, c_36, c_37, opB, cdKnight]; done) | (simp only [c_1, c_2, c_3, c_36, c_37] <;> simp [opB, cdKnight]; done) | (simp only [opB, cdKnight, c_1, c_2, c_3, c_36, c_37] <;> simp [opB, cdKnight]; done) | (simp [c_1, c_2, c_3, c_36, c_37, opB, cdKnight, Bool.and_assoc]; done) | (simp [c_1, c_2, c_3, c_36, c_37, opB, cdKnight, Bool.and_assoc, Bool.or_assoc]; done) | rfl | (simp [c_1, c_2, c_3, c_36, c_37, opB, cdKnight]; omega) | (simp_all [opB, cdKnight]; done)) _ (congrArg (fun z : Bool => nI z.toNat) (show (true : Bool) = (decide (xUse g 0 ≠ 0) && mMayRob g (tn a1) (tv a2)) from by first | with_reducible rfl | (simp [c_1, c_2, c_3, c_36, c_37, opB, cdKnight]; done) | (simp only [c_1, c_2, c_3, c_36, c_37] <;> simp [opB, cdKnight]; done) | (simp only [opB, cdKnight, c_1, c_2, c_3, c_36, c_37] <;> simp [opB, cdKnight]; done) | (simp [c_1, c_2, c_3, c_36, c_37, opB, cdKnight, Bool.and_assoc]; done) | (simp [c_1, c_2, c_3, c_36, c_37, opB, cdKnight, Bool.and_assoc, Bool.or_assoc]; done) | rfl | (simp [c_1, c_2, c_3, c_36, c_37, opB, cdKnight]; omega) | (simp_all [opB, cdKnight]; done))) H locs hM hS ls (lv_sub hl [1, 2, 3, 4, 0] rfl)
