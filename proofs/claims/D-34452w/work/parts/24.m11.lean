/-! THE MODEL: placing (printed by gen/m11.py) -/
def yfN (g : G) (p c : Nat) : Nat → G
  | 0 => g
  | h + 1 => if (mOf h c && !decide (g 0 h = 5)) = true then (if 0 < yfN g p c h 4 (15 + g 0 h) then gs (gs (yfN g p c h) 4 (15 + g 0 h) (yfN g p c h 4 (15 + g 0 h) - 1)) 4 (5 * p + g 0 h) (gs (yfN g p c h) 4 (15 + g 0 h) (yfN g p c h 4 (15 + g 0 h) - 1) 4 (5 * p + g 0 h) + 1) else yfN g p c h) else yfN g p c h
theorem yfN_nf (g : G) (p c : Nat) {f : Nat} (hf : f ≠ 4) : ∀ i j, yfN g p c i f j = g f j := by
  intro i
  induction i with
  | zero => intro j; rfl
  | succ i ih =>
    intro j
    simp only [yfN]
    split
    · split
      · rw [gs_nf _ hf, gs_nf _ hf]; exact ih j
      · exact ih j
    · exact ih j
theorem yfN_le {g : G} {p c : Nat} (hb : ∀ j, j < 20 → g 4 j ≤ 100) : ∀ i j, j < 20 → yfN g p c i 4 j ≤ 100 + i := by
  intro i
  induction i with
  | zero => intro j hj; exact hb j hj
  | succ i ih =>
    intro j hj
    have h1 := ih j hj
    simp only [yfN]
    split
    · split
      · by_cases q : j = 5 * p + g 0 i
        · subst q
          rw [gs_eq]
          by_cases r : 5 * p + g 0 i = 15 + g 0 i
          · rw [r, gs_eq]; rw [r] at h1; omega
          · rw [gs_ni _ r]; omega
        · rw [gs_ni _ q]
          by_cases r : j = 15 + g 0 i
          · subst r; rw [gs_eq]; omega
          · rw [gs_ni _ r]; omega
      · omega
    · omega
abbrev plB (g : G) (c e : Nat) : G := gs (gs (gs g 22 0 0) 2 c (g 7 4 + 1)) 3 e (g 7 4 + 1)
def plY (g : G) (c e : Nat) : G := if g 7 2 < 3 then plB g c e else yfN (plB g c e) (g 7 4) c 7
theorem plY_nf (g : G) (c e : Nat) {f : Nat} (h4 : f ≠ 4) (j : Nat) : plY g c e f j = plB g c e f j := by
  unfold plY
  split
  · rfl
  · exact yfN_nf _ _ _ h4 _ _
set_option maxHeartbeats 1000000 in
set_option maxRecDepth 100000 in
theorem cM_yieldsFirst (l : Launch) {D : va_G} {dA : Nat → ClassId} {A : Nat → Prop} {ad : Nat → Nat} {g : G} (hg : Sm g) (a1 : Nat) (a2 : Nat) (h1 : a1 < 3) (h2 : a2 < 24) (hgd : ∀ h, h < 7 → g 0 h ≤ 5) (hb4 : ∀ j, j < 20 → g 4 j ≤ 100) (H0 : Heap) (hM : MS D dA A ad g H0) {Post : Option Value → Heap → Prop} (hPost : ∀ H : Heap, MS D dA A ad (yfN g a1 a2 7) H → Sm (yfN g a1 a2 7) → Post (none) H) : Ct l yX3_yieldsFirst (ws_ yX3_yieldsFirst cX3_yieldsFirst 5 none) (rmF 2 0 0 36) A (KT D dA) [.ref (ad 0), .int (nI a1), .int (nI a2)] H0 Post := by
  refine zc_of RX3 rfl (by decide) (Nat.le_of_ble_eq_true rfl) ?_
  intro pr en s m args below meth cd S hr hlk hnm hh hK ls hl
  have hS : va_S A s.heap H0 [] := zc_start hh
  have hg0 := hg
  have hx := S.1
  have hb := S.2.1
  have hown := S.2.2.2.1
  have hts := S.2.2.2.2
  have hl : lv_has ls 5 [(0, .ref (ad 0)), (1, .int (nI a1)), (2, .int (nI a2))] := hl
  refine lv_iconst (v := nI 0) hx hb dX3_yieldsFirst_0 zi_0 ?_
  refine lv_istore_n (lv' := [(3, .int (nI 0)), (0, .ref (ad 0)), (1, .int (nI a1)), (2, .int (nI a2))]) hx hb dX3_yieldsFirst_1 rfl hl (by decide) rfl (fun ls hl => ?_)
  have L_2 : ∀ (n_2 : Nat) (i : Nat), i ≤ 7 → 7 - i < n_2 → ∀ gLv : G, gLv = yfN g a1 a2 i → Sm gLv → ∀ (H : Heap) (locs : List Loc), MS D dA A ad gLv H → va_S A s.heap H locs → ∀ ls : Array Slot, lv_has ls 5 [(0, .ref (ad 0)), (1, .int (nI a1)), (2, .int (nI a2)), (3, .int (nI i))] → W pr l en (rmF 2 0 0 36) s m args below meth cd H locs 0 0 (MQ below (zc_Q Post A) args s 0 0 A) (F0 m 2 ls []) := by
    intro n_2
    induction n_2 with
    | zero => intro i hi_2 hm_2; exact absurd hm_2 (Nat.not_lt_zero _)
    | succ n_2 ih_2 =>
      intro i hi_2 hm_2 gLv egL hg H locs hM hS ls hl
      subst egL
      refine lv_iload_n hx hb dX3_yieldsFirst_2 rfl (lv_at hl 3 rfl) ?_
      refine lv_bipush (v := nI 7) hx hb dX3_yieldsFirst_3 zb_7 ?_
      refine zr_icmp_geN (a := i) (b := 7) (tgt := 98) hx hb (by omega) (by omega) dX3_yieldsFirst_5 (by decide) (fun c_1 => ?_) (fun c_1 => ?_)
      · have e_i : 7 = i := by omega
        subst e_i
        exact zc_vret (hPost H hM hg) hS hx hb hr hlk (Nat.zero_le _) (Nat.zero_le _) dX3_yieldsFirst_98
      · refine lv_iload_n hx hb dX3_yieldsFirst_8 rfl (lv_at hl 3 rfl) ?_
        refine lv_iload_n hx hb dX3_yieldsFirst_9 rfl (lv_at hl 2 rfl) ?_
        refine kM_isOf S hK hM hg hS i a2 (by first | omega | assumption | grind) (by first | omega | assumption | grind) (Nat.le_of_ble_eq_true rfl) (Nat.le_of_ble_eq_true rfl) hl.1 (Nat.le_of_ble_eq_true rfl) dX3_yieldsFirst_10 (Nat.zero_le _) (Nat.zero_le _) (fun locs hS => ?_)
        have J_31 : ∀ yS0_31 : Int32, yS0_31 = nI ((mOf i a2) && (!decide ((g 0 i) = 5))).toNat → ∀ (H : Heap) (locs : List Loc), MS D dA A ad (yfN g a1 a2 i) H → va_S A s.heap H locs → ∀ ls : Array Slot, lv_has ls 5 [(0, .ref (ad 0)), (1, .int (nI a1)), (2, .int (nI a2)), (3, .int (nI i))] → W pr l en (rmF 2 0 0 36) s m args below meth cd H locs 0 0 (MQ below (zc_Q Post A) args s 0 0 A) (F0 m 31 ls [.int yS0_31]) := by
          intro yS0_31 eyS0_31 H locs hM hS ls hl
          subst eyS0_31
          refine lv_istore (lv' := [(4, .int (nI ((mOf i a2) && (!decide ((g 0 i) = 5))).toNat)), (0, .ref (ad 0)), (1, .int (nI a1)), (2, .int (nI a2)), (3, .int (nI i))]) hx hb dX3_yieldsFirst_31 hl (by decide) rfl (fun ls hl => ?_)
          refine lv_iload hx hb dX3_yieldsFirst_33 (lv_at hl 0 rfl) ?_
          refine zr_if_eqB (b := (mOf i a2) && (!decide ((g 0 i) = 5))) (tgt := 92) hx hb dX3_yieldsFirst_35 (by decide) (fun c_5 => ?_) (fun c_5 => ?_)
          · refine lv_iinc (v := nI (i + 1)) (lv' := [(3, .int (nI (i + 1))), (4, .int (nI ((mOf i a2) && (!decide ((g 0 i) = 5))).toNat)), (0, .ref (ad 0)), (1, .int (nI a1)), (2, .int (nI a2))]) hx hb dX3_yieldsFirst_92 hl (k := 4) rfl (zk_inc _) (by decide) rfl (fun ls hl => ?_)
            refine lv_goto (tgt := 2) hx hb dX3_yieldsFirst_95 (by decide) ?_
            exact ih_2 (i + 1) (by first | omega | assumption | (simp; done) | grind) (by omega) (yfN g a1 a2 i) (by first | rfl | (simp [yfN, c_1, c_5]; done)) hg H locs hM hS ls (lv_sub hl [2, 3, 4, 0] rfl)
          · have his := c_5
            simp only [Bool.and_eq_true, Bool.not_eq_true', decide_eq_false_iff_not] at his
            have hgd5 : g 0 i < 5 := by have := hgd i (by omega); have := his.2; omega
            refine lv_aload_n hx hb dX3_yieldsFirst_38 rfl (lv_at hl 1 rfl) ?_
            refine gM_hand S hK hM dX3_yieldsFirst_39 ?_
            refine lv_bipush (v := nI 15) hx hb dX3_yieldsFirst_42 zb_15 ?_
            refine lv_aload_n hx hb dX3_yieldsFirst_44 rfl (lv_at hl 1 rfl) ?_
            refine gM_good S hK hM dX3_yieldsFirst_45 ?_
            refine lv_iload_n hx hb dX3_yieldsFirst_48 rfl (lv_at hl 4 rfl) ?_
            refine lM_good S hK hM i (by omega) (g 0 i) (yfN_nf _ _ _ (by decide) _ _) dX3_yieldsFirst_49 ?_
            have hb_6 : g 0 i < 1048576 := by first | exact hg 0 i | exact hg0 _ _ | (have := hg 0 i; omega) | omega
            refine zr_addN (a := 15) (b := (g 0 i)) hx hb dX3_yieldsFirst_50 ?_
            refine lM_hand S hK hM (15 + (g 0 i)) (by omega) ((yfN g a1 a2 i) 4 (15 + (g 0 i))) rfl dX3_yieldsFirst_51 ?_
            have hb_7 : (yfN g a1 a2 i) 4 (15 + (g 0 i)) < 1048576 := by first | exact hg 4 (15 + (g 0 i)) | exact hg0 _ _ | (have := hg 4 (15 + (g 0 i)); omega) | omega
            refine zr_if_leN (a := ((yfN g a1 a2 i) 4 (15 + (g 0 i)))) (tgt := 92) hx hb (by omega) dX3_yieldsFirst_52 (by decide) (fun c_8 => ?_) (fun c_8 => ?_)
            · refine lv_iinc (v := nI (i + 1)) (lv' := [(3, .int (nI (i + 1))), (4, .int (nI ((mOf i a2) && (!decide ((g 0 i) = 5))).toNat)), (0, .ref (ad 0)), (1, .int (nI a1)), (2, .int (nI a2))]) hx hb dX3_yieldsFirst_92 hl (k := 4) rfl (zk_inc _) (by decide) rfl (fun ls hl => ?_)
              refine lv_goto (tgt := 2) hx hb dX3_yieldsFirst_95 (by decide) ?_
              exact ih_2 (i + 1) (by first | omega | assumption | (simp; done) | grind) (by omega) (yfN g a1 a2 i) (by first | rfl | (simp [yfN, c_1, c_5, c_8]; done)) hg H locs hM hS ls (lv_sub hl [2, 3, 4, 0] rfl)
            · have hy1 := yfN_le (p := a1) (c := a2) hb4 i (5 * a1 + g 0 i) (by omega)
              have hy2 : gs (yfN g a1 a2 i) 4 (15 + g 0 i) (yfN g a1 a2 i 4 (15 + g 0 i) - 1) 4 (5 * a1 + g 0 i) = yfN g a1 a2 i 4 (5 * a1 + g 0 i) := gs_ni _ (by omega)
              refine lv_aload_n hx hb dX3_yieldsFirst_55 rfl (lv_at hl 1 rfl) ?_
              refine gM_hand S hK hM dX3_yieldsFirst_56 ?_
              refine lv_bipush (v := nI 15) hx hb dX3_yieldsFirst_59 zb_15 ?_
              refine lv_aload_n hx hb dX3_yieldsFirst_61 rfl (lv_at hl 1 rfl) ?_
              refine gM_good S hK hM dX3_yieldsFirst_62 ?_
              refine lv_iload_n hx hb dX3_yieldsFirst_65 rfl (lv_at hl 4 rfl) ?_
              refine lM_good S hK hM i (by omega) (g 0 i) (yfN_nf _ _ _ (by decide) _ _) dX3_yieldsFirst_66 ?_
              have hb_9 : g 0 i < 1048576 := by first | exact hg 0 i | exact hg0 _ _ | (have := hg 0 i; omega) | omega
              refine zr_addN (a := 15) (b := (g 0 i)) hx hb dX3_yieldsFirst_67 ?_
              refine lv_dup2_11 hx hb dX3_yieldsFirst_68 rfl rfl ?_
              refine lM_hand S hK hM (15 + (g 0 i)) (by omega) ((yfN g a1 a2 i) 4 (15 + (g 0 i))) rfl dX3_yieldsFirst_69 ?_
              have hb_10 : (yfN g a1 a2 i) 4 (15 + (g 0 i)) < 1048576 := by first | exact hg 4 (15 + (g 0 i)) | exact hg0 _ _ | (have := hg 4 (15 + (g 0 i)); omega) | omega
              refine lv_iconst (v := nI 1) hx hb dX3_yieldsFirst_70 zi_1 ?_
              refine zr_subN (a := ((yfN g a1 a2 i) 4 (15 + (g 0 i)))) (b := 1) hx hb (by omega) dX3_yieldsFirst_71 ?_
              refine sM_hand S hK hM hS (15 + (g 0 i)) (by omega) (((yfN g a1 a2 i) 4 (15 + (g 0 i))) - 1) dX3_yieldsFirst_72 (fun H locs hM hS => ?_)
              have hg : Sm (gs (yfN g a1 a2 i) 4 (15 + (g 0 i)) (((yfN g a1 a2 i) 4 (15 + (g 0 i))) - 1)) := Sm_gs hg (by first | omega | exact Nat.lt_of_le_of_lt (Bool.toNat_le _) (by decide) | ((repeat' split) <;> omega))
              refine lv_aload_n hx hb dX3_yieldsFirst_73 rfl (lv_at hl 1 rfl) ?_
              refine gM_hand S hK hM dX3_yieldsFirst_74 ?_
              refine lv_iconst (v := nI 5) hx hb dX3_yieldsFirst_77 zi_5 ?_
              refine lv_iload_n hx hb dX3_yieldsFirst_78 rfl (lv_at hl 2 rfl) ?_
              refine zr_mulN (a := 5) (b := a1) hx hb dX3_yieldsFirst_79 ?_
              refine lv_aload_n hx hb dX3_yieldsFirst_80 rfl (lv_at hl 1 rfl) ?_
              refine gM_good S hK hM dX3_yieldsFirst_81 ?_
              refine lv_iload_n hx hb dX3_yieldsFirst_84 rfl (lv_at hl 4 rfl) ?_
              refine lM_good S hK hM i (by omega) (g 0 i) (yfN_nf _ _ _ (by decide) _ _) dX3_yieldsFirst_85 ?_
              have hb_11 : g 0 i < 1048576 := by first | exact hg 0 i | exact hg0 _ _ | (have := hg 0 i; omega) | omega
              refine zr_addN (a := (5 * a1)) (b := (g 0 i)) hx hb dX3_yieldsFirst_86 ?_
              refine lv_dup2_11 hx hb dX3_yieldsFirst_87 rfl rfl ?_
              refine lM_hand S hK hM ((5 * a1) + (g 0 i)) (by omega) ((gs (yfN g a1 a2 i) 4 (15 + (g 0 i)) (((yfN g a1 a2 i) 4 (15 + (g 0 i))) - 1)) 4 ((5 * a1) + (g 0 i))) (by first | rfl | simp [gs]) dX3_yieldsFirst_88 ?_
              have hb_12 : (gs (yfN g a1 a2 i) 4 (15 + (g 0 i)) (((yfN g a1 a2 i) 4 (15 + (g 0 i))) - 1)) 4 ((5 * a1) + (g 0 i)) < 1048576 := by first | exact hg 4 ((5 * a1) + (g 0 i)) | exact hg0 _ _ | (have := hg 4 ((5 * a1) + (g 0 i)); omega) | omega
              refine lv_iconst (v := nI 1) hx hb dX3_yieldsFirst_89 zi_1 ?_
              refine zr_addN (a := ((gs (yfN g a1 a2 i) 4 (15 + (g 0 i)) (((yfN g a1 a2 i) 4 (15 + (g 0 i))) - 1)) 4 ((5 * a1) + (g 0 i)))) (b := 1) hx hb dX3_yieldsFirst_90 ?_
              refine sM_hand S hK hM hS ((5 * a1) + (g 0 i)) (by omega) (((gs (yfN g a1 a2 i) 4 (15 + (g 0 i)) (((yfN g a1 a2 i) 4 (15 + (g 0 i))) - 1)) 4 ((5 * a1) + (g 0 i))) + 1) dX3_yieldsFirst_91 (fun H locs hM hS => ?_)
              have hg : Sm (gs (gs (yfN g a1 a2 i) 4 (15 + (g 0 i)) (((yfN g a1 a2 i) 4 (15 + (g 0 i))) - 1)) 4 ((5 * a1) + (g 0 i)) (((gs (yfN g a1 a2 i) 4 (15 + (g 0 i)) (((yfN g a1 a2 i) 4 (15 + (g 0 i))) - 1)) 4 ((5 * a1) + (g 0 i))) + 1)) := Sm_gs hg (by first | omega | exact Nat.lt_of_le_of_lt (Bool.toNat_le _) (by decide) | ((repeat' split) <;> omega))
              refine lv_iinc (v := nI (i + 1)) (lv' := [(3, .int (nI (i + 1))), (4, .int (nI ((mOf i a2) && (!decide ((g 0 i) = 5))).toNat)), (0, .ref (ad 0)), (1, .int (nI a1)), (2, .int (nI a2))]) hx hb dX3_yieldsFirst_92 hl (k := 4) rfl (zk_inc _) (by decide) rfl (fun ls hl => ?_)
              refine lv_goto (tgt := 2) hx hb dX3_yieldsFirst_95 (by decide) ?_
              exact ih_2 (i + 1) (by first | omega | assumption | (simp; done) | grind) (by omega) (gs (gs (yfN g a1 a2 i) 4 (15 + (g 0 i)) (((yfN g a1 a2 i) 4 (15 + (g 0 i))) - 1)) 4 ((5 * a1) + (g 0 i)) (((gs (yfN g a1 a2 i) 4 (15 + (g 0 i)) (((yfN g a1 a2 i) 4 (15 + (g 0 i))) - 1)) 4 ((5 * a1) + (g 0 i))) + 1)) (by first | rfl | (simp [yfN, c_1, c_5, c_8]; done)) hg H locs hM hS ls (lv_sub hl [2, 3, 4, 0] rfl)
        refine zr_if_eqB (b := mOf i a2) (tgt := 30) hx hb dX3_yieldsFirst_13 (by decide) (fun c_13 => ?_) (fun c_13 => ?_)
        · refine lv_iconst (v := nI 0) hx hb dX3_yieldsFirst_30 zi_0 ?_
          exact J_31 _ (congrArg (fun z : Bool => nI z.toNat) (show (false : Bool) = ((mOf i a2) && (!decide ((g 0 i) = 5))) from by first | with_reducible rfl | (simp [c_1, c_13]; done) | (simp only [c_1, c_13] <;> simp []; done) | (simp [c_1, c_13, Bool.and_assoc]; done) | (simp [c_1, c_13, Bool.and_assoc, Bool.or_assoc]; done) | rfl | (simp [c_1, c_13]; omega))) H locs hM hS ls (lv_sub hl [0, 1, 2, 3] rfl)
        · refine lv_aload_n hx hb dX3_yieldsFirst_16 rfl (lv_at hl 0 rfl) ?_
          refine gM_good S hK hM dX3_yieldsFirst_17 ?_
          refine lv_iload_n hx hb dX3_yieldsFirst_20 rfl (lv_at hl 3 rfl) ?_
          refine lM_good S hK hM i (by omega) (g 0 i) (yfN_nf _ _ _ (by decide) _ _) dX3_yieldsFirst_21 ?_
          have hb_14 : g 0 i < 1048576 := by first | exact hg 0 i | exact hg0 _ _ | (have := hg 0 i; omega) | omega
          refine lv_iconst (v := nI 5) hx hb dX3_yieldsFirst_22 zi_5 ?_
          refine zr_icmp_eqN (a := (g 0 i)) (b := 5) (tgt := 30) hx hb (by omega) (by omega) dX3_yieldsFirst_23 (by decide) (fun c_15 => ?_) (fun c_15 => ?_)
          · refine lv_iconst (v := nI 0) hx hb dX3_yieldsFirst_30 zi_0 ?_
            exact J_31 _ (congrArg (fun z : Bool => nI z.toNat) (show (false : Bool) = ((mOf i a2) && (!decide ((g 0 i) = 5))) from by first | with_reducible rfl | (simp [c_1, c_13, c_15]; done) | (simp only [c_1, c_13, c_15] <;> simp []; done) | (simp [c_1, c_13, c_15, Bool.and_assoc]; done) | (simp [c_1, c_13, c_15, Bool.and_assoc, Bool.or_assoc]; done) | rfl | (simp [c_1, c_13, c_15]; omega))) H locs hM hS ls (lv_sub hl [0, 1, 2, 3] rfl)
          · refine lv_iconst (v := nI 1) hx hb dX3_yieldsFirst_26 zi_1 ?_
            refine lv_goto (tgt := 31) hx hb dX3_yieldsFirst_27 (by decide) ?_
            exact J_31 _ (congrArg (fun z : Bool => nI z.toNat) (show (true : Bool) = ((mOf i a2) && (!decide ((g 0 i) = 5))) from by first | with_reducible rfl | (simp [c_1, c_13, c_15]; done) | (simp only [c_1, c_13, c_15] <;> simp []; done) | (simp [c_1, c_13, c_15, Bool.and_assoc]; done) | (simp [c_1, c_13, c_15, Bool.and_assoc, Bool.or_assoc]; done) | rfl | (simp [c_1, c_13, c_15]; omega))) H locs hM hS ls (lv_sub hl [0, 1, 2, 3] rfl)
  exact L_2 _ 0 (by first | omega | assumption | (simp; done) | grind) (Nat.lt_succ_self _) (g) (rfl) hg H0 [] hM hS ls (lv_sub hl [1, 2, 3, 0] rfl)
theorem kM_yieldsFirst {pr : Program} {l : Launch} {en : Env} {R : Room} {s : State} {m : MethodId} {args : Array Value} {below : List Frame} {meth : Method} {cd : Code} {H : Heap} {locs : List Loc} {cells slots : Nat} {Q : State → Prop} {cc : ByteArray} {pc nL : Nat} {ls : Array Slot} {rest : List Value} {D : va_G} {dA : Nat → ClassId} {A : Nat → Prop} {ad : Nat → Nat} {g : G} (S : CallFix pr m cd cc nL s args lw_all RX3) (hK : KT D dA s) (hM : MS D dA A ad g H) (hg : Sm g) (hS : va_S A s.heap H locs) (a1 : Nat) (a2 : Nat) (h1 : a1 < 3) (h2 : a2 < 24) (hgd : ∀ h, h < 7 → g 0 h ≤ 5) (hb4 : ∀ j, j < 20 → g 4 j ≤ 100) (hf : 2 + 1 ≤ R.frames) (hlo : 8 + (5 + 11) + 36 ≤ R.locals) (hsz : ls.size = nL) (hcat : (rest.map fun v => v.category).sum ≤ 8) (hdg : decode cc pc = .ok (.invokevirtual 152, 3)) (hq1 : cells ≤ R.cells) (hq2 : slots ≤ R.slots) (kk : ∀ (H1 : Heap) (locs1 : List Loc), MS D dA A ad (yfN g a1 a2 7) H1 → Sm (yfN g a1 a2 7) → va_S A s.heap H1 locs1 → W pr l en R s m args below meth cd H1 locs1 cells slots Q (F0 m (pc + 3) ls (rest))) : W pr l en R s m args below meth cd H locs cells slots Q (F0 m pc ls (.int (nI a2) :: .int (nI a1) :: .ref (ad 0) :: rest)) :=
  zc_callV (n := 2) (As := [.int (nI a1), .int (nI a2)]) (rest := rest) S (cM_yieldsFirst l hg a1 a2 h1 h2 hgd hb4  H hM (Post := (fun v H1 => v = none ∧ MS D dA A ad (yfN g a1 a2 7) H1 ∧ Sm (yfN g a1 a2 7))) (fun H1 h h2 => ⟨rfl, h, h2⟩)) (lw_V q1171 q1173 qs39 q76 q1174) (by decide +kernel) ⟨hf, hlo⟩ ⟨hq1, hq2⟩ (zm_recv hK hM) KT_mv (zc_K KT_mv hK hS) hS (fun _ h => h) rfl hsz rfl hcat hdg (fun v H1 locs1 hp _ _ hS1 => by obtain ⟨rfl, hM1, hg1⟩ := hp; exact kk H1 locs1 hM1 hg1 hS1)
def mPlaceG (g : G) (a1 : Int32) (a2 : Int32) : G := if (inB a1 24 && inB a2 30) = true then (if (decide (g 7 1 = 0) && (mFree (gs g 22 0 0) (tn a1) && (decide (g 3 (tn a2) = 0) && atE (tn a2) (tn a1)))) = true then (gTr (gs (gs (gs (plY g (tn a1) (tn a2)) 7 2 ((plY g (tn a1) (tn a2)) 7 2 + 1)) 7 4 (if (plY g (tn a1) (tn a2)) 7 2 + 1 < 3 then (plY g (tn a1) (tn a2)) 7 2 + 1 else if (plY g (tn a1) (tn a2)) 7 2 + 1 < 6 then 5 - ((plY g (tn a1) (tn a2)) 7 2 + 1) else 0)) 7 1 (decide ((plY g (tn a1) (tn a2)) 7 2 + 1 = 6)).toNat)) else gs (gs g 22 0 0) 22 0 2) else gs g 22 0 1
def mPlaceR (g : G) (a1 : Int32) (a2 : Int32) : Nat := if (inB a1 24 && inB a2 30) = true then (if (decide (g 7 1 = 0) && (mFree (gs g 22 0 0) (tn a1) && (decide (g 3 (tn a2) = 0) && atE (tn a2) (tn a1)))) = true then (gTr ((gs (gs (gs (plY g (tn a1) (tn a2)) 7 2 ((plY g (tn a1) (tn a2)) 7 2 + 1)) 7 4 (if (plY g (tn a1) (tn a2)) 7 2 + 1 < 3 then (plY g (tn a1) (tn a2)) 7 2 + 1 else if (plY g (tn a1) (tn a2)) 7 2 + 1 < 6 then 5 - ((plY g (tn a1) (tn a2)) 7 2 + 1) else 0)) 7 1 (decide ((plY g (tn a1) (tn a2)) 7 2 + 1 = 6)).toNat)) 7 4) else 0) else 0
set_option maxHeartbeats 1000000 in
set_option maxRecDepth 100000 in
theorem cM_place (l : Launch) {D : va_G} {dA : Nat → ClassId} {A : Nat → Prop} {ad : Nat → Nat} {g : G} (hg : Sm g) (a1 : Int32) (a2 : Int32) (ht : g 7 4 < 3) (hb4 : ∀ j, j < 20 → g 4 j ≤ 100) (hgd : ∀ h, h < 7 → g 0 h ≤ 5) (hr8 : ∀ p, p < 3 → roadsN g p 30 ≤ 8) (hpl : g 7 1 = 0 → g 7 2 < 6) (hr0 : g 7 1 = 0 → ∀ p, p < 3 → roadsN g p 30 < 8) (H0 : Heap) (hM : MS D dA A ad g H0) {Post : Option Value → Heap → Prop} (hPost : ∀ H : Heap, MS D dA A ad (mPlaceG g a1 a2) H → Sm (mPlaceG g a1 a2) → Post (some (.int (nI (mPlaceR g a1 a2)))) H) : Ct l yX3_place (ws_ yX3_place cX3_place 3 (some .int)) (rmF 7 0 0 156) A (KT D dA) [.ref (ad 0), .int a1, .int a2] H0 Post := by
  refine zc_of RX3 rfl (by decide) (Nat.le_of_ble_eq_true rfl) ?_
  intro pr en s m args below meth cd S hr hlk hnm hh hK ls hl
  have hS : va_S A s.heap H0 [] := zc_start hh
  have hg0 := hg
  have hx := S.1
  have hb := S.2.1
  have hown := S.2.2.2.1
  have hts := S.2.2.2.2
  have hl : lv_has ls 3 [(0, .ref (ad 0)), (1, .int a1), (2, .int a2)] := hl
  have hb5 : ∀ j, j < 20 → gs g 22 0 0 4 j ≤ 100 := hb4
  refine lv_aload_n hx hb dX3_place_0 rfl (lv_at hl 0 rfl) ?_
  refine lv_iload_n hx hb dX3_place_1 rfl (lv_at hl 1 rfl) ?_
  refine kM_isCorner S hK hM hg hS a1  (Nat.le_of_ble_eq_true rfl) (Nat.le_of_ble_eq_true rfl) hl.1 (Nat.le_of_ble_eq_true rfl) dX3_place_2 (Nat.zero_le _) (Nat.zero_le _) (fun locs hS => ?_)
  have J_20 : ∀ yS0_20 : Int32, yS0_20 = nI ((inB a1 24) && ((inB a2 30))).toNat → ∀ (H : Heap) (locs : List Loc), MS D dA A ad g H → va_S A s.heap H locs → ∀ ls : Array Slot, lv_has ls 3 [(0, .ref (ad 0)), (1, .int a1), (2, .int a2)] → W pr l en (rmF 7 0 0 156) s m args below meth cd H locs 0 0 (MQ below (zc_Q Post A) args s 0 0 A) (F0 m 20 ls [.int yS0_20, .ref (ad 0)]) := by
    intro yS0_20 eyS0_20 H locs hM hS ls hl
    subst eyS0_20
    refine kM_asks S hK hM hg hS ((inB a1 24) && ((inB a2 30)))  (Nat.le_of_ble_eq_true rfl) (Nat.le_of_ble_eq_true rfl) hl.1 (Nat.le_of_ble_eq_true rfl) dX3_place_20 (Nat.zero_le _) (Nat.zero_le _) (fun H locs hM hg hS => ?_)
    refine zr_if_neB (b := ((inB a1 24) && ((inB a2 30)))) (tgt := 28) hx hb dX3_place_23 (by decide) (fun c_3 => ?_) (fun c_3 => ?_)
    · rw [show (!((inB a1 24) && ((inB a2 30)))).toNat = 0 from by rw [c_3]; rfl] at hM hg
      have hc_4 := c_3
      simp only [Bool.and_eq_true] at hc_4
      obtain ⟨q_5, q_6⟩ := hc_4
      obtain ⟨hj1, ea1⟩ := inB_tn (by decide) q_5
      rw [ea1] at hl
      obtain ⟨hj2, ea2⟩ := inB_tn (by decide) q_6
      rw [ea2] at hl
      refine lv_aload_n hx hb dX3_place_28 rfl (lv_at hl 0 rfl) ?_
      refine gM_phase S hK hM (g 7 1) (by first | rfl | simp [gs]) dX3_place_29 ?_
      have hb_7 : g 7 1 < 1048576 := by first | exact hg 7 1 | exact hg0 _ _ | (have := hg 7 1; omega) | omega
      refine zr_if_neN (a := (g 7 1)) (tgt := 60) hx hb (by omega) dX3_place_32 (by decide) (fun c_8 => ?_) (fun c_8 => ?_)
      · refine lv_aload_n hx hb dX3_place_60 rfl (lv_at hl 0 rfl) ?_
        refine lv_iconst (v := nI 2) hx hb dX3_place_61 zi_2 ?_
        refine kM_fails S hK hM hg hS 2 (by first | omega | assumption | grind) (Nat.le_of_ble_eq_true rfl) (Nat.le_of_ble_eq_true rfl) hl.1 (Nat.le_of_ble_eq_true rfl) dX3_place_62 (Nat.zero_le _) (Nat.zero_le _) (fun H locs hM hg hS => ?_)
        rw [show (gs (gs g 22 0 0) 22 0 2 : G) = mPlaceG g a1 a2 from by first | (simp [mPlaceG, c_3, q_5, q_6, c_8]; done) | (simp only [mPlaceG, c_3, q_5, q_6, c_8]; done) | (simp [mPlaceG, c_3, q_5, q_6, c_8]; rfl)] at hM hg
        exact zc_nret (nI (mPlaceR g a1 a2)) (congrArg nI (show (0 : Nat) = (mPlaceR g a1 a2) from by first | (simp [mPlaceR, c_3, q_5, q_6, c_8]; done) | (simp only [mPlaceR, c_3, q_5, q_6, c_8]; done) | (simp [mPlaceR, c_3, q_5, q_6, c_8]; rfl))) (hPost H hM hg) hS hx hb hr hlk (Nat.zero_le _) (Nat.zero_le _) dX3_place_65
      · have h70 := c_8
        refine lv_aload_n hx hb dX3_place_35 rfl (lv_at hl 0 rfl) ?_
        refine lv_iload_n hx hb dX3_place_36 rfl (lv_at hl 1 rfl) ?_
        refine kM_isFree S hK hM hg hS (tn a1) (by first | omega | assumption | grind) (Nat.le_of_ble_eq_true rfl) (Nat.le_of_ble_eq_true rfl) hl.1 (Nat.le_of_ble_eq_true rfl) dX3_place_37 (Nat.zero_le _) (Nat.zero_le _) (fun locs hS => ?_)
        refine zr_if_eqB (b := mFree (gs g 22 0 0) (tn a1)) (tgt := 60) hx hb dX3_place_40 (by decide) (fun c_9 => ?_) (fun c_9 => ?_)
        · refine lv_aload_n hx hb dX3_place_60 rfl (lv_at hl 0 rfl) ?_
          refine lv_iconst (v := nI 2) hx hb dX3_place_61 zi_2 ?_
          refine kM_fails S hK hM hg hS 2 (by first | omega | assumption | grind) (Nat.le_of_ble_eq_true rfl) (Nat.le_of_ble_eq_true rfl) hl.1 (Nat.le_of_ble_eq_true rfl) dX3_place_62 (Nat.zero_le _) (Nat.zero_le _) (fun H locs hM hg hS => ?_)
          rw [show (gs (gs g 22 0 0) 22 0 2 : G) = mPlaceG g a1 a2 from by first | (simp [mPlaceG, c_3, q_5, q_6, c_8, c_9]; done) | (simp only [mPlaceG, c_3, q_5, q_6, c_8, c_9]; done) | (simp [mPlaceG, c_3, q_5, q_6, c_8, c_9]; rfl)] at hM hg
          exact zc_nret (nI (mPlaceR g a1 a2)) (congrArg nI (show (0 : Nat) = (mPlaceR g a1 a2) from by first | (simp [mPlaceR, c_3, q_5, q_6, c_8, c_9]; done) | (simp only [mPlaceR, c_3, q_5, q_6, c_8, c_9]; done) | (simp [mPlaceR, c_3, q_5, q_6, c_8, c_9]; rfl))) (hPost H hM hg) hS hx hb hr hlk (Nat.zero_le _) (Nat.zero_le _) dX3_place_65
        · refine lv_aload_n hx hb dX3_place_43 rfl (lv_at hl 0 rfl) ?_
          refine gM_road S hK hM dX3_place_44 ?_
          refine lv_iload_n hx hb dX3_place_47 rfl (lv_at hl 2 rfl) ?_
          refine lM_road S hK hM (tn a2) (by omega) (g 3 (tn a2)) (by first | rfl | simp [gs]) dX3_place_48 ?_
          have hb_10 : g 3 (tn a2) < 1048576 := by first | exact hg 3 (tn a2) | exact hg0 _ _ | (have := hg 3 (tn a2); omega) | omega
          refine zr_if_neN (a := (g 3 (tn a2))) (tgt := 60) hx hb (by omega) dX3_place_49 (by decide) (fun c_11 => ?_) (fun c_11 => ?_)
          · refine lv_aload_n hx hb dX3_place_60 rfl (lv_at hl 0 rfl) ?_
            refine lv_iconst (v := nI 2) hx hb dX3_place_61 zi_2 ?_
            refine kM_fails S hK hM hg hS 2 (by first | omega | assumption | grind) (Nat.le_of_ble_eq_true rfl) (Nat.le_of_ble_eq_true rfl) hl.1 (Nat.le_of_ble_eq_true rfl) dX3_place_62 (Nat.zero_le _) (Nat.zero_le _) (fun H locs hM hg hS => ?_)
            rw [show (gs (gs g 22 0 0) 22 0 2 : G) = mPlaceG g a1 a2 from by first | (simp [mPlaceG, c_3, q_5, q_6, c_8, c_9, c_11]; done) | (simp only [mPlaceG, c_3, q_5, q_6, c_8, c_9, c_11]; done) | (simp [mPlaceG, c_3, q_5, q_6, c_8, c_9, c_11]; rfl)] at hM hg
            exact zc_nret (nI (mPlaceR g a1 a2)) (congrArg nI (show (0 : Nat) = (mPlaceR g a1 a2) from by first | (simp [mPlaceR, c_3, q_5, q_6, c_8, c_9, c_11]; done) | (simp only [mPlaceR, c_3, q_5, q_6, c_8, c_9, c_11]; done) | (simp [mPlaceR, c_3, q_5, q_6, c_8, c_9, c_11]; rfl))) (hPost H hM hg) hS hx hb hr hlk (Nat.zero_le _) (Nat.zero_le _) dX3_place_65
          · refine lv_iload_n hx hb dX3_place_52 rfl (lv_at hl 2 rfl) ?_
            refine lv_iload_n hx hb dX3_place_53 rfl (lv_at hl 1 rfl) ?_
            refine kM_hasCorner S hK hM hg hS (tn a2) (tn a1) (by first | omega | assumption | grind) (by first | omega | assumption | grind) (Nat.le_of_ble_eq_true rfl) (Nat.le_of_ble_eq_true rfl) hl.1 (Nat.le_of_ble_eq_true rfl) dX3_place_54 (Nat.zero_le _) (Nat.zero_le _) (fun locs hS => ?_)
            refine zr_if_neB (b := atE (tn a2) (tn a1)) (tgt := 66) hx hb dX3_place_57 (by decide) (fun c_12 => ?_) (fun c_12 => ?_)
            · have hOK := c_12
              refine lv_aload_n hx hb dX3_place_66 rfl (lv_at hl 0 rfl) ?_
              refine gM_building S hK hM dX3_place_67 ?_
              refine lv_iload_n hx hb dX3_place_70 rfl (lv_at hl 1 rfl) ?_
              refine lv_aload_n hx hb dX3_place_71 rfl (lv_at hl 0 rfl) ?_
              refine gM_turn S hK hM (g 7 4) (by first | rfl | simp [gs]) dX3_place_72 ?_
              have hb_13 : g 7 4 < 1048576 := by first | exact hg 7 4 | exact hg0 _ _ | (have := hg 7 4; omega) | omega
              refine lv_iconst (v := nI 1) hx hb dX3_place_75 zi_1 ?_
              refine zr_addN (a := (g 7 4)) (b := 1) hx hb dX3_place_76 ?_
              refine sM_building S hK hM hS (tn a1) (by omega) ((g 7 4) + 1) dX3_place_77 (fun H locs hM hS => ?_)
              have hg : Sm (gs (gs g 22 0 0) 2 (tn a1) ((g 7 4) + 1)) := Sm_gs hg (by first | omega | exact Nat.lt_of_le_of_lt (Bool.toNat_le _) (by decide) | ((repeat' split) <;> omega))
              refine lv_aload_n hx hb dX3_place_78 rfl (lv_at hl 0 rfl) ?_
              refine gM_road S hK hM dX3_place_79 ?_
              refine lv_iload_n hx hb dX3_place_82 rfl (lv_at hl 2 rfl) ?_
              refine lv_aload_n hx hb dX3_place_83 rfl (lv_at hl 0 rfl) ?_
              refine gM_turn S hK hM (g 7 4) (by first | rfl | simp [gs]) dX3_place_84 ?_
              have hb_14 : g 7 4 < 1048576 := by first | exact hg 7 4 | exact hg0 _ _ | (have := hg 7 4; omega) | omega
              refine lv_iconst (v := nI 1) hx hb dX3_place_87 zi_1 ?_
              refine zr_addN (a := (g 7 4)) (b := 1) hx hb dX3_place_88 ?_
              refine sM_road S hK hM hS (tn a2) (by omega) ((g 7 4) + 1) dX3_place_89 (fun H locs hM hS => ?_)
              have hg : Sm (gs (gs (gs g 22 0 0) 2 (tn a1) ((g 7 4) + 1)) 3 (tn a2) ((g 7 4) + 1)) := Sm_gs hg (by first | omega | exact Nat.lt_of_le_of_lt (Bool.toNat_le _) (by decide) | ((repeat' split) <;> omega))
              refine lv_aload_n hx hb dX3_place_90 rfl (lv_at hl 0 rfl) ?_
              refine gM_placed S hK hM (g 7 2) (by first | rfl | simp [gs]) dX3_place_91 ?_
              have hb_15 : g 7 2 < 1048576 := by first | exact hg 7 2 | exact hg0 _ _ | (have := hg 7 2; omega) | omega
              refine lv_iconst (v := nI 3) hx hb dX3_place_94 zi_3 ?_
              have J_107 : ∀ gJ : G, gJ = plY g (tn a1) (tn a2) → Sm gJ → ∀ (H : Heap) (locs : List Loc), MS D dA A ad gJ H → va_S A s.heap H locs → ∀ ls : Array Slot, lv_has ls 3 [(0, .ref (ad 0))] → W pr l en (rmF 7 0 0 156) s m args below meth cd H locs 0 0 (MQ below (zc_Q Post A) args s 0 0 A) (F0 m 107 ls []) := by
                intro gJ egJ hg H locs hM hS ls hl
                subst egJ
                have hpl8 := hpl h70
                have hpl7 : (plY g (tn a1) (tn a2)) 7 2 < 6 := by rw [plY_nf _ _ _ (by decide)]; exact hpl8
                have hlay : ∀ p, p < 3 → roadsN (gs (gs (gs (plY g (tn a1) (tn a2)) 7 2 ((plY g (tn a1) (tn a2)) 7 2 + 1)) 7 4 (if (plY g (tn a1) (tn a2)) 7 2 + 1 < 3 then (plY g (tn a1) (tn a2)) 7 2 + 1 else if (plY g (tn a1) (tn a2)) 7 2 + 1 < 6 then 5 - ((plY g (tn a1) (tn a2)) 7 2 + 1) else 0)) 7 1 (decide ((plY g (tn a1) (tn a2)) 7 2 + 1 = 6)).toNat) p 30 ≤ 8 := by
                  intro p hp
                  refine Nat.le_trans (Nat.le_of_eq (roadsN_f3 (y := plB g (tn a1) (tn a2)) (fun j => plY_nf g _ _ (by decide) j) p 30)) ?_
                  exact lay_roads (y := gs (gs g 22 0 0) 2 (tn a1) (g 7 4 + 1)) (fun j => rfl) hr8 (hr0 h70 _ ht) p hp
                refine lv_aload_n hx hb dX3_place_107 rfl (lv_at hl 0 rfl) ?_
                refine lv_dup hx hb dX3_place_108 rfl ?_
                refine gM_placed S hK hM ((plY g (tn a1) (tn a2)) 7 2) rfl dX3_place_109 ?_
                have hb_18 : (plY g (tn a1) (tn a2)) 7 2 < 1048576 := by first | exact hg 7 2 | exact hg0 _ _ | (have := hg 7 2; omega) | omega
                refine lv_iconst (v := nI 1) hx hb dX3_place_112 zi_1 ?_
                refine zr_addN (a := ((plY g (tn a1) (tn a2)) 7 2)) (b := 1) hx hb dX3_place_113 ?_
                refine pM_placed S hK hM hS (((plY g (tn a1) (tn a2)) 7 2) + 1) dX3_place_114 (fun H locs hM hS => ?_)
                have hg : Sm (gs (plY g (tn a1) (tn a2)) 7 2 (((plY g (tn a1) (tn a2)) 7 2) + 1)) := Sm_gs hg (by first | omega | exact Nat.lt_of_le_of_lt (Bool.toNat_le _) (by decide) | ((repeat' split) <;> omega))
                refine lv_aload_n hx hb dX3_place_117 rfl (lv_at hl 0 rfl) ?_
                refine lv_aload_n hx hb dX3_place_118 rfl (lv_at hl 0 rfl) ?_
                refine gM_placed S hK hM (((plY g (tn a1) (tn a2)) 7 2) + 1) (by first | rfl | simp [gs]) dX3_place_119 ?_
                have hb_19 : ((plY g (tn a1) (tn a2)) 7 2) + 1 < 1048576 := by first | exact hg 7 2 | exact hg0 _ _ | (have := hg 7 2; omega) | omega
                refine lv_iconst (v := nI 3) hx hb dX3_place_122 zi_3 ?_
                have J_152 : ∀ yS0_152 : Int32, yS0_152 = nI ((if (((plY g (tn a1) (tn a2)) 7 2) + 1) < 3 then ((plY g (tn a1) (tn a2)) 7 2) + 1 else (if (((plY g (tn a1) (tn a2)) 7 2) + 1) < 6 then 5 - (((plY g (tn a1) (tn a2)) 7 2) + 1) else 0))) → ∀ (H : Heap) (locs : List Loc), MS D dA A ad (gs (plY g (tn a1) (tn a2)) 7 2 (((plY g (tn a1) (tn a2)) 7 2) + 1)) H → va_S A s.heap H locs → ∀ ls : Array Slot, lv_has ls 3 [(0, .ref (ad 0))] → W pr l en (rmF 7 0 0 156) s m args below meth cd H locs 0 0 (MQ below (zc_Q Post A) args s 0 0 A) (F0 m 152 ls [.int yS0_152, .ref (ad 0)]) := by
                  intro yS0_152 eyS0_152 H locs hM hS ls hl
                  subst eyS0_152
                  refine pM_turn S hK hM hS ((if (((plY g (tn a1) (tn a2)) 7 2) + 1) < 3 then ((plY g (tn a1) (tn a2)) 7 2) + 1 else (if (((plY g (tn a1) (tn a2)) 7 2) + 1) < 6 then 5 - (((plY g (tn a1) (tn a2)) 7 2) + 1) else 0))) dX3_place_152 (fun H locs hM hS => ?_)
                  have hg : Sm (gs (gs (plY g (tn a1) (tn a2)) 7 2 (((plY g (tn a1) (tn a2)) 7 2) + 1)) 7 4 ((if (((plY g (tn a1) (tn a2)) 7 2) + 1) < 3 then ((plY g (tn a1) (tn a2)) 7 2) + 1 else (if (((plY g (tn a1) (tn a2)) 7 2) + 1) < 6 then 5 - (((plY g (tn a1) (tn a2)) 7 2) + 1) else 0)))) := Sm_gs hg (by first | omega | exact Nat.lt_of_le_of_lt (Bool.toNat_le _) (by decide) | ((repeat' split) <;> omega))
                  refine lv_aload_n hx hb dX3_place_155 rfl (lv_at hl 0 rfl) ?_
                  refine lv_aload_n hx hb dX3_place_156 rfl (lv_at hl 0 rfl) ?_
                  refine gM_placed S hK hM (((plY g (tn a1) (tn a2)) 7 2) + 1) (by first | rfl | simp [gs]) dX3_place_157 ?_
                  have hb_25 : ((plY g (tn a1) (tn a2)) 7 2) + 1 < 1048576 := by first | exact hg 7 2 | exact hg0 _ _ | (have := hg 7 2; omega) | omega
                  refine lv_bipush (v := nI 6) hx hb dX3_place_160 zb_6 ?_
                  have J_170 : ∀ yS0_170 : Int32, yS0_170 = nI (decide ((((plY g (tn a1) (tn a2)) 7 2) + 1) = 6)).toNat → ∀ (H : Heap) (locs : List Loc), MS D dA A ad (gs (gs (plY g (tn a1) (tn a2)) 7 2 (((plY g (tn a1) (tn a2)) 7 2) + 1)) 7 4 ((if (((plY g (tn a1) (tn a2)) 7 2) + 1) < 3 then ((plY g (tn a1) (tn a2)) 7 2) + 1 else (if (((plY g (tn a1) (tn a2)) 7 2) + 1) < 6 then 5 - (((plY g (tn a1) (tn a2)) 7 2) + 1) else 0)))) H → va_S A s.heap H locs → ∀ ls : Array Slot, lv_has ls 3 [(0, .ref (ad 0))] → W pr l en (rmF 7 0 0 156) s m args below meth cd H locs 0 0 (MQ below (zc_Q Post A) args s 0 0 A) (F0 m 170 ls [.int yS0_170, .ref (ad 0)]) := by
                    intro yS0_170 eyS0_170 H locs hM hS ls hl
                    subst eyS0_170
                    refine pM_phase S hK hM hS ((decide ((((plY g (tn a1) (tn a2)) 7 2) + 1) = 6)).toNat) dX3_place_170 (fun H locs hM hS => ?_)
                    have hg : Sm (gs (gs (gs (plY g (tn a1) (tn a2)) 7 2 (((plY g (tn a1) (tn a2)) 7 2) + 1)) 7 4 ((if (((plY g (tn a1) (tn a2)) 7 2) + 1) < 3 then ((plY g (tn a1) (tn a2)) 7 2) + 1 else (if (((plY g (tn a1) (tn a2)) 7 2) + 1) < 6 then 5 - (((plY g (tn a1) (tn a2)) 7 2) + 1) else 0)))) 7 1 ((decide ((((plY g (tn a1) (tn a2)) 7 2) + 1) = 6)).toNat)) := Sm_gs hg (by first | omega | exact Nat.lt_of_le_of_lt (Bool.toNat_le _) (by decide) | ((repeat' split) <;> omega))
                    refine lv_aload_n hx hb dX3_place_173 rfl (lv_at hl 0 rfl) ?_
                    refine kM_looksAtTrails S hK hM hg hS  (by exact hlay) (Nat.le_of_ble_eq_true rfl) (Nat.le_of_ble_eq_true rfl) hl.1 (Nat.le_of_ble_eq_true rfl) dX3_place_174 (Nat.zero_le _) (Nat.zero_le _) (fun H locs hM hg hS => ?_)
                    refine lv_aload_n hx hb dX3_place_177 rfl (lv_at hl 0 rfl) ?_
                    refine gM_turn S hK hM ((gTr (gs (gs (gs (plY g (tn a1) (tn a2)) 7 2 (((plY g (tn a1) (tn a2)) 7 2) + 1)) 7 4 ((if (((plY g (tn a1) (tn a2)) 7 2) + 1) < 3 then ((plY g (tn a1) (tn a2)) 7 2) + 1 else (if (((plY g (tn a1) (tn a2)) 7 2) + 1) < 6 then 5 - (((plY g (tn a1) (tn a2)) 7 2) + 1) else 0)))) 7 1 ((decide ((((plY g (tn a1) (tn a2)) 7 2) + 1) = 6)).toNat))) 7 4) rfl dX3_place_178 ?_
                    have hb_27 : (gTr (gs (gs (gs (plY g (tn a1) (tn a2)) 7 2 (((plY g (tn a1) (tn a2)) 7 2) + 1)) 7 4 ((if (((plY g (tn a1) (tn a2)) 7 2) + 1) < 3 then ((plY g (tn a1) (tn a2)) 7 2) + 1 else (if (((plY g (tn a1) (tn a2)) 7 2) + 1) < 6 then 5 - (((plY g (tn a1) (tn a2)) 7 2) + 1) else 0)))) 7 1 ((decide ((((plY g (tn a1) (tn a2)) 7 2) + 1) = 6)).toNat))) 7 4 < 1048576 := by first | exact hg 7 4 | exact hg0 _ _ | (have := hg 7 4; omega) | omega
                    rw [show (gTr (gs (gs (gs (plY g (tn a1) (tn a2)) 7 2 (((plY g (tn a1) (tn a2)) 7 2) + 1)) 7 4 ((if (((plY g (tn a1) (tn a2)) 7 2) + 1) < 3 then ((plY g (tn a1) (tn a2)) 7 2) + 1 else (if (((plY g (tn a1) (tn a2)) 7 2) + 1) < 6 then 5 - (((plY g (tn a1) (tn a2)) 7 2) + 1) else 0)))) 7 1 ((decide ((((plY g (tn a1) (tn a2)) 7 2) + 1) = 6)).toNat)) : G) = mPlaceG g a1 a2 from by first | (simp [mPlaceG, c_3, q_5, q_6, c_8, c_9, c_11, c_12]; done) | (simp only [mPlaceG, c_3, q_5, q_6, c_8, c_9, c_11, c_12]; done) | (simp [mPlaceG, c_3, q_5, q_6, c_8, c_9, c_11, c_12]; rfl)] at hM hg
                    exact zc_nret (nI (mPlaceR g a1 a2)) (congrArg nI (show ((gTr (gs (gs (gs (plY g (tn a1) (tn a2)) 7 2 (((plY g (tn a1) (tn a2)) 7 2) + 1)) 7 4 ((if (((plY g (tn a1) (tn a2)) 7 2) + 1) < 3 then ((plY g (tn a1) (tn a2)) 7 2) + 1 else (if (((plY g (tn a1) (tn a2)) 7 2) + 1) < 6 then 5 - (((plY g (tn a1) (tn a2)) 7 2) + 1) else 0)))) 7 1 ((decide ((((plY g (tn a1) (tn a2)) 7 2) + 1) = 6)).toNat))) 7 4 : Nat) = (mPlaceR g a1 a2) from by first | (simp [mPlaceR, c_3, q_5, q_6, c_8, c_9, c_11, c_12]; done) | (simp only [mPlaceR, c_3, q_5, q_6, c_8, c_9, c_11, c_12]; done) | (simp [mPlaceR, c_3, q_5, q_6, c_8, c_9, c_11, c_12]; rfl))) (hPost H hM hg) hS hx hb hr hlk (Nat.zero_le _) (Nat.zero_le _) dX3_place_181
                  refine zr_icmp_neN (a := (((plY g (tn a1) (tn a2)) 7 2) + 1)) (b := 6) (tgt := 169) hx hb (by omega) (by omega) dX3_place_162 (by decide) (fun c_28 => ?_) (fun c_28 => ?_)
                  · refine lv_iconst (v := nI 0) hx hb dX3_place_169 zi_0 ?_
                    exact J_170 _ (congrArg (fun z : Bool => nI z.toNat) (show (false : Bool) = (decide ((((plY g (tn a1) (tn a2)) 7 2) + 1) = 6)) from by first | with_reducible rfl | (simp [c_3, q_5, q_6, c_8, c_9, c_11, c_12, c_28, gA, mPlaceG, mPlaceR, plY]; done) | (simp only [c_3, q_5, q_6, c_8, c_9, c_11, c_12, c_28] <;> simp [gA, mPlaceG, mPlaceR, plY]; done) | (simp only [gA, mPlaceG, mPlaceR, plY, c_3, q_5, q_6, c_8, c_9, c_11, c_12, c_28] <;> simp [gA, mPlaceG, mPlaceR, plY]; done) | (simp [c_3, q_5, q_6, c_8, c_9, c_11, c_12, c_28, gA, mPlaceG, mPlaceR, plY, Bool.and_assoc]; done) | (simp [c_3, q_5, q_6, c_8, c_9, c_11, c_12, c_28, gA, mPlaceG, mPlaceR, plY, Bool.and_assoc, Bool.or_assoc]; done) | rfl | (simp [c_3, q_5, q_6, c_8, c_9, c_11, c_12, c_28, gA, mPlaceG, mPlaceR, plY]; omega))) H locs hM hS ls (lv_sub hl [0] rfl)
                  · refine lv_iconst (v := nI 1) hx hb dX3_place_165 zi_1 ?_
                    refine lv_goto (tgt := 170) hx hb dX3_place_166 (by decide) ?_
                    exact J_170 _ (congrArg (fun z : Bool => nI z.toNat) (show (true : Bool) = (decide ((((plY g (tn a1) (tn a2)) 7 2) + 1) = 6)) from by first | with_reducible rfl | (simp [c_3, q_5, q_6, c_8, c_9, c_11, c_12, c_28, gA, mPlaceG, mPlaceR, plY]; done) | (simp only [c_3, q_5, q_6, c_8, c_9, c_11, c_12, c_28] <;> simp [gA, mPlaceG, mPlaceR, plY]; done) | (simp only [gA, mPlaceG, mPlaceR, plY, c_3, q_5, q_6, c_8, c_9, c_11, c_12, c_28] <;> simp [gA, mPlaceG, mPlaceR, plY]; done) | (simp [c_3, q_5, q_6, c_8, c_9, c_11, c_12, c_28, gA, mPlaceG, mPlaceR, plY, Bool.and_assoc]; done) | (simp [c_3, q_5, q_6, c_8, c_9, c_11, c_12, c_28, gA, mPlaceG, mPlaceR, plY, Bool.and_assoc, Bool.or_assoc]; done) | rfl | (simp [c_3, q_5, q_6, c_8, c_9, c_11, c_12, c_28, gA, mPlaceG, mPlaceR, plY]; omega))) H locs hM hS ls (lv_sub hl [0] rfl)
                refine zr_icmp_geN (a := (((plY g (tn a1) (tn a2)) 7 2) + 1)) (b := 3) (tgt := 133) hx hb (by omega) (by omega) dX3_place_123 (by decide) (fun c_29 => ?_) (fun c_29 => ?_)
                · refine lv_aload_n hx hb dX3_place_133 rfl (lv_at hl 0 rfl) ?_
                  refine gM_placed S hK hM (((plY g (tn a1) (tn a2)) 7 2) + 1) (by first | rfl | simp [gs]) dX3_place_134 ?_
                  have hb_30 : ((plY g (tn a1) (tn a2)) 7 2) + 1 < 1048576 := by first | exact hg 7 2 | exact hg0 _ _ | (have := hg 7 2; omega) | omega
                  refine lv_bipush (v := nI 6) hx hb dX3_place_137 zb_6 ?_
                  refine zr_icmp_geN (a := (((plY g (tn a1) (tn a2)) 7 2) + 1)) (b := 6) (tgt := 151) hx hb (by omega) (by omega) dX3_place_139 (by decide) (fun c_31 => ?_) (fun c_31 => ?_)
                  · refine lv_iconst (v := nI 0) hx hb dX3_place_151 zi_0 ?_
                    exact J_152 _ (congrArg nI (show (0 : Nat) = ((if (((plY g (tn a1) (tn a2)) 7 2) + 1) < 3 then ((plY g (tn a1) (tn a2)) 7 2) + 1 else (if (((plY g (tn a1) (tn a2)) 7 2) + 1) < 6 then 5 - (((plY g (tn a1) (tn a2)) 7 2) + 1) else 0))) from by first | with_reducible rfl | (simp [c_3, q_5, q_6, c_8, c_9, c_11, c_12, c_29, c_31, gA, mPlaceG, mPlaceR, plY]; done) | (simp only [c_3, q_5, q_6, c_8, c_9, c_11, c_12, c_29, c_31] <;> simp [gA, mPlaceG, mPlaceR, plY]; done) | (simp only [gA, mPlaceG, mPlaceR, plY, c_3, q_5, q_6, c_8, c_9, c_11, c_12, c_29, c_31] <;> simp [gA, mPlaceG, mPlaceR, plY]; done) | (simp [c_3, q_5, q_6, c_8, c_9, c_11, c_12, c_29, c_31, gA, mPlaceG, mPlaceR, plY, Bool.and_assoc]; done) | (simp [c_3, q_5, q_6, c_8, c_9, c_11, c_12, c_29, c_31, gA, mPlaceG, mPlaceR, plY, Bool.and_assoc, Bool.or_assoc]; done) | rfl | (simp [c_3, q_5, q_6, c_8, c_9, c_11, c_12, c_29, c_31, gA, mPlaceG, mPlaceR, plY]; omega))) H locs hM hS ls (lv_sub hl [0] rfl)
                  · refine lv_iconst (v := nI 5) hx hb dX3_place_142 zi_5 ?_
                    refine lv_aload_n hx hb dX3_place_143 rfl (lv_at hl 0 rfl) ?_
                    refine gM_placed S hK hM (((plY g (tn a1) (tn a2)) 7 2) + 1) (by first | rfl | simp [gs]) dX3_place_144 ?_
                    have hb_32 : ((plY g (tn a1) (tn a2)) 7 2) + 1 < 1048576 := by first | exact hg 7 2 | exact hg0 _ _ | (have := hg 7 2; omega) | omega
                    refine zr_subN (a := 5) (b := (((plY g (tn a1) (tn a2)) 7 2) + 1)) hx hb (by omega) dX3_place_147 ?_
                    refine lv_goto (tgt := 152) hx hb dX3_place_148 (by decide) ?_
                    exact J_152 _ (congrArg nI (show (5 - (((plY g (tn a1) (tn a2)) 7 2) + 1) : Nat) = ((if (((plY g (tn a1) (tn a2)) 7 2) + 1) < 3 then ((plY g (tn a1) (tn a2)) 7 2) + 1 else (if (((plY g (tn a1) (tn a2)) 7 2) + 1) < 6 then 5 - (((plY g (tn a1) (tn a2)) 7 2) + 1) else 0))) from by first | with_reducible rfl | (simp [c_3, q_5, q_6, c_8, c_9, c_11, c_12, c_29, c_31, gA, mPlaceG, mPlaceR, plY]; done) | (simp only [c_3, q_5, q_6, c_8, c_9, c_11, c_12, c_29, c_31] <;> simp [gA, mPlaceG, mPlaceR, plY]; done) | (simp only [gA, mPlaceG, mPlaceR, plY, c_3, q_5, q_6, c_8, c_9, c_11, c_12, c_29, c_31] <;> simp [gA, mPlaceG, mPlaceR, plY]; done) | (simp [c_3, q_5, q_6, c_8, c_9, c_11, c_12, c_29, c_31, gA, mPlaceG, mPlaceR, plY, Bool.and_assoc]; done) | (simp [c_3, q_5, q_6, c_8, c_9, c_11, c_12, c_29, c_31, gA, mPlaceG, mPlaceR, plY, Bool.and_assoc, Bool.or_assoc]; done) | rfl | (simp [c_3, q_5, q_6, c_8, c_9, c_11, c_12, c_29, c_31, gA, mPlaceG, mPlaceR, plY]; omega))) H locs hM hS ls (lv_sub hl [0] rfl)
                · refine lv_aload_n hx hb dX3_place_126 rfl (lv_at hl 0 rfl) ?_
                  refine gM_placed S hK hM (((plY g (tn a1) (tn a2)) 7 2) + 1) (by first | rfl | simp [gs]) dX3_place_127 ?_
                  have hb_33 : ((plY g (tn a1) (tn a2)) 7 2) + 1 < 1048576 := by first | exact hg 7 2 | exact hg0 _ _ | (have := hg 7 2; omega) | omega
                  refine lv_goto (tgt := 152) hx hb dX3_place_130 (by decide) ?_
                  exact J_152 _ (congrArg nI (show (((plY g (tn a1) (tn a2)) 7 2) + 1 : Nat) = ((if (((plY g (tn a1) (tn a2)) 7 2) + 1) < 3 then ((plY g (tn a1) (tn a2)) 7 2) + 1 else (if (((plY g (tn a1) (tn a2)) 7 2) + 1) < 6 then 5 - (((plY g (tn a1) (tn a2)) 7 2) + 1) else 0))) from by first | with_reducible rfl | (simp [c_3, q_5, q_6, c_8, c_9, c_11, c_12, c_29, gA, mPlaceG, mPlaceR, plY]; done) | (simp only [c_3, q_5, q_6, c_8, c_9, c_11, c_12, c_29] <;> simp [gA, mPlaceG, mPlaceR, plY]; done) | (simp only [gA, mPlaceG, mPlaceR, plY, c_3, q_5, q_6, c_8, c_9, c_11, c_12, c_29] <;> simp [gA, mPlaceG, mPlaceR, plY]; done) | (simp [c_3, q_5, q_6, c_8, c_9, c_11, c_12, c_29, gA, mPlaceG, mPlaceR, plY, Bool.and_assoc]; done) | (simp [c_3, q_5, q_6, c_8, c_9, c_11, c_12, c_29, gA, mPlaceG, mPlaceR, plY, Bool.and_assoc, Bool.or_assoc]; done) | rfl | (simp [c_3, q_5, q_6, c_8, c_9, c_11, c_12, c_29, gA, mPlaceG, mPlaceR, plY]; omega))) H locs hM hS ls (lv_sub hl [0] rfl)
              refine zr_icmp_ltN (a := (g 7 2)) (b := 3) (tgt := 107) hx hb (by omega) (by omega) dX3_place_95 (by decide) (fun c_34 => ?_) (fun c_34 => ?_)
              · exact J_107 _ (show (gs (gs (gs g 22 0 0) 2 (tn a1) ((g 7 4) + 1)) 3 (tn a2) ((g 7 4) + 1) : G) = plY g (tn a1) (tn a2) from by (simp only [plY]; first | rw [if_pos c_34] | rw [if_neg c_34])) hg H locs hM hS ls (lv_sub hl [0] rfl)
              · refine lv_aload_n hx hb dX3_place_98 rfl (lv_at hl 0 rfl) ?_
                refine lv_aload_n hx hb dX3_place_99 rfl (lv_at hl 0 rfl) ?_
                refine gM_turn S hK hM (g 7 4) (by first | rfl | simp [gs]) dX3_place_100 ?_
                have hb_35 : g 7 4 < 1048576 := by first | exact hg 7 4 | exact hg0 _ _ | (have := hg 7 4; omega) | omega
                refine lv_iload_n hx hb dX3_place_103 rfl (lv_at hl 1 rfl) ?_
                refine kM_yieldsFirst S hK hM hg hS (g 7 4) (tn a1) (by first | omega | assumption | grind) (by first | omega | assumption | grind) (by exact hgd) (by exact hb4) (Nat.le_of_ble_eq_true rfl) (Nat.le_of_ble_eq_true rfl) hl.1 (Nat.le_of_ble_eq_true rfl) dX3_place_104 (Nat.zero_le _) (Nat.zero_le _) (fun H locs hM hg hS => ?_)
                exact J_107 _ (show (yfN (gs (gs (gs g 22 0 0) 2 (tn a1) ((g 7 4) + 1)) 3 (tn a2) ((g 7 4) + 1)) (g 7 4) (tn a1) 7 : G) = plY g (tn a1) (tn a2) from by (simp only [plY]; first | rw [if_pos c_34] | rw [if_neg c_34])) hg H locs hM hS ls (lv_sub hl [0] rfl)
            · refine lv_aload_n hx hb dX3_place_60 rfl (lv_at hl 0 rfl) ?_
              refine lv_iconst (v := nI 2) hx hb dX3_place_61 zi_2 ?_
              refine kM_fails S hK hM hg hS 2 (by first | omega | assumption | grind) (Nat.le_of_ble_eq_true rfl) (Nat.le_of_ble_eq_true rfl) hl.1 (Nat.le_of_ble_eq_true rfl) dX3_place_62 (Nat.zero_le _) (Nat.zero_le _) (fun H locs hM hg hS => ?_)
              rw [show (gs (gs g 22 0 0) 22 0 2 : G) = mPlaceG g a1 a2 from by first | (simp [mPlaceG, c_3, q_5, q_6, c_8, c_9, c_11, c_12]; done) | (simp only [mPlaceG, c_3, q_5, q_6, c_8, c_9, c_11, c_12]; done) | (simp [mPlaceG, c_3, q_5, q_6, c_8, c_9, c_11, c_12]; rfl)] at hM hg
              exact zc_nret (nI (mPlaceR g a1 a2)) (congrArg nI (show (0 : Nat) = (mPlaceR g a1 a2) from by first | (simp [mPlaceR, c_3, q_5, q_6, c_8, c_9, c_11, c_12]; done) | (simp only [mPlaceR, c_3, q_5, q_6, c_8, c_9, c_11, c_12]; done) | (simp [mPlaceR, c_3, q_5, q_6, c_8, c_9, c_11, c_12]; rfl))) (hPost H hM hg) hS hx hb hr hlk (Nat.zero_le _) (Nat.zero_le _) dX3_place_65
    · rw [show (!((inB a1 24) && ((inB a2 30)))).toNat = 1 from by rw [c_3]; rfl] at hM hg
      refine lv_iconst (v := nI 0) hx hb dX3_place_26 zi_0 ?_
      rw [show (gs g 22 0 1 : G) = mPlaceG g a1 a2 from by first | (simp [mPlaceG, c_3]; done) | (simp only [mPlaceG, c_3]; done) | (simp [mPlaceG, c_3]; rfl)] at hM hg
      exact zc_nret (nI (mPlaceR g a1 a2)) (congrArg nI (show (0 : Nat) = (mPlaceR g a1 a2) from by first | (simp [mPlaceR, c_3]; done) | (simp only [mPlaceR, c_3]; done) | (simp [mPlaceR, c_3]; rfl))) (hPost H hM hg) hS hx hb hr hlk (Nat.zero_le _) (Nat.zero_le _) dX3_place_27
  refine zr_if_eqB (b := inB a1 24) (tgt := 19) hx hb dX3_place_5 (by decide) (fun c_36 => ?_) (fun c_36 => ?_)
  · refine lv_iconst (v := nI 0) hx hb dX3_place_19 zi_0 ?_
    exact J_20 _ (congrArg (fun z : Bool => nI z.toNat) (show (false : Bool) = ((inB a1 24) && ((inB a2 30))) from by first | with_reducible rfl | (simp [c_36, gA, mPlaceG, mPlaceR, plY]; done) | (simp only [c_36] <;> simp [gA, mPlaceG, mPlaceR, plY]; done) | (simp only [gA, mPlaceG, mPlaceR, plY, c_36] <;> simp [gA, mPlaceG, mPlaceR, plY]; done) | (simp [c_36, gA, mPlaceG, mPlaceR, plY, Bool.and_assoc]; done) | (simp [c_36, gA, mPlaceG, mPlaceR, plY, Bool.and_assoc, Bool.or_assoc]; done) | rfl | (simp [c_36, gA, mPlaceG, mPlaceR, plY]; omega))) H0 locs hM hS ls (lv_sub hl [0, 1, 2] rfl)
  · obtain ⟨hj1, ea1⟩ := inB_tn (by decide) c_36
    rw [ea1] at hl
    refine lv_iload_n hx hb dX3_place_8 rfl (lv_at hl 2 rfl) ?_
    refine kM_isEdge S hK hM hg hS a2  (Nat.le_of_ble_eq_true rfl) (Nat.le_of_ble_eq_true rfl) hl.1 (Nat.le_of_ble_eq_true rfl) dX3_place_9 (Nat.zero_le _) (Nat.zero_le _) (fun locs hS => ?_)
    refine zr_if_eqB (b := inB a2 30) (tgt := 19) hx hb dX3_place_12 (by decide) (fun c_37 => ?_) (fun c_37 => ?_)
    · refine lv_iconst (v := nI 0) hx hb dX3_place_19 zi_0 ?_
      rw [← ea1] at hl
      exact J_20 _ (congrArg (fun z : Bool => nI z.toNat) (show (false : Bool) = ((inB a1 24) && ((inB a2 30))) from by first | with_reducible rfl | (simp [c_36, c_37, gA, mPlaceG, mPlaceR, plY]; done) | (simp only [c_36, c_37] <;> simp [gA, mPlaceG, mPlaceR, plY]; done) | (simp only [gA, mPlaceG, mPlaceR, plY, c_36, c_37] <;> simp [gA, mPlaceG, mPlaceR, plY]; done) | (simp [c_36, c_37, gA, mPlaceG, mPlaceR, plY, Bool.and_assoc]; done) | (simp [c_36, c_37, gA, mPlaceG, mPlaceR, plY, Bool.and_assoc, Bool.or_assoc]; done) | rfl | (simp [c_36, c_37, gA, mPlaceG, mPlaceR, plY]; omega))) H0 locs hM hS ls (lv_sub hl [0, 1, 2] rfl)
    · obtain ⟨hj2, ea2⟩ := inB_tn (by decide) c_37
      rw [ea2] at hl
      refine lv_iconst (v := nI 1) hx hb dX3_place_15 zi_1 ?_
      refine lv_goto (tgt := 20) hx hb dX3_place_16 (by decide) ?_
      rw [← ea1] at hl
      rw [← ea2] at hl
      exact J_20 _ (congrArg (fun z : Bool => nI z.toNat) (show (true : Bool) = ((inB a1 24) && ((inB a2 30))) from by first | with_reducible rfl | (simp [c_36, c_37, gA, mPlaceG, mPlaceR, plY]; done) | (simp only [c_36, c_37] <;> simp [gA, mPlaceG, mPlaceR, plY]; done) | (simp only [gA, mPlaceG, mPlaceR, plY, c_36, c_37] <;> simp [gA, mPlaceG, mPlaceR, plY]; done) | (simp [c_36, c_37, gA, mPlaceG, mPlaceR, plY, Bool.and_assoc]; done) | (simp [c_36, c_37, gA, mPlaceG, mPlaceR, plY, Bool.and_assoc, Bool.or_assoc]; done) | rfl | (simp [c_36, c_37, gA, mPlaceG, mPlaceR, plY]; omega))) H0 locs hM hS ls (lv_sub hl [0, 1, 2] rfl)
