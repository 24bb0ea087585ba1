/-! THE MODEL: turns, offers, the robber (printed by gen/m6.py) -/
def frN (y : G) : Nat → G
  | 0 => y
  | i + 1 => gs (frN y i) 25 i 0
def moN (y : G) (t gd : Nat) : Nat → G
  | 0 => y
  | i + 1 => moveN (moN y t gd i) i t gd (if i = t then 0 else moN y t gd i 4 (5 * i + gd))
def msN (y : G) (t gd : Nat) : Nat → Nat
  | 0 => 0
  | i + 1 => msN y t gd i + (if i = t then 0 else moN y t gd i 4 (5 * i + gd))
theorem moN_nf (y : G) (t gd : Nat) {f : Nat} (hf : f ≠ 4) : ∀ i j, moN y t gd i f j = y f j := by
  intro i
  induction i with
  | zero => intro j; rfl
  | succ i ih => intro j; show moveN _ _ _ _ _ f j = _; rw [moveN_nf _ _ _ _ _ hf]; exact ih j
theorem moveN_le {y : G} {a b k n B C : Nat} (hb : ∀ j, j < 20 → y 4 j ≤ B) (hn : n ≤ C) : ∀ j, j < 20 → moveN y a b k n 4 j ≤ B + C := by
  intro j hj
  unfold moveN
  have h1 := hb j hj
  by_cases q : j = 5 * b + k
  · subst q
    rw [gs_eq]
    by_cases r : 5 * b + k = 5 * a + k
    · rw [r, gs_eq]; rw [r] at h1; omega
    · rw [gs_ni _ r]; omega
  · rw [gs_ni _ q]
    by_cases r : j = 5 * a + k
    · subst r; rw [gs_eq]; omega
    · rw [gs_ni _ r]; omega
theorem moN_le {y : G} {t gd : Nat} (hg : gd < 5) (hb : ∀ j, j < 20 → y 4 j ≤ 100) : ∀ i, i ≤ 3 → ∀ j, j < 20 → moN y t gd i 4 j ≤ 100 * 2 ^ i := by
  intro i
  induction i with
  | zero => intro _ j hj; exact hb j hj
  | succ i ih =>
    intro hi j hj
    have h1 := ih (by omega)
    have h2 := moveN_le (a := i) (b := t) (k := gd) (n := (if i = t then 0 else moN y t gd i 4 (5 * i + gd))) (C := 100 * 2 ^ i) h1 (by
      split
      · exact Nat.zero_le _
      · exact h1 _ (by omega)) j hj
    rw [Nat.pow_succ]
    have h3 : moN y t gd (i + 1) 4 j = moveN (moN y t gd i) i t gd (if i = t then 0 else moN y t gd i 4 (5 * i + gd)) 4 j := rfl
    rw [h3]; omega
theorem msN_le {y : G} {t gd : Nat} (hg : gd < 5) (hb : ∀ j, j < 20 → y 4 j ≤ 100) : ∀ i, i ≤ 3 → msN y t gd i ≤ 800 * i := by
  intro i
  induction i with
  | zero => intro _; exact Nat.le_refl _
  | succ i ih =>
    intro hi
    have h1 := ih (by omega)
    have h2 := moN_le (t := t) hg hb i (by omega) (5 * i + gd) (by omega)
    have h4 : 100 * 2 ^ i ≤ 800 := by
      rcases (show i = 0 ∨ i = 1 ∨ i = 2 by omega) with rfl | rfl | rfl <;> decide
    have h3 : msN y t gd (i + 1) = msN y t gd i + (if i = t then 0 else moN y t gd i 4 (5 * i + gd)) := rfl
    rw [h3]
    split <;> omega
theorem mUse_pos {g : G} {k : Nat} (h : mUse g k = true) : 0 < g 24 (5 * g 7 4 + k) := by
  unfold mUse at h
  simp at h
  omega
def mEndG (g : G) : G := if (decide (g 7 1 = 2)) = true then (gWin (gs (gs (frN (gs (eoN (gs g 22 0 0) 3) 7 6 0) 5) 7 4 (((frN (gs (eoN (gs g 22 0 0) 3) 7 6 0) 5 7 4) + 1) % 3)) 7 1 1)) else gs g 22 0 1
def mEndR (g : G) : Nat := if (decide (g 7 1 = 2)) = true then ((gWin (gs (gs (frN (gs (eoN (gs g 22 0 0) 3) 7 6 0) 5) 7 4 (((frN (gs (eoN (gs g 22 0 0) 3) 7 6 0) 5 7 4) + 1) % 3)) 7 1 1)) 7 4) else 0
set_option maxHeartbeats 1000000 in
set_option maxRecDepth 100000 in
theorem cM_endTurn (l : Launch) {D : va_G} {dA : Nat → ClassId} {A : Nat → Prop} {ad : Nat → Nat} {g : G} (hg : Sm g) (H0 : Heap) (hM : MS D dA A ad g H0) {Post : Option Value → Heap → Prop} (hPost : ∀ H : Heap, MS D dA A ad (mEndG g ) H → Sm (mEndG g ) → Post (some (.int (nI (mEndR g )))) H) : Ct l yX3_endTurn (ws_ yX3_endTurn cX3_endTurn 2 (some .int)) (rmF 5 0 0 99) A (KT D dA) [.ref (ad 0)] H0 Post := by
  refine zc_of RX3 rfl (by decide) (Nat.le_of_ble_eq_true rfl) ?_
  intro pr en s m args below meth cd S hr hlk hnm hh hK ls hl
  have hS : va_S A s.heap H0 [] := zc_start hh
  have hg0 := hg
  have hx := S.1
  have hb := S.2.1
  have hown := S.2.2.2.1
  have hts := S.2.2.2.2
  have hl : lv_has ls 2 [(0, .ref (ad 0))] := hl
  refine lv_aload_n hx hb dX3_endTurn_0 rfl (lv_at hl 0 rfl) ?_
  refine lv_aload_n hx hb dX3_endTurn_1 rfl (lv_at hl 0 rfl) ?_
  refine gM_phase S hK hM (g 7 1) rfl dX3_endTurn_2 ?_
  have hb_1 : g 7 1 < 1048576 := by first | exact hg 7 1 | exact hg0 _ _ | (have := hg 7 1; omega) | omega
  refine lv_iconst (v := nI 2) hx hb dX3_endTurn_5 zi_2 ?_
  have J_14 : ∀ yS0_14 : Int32, yS0_14 = nI (decide ((g 7 1) = 2)).toNat → ∀ (H : Heap) (locs : List Loc), MS D dA A ad g H → va_S A s.heap H locs → ∀ ls : Array Slot, lv_has ls 2 [(0, .ref (ad 0))] → W pr l en (rmF 5 0 0 99) s m args below meth cd H locs 0 0 (MQ below (zc_Q Post A) args s 0 0 A) (F0 m 14 ls [.int yS0_14, .ref (ad 0)]) := by
    intro yS0_14 eyS0_14 H locs hM hS ls hl
    subst eyS0_14
    refine kM_asks S hK hM hg hS (decide ((g 7 1) = 2))  (Nat.le_of_ble_eq_true rfl) (Nat.le_of_ble_eq_true rfl) hl.1 (Nat.le_of_ble_eq_true rfl) dX3_endTurn_14 (Nat.zero_le _) (Nat.zero_le _) (fun H locs hM hg hS => ?_)
    refine zr_if_neB (b := (decide ((g 7 1) = 2))) (tgt := 22) hx hb dX3_endTurn_17 (by decide) (fun c_3 => ?_) (fun c_3 => ?_)
    · rw [show (!(decide ((g 7 1) = 2))).toNat = 0 from by rw [c_3]; rfl] at hM hg
      refine lv_aload_n hx hb dX3_endTurn_22 rfl (lv_at hl 0 rfl) ?_
      refine kM_endsOffers S hK hM hg hS   (Nat.le_of_ble_eq_true rfl) (Nat.le_of_ble_eq_true rfl) hl.1 (Nat.le_of_ble_eq_true rfl) dX3_endTurn_23 (Nat.zero_le _) (Nat.zero_le _) (fun H locs hM hg hS => ?_)
      refine lv_aload_n hx hb dX3_endTurn_26 rfl (lv_at hl 0 rfl) ?_
      refine lv_iconst (v := nI 0) hx hb dX3_endTurn_27 zi_0 ?_
      refine pM_isUsed S hK hM hS 0 (by omega) dX3_endTurn_28 (fun H locs hM hS => ?_)
      have hg : Sm (gs (eoN (gs g 22 0 0) 3) 7 6 0) := Sm_gs hg (by first | omega | exact Nat.lt_of_le_of_lt (Bool.toNat_le _) (by decide) | ((repeat' split) <;> omega))
      refine lv_iconst (v := nI 0) hx hb dX3_endTurn_31 zi_0 ?_
      refine lv_istore_n (lv' := [(1, .int (nI 0)), (0, .ref (ad 0))]) hx hb dX3_endTurn_32 rfl hl (by decide) rfl (fun ls hl => ?_)
      have L_33 : ∀ (n_33 : Nat) (i : Nat), i ≤ 5 → 5 - i < n_33 → ∀ gLv : G, gLv = frN (gs (eoN (gs g 22 0 0) 3) 7 6 0) i → Sm gLv → ∀ (H : Heap) (locs : List Loc), MS D dA A ad gLv H → va_S A s.heap H locs → ∀ ls : Array Slot, lv_has ls 2 [(0, .ref (ad 0)), (1, .int (nI i))] → W pr l en (rmF 5 0 0 99) s m args below meth cd H locs 0 0 (MQ below (zc_Q Post A) args s 0 0 A) (F0 m 33 ls []) := by
        intro n_33
        induction n_33 with
        | zero => intro i hi_33 hm_33; exact absurd hm_33 (Nat.not_lt_zero _)
        | succ n_33 ih_33 =>
          intro i hi_33 hm_33 gLv egL hg H locs hM hS ls hl
          subst egL
          refine lv_iload_n hx hb dX3_endTurn_33 rfl (lv_at hl 1 rfl) ?_
          refine lv_iconst (v := nI 5) hx hb dX3_endTurn_34 zi_5 ?_
          refine zr_icmp_geN (a := i) (b := 5) (tgt := 51) hx hb (by omega) (by omega) dX3_endTurn_35 (by decide) (fun c_4 => ?_) (fun c_4 => ?_)
          · have e_i : 5 = i := by omega
            subst e_i
            refine lv_aload_n hx hb dX3_endTurn_51 rfl (lv_at hl 0 rfl) ?_
            refine lv_aload_n hx hb dX3_endTurn_52 rfl (lv_at hl 0 rfl) ?_
            refine gM_turn S hK hM ((frN (gs (eoN (gs g 22 0 0) 3) 7 6 0) 5) 7 4) rfl dX3_endTurn_53 ?_
            have hb_5 : (frN (gs (eoN (gs g 22 0 0) 3) 7 6 0) 5) 7 4 < 1048576 := by first | exact hg 7 4 | exact hg0 _ _ | (have := hg 7 4; omega) | omega
            refine lv_iconst (v := nI 1) hx hb dX3_endTurn_56 zi_1 ?_
            refine zr_addN (a := ((frN (gs (eoN (gs g 22 0 0) 3) 7 6 0) 5) 7 4)) (b := 1) hx hb dX3_endTurn_57 ?_
            refine lv_iconst (v := nI 3) hx hb dX3_endTurn_58 zi_3 ?_
            refine zr_remN (a := (((frN (gs (eoN (gs g 22 0 0) 3) 7 6 0) 5) 7 4) + 1)) (b := 3) hx hb (by omega) (by omega) (by omega) dX3_endTurn_59 ?_
            refine pM_turn S hK hM hS ((((frN (gs (eoN (gs g 22 0 0) 3) 7 6 0) 5) 7 4) + 1) % 3) dX3_endTurn_60 (fun H locs hM hS => ?_)
            have hg : Sm (gs (frN (gs (eoN (gs g 22 0 0) 3) 7 6 0) 5) 7 4 ((((frN (gs (eoN (gs g 22 0 0) 3) 7 6 0) 5) 7 4) + 1) % 3)) := Sm_gs hg (by first | omega | exact Nat.lt_of_le_of_lt (Bool.toNat_le _) (by decide) | ((repeat' split) <;> omega))
            refine lv_aload_n hx hb dX3_endTurn_63 rfl (lv_at hl 0 rfl) ?_
            refine lv_iconst (v := nI 1) hx hb dX3_endTurn_64 zi_1 ?_
            refine pM_phase S hK hM hS 1 dX3_endTurn_65 (fun H locs hM hS => ?_)
            have hg : Sm (gs (gs (frN (gs (eoN (gs g 22 0 0) 3) 7 6 0) 5) 7 4 ((((frN (gs (eoN (gs g 22 0 0) 3) 7 6 0) 5) 7 4) + 1) % 3)) 7 1 1) := Sm_gs hg (by first | omega | exact Nat.lt_of_le_of_lt (Bool.toNat_le _) (by decide) | ((repeat' split) <;> omega))
            refine lv_aload_n hx hb dX3_endTurn_68 rfl (lv_at hl 0 rfl) ?_
            refine kM_looksAtWinner S hK hM hg hS  (by exact Nat.mod_lt _ (by decide)) (Nat.le_of_ble_eq_true rfl) (Nat.le_of_ble_eq_true rfl) hl.1 (Nat.le_of_ble_eq_true rfl) dX3_endTurn_69 (Nat.zero_le _) (Nat.zero_le _) (fun H locs hM hg hS => ?_)
            refine lv_aload_n hx hb dX3_endTurn_72 rfl (lv_at hl 0 rfl) ?_
            refine gM_turn S hK hM ((gWin (gs (gs (frN (gs (eoN (gs g 22 0 0) 3) 7 6 0) 5) 7 4 ((((frN (gs (eoN (gs g 22 0 0) 3) 7 6 0) 5) 7 4) + 1) % 3)) 7 1 1)) 7 4) rfl dX3_endTurn_73 ?_
            have hb_6 : (gWin (gs (gs (frN (gs (eoN (gs g 22 0 0) 3) 7 6 0) 5) 7 4 ((((frN (gs (eoN (gs g 22 0 0) 3) 7 6 0) 5) 7 4) + 1) % 3)) 7 1 1)) 7 4 < 1048576 := by first | exact hg 7 4 | exact hg0 _ _ | (have := hg 7 4; omega) | omega
            rw [show (gWin (gs (gs (frN (gs (eoN (gs g 22 0 0) 3) 7 6 0) 5) 7 4 ((((frN (gs (eoN (gs g 22 0 0) 3) 7 6 0) 5) 7 4) + 1) % 3)) 7 1 1) : G) = mEndG g  from by first | with_reducible rfl | (simp [c_3, c_4, gA, mEndG, mEndR]; done) | (simp only [c_3, c_4] <;> simp [gA, mEndG, mEndR]; done) | (simp only [gA, mEndG, mEndR, c_3, c_4] <;> simp [gA, mEndG, mEndR]; done) | (simp [c_3, c_4, gA, mEndG, mEndR, Bool.and_assoc]; done) | (simp [c_3, c_4, gA, mEndG, mEndR, Bool.and_assoc, Bool.or_assoc]; done) | rfl | (simp [c_3, c_4, gA, mEndG, mEndR]; omega)] at hM hg
            exact zc_nret (nI (mEndR g )) (congrArg nI (show ((gWin (gs (gs (frN (gs (eoN (gs g 22 0 0) 3) 7 6 0) 5) 7 4 ((((frN (gs (eoN (gs g 22 0 0) 3) 7 6 0) 5) 7 4) + 1) % 3)) 7 1 1)) 7 4 : Nat) = (mEndR g ) from by first | with_reducible rfl | (simp [c_3, c_4, gA, mEndG, mEndR]; done) | (simp only [c_3, c_4] <;> simp [gA, mEndG, mEndR]; done) | (simp only [gA, mEndG, mEndR, c_3, c_4] <;> simp [gA, mEndG, mEndR]; done) | (simp [c_3, c_4, gA, mEndG, mEndR, Bool.and_assoc]; done) | (simp [c_3, c_4, gA, mEndG, mEndR, Bool.and_assoc, Bool.or_assoc]; done) | rfl | (simp [c_3, c_4, gA, mEndG, mEndR]; omega))) (hPost H hM hg) hS hx hb hr hlk (Nat.zero_le _) (Nat.zero_le _) dX3_endTurn_76
          · refine lv_aload_n hx hb dX3_endTurn_38 rfl (lv_at hl 0 rfl) ?_
            refine gM_fresh S hK hM dX3_endTurn_39 ?_
            refine lv_iload_n hx hb dX3_endTurn_42 rfl (lv_at hl 1 rfl) ?_
            refine lv_iconst (v := nI 0) hx hb dX3_endTurn_43 zi_0 ?_
            refine sM_fresh S hK hM hS i (by omega) 0 dX3_endTurn_44 (fun H locs hM hS => ?_)
            have hg : Sm (gs (frN (gs (eoN (gs g 22 0 0) 3) 7 6 0) i) 25 i 0) := Sm_gs hg (by first | omega | exact Nat.lt_of_le_of_lt (Bool.toNat_le _) (by decide) | ((repeat' split) <;> omega))
            refine lv_iinc (v := nI (i + 1)) (lv' := [(1, .int (nI (i + 1))), (0, .ref (ad 0))]) hx hb dX3_endTurn_45 hl (k := 1) rfl (zk_inc _) (by decide) rfl (fun ls hl => ?_)
            refine lv_goto (tgt := 33) hx hb dX3_endTurn_48 (by decide) ?_
            exact ih_33 (i + 1) (by first | omega | assumption | (simp; done) | grind) (by omega) (gs (frN (gs (eoN (gs g 22 0 0) 3) 7 6 0) i) 25 i 0) (rfl) hg H locs hM hS ls (lv_sub hl [1, 0] rfl)
      exact L_33 _ 0 (by first | omega | assumption | (simp; done) | grind) (Nat.lt_succ_self _) (gs (eoN (gs g 22 0 0) 3) 7 6 0) (rfl) hg H locs hM hS ls (lv_sub hl [1, 0] rfl)
    · rw [show (!(decide ((g 7 1) = 2))).toNat = 1 from by rw [c_3]; rfl] at hM hg
      refine lv_iconst (v := nI 0) hx hb dX3_endTurn_20 zi_0 ?_
      rw [show (gs g 22 0 1 : G) = mEndG g  from by first | with_reducible rfl | (simp [c_3, gA, mEndG, mEndR]; done) | (simp only [c_3] <;> simp [gA, mEndG, mEndR]; done) | (simp only [gA, mEndG, mEndR, c_3] <;> simp [gA, mEndG, mEndR]; done) | (simp [c_3, gA, mEndG, mEndR, Bool.and_assoc]; done) | (simp [c_3, gA, mEndG, mEndR, Bool.and_assoc, Bool.or_assoc]; done) | rfl | (simp [c_3, gA, mEndG, mEndR]; omega)] at hM hg
      exact zc_nret (nI (mEndR g )) (congrArg nI (show (0 : Nat) = (mEndR g ) from by first | with_reducible rfl | (simp [c_3, gA, mEndG, mEndR]; done) | (simp only [c_3] <;> simp [gA, mEndG, mEndR]; done) | (simp only [gA, mEndG, mEndR, c_3] <;> simp [gA, mEndG, mEndR]; done) | (simp [c_3, gA, mEndG, mEndR, Bool.and_assoc]; done) | (simp [c_3, gA, mEndG, mEndR, Bool.and_assoc, Bool.or_assoc]; done) | rfl | (simp [c_3, gA, mEndG, mEndR]; omega))) (hPost H hM hg) hS hx hb hr hlk (Nat.zero_le _) (Nat.zero_le _) dX3_endTurn_21
  refine zr_icmp_neN (a := (g 7 1)) (b := 2) (tgt := 13) hx hb (by omega) (by omega) dX3_endTurn_6 (by decide) (fun c_7 => ?_) (fun c_7 => ?_)
  · refine lv_iconst (v := nI 0) hx hb dX3_endTurn_13 zi_0 ?_
    exact J_14 _ (congrArg (fun z : Bool => nI z.toNat) (show (false : Bool) = (decide ((g 7 1) = 2)) from by first | with_reducible rfl | (simp [c_7, gA, mEndG, mEndR]; done) | (simp only [c_7] <;> simp [gA, mEndG, mEndR]; done) | (simp only [gA, mEndG, mEndR, c_7] <;> simp [gA, mEndG, mEndR]; done) | (simp [c_7, gA, mEndG, mEndR, Bool.and_assoc]; done) | (simp [c_7, gA, mEndG, mEndR, Bool.and_assoc, Bool.or_assoc]; done) | rfl | (simp [c_7, gA, mEndG, mEndR]; omega))) H0 [] hM hS ls (lv_sub hl [0] rfl)
  · refine lv_iconst (v := nI 1) hx hb dX3_endTurn_9 zi_1 ?_
    refine lv_goto (tgt := 14) hx hb dX3_endTurn_10 (by decide) ?_
    exact J_14 _ (congrArg (fun z : Bool => nI z.toNat) (show (true : Bool) = (decide ((g 7 1) = 2)) from by first | with_reducible rfl | (simp [c_7, gA, mEndG, mEndR]; done) | (simp only [c_7] <;> simp [gA, mEndG, mEndR]; done) | (simp only [gA, mEndG, mEndR, c_7] <;> simp [gA, mEndG, mEndR]; done) | (simp [c_7, gA, mEndG, mEndR, Bool.and_assoc]; done) | (simp [c_7, gA, mEndG, mEndR, Bool.and_assoc, Bool.or_assoc]; done) | rfl | (simp [c_7, gA, mEndG, mEndR]; omega))) H0 [] hM hS ls (lv_sub hl [0] rfl)
def mOffG (g : G) (a1 a2 : Int32) : G := if (someB a1 && someB a2) = true then (if (decide (g 7 1 = 2) && hasG g (g 7 4) (tn a1)) = true then gs (gs (eoN (gs g 22 0 0) 3) 26 0 (tn a1)) 26 1 (tn a2) else gs g 22 0 2) else gs g 22 0 1
set_option maxHeartbeats 1000000 in
set_option maxRecDepth 100000 in
theorem cM_offer (l : Launch) {D : va_G} {dA : Nat → ClassId} {A : Nat → Prop} {ad : Nat → Nat} {g : G} (hg : Sm g) (a1 : Int32) (a2 : Int32) (ht : g 7 4 < 3) (H0 : Heap) (hM : MS D dA A ad g H0) {Post : Option Value → Heap → Prop} (hPost : ∀ H : Heap, MS D dA A ad (mOffG g a1 a2) H → Sm (mOffG g a1 a2) → Post (none) H) : Ct l yX3_offer (ws_ yX3_offer cX3_offer 3 none) (rmF 3 0 0 62) A (KT D dA) [.ref (ad 0), .int a1, .int a2] H0 Post := by
  refine zc_of RX3 rfl (by decide) (Nat.le_of_ble_eq_true rfl) ?_
  intro pr en s m args below meth cd S hr hlk hnm hh hK ls hl
  have hS : va_S A s.heap H0 [] := zc_start hh
  have hg0 := hg
  have hx := S.1
  have hb := S.2.1
  have hown := S.2.2.2.1
  have hts := S.2.2.2.2
  have hl : lv_has ls 3 [(0, .ref (ad 0)), (1, .int a1), (2, .int a2)] := hl
  refine lv_aload_n hx hb dX3_offer_0 rfl (lv_at hl 0 rfl) ?_
  refine lv_iload_n hx hb dX3_offer_1 rfl (lv_at hl 1 rfl) ?_
  refine kM_isSome S hK hM hg hS a1  (Nat.le_of_ble_eq_true rfl) (Nat.le_of_ble_eq_true rfl) hl.1 (Nat.le_of_ble_eq_true rfl) dX3_offer_2 (Nat.zero_le _) (Nat.zero_le _) (fun locs hS => ?_)
  refine zr_if_eqB (b := someB a1) (tgt := 15) hx hb dX3_offer_5 (by decide) (fun c_1 => ?_) (fun c_1 => ?_)
  · refine lv_iconst (v := nI 1) hx hb dX3_offer_15 zi_1 ?_
    refine lv_goto (tgt := 44) hx hb dX3_offer_16 (by decide) ?_
    refine pM_thrown S hK hM hS 1 dX3_offer_44 (fun H locs hM hS => ?_)
    have hg : Sm (gs g 22 0 1) := Sm_gs hg (by first | omega | exact Nat.lt_of_le_of_lt (Bool.toNat_le _) (by decide) | ((repeat' split) <;> omega))
    refine lv_aload_n hx hb dX3_offer_47 rfl (lv_at hl 0 rfl) ?_
    refine gM_thrown S hK hM 1 (by first | rfl | simp [gs]) dX3_offer_48 ?_
    have hb_2 : 1 < 1048576 := by first | exact hg 22 0 | exact hg0 _ _ | (have := hg 22 0; omega) | omega
    refine zr_if_neN (a := 1) (tgt := 68) hx hb (by decide) dX3_offer_51 (by decide) (fun _ => ?_) (fun c => absurd c (by decide))
    rw [show (gs g 22 0 1 : G) = mOffG g a1 a2 from by first | with_reducible rfl | (simp [c_1, mOffG]; done) | (simp only [c_1] <;> simp [mOffG]; done) | (simp only [mOffG, c_1] <;> simp [mOffG]; done) | (simp [c_1, mOffG, Bool.and_assoc]; done) | (simp [c_1, mOffG, Bool.and_assoc, Bool.or_assoc]; done) | rfl | (simp [c_1, mOffG]; omega)] at hM hg
    exact zc_vret (hPost H hM hg) hS hx hb hr hlk (Nat.zero_le _) (Nat.zero_le _) dX3_offer_68
  · obtain ⟨lj1, hj1, ea1⟩ := someB_tn c_1
    rw [ea1] at hl
    refine lv_iload_n hx hb dX3_offer_8 rfl (lv_at hl 2 rfl) ?_
    refine kM_isSome S hK hM hg hS a2  (Nat.le_of_ble_eq_true rfl) (Nat.le_of_ble_eq_true rfl) hl.1 (Nat.le_of_ble_eq_true rfl) dX3_offer_9 (Nat.zero_le _) (Nat.zero_le _) (fun locs hS => ?_)
    refine zr_if_neB (b := someB a2) (tgt := 19) hx hb dX3_offer_12 (by decide) (fun c_4 => ?_) (fun c_4 => ?_)
    · obtain ⟨lj2, hj2, ea2⟩ := someB_tn c_4
      rw [ea2] at hl
      refine lv_aload_n hx hb dX3_offer_19 rfl (lv_at hl 0 rfl) ?_
      refine gM_phase S hK hM (g 7 1) rfl dX3_offer_20 ?_
      have hb_5 : g 7 1 < 1048576 := by first | exact hg 7 1 | exact hg0 _ _ | (have := hg 7 1; omega) | omega
      refine lv_iconst (v := nI 2) hx hb dX3_offer_23 zi_2 ?_
      refine zr_icmp_neN (a := (g 7 1)) (b := 2) (tgt := 39) hx hb (by omega) (by omega) dX3_offer_24 (by decide) (fun c_6 => ?_) (fun c_6 => ?_)
      · refine lv_iconst (v := nI 2) hx hb dX3_offer_39 zi_2 ?_
        refine lv_goto (tgt := 44) hx hb dX3_offer_40 (by decide) ?_
        refine pM_thrown S hK hM hS 2 dX3_offer_44 (fun H locs hM hS => ?_)
        have hg : Sm (gs g 22 0 2) := Sm_gs hg (by first | omega | exact Nat.lt_of_le_of_lt (Bool.toNat_le _) (by decide) | ((repeat' split) <;> omega))
        refine lv_aload_n hx hb dX3_offer_47 rfl (lv_at hl 0 rfl) ?_
        refine gM_thrown S hK hM 2 (by first | rfl | simp [gs]) dX3_offer_48 ?_
        have hb_7 : 2 < 1048576 := by first | exact hg 22 0 | exact hg0 _ _ | (have := hg 22 0; omega) | omega
        refine zr_if_neN (a := 2) (tgt := 68) hx hb (by decide) dX3_offer_51 (by decide) (fun _ => ?_) (fun c => absurd c (by decide))
        rw [show (gs g 22 0 2 : G) = mOffG g a1 a2 from by first | with_reducible rfl | (simp [c_1, c_4, c_6, mOffG]; done) | (simp only [c_1, c_4, c_6] <;> simp [mOffG]; done) | (simp only [mOffG, c_1, c_4, c_6] <;> simp [mOffG]; done) | (simp [c_1, c_4, c_6, mOffG, Bool.and_assoc]; done) | (simp [c_1, c_4, c_6, mOffG, Bool.and_assoc, Bool.or_assoc]; done) | rfl | (simp [c_1, c_4, c_6, mOffG]; omega)] at hM hg
        exact zc_vret (hPost H hM hg) hS hx hb hr hlk (Nat.zero_le _) (Nat.zero_le _) dX3_offer_68
      · refine lv_aload_n hx hb dX3_offer_27 rfl (lv_at hl 0 rfl) ?_
        refine lv_aload_n hx hb dX3_offer_28 rfl (lv_at hl 0 rfl) ?_
        refine gM_turn S hK hM (g 7 4) rfl dX3_offer_29 ?_
        have hb_9 : g 7 4 < 1048576 := by first | exact hg 7 4 | exact hg0 _ _ | (have := hg 7 4; omega) | omega
        refine lv_iload_n hx hb dX3_offer_32 rfl (lv_at hl 1 rfl) ?_
        refine kM_hasAll S hK hM hg hS (g 7 4) (tn a1) (by first | omega | assumption | grind) (by first | omega | assumption | grind) (Nat.le_of_ble_eq_true rfl) (Nat.le_of_ble_eq_true rfl) hl.1 (Nat.le_of_ble_eq_true rfl) dX3_offer_33 (Nat.zero_le _) (Nat.zero_le _) (fun locs hS => ?_)
        refine zr_if_neB (b := hasG g (g 7 4) (tn a1)) (tgt := 43) hx hb dX3_offer_36 (by decide) (fun c_10 => ?_) (fun c_10 => ?_)
        · refine lv_iconst (v := nI 0) hx hb dX3_offer_43 zi_0 ?_
          refine pM_thrown S hK hM hS 0 dX3_offer_44 (fun H locs hM hS => ?_)
          have hg : Sm (gs g 22 0 0) := Sm_gs hg (by first | omega | exact Nat.lt_of_le_of_lt (Bool.toNat_le _) (by decide) | ((repeat' split) <;> omega))
          refine lv_aload_n hx hb dX3_offer_47 rfl (lv_at hl 0 rfl) ?_
          refine gM_thrown S hK hM 0 (by first | rfl | simp [gs]) dX3_offer_48 ?_
          have hb_11 : 0 < 1048576 := by first | exact hg 22 0 | exact hg0 _ _ | (have := hg 22 0; omega) | omega
          refine zr_if_neN (a := 0) (tgt := 68) hx hb (by decide) dX3_offer_51 (by decide) (fun c => absurd rfl c) (fun _ => ?_)
          refine lv_aload_n hx hb dX3_offer_54 rfl (lv_at hl 0 rfl) ?_
          refine kM_endsOffers S hK hM hg hS   (Nat.le_of_ble_eq_true rfl) (Nat.le_of_ble_eq_true rfl) hl.1 (Nat.le_of_ble_eq_true rfl) dX3_offer_55 (Nat.zero_le _) (Nat.zero_le _) (fun H locs hM hg hS => ?_)
          refine lv_aload_n hx hb dX3_offer_58 rfl (lv_at hl 0 rfl) ?_
          refine lv_iload_n hx hb dX3_offer_59 rfl (lv_at hl 1 rfl) ?_
          refine pM_give S hK hM hS (tn a1) dX3_offer_60 (fun H locs hM hS => ?_)
          have hg : Sm (gs (eoN (gs g 22 0 0) 3) 26 0 (tn a1)) := Sm_gs hg (by first | omega | exact Nat.lt_of_le_of_lt (Bool.toNat_le _) (by decide) | ((repeat' split) <;> omega))
          refine lv_aload_n hx hb dX3_offer_63 rfl (lv_at hl 0 rfl) ?_
          refine lv_iload_n hx hb dX3_offer_64 rfl (lv_at hl 2 rfl) ?_
          refine pM_want S hK hM hS (tn a2) dX3_offer_65 (fun H locs hM hS => ?_)
          have hg : Sm (gs (gs (eoN (gs g 22 0 0) 3) 26 0 (tn a1)) 26 1 (tn a2)) := Sm_gs hg (by first | omega | exact Nat.lt_of_le_of_lt (Bool.toNat_le _) (by decide) | ((repeat' split) <;> omega))
          rw [show (gs (gs (eoN (gs g 22 0 0) 3) 26 0 (tn a1)) 26 1 (tn a2) : G) = mOffG g a1 a2 from by first | with_reducible rfl | (simp [c_1, c_4, c_6, c_10, mOffG]; done) | (simp only [c_1, c_4, c_6, c_10] <;> simp [mOffG]; done) | (simp only [mOffG, c_1, c_4, c_6, c_10] <;> simp [mOffG]; done) | (simp [c_1, c_4, c_6, c_10, mOffG, Bool.and_assoc]; done) | (simp [c_1, c_4, c_6, c_10, mOffG, Bool.and_assoc, Bool.or_assoc]; done) | rfl | (simp [c_1, c_4, c_6, c_10, mOffG]; omega)] at hM hg
          exact zc_vret (hPost H hM hg) hS hx hb hr hlk (Nat.zero_le _) (Nat.zero_le _) dX3_offer_68
        · refine lv_iconst (v := nI 2) hx hb dX3_offer_39 zi_2 ?_
          refine lv_goto (tgt := 44) hx hb dX3_offer_40 (by decide) ?_
          refine pM_thrown S hK hM hS 2 dX3_offer_44 (fun H locs hM hS => ?_)
          have hg : Sm (gs g 22 0 2) := Sm_gs hg (by first | omega | exact Nat.lt_of_le_of_lt (Bool.toNat_le _) (by decide) | ((repeat' split) <;> omega))
          refine lv_aload_n hx hb dX3_offer_47 rfl (lv_at hl 0 rfl) ?_
          refine gM_thrown S hK hM 2 (by first | rfl | simp [gs]) dX3_offer_48 ?_
          have hb_13 : 2 < 1048576 := by first | exact hg 22 0 | exact hg0 _ _ | (have := hg 22 0; omega) | omega
          refine zr_if_neN (a := 2) (tgt := 68) hx hb (by decide) dX3_offer_51 (by decide) (fun _ => ?_) (fun c => absurd c (by decide))
          rw [show (gs g 22 0 2 : G) = mOffG g a1 a2 from by first | with_reducible rfl | (simp [c_1, c_4, c_6, c_10, mOffG]; done) | (simp only [c_1, c_4, c_6, c_10] <;> simp [mOffG]; done) | (simp only [mOffG, c_1, c_4, c_6, c_10] <;> simp [mOffG]; done) | (simp [c_1, c_4, c_6, c_10, mOffG, Bool.and_assoc]; done) | (simp [c_1, c_4, c_6, c_10, mOffG, Bool.and_assoc, Bool.or_assoc]; done) | rfl | (simp [c_1, c_4, c_6, c_10, mOffG]; omega)] at hM hg
          exact zc_vret (hPost H hM hg) hS hx hb hr hlk (Nat.zero_le _) (Nat.zero_le _) dX3_offer_68
    · refine lv_iconst (v := nI 1) hx hb dX3_offer_15 zi_1 ?_
      refine lv_goto (tgt := 44) hx hb dX3_offer_16 (by decide) ?_
      refine pM_thrown S hK hM hS 1 dX3_offer_44 (fun H locs hM hS => ?_)
      have hg : Sm (gs g 22 0 1) := Sm_gs hg (by first | omega | exact Nat.lt_of_le_of_lt (Bool.toNat_le _) (by decide) | ((repeat' split) <;> omega))
      refine lv_aload_n hx hb dX3_offer_47 rfl (lv_at hl 0 rfl) ?_
      refine gM_thrown S hK hM 1 (by first | rfl | simp [gs]) dX3_offer_48 ?_
      have hb_15 : 1 < 1048576 := by first | exact hg 22 0 | exact hg0 _ _ | (have := hg 22 0; omega) | omega
      refine zr_if_neN (a := 1) (tgt := 68) hx hb (by decide) dX3_offer_51 (by decide) (fun _ => ?_) (fun c => absurd c (by decide))
      rw [show (gs g 22 0 1 : G) = mOffG g a1 a2 from by first | with_reducible rfl | (simp [c_1, c_4, mOffG]; done) | (simp only [c_1, c_4] <;> simp [mOffG]; done) | (simp only [mOffG, c_1, c_4] <;> simp [mOffG]; done) | (simp [c_1, c_4, mOffG, Bool.and_assoc]; done) | (simp [c_1, c_4, mOffG, Bool.and_assoc, Bool.or_assoc]; done) | rfl | (simp [c_1, c_4, mOffG]; omega)] at hM hg
      exact zc_vret (hPost H hM hg) hS hx hb hr hlk (Nat.zero_le _) (Nat.zero_le _) dX3_offer_68
def mCntG (g : G) (a1 a2 a3 : Int32) : G := if inB a1 3 = true then (if (someB a2 && someB a3) = true then (if (decide (g 7 1 = 2) && (!decide (g 26 0 = 0) && (!decide (tn a1 = g 7 4) && hasG g (tn a1) (tn a2)))) = true then gs (gs (gs g 22 0 0) 16 (tn a1) (tn a2)) 17 (tn a1) (tn a3) else gs g 22 0 3) else gs g 22 0 2) else gs g 22 0 1
set_option maxHeartbeats 1000000 in
set_option maxRecDepth 100000 in
theorem cM_counter (l : Launch) {D : va_G} {dA : Nat → ClassId} {A : Nat → Prop} {ad : Nat → Nat} {g : G} (hg : Sm g) (a1 : Int32) (a2 : Int32) (a3 : Int32) (ht : g 7 4 < 3) (H0 : Heap) (hM : MS D dA A ad g H0) {Post : Option Value → Heap → Prop} (hPost : ∀ H : Heap, MS D dA A ad (mCntG g a1 a2 a3) H → Sm (mCntG g a1 a2 a3) → Post (none) H) : Ct l yX3_counter (ws_ yX3_counter cX3_counter 4 none) (rmF 3 0 0 62) A (KT D dA) [.ref (ad 0), .int a1, .int a2, .int a3] H0 Post := by
  refine zc_of RX3 rfl (by decide) (Nat.le_of_ble_eq_true rfl) ?_
  intro pr en s m args below meth cd S hr hlk hnm hh hK ls hl
  have hS : va_S A s.heap H0 [] := zc_start hh
  have hg0 := hg
  have hx := S.1
  have hb := S.2.1
  have hown := S.2.2.2.1
  have hts := S.2.2.2.2
  have hl : lv_has ls 4 [(0, .ref (ad 0)), (1, .int a1), (2, .int a2), (3, .int a3)] := hl
  refine lv_aload_n hx hb dX3_counter_0 rfl (lv_at hl 0 rfl) ?_
  refine lv_iload_n hx hb dX3_counter_1 rfl (lv_at hl 1 rfl) ?_
  refine kM_isPlayer S hK hM hg hS a1  (Nat.le_of_ble_eq_true rfl) (Nat.le_of_ble_eq_true rfl) hl.1 (Nat.le_of_ble_eq_true rfl) dX3_counter_2 (Nat.zero_le _) (Nat.zero_le _) (fun locs hS => ?_)
  refine zr_if_neB (b := inB a1 3) (tgt := 12) hx hb dX3_counter_5 (by decide) (fun c_1 => ?_) (fun c_1 => ?_)
  · obtain ⟨hj1, ea1⟩ := inB_tn (by decide) c_1
    rw [ea1] at hl
    refine lv_iload_n hx hb dX3_counter_12 rfl (lv_at hl 2 rfl) ?_
    refine kM_isSome S hK hM hg hS a2  (Nat.le_of_ble_eq_true rfl) (Nat.le_of_ble_eq_true rfl) hl.1 (Nat.le_of_ble_eq_true rfl) dX3_counter_13 (Nat.zero_le _) (Nat.zero_le _) (fun locs hS => ?_)
    refine zr_if_eqB (b := someB a2) (tgt := 26) hx hb dX3_counter_16 (by decide) (fun c_2 => ?_) (fun c_2 => ?_)
    · refine lv_iconst (v := nI 2) hx hb dX3_counter_26 zi_2 ?_
      refine lv_goto (tgt := 67) hx hb dX3_counter_27 (by decide) ?_
      refine pM_thrown S hK hM hS 2 dX3_counter_67 (fun H locs hM hS => ?_)
      have hg : Sm (gs g 22 0 2) := Sm_gs hg (by first | omega | exact Nat.lt_of_le_of_lt (Bool.toNat_le _) (by decide) | ((repeat' split) <;> omega))
      refine lv_aload_n hx hb dX3_counter_70 rfl (lv_at hl 0 rfl) ?_
      refine gM_thrown S hK hM 2 (by first | rfl | simp [gs]) dX3_counter_71 ?_
      have hb_3 : 2 < 1048576 := by first | exact hg 22 0 | exact hg0 _ _ | (have := hg 22 0; omega) | omega
      refine zr_if_neN (a := 2) (tgt := 91) hx hb (by decide) dX3_counter_74 (by decide) (fun _ => ?_) (fun c => absurd c (by decide))
      rw [show (gs g 22 0 2 : G) = mCntG g a1 a2 a3 from by first | with_reducible rfl | (simp [c_1, c_2, mCntG]; done) | (simp only [c_1, c_2] <;> simp [mCntG]; done) | (simp only [mCntG, c_1, c_2] <;> simp [mCntG]; done) | (simp [c_1, c_2, mCntG, Bool.and_assoc]; done) | (simp [c_1, c_2, mCntG, Bool.and_assoc, Bool.or_assoc]; done) | rfl | (simp [c_1, c_2, mCntG]; omega)] at hM hg
      exact zc_vret (hPost H hM hg) hS hx hb hr hlk (Nat.zero_le _) (Nat.zero_le _) dX3_counter_91
    · obtain ⟨lj2, hj2, ea2⟩ := someB_tn c_2
      rw [ea2] at hl
      refine lv_iload_n hx hb dX3_counter_19 rfl (lv_at hl 3 rfl) ?_
      refine kM_isSome S hK hM hg hS a3  (Nat.le_of_ble_eq_true rfl) (Nat.le_of_ble_eq_true rfl) hl.1 (Nat.le_of_ble_eq_true rfl) dX3_counter_20 (Nat.zero_le _) (Nat.zero_le _) (fun locs hS => ?_)
      refine zr_if_neB (b := someB a3) (tgt := 30) hx hb dX3_counter_23 (by decide) (fun c_5 => ?_) (fun c_5 => ?_)
      · obtain ⟨lj3, hj3, ea3⟩ := someB_tn c_5
        rw [ea3] at hl
        refine lv_aload_n hx hb dX3_counter_30 rfl (lv_at hl 0 rfl) ?_
        refine gM_phase S hK hM (g 7 1) rfl dX3_counter_31 ?_
        have hb_6 : g 7 1 < 1048576 := by first | exact hg 7 1 | exact hg0 _ _ | (have := hg 7 1; omega) | omega
        refine lv_iconst (v := nI 2) hx hb dX3_counter_34 zi_2 ?_
        refine zr_icmp_neN (a := (g 7 1)) (b := 2) (tgt := 62) hx hb (by omega) (by omega) dX3_counter_35 (by decide) (fun c_7 => ?_) (fun c_7 => ?_)
        · refine lv_iconst (v := nI 3) hx hb dX3_counter_62 zi_3 ?_
          refine lv_goto (tgt := 67) hx hb dX3_counter_63 (by decide) ?_
          refine pM_thrown S hK hM hS 3 dX3_counter_67 (fun H locs hM hS => ?_)
          have hg : Sm (gs g 22 0 3) := Sm_gs hg (by first | omega | exact Nat.lt_of_le_of_lt (Bool.toNat_le _) (by decide) | ((repeat' split) <;> omega))
          refine lv_aload_n hx hb dX3_counter_70 rfl (lv_at hl 0 rfl) ?_
          refine gM_thrown S hK hM 3 (by first | rfl | simp [gs]) dX3_counter_71 ?_
          have hb_8 : 3 < 1048576 := by first | exact hg 22 0 | exact hg0 _ _ | (have := hg 22 0; omega) | omega
          refine zr_if_neN (a := 3) (tgt := 91) hx hb (by decide) dX3_counter_74 (by decide) (fun _ => ?_) (fun c => absurd c (by decide))
          rw [show (gs g 22 0 3 : G) = mCntG g a1 a2 a3 from by first | with_reducible rfl | (simp [c_1, c_2, c_5, c_7, mCntG]; done) | (simp only [c_1, c_2, c_5, c_7] <;> simp [mCntG]; done) | (simp only [mCntG, c_1, c_2, c_5, c_7] <;> simp [mCntG]; done) | (simp [c_1, c_2, c_5, c_7, mCntG, Bool.and_assoc]; done) | (simp [c_1, c_2, c_5, c_7, mCntG, Bool.and_assoc, Bool.or_assoc]; done) | rfl | (simp [c_1, c_2, c_5, c_7, mCntG]; omega)] at hM hg
          exact zc_vret (hPost H hM hg) hS hx hb hr hlk (Nat.zero_le _) (Nat.zero_le _) dX3_counter_91
        · refine lv_aload_n hx hb dX3_counter_38 rfl (lv_at hl 0 rfl) ?_
          refine gM_give S hK hM (g 26 0) rfl dX3_counter_39 ?_
          have hb_10 : g 26 0 < 1048576 := by first | exact hg 26 0 | exact hg0 _ _ | (have := hg 26 0; omega) | omega
          refine zr_if_eqN (a := (g 26 0)) (tgt := 62) hx hb (by omega) dX3_counter_42 (by decide) (fun c_11 => ?_) (fun c_11 => ?_)
          · refine lv_iconst (v := nI 3) hx hb dX3_counter_62 zi_3 ?_
            refine lv_goto (tgt := 67) hx hb dX3_counter_63 (by decide) ?_
            refine pM_thrown S hK hM hS 3 dX3_counter_67 (fun H locs hM hS => ?_)
            have hg : Sm (gs g 22 0 3) := Sm_gs hg (by first | omega | exact Nat.lt_of_le_of_lt (Bool.toNat_le _) (by decide) | ((repeat' split) <;> omega))
            refine lv_aload_n hx hb dX3_counter_70 rfl (lv_at hl 0 rfl) ?_
            refine gM_thrown S hK hM 3 (by first | rfl | simp [gs]) dX3_counter_71 ?_
            have hb_12 : 3 < 1048576 := by first | exact hg 22 0 | exact hg0 _ _ | (have := hg 22 0; omega) | omega
            refine zr_if_neN (a := 3) (tgt := 91) hx hb (by decide) dX3_counter_74 (by decide) (fun _ => ?_) (fun c => absurd c (by decide))
            rw [show (gs g 22 0 3 : G) = mCntG g a1 a2 a3 from by first | with_reducible rfl | (simp [c_1, c_2, c_5, c_7, c_11, mCntG]; done) | (simp only [c_1, c_2, c_5, c_7, c_11] <;> simp [mCntG]; done) | (simp only [mCntG, c_1, c_2, c_5, c_7, c_11] <;> simp [mCntG]; done) | (simp [c_1, c_2, c_5, c_7, c_11, mCntG, Bool.and_assoc]; done) | (simp [c_1, c_2, c_5, c_7, c_11, mCntG, Bool.and_assoc, Bool.or_assoc]; done) | rfl | (simp [c_1, c_2, c_5, c_7, c_11, mCntG]; omega)] at hM hg
            exact zc_vret (hPost H hM hg) hS hx hb hr hlk (Nat.zero_le _) (Nat.zero_le _) dX3_counter_91
          · refine lv_iload_n hx hb dX3_counter_45 rfl (lv_at hl 1 rfl) ?_
            refine lv_aload_n hx hb dX3_counter_46 rfl (lv_at hl 0 rfl) ?_
            refine gM_turn S hK hM (g 7 4) rfl dX3_counter_47 ?_
            have hb_14 : g 7 4 < 1048576 := by first | exact hg 7 4 | exact hg0 _ _ | (have := hg 7 4; omega) | omega
            refine zr_icmp_eqN (a := (tn a1)) (b := (g 7 4)) (tgt := 62) hx hb (by omega) (by omega) dX3_counter_50 (by decide) (fun c_15 => ?_) (fun c_15 => ?_)
            · refine lv_iconst (v := nI 3) hx hb dX3_counter_62 zi_3 ?_
              refine lv_goto (tgt := 67) hx hb dX3_counter_63 (by decide) ?_
              refine pM_thrown S hK hM hS 3 dX3_counter_67 (fun H locs hM hS => ?_)
              have hg : Sm (gs g 22 0 3) := Sm_gs hg (by first | omega | exact Nat.lt_of_le_of_lt (Bool.toNat_le _) (by decide) | ((repeat' split) <;> omega))
              refine lv_aload_n hx hb dX3_counter_70 rfl (lv_at hl 0 rfl) ?_
              refine gM_thrown S hK hM 3 (by first | rfl | simp [gs]) dX3_counter_71 ?_
              have hb_16 : 3 < 1048576 := by first | exact hg 22 0 | exact hg0 _ _ | (have := hg 22 0; omega) | omega
              refine zr_if_neN (a := 3) (tgt := 91) hx hb (by decide) dX3_counter_74 (by decide) (fun _ => ?_) (fun c => absurd c (by decide))
              rw [show (gs g 22 0 3 : G) = mCntG g a1 a2 a3 from by first | with_reducible rfl | (simp [c_1, c_2, c_5, c_7, c_11, c_15, mCntG]; done) | (simp only [c_1, c_2, c_5, c_7, c_11, c_15] <;> simp [mCntG]; done) | (simp only [mCntG, c_1, c_2, c_5, c_7, c_11, c_15] <;> simp [mCntG]; done) | (simp [c_1, c_2, c_5, c_7, c_11, c_15, mCntG, Bool.and_assoc]; done) | (simp [c_1, c_2, c_5, c_7, c_11, c_15, mCntG, Bool.and_assoc, Bool.or_assoc]; done) | rfl | (simp [c_1, c_2, c_5, c_7, c_11, c_15, mCntG]; omega)] at hM hg
              exact zc_vret (hPost H hM hg) hS hx hb hr hlk (Nat.zero_le _) (Nat.zero_le _) dX3_counter_91
            · refine lv_aload_n hx hb dX3_counter_53 rfl (lv_at hl 0 rfl) ?_
              refine lv_iload_n hx hb dX3_counter_54 rfl (lv_at hl 1 rfl) ?_
              refine lv_iload_n hx hb dX3_counter_55 rfl (lv_at hl 2 rfl) ?_
              refine kM_hasAll S hK hM hg hS (tn a1) (tn a2) (by first | omega | assumption | grind) (by first | omega | assumption | grind) (Nat.le_of_ble_eq_true rfl) (Nat.le_of_ble_eq_true rfl) hl.1 (Nat.le_of_ble_eq_true rfl) dX3_counter_56 (Nat.zero_le _) (Nat.zero_le _) (fun locs hS => ?_)
              refine zr_if_neB (b := hasG g (tn a1) (tn a2)) (tgt := 66) hx hb dX3_counter_59 (by decide) (fun c_18 => ?_) (fun c_18 => ?_)
              · refine lv_iconst (v := nI 0) hx hb dX3_counter_66 zi_0 ?_
                refine pM_thrown S hK hM hS 0 dX3_counter_67 (fun H locs hM hS => ?_)
                have hg : Sm (gs g 22 0 0) := Sm_gs hg (by first | omega | exact Nat.lt_of_le_of_lt (Bool.toNat_le _) (by decide) | ((repeat' split) <;> omega))
                refine lv_aload_n hx hb dX3_counter_70 rfl (lv_at hl 0 rfl) ?_
                refine gM_thrown S hK hM 0 (by first | rfl | simp [gs]) dX3_counter_71 ?_
                have hb_19 : 0 < 1048576 := by first | exact hg 22 0 | exact hg0 _ _ | (have := hg 22 0; omega) | omega
                refine zr_if_neN (a := 0) (tgt := 91) hx hb (by decide) dX3_counter_74 (by decide) (fun c => absurd rfl c) (fun _ => ?_)
                refine lv_aload_n hx hb dX3_counter_77 rfl (lv_at hl 0 rfl) ?_
                refine gM_gives S hK hM dX3_counter_78 ?_
                refine lv_iload_n hx hb dX3_counter_81 rfl (lv_at hl 1 rfl) ?_
                refine lv_iload_n hx hb dX3_counter_82 rfl (lv_at hl 2 rfl) ?_
                refine sM_gives S hK hM hS (tn a1) (by omega) (tn a2) dX3_counter_83 (fun H locs hM hS => ?_)
                have hg : Sm (gs (gs g 22 0 0) 16 (tn a1) (tn a2)) := Sm_gs hg (by first | omega | exact Nat.lt_of_le_of_lt (Bool.toNat_le _) (by decide) | ((repeat' split) <;> omega))
                refine lv_aload_n hx hb dX3_counter_84 rfl (lv_at hl 0 rfl) ?_
                refine gM_wants S hK hM dX3_counter_85 ?_
                refine lv_iload_n hx hb dX3_counter_88 rfl (lv_at hl 1 rfl) ?_
                refine lv_iload_n hx hb dX3_counter_89 rfl (lv_at hl 3 rfl) ?_
                refine sM_wants S hK hM hS (tn a1) (by omega) (tn a3) dX3_counter_90 (fun H locs hM hS => ?_)
                have hg : Sm (gs (gs (gs g 22 0 0) 16 (tn a1) (tn a2)) 17 (tn a1) (tn a3)) := Sm_gs hg (by first | omega | exact Nat.lt_of_le_of_lt (Bool.toNat_le _) (by decide) | ((repeat' split) <;> omega))
                rw [show (gs (gs (gs g 22 0 0) 16 (tn a1) (tn a2)) 17 (tn a1) (tn a3) : G) = mCntG g a1 a2 a3 from by first | with_reducible rfl | (simp [c_1, c_2, c_5, c_7, c_11, c_15, c_18, mCntG]; done) | (simp only [c_1, c_2, c_5, c_7, c_11, c_15, c_18] <;> simp [mCntG]; done) | (simp only [mCntG, c_1, c_2, c_5, c_7, c_11, c_15, c_18] <;> simp [mCntG]; done) | (simp [c_1, c_2, c_5, c_7, c_11, c_15, c_18, mCntG, Bool.and_assoc]; done) | (simp [c_1, c_2, c_5, c_7, c_11, c_15, c_18, mCntG, Bool.and_assoc, Bool.or_assoc]; done) | rfl | (simp [c_1, c_2, c_5, c_7, c_11, c_15, c_18, mCntG]; omega)] at hM hg
                exact zc_vret (hPost H hM hg) hS hx hb hr hlk (Nat.zero_le _) (Nat.zero_le _) dX3_counter_91
              · refine lv_iconst (v := nI 3) hx hb dX3_counter_62 zi_3 ?_
                refine lv_goto (tgt := 67) hx hb dX3_counter_63 (by decide) ?_
                refine pM_thrown S hK hM hS 3 dX3_counter_67 (fun H locs hM hS => ?_)
                have hg : Sm (gs g 22 0 3) := Sm_gs hg (by first | omega | exact Nat.lt_of_le_of_lt (Bool.toNat_le _) (by decide) | ((repeat' split) <;> omega))
                refine lv_aload_n hx hb dX3_counter_70 rfl (lv_at hl 0 rfl) ?_
                refine gM_thrown S hK hM 3 (by first | rfl | simp [gs]) dX3_counter_71 ?_
                have hb_21 : 3 < 1048576 := by first | exact hg 22 0 | exact hg0 _ _ | (have := hg 22 0; omega) | omega
                refine zr_if_neN (a := 3) (tgt := 91) hx hb (by decide) dX3_counter_74 (by decide) (fun _ => ?_) (fun c => absurd c (by decide))
                rw [show (gs g 22 0 3 : G) = mCntG g a1 a2 a3 from by first | with_reducible rfl | (simp [c_1, c_2, c_5, c_7, c_11, c_15, c_18, mCntG]; done) | (simp only [c_1, c_2, c_5, c_7, c_11, c_15, c_18] <;> simp [mCntG]; done) | (simp only [mCntG, c_1, c_2, c_5, c_7, c_11, c_15, c_18] <;> simp [mCntG]; done) | (simp [c_1, c_2, c_5, c_7, c_11, c_15, c_18, mCntG, Bool.and_assoc]; done) | (simp [c_1, c_2, c_5, c_7, c_11, c_15, c_18, mCntG, Bool.and_assoc, Bool.or_assoc]; done) | rfl | (simp [c_1, c_2, c_5, c_7, c_11, c_15, c_18, mCntG]; omega)] at hM hg
                exact zc_vret (hPost H hM hg) hS hx hb hr hlk (Nat.zero_le _) (Nat.zero_le _) dX3_counter_91
      · refine lv_iconst (v := nI 2) hx hb dX3_counter_26 zi_2 ?_
        refine lv_goto (tgt := 67) hx hb dX3_counter_27 (by decide) ?_
        refine pM_thrown S hK hM hS 2 dX3_counter_67 (fun H locs hM hS => ?_)
        have hg : Sm (gs g 22 0 2) := Sm_gs hg (by first | omega | exact Nat.lt_of_le_of_lt (Bool.toNat_le _) (by decide) | ((repeat' split) <;> omega))
        refine lv_aload_n hx hb dX3_counter_70 rfl (lv_at hl 0 rfl) ?_
        refine gM_thrown S hK hM 2 (by first | rfl | simp [gs]) dX3_counter_71 ?_
        have hb_23 : 2 < 1048576 := by first | exact hg 22 0 | exact hg0 _ _ | (have := hg 22 0; omega) | omega
        refine zr_if_neN (a := 2) (tgt := 91) hx hb (by decide) dX3_counter_74 (by decide) (fun _ => ?_) (fun c => absurd c (by decide))
        rw [show (gs g 22 0 2 : G) = mCntG g a1 a2 a3 from by first | with_reducible rfl | (simp [c_1, c_2, c_5, mCntG]; done) | (simp only [c_1, c_2, c_5] <;> simp [mCntG]; done) | (simp only [mCntG, c_1, c_2, c_5] <;> simp [mCntG]; done) | (simp [c_1, c_2, c_5, mCntG, Bool.and_assoc]; done) | (simp [c_1, c_2, c_5, mCntG, Bool.and_assoc, Bool.or_assoc]; done) | rfl | (simp [c_1, c_2, c_5, mCntG]; omega)] at hM hg
        exact zc_vret (hPost H hM hg) hS hx hb hr hlk (Nat.zero_le _) (Nat.zero_le _) dX3_counter_91
  · refine lv_iconst (v := nI 1) hx hb dX3_counter_8 zi_1 ?_
    refine lv_goto (tgt := 67) hx hb dX3_counter_9 (by decide) ?_
    refine pM_thrown S hK hM hS 1 dX3_counter_67 (fun H locs hM hS => ?_)
    have hg : Sm (gs g 22 0 1) := Sm_gs hg (by first | omega | exact Nat.lt_of_le_of_lt (Bool.toNat_le _) (by decide) | ((repeat' split) <;> omega))
    refine lv_aload_n hx hb dX3_counter_70 rfl (lv_at hl 0 rfl) ?_
    refine gM_thrown S hK hM 1 (by first | rfl | simp [gs]) dX3_counter_71 ?_
    have hb_25 : 1 < 1048576 := by first | exact hg 22 0 | exact hg0 _ _ | (have := hg 22 0; omega) | omega
    refine zr_if_neN (a := 1) (tgt := 91) hx hb (by decide) dX3_counter_74 (by decide) (fun _ => ?_) (fun c => absurd c (by decide))
    rw [show (gs g 22 0 1 : G) = mCntG g a1 a2 a3 from by first | with_reducible rfl | (simp [c_1, mCntG]; done) | (simp only [c_1] <;> simp [mCntG]; done) | (simp only [mCntG, c_1] <;> simp [mCntG]; done) | (simp [c_1, mCntG, Bool.and_assoc]; done) | (simp [c_1, mCntG, Bool.and_assoc, Bool.or_assoc]; done) | rfl | (simp [c_1, mCntG]; omega)] at hM hg
    exact zc_vret (hPost H hM hg) hS hx hb hr hlk (Nat.zero_le _) (Nat.zero_le _) dX3_counter_91
def mMonoG (g : G) (a1 : Int32) : G := if (inB a1 5) = true then (if (mUse (gs g 22 0 0) 3) = true then (moN (gUse (gs g 22 0 0) 3) (g 7 4) (tn a1) 3) else gs (gs g 22 0 0) 22 0 2) else gs g 22 0 1
def mMonoR (g : G) (a1 : Int32) : Nat := if (inB a1 5) = true then (if (mUse (gs g 22 0 0) 3) = true then (msN (gUse (gs g 22 0 0) 3) (g 7 4) (tn a1) 3) else 0) else 0
set_option maxHeartbeats 1000000 in
set_option maxRecDepth 100000 in
theorem cM_monopoly (l : Launch) {D : va_G} {dA : Nat → ClassId} {A : Nat → Prop} {ad : Nat → Nat} {g : G} (hg : Sm g) (a1 : Int32) (ht : g 7 4 < 3) (hb4 : ∀ j, j < 20 → g 4 j ≤ 100) (H0 : Heap) (hM : MS D dA A ad g H0) {Post : Option Value → Heap → Prop} (hPost : ∀ H : Heap, MS D dA A ad (mMonoG g a1) H → Sm (mMonoG g a1) → Post (some (.int (nI (mMonoR g a1)))) H) : Ct l yX3_monopoly (ws_ yX3_monopoly cX3_monopoly 5 (some .int)) (rmF 2 0 0 40) A (KT D dA) [.ref (ad 0), .int a1] H0 Post := by
  refine zc_of RX3 rfl (by decide) (Nat.le_of_ble_eq_true rfl) ?_
  intro pr en s m args below meth cd S hr hlk hnm hh hK ls hl
  have hS : va_S A s.heap H0 [] := zc_start hh
  have hg0 := hg
  have hx := S.1
  have hb := S.2.1
  have hown := S.2.2.2.1
  have hts := S.2.2.2.2
  have hl : lv_has ls 5 [(0, .ref (ad 0)), (1, .int a1)] := hl
  have hb5 : ∀ j, j < 20 → gs g 22 0 0 4 j ≤ 100 := hb4
  have hb6 : ∀ j, j < 20 → gUse (gs g 22 0 0) 3 4 j ≤ 100 := hb4
  refine lv_aload_n hx hb dX3_monopoly_0 rfl (lv_at hl 0 rfl) ?_
  refine lv_iload_n hx hb dX3_monopoly_1 rfl (lv_at hl 1 rfl) ?_
  refine kM_isGood S hK hM hg hS a1  (Nat.le_of_ble_eq_true rfl) (Nat.le_of_ble_eq_true rfl) hl.1 (Nat.le_of_ble_eq_true rfl) dX3_monopoly_2 (Nat.zero_le _) (Nat.zero_le _) (fun locs hS => ?_)
  refine kM_asks S hK hM hg hS (inB a1 5)  (Nat.le_of_ble_eq_true rfl) (Nat.le_of_ble_eq_true rfl) hl.1 (Nat.le_of_ble_eq_true rfl) dX3_monopoly_5 (Nat.zero_le _) (Nat.zero_le _) (fun H locs hM hg hS => ?_)
  refine zr_if_neB (b := (inB a1 5)) (tgt := 13) hx hb dX3_monopoly_8 (by decide) (fun c_1 => ?_) (fun c_1 => ?_)
  · rw [show (!(inB a1 5)).toNat = 0 from by rw [c_1]; rfl] at hM hg
    obtain ⟨hj1, ea1⟩ := inB_tn (by decide) c_1
    rw [ea1] at hl
    refine lv_aload_n hx hb dX3_monopoly_13 rfl (lv_at hl 0 rfl) ?_
    refine lv_iconst (v := nI 3) hx hb dX3_monopoly_14 zi_3 ?_
    refine kM_mayUse S hK hM hg hS 3 (by first | omega | assumption | grind) (by first | omega | assumption | grind) (Nat.le_of_ble_eq_true rfl) (Nat.le_of_ble_eq_true rfl) hl.1 (Nat.le_of_ble_eq_true rfl) dX3_monopoly_15 (Nat.zero_le _) (Nat.zero_le _) (fun locs hS => ?_)
    refine zr_if_neB (b := mUse (gs g 22 0 0) 3) (tgt := 27) hx hb dX3_monopoly_18 (by decide) (fun c_2 => ?_) (fun c_2 => ?_)
    · have hU := c_2
      refine lv_aload_n hx hb dX3_monopoly_27 rfl (lv_at hl 0 rfl) ?_
      refine lv_iconst (v := nI 3) hx hb dX3_monopoly_28 zi_3 ?_
      refine kM_uses S hK hM hg hS 3 (by first | omega | assumption | grind) (by first | omega | assumption | grind) (by exact mUse_pos hU) (Nat.le_of_ble_eq_true rfl) (Nat.le_of_ble_eq_true rfl) hl.1 (Nat.le_of_ble_eq_true rfl) dX3_monopoly_29 (Nat.zero_le _) (Nat.zero_le _) (fun H locs hM hg hS => ?_)
      refine lv_iconst (v := nI 0) hx hb dX3_monopoly_32 zi_0 ?_
      refine lv_istore_n (lv' := [(2, .int (nI 0)), (0, .ref (ad 0)), (1, .int (nI (tn a1)))]) hx hb dX3_monopoly_33 rfl hl (by decide) rfl (fun ls hl => ?_)
      refine lv_iconst (v := nI 0) hx hb dX3_monopoly_34 zi_0 ?_
      refine lv_istore_n (lv' := [(3, .int (nI 0)), (2, .int (nI 0)), (0, .ref (ad 0)), (1, .int (nI (tn a1)))]) hx hb dX3_monopoly_35 rfl hl (by decide) rfl (fun ls hl => ?_)
      have L_36 : ∀ (n_36 : Nat) (i : Nat), i ≤ 3 → 3 - i < n_36 → ∀ x2_36 : Int32, x2_36 = nI (msN (gUse (gs g 22 0 0) 3) (g 7 4) (tn a1) i) → ∀ gLv : G, gLv = moN (gUse (gs g 22 0 0) 3) (g 7 4) (tn a1) i → Sm gLv → ∀ (H : Heap) (locs : List Loc), MS D dA A ad gLv H → va_S A s.heap H locs → ∀ ls : Array Slot, lv_has ls 5 [(0, .ref (ad 0)), (1, .int (nI (tn a1))), (2, .int x2_36), (3, .int (nI i))] → W pr l en (rmF 2 0 0 40) s m args below meth cd H locs 0 0 (MQ below (zc_Q Post A) args s 0 0 A) (F0 m 36 ls []) := by
        intro n_36
        induction n_36 with
        | zero => intro i hi_36 hm_36; exact absurd hm_36 (Nat.not_lt_zero _)
        | succ n_36 ih_36 =>
          intro i hi_36 hm_36 x2_36 ex2_36 gLv egL hg H locs hM hS ls hl
          subst ex2_36
          subst egL
          have hms := msN_le (t := g 7 4) hj1 hb6 i (by omega)
          refine lv_iload_n hx hb dX3_monopoly_36 rfl (lv_at hl 3 rfl) ?_
          refine lv_iconst (v := nI 3) hx hb dX3_monopoly_37 zi_3 ?_
          refine zr_icmp_geN (a := i) (b := 3) (tgt := 88) hx hb (by omega) (by omega) dX3_monopoly_38 (by decide) (fun c_3 => ?_) (fun c_3 => ?_)
          · have e_i : 3 = i := by omega
            subst e_i
            refine lv_iload_n hx hb dX3_monopoly_88 rfl (lv_at hl 2 rfl) ?_
            rw [show (moN (gUse (gs g 22 0 0) 3) (g 7 4) (tn a1) 3 : G) = mMonoG g a1 from by first | with_reducible rfl | (simp [c_1, c_2, c_3, gA, mMonoG, mMonoR]; done) | (simp only [c_1, c_2, c_3] <;> simp [gA, mMonoG, mMonoR]; done) | (simp only [gA, mMonoG, mMonoR, c_1, c_2, c_3] <;> simp [gA, mMonoG, mMonoR]; done) | (simp [c_1, c_2, c_3, gA, mMonoG, mMonoR, Bool.and_assoc]; done) | (simp [c_1, c_2, c_3, gA, mMonoG, mMonoR, Bool.and_assoc, Bool.or_assoc]; done) | rfl | (simp [c_1, c_2, c_3, gA, mMonoG, mMonoR]; omega)] at hM hg
            exact zc_nret (nI (mMonoR g a1)) (congrArg nI (show (msN (gUse (gs g 22 0 0) 3) (g 7 4) (tn a1) 3 : Nat) = (mMonoR g a1) from by first | with_reducible rfl | (simp [c_1, c_2, c_3, gA, mMonoG, mMonoR]; done) | (simp only [c_1, c_2, c_3] <;> simp [gA, mMonoG, mMonoR]; done) | (simp only [gA, mMonoG, mMonoR, c_1, c_2, c_3] <;> simp [gA, mMonoG, mMonoR]; done) | (simp [c_1, c_2, c_3, gA, mMonoG, mMonoR, Bool.and_assoc]; done) | (simp [c_1, c_2, c_3, gA, mMonoG, mMonoR, Bool.and_assoc, Bool.or_assoc]; done) | rfl | (simp [c_1, c_2, c_3, gA, mMonoG, mMonoR]; omega))) (hPost H hM hg) hS hx hb hr hlk (Nat.zero_le _) (Nat.zero_le _) dX3_monopoly_89
          · have hml := moN_le (t := g 7 4) hj1 hb6 i (by omega)
            have hp9 : 100 * 2 ^ i ≤ 800 := by rcases (show i = 0 ∨ i = 1 ∨ i = 2 by omega) with q | q | q <;> (subst q; decide)
            have hmi := hml (5 * i + (tn a1)) (by omega)
            refine lv_iload_n hx hb dX3_monopoly_41 rfl (lv_at hl 3 rfl) ?_
            refine lv_aload_n hx hb dX3_monopoly_42 rfl (lv_at hl 0 rfl) ?_
            refine gM_turn S hK hM (g 7 4) (by first | rfl | exact moN_nf _ _ _ (by decide) _ _) dX3_monopoly_43 ?_
            have hb_4 : g 7 4 < 1048576 := by first | exact hg 7 4 | exact hg0 _ _ | (have := hg 7 4; omega) | omega
            have J_63 : ∀ yS0_63 : Int32, yS0_63 = nI ((if i = (g 7 4) then 0 else (moN (gUse (gs g 22 0 0) 3) (g 7 4) (tn a1) i) 4 ((5 * i) + (tn a1)))) → ∀ (H : Heap) (locs : List Loc), MS D dA A ad (moN (gUse (gs g 22 0 0) 3) (g 7 4) (tn a1) i) H → va_S A s.heap H locs → ∀ ls : Array Slot, lv_has ls 5 [(0, .ref (ad 0)), (1, .int (nI (tn a1))), (2, .int (nI (msN (gUse (gs g 22 0 0) 3) (g 7 4) (tn a1) i))), (3, .int (nI i))] → W pr l en (rmF 2 0 0 40) s m args below meth cd H locs 0 0 (MQ below (zc_Q Post A) args s 0 0 A) (F0 m 63 ls [.int yS0_63]) := by
              intro yS0_63 eyS0_63 H locs hM hS ls hl
              subst eyS0_63
              refine lv_istore (lv' := [(4, .int (nI ((if i = (g 7 4) then 0 else (moN (gUse (gs g 22 0 0) 3) (g 7 4) (tn a1) i) 4 ((5 * i) + (tn a1)))))), (0, .ref (ad 0)), (1, .int (nI (tn a1))), (2, .int (nI (msN (gUse (gs g 22 0 0) 3) (g 7 4) (tn a1) i))), (3, .int (nI i))]) hx hb dX3_monopoly_63 hl (by decide) rfl (fun ls hl => ?_)
              refine lv_aload_n hx hb dX3_monopoly_65 rfl (lv_at hl 1 rfl) ?_
              refine lv_iload_n hx hb dX3_monopoly_66 rfl (lv_at hl 4 rfl) ?_
              refine lv_aload_n hx hb dX3_monopoly_67 rfl (lv_at hl 1 rfl) ?_
              refine gM_turn S hK hM (g 7 4) (by first | rfl | exact moN_nf _ _ _ (by decide) _ _) dX3_monopoly_68 ?_
              have hb_7 : g 7 4 < 1048576 := by first | exact hg 7 4 | exact hg0 _ _ | (have := hg 7 4; omega) | omega
              refine lv_iload_n hx hb dX3_monopoly_71 rfl (lv_at hl 2 rfl) ?_
              refine lv_iload hx hb dX3_monopoly_72 (lv_at hl 0 rfl) ?_
              refine kM_moves S hK hM hg hS i (g 7 4) (tn a1) ((if i = (g 7 4) then 0 else (moN (gUse (gs g 22 0 0) 3) (g 7 4) (tn a1) i) 4 ((5 * i) + (tn a1)))) (by first | omega | assumption | grind) (by first | omega | assumption | grind) (by first | omega | assumption | grind) (by first | exact Nat.zero_le _ | (split <;> omega)) (by exact fun j hj => Nat.le_trans (hml j hj) (by omega)) (Nat.le_of_ble_eq_true rfl) (Nat.le_of_ble_eq_true rfl) hl.1 (Nat.le_of_ble_eq_true rfl) dX3_monopoly_74 (Nat.zero_le _) (Nat.zero_le _) (fun H locs hM hg hS => ?_)
              refine lv_iload_n hx hb dX3_monopoly_77 rfl (lv_at hl 3 rfl) ?_
              refine lv_iload hx hb dX3_monopoly_78 (lv_at hl 0 rfl) ?_
              refine zr_addN (a := (msN (gUse (gs g 22 0 0) 3) (g 7 4) (tn a1) i)) (b := ((if i = (g 7 4) then 0 else (moN (gUse (gs g 22 0 0) 3) (g 7 4) (tn a1) i) 4 ((5 * i) + (tn a1))))) hx hb dX3_monopoly_80 ?_
              refine lv_istore_n (lv' := [(2, .int (nI ((msN (gUse (gs g 22 0 0) 3) (g 7 4) (tn a1) i) + ((if i = (g 7 4) then 0 else (moN (gUse (gs g 22 0 0) 3) (g 7 4) (tn a1) i) 4 ((5 * i) + (tn a1))))))), (4, .int (nI ((if i = (g 7 4) then 0 else (moN (gUse (gs g 22 0 0) 3) (g 7 4) (tn a1) i) 4 ((5 * i) + (tn a1)))))), (0, .ref (ad 0)), (1, .int (nI (tn a1))), (3, .int (nI i))]) hx hb dX3_monopoly_81 rfl hl (by decide) rfl (fun ls hl => ?_)
              refine lv_iinc (v := nI (i + 1)) (lv' := [(3, .int (nI (i + 1))), (2, .int (nI ((msN (gUse (gs g 22 0 0) 3) (g 7 4) (tn a1) i) + ((if i = (g 7 4) then 0 else (moN (gUse (gs g 22 0 0) 3) (g 7 4) (tn a1) i) 4 ((5 * i) + (tn a1))))))), (4, .int (nI ((if i = (g 7 4) then 0 else (moN (gUse (gs g 22 0 0) 3) (g 7 4) (tn a1) i) 4 ((5 * i) + (tn a1)))))), (0, .ref (ad 0)), (1, .int (nI (tn a1)))]) hx hb dX3_monopoly_82 hl (k := 4) rfl (zk_inc _) (by decide) rfl (fun ls hl => ?_)
              refine lv_goto (tgt := 36) hx hb dX3_monopoly_85 (by decide) ?_
              exact ih_36 (i + 1) (by first | omega | assumption | (simp; done) | grind) (by omega) _ rfl (moveN (moN (gUse (gs g 22 0 0) 3) (g 7 4) (tn a1) i) i (g 7 4) (tn a1) ((if i = (g 7 4) then 0 else (moN (gUse (gs g 22 0 0) 3) (g 7 4) (tn a1) i) 4 ((5 * i) + (tn a1))))) (rfl) hg H locs hM hS ls (lv_sub hl [3, 4, 1, 0] rfl)
            refine zr_icmp_neN (a := i) (b := (g 7 4)) (tgt := 53) hx hb (by omega) (by omega) dX3_monopoly_46 (by decide) (fun c_8 => ?_) (fun c_8 => ?_)
            · refine lv_aload_n hx hb dX3_monopoly_53 rfl (lv_at hl 0 rfl) ?_
              refine gM_hand S hK hM dX3_monopoly_54 ?_
              refine lv_iconst (v := nI 5) hx hb dX3_monopoly_57 zi_5 ?_
              refine lv_iload_n hx hb dX3_monopoly_58 rfl (lv_at hl 3 rfl) ?_
              refine zr_mulN (a := 5) (b := i) hx hb dX3_monopoly_59 ?_
              refine lv_iload_n hx hb dX3_monopoly_60 rfl (lv_at hl 1 rfl) ?_
              refine zr_addN (a := (5 * i)) (b := (tn a1)) hx hb dX3_monopoly_61 ?_
              refine lM_hand S hK hM ((5 * i) + (tn a1)) (by omega) ((moN (gUse (gs g 22 0 0) 3) (g 7 4) (tn a1) i) 4 ((5 * i) + (tn a1))) rfl dX3_monopoly_62 ?_
              have hb_9 : (moN (gUse (gs g 22 0 0) 3) (g 7 4) (tn a1) i) 4 ((5 * i) + (tn a1)) < 1048576 := by first | exact hg 4 ((5 * i) + (tn a1)) | exact hg0 _ _ | (have := hg 4 ((5 * i) + (tn a1)); omega) | omega
              exact J_63 _ (congrArg nI (show ((moN (gUse (gs g 22 0 0) 3) (g 7 4) (tn a1) i) 4 ((5 * i) + (tn a1)) : Nat) = ((if i = (g 7 4) then 0 else (moN (gUse (gs g 22 0 0) 3) (g 7 4) (tn a1) i) 4 ((5 * i) + (tn a1)))) from by first | with_reducible rfl | (simp [c_1, c_2, c_3, c_8, gA, mMonoG, mMonoR]; done) | (simp only [c_1, c_2, c_3, c_8] <;> simp [gA, mMonoG, mMonoR]; done) | (simp only [gA, mMonoG, mMonoR, c_1, c_2, c_3, c_8] <;> simp [gA, mMonoG, mMonoR]; done) | (simp [c_1, c_2, c_3, c_8, gA, mMonoG, mMonoR, Bool.and_assoc]; done) | (simp [c_1, c_2, c_3, c_8, gA, mMonoG, mMonoR, Bool.and_assoc, Bool.or_assoc]; done) | rfl | (simp [c_1, c_2, c_3, c_8, gA, mMonoG, mMonoR]; omega))) H locs hM hS ls (lv_sub hl [0, 1, 2, 3] rfl)
            · refine lv_iconst (v := nI 0) hx hb dX3_monopoly_49 zi_0 ?_
              refine lv_goto (tgt := 63) hx hb dX3_monopoly_50 (by decide) ?_
              exact J_63 _ (congrArg nI (show (0 : Nat) = ((if i = (g 7 4) then 0 else (moN (gUse (gs g 22 0 0) 3) (g 7 4) (tn a1) i) 4 ((5 * i) + (tn a1)))) from by first | with_reducible rfl | (simp [c_1, c_2, c_3, c_8, gA, mMonoG, mMonoR]; done) | (simp only [c_1, c_2, c_3, c_8] <;> simp [gA, mMonoG, mMonoR]; done) | (simp only [gA, mMonoG, mMonoR, c_1, c_2, c_3, c_8] <;> simp [gA, mMonoG, mMonoR]; done) | (simp [c_1, c_2, c_3, c_8, gA, mMonoG, mMonoR, Bool.and_assoc]; done) | (simp [c_1, c_2, c_3, c_8, gA, mMonoG, mMonoR, Bool.and_assoc, Bool.or_assoc]; done) | rfl | (simp [c_1, c_2, c_3, c_8, gA, mMonoG, mMonoR]; omega))) H locs hM hS ls (lv_sub hl [0, 1, 2, 3] rfl)
      exact L_36 _ 0 (by first | omega | assumption | (simp; done) | grind) (Nat.lt_succ_self _) _ rfl (gUse (gs g 22 0 0) 3) (rfl) hg H locs hM hS ls (lv_sub hl [2, 3, 1, 0] rfl)
    · refine lv_aload_n hx hb dX3_monopoly_21 rfl (lv_at hl 0 rfl) ?_
      refine lv_iconst (v := nI 2) hx hb dX3_monopoly_22 zi_2 ?_
      refine kM_fails S hK hM hg hS 2 (by first | omega | assumption | grind) (Nat.le_of_ble_eq_true rfl) (Nat.le_of_ble_eq_true rfl) hl.1 (Nat.le_of_ble_eq_true rfl) dX3_monopoly_23 (Nat.zero_le _) (Nat.zero_le _) (fun H locs hM hg hS => ?_)
      rw [show (gs (gs g 22 0 0) 22 0 2 : G) = mMonoG g a1 from by first | with_reducible rfl | (simp [c_1, c_2, gA, mMonoG, mMonoR]; done) | (simp only [c_1, c_2] <;> simp [gA, mMonoG, mMonoR]; done) | (simp only [gA, mMonoG, mMonoR, c_1, c_2] <;> simp [gA, mMonoG, mMonoR]; done) | (simp [c_1, c_2, gA, mMonoG, mMonoR, Bool.and_assoc]; done) | (simp [c_1, c_2, gA, mMonoG, mMonoR, Bool.and_assoc, Bool.or_assoc]; done) | rfl | (simp [c_1, c_2, gA, mMonoG, mMonoR]; omega)] at hM hg
      exact zc_nret (nI (mMonoR g a1)) (congrArg nI (show (0 : Nat) = (mMonoR g a1) from by first | with_reducible rfl | (simp [c_1, c_2, gA, mMonoG, mMonoR]; done) | (simp only [c_1, c_2] <;> simp [gA, mMonoG, mMonoR]; done) | (simp only [gA, mMonoG, mMonoR, c_1, c_2] <;> simp [gA, mMonoG, mMonoR]; done) | (simp [c_1, c_2, gA, mMonoG, mMonoR, Bool.and_assoc]; done) | (simp [c_1, c_2, gA, mMonoG, mMonoR, Bool.and_assoc, Bool.or_assoc]; done) | rfl | (simp [c_1, c_2, gA, mMonoG, mMonoR]; omega))) (hPost H hM hg) hS hx hb hr hlk (Nat.zero_le _) (Nat.zero_le _) dX3_monopoly_26
  · rw [show (!(inB a1 5)).toNat = 1 from by rw [c_1]; rfl] at hM hg
    refine lv_iconst (v := nI 0) hx hb dX3_monopoly_11 zi_0 ?_
    rw [show (gs g 22 0 1 : G) = mMonoG g a1 from by first | with_reducible rfl | (simp [c_1, gA, mMonoG, mMonoR]; done) | (simp only [c_1] <;> simp [gA, mMonoG, mMonoR]; done) | (simp only [gA, mMonoG, mMonoR, c_1] <;> simp [gA, mMonoG, mMonoR]; done) | (simp [c_1, gA, mMonoG, mMonoR, Bool.and_assoc]; done) | (simp [c_1, gA, mMonoG, mMonoR, Bool.and_assoc, Bool.or_assoc]; done) | rfl | (simp [c_1, gA, mMonoG, mMonoR]; omega)] at hM hg
    exact zc_nret (nI (mMonoR g a1)) (congrArg nI (show (0 : Nat) = (mMonoR g a1) from by first | with_reducible rfl | (simp [c_1, gA, mMonoG, mMonoR]; done) | (simp only [c_1] <;> simp [gA, mMonoG, mMonoR]; done) | (simp only [gA, mMonoG, mMonoR, c_1] <;> simp [gA, mMonoG, mMonoR]; done) | (simp [c_1, gA, mMonoG, mMonoR, Bool.and_assoc]; done) | (simp [c_1, gA, mMonoG, mMonoR, Bool.and_assoc, Bool.or_assoc]; done) | rfl | (simp [c_1, gA, mMonoG, mMonoR]; omega))) (hPost H hM hg) hS hx hb hr hlk (Nat.zero_le _) (Nat.zero_le _) dX3_monopoly_12
set_option maxHeartbeats 1000000 in
set_option maxRecDepth 100000 in
theorem cM_robs (l : Launch) {D : va_G} {dA : Nat → ClassId} {A : Nat → Prop} {ad : Nat → Nat} {g : G} (hg : Sm g) (a1 : Nat) (a2 : Nat) (a3 : Nat) (h1 : a1 < 7) (h2 : a2 ≤ 3) (h3 : a3 < 1000) (ht : g 7 4 < 3) (hb4 : ∀ j, j < 20 → g 4 j ≤ 100) (h4 : 0 < a2 → 0 < handN g (a2 - 1) 5) (H0 : Heap) (hM : MS D dA A ad g H0) {Post : Option Value → Heap → Prop} (hPost : ∀ H : Heap, MS D dA A ad (gRob g a1 a2 a3) H → Sm (gRob g a1 a2 a3) → Post (some (.int (mI (if a2 = 0 then 0 else robK g (a2 - 1) (rX g a2 a3) + 1)))) H) : Ct l yX3_robs (ws_ yX3_robs cX3_robs 6 (some .int)) (rmF 2 0 0 38) A (KT D dA) [.ref (ad 0), .int (nI a1), .int (mI a2), .int (nI a3)] H0 Post := by
  refine zc_of RX3 rfl (by decide) (Nat.le_of_ble_eq_true rfl) ?_
  intro pr en s m args below meth cd S hr hlk hnm hh hK ls hl
  have hS : va_S A s.heap H0 [] := zc_start hh
  have hg0 := hg
  have hx := S.1
  have hb := S.2.1
  have hown := S.2.2.2.1
  have hts := S.2.2.2.2
  have hl : lv_has ls 6 [(0, .ref (ad 0)), (1, .int (nI a1)), (2, .int (mI a2)), (3, .int (nI a3))] := hl
  refine lv_aload_n hx hb dX3_robs_0 rfl (lv_at hl 0 rfl) ?_
  refine lv_iload_n hx hb dX3_robs_1 rfl (lv_at hl 1 rfl) ?_
  refine pM_robber S hK hM hS a1 dX3_robs_2 (fun H locs hM hS => ?_)
  have hg : Sm (gs g 7 0 a1) := Sm_gs hg (by first | omega | exact Nat.lt_of_le_of_lt (Bool.toNat_le _) (by decide) | ((repeat' split) <;> omega))
  refine lv_iload_n hx hb dX3_robs_5 rfl (lv_at hl 2 rfl) ?_
  refine lv_iconst (v := mI 0) hx hb dX3_robs_6 zi_m1 ?_
  refine zr_icmp_neM (a := a2) (b := 0) (tgt := 12) hx hb (by omega) (by omega) dX3_robs_7 (by decide) (fun c_1 => ?_) (fun c_1 => ?_)
  · refine lv_iload_n hx hb dX3_robs_12 rfl (lv_at hl 3 rfl) ?_
    refine lv_aload_n hx hb dX3_robs_13 rfl (lv_at hl 0 rfl) ?_
    refine lv_iload_n hx hb dX3_robs_14 rfl (lv_at hl 2 rfl) ?_
    rw [mI_pred (show 0 < a2 from by omega)]
    refine kM_handOf S hK hM hg hS (a2 - 1) (by first | omega | assumption | grind) (Nat.le_of_ble_eq_true rfl) (Nat.le_of_ble_eq_true rfl) hl.1 (Nat.le_of_ble_eq_true rfl) dX3_robs_15 (Nat.zero_le _) (Nat.zero_le _) (fun locs hS => ?_)
    have f15_0 : handN (gs g 7 0 a1) (a2 - 1) 5 < 5242880 := handN_lt hg _
    rw [show handN (gs g 7 0 a1) (a2 - 1) 5 = handN g (a2 - 1) 5 from rfl]
    have hh4 := h4 (by omega)
    have hhl := handN_lt hg0 (a2 - 1)
    refine zr_remN (a := a3) (b := (handN g (a2 - 1) 5)) hx hb (by omega) (by omega) (by omega) dX3_robs_18 ?_
    refine lv_istore (lv' := [(4, .int (nI (a3 % (handN g (a2 - 1) 5)))), (0, .ref (ad 0)), (1, .int (nI a1)), (2, .int (mI a2)), (3, .int (nI a3))]) hx hb dX3_robs_19 hl (by decide) rfl (fun ls hl => ?_)
    refine lv_iconst (v := nI 0) hx hb dX3_robs_21 zi_0 ?_
    refine lv_istore (lv' := [(5, .int (nI 0)), (4, .int (nI (a3 % (handN g (a2 - 1) 5)))), (0, .ref (ad 0)), (1, .int (nI a1)), (2, .int (mI a2)), (3, .int (nI a3))]) hx hb dX3_robs_22 hl (by decide) rfl (fun ls hl => ?_)
    have L_24 : ∀ (n_24 : Nat) (x : Nat) (k : Nat), x + handN g (a2 - 1) k = rX g a2 a3 → k < 5 → 5 - k < n_24 → ∀ gLv : G, gLv = gs g 7 0 a1 → Sm gLv → ∀ (H : Heap) (locs : List Loc), MS D dA A ad gLv H → va_S A s.heap H locs → ∀ ls : Array Slot, lv_has ls 6 [(0, .ref (ad 0)), (2, .int (mI a2)), (4, .int (nI x)), (5, .int (nI k))] → W pr l en (rmF 2 0 0 38) s m args below meth cd H locs 0 0 (MQ below (zc_Q Post A) args s 0 0 A) (F0 m 24 ls []) := by
      intro n_24
      induction n_24 with
      | zero => intro x k hxk hk5 hm_24; exact absurd hm_24 (Nat.not_lt_zero _)
      | succ n_24 ih_24 =>
        intro x k hxk hk5 hm_24 gLv egL hg H locs hM hS ls hl
        subst egL
        have hmh : rX g a2 a3 < handN g (a2 - 1) 5 := Nat.mod_lt a3 (h4 (by omega))
        have hhl2 := handN_lt hg0 (a2 - 1)
        have hbk := hb4 (5 * (a2 - 1) + k) (by omega)
        refine lv_iload hx hb dX3_robs_24 (lv_at hl 2 rfl) ?_
        refine lv_aload_n hx hb dX3_robs_26 rfl (lv_at hl 0 rfl) ?_
        refine gM_hand S hK hM dX3_robs_27 ?_
        refine lv_iconst (v := nI 5) hx hb dX3_robs_30 zi_5 ?_
        refine lv_iload_n hx hb dX3_robs_31 rfl (lv_at hl 1 rfl) ?_
        rw [mI_pred (show 0 < a2 from by omega)]
        refine zr_mulN (a := 5) (b := (a2 - 1)) hx hb dX3_robs_32 ?_
        refine lv_iload hx hb dX3_robs_33 (lv_at hl 3 rfl) ?_
        refine zr_addN (a := (5 * (a2 - 1))) (b := k) hx hb dX3_robs_35 ?_
        refine lM_hand S hK hM ((5 * (a2 - 1)) + k) (by omega) (g 4 ((5 * (a2 - 1)) + k)) (by first | rfl | simp [gs]) dX3_robs_36 ?_
        have hb_2 : g 4 ((5 * (a2 - 1)) + k) < 1048576 := by first | exact hg 4 ((5 * (a2 - 1)) + k) | exact hg0 _ _ | (have := hg 4 ((5 * (a2 - 1)) + k); omega) | omega
        refine zr_icmp_ltN (a := x) (b := (g 4 ((5 * (a2 - 1)) + k))) (tgt := 62) hx hb (by omega) (by omega) dX3_robs_37 (by decide) (fun c_3 => ?_) (fun c_3 => ?_)
        · have hsk : handN g (a2 - 1) (k + 1) = handN g (a2 - 1) k + g 4 (5 * (a2 - 1) + k) := rfl
          have hKr := robK_is (g := g) (p := a2 - 1) (x := rX g a2 a3) hk5 (by omega) (by omega)
          have hbt := hb4 (5 * g 7 4 + k) (by omega)
          have hm3 : gs (gs g 7 0 a1) 4 (5 * (a2 - 1) + k) (g 4 (5 * (a2 - 1) + k) - 1) 4 (5 * g 7 4 + k) ≤ 1000 := by by_cases q : 5 * g 7 4 + k = 5 * (a2 - 1) + k; (rw [q, gs_eq]; omega); (rw [gs_ni _ q]; exact Nat.le_trans hbt (by decide))
          refine lv_aload_n hx hb dX3_robs_62 rfl (lv_at hl 0 rfl) ?_
          refine gM_hand S hK hM dX3_robs_63 ?_
          refine lv_iconst (v := nI 5) hx hb dX3_robs_66 zi_5 ?_
          refine lv_iload_n hx hb dX3_robs_67 rfl (lv_at hl 1 rfl) ?_
          rw [mI_pred (show 0 < a2 from by omega)]
          refine zr_mulN (a := 5) (b := (a2 - 1)) hx hb dX3_robs_68 ?_
          refine lv_iload hx hb dX3_robs_69 (lv_at hl 3 rfl) ?_
          refine zr_addN (a := (5 * (a2 - 1))) (b := k) hx hb dX3_robs_71 ?_
          refine lv_dup2_11 hx hb dX3_robs_72 rfl rfl ?_
          refine lM_hand S hK hM ((5 * (a2 - 1)) + k) (by omega) (g 4 ((5 * (a2 - 1)) + k)) (by first | rfl | simp [gs]) dX3_robs_73 ?_
          have hb_4 : g 4 ((5 * (a2 - 1)) + k) < 1048576 := by first | exact hg 4 ((5 * (a2 - 1)) + k) | exact hg0 _ _ | (have := hg 4 ((5 * (a2 - 1)) + k); omega) | omega
          refine lv_iconst (v := nI 1) hx hb dX3_robs_74 zi_1 ?_
          refine zr_subN (a := (g 4 ((5 * (a2 - 1)) + k))) (b := 1) hx hb (by omega) dX3_robs_75 ?_
          refine sM_hand S hK hM hS ((5 * (a2 - 1)) + k) (by omega) ((g 4 ((5 * (a2 - 1)) + k)) - 1) dX3_robs_76 (fun H locs hM hS => ?_)
          have hg : Sm (gs (gs g 7 0 a1) 4 ((5 * (a2 - 1)) + k) ((g 4 ((5 * (a2 - 1)) + k)) - 1)) := Sm_gs hg (by first | omega | exact Nat.lt_of_le_of_lt (Bool.toNat_le _) (by decide) | ((repeat' split) <;> omega))
          refine lv_aload_n hx hb dX3_robs_77 rfl (lv_at hl 0 rfl) ?_
          refine gM_hand S hK hM dX3_robs_78 ?_
          refine lv_iconst (v := nI 5) hx hb dX3_robs_81 zi_5 ?_
          refine lv_aload_n hx hb dX3_robs_82 rfl (lv_at hl 0 rfl) ?_
          refine gM_turn S hK hM (g 7 4) (by first | rfl | simp [gs]) dX3_robs_83 ?_
          have hb_5 : g 7 4 < 1048576 := by first | exact hg 7 4 | exact hg0 _ _ | (have := hg 7 4; omega) | omega
          refine zr_mulN (a := 5) (b := (g 7 4)) hx hb dX3_robs_86 ?_
          refine lv_iload hx hb dX3_robs_87 (lv_at hl 3 rfl) ?_
          refine zr_addN (a := (5 * (g 7 4))) (b := k) hx hb dX3_robs_89 ?_
          refine lv_dup2_11 hx hb dX3_robs_90 rfl rfl ?_
          refine lM_hand S hK hM ((5 * (g 7 4)) + k) (by omega) ((gs (gs g 7 0 a1) 4 ((5 * (a2 - 1)) + k) ((g 4 ((5 * (a2 - 1)) + k)) - 1)) 4 ((5 * (g 7 4)) + k)) (by first | rfl | simp [gs]) dX3_robs_91 ?_
          have hb_6 : (gs (gs g 7 0 a1) 4 ((5 * (a2 - 1)) + k) ((g 4 ((5 * (a2 - 1)) + k)) - 1)) 4 ((5 * (g 7 4)) + k) < 1048576 := by first | exact hg 4 ((5 * (g 7 4)) + k) | exact hg0 _ _ | (have := hg 4 ((5 * (g 7 4)) + k); omega) | omega
          refine lv_iconst (v := nI 1) hx hb dX3_robs_92 zi_1 ?_
          refine zr_addN (a := ((gs (gs g 7 0 a1) 4 ((5 * (a2 - 1)) + k) ((g 4 ((5 * (a2 - 1)) + k)) - 1)) 4 ((5 * (g 7 4)) + k))) (b := 1) hx hb dX3_robs_93 ?_
          refine sM_hand S hK hM hS ((5 * (g 7 4)) + k) (by omega) (((gs (gs g 7 0 a1) 4 ((5 * (a2 - 1)) + k) ((g 4 ((5 * (a2 - 1)) + k)) - 1)) 4 ((5 * (g 7 4)) + k)) + 1) dX3_robs_94 (fun H locs hM hS => ?_)
          have hg : Sm (gs (gs (gs g 7 0 a1) 4 ((5 * (a2 - 1)) + k) ((g 4 ((5 * (a2 - 1)) + k)) - 1)) 4 ((5 * (g 7 4)) + k) (((gs (gs g 7 0 a1) 4 ((5 * (a2 - 1)) + k) ((g 4 ((5 * (a2 - 1)) + k)) - 1)) 4 ((5 * (g 7 4)) + k)) + 1)) := Sm_gs hg (by first | omega | exact Nat.lt_of_le_of_lt (Bool.toNat_le _) (by decide) | ((repeat' split) <;> omega))
          refine lv_iload hx hb dX3_robs_95 (lv_at hl 3 rfl) ?_
          rw [show (gs (gs (gs g 7 0 a1) 4 ((5 * (a2 - 1)) + k) ((g 4 ((5 * (a2 - 1)) + k)) - 1)) 4 ((5 * (g 7 4)) + k) (((gs (gs g 7 0 a1) 4 ((5 * (a2 - 1)) + k) ((g 4 ((5 * (a2 - 1)) + k)) - 1)) 4 ((5 * (g 7 4)) + k)) + 1) : G) = gRob g a1 a2 a3 from by first | (simp [gRob, c_1, c_3, hKr]; done) | (rw [gRob, if_neg (by omega), hKr]; rfl)] at hM hg
          exact zc_nret (mI (if a2 = 0 then 0 else robK g (a2 - 1) (rX g a2 a3) + 1)) ((mI_succ k).symm.trans (congrArg mI (show (k + 1 : Nat) = (if a2 = 0 then 0 else robK g (a2 - 1) (rX g a2 a3) + 1) from by first | with_reducible rfl | (simp [c_1, c_3, hKr, gRob, moveN]; done) | (simp only [c_1, c_3, hKr] <;> simp [gRob, moveN]; done) | (simp only [gRob, moveN, c_1, c_3, hKr] <;> simp [gRob, moveN]; done) | (simp [c_1, c_3, hKr, gRob, moveN, Bool.and_assoc]; done) | (simp [c_1, c_3, hKr, gRob, moveN, Bool.and_assoc, Bool.or_assoc]; done) | rfl | (simp [c_1, c_3, hKr, gRob, moveN]; omega)))) (hPost H hM hg) hS hx hb hr hlk (Nat.zero_le _) (Nat.zero_le _) dX3_robs_97
        · have hsk : handN g (a2 - 1) (k + 1) = handN g (a2 - 1) k + g 4 (5 * (a2 - 1) + k) := rfl
          have hk1 : k + 1 < 5 := by
            rcases Nat.lt_or_ge (k + 1) 5 with q | q
            · exact q
            · exfalso; have := handN_mono (g := g) (p := a2 - 1) 5 (k + 1) q; omega
          refine lv_iload hx hb dX3_robs_40 (lv_at hl 2 rfl) ?_
          refine lv_aload_n hx hb dX3_robs_42 rfl (lv_at hl 0 rfl) ?_
          refine gM_hand S hK hM dX3_robs_43 ?_
          refine lv_iconst (v := nI 5) hx hb dX3_robs_46 zi_5 ?_
          refine lv_iload_n hx hb dX3_robs_47 rfl (lv_at hl 1 rfl) ?_
          rw [mI_pred (show 0 < a2 from by omega)]
          refine zr_mulN (a := 5) (b := (a2 - 1)) hx hb dX3_robs_48 ?_
          refine lv_iload hx hb dX3_robs_49 (lv_at hl 3 rfl) ?_
          refine zr_addN (a := (5 * (a2 - 1))) (b := k) hx hb dX3_robs_51 ?_
          refine lM_hand S hK hM ((5 * (a2 - 1)) + k) (by omega) (g 4 ((5 * (a2 - 1)) + k)) (by first | rfl | simp [gs]) dX3_robs_52 ?_
          have hb_7 : g 4 ((5 * (a2 - 1)) + k) < 1048576 := by first | exact hg 4 ((5 * (a2 - 1)) + k) | exact hg0 _ _ | (have := hg 4 ((5 * (a2 - 1)) + k); omega) | omega
          refine zr_subN (a := x) (b := (g 4 ((5 * (a2 - 1)) + k))) hx hb (by omega) dX3_robs_53 ?_
          refine lv_istore (lv' := [(4, .int (nI (x - (g 4 ((5 * (a2 - 1)) + k))))), (0, .ref (ad 0)), (2, .int (mI a2)), (5, .int (nI k))]) hx hb dX3_robs_54 hl (by decide) rfl (fun ls hl => ?_)
          refine lv_iinc (v := nI (k + 1)) (lv' := [(5, .int (nI (k + 1))), (4, .int (nI (x - (g 4 ((5 * (a2 - 1)) + k))))), (0, .ref (ad 0)), (2, .int (mI a2))]) hx hb dX3_robs_56 hl (k := 3) rfl (zk_inc _) (by decide) rfl (fun ls hl => ?_)
          refine lv_goto (tgt := 24) hx hb dX3_robs_59 (by decide) ?_
          exact ih_24 (x - (g 4 ((5 * (a2 - 1)) + k))) (k + 1) (by omega) (by omega) (by omega) (gs g 7 0 a1) (rfl) hg H locs hM hS ls (lv_sub hl [2, 3, 1, 0] rfl)
    exact L_24 _ (a3 % (handN g (a2 - 1) 5)) 0 (by rfl) (by first | omega | assumption | (simp; done) | grind) (Nat.lt_succ_self _) (gs g 7 0 a1) (rfl) hg H locs hM hS ls (lv_sub hl [2, 4, 1, 0] rfl)
  · refine lv_iconst (v := mI 0) hx hb dX3_robs_10 zi_m1 ?_
    rw [show (gs g 7 0 a1 : G) = gRob g a1 a2 a3 from by first | (simp [gRob, c_1]; done) | (rw [gRob, if_neg (by omega), hKr]; rfl)] at hM hg
    exact zc_nret (mI (if a2 = 0 then 0 else robK g (a2 - 1) (rX g a2 a3) + 1)) (congrArg mI (show (0 : Nat) = (if a2 = 0 then 0 else robK g (a2 - 1) (rX g a2 a3) + 1) from by first | with_reducible rfl | (simp [c_1, gRob, moveN]; done) | (simp only [c_1] <;> simp [gRob, moveN]; done) | (simp only [gRob, moveN, c_1] <;> simp [gRob, moveN]; done) | (simp [c_1, gRob, moveN, Bool.and_assoc]; done) | (simp [c_1, gRob, moveN, Bool.and_assoc, Bool.or_assoc]; done) | rfl | (simp [c_1, gRob, moveN]; omega))) (hPost H hM hg) hS hx hb hr hlk (Nat.zero_le _) (Nat.zero_le _) dX3_robs_11
theorem kM_robs {pr : Program} {l : Launch} {en : Env} {R : Room} {s : State} {m : MethodId} {args : Array Value} {below : List Frame} {meth : Method} {cd : Code} {H : Heap} {locs : List Loc} {cells slots : Nat} {Q : State → Prop} {cc : ByteArray} {pc nL : Nat} {ls : Array Slot} {rest : List Value} {D : va_G} {dA : Nat → ClassId} {A : Nat → Prop} {ad : Nat → Nat} {g : G} (S : CallFix pr m cd cc nL s args lw_all RX3) (hK : KT D dA s) (hM : MS D dA A ad g H) (hg : Sm g) (hS : va_S A s.heap H locs) (a1 : Nat) (a2 : Nat) (a3 : Nat) (h1 : a1 < 7) (h2 : a2 ≤ 3) (h3 : a3 < 1000) (ht : g 7 4 < 3) (hb4 : ∀ j, j < 20 → g 4 j ≤ 100) (h4 : 0 < a2 → 0 < handN g (a2 - 1) 5) (hf : 2 + 1 ≤ R.frames) (hlo : 8 + (6 + 11) + 38 ≤ R.locals) (hsz : ls.size = nL) (hcat : (rest.map fun v => v.category).sum ≤ 8) (hdg : decode cc pc = .ok (.invokevirtual 197, 3)) (hq1 : cells ≤ R.cells) (hq2 : slots ≤ R.slots) (kk : ∀ (H1 : Heap) (locs1 : List Loc), MS D dA A ad (gRob g a1 a2 a3) H1 → Sm (gRob g a1 a2 a3) → va_S A s.heap H1 locs1 → W pr l en R s m args below meth cd H1 locs1 cells slots Q (F0 m (pc + 3) ls (.int (mI (if a2 = 0 then 0 else robK g (a2 - 1) (rX g a2 a3) + 1)) :: rest))) : W pr l en R s m args below meth cd H locs cells slots Q (F0 m pc ls (.int (nI a3) :: .int (mI a2) :: .int (nI a1) :: .ref (ad 0) :: rest)) :=
  zc_callV (n := 3) (As := [.int (nI a1), .int (mI a2), .int (nI a3)]) (rest := rest) S (cM_robs l hg a1 a2 a3 h1 h2 h3 ht hb4 h4  H hM (Post := (fun v H1 => v = some (.int (mI (if a2 = 0 then 0 else robK g (a2 - 1) (rX g a2 a3) + 1))) ∧ MS D dA A ad (gRob g a1 a2 a3) H1 ∧ Sm (gRob g a1 a2 a3))) (fun H1 h h2 => ⟨rfl, h, h2⟩)) (lw_V q1266 q1268 qs54 q76 q1269) (by decide +kernel) ⟨hf, hlo⟩ ⟨hq1, hq2⟩ (zm_recv hK hM) KT_mv (zc_K KT_mv hK hS) hS (fun _ h => h) rfl hsz rfl hcat hdg (fun v H1 locs1 hp _ _ hS1 => by obtain ⟨rfl, hM1, hg1⟩ := hp; exact kk H1 locs1 hM1 hg1 hS1)
