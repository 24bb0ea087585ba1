/-! THE MODEL: what changes it (printed by gen/m5.py) -/
def gPay (y : G) (c : Nat) : G := giveN y (y 7 4) 3 c 5
def gLay (y : G) (e : Nat) : G := gTr (gs y 3 e (y 7 4 + 1))
abbrev gA (g : G) (b : Bool) : G := gs g 22 0 (!b).toNat
theorem gPay_nf (y : G) (c : Nat) {f : Nat} (hf : f ≠ 4) (j : Nat) : gPay y c f j = y f j := giveN_nf _ _ _ _ hf _ _
theorem moveN_nf (g : G) (a b k n : Nat) {f : Nat} (hf : f ≠ 4) (j : Nat) : moveN g a b k n f j = g f j := by unfold moveN; rw [gs_nf _ hf, gs_nf _ hf]
theorem eoN_nf (g : G) {f : Nat} (h1 : f ≠ 16) (h2 : f ≠ 17) (h3 : f ≠ 26) : ∀ i j, eoN g i f j = g f j := by
  intro i
  induction i with
  | zero => intro j; show gs (gs g 26 0 0) 26 1 0 f j = _; rw [gs_nf _ h3, gs_nf _ h3]
  | succ i ih => intro j; show gs (gs (eoN g i) 16 i 0) 17 i 0 f j = _; rw [gs_nf _ h2, gs_nf _ h1]; exact ih j
theorem hasG_le {g : G} {w x : Nat} (h : hasG g w x = true) : ∀ k, k < 5 → digN x k ≤ g 4 (5 * w + k) := by
  have key : ∀ n, allN n (fun k => !decide (g 4 (5 * w + k) < digN x k)) = true → ∀ k, k < n → digN x k ≤ g 4 (5 * w + k) := by
    intro n
    induction n with
    | zero => intro _ k hk; omega
    | succ n ih =>
      intro q k hk
      have q : (allN n (fun k => !decide (g 4 (5 * w + k) < digN x k)) && !decide (g 4 (5 * w + n) < digN x n)) = true := q
      rw [Bool.and_eq_true] at q
      by_cases hkn : k = n
      · subst hkn
        have := q.2
        simp at this; exact this
      · exact ih q.1 k (by omega)
  exact key 5 h
theorem giveN_le {g : G} {a b x B : Nat} (hb : ∀ j, j < 20 → g 4 j ≤ B) : ∀ i, i ≤ 5 → ∀ j, j < 20 → giveN g a b x i 4 j ≤ B + 10 := by
  intro i
  induction i with
  | zero => intro _ j hj; exact Nat.le_trans (hb j hj) (by omega)
  | succ i ih =>
    intro hi j hj
    show moveN _ a b i _ 4 j ≤ _
    unfold moveN
    have hd := digN_lt x i
    have h1 := ih (by omega) j hj
    by_cases q : j = 5 * b + i
    · subst q
      rw [gs_eq]
      have h2 := giveN_ge g a b x i (5 * b + i) (by omega) (by omega)
      have h3 := hb _ hj
      by_cases r : 5 * b + i = 5 * a + i
      · rw [r, gs_eq]; rw [r] at h2 h3; rw [h2]; omega
      · rw [gs_ni _ r, h2]; omega
    · rw [gs_ni _ q]
      by_cases r : j = 5 * a + i
      · subst r; rw [gs_eq]; omega
      · rw [gs_ni _ r]; exact h1
def dsG (y : G) : G := gs y 7 1 (if y 5 0 + y 5 1 + y 5 2 = 0 then 4 else 3)
def mLayG (g : G) (a1 : Int32) (a2 : Int32) (a3 : Int32) : G := if (inB a1 7) = true then (if (inR a2 0 5 && (inR a3 2 12 && decide (decide (tn a3 = 7) = decide (tn a2 = 5)))) = true then (if (!decide (0 < g 7 2)) = true then (gs (gs (gs g 22 0 0) 0 (tn a1) (tn a2)) 1 (tn a1) (tn a3)) else gs (gs g 22 0 0) 22 0 3) else gs (gs g 22 0 0) 22 0 2) else gs g 22 0 1
set_option maxHeartbeats 1000000 in
set_option maxRecDepth 100000 in
theorem cM_layHex (l : Launch) {D : va_G} {dA : Nat → ClassId} {A : Nat → Prop} {ad : Nat → Nat} {g : G} (hg : Sm g) (a1 : Int32) (a2 : Int32) (a3 : Int32) (H0 : Heap) (hM : MS D dA A ad g H0) {Post : Option Value → Heap → Prop} (hPost : ∀ H : Heap, MS D dA A ad (mLayG g a1 a2 a3) H → Sm (mLayG g a1 a2 a3) → Post (none) H) : Ct l yX3_layHex (ws_ yX3_layHex cX3_layHex 4 none) (rmF 2 0 0 36) A (KT D dA) [.ref (ad 0), .int a1, .int a2, .int a3] H0 Post := by
  refine zc_of RX3 rfl (by decide) (Nat.le_of_ble_eq_true rfl) ?_
  intro pr en s m args below meth cd S hr hlk hnm hh hK ls hl
  have hS : va_S A s.heap H0 [] := zc_start hh
  have hg0 := hg
  have hx := S.1
  have hb := S.2.1
  have hown := S.2.2.2.1
  have hts := S.2.2.2.2
  have hl : lv_has ls 4 [(0, .ref (ad 0)), (1, .int a1), (2, .int a2), (3, .int a3)] := hl
  refine lv_aload_n hx hb dX3_layHex_0 rfl (lv_at hl 0 rfl) ?_
  refine lv_iload_n hx hb dX3_layHex_1 rfl (lv_at hl 1 rfl) ?_
  refine kM_isHex S hK hM hg hS a1  (Nat.le_of_ble_eq_true rfl) (Nat.le_of_ble_eq_true rfl) hl.1 (Nat.le_of_ble_eq_true rfl) dX3_layHex_2 (Nat.zero_le _) (Nat.zero_le _) (fun locs hS => ?_)
  refine kM_asks S hK hM hg hS (inB a1 7)  (Nat.le_of_ble_eq_true rfl) (Nat.le_of_ble_eq_true rfl) hl.1 (Nat.le_of_ble_eq_true rfl) dX3_layHex_5 (Nat.zero_le _) (Nat.zero_le _) (fun H locs hM hg hS => ?_)
  refine zr_if_neB (b := (inB a1 7)) (tgt := 12) hx hb dX3_layHex_8 (by decide) (fun c_1 => ?_) (fun c_1 => ?_)
  · rw [show (!(inB a1 7)).toNat = 0 from by rw [c_1]; rfl] at hM hg
    obtain ⟨hj1, ea1⟩ := inB_tn (by decide) c_1
    rw [ea1] at hl
    refine lv_iload_n hx hb dX3_layHex_12 rfl (lv_at hl 2 rfl) ?_
    refine lv_iconst (v := nI 0) hx hb dX3_layHex_13 zi_0 ?_
    refine lv_iconst (v := nI 5) hx hb dX3_layHex_14 zi_5 ?_
    refine kM_in S hK hM hg hS a2 0 5  (Nat.le_of_ble_eq_true rfl) (Nat.le_of_ble_eq_true rfl) hl.1 (Nat.le_of_ble_eq_true rfl) dX3_layHex_15 (Nat.zero_le _) (Nat.zero_le _) (fun locs hS => ?_)
    refine zr_if_eqB (b := inR a2 0 5) (tgt := 55) hx hb dX3_layHex_18 (by decide) (fun c_2 => ?_) (fun c_2 => ?_)
    · refine lv_aload_n hx hb dX3_layHex_55 rfl (lv_at hl 0 rfl) ?_
      refine lv_iconst (v := nI 2) hx hb dX3_layHex_56 zi_2 ?_
      refine pM_thrown S hK hM hS 2 dX3_layHex_57 (fun H locs hM hS => ?_)
      have hg : Sm (gs (gs g 22 0 0) 22 0 2) := Sm_gs hg (by first | omega | exact Nat.lt_of_le_of_lt (Bool.toNat_le _) (by decide) | ((repeat' split) <;> omega))
      rw [show (gs (gs g 22 0 0) 22 0 2 : G) = mLayG g a1 a2 a3 from by first | with_reducible rfl | (simp [c_1, c_2, gA, mLayG]; done) | (simp only [c_1, c_2] <;> simp [gA, mLayG]; done) | (simp only [gA, mLayG, c_1, c_2] <;> simp [gA, mLayG]; done) | (simp [c_1, c_2, gA, mLayG, Bool.and_assoc]; done) | (simp [c_1, c_2, gA, mLayG, Bool.and_assoc, Bool.or_assoc]; done) | rfl | (simp [c_1, c_2, gA, mLayG]; omega)] at hM hg
      exact zc_vret (hPost H hM hg) hS hx hb hr hlk (Nat.zero_le _) (Nat.zero_le _) dX3_layHex_60
    · obtain ⟨lj2, hj2, ea2⟩ := inR_tn (by decide) (by decide) c_2
      rw [ea2] at hl
      refine lv_iload_n hx hb dX3_layHex_21 rfl (lv_at hl 3 rfl) ?_
      refine lv_iconst (v := nI 2) hx hb dX3_layHex_22 zi_2 ?_
      refine lv_bipush (v := nI 12) hx hb dX3_layHex_23 zb_12 ?_
      refine kM_in S hK hM hg hS a3 2 12  (Nat.le_of_ble_eq_true rfl) (Nat.le_of_ble_eq_true rfl) hl.1 (Nat.le_of_ble_eq_true rfl) dX3_layHex_25 (Nat.zero_le _) (Nat.zero_le _) (fun locs hS => ?_)
      refine zr_if_eqB (b := inR a3 2 12) (tgt := 55) hx hb dX3_layHex_28 (by decide) (fun c_3 => ?_) (fun c_3 => ?_)
      · refine lv_aload_n hx hb dX3_layHex_55 rfl (lv_at hl 0 rfl) ?_
        refine lv_iconst (v := nI 2) hx hb dX3_layHex_56 zi_2 ?_
        refine pM_thrown S hK hM hS 2 dX3_layHex_57 (fun H locs hM hS => ?_)
        have hg : Sm (gs (gs g 22 0 0) 22 0 2) := Sm_gs hg (by first | omega | exact Nat.lt_of_le_of_lt (Bool.toNat_le _) (by decide) | ((repeat' split) <;> omega))
        rw [show (gs (gs g 22 0 0) 22 0 2 : G) = mLayG g a1 a2 a3 from by first | with_reducible rfl | (simp [c_1, c_2, c_3, gA, mLayG]; done) | (simp only [c_1, c_2, c_3] <;> simp [gA, mLayG]; done) | (simp only [gA, mLayG, c_1, c_2, c_3] <;> simp [gA, mLayG]; done) | (simp [c_1, c_2, c_3, gA, mLayG, Bool.and_assoc]; done) | (simp [c_1, c_2, c_3, gA, mLayG, Bool.and_assoc, Bool.or_assoc]; done) | rfl | (simp [c_1, c_2, c_3, gA, mLayG]; omega)] at hM hg
        exact zc_vret (hPost H hM hg) hS hx hb hr hlk (Nat.zero_le _) (Nat.zero_le _) dX3_layHex_60
      · obtain ⟨lj3, hj3, ea3⟩ := inR_tn (by decide) (by decide) c_3
        rw [ea3] at hl
        refine lv_iload_n hx hb dX3_layHex_31 rfl (lv_at hl 3 rfl) ?_
        refine lv_bipush (v := nI 7) hx hb dX3_layHex_32 zb_7 ?_
        have J_42 : ∀ yS0_42 : Int32, yS0_42 = nI (decide ((tn a3) = 7)).toNat → ∀ (H : Heap) (locs : List Loc), MS D dA A ad (gs g 22 0 0) H → va_S A s.heap H locs → ∀ ls : Array Slot, lv_has ls 4 [(0, .ref (ad 0)), (1, .int (nI (tn a1))), (2, .int (nI (tn a2))), (3, .int (nI (tn a3)))] → W pr l en (rmF 2 0 0 36) s m args below meth cd H locs 0 0 (MQ below (zc_Q Post A) args s 0 0 A) (F0 m 42 ls [.int yS0_42]) := by
          intro yS0_42 eyS0_42 H locs hM hS ls hl
          subst eyS0_42
          refine lv_iload_n hx hb dX3_layHex_42 rfl (lv_at hl 2 rfl) ?_
          refine lv_iconst (v := nI 5) hx hb dX3_layHex_43 zi_5 ?_
          have J_52 : ∀ yS0_52 : Int32, yS0_52 = nI (decide ((tn a2) = 5)).toNat → ∀ (H : Heap) (locs : List Loc), MS D dA A ad (gs g 22 0 0) H → va_S A s.heap H locs → ∀ ls : Array Slot, lv_has ls 4 [(0, .ref (ad 0)), (1, .int (nI (tn a1))), (2, .int (nI (tn a2))), (3, .int (nI (tn a3)))] → W pr l en (rmF 2 0 0 36) s m args below meth cd H locs 0 0 (MQ below (zc_Q Post A) args s 0 0 A) (F0 m 52 ls [.int yS0_52, .int (nI (decide ((tn a3) = 7)).toNat)]) := by
            intro yS0_52 eyS0_52 H locs hM hS ls hl
            subst eyS0_52
            refine zr_icmp_eqB (a := decide ((tn a3) = 7)) (b := decide ((tn a2) = 5)) (tgt := 61) hx hb dX3_layHex_52 (by decide) (fun c_6 => ?_) (fun c_6 => ?_)
            · refine lv_aload_n hx hb dX3_layHex_61 rfl (lv_at hl 0 rfl) ?_
              refine gM_placed S hK hM (g 7 2) (by first | rfl | simp [gs]) dX3_layHex_62 ?_
              have hb_7 : g 7 2 < 1048576 := by first | exact hg 7 2 | exact hg0 _ _ | (have := hg 7 2; omega) | omega
              refine zr_if_leN (a := (g 7 2)) (tgt := 74) hx hb (by omega) dX3_layHex_65 (by decide) (fun c_8 => ?_) (fun c_8 => ?_)
              · refine lv_aload_n hx hb dX3_layHex_74 rfl (lv_at hl 0 rfl) ?_
                refine gM_good S hK hM dX3_layHex_75 ?_
                refine lv_iload_n hx hb dX3_layHex_78 rfl (lv_at hl 1 rfl) ?_
                refine lv_iload_n hx hb dX3_layHex_79 rfl (lv_at hl 2 rfl) ?_
                refine sM_good S hK hM hS (tn a1) (by omega) (tn a2) dX3_layHex_80 (fun H locs hM hS => ?_)
                have hg : Sm (gs (gs g 22 0 0) 0 (tn a1) (tn a2)) := Sm_gs hg (by first | omega | exact Nat.lt_of_le_of_lt (Bool.toNat_le _) (by decide) | ((repeat' split) <;> omega))
                refine lv_aload_n hx hb dX3_layHex_81 rfl (lv_at hl 0 rfl) ?_
                refine gM_number S hK hM dX3_layHex_82 ?_
                refine lv_iload_n hx hb dX3_layHex_85 rfl (lv_at hl 1 rfl) ?_
                refine lv_iload_n hx hb dX3_layHex_86 rfl (lv_at hl 3 rfl) ?_
                refine sM_number S hK hM hS (tn a1) (by omega) (tn a3) dX3_layHex_87 (fun H locs hM hS => ?_)
                have hg : Sm (gs (gs (gs g 22 0 0) 0 (tn a1) (tn a2)) 1 (tn a1) (tn a3)) := Sm_gs hg (by first | omega | exact Nat.lt_of_le_of_lt (Bool.toNat_le _) (by decide) | ((repeat' split) <;> omega))
                rw [show (gs (gs (gs g 22 0 0) 0 (tn a1) (tn a2)) 1 (tn a1) (tn a3) : G) = mLayG g a1 a2 a3 from by first | with_reducible rfl | (simp [c_1, c_2, c_3, c_6, c_8, gA, mLayG]; done) | (simp only [c_1, c_2, c_3, c_6, c_8] <;> simp [gA, mLayG]; done) | (simp only [gA, mLayG, c_1, c_2, c_3, c_6, c_8] <;> simp [gA, mLayG]; done) | (simp [c_1, c_2, c_3, c_6, c_8, gA, mLayG, Bool.and_assoc]; done) | (simp [c_1, c_2, c_3, c_6, c_8, gA, mLayG, Bool.and_assoc, Bool.or_assoc]; done) | rfl | (simp [c_1, c_2, c_3, c_6, c_8, gA, mLayG]; omega)] at hM hg
                exact zc_vret (hPost H hM hg) hS hx hb hr hlk (Nat.zero_le _) (Nat.zero_le _) dX3_layHex_88
              · refine lv_aload_n hx hb dX3_layHex_68 rfl (lv_at hl 0 rfl) ?_
                refine lv_iconst (v := nI 3) hx hb dX3_layHex_69 zi_3 ?_
                refine pM_thrown S hK hM hS 3 dX3_layHex_70 (fun H locs hM hS => ?_)
                have hg : Sm (gs (gs g 22 0 0) 22 0 3) := Sm_gs hg (by first | omega | exact Nat.lt_of_le_of_lt (Bool.toNat_le _) (by decide) | ((repeat' split) <;> omega))
                rw [show (gs (gs g 22 0 0) 22 0 3 : G) = mLayG g a1 a2 a3 from by first | with_reducible rfl | (simp [c_1, c_2, c_3, c_6, c_8, gA, mLayG]; done) | (simp only [c_1, c_2, c_3, c_6, c_8] <;> simp [gA, mLayG]; done) | (simp only [gA, mLayG, c_1, c_2, c_3, c_6, c_8] <;> simp [gA, mLayG]; done) | (simp [c_1, c_2, c_3, c_6, c_8, gA, mLayG, Bool.and_assoc]; done) | (simp [c_1, c_2, c_3, c_6, c_8, gA, mLayG, Bool.and_assoc, Bool.or_assoc]; done) | rfl | (simp [c_1, c_2, c_3, c_6, c_8, gA, mLayG]; omega)] at hM hg
                exact zc_vret (hPost H hM hg) hS hx hb hr hlk (Nat.zero_le _) (Nat.zero_le _) dX3_layHex_73
            · refine lv_aload_n hx hb dX3_layHex_55 rfl (lv_at hl 0 rfl) ?_
              refine lv_iconst (v := nI 2) hx hb dX3_layHex_56 zi_2 ?_
              refine pM_thrown S hK hM hS 2 dX3_layHex_57 (fun H locs hM hS => ?_)
              have hg : Sm (gs (gs g 22 0 0) 22 0 2) := Sm_gs hg (by first | omega | exact Nat.lt_of_le_of_lt (Bool.toNat_le _) (by decide) | ((repeat' split) <;> omega))
              rw [show (gs (gs g 22 0 0) 22 0 2 : G) = mLayG g a1 a2 a3 from by first | with_reducible rfl | (simp [c_1, c_2, c_3, c_6, gA, mLayG]; done) | (simp only [c_1, c_2, c_3, c_6] <;> simp [gA, mLayG]; done) | (simp only [gA, mLayG, c_1, c_2, c_3, c_6] <;> simp [gA, mLayG]; done) | (simp [c_1, c_2, c_3, c_6, gA, mLayG, Bool.and_assoc]; done) | (simp [c_1, c_2, c_3, c_6, gA, mLayG, Bool.and_assoc, Bool.or_assoc]; done) | rfl | (simp [c_1, c_2, c_3, c_6, gA, mLayG]; omega)] at hM hg
              exact zc_vret (hPost H hM hg) hS hx hb hr hlk (Nat.zero_le _) (Nat.zero_le _) dX3_layHex_60
          refine zr_icmp_neN (a := (tn a2)) (b := 5) (tgt := 51) hx hb (by omega) (by omega) dX3_layHex_44 (by decide) (fun c_9 => ?_) (fun c_9 => ?_)
          · refine lv_iconst (v := nI 0) hx hb dX3_layHex_51 zi_0 ?_
            exact J_52 _ (congrArg (fun z : Bool => nI z.toNat) (show (false : Bool) = (decide ((tn a2) = 5)) from by first | with_reducible rfl | (simp [c_1, c_2, c_3, c_9, gA, mLayG]; done) | (simp only [c_1, c_2, c_3, c_9] <;> simp [gA, mLayG]; done) | (simp only [gA, mLayG, c_1, c_2, c_3, c_9] <;> simp [gA, mLayG]; done) | (simp [c_1, c_2, c_3, c_9, gA, mLayG, Bool.and_assoc]; done) | (simp [c_1, c_2, c_3, c_9, gA, mLayG, Bool.and_assoc, Bool.or_assoc]; done) | rfl | (simp [c_1, c_2, c_3, c_9, gA, mLayG]; omega))) H locs hM hS ls (lv_sub hl [0, 1, 2, 3] rfl)
          · refine lv_iconst (v := nI 1) hx hb dX3_layHex_47 zi_1 ?_
            refine lv_goto (tgt := 52) hx hb dX3_layHex_48 (by decide) ?_
            exact J_52 _ (congrArg (fun z : Bool => nI z.toNat) (show (true : Bool) = (decide ((tn a2) = 5)) from by first | with_reducible rfl | (simp [c_1, c_2, c_3, c_9, gA, mLayG]; done) | (simp only [c_1, c_2, c_3, c_9] <;> simp [gA, mLayG]; done) | (simp only [gA, mLayG, c_1, c_2, c_3, c_9] <;> simp [gA, mLayG]; done) | (simp [c_1, c_2, c_3, c_9, gA, mLayG, Bool.and_assoc]; done) | (simp [c_1, c_2, c_3, c_9, gA, mLayG, Bool.and_assoc, Bool.or_assoc]; done) | rfl | (simp [c_1, c_2, c_3, c_9, gA, mLayG]; omega))) H locs hM hS ls (lv_sub hl [0, 1, 2, 3] rfl)
        refine zr_icmp_neN (a := (tn a3)) (b := 7) (tgt := 41) hx hb (by omega) (by omega) dX3_layHex_34 (by decide) (fun c_10 => ?_) (fun c_10 => ?_)
        · refine lv_iconst (v := nI 0) hx hb dX3_layHex_41 zi_0 ?_
          exact J_42 _ (congrArg (fun z : Bool => nI z.toNat) (show (false : Bool) = (decide ((tn a3) = 7)) from by first | with_reducible rfl | (simp [c_1, c_2, c_3, c_10, gA, mLayG]; done) | (simp only [c_1, c_2, c_3, c_10] <;> simp [gA, mLayG]; done) | (simp only [gA, mLayG, c_1, c_2, c_3, c_10] <;> simp [gA, mLayG]; done) | (simp [c_1, c_2, c_3, c_10, gA, mLayG, Bool.and_assoc]; done) | (simp [c_1, c_2, c_3, c_10, gA, mLayG, Bool.and_assoc, Bool.or_assoc]; done) | rfl | (simp [c_1, c_2, c_3, c_10, gA, mLayG]; omega))) H locs hM hS ls (lv_sub hl [0, 1, 2, 3] rfl)
        · refine lv_iconst (v := nI 1) hx hb dX3_layHex_37 zi_1 ?_
          refine lv_goto (tgt := 42) hx hb dX3_layHex_38 (by decide) ?_
          exact J_42 _ (congrArg (fun z : Bool => nI z.toNat) (show (true : Bool) = (decide ((tn a3) = 7)) from by first | with_reducible rfl | (simp [c_1, c_2, c_3, c_10, gA, mLayG]; done) | (simp only [c_1, c_2, c_3, c_10] <;> simp [gA, mLayG]; done) | (simp only [gA, mLayG, c_1, c_2, c_3, c_10] <;> simp [gA, mLayG]; done) | (simp [c_1, c_2, c_3, c_10, gA, mLayG, Bool.and_assoc]; done) | (simp [c_1, c_2, c_3, c_10, gA, mLayG, Bool.and_assoc, Bool.or_assoc]; done) | rfl | (simp [c_1, c_2, c_3, c_10, gA, mLayG]; omega))) H locs hM hS ls (lv_sub hl [0, 1, 2, 3] rfl)
  · rw [show (!(inB a1 7)).toNat = 1 from by rw [c_1]; rfl] at hM hg
    rw [show (gs g 22 0 1 : G) = mLayG g a1 a2 a3 from by first | with_reducible rfl | (simp [c_1, gA, mLayG]; done) | (simp only [c_1] <;> simp [gA, mLayG]; done) | (simp only [gA, mLayG, c_1] <;> simp [gA, mLayG]; done) | (simp [c_1, gA, mLayG, Bool.and_assoc]; done) | (simp [c_1, gA, mLayG, Bool.and_assoc, Bool.or_assoc]; done) | rfl | (simp [c_1, gA, mLayG]; omega)] at hM hg
    exact zc_vret (hPost H hM hg) hS hx hb hr hlk (Nat.zero_le _) (Nat.zero_le _) dX3_layHex_11
def mDealG (g : G) (a1 : Int32) (a2 : Int32) : G := if (inB a1 3) = true then (if (goodsB a2) = true then (if (decide (g 7 5 = 0) && (hasG (gs g 22 0 0) 3 (tn a2) && !decide (g 7 1 = 5))) = true then (giveN (gs g 22 0 0) 3 (tn a1) (tn a2) 5) else gs (gs g 22 0 0) 22 0 3) else gs (gs g 22 0 0) 22 0 2) else gs g 22 0 1
def mDealR (g : G) (a1 : Int32) (a2 : Int32) : Nat := if (inB a1 3) = true then (if (goodsB a2) = true then (if (decide (g 7 5 = 0) && (hasG (gs g 22 0 0) 3 (tn a2) && !decide (g 7 1 = 5))) = true then (handN (giveN (gs g 22 0 0) 3 (tn a1) (tn a2) 5) (tn a1) 5) else 0) else 0) else 0
set_option maxHeartbeats 1000000 in
set_option maxRecDepth 100000 in
theorem cM_deal (l : Launch) {D : va_G} {dA : Nat → ClassId} {A : Nat → Prop} {ad : Nat → Nat} {g : G} (hg : Sm g) (a1 : Int32) (a2 : Int32) (hb4 : ∀ j, j < 20 → g 4 j ≤ 100) (H0 : Heap) (hM : MS D dA A ad g H0) {Post : Option Value → Heap → Prop} (hPost : ∀ H : Heap, MS D dA A ad (mDealG g a1 a2) H → Sm (mDealG g a1 a2) → Post (some (.int (nI (mDealR g a1 a2)))) H) : Ct l yX3_deal (ws_ yX3_deal cX3_deal 3 (some .int)) (rmF 3 0 0 62) A (KT D dA) [.ref (ad 0), .int a1, .int a2] H0 Post := by
  refine zc_of RX3 rfl (by decide) (Nat.le_of_ble_eq_true rfl) ?_
  intro pr en s m args below meth cd S hr hlk hnm hh hK ls hl
  have hS : va_S A s.heap H0 [] := zc_start hh
  have hg0 := hg
  have hx := S.1
  have hb := S.2.1
  have hown := S.2.2.2.1
  have hts := S.2.2.2.2
  have hl : lv_has ls 3 [(0, .ref (ad 0)), (1, .int a1), (2, .int a2)] := hl
  refine lv_aload_n hx hb dX3_deal_0 rfl (lv_at hl 0 rfl) ?_
  refine lv_iload_n hx hb dX3_deal_1 rfl (lv_at hl 1 rfl) ?_
  refine kM_isPlayer S hK hM hg hS a1  (Nat.le_of_ble_eq_true rfl) (Nat.le_of_ble_eq_true rfl) hl.1 (Nat.le_of_ble_eq_true rfl) dX3_deal_2 (Nat.zero_le _) (Nat.zero_le _) (fun locs hS => ?_)
  refine kM_asks S hK hM hg hS (inB a1 3)  (Nat.le_of_ble_eq_true rfl) (Nat.le_of_ble_eq_true rfl) hl.1 (Nat.le_of_ble_eq_true rfl) dX3_deal_5 (Nat.zero_le _) (Nat.zero_le _) (fun H locs hM hg hS => ?_)
  refine zr_if_neB (b := (inB a1 3)) (tgt := 13) hx hb dX3_deal_8 (by decide) (fun c_1 => ?_) (fun c_1 => ?_)
  · rw [show (!(inB a1 3)).toNat = 0 from by rw [c_1]; rfl] at hM hg
    obtain ⟨hj1, ea1⟩ := inB_tn (by decide) c_1
    rw [ea1] at hl
    refine lv_iload_n hx hb dX3_deal_13 rfl (lv_at hl 2 rfl) ?_
    refine kM_areGoods S hK hM hg hS a2  (Nat.le_of_ble_eq_true rfl) (Nat.le_of_ble_eq_true rfl) hl.1 (Nat.le_of_ble_eq_true rfl) dX3_deal_14 (Nat.zero_le _) (Nat.zero_le _) (fun locs hS => ?_)
    refine zr_if_neB (b := goodsB a2) (tgt := 26) hx hb dX3_deal_17 (by decide) (fun c_2 => ?_) (fun c_2 => ?_)
    · obtain ⟨hj2, ea2⟩ := goodsB_tn c_2
      rw [ea2] at hl
      refine lv_aload_n hx hb dX3_deal_26 rfl (lv_at hl 0 rfl) ?_
      refine gM_isRolled S hK hM (g 7 5) (by first | rfl | simp [gs]) dX3_deal_27 ?_
      have hb_3 : g 7 5 < 1048576 := by first | exact hg 7 5 | exact hg0 _ _ | (have := hg 7 5; omega) | omega
      refine zr_if_neN (a := (g 7 5)) (tgt := 50) hx hb (by omega) dX3_deal_30 (by decide) (fun c_4 => ?_) (fun c_4 => ?_)
      · refine lv_aload_n hx hb dX3_deal_50 rfl (lv_at hl 0 rfl) ?_
        refine lv_iconst (v := nI 3) hx hb dX3_deal_51 zi_3 ?_
        refine kM_fails S hK hM hg hS 3 (by first | omega | assumption | grind) (Nat.le_of_ble_eq_true rfl) (Nat.le_of_ble_eq_true rfl) hl.1 (Nat.le_of_ble_eq_true rfl) dX3_deal_52 (Nat.zero_le _) (Nat.zero_le _) (fun H locs hM hg hS => ?_)
        rw [show (gs (gs g 22 0 0) 22 0 3 : G) = mDealG g a1 a2 from by first | with_reducible rfl | (simp [c_1, c_2, c_4, gA, mDealG, mDealR]; done) | (simp only [c_1, c_2, c_4] <;> simp [gA, mDealG, mDealR]; done) | (simp only [gA, mDealG, mDealR, c_1, c_2, c_4] <;> simp [gA, mDealG, mDealR]; done) | (simp [c_1, c_2, c_4, gA, mDealG, mDealR, Bool.and_assoc]; done) | (simp [c_1, c_2, c_4, gA, mDealG, mDealR, Bool.and_assoc, Bool.or_assoc]; done) | rfl | (simp [c_1, c_2, c_4, gA, mDealG, mDealR]; omega)] at hM hg
        exact zc_nret (nI (mDealR g a1 a2)) (congrArg nI (show (0 : Nat) = (mDealR g a1 a2) from by first | with_reducible rfl | (simp [c_1, c_2, c_4, gA, mDealG, mDealR]; done) | (simp only [c_1, c_2, c_4] <;> simp [gA, mDealG, mDealR]; done) | (simp only [gA, mDealG, mDealR, c_1, c_2, c_4] <;> simp [gA, mDealG, mDealR]; done) | (simp [c_1, c_2, c_4, gA, mDealG, mDealR, Bool.and_assoc]; done) | (simp [c_1, c_2, c_4, gA, mDealG, mDealR, Bool.and_assoc, Bool.or_assoc]; done) | rfl | (simp [c_1, c_2, c_4, gA, mDealG, mDealR]; omega))) (hPost H hM hg) hS hx hb hr hlk (Nat.zero_le _) (Nat.zero_le _) dX3_deal_55
      · refine lv_aload_n hx hb dX3_deal_33 rfl (lv_at hl 0 rfl) ?_
        refine lv_iconst (v := nI 3) hx hb dX3_deal_34 zi_3 ?_
        refine lv_iload_n hx hb dX3_deal_35 rfl (lv_at hl 2 rfl) ?_
        refine kM_hasAll S hK hM hg hS 3 (tn a2) (by first | omega | assumption | grind) (by first | omega | assumption | grind) (Nat.le_of_ble_eq_true rfl) (Nat.le_of_ble_eq_true rfl) hl.1 (Nat.le_of_ble_eq_true rfl) dX3_deal_36 (Nat.zero_le _) (Nat.zero_le _) (fun locs hS => ?_)
        refine zr_if_eqB (b := hasG (gs g 22 0 0) 3 (tn a2)) (tgt := 50) hx hb dX3_deal_39 (by decide) (fun c_5 => ?_) (fun c_5 => ?_)
        · refine lv_aload_n hx hb dX3_deal_50 rfl (lv_at hl 0 rfl) ?_
          refine lv_iconst (v := nI 3) hx hb dX3_deal_51 zi_3 ?_
          refine kM_fails S hK hM hg hS 3 (by first | omega | assumption | grind) (Nat.le_of_ble_eq_true rfl) (Nat.le_of_ble_eq_true rfl) hl.1 (Nat.le_of_ble_eq_true rfl) dX3_deal_52 (Nat.zero_le _) (Nat.zero_le _) (fun H locs hM hg hS => ?_)
          rw [show (gs (gs g 22 0 0) 22 0 3 : G) = mDealG g a1 a2 from by first | with_reducible rfl | (simp [c_1, c_2, c_4, c_5, gA, mDealG, mDealR]; done) | (simp only [c_1, c_2, c_4, c_5] <;> simp [gA, mDealG, mDealR]; done) | (simp only [gA, mDealG, mDealR, c_1, c_2, c_4, c_5] <;> simp [gA, mDealG, mDealR]; done) | (simp [c_1, c_2, c_4, c_5, gA, mDealG, mDealR, Bool.and_assoc]; done) | (simp [c_1, c_2, c_4, c_5, gA, mDealG, mDealR, Bool.and_assoc, Bool.or_assoc]; done) | rfl | (simp [c_1, c_2, c_4, c_5, gA, mDealG, mDealR]; omega)] at hM hg
          exact zc_nret (nI (mDealR g a1 a2)) (congrArg nI (show (0 : Nat) = (mDealR g a1 a2) from by first | with_reducible rfl | (simp [c_1, c_2, c_4, c_5, gA, mDealG, mDealR]; done) | (simp only [c_1, c_2, c_4, c_5] <;> simp [gA, mDealG, mDealR]; done) | (simp only [gA, mDealG, mDealR, c_1, c_2, c_4, c_5] <;> simp [gA, mDealG, mDealR]; done) | (simp [c_1, c_2, c_4, c_5, gA, mDealG, mDealR, Bool.and_assoc]; done) | (simp [c_1, c_2, c_4, c_5, gA, mDealG, mDealR, Bool.and_assoc, Bool.or_assoc]; done) | rfl | (simp [c_1, c_2, c_4, c_5, gA, mDealG, mDealR]; omega))) (hPost H hM hg) hS hx hb hr hlk (Nat.zero_le _) (Nat.zero_le _) dX3_deal_55
        · refine lv_aload_n hx hb dX3_deal_42 rfl (lv_at hl 0 rfl) ?_
          refine gM_phase S hK hM (g 7 1) (by first | rfl | simp [gs]) dX3_deal_43 ?_
          have hb_6 : g 7 1 < 1048576 := by first | exact hg 7 1 | exact hg0 _ _ | (have := hg 7 1; omega) | omega
          refine lv_iconst (v := nI 5) hx hb dX3_deal_46 zi_5 ?_
          refine zr_icmp_neN (a := (g 7 1)) (b := 5) (tgt := 56) hx hb (by omega) (by omega) dX3_deal_47 (by decide) (fun c_7 => ?_) (fun c_7 => ?_)
          · refine lv_aload_n hx hb dX3_deal_56 rfl (lv_at hl 0 rfl) ?_
            refine lv_iconst (v := nI 3) hx hb dX3_deal_57 zi_3 ?_
            refine lv_iload_n hx hb dX3_deal_58 rfl (lv_at hl 1 rfl) ?_
            refine lv_iload_n hx hb dX3_deal_59 rfl (lv_at hl 2 rfl) ?_
            refine kM_gives S hK hM hg hS 3 (tn a1) (tn a2) (by first | omega | assumption | grind) (by first | omega | assumption | grind) (by first | omega | assumption | grind) (by exact hasG_le (by assumption)) (by exact fun j hj => Nat.le_trans (hb4 j hj) (by decide)) (Nat.le_of_ble_eq_true rfl) (Nat.le_of_ble_eq_true rfl) hl.1 (Nat.le_of_ble_eq_true rfl) dX3_deal_60 (Nat.zero_le _) (Nat.zero_le _) (fun H locs hM hg hS => ?_)
            refine lv_aload_n hx hb dX3_deal_63 rfl (lv_at hl 0 rfl) ?_
            refine lv_iload_n hx hb dX3_deal_64 rfl (lv_at hl 1 rfl) ?_
            refine kM_handOf S hK hM hg hS (tn a1) (by first | omega | assumption | grind) (Nat.le_of_ble_eq_true rfl) (Nat.le_of_ble_eq_true rfl) hl.1 (Nat.le_of_ble_eq_true rfl) dX3_deal_65 (Nat.zero_le _) (Nat.zero_le _) (fun locs hS => ?_)
            have f65_0 : handN (giveN (gs g 22 0 0) 3 (tn a1) (tn a2) 5) (tn a1) 5 < 5242880 := handN_lt hg _
            rw [show (giveN (gs g 22 0 0) 3 (tn a1) (tn a2) 5 : G) = mDealG g a1 a2 from by first | with_reducible rfl | (simp [c_1, c_2, c_4, c_5, c_7, gA, mDealG, mDealR]; done) | (simp only [c_1, c_2, c_4, c_5, c_7] <;> simp [gA, mDealG, mDealR]; done) | (simp only [gA, mDealG, mDealR, c_1, c_2, c_4, c_5, c_7] <;> simp [gA, mDealG, mDealR]; done) | (simp [c_1, c_2, c_4, c_5, c_7, gA, mDealG, mDealR, Bool.and_assoc]; done) | (simp [c_1, c_2, c_4, c_5, c_7, gA, mDealG, mDealR, Bool.and_assoc, Bool.or_assoc]; done) | rfl | (simp [c_1, c_2, c_4, c_5, c_7, gA, mDealG, mDealR]; omega)] at hM hg
            exact zc_nret (nI (mDealR g a1 a2)) (congrArg nI (show (handN (giveN (gs g 22 0 0) 3 (tn a1) (tn a2) 5) (tn a1) 5 : Nat) = (mDealR g a1 a2) from by first | with_reducible rfl | (simp [c_1, c_2, c_4, c_5, c_7, gA, mDealG, mDealR]; done) | (simp only [c_1, c_2, c_4, c_5, c_7] <;> simp [gA, mDealG, mDealR]; done) | (simp only [gA, mDealG, mDealR, c_1, c_2, c_4, c_5, c_7] <;> simp [gA, mDealG, mDealR]; done) | (simp [c_1, c_2, c_4, c_5, c_7, gA, mDealG, mDealR, Bool.and_assoc]; done) | (simp [c_1, c_2, c_4, c_5, c_7, gA, mDealG, mDealR, Bool.and_assoc, Bool.or_assoc]; done) | rfl | (simp [c_1, c_2, c_4, c_5, c_7, gA, mDealG, mDealR]; omega))) (hPost H hM hg) hS hx hb hr hlk (Nat.zero_le _) (Nat.zero_le _) dX3_deal_68
          · refine lv_aload_n hx hb dX3_deal_50 rfl (lv_at hl 0 rfl) ?_
            refine lv_iconst (v := nI 3) hx hb dX3_deal_51 zi_3 ?_
            refine kM_fails S hK hM hg hS 3 (by first | omega | assumption | grind) (Nat.le_of_ble_eq_true rfl) (Nat.le_of_ble_eq_true rfl) hl.1 (Nat.le_of_ble_eq_true rfl) dX3_deal_52 (Nat.zero_le _) (Nat.zero_le _) (fun H locs hM hg hS => ?_)
            rw [show (gs (gs g 22 0 0) 22 0 3 : G) = mDealG g a1 a2 from by first | with_reducible rfl | (simp [c_1, c_2, c_4, c_5, c_7, gA, mDealG, mDealR]; done) | (simp only [c_1, c_2, c_4, c_5, c_7] <;> simp [gA, mDealG, mDealR]; done) | (simp only [gA, mDealG, mDealR, c_1, c_2, c_4, c_5, c_7] <;> simp [gA, mDealG, mDealR]; done) | (simp [c_1, c_2, c_4, c_5, c_7, gA, mDealG, mDealR, Bool.and_assoc]; done) | (simp [c_1, c_2, c_4, c_5, c_7, gA, mDealG, mDealR, Bool.and_assoc, Bool.or_assoc]; done) | rfl | (simp [c_1, c_2, c_4, c_5, c_7, gA, mDealG, mDealR]; omega)] at hM hg
            exact zc_nret (nI (mDealR g a1 a2)) (congrArg nI (show (0 : Nat) = (mDealR g a1 a2) from by first | with_reducible rfl | (simp [c_1, c_2, c_4, c_5, c_7, gA, mDealG, mDealR]; done) | (simp only [c_1, c_2, c_4, c_5, c_7] <;> simp [gA, mDealG, mDealR]; done) | (simp only [gA, mDealG, mDealR, c_1, c_2, c_4, c_5, c_7] <;> simp [gA, mDealG, mDealR]; done) | (simp [c_1, c_2, c_4, c_5, c_7, gA, mDealG, mDealR, Bool.and_assoc]; done) | (simp [c_1, c_2, c_4, c_5, c_7, gA, mDealG, mDealR, Bool.and_assoc, Bool.or_assoc]; done) | rfl | (simp [c_1, c_2, c_4, c_5, c_7, gA, mDealG, mDealR]; omega))) (hPost H hM hg) hS hx hb hr hlk (Nat.zero_le _) (Nat.zero_le _) dX3_deal_55
    · refine lv_aload_n hx hb dX3_deal_20 rfl (lv_at hl 0 rfl) ?_
      refine lv_iconst (v := nI 2) hx hb dX3_deal_21 zi_2 ?_
      refine kM_fails S hK hM hg hS 2 (by first | omega | assumption | grind) (Nat.le_of_ble_eq_true rfl) (Nat.le_of_ble_eq_true rfl) hl.1 (Nat.le_of_ble_eq_true rfl) dX3_deal_22 (Nat.zero_le _) (Nat.zero_le _) (fun H locs hM hg hS => ?_)
      rw [show (gs (gs g 22 0 0) 22 0 2 : G) = mDealG g a1 a2 from by first | with_reducible rfl | (simp [c_1, c_2, gA, mDealG, mDealR]; done) | (simp only [c_1, c_2] <;> simp [gA, mDealG, mDealR]; done) | (simp only [gA, mDealG, mDealR, c_1, c_2] <;> simp [gA, mDealG, mDealR]; done) | (simp [c_1, c_2, gA, mDealG, mDealR, Bool.and_assoc]; done) | (simp [c_1, c_2, gA, mDealG, mDealR, Bool.and_assoc, Bool.or_assoc]; done) | rfl | (simp [c_1, c_2, gA, mDealG, mDealR]; omega)] at hM hg
      exact zc_nret (nI (mDealR g a1 a2)) (congrArg nI (show (0 : Nat) = (mDealR g a1 a2) from by first | with_reducible rfl | (simp [c_1, c_2, gA, mDealG, mDealR]; done) | (simp only [c_1, c_2] <;> simp [gA, mDealG, mDealR]; done) | (simp only [gA, mDealG, mDealR, c_1, c_2] <;> simp [gA, mDealG, mDealR]; done) | (simp [c_1, c_2, gA, mDealG, mDealR, Bool.and_assoc]; done) | (simp [c_1, c_2, gA, mDealG, mDealR, Bool.and_assoc, Bool.or_assoc]; done) | rfl | (simp [c_1, c_2, gA, mDealG, mDealR]; omega))) (hPost H hM hg) hS hx hb hr hlk (Nat.zero_le _) (Nat.zero_le _) dX3_deal_25
  · rw [show (!(inB a1 3)).toNat = 1 from by rw [c_1]; rfl] at hM hg
    refine lv_iconst (v := nI 0) hx hb dX3_deal_11 zi_0 ?_
    rw [show (gs g 22 0 1 : G) = mDealG g a1 a2 from by first | with_reducible rfl | (simp [c_1, gA, mDealG, mDealR]; done) | (simp only [c_1] <;> simp [gA, mDealG, mDealR]; done) | (simp only [gA, mDealG, mDealR, c_1] <;> simp [gA, mDealG, mDealR]; done) | (simp [c_1, gA, mDealG, mDealR, Bool.and_assoc]; done) | (simp [c_1, gA, mDealG, mDealR, Bool.and_assoc, Bool.or_assoc]; done) | rfl | (simp [c_1, gA, mDealG, mDealR]; omega)] at hM hg
    exact zc_nret (nI (mDealR g a1 a2)) (congrArg nI (show (0 : Nat) = (mDealR g a1 a2) from by first | with_reducible rfl | (simp [c_1, gA, mDealG, mDealR]; done) | (simp only [c_1] <;> simp [gA, mDealG, mDealR]; done) | (simp only [gA, mDealG, mDealR, c_1] <;> simp [gA, mDealG, mDealR]; done) | (simp [c_1, gA, mDealG, mDealR, Bool.and_assoc]; done) | (simp [c_1, gA, mDealG, mDealR, Bool.and_assoc, Bool.or_assoc]; done) | rfl | (simp [c_1, gA, mDealG, mDealR]; omega))) (hPost H hM hg) hS hx hb hr hlk (Nat.zero_le _) (Nat.zero_le _) dX3_deal_12
def mDiscG (g : G) (a1 : Int32) (a2 : Int32) : G := if (inB a1 3) = true then (if (goodsB a2) = true then (if (decide (g 7 1 = 3) && (!decide (g 5 (tn a1) = 0) && (decide (sizeN (tn a2) 5 = g 5 (tn a1)) && hasG (gs g 22 0 0) (tn a1) (tn a2)))) = true then (dsG (gs (giveN (gs g 22 0 0) (tn a1) 3 (tn a2) 5) 5 (tn a1) 0)) else gs (gs g 22 0 0) 22 0 3) else gs (gs g 22 0 0) 22 0 2) else gs g 22 0 1
def mDiscR (g : G) (a1 : Int32) (a2 : Int32) : Nat := if (inB a1 3) = true then (if (goodsB a2) = true then (if (decide (g 7 1 = 3) && (!decide (g 5 (tn a1) = 0) && (decide (sizeN (tn a2) 5 = g 5 (tn a1)) && hasG (gs g 22 0 0) (tn a1) (tn a2)))) = true then ((dsG (gs (giveN (gs g 22 0 0) (tn a1) 3 (tn a2) 5) 5 (tn a1) 0)) 7 1) else 0) else 0) else 0
set_option maxHeartbeats 1000000 in
set_option maxRecDepth 100000 in
theorem cM_discard (l : Launch) {D : va_G} {dA : Nat → ClassId} {A : Nat → Prop} {ad : Nat → Nat} {g : G} (hg : Sm g) (a1 : Int32) (a2 : Int32) (hb4 : ∀ j, j < 20 → g 4 j ≤ 100) (H0 : Heap) (hM : MS D dA A ad g H0) {Post : Option Value → Heap → Prop} (hPost : ∀ H : Heap, MS D dA A ad (mDiscG g a1 a2) H → Sm (mDiscG g a1 a2) → Post (some (.int (nI (mDiscR g a1 a2)))) H) : Ct l yX3_discard (ws_ yX3_discard cX3_discard 3 (some .int)) (rmF 3 0 0 62) A (KT D dA) [.ref (ad 0), .int a1, .int a2] H0 Post := by
  refine zc_of RX3 rfl (by decide) (Nat.le_of_ble_eq_true rfl) ?_
  intro pr en s m args below meth cd S hr hlk hnm hh hK ls hl
  have hS : va_S A s.heap H0 [] := zc_start hh
  have hg0 := hg
  have hx := S.1
  have hb := S.2.1
  have hown := S.2.2.2.1
  have hts := S.2.2.2.2
  have hl : lv_has ls 3 [(0, .ref (ad 0)), (1, .int a1), (2, .int a2)] := hl
  refine lv_aload_n hx hb dX3_discard_0 rfl (lv_at hl 0 rfl) ?_
  refine lv_iload_n hx hb dX3_discard_1 rfl (lv_at hl 1 rfl) ?_
  refine kM_isPlayer S hK hM hg hS a1  (Nat.le_of_ble_eq_true rfl) (Nat.le_of_ble_eq_true rfl) hl.1 (Nat.le_of_ble_eq_true rfl) dX3_discard_2 (Nat.zero_le _) (Nat.zero_le _) (fun locs hS => ?_)
  refine kM_asks S hK hM hg hS (inB a1 3)  (Nat.le_of_ble_eq_true rfl) (Nat.le_of_ble_eq_true rfl) hl.1 (Nat.le_of_ble_eq_true rfl) dX3_discard_5 (Nat.zero_le _) (Nat.zero_le _) (fun H locs hM hg hS => ?_)
  refine zr_if_neB (b := (inB a1 3)) (tgt := 13) hx hb dX3_discard_8 (by decide) (fun c_1 => ?_) (fun c_1 => ?_)
  · rw [show (!(inB a1 3)).toNat = 0 from by rw [c_1]; rfl] at hM hg
    obtain ⟨hj1, ea1⟩ := inB_tn (by decide) c_1
    rw [ea1] at hl
    refine lv_iload_n hx hb dX3_discard_13 rfl (lv_at hl 2 rfl) ?_
    refine kM_areGoods S hK hM hg hS a2  (Nat.le_of_ble_eq_true rfl) (Nat.le_of_ble_eq_true rfl) hl.1 (Nat.le_of_ble_eq_true rfl) dX3_discard_14 (Nat.zero_le _) (Nat.zero_le _) (fun locs hS => ?_)
    refine zr_if_neB (b := goodsB a2) (tgt := 26) hx hb dX3_discard_17 (by decide) (fun c_2 => ?_) (fun c_2 => ?_)
    · obtain ⟨hj2, ea2⟩ := goodsB_tn c_2
      rw [ea2] at hl
      refine lv_aload_n hx hb dX3_discard_26 rfl (lv_at hl 0 rfl) ?_
      refine gM_phase S hK hM (g 7 1) (by first | rfl | simp [gs]) dX3_discard_27 ?_
      have hb_3 : g 7 1 < 1048576 := by first | exact hg 7 1 | exact hg0 _ _ | (have := hg 7 1; omega) | omega
      refine lv_iconst (v := nI 3) hx hb dX3_discard_30 zi_3 ?_
      refine zr_icmp_neN (a := (g 7 1)) (b := 3) (tgt := 65) hx hb (by omega) (by omega) dX3_discard_31 (by decide) (fun c_4 => ?_) (fun c_4 => ?_)
      · refine lv_aload_n hx hb dX3_discard_65 rfl (lv_at hl 0 rfl) ?_
        refine lv_iconst (v := nI 3) hx hb dX3_discard_66 zi_3 ?_
        refine kM_fails S hK hM hg hS 3 (by first | omega | assumption | grind) (Nat.le_of_ble_eq_true rfl) (Nat.le_of_ble_eq_true rfl) hl.1 (Nat.le_of_ble_eq_true rfl) dX3_discard_67 (Nat.zero_le _) (Nat.zero_le _) (fun H locs hM hg hS => ?_)
        rw [show (gs (gs g 22 0 0) 22 0 3 : G) = mDiscG g a1 a2 from by first | with_reducible rfl | (simp [c_1, c_2, c_4, gA, mDiscG, mDiscR, dsG, gs_eq]; done) | (simp only [c_1, c_2, c_4] <;> simp [gA, mDiscG, mDiscR, dsG, gs_eq]; done) | (simp only [gA, mDiscG, mDiscR, dsG, gs_eq, c_1, c_2, c_4] <;> simp [gA, mDiscG, mDiscR, dsG, gs_eq]; done) | (simp [c_1, c_2, c_4, gA, mDiscG, mDiscR, dsG, gs_eq, Bool.and_assoc]; done) | (simp [c_1, c_2, c_4, gA, mDiscG, mDiscR, dsG, gs_eq, Bool.and_assoc, Bool.or_assoc]; done) | rfl | (simp [c_1, c_2, c_4, gA, mDiscG, mDiscR, dsG, gs_eq]; omega)] at hM hg
        exact zc_nret (nI (mDiscR g a1 a2)) (congrArg nI (show (0 : Nat) = (mDiscR g a1 a2) from by first | with_reducible rfl | (simp [c_1, c_2, c_4, gA, mDiscG, mDiscR, dsG, gs_eq]; done) | (simp only [c_1, c_2, c_4] <;> simp [gA, mDiscG, mDiscR, dsG, gs_eq]; done) | (simp only [gA, mDiscG, mDiscR, dsG, gs_eq, c_1, c_2, c_4] <;> simp [gA, mDiscG, mDiscR, dsG, gs_eq]; done) | (simp [c_1, c_2, c_4, gA, mDiscG, mDiscR, dsG, gs_eq, Bool.and_assoc]; done) | (simp [c_1, c_2, c_4, gA, mDiscG, mDiscR, dsG, gs_eq, Bool.and_assoc, Bool.or_assoc]; done) | rfl | (simp [c_1, c_2, c_4, gA, mDiscG, mDiscR, dsG, gs_eq]; omega))) (hPost H hM hg) hS hx hb hr hlk (Nat.zero_le _) (Nat.zero_le _) dX3_discard_70
      · refine lv_aload_n hx hb dX3_discard_34 rfl (lv_at hl 0 rfl) ?_
        refine gM_due S hK hM dX3_discard_35 ?_
        refine lv_iload_n hx hb dX3_discard_38 rfl (lv_at hl 1 rfl) ?_
        refine lM_due S hK hM (tn a1) (by omega) (g 5 (tn a1)) (by first | rfl | simp [gs]) dX3_discard_39 ?_
        have hb_5 : g 5 (tn a1) < 1048576 := by first | exact hg 5 (tn a1) | exact hg0 _ _ | (have := hg 5 (tn a1); omega) | omega
        refine zr_if_eqN (a := (g 5 (tn a1))) (tgt := 65) hx hb (by omega) dX3_discard_40 (by decide) (fun c_6 => ?_) (fun c_6 => ?_)
        · refine lv_aload_n hx hb dX3_discard_65 rfl (lv_at hl 0 rfl) ?_
          refine lv_iconst (v := nI 3) hx hb dX3_discard_66 zi_3 ?_
          refine kM_fails S hK hM hg hS 3 (by first | omega | assumption | grind) (Nat.le_of_ble_eq_true rfl) (Nat.le_of_ble_eq_true rfl) hl.1 (Nat.le_of_ble_eq_true rfl) dX3_discard_67 (Nat.zero_le _) (Nat.zero_le _) (fun H locs hM hg hS => ?_)
          rw [show (gs (gs g 22 0 0) 22 0 3 : G) = mDiscG g a1 a2 from by first | with_reducible rfl | (simp [c_1, c_2, c_4, c_6, gA, mDiscG, mDiscR, dsG, gs_eq]; done) | (simp only [c_1, c_2, c_4, c_6] <;> simp [gA, mDiscG, mDiscR, dsG, gs_eq]; done) | (simp only [gA, mDiscG, mDiscR, dsG, gs_eq, c_1, c_2, c_4, c_6] <;> simp [gA, mDiscG, mDiscR, dsG, gs_eq]; done) | (simp [c_1, c_2, c_4, c_6, gA, mDiscG, mDiscR, dsG, gs_eq, Bool.and_assoc]; done) | (simp [c_1, c_2, c_4, c_6, gA, mDiscG, mDiscR, dsG, gs_eq, Bool.and_assoc, Bool.or_assoc]; done) | rfl | (simp [c_1, c_2, c_4, c_6, gA, mDiscG, mDiscR, dsG, gs_eq]; omega)] at hM hg
          exact zc_nret (nI (mDiscR g a1 a2)) (congrArg nI (show (0 : Nat) = (mDiscR g a1 a2) from by first | with_reducible rfl | (simp [c_1, c_2, c_4, c_6, gA, mDiscG, mDiscR, dsG, gs_eq]; done) | (simp only [c_1, c_2, c_4, c_6] <;> simp [gA, mDiscG, mDiscR, dsG, gs_eq]; done) | (simp only [gA, mDiscG, mDiscR, dsG, gs_eq, c_1, c_2, c_4, c_6] <;> simp [gA, mDiscG, mDiscR, dsG, gs_eq]; done) | (simp [c_1, c_2, c_4, c_6, gA, mDiscG, mDiscR, dsG, gs_eq, Bool.and_assoc]; done) | (simp [c_1, c_2, c_4, c_6, gA, mDiscG, mDiscR, dsG, gs_eq, Bool.and_assoc, Bool.or_assoc]; done) | rfl | (simp [c_1, c_2, c_4, c_6, gA, mDiscG, mDiscR, dsG, gs_eq]; omega))) (hPost H hM hg) hS hx hb hr hlk (Nat.zero_le _) (Nat.zero_le _) dX3_discard_70
        · refine lv_iload_n hx hb dX3_discard_43 rfl (lv_at hl 2 rfl) ?_
          refine kM_sizeOf S hK hM hg hS (tn a2) (by first | omega | assumption | grind) (Nat.le_of_ble_eq_true rfl) (Nat.le_of_ble_eq_true rfl) hl.1 (Nat.le_of_ble_eq_true rfl) dX3_discard_44 (Nat.zero_le _) (Nat.zero_le _) (fun locs hS => ?_)
          have f44_0 : sizeN (tn a2) 5 < 50 := sizeN_lt _
          refine lv_aload_n hx hb dX3_discard_47 rfl (lv_at hl 0 rfl) ?_
          refine gM_due S hK hM dX3_discard_48 ?_
          refine lv_iload_n hx hb dX3_discard_51 rfl (lv_at hl 1 rfl) ?_
          refine lM_due S hK hM (tn a1) (by omega) (g 5 (tn a1)) (by first | rfl | simp [gs]) dX3_discard_52 ?_
          have hb_7 : g 5 (tn a1) < 1048576 := by first | exact hg 5 (tn a1) | exact hg0 _ _ | (have := hg 5 (tn a1); omega) | omega
          refine zr_icmp_neN (a := (sizeN (tn a2) 5)) (b := (g 5 (tn a1))) (tgt := 65) hx hb (by omega) (by omega) dX3_discard_53 (by decide) (fun c_8 => ?_) (fun c_8 => ?_)
          · refine lv_aload_n hx hb dX3_discard_65 rfl (lv_at hl 0 rfl) ?_
            refine lv_iconst (v := nI 3) hx hb dX3_discard_66 zi_3 ?_
            refine kM_fails S hK hM hg hS 3 (by first | omega | assumption | grind) (Nat.le_of_ble_eq_true rfl) (Nat.le_of_ble_eq_true rfl) hl.1 (Nat.le_of_ble_eq_true rfl) dX3_discard_67 (Nat.zero_le _) (Nat.zero_le _) (fun H locs hM hg hS => ?_)
            rw [show (gs (gs g 22 0 0) 22 0 3 : G) = mDiscG g a1 a2 from by first | with_reducible rfl | (simp [c_1, c_2, c_4, c_6, c_8, gA, mDiscG, mDiscR, dsG, gs_eq]; done) | (simp only [c_1, c_2, c_4, c_6, c_8] <;> simp [gA, mDiscG, mDiscR, dsG, gs_eq]; done) | (simp only [gA, mDiscG, mDiscR, dsG, gs_eq, c_1, c_2, c_4, c_6, c_8] <;> simp [gA, mDiscG, mDiscR, dsG, gs_eq]; done) | (simp [c_1, c_2, c_4, c_6, c_8, gA, mDiscG, mDiscR, dsG, gs_eq, Bool.and_assoc]; done) | (simp [c_1, c_2, c_4, c_6, c_8, gA, mDiscG, mDiscR, dsG, gs_eq, Bool.and_assoc, Bool.or_assoc]; done) | rfl | (simp [c_1, c_2, c_4, c_6, c_8, gA, mDiscG, mDiscR, dsG, gs_eq]; omega)] at hM hg
            exact zc_nret (nI (mDiscR g a1 a2)) (congrArg nI (show (0 : Nat) = (mDiscR g a1 a2) from by first | with_reducible rfl | (simp [c_1, c_2, c_4, c_6, c_8, gA, mDiscG, mDiscR, dsG, gs_eq]; done) | (simp only [c_1, c_2, c_4, c_6, c_8] <;> simp [gA, mDiscG, mDiscR, dsG, gs_eq]; done) | (simp only [gA, mDiscG, mDiscR, dsG, gs_eq, c_1, c_2, c_4, c_6, c_8] <;> simp [gA, mDiscG, mDiscR, dsG, gs_eq]; done) | (simp [c_1, c_2, c_4, c_6, c_8, gA, mDiscG, mDiscR, dsG, gs_eq, Bool.and_assoc]; done) | (simp [c_1, c_2, c_4, c_6, c_8, gA, mDiscG, mDiscR, dsG, gs_eq, Bool.and_assoc, Bool.or_assoc]; done) | rfl | (simp [c_1, c_2, c_4, c_6, c_8, gA, mDiscG, mDiscR, dsG, gs_eq]; omega))) (hPost H hM hg) hS hx hb hr hlk (Nat.zero_le _) (Nat.zero_le _) dX3_discard_70
          · refine lv_aload_n hx hb dX3_discard_56 rfl (lv_at hl 0 rfl) ?_
            refine lv_iload_n hx hb dX3_discard_57 rfl (lv_at hl 1 rfl) ?_
            refine lv_iload_n hx hb dX3_discard_58 rfl (lv_at hl 2 rfl) ?_
            refine kM_hasAll S hK hM hg hS (tn a1) (tn a2) (by first | omega | assumption | grind) (by first | omega | assumption | grind) (Nat.le_of_ble_eq_true rfl) (Nat.le_of_ble_eq_true rfl) hl.1 (Nat.le_of_ble_eq_true rfl) dX3_discard_59 (Nat.zero_le _) (Nat.zero_le _) (fun locs hS => ?_)
            refine zr_if_neB (b := hasG (gs g 22 0 0) (tn a1) (tn a2)) (tgt := 71) hx hb dX3_discard_62 (by decide) (fun c_9 => ?_) (fun c_9 => ?_)
            · refine lv_aload_n hx hb dX3_discard_71 rfl (lv_at hl 0 rfl) ?_
              refine lv_iload_n hx hb dX3_discard_72 rfl (lv_at hl 1 rfl) ?_
              refine lv_iconst (v := nI 3) hx hb dX3_discard_73 zi_3 ?_
              refine lv_iload_n hx hb dX3_discard_74 rfl (lv_at hl 2 rfl) ?_
              refine kM_gives S hK hM hg hS (tn a1) 3 (tn a2) (by first | omega | assumption | grind) (by first | omega | assumption | grind) (by first | omega | assumption | grind) (by exact hasG_le (by assumption)) (by exact fun j hj => Nat.le_trans (hb4 j hj) (by decide)) (Nat.le_of_ble_eq_true rfl) (Nat.le_of_ble_eq_true rfl) hl.1 (Nat.le_of_ble_eq_true rfl) dX3_discard_75 (Nat.zero_le _) (Nat.zero_le _) (fun H locs hM hg hS => ?_)
              refine lv_aload_n hx hb dX3_discard_78 rfl (lv_at hl 0 rfl) ?_
              refine gM_due S hK hM dX3_discard_79 ?_
              refine lv_iload_n hx hb dX3_discard_82 rfl (lv_at hl 1 rfl) ?_
              refine lv_iconst (v := nI 0) hx hb dX3_discard_83 zi_0 ?_
              refine sM_due S hK hM hS (tn a1) (by omega) 0 dX3_discard_84 (fun H locs hM hS => ?_)
              have hg : Sm (gs (giveN (gs g 22 0 0) (tn a1) 3 (tn a2) 5) 5 (tn a1) 0) := Sm_gs hg (by first | omega | exact Nat.lt_of_le_of_lt (Bool.toNat_le _) (by decide) | ((repeat' split) <;> omega))
              refine lv_aload_n hx hb dX3_discard_85 rfl (lv_at hl 0 rfl) ?_
              refine lv_aload_n hx hb dX3_discard_86 rfl (lv_at hl 0 rfl) ?_
              refine gM_due S hK hM dX3_discard_87 ?_
              refine lv_iconst (v := nI 0) hx hb dX3_discard_90 zi_0 ?_
              refine lM_due S hK hM 0 (by omega) ((gs (giveN (gs g 22 0 0) (tn a1) 3 (tn a2) 5) 5 (tn a1) 0) 5 0) (by first | rfl | simp [gs]) dX3_discard_91 ?_
              have hb_10 : (gs (giveN (gs g 22 0 0) (tn a1) 3 (tn a2) 5) 5 (tn a1) 0) 5 0 < 1048576 := by first | exact hg 5 0 | exact hg0 _ _ | (have := hg 5 0; omega) | omega
              refine lv_aload_n hx hb dX3_discard_92 rfl (lv_at hl 0 rfl) ?_
              refine gM_due S hK hM dX3_discard_93 ?_
              refine lv_iconst (v := nI 1) hx hb dX3_discard_96 zi_1 ?_
              refine lM_due S hK hM 1 (by omega) ((gs (giveN (gs g 22 0 0) (tn a1) 3 (tn a2) 5) 5 (tn a1) 0) 5 1) (by first | rfl | simp [gs]) dX3_discard_97 ?_
              have hb_11 : (gs (giveN (gs g 22 0 0) (tn a1) 3 (tn a2) 5) 5 (tn a1) 0) 5 1 < 1048576 := by first | exact hg 5 1 | exact hg0 _ _ | (have := hg 5 1; omega) | omega
              refine zr_addN (a := ((gs (giveN (gs g 22 0 0) (tn a1) 3 (tn a2) 5) 5 (tn a1) 0) 5 0)) (b := ((gs (giveN (gs g 22 0 0) (tn a1) 3 (tn a2) 5) 5 (tn a1) 0) 5 1)) hx hb dX3_discard_98 ?_
              refine lv_aload_n hx hb dX3_discard_99 rfl (lv_at hl 0 rfl) ?_
              refine gM_due S hK hM dX3_discard_100 ?_
              refine lv_iconst (v := nI 2) hx hb dX3_discard_103 zi_2 ?_
              refine lM_due S hK hM 2 (by omega) ((gs (giveN (gs g 22 0 0) (tn a1) 3 (tn a2) 5) 5 (tn a1) 0) 5 2) (by first | rfl | simp [gs]) dX3_discard_104 ?_
              have hb_12 : (gs (giveN (gs g 22 0 0) (tn a1) 3 (tn a2) 5) 5 (tn a1) 0) 5 2 < 1048576 := by first | exact hg 5 2 | exact hg0 _ _ | (have := hg 5 2; omega) | omega
              refine zr_addN (a := (((gs (giveN (gs g 22 0 0) (tn a1) 3 (tn a2) 5) 5 (tn a1) 0) 5 0) + ((gs (giveN (gs g 22 0 0) (tn a1) 3 (tn a2) 5) 5 (tn a1) 0) 5 1))) (b := ((gs (giveN (gs g 22 0 0) (tn a1) 3 (tn a2) 5) 5 (tn a1) 0) 5 2)) hx hb dX3_discard_105 ?_
              refine zr_if_neN (a := ((((gs (giveN (gs g 22 0 0) (tn a1) 3 (tn a2) 5) 5 (tn a1) 0) 5 0) + ((gs (giveN (gs g 22 0 0) (tn a1) 3 (tn a2) 5) 5 (tn a1) 0) 5 1)) + ((gs (giveN (gs g 22 0 0) (tn a1) 3 (tn a2) 5) 5 (tn a1) 0) 5 2))) (tgt := 113) hx hb (by omega) dX3_discard_106 (by decide) (fun c_13 => ?_) (fun c_13 => ?_)
              · refine lv_iconst (v := nI 3) hx hb dX3_discard_113 zi_3 ?_
                refine pM_phase S hK hM hS 3 dX3_discard_114 (fun H locs hM hS => ?_)
                have hg : Sm (gs (gs (giveN (gs g 22 0 0) (tn a1) 3 (tn a2) 5) 5 (tn a1) 0) 7 1 3) := Sm_gs hg (by first | omega | exact Nat.lt_of_le_of_lt (Bool.toNat_le _) (by decide) | ((repeat' split) <;> omega))
                refine lv_aload_n hx hb dX3_discard_117 rfl (lv_at hl 0 rfl) ?_
                refine gM_phase S hK hM 3 (by first | rfl | simp [gs]) dX3_discard_118 ?_
                have hb_14 : 3 < 1048576 := by first | exact hg 7 1 | exact hg0 _ _ | (have := hg 7 1; omega) | omega
                rw [show (gs (gs (giveN (gs g 22 0 0) (tn a1) 3 (tn a2) 5) 5 (tn a1) 0) 7 1 3 : G) = mDiscG g a1 a2 from by first | with_reducible rfl | (simp [c_1, c_2, c_4, c_6, c_8, c_9, c_13, gA, mDiscG, mDiscR, dsG, gs_eq]; done) | (simp only [c_1, c_2, c_4, c_6, c_8, c_9, c_13] <;> simp [gA, mDiscG, mDiscR, dsG, gs_eq]; done) | (simp only [gA, mDiscG, mDiscR, dsG, gs_eq, c_1, c_2, c_4, c_6, c_8, c_9, c_13] <;> simp [gA, mDiscG, mDiscR, dsG, gs_eq]; done) | (simp [c_1, c_2, c_4, c_6, c_8, c_9, c_13, gA, mDiscG, mDiscR, dsG, gs_eq, Bool.and_assoc]; done) | (simp [c_1, c_2, c_4, c_6, c_8, c_9, c_13, gA, mDiscG, mDiscR, dsG, gs_eq, Bool.and_assoc, Bool.or_assoc]; done) | rfl | (simp [c_1, c_2, c_4, c_6, c_8, c_9, c_13, gA, mDiscG, mDiscR, dsG, gs_eq]; omega)] at hM hg
                exact zc_nret (nI (mDiscR g a1 a2)) (congrArg nI (show (3 : Nat) = (mDiscR g a1 a2) from by first | with_reducible rfl | (simp [c_1, c_2, c_4, c_6, c_8, c_9, c_13, gA, mDiscG, mDiscR, dsG, gs_eq]; done) | (simp only [c_1, c_2, c_4, c_6, c_8, c_9, c_13] <;> simp [gA, mDiscG, mDiscR, dsG, gs_eq]; done) | (simp only [gA, mDiscG, mDiscR, dsG, gs_eq, c_1, c_2, c_4, c_6, c_8, c_9, c_13] <;> simp [gA, mDiscG, mDiscR, dsG, gs_eq]; done) | (simp [c_1, c_2, c_4, c_6, c_8, c_9, c_13, gA, mDiscG, mDiscR, dsG, gs_eq, Bool.and_assoc]; done) | (simp [c_1, c_2, c_4, c_6, c_8, c_9, c_13, gA, mDiscG, mDiscR, dsG, gs_eq, Bool.and_assoc, Bool.or_assoc]; done) | rfl | (simp [c_1, c_2, c_4, c_6, c_8, c_9, c_13, gA, mDiscG, mDiscR, dsG, gs_eq]; omega))) (hPost H hM hg) hS hx hb hr hlk (Nat.zero_le _) (Nat.zero_le _) dX3_discard_121
              · refine lv_iconst (v := nI 4) hx hb dX3_discard_109 zi_4 ?_
                refine lv_goto (tgt := 114) hx hb dX3_discard_110 (by decide) ?_
                refine pM_phase S hK hM hS 4 dX3_discard_114 (fun H locs hM hS => ?_)
                have hg : Sm (gs (gs (giveN (gs g 22 0 0) (tn a1) 3 (tn a2) 5) 5 (tn a1) 0) 7 1 4) := Sm_gs hg (by first | omega | exact Nat.lt_of_le_of_lt (Bool.toNat_le _) (by decide) | ((repeat' split) <;> omega))
                refine lv_aload_n hx hb dX3_discard_117 rfl (lv_at hl 0 rfl) ?_
                refine gM_phase S hK hM 4 (by first | rfl | simp [gs]) dX3_discard_118 ?_
                have hb_15 : 4 < 1048576 := by first | exact hg 7 1 | exact hg0 _ _ | (have := hg 7 1; omega) | omega
                rw [show (gs (gs (giveN (gs g 22 0 0) (tn a1) 3 (tn a2) 5) 5 (tn a1) 0) 7 1 4 : G) = mDiscG g a1 a2 from by first | with_reducible rfl | (simp [c_1, c_2, c_4, c_6, c_8, c_9, c_13, gA, mDiscG, mDiscR, dsG, gs_eq]; done) | (simp only [c_1, c_2, c_4, c_6, c_8, c_9, c_13] <;> simp [gA, mDiscG, mDiscR, dsG, gs_eq]; done) | (simp only [gA, mDiscG, mDiscR, dsG, gs_eq, c_1, c_2, c_4, c_6, c_8, c_9, c_13] <;> simp [gA, mDiscG, mDiscR, dsG, gs_eq]; done) | (simp [c_1, c_2, c_4, c_6, c_8, c_9, c_13, gA, mDiscG, mDiscR, dsG, gs_eq, Bool.and_assoc]; done) | (simp [c_1, c_2, c_4, c_6, c_8, c_9, c_13, gA, mDiscG, mDiscR, dsG, gs_eq, Bool.and_assoc, Bool.or_assoc]; done) | rfl | (simp [c_1, c_2, c_4, c_6, c_8, c_9, c_13, gA, mDiscG, mDiscR, dsG, gs_eq]; omega)] at hM hg
                exact zc_nret (nI (mDiscR g a1 a2)) (congrArg nI (show (4 : Nat) = (mDiscR g a1 a2) from by first | with_reducible rfl | (simp [c_1, c_2, c_4, c_6, c_8, c_9, c_13, gA, mDiscG, mDiscR, dsG, gs_eq]; done) | (simp only [c_1, c_2, c_4, c_6, c_8, c_9, c_13] <;> simp [gA, mDiscG, mDiscR, dsG, gs_eq]; done) | (simp only [gA, mDiscG, mDiscR, dsG, gs_eq, c_1, c_2, c_4, c_6, c_8, c_9, c_13] <;> simp [gA, mDiscG, mDiscR, dsG, gs_eq]; done) | (simp [c_1, c_2, c_4, c_6, c_8, c_9, c_13, gA, mDiscG, mDiscR, dsG, gs_eq, Bool.and_assoc]; done) | (simp [c_1, c_2, c_4, c_6, c_8, c_9, c_13, gA, mDiscG, mDiscR, dsG, gs_eq, Bool.and_assoc, Bool.or_assoc]; done) | rfl | (simp [c_1, c_2, c_4, c_6, c_8, c_9, c_13, gA, mDiscG, mDiscR, dsG, gs_eq]; omega))) (hPost H hM hg) hS hx hb hr hlk (Nat.zero_le _) (Nat.zero_le _) dX3_discard_121
            · refine lv_aload_n hx hb dX3_discard_65 rfl (lv_at hl 0 rfl) ?_
              refine lv_iconst (v := nI 3) hx hb dX3_discard_66 zi_3 ?_
              refine kM_fails S hK hM hg hS 3 (by first | omega | assumption | grind) (Nat.le_of_ble_eq_true rfl) (Nat.le_of_ble_eq_true rfl) hl.1 (Nat.le_of_ble_eq_true rfl) dX3_discard_67 (Nat.zero_le _) (Nat.zero_le _) (fun H locs hM hg hS => ?_)
              rw [show (gs (gs g 22 0 0) 22 0 3 : G) = mDiscG g a1 a2 from by first | with_reducible rfl | (simp [c_1, c_2, c_4, c_6, c_8, c_9, gA, mDiscG, mDiscR, dsG, gs_eq]; done) | (simp only [c_1, c_2, c_4, c_6, c_8, c_9] <;> simp [gA, mDiscG, mDiscR, dsG, gs_eq]; done) | (simp only [gA, mDiscG, mDiscR, dsG, gs_eq, c_1, c_2, c_4, c_6, c_8, c_9] <;> simp [gA, mDiscG, mDiscR, dsG, gs_eq]; done) | (simp [c_1, c_2, c_4, c_6, c_8, c_9, gA, mDiscG, mDiscR, dsG, gs_eq, Bool.and_assoc]; done) | (simp [c_1, c_2, c_4, c_6, c_8, c_9, gA, mDiscG, mDiscR, dsG, gs_eq, Bool.and_assoc, Bool.or_assoc]; done) | rfl | (simp [c_1, c_2, c_4, c_6, c_8, c_9, gA, mDiscG, mDiscR, dsG, gs_eq]; omega)] at hM hg
              exact zc_nret (nI (mDiscR g a1 a2)) (congrArg nI (show (0 : Nat) = (mDiscR g a1 a2) from by first | with_reducible rfl | (simp [c_1, c_2, c_4, c_6, c_8, c_9, gA, mDiscG, mDiscR, dsG, gs_eq]; done) | (simp only [c_1, c_2, c_4, c_6, c_8, c_9] <;> simp [gA, mDiscG, mDiscR, dsG, gs_eq]; done) | (simp only [gA, mDiscG, mDiscR, dsG, gs_eq, c_1, c_2, c_4, c_6, c_8, c_9] <;> simp [gA, mDiscG, mDiscR, dsG, gs_eq]; done) | (simp [c_1, c_2, c_4, c_6, c_8, c_9, gA, mDiscG, mDiscR, dsG, gs_eq, Bool.and_assoc]; done) | (simp [c_1, c_2, c_4, c_6, c_8, c_9, gA, mDiscG, mDiscR, dsG, gs_eq, Bool.and_assoc, Bool.or_assoc]; done) | rfl | (simp [c_1, c_2, c_4, c_6, c_8, c_9, gA, mDiscG, mDiscR, dsG, gs_eq]; omega))) (hPost H hM hg) hS hx hb hr hlk (Nat.zero_le _) (Nat.zero_le _) dX3_discard_70
    · refine lv_aload_n hx hb dX3_discard_20 rfl (lv_at hl 0 rfl) ?_
      refine lv_iconst (v := nI 2) hx hb dX3_discard_21 zi_2 ?_
      refine kM_fails S hK hM hg hS 2 (by first | omega | assumption | grind) (Nat.le_of_ble_eq_true rfl) (Nat.le_of_ble_eq_true rfl) hl.1 (Nat.le_of_ble_eq_true rfl) dX3_discard_22 (Nat.zero_le _) (Nat.zero_le _) (fun H locs hM hg hS => ?_)
      rw [show (gs (gs g 22 0 0) 22 0 2 : G) = mDiscG g a1 a2 from by first | with_reducible rfl | (simp [c_1, c_2, gA, mDiscG, mDiscR, dsG, gs_eq]; done) | (simp only [c_1, c_2] <;> simp [gA, mDiscG, mDiscR, dsG, gs_eq]; done) | (simp only [gA, mDiscG, mDiscR, dsG, gs_eq, c_1, c_2] <;> simp [gA, mDiscG, mDiscR, dsG, gs_eq]; done) | (simp [c_1, c_2, gA, mDiscG, mDiscR, dsG, gs_eq, Bool.and_assoc]; done) | (simp [c_1, c_2, gA, mDiscG, mDiscR, dsG, gs_eq, Bool.and_assoc, Bool.or_assoc]; done) | rfl | (simp [c_1, c_2, gA, mDiscG, mDiscR, dsG, gs_eq]; omega)] at hM hg
      exact zc_nret (nI (mDiscR g a1 a2)) (congrArg nI (show (0 : Nat) = (mDiscR g a1 a2) from by first | with_reducible rfl | (simp [c_1, c_2, gA, mDiscG, mDiscR, dsG, gs_eq]; done) | (simp only [c_1, c_2] <;> simp [gA, mDiscG, mDiscR, dsG, gs_eq]; done) | (simp only [gA, mDiscG, mDiscR, dsG, gs_eq, c_1, c_2] <;> simp [gA, mDiscG, mDiscR, dsG, gs_eq]; done) | (simp [c_1, c_2, gA, mDiscG, mDiscR, dsG, gs_eq, Bool.and_assoc]; done) | (simp [c_1, c_2, gA, mDiscG, mDiscR, dsG, gs_eq, Bool.and_assoc, Bool.or_assoc]; done) | rfl | (simp [c_1, c_2, gA, mDiscG, mDiscR, dsG, gs_eq]; omega))) (hPost H hM hg) hS hx hb hr hlk (Nat.zero_le _) (Nat.zero_le _) dX3_discard_25
  · rw [show (!(inB a1 3)).toNat = 1 from by rw [c_1]; rfl] at hM hg
    refine lv_iconst (v := nI 0) hx hb dX3_discard_11 zi_0 ?_
    rw [show (gs g 22 0 1 : G) = mDiscG g a1 a2 from by first | with_reducible rfl | (simp [c_1, gA, mDiscG, mDiscR, dsG, gs_eq]; done) | (simp only [c_1] <;> simp [gA, mDiscG, mDiscR, dsG, gs_eq]; done) | (simp only [gA, mDiscG, mDiscR, dsG, gs_eq, c_1] <;> simp [gA, mDiscG, mDiscR, dsG, gs_eq]; done) | (simp [c_1, gA, mDiscG, mDiscR, dsG, gs_eq, Bool.and_assoc]; done) | (simp [c_1, gA, mDiscG, mDiscR, dsG, gs_eq, Bool.and_assoc, Bool.or_assoc]; done) | rfl | (simp [c_1, gA, mDiscG, mDiscR, dsG, gs_eq]; omega)] at hM hg
    exact zc_nret (nI (mDiscR g a1 a2)) (congrArg nI (show (0 : Nat) = (mDiscR g a1 a2) from by first | with_reducible rfl | (simp [c_1, gA, mDiscG, mDiscR, dsG, gs_eq]; done) | (simp only [c_1] <;> simp [gA, mDiscG, mDiscR, dsG, gs_eq]; done) | (simp only [gA, mDiscG, mDiscR, dsG, gs_eq, c_1] <;> simp [gA, mDiscG, mDiscR, dsG, gs_eq]; done) | (simp [c_1, gA, mDiscG, mDiscR, dsG, gs_eq, Bool.and_assoc]; done) | (simp [c_1, gA, mDiscG, mDiscR, dsG, gs_eq, Bool.and_assoc, Bool.or_assoc]; done) | rfl | (simp [c_1, gA, mDiscG, mDiscR, dsG, gs_eq]; omega))) (hPost H hM hg) hS hx hb hr hlk (Nat.zero_le _) (Nat.zero_le _) dX3_discard_12
def mAgreeG (g : G) (a1 : Int32) : G := if (inB a1 3) = true then (if (decide (g 7 1 = 2) && (!decide (g 16 (tn a1) = 0) && (hasG (gs g 22 0 0) (tn a1) (g 16 (tn a1)) && hasG (gs g 22 0 0) (g 7 4) (g 17 (tn a1))))) = true then (eoN (giveN (giveN (gs g 22 0 0) (tn a1) (g 7 4) (g 16 (tn a1)) 5) (g 7 4) (tn a1) (g 17 (tn a1)) 5) 3) else gs (gs g 22 0 0) 22 0 2) else gs g 22 0 1
def mAgreeR (g : G) (a1 : Int32) : Nat := if (inB a1 3) = true then (if (decide (g 7 1 = 2) && (!decide (g 16 (tn a1) = 0) && (hasG (gs g 22 0 0) (tn a1) (g 16 (tn a1)) && hasG (gs g 22 0 0) (g 7 4) (g 17 (tn a1))))) = true then (handN (eoN (giveN (giveN (gs g 22 0 0) (tn a1) (g 7 4) (g 16 (tn a1)) 5) (g 7 4) (tn a1) (g 17 (tn a1)) 5) 3) (g 7 4) 5) else 0) else 0
theorem giveN_keep {g : G} {a b x w : Nat} (hab : w ≠ a) : ∀ i, i ≤ 5 → ∀ k, k < 5 → g 4 (5 * w + k) ≤ giveN g a b x i 4 (5 * w + k) := by
  intro i
  induction i with
  | zero => intro _ k _; exact Nat.le_refl _
  | succ i ih =>
    intro h5 k hk
    show _ ≤ moveN _ a b i _ 4 _
    unfold moveN
    have h1 := ih (by omega) k hk
    by_cases q : 5 * w + k = 5 * b + i
    · rw [q, gs_eq]
      rw [q] at h1
      by_cases r : 5 * b + i = 5 * a + i
      · omega
      · rw [gs_ni _ r]; omega
    · rw [gs_ni _ q, gs_ni _ (by omega)]; exact h1
set_option maxHeartbeats 1000000 in
set_option maxRecDepth 100000 in
theorem cM_agree (l : Launch) {D : va_G} {dA : Nat → ClassId} {A : Nat → Prop} {ad : Nat → Nat} {g : G} (hg : Sm g) (a1 : Int32) (ht : g 7 4 < 3) (hb4 : ∀ j, j < 20 → g 4 j ≤ 100) (hne : ∀ p, p < 3 → ¬ g 16 p = 0 → p ≠ g 7 4) (hs16 : ∀ p, p < 3 → g 16 p < 100000) (hs17 : ∀ p, p < 3 → g 17 p < 100000) (H0 : Heap) (hM : MS D dA A ad g H0) {Post : Option Value → Heap → Prop} (hPost : ∀ H : Heap, MS D dA A ad (mAgreeG g a1) H → Sm (mAgreeG g a1) → Post (some (.int (nI (mAgreeR g a1)))) H) : Ct l yX3_agree (ws_ yX3_agree cX3_agree 4 (some .int)) (rmF 3 0 0 62) A (KT D dA) [.ref (ad 0), .int a1] H0 Post := by
  refine zc_of RX3 rfl (by decide) (Nat.le_of_ble_eq_true rfl) ?_
  intro pr en s m args below meth cd S hr hlk hnm hh hK ls hl
  have hS : va_S A s.heap H0 [] := zc_start hh
  have hg0 := hg
  have hx := S.1
  have hb := S.2.1
  have hown := S.2.2.2.1
  have hts := S.2.2.2.2
  have hl : lv_has ls 4 [(0, .ref (ad 0)), (1, .int a1)] := hl
  have hb5 : ∀ j, j < 20 → gs g 22 0 0 4 j ≤ 100 := hb4
  refine lv_aload_n hx hb dX3_agree_0 rfl (lv_at hl 0 rfl) ?_
  refine lv_iload_n hx hb dX3_agree_1 rfl (lv_at hl 1 rfl) ?_
  refine kM_isPlayer S hK hM hg hS a1  (Nat.le_of_ble_eq_true rfl) (Nat.le_of_ble_eq_true rfl) hl.1 (Nat.le_of_ble_eq_true rfl) dX3_agree_2 (Nat.zero_le _) (Nat.zero_le _) (fun locs hS => ?_)
  refine kM_asks S hK hM hg hS (inB a1 3)  (Nat.le_of_ble_eq_true rfl) (Nat.le_of_ble_eq_true rfl) hl.1 (Nat.le_of_ble_eq_true rfl) dX3_agree_5 (Nat.zero_le _) (Nat.zero_le _) (fun H locs hM hg hS => ?_)
  refine zr_if_neB (b := (inB a1 3)) (tgt := 13) hx hb dX3_agree_8 (by decide) (fun c_1 => ?_) (fun c_1 => ?_)
  · rw [show (!(inB a1 3)).toNat = 0 from by rw [c_1]; rfl] at hM hg
    obtain ⟨hj1, ea1⟩ := inB_tn (by decide) c_1
    rw [ea1] at hl
    refine lv_aload_n hx hb dX3_agree_13 rfl (lv_at hl 0 rfl) ?_
    refine gM_phase S hK hM (g 7 1) (by first | rfl | simp [gs]) dX3_agree_14 ?_
    have hb_2 : g 7 1 < 1048576 := by first | exact hg 7 1 | exact hg0 _ _ | (have := hg 7 1; omega) | omega
    refine lv_iconst (v := nI 2) hx hb dX3_agree_17 zi_2 ?_
    refine zr_icmp_neN (a := (g 7 1)) (b := 2) (tgt := 61) hx hb (by omega) (by omega) dX3_agree_18 (by decide) (fun c_3 => ?_) (fun c_3 => ?_)
    · refine lv_aload_n hx hb dX3_agree_61 rfl (lv_at hl 0 rfl) ?_
      refine lv_iconst (v := nI 2) hx hb dX3_agree_62 zi_2 ?_
      refine kM_fails S hK hM hg hS 2 (by first | omega | assumption | grind) (Nat.le_of_ble_eq_true rfl) (Nat.le_of_ble_eq_true rfl) hl.1 (Nat.le_of_ble_eq_true rfl) dX3_agree_63 (Nat.zero_le _) (Nat.zero_le _) (fun H locs hM hg hS => ?_)
      rw [show (gs (gs g 22 0 0) 22 0 2 : G) = mAgreeG g a1 from by first | with_reducible rfl | (simp [c_1, c_3, gA, mAgreeG, mAgreeR, eoN_nf, giveN_nf, gs]; done) | (simp only [c_1, c_3] <;> simp [gA, mAgreeG, mAgreeR, eoN_nf, giveN_nf, gs]; done) | (simp only [gA, mAgreeG, mAgreeR, eoN_nf, giveN_nf, gs, c_1, c_3] <;> simp [gA, mAgreeG, mAgreeR, eoN_nf, giveN_nf, gs]; done) | (simp [c_1, c_3, gA, mAgreeG, mAgreeR, eoN_nf, giveN_nf, gs, Bool.and_assoc]; done) | (simp [c_1, c_3, gA, mAgreeG, mAgreeR, eoN_nf, giveN_nf, gs, Bool.and_assoc, Bool.or_assoc]; done) | rfl | (simp [c_1, c_3, gA, mAgreeG, mAgreeR, eoN_nf, giveN_nf, gs]; omega)] at hM hg
      exact zc_nret (nI (mAgreeR g a1)) (congrArg nI (show (0 : Nat) = (mAgreeR g a1) from by first | with_reducible rfl | (simp [c_1, c_3, gA, mAgreeG, mAgreeR, eoN_nf, giveN_nf, gs]; done) | (simp only [c_1, c_3] <;> simp [gA, mAgreeG, mAgreeR, eoN_nf, giveN_nf, gs]; done) | (simp only [gA, mAgreeG, mAgreeR, eoN_nf, giveN_nf, gs, c_1, c_3] <;> simp [gA, mAgreeG, mAgreeR, eoN_nf, giveN_nf, gs]; done) | (simp [c_1, c_3, gA, mAgreeG, mAgreeR, eoN_nf, giveN_nf, gs, Bool.and_assoc]; done) | (simp [c_1, c_3, gA, mAgreeG, mAgreeR, eoN_nf, giveN_nf, gs, Bool.and_assoc, Bool.or_assoc]; done) | rfl | (simp [c_1, c_3, gA, mAgreeG, mAgreeR, eoN_nf, giveN_nf, gs]; omega))) (hPost H hM hg) hS hx hb hr hlk (Nat.zero_le _) (Nat.zero_le _) dX3_agree_66
    · have hq16 := hs16 (tn a1) (by omega)
      have hq17 := hs17 (tn a1) (by omega)
      refine lv_aload_n hx hb dX3_agree_21 rfl (lv_at hl 0 rfl) ?_
      refine gM_gives S hK hM dX3_agree_22 ?_
      refine lv_iload_n hx hb dX3_agree_25 rfl (lv_at hl 1 rfl) ?_
      refine lM_gives S hK hM (tn a1) (by omega) (g 16 (tn a1)) (by first | rfl | simp [gs]) dX3_agree_26 ?_
      have hb_4 : g 16 (tn a1) < 1048576 := by first | exact hg 16 (tn a1) | exact hg0 _ _ | (have := hg 16 (tn a1); omega) | omega
      refine zr_if_eqN (a := (g 16 (tn a1))) (tgt := 61) hx hb (by omega) dX3_agree_27 (by decide) (fun c_5 => ?_) (fun c_5 => ?_)
      · refine lv_aload_n hx hb dX3_agree_61 rfl (lv_at hl 0 rfl) ?_
        refine lv_iconst (v := nI 2) hx hb dX3_agree_62 zi_2 ?_
        refine kM_fails S hK hM hg hS 2 (by first | omega | assumption | grind) (Nat.le_of_ble_eq_true rfl) (Nat.le_of_ble_eq_true rfl) hl.1 (Nat.le_of_ble_eq_true rfl) dX3_agree_63 (Nat.zero_le _) (Nat.zero_le _) (fun H locs hM hg hS => ?_)
        rw [show (gs (gs g 22 0 0) 22 0 2 : G) = mAgreeG g a1 from by first | with_reducible rfl | (simp [c_1, c_3, c_5, gA, mAgreeG, mAgreeR, eoN_nf, giveN_nf, gs]; done) | (simp only [c_1, c_3, c_5] <;> simp [gA, mAgreeG, mAgreeR, eoN_nf, giveN_nf, gs]; done) | (simp only [gA, mAgreeG, mAgreeR, eoN_nf, giveN_nf, gs, c_1, c_3, c_5] <;> simp [gA, mAgreeG, mAgreeR, eoN_nf, giveN_nf, gs]; done) | (simp [c_1, c_3, c_5, gA, mAgreeG, mAgreeR, eoN_nf, giveN_nf, gs, Bool.and_assoc]; done) | (simp [c_1, c_3, c_5, gA, mAgreeG, mAgreeR, eoN_nf, giveN_nf, gs, Bool.and_assoc, Bool.or_assoc]; done) | rfl | (simp [c_1, c_3, c_5, gA, mAgreeG, mAgreeR, eoN_nf, giveN_nf, gs]; omega)] at hM hg
        exact zc_nret (nI (mAgreeR g a1)) (congrArg nI (show (0 : Nat) = (mAgreeR g a1) from by first | with_reducible rfl | (simp [c_1, c_3, c_5, gA, mAgreeG, mAgreeR, eoN_nf, giveN_nf, gs]; done) | (simp only [c_1, c_3, c_5] <;> simp [gA, mAgreeG, mAgreeR, eoN_nf, giveN_nf, gs]; done) | (simp only [gA, mAgreeG, mAgreeR, eoN_nf, giveN_nf, gs, c_1, c_3, c_5] <;> simp [gA, mAgreeG, mAgreeR, eoN_nf, giveN_nf, gs]; done) | (simp [c_1, c_3, c_5, gA, mAgreeG, mAgreeR, eoN_nf, giveN_nf, gs, Bool.and_assoc]; done) | (simp [c_1, c_3, c_5, gA, mAgreeG, mAgreeR, eoN_nf, giveN_nf, gs, Bool.and_assoc, Bool.or_assoc]; done) | rfl | (simp [c_1, c_3, c_5, gA, mAgreeG, mAgreeR, eoN_nf, giveN_nf, gs]; omega))) (hPost H hM hg) hS hx hb hr hlk (Nat.zero_le _) (Nat.zero_le _) dX3_agree_66
      · have hnz := c_5
        refine lv_aload_n hx hb dX3_agree_30 rfl (lv_at hl 0 rfl) ?_
        refine lv_iload_n hx hb dX3_agree_31 rfl (lv_at hl 1 rfl) ?_
        refine lv_aload_n hx hb dX3_agree_32 rfl (lv_at hl 0 rfl) ?_
        refine gM_gives S hK hM dX3_agree_33 ?_
        refine lv_iload_n hx hb dX3_agree_36 rfl (lv_at hl 1 rfl) ?_
        refine lM_gives S hK hM (tn a1) (by omega) (g 16 (tn a1)) (by first | rfl | simp [gs]) dX3_agree_37 ?_
        have hb_6 : g 16 (tn a1) < 1048576 := by first | exact hg 16 (tn a1) | exact hg0 _ _ | (have := hg 16 (tn a1); omega) | omega
        refine kM_hasAll S hK hM hg hS (tn a1) (g 16 (tn a1)) (by first | omega | assumption | grind) (by first | omega | assumption | grind) (Nat.le_of_ble_eq_true rfl) (Nat.le_of_ble_eq_true rfl) hl.1 (Nat.le_of_ble_eq_true rfl) dX3_agree_38 (Nat.zero_le _) (Nat.zero_le _) (fun locs hS => ?_)
        refine zr_if_eqB (b := hasG (gs g 22 0 0) (tn a1) (g 16 (tn a1))) (tgt := 61) hx hb dX3_agree_41 (by decide) (fun c_7 => ?_) (fun c_7 => ?_)
        · refine lv_aload_n hx hb dX3_agree_61 rfl (lv_at hl 0 rfl) ?_
          refine lv_iconst (v := nI 2) hx hb dX3_agree_62 zi_2 ?_
          refine kM_fails S hK hM hg hS 2 (by first | omega | assumption | grind) (Nat.le_of_ble_eq_true rfl) (Nat.le_of_ble_eq_true rfl) hl.1 (Nat.le_of_ble_eq_true rfl) dX3_agree_63 (Nat.zero_le _) (Nat.zero_le _) (fun H locs hM hg hS => ?_)
          rw [show (gs (gs g 22 0 0) 22 0 2 : G) = mAgreeG g a1 from by first | with_reducible rfl | (simp [c_1, c_3, c_5, c_7, gA, mAgreeG, mAgreeR, eoN_nf, giveN_nf, gs]; done) | (simp only [c_1, c_3, c_5, c_7] <;> simp [gA, mAgreeG, mAgreeR, eoN_nf, giveN_nf, gs]; done) | (simp only [gA, mAgreeG, mAgreeR, eoN_nf, giveN_nf, gs, c_1, c_3, c_5, c_7] <;> simp [gA, mAgreeG, mAgreeR, eoN_nf, giveN_nf, gs]; done) | (simp [c_1, c_3, c_5, c_7, gA, mAgreeG, mAgreeR, eoN_nf, giveN_nf, gs, Bool.and_assoc]; done) | (simp [c_1, c_3, c_5, c_7, gA, mAgreeG, mAgreeR, eoN_nf, giveN_nf, gs, Bool.and_assoc, Bool.or_assoc]; done) | rfl | (simp [c_1, c_3, c_5, c_7, gA, mAgreeG, mAgreeR, eoN_nf, giveN_nf, gs]; omega)] at hM hg
          exact zc_nret (nI (mAgreeR g a1)) (congrArg nI (show (0 : Nat) = (mAgreeR g a1) from by first | with_reducible rfl | (simp [c_1, c_3, c_5, c_7, gA, mAgreeG, mAgreeR, eoN_nf, giveN_nf, gs]; done) | (simp only [c_1, c_3, c_5, c_7] <;> simp [gA, mAgreeG, mAgreeR, eoN_nf, giveN_nf, gs]; done) | (simp only [gA, mAgreeG, mAgreeR, eoN_nf, giveN_nf, gs, c_1, c_3, c_5, c_7] <;> simp [gA, mAgreeG, mAgreeR, eoN_nf, giveN_nf, gs]; done) | (simp [c_1, c_3, c_5, c_7, gA, mAgreeG, mAgreeR, eoN_nf, giveN_nf, gs, Bool.and_assoc]; done) | (simp [c_1, c_3, c_5, c_7, gA, mAgreeG, mAgreeR, eoN_nf, giveN_nf, gs, Bool.and_assoc, Bool.or_assoc]; done) | rfl | (simp [c_1, c_3, c_5, c_7, gA, mAgreeG, mAgreeR, eoN_nf, giveN_nf, gs]; omega))) (hPost H hM hg) hS hx hb hr hlk (Nat.zero_le _) (Nat.zero_le _) dX3_agree_66
        · have hG1 := c_7
          refine lv_aload_n hx hb dX3_agree_44 rfl (lv_at hl 0 rfl) ?_
          refine lv_aload_n hx hb dX3_agree_45 rfl (lv_at hl 0 rfl) ?_
          refine gM_turn S hK hM (g 7 4) (by first | rfl | simp [gs]) dX3_agree_46 ?_
          have hb_8 : g 7 4 < 1048576 := by first | exact hg 7 4 | exact hg0 _ _ | (have := hg 7 4; omega) | omega
          refine lv_aload_n hx hb dX3_agree_49 rfl (lv_at hl 0 rfl) ?_
          refine gM_wants S hK hM dX3_agree_50 ?_
          refine lv_iload_n hx hb dX3_agree_53 rfl (lv_at hl 1 rfl) ?_
          refine lM_wants S hK hM (tn a1) (by omega) (g 17 (tn a1)) (by first | rfl | simp [gs]) dX3_agree_54 ?_
          have hb_9 : g 17 (tn a1) < 1048576 := by first | exact hg 17 (tn a1) | exact hg0 _ _ | (have := hg 17 (tn a1); omega) | omega
          refine kM_hasAll S hK hM hg hS (g 7 4) (g 17 (tn a1)) (by first | omega | assumption | grind) (by first | omega | assumption | grind) (Nat.le_of_ble_eq_true rfl) (Nat.le_of_ble_eq_true rfl) hl.1 (Nat.le_of_ble_eq_true rfl) dX3_agree_55 (Nat.zero_le _) (Nat.zero_le _) (fun locs hS => ?_)
          refine zr_if_neB (b := hasG (gs g 22 0 0) (g 7 4) (g 17 (tn a1))) (tgt := 67) hx hb dX3_agree_58 (by decide) (fun c_10 => ?_) (fun c_10 => ?_)
          · have hG2 := c_10
            have hne9 : g 7 4 ≠ (tn a1) := Ne.symm (hne (tn a1) (by omega) hnz)
            refine lv_aload_n hx hb dX3_agree_67 rfl (lv_at hl 0 rfl) ?_
            refine gM_gives S hK hM dX3_agree_68 ?_
            refine lv_iload_n hx hb dX3_agree_71 rfl (lv_at hl 1 rfl) ?_
            refine lM_gives S hK hM (tn a1) (by omega) (g 16 (tn a1)) (by first | rfl | simp [gs]) dX3_agree_72 ?_
            have hb_11 : g 16 (tn a1) < 1048576 := by first | exact hg 16 (tn a1) | exact hg0 _ _ | (have := hg 16 (tn a1); omega) | omega
            refine lv_istore_n (lv' := [(2, .int (nI (g 16 (tn a1)))), (0, .ref (ad 0)), (1, .int (nI (tn a1)))]) hx hb dX3_agree_73 rfl hl (by decide) rfl (fun ls hl => ?_)
            refine lv_aload_n hx hb dX3_agree_74 rfl (lv_at hl 1 rfl) ?_
            refine gM_wants S hK hM dX3_agree_75 ?_
            refine lv_iload_n hx hb dX3_agree_78 rfl (lv_at hl 2 rfl) ?_
            refine lM_wants S hK hM (tn a1) (by omega) (g 17 (tn a1)) (by first | rfl | simp [gs]) dX3_agree_79 ?_
            have hb_12 : g 17 (tn a1) < 1048576 := by first | exact hg 17 (tn a1) | exact hg0 _ _ | (have := hg 17 (tn a1); omega) | omega
            refine lv_istore_n (lv' := [(3, .int (nI (g 17 (tn a1)))), (2, .int (nI (g 16 (tn a1)))), (0, .ref (ad 0)), (1, .int (nI (tn a1)))]) hx hb dX3_agree_80 rfl hl (by decide) rfl (fun ls hl => ?_)
            refine lv_aload_n hx hb dX3_agree_81 rfl (lv_at hl 2 rfl) ?_
            refine lv_iload_n hx hb dX3_agree_82 rfl (lv_at hl 3 rfl) ?_
            refine lv_aload_n hx hb dX3_agree_83 rfl (lv_at hl 2 rfl) ?_
            refine gM_turn S hK hM (g 7 4) (by first | rfl | simp [gs]) dX3_agree_84 ?_
            have hb_13 : g 7 4 < 1048576 := by first | exact hg 7 4 | exact hg0 _ _ | (have := hg 7 4; omega) | omega
            refine lv_iload_n hx hb dX3_agree_87 rfl (lv_at hl 1 rfl) ?_
            refine kM_gives S hK hM hg hS (tn a1) (g 7 4) (g 16 (tn a1)) (by first | omega | assumption | grind) (by first | omega | assumption | grind) (by first | omega | assumption | grind) (by exact hasG_le hG1) (by exact fun j hj => Nat.le_trans (hb4 j hj) (by decide)) (Nat.le_of_ble_eq_true rfl) (Nat.le_of_ble_eq_true rfl) hl.1 (Nat.le_of_ble_eq_true rfl) dX3_agree_88 (Nat.zero_le _) (Nat.zero_le _) (fun H locs hM hg hS => ?_)
            refine lv_aload_n hx hb dX3_agree_91 rfl (lv_at hl 2 rfl) ?_
            refine lv_aload_n hx hb dX3_agree_92 rfl (lv_at hl 2 rfl) ?_
            refine gM_turn S hK hM (g 7 4) (by first | rfl | (simp [giveN_nf, moveN_nf, eoN_nf, gs]; done)) dX3_agree_93 ?_
            have hb_14 : g 7 4 < 1048576 := by first | exact hg 7 4 | exact hg0 _ _ | (have := hg 7 4; omega) | omega
            refine lv_iload_n hx hb dX3_agree_96 rfl (lv_at hl 3 rfl) ?_
            refine lv_iload_n hx hb dX3_agree_97 rfl (lv_at hl 0 rfl) ?_
            refine kM_gives S hK hM hg hS (g 7 4) (tn a1) (g 17 (tn a1)) (by first | omega | assumption | grind) (by first | omega | assumption | grind) (by first | omega | assumption | grind) (by exact fun k hk => Nat.le_trans (hasG_le hG2 k hk) (giveN_keep hne9 5 (by omega) k hk)) (by exact fun j hj => Nat.le_trans (giveN_le hb5 5 (by omega) j hj) (by decide)) (Nat.le_of_ble_eq_true rfl) (Nat.le_of_ble_eq_true rfl) hl.1 (Nat.le_of_ble_eq_true rfl) dX3_agree_98 (Nat.zero_le _) (Nat.zero_le _) (fun H locs hM hg hS => ?_)
            refine lv_aload_n hx hb dX3_agree_101 rfl (lv_at hl 2 rfl) ?_
            refine kM_endsOffers S hK hM hg hS   (Nat.le_of_ble_eq_true rfl) (Nat.le_of_ble_eq_true rfl) hl.1 (Nat.le_of_ble_eq_true rfl) dX3_agree_102 (Nat.zero_le _) (Nat.zero_le _) (fun H locs hM hg hS => ?_)
            refine lv_aload_n hx hb dX3_agree_105 rfl (lv_at hl 2 rfl) ?_
            refine lv_aload_n hx hb dX3_agree_106 rfl (lv_at hl 2 rfl) ?_
            refine gM_turn S hK hM (g 7 4) (by first | rfl | (simp [giveN_nf, moveN_nf, eoN_nf, gs]; done)) dX3_agree_107 ?_
            have hb_15 : g 7 4 < 1048576 := by first | exact hg 7 4 | exact hg0 _ _ | (have := hg 7 4; omega) | omega
            refine kM_handOf S hK hM hg hS (g 7 4) (by first | omega | assumption | grind) (Nat.le_of_ble_eq_true rfl) (Nat.le_of_ble_eq_true rfl) hl.1 (Nat.le_of_ble_eq_true rfl) dX3_agree_110 (Nat.zero_le _) (Nat.zero_le _) (fun locs hS => ?_)
            have f110_0 : handN (eoN (giveN (giveN (gs g 22 0 0) (tn a1) (g 7 4) (g 16 (tn a1)) 5) (g 7 4) (tn a1) (g 17 (tn a1)) 5) 3) (g 7 4) 5 < 5242880 := handN_lt hg _
            rw [show (eoN (giveN (giveN (gs g 22 0 0) (tn a1) (g 7 4) (g 16 (tn a1)) 5) (g 7 4) (tn a1) (g 17 (tn a1)) 5) 3 : G) = mAgreeG g a1 from by first | with_reducible rfl | (simp [c_1, c_3, c_5, c_7, c_10, gA, mAgreeG, mAgreeR, eoN_nf, giveN_nf, gs]; done) | (simp only [c_1, c_3, c_5, c_7, c_10] <;> simp [gA, mAgreeG, mAgreeR, eoN_nf, giveN_nf, gs]; done) | (simp only [gA, mAgreeG, mAgreeR, eoN_nf, giveN_nf, gs, c_1, c_3, c_5, c_7, c_10] <;> simp [gA, mAgreeG, mAgreeR, eoN_nf, giveN_nf, gs]; done) | (simp [c_1, c_3, c_5, c_7, c_10, gA, mAgreeG, mAgreeR, eoN_nf, giveN_nf, gs, Bool.and_assoc]; done) | (simp [c_1, c_3, c_5, c_7, c_10, gA, mAgreeG, mAgreeR, eoN_nf, giveN_nf, gs, Bool.and_assoc, Bool.or_assoc]; done) | rfl | (simp [c_1, c_3, c_5, c_7, c_10, gA, mAgreeG, mAgreeR, eoN_nf, giveN_nf, gs]; omega)] at hM hg
            exact zc_nret (nI (mAgreeR g a1)) (congrArg nI (show (handN (eoN (giveN (giveN (gs g 22 0 0) (tn a1) (g 7 4) (g 16 (tn a1)) 5) (g 7 4) (tn a1) (g 17 (tn a1)) 5) 3) (g 7 4) 5 : Nat) = (mAgreeR g a1) from by first | with_reducible rfl | (simp [c_1, c_3, c_5, c_7, c_10, gA, mAgreeG, mAgreeR, eoN_nf, giveN_nf, gs]; done) | (simp only [c_1, c_3, c_5, c_7, c_10] <;> simp [gA, mAgreeG, mAgreeR, eoN_nf, giveN_nf, gs]; done) | (simp only [gA, mAgreeG, mAgreeR, eoN_nf, giveN_nf, gs, c_1, c_3, c_5, c_7, c_10] <;> simp [gA, mAgreeG, mAgreeR, eoN_nf, giveN_nf, gs]; done) | (simp [c_1, c_3, c_5, c_7, c_10, gA, mAgreeG, mAgreeR, eoN_nf, giveN_nf, gs, Bool.and_assoc]; done) | (simp [c_1, c_3, c_5, c_7, c_10, gA, mAgreeG, mAgreeR, eoN_nf, giveN_nf, gs, Bool.and_assoc, Bool.or_assoc]; done) | rfl | (simp [c_1, c_3, c_5, c_7, c_10, gA, mAgreeG, mAgreeR, eoN_nf, giveN_nf, gs]; omega))) (hPost H hM hg) hS hx hb hr hlk (Nat.zero_le _) (Nat.zero_le _) dX3_agree_113
          · refine lv_aload_n hx hb dX3_agree_61 rfl (lv_at hl 0 rfl) ?_
            refine lv_iconst (v := nI 2) hx hb dX3_agree_62 zi_2 ?_
            refine kM_fails S hK hM hg hS 2 (by first | omega | assumption | grind) (Nat.le_of_ble_eq_true rfl) (Nat.le_of_ble_eq_true rfl) hl.1 (Nat.le_of_ble_eq_true rfl) dX3_agree_63 (Nat.zero_le _) (Nat.zero_le _) (fun H locs hM hg hS => ?_)
            rw [show (gs (gs g 22 0 0) 22 0 2 : G) = mAgreeG g a1 from by first | with_reducible rfl | (simp [c_1, c_3, c_5, c_7, c_10, gA, mAgreeG, mAgreeR, eoN_nf, giveN_nf, gs]; done) | (simp only [c_1, c_3, c_5, c_7, c_10] <;> simp [gA, mAgreeG, mAgreeR, eoN_nf, giveN_nf, gs]; done) | (simp only [gA, mAgreeG, mAgreeR, eoN_nf, giveN_nf, gs, c_1, c_3, c_5, c_7, c_10] <;> simp [gA, mAgreeG, mAgreeR, eoN_nf, giveN_nf, gs]; done) | (simp [c_1, c_3, c_5, c_7, c_10, gA, mAgreeG, mAgreeR, eoN_nf, giveN_nf, gs, Bool.and_assoc]; done) | (simp [c_1, c_3, c_5, c_7, c_10, gA, mAgreeG, mAgreeR, eoN_nf, giveN_nf, gs, Bool.and_assoc, Bool.or_assoc]; done) | rfl | (simp [c_1, c_3, c_5, c_7, c_10, gA, mAgreeG, mAgreeR, eoN_nf, giveN_nf, gs]; omega)] at hM hg
            exact zc_nret (nI (mAgreeR g a1)) (congrArg nI (show (0 : Nat) = (mAgreeR g a1) from by first | with_reducible rfl | (simp [c_1, c_3, c_5, c_7, c_10, gA, mAgreeG, mAgreeR, eoN_nf, giveN_nf, gs]; done) | (simp only [c_1, c_3, c_5, c_7, c_10] <;> simp [gA, mAgreeG, mAgreeR, eoN_nf, giveN_nf, gs]; done) | (simp only [gA, mAgreeG, mAgreeR, eoN_nf, giveN_nf, gs, c_1, c_3, c_5, c_7, c_10] <;> simp [gA, mAgreeG, mAgreeR, eoN_nf, giveN_nf, gs]; done) | (simp [c_1, c_3, c_5, c_7, c_10, gA, mAgreeG, mAgreeR, eoN_nf, giveN_nf, gs, Bool.and_assoc]; done) | (simp [c_1, c_3, c_5, c_7, c_10, gA, mAgreeG, mAgreeR, eoN_nf, giveN_nf, gs, Bool.and_assoc, Bool.or_assoc]; done) | rfl | (simp [c_1, c_3, c_5, c_7, c_10, gA, mAgreeG, mAgreeR, eoN_nf, giveN_nf, gs]; omega))) (hPost H hM hg) hS hx hb hr hlk (Nat.zero_le _) (Nat.zero_le _) dX3_agree_66
  · rw [show (!(inB a1 3)).toNat = 1 from by rw [c_1]; rfl] at hM hg
    refine lv_iconst (v := nI 0) hx hb dX3_agree_11 zi_0 ?_
    rw [show (gs g 22 0 1 : G) = mAgreeG g a1 from by first | with_reducible rfl | (simp [c_1, gA, mAgreeG, mAgreeR, eoN_nf, giveN_nf, gs]; done) | (simp only [c_1] <;> simp [gA, mAgreeG, mAgreeR, eoN_nf, giveN_nf, gs]; done) | (simp only [gA, mAgreeG, mAgreeR, eoN_nf, giveN_nf, gs, c_1] <;> simp [gA, mAgreeG, mAgreeR, eoN_nf, giveN_nf, gs]; done) | (simp [c_1, gA, mAgreeG, mAgreeR, eoN_nf, giveN_nf, gs, Bool.and_assoc]; done) | (simp [c_1, gA, mAgreeG, mAgreeR, eoN_nf, giveN_nf, gs, Bool.and_assoc, Bool.or_assoc]; done) | rfl | (simp [c_1, gA, mAgreeG, mAgreeR, eoN_nf, giveN_nf, gs]; omega)] at hM hg
    exact zc_nret (nI (mAgreeR g a1)) (congrArg nI (show (0 : Nat) = (mAgreeR g a1) from by first | with_reducible rfl | (simp [c_1, gA, mAgreeG, mAgreeR, eoN_nf, giveN_nf, gs]; done) | (simp only [c_1] <;> simp [gA, mAgreeG, mAgreeR, eoN_nf, giveN_nf, gs]; done) | (simp only [gA, mAgreeG, mAgreeR, eoN_nf, giveN_nf, gs, c_1] <;> simp [gA, mAgreeG, mAgreeR, eoN_nf, giveN_nf, gs]; done) | (simp [c_1, gA, mAgreeG, mAgreeR, eoN_nf, giveN_nf, gs, Bool.and_assoc]; done) | (simp [c_1, gA, mAgreeG, mAgreeR, eoN_nf, giveN_nf, gs, Bool.and_assoc, Bool.or_assoc]; done) | rfl | (simp [c_1, gA, mAgreeG, mAgreeR, eoN_nf, giveN_nf, gs]; omega))) (hPost H hM hg) hS hx hb hr hlk (Nat.zero_le _) (Nat.zero_le _) dX3_agree_12
def mAccG (g : G) (a1 : Int32) : G := if (inB a1 3) = true then (if (decide (g 7 1 = 2) && (!decide (g 26 0 = 0) && (!decide (tn a1 = g 7 4) && (hasG (gs g 22 0 0) (g 7 4) (g 26 0) && hasG (gs g 22 0 0) (tn a1) (g 26 1))))) = true then (eoN (giveN (giveN (gs g 22 0 0) (g 7 4) (tn a1) (g 26 0) 5) (tn a1) (g 7 4) (g 26 1) 5) 3) else gs (gs g 22 0 0) 22 0 2) else gs g 22 0 1
def mAccR (g : G) (a1 : Int32) : Nat := if (inB a1 3) = true then (if (decide (g 7 1 = 2) && (!decide (g 26 0 = 0) && (!decide (tn a1 = g 7 4) && (hasG (gs g 22 0 0) (g 7 4) (g 26 0) && hasG (gs g 22 0 0) (tn a1) (g 26 1))))) = true then (handN (eoN (giveN (giveN (gs g 22 0 0) (g 7 4) (tn a1) (g 26 0) 5) (tn a1) (g 7 4) (g 26 1) 5) 3) (tn a1) 5) else 0) else 0
set_option maxHeartbeats 1000000 in
set_option maxRecDepth 100000 in
theorem cM_accept (l : Launch) {D : va_G} {dA : Nat → ClassId} {A : Nat → Prop} {ad : Nat → Nat} {g : G} (hg : Sm g) (a1 : Int32) (ht : g 7 4 < 3) (hb4 : ∀ j, j < 20 → g 4 j ≤ 100) (hs26 : g 26 0 < 100000 ∧ g 26 1 < 100000) (H0 : Heap) (hM : MS D dA A ad g H0) {Post : Option Value → Heap → Prop} (hPost : ∀ H : Heap, MS D dA A ad (mAccG g a1) H → Sm (mAccG g a1) → Post (some (.int (nI (mAccR g a1)))) H) : Ct l yX3_accept (ws_ yX3_accept cX3_accept 2 (some .int)) (rmF 3 0 0 62) A (KT D dA) [.ref (ad 0), .int a1] H0 Post := by
  refine zc_of RX3 rfl (by decide) (Nat.le_of_ble_eq_true rfl) ?_
  intro pr en s m args below meth cd S hr hlk hnm hh hK ls hl
  have hS : va_S A s.heap H0 [] := zc_start hh
  have hg0 := hg
  have hx := S.1
  have hb := S.2.1
  have hown := S.2.2.2.1
  have hts := S.2.2.2.2
  have hl : lv_has ls 2 [(0, .ref (ad 0)), (1, .int a1)] := hl
  have hb5 : ∀ j, j < 20 → gs g 22 0 0 4 j ≤ 100 := hb4
  refine lv_aload_n hx hb dX3_accept_0 rfl (lv_at hl 0 rfl) ?_
  refine lv_iload_n hx hb dX3_accept_1 rfl (lv_at hl 1 rfl) ?_
  refine kM_isPlayer S hK hM hg hS a1  (Nat.le_of_ble_eq_true rfl) (Nat.le_of_ble_eq_true rfl) hl.1 (Nat.le_of_ble_eq_true rfl) dX3_accept_2 (Nat.zero_le _) (Nat.zero_le _) (fun locs hS => ?_)
  refine kM_asks S hK hM hg hS (inB a1 3)  (Nat.le_of_ble_eq_true rfl) (Nat.le_of_ble_eq_true rfl) hl.1 (Nat.le_of_ble_eq_true rfl) dX3_accept_5 (Nat.zero_le _) (Nat.zero_le _) (fun H locs hM hg hS => ?_)
  refine zr_if_neB (b := (inB a1 3)) (tgt := 13) hx hb dX3_accept_8 (by decide) (fun c_1 => ?_) (fun c_1 => ?_)
  · rw [show (!(inB a1 3)).toNat = 0 from by rw [c_1]; rfl] at hM hg
    obtain ⟨hj1, ea1⟩ := inB_tn (by decide) c_1
    rw [ea1] at hl
    refine lv_aload_n hx hb dX3_accept_13 rfl (lv_at hl 0 rfl) ?_
    refine gM_phase S hK hM (g 7 1) (by first | rfl | simp [gs]) dX3_accept_14 ?_
    have hb_2 : g 7 1 < 1048576 := by first | exact hg 7 1 | exact hg0 _ _ | (have := hg 7 1; omega) | omega
    refine lv_iconst (v := nI 2) hx hb dX3_accept_17 zi_2 ?_
    refine zr_icmp_neN (a := (g 7 1)) (b := 2) (tgt := 63) hx hb (by omega) (by omega) dX3_accept_18 (by decide) (fun c_3 => ?_) (fun c_3 => ?_)
    · refine lv_aload_n hx hb dX3_accept_63 rfl (lv_at hl 0 rfl) ?_
      refine lv_iconst (v := nI 2) hx hb dX3_accept_64 zi_2 ?_
      refine kM_fails S hK hM hg hS 2 (by first | omega | assumption | grind) (Nat.le_of_ble_eq_true rfl) (Nat.le_of_ble_eq_true rfl) hl.1 (Nat.le_of_ble_eq_true rfl) dX3_accept_65 (Nat.zero_le _) (Nat.zero_le _) (fun H locs hM hg hS => ?_)
      rw [show (gs (gs g 22 0 0) 22 0 2 : G) = mAccG g a1 from by first | with_reducible rfl | (simp [c_1, c_3, gA, mAccG, mAccR]; done) | (simp only [c_1, c_3] <;> simp [gA, mAccG, mAccR]; done) | (simp only [gA, mAccG, mAccR, c_1, c_3] <;> simp [gA, mAccG, mAccR]; done) | (simp [c_1, c_3, gA, mAccG, mAccR, Bool.and_assoc]; done) | (simp [c_1, c_3, gA, mAccG, mAccR, Bool.and_assoc, Bool.or_assoc]; done) | rfl | (simp [c_1, c_3, gA, mAccG, mAccR]; omega)] at hM hg
      exact zc_nret (nI (mAccR g a1)) (congrArg nI (show (0 : Nat) = (mAccR g a1) from by first | with_reducible rfl | (simp [c_1, c_3, gA, mAccG, mAccR]; done) | (simp only [c_1, c_3] <;> simp [gA, mAccG, mAccR]; done) | (simp only [gA, mAccG, mAccR, c_1, c_3] <;> simp [gA, mAccG, mAccR]; done) | (simp [c_1, c_3, gA, mAccG, mAccR, Bool.and_assoc]; done) | (simp [c_1, c_3, gA, mAccG, mAccR, Bool.and_assoc, Bool.or_assoc]; done) | rfl | (simp [c_1, c_3, gA, mAccG, mAccR]; omega))) (hPost H hM hg) hS hx hb hr hlk (Nat.zero_le _) (Nat.zero_le _) dX3_accept_68
    · refine lv_aload_n hx hb dX3_accept_21 rfl (lv_at hl 0 rfl) ?_
      refine gM_give S hK hM (g 26 0) (by first | rfl | simp [gs]) dX3_accept_22 ?_
      have hb_4 : g 26 0 < 1048576 := by first | exact hg 26 0 | exact hg0 _ _ | (have := hg 26 0; omega) | omega
      refine zr_if_eqN (a := (g 26 0)) (tgt := 63) hx hb (by omega) dX3_accept_25 (by decide) (fun c_5 => ?_) (fun c_5 => ?_)
      · refine lv_aload_n hx hb dX3_accept_63 rfl (lv_at hl 0 rfl) ?_
        refine lv_iconst (v := nI 2) hx hb dX3_accept_64 zi_2 ?_
        refine kM_fails S hK hM hg hS 2 (by first | omega | assumption | grind) (Nat.le_of_ble_eq_true rfl) (Nat.le_of_ble_eq_true rfl) hl.1 (Nat.le_of_ble_eq_true rfl) dX3_accept_65 (Nat.zero_le _) (Nat.zero_le _) (fun H locs hM hg hS => ?_)
        rw [show (gs (gs g 22 0 0) 22 0 2 : G) = mAccG g a1 from by first | with_reducible rfl | (simp [c_1, c_3, c_5, gA, mAccG, mAccR]; done) | (simp only [c_1, c_3, c_5] <;> simp [gA, mAccG, mAccR]; done) | (simp only [gA, mAccG, mAccR, c_1, c_3, c_5] <;> simp [gA, mAccG, mAccR]; done) | (simp [c_1, c_3, c_5, gA, mAccG, mAccR, Bool.and_assoc]; done) | (simp [c_1, c_3, c_5, gA, mAccG, mAccR, Bool.and_assoc, Bool.or_assoc]; done) | rfl | (simp [c_1, c_3, c_5, gA, mAccG, mAccR]; omega)] at hM hg
        exact zc_nret (nI (mAccR g a1)) (congrArg nI (show (0 : Nat) = (mAccR g a1) from by first | with_reducible rfl | (simp [c_1, c_3, c_5, gA, mAccG, mAccR]; done) | (simp only [c_1, c_3, c_5] <;> simp [gA, mAccG, mAccR]; done) | (simp only [gA, mAccG, mAccR, c_1, c_3, c_5] <;> simp [gA, mAccG, mAccR]; done) | (simp [c_1, c_3, c_5, gA, mAccG, mAccR, Bool.and_assoc]; done) | (simp [c_1, c_3, c_5, gA, mAccG, mAccR, Bool.and_assoc, Bool.or_assoc]; done) | rfl | (simp [c_1, c_3, c_5, gA, mAccG, mAccR]; omega))) (hPost H hM hg) hS hx hb hr hlk (Nat.zero_le _) (Nat.zero_le _) dX3_accept_68
      · refine lv_iload_n hx hb dX3_accept_28 rfl (lv_at hl 1 rfl) ?_
        refine lv_aload_n hx hb dX3_accept_29 rfl (lv_at hl 0 rfl) ?_
        refine gM_turn S hK hM (g 7 4) (by first | rfl | simp [gs]) dX3_accept_30 ?_
        have hb_6 : g 7 4 < 1048576 := by first | exact hg 7 4 | exact hg0 _ _ | (have := hg 7 4; omega) | omega
        refine zr_icmp_eqN (a := (tn a1)) (b := (g 7 4)) (tgt := 63) hx hb (by omega) (by omega) dX3_accept_33 (by decide) (fun c_7 => ?_) (fun c_7 => ?_)
        · refine lv_aload_n hx hb dX3_accept_63 rfl (lv_at hl 0 rfl) ?_
          refine lv_iconst (v := nI 2) hx hb dX3_accept_64 zi_2 ?_
          refine kM_fails S hK hM hg hS 2 (by first | omega | assumption | grind) (Nat.le_of_ble_eq_true rfl) (Nat.le_of_ble_eq_true rfl) hl.1 (Nat.le_of_ble_eq_true rfl) dX3_accept_65 (Nat.zero_le _) (Nat.zero_le _) (fun H locs hM hg hS => ?_)
          rw [show (gs (gs g 22 0 0) 22 0 2 : G) = mAccG g a1 from by first | with_reducible rfl | (simp [c_1, c_3, c_5, c_7, gA, mAccG, mAccR]; done) | (simp only [c_1, c_3, c_5, c_7] <;> simp [gA, mAccG, mAccR]; done) | (simp only [gA, mAccG, mAccR, c_1, c_3, c_5, c_7] <;> simp [gA, mAccG, mAccR]; done) | (simp [c_1, c_3, c_5, c_7, gA, mAccG, mAccR, Bool.and_assoc]; done) | (simp [c_1, c_3, c_5, c_7, gA, mAccG, mAccR, Bool.and_assoc, Bool.or_assoc]; done) | rfl | (simp [c_1, c_3, c_5, c_7, gA, mAccG, mAccR]; omega)] at hM hg
          exact zc_nret (nI (mAccR g a1)) (congrArg nI (show (0 : Nat) = (mAccR g a1) from by first | with_reducible rfl | (simp [c_1, c_3, c_5, c_7, gA, mAccG, mAccR]; done) | (simp only [c_1, c_3, c_5, c_7] <;> simp [gA, mAccG, mAccR]; done) | (simp only [gA, mAccG, mAccR, c_1, c_3, c_5, c_7] <;> simp [gA, mAccG, mAccR]; done) | (simp [c_1, c_3, c_5, c_7, gA, mAccG, mAccR, Bool.and_assoc]; done) | (simp [c_1, c_3, c_5, c_7, gA, mAccG, mAccR, Bool.and_assoc, Bool.or_assoc]; done) | rfl | (simp [c_1, c_3, c_5, c_7, gA, mAccG, mAccR]; omega))) (hPost H hM hg) hS hx hb hr hlk (Nat.zero_le _) (Nat.zero_le _) dX3_accept_68
        · have hnz := c_7
          refine lv_aload_n hx hb dX3_accept_36 rfl (lv_at hl 0 rfl) ?_
          refine lv_aload_n hx hb dX3_accept_37 rfl (lv_at hl 0 rfl) ?_
          refine gM_turn S hK hM (g 7 4) (by first | rfl | simp [gs]) dX3_accept_38 ?_
          have hb_8 : g 7 4 < 1048576 := by first | exact hg 7 4 | exact hg0 _ _ | (have := hg 7 4; omega) | omega
          refine lv_aload_n hx hb dX3_accept_41 rfl (lv_at hl 0 rfl) ?_
          refine gM_give S hK hM (g 26 0) (by first | rfl | simp [gs]) dX3_accept_42 ?_
          have hb_9 : g 26 0 < 1048576 := by first | exact hg 26 0 | exact hg0 _ _ | (have := hg 26 0; omega) | omega
          refine kM_hasAll S hK hM hg hS (g 7 4) (g 26 0) (by first | omega | assumption | grind) (by first | omega | assumption | grind) (Nat.le_of_ble_eq_true rfl) (Nat.le_of_ble_eq_true rfl) hl.1 (Nat.le_of_ble_eq_true rfl) dX3_accept_45 (Nat.zero_le _) (Nat.zero_le _) (fun locs hS => ?_)
          refine zr_if_eqB (b := hasG (gs g 22 0 0) (g 7 4) (g 26 0)) (tgt := 63) hx hb dX3_accept_48 (by decide) (fun c_10 => ?_) (fun c_10 => ?_)
          · refine lv_aload_n hx hb dX3_accept_63 rfl (lv_at hl 0 rfl) ?_
            refine lv_iconst (v := nI 2) hx hb dX3_accept_64 zi_2 ?_
            refine kM_fails S hK hM hg hS 2 (by first | omega | assumption | grind) (Nat.le_of_ble_eq_true rfl) (Nat.le_of_ble_eq_true rfl) hl.1 (Nat.le_of_ble_eq_true rfl) dX3_accept_65 (Nat.zero_le _) (Nat.zero_le _) (fun H locs hM hg hS => ?_)
            rw [show (gs (gs g 22 0 0) 22 0 2 : G) = mAccG g a1 from by first | with_reducible rfl | (simp [c_1, c_3, c_5, c_7, c_10, gA, mAccG, mAccR]; done) | (simp only [c_1, c_3, c_5, c_7, c_10] <;> simp [gA, mAccG, mAccR]; done) | (simp only [gA, mAccG, mAccR, c_1, c_3, c_5, c_7, c_10] <;> simp [gA, mAccG, mAccR]; done) | (simp [c_1, c_3, c_5, c_7, c_10, gA, mAccG, mAccR, Bool.and_assoc]; done) | (simp [c_1, c_3, c_5, c_7, c_10, gA, mAccG, mAccR, Bool.and_assoc, Bool.or_assoc]; done) | rfl | (simp [c_1, c_3, c_5, c_7, c_10, gA, mAccG, mAccR]; omega)] at hM hg
            exact zc_nret (nI (mAccR g a1)) (congrArg nI (show (0 : Nat) = (mAccR g a1) from by first | with_reducible rfl | (simp [c_1, c_3, c_5, c_7, c_10, gA, mAccG, mAccR]; done) | (simp only [c_1, c_3, c_5, c_7, c_10] <;> simp [gA, mAccG, mAccR]; done) | (simp only [gA, mAccG, mAccR, c_1, c_3, c_5, c_7, c_10] <;> simp [gA, mAccG, mAccR]; done) | (simp [c_1, c_3, c_5, c_7, c_10, gA, mAccG, mAccR, Bool.and_assoc]; done) | (simp [c_1, c_3, c_5, c_7, c_10, gA, mAccG, mAccR, Bool.and_assoc, Bool.or_assoc]; done) | rfl | (simp [c_1, c_3, c_5, c_7, c_10, gA, mAccG, mAccR]; omega))) (hPost H hM hg) hS hx hb hr hlk (Nat.zero_le _) (Nat.zero_le _) dX3_accept_68
          · have hG1 := c_10
            refine lv_aload_n hx hb dX3_accept_51 rfl (lv_at hl 0 rfl) ?_
            refine lv_iload_n hx hb dX3_accept_52 rfl (lv_at hl 1 rfl) ?_
            refine lv_aload_n hx hb dX3_accept_53 rfl (lv_at hl 0 rfl) ?_
            refine gM_want S hK hM (g 26 1) (by first | rfl | simp [gs]) dX3_accept_54 ?_
            have hb_11 : g 26 1 < 1048576 := by first | exact hg 26 1 | exact hg0 _ _ | (have := hg 26 1; omega) | omega
            refine kM_hasAll S hK hM hg hS (tn a1) (g 26 1) (by first | omega | assumption | grind) (by first | omega | assumption | grind) (Nat.le_of_ble_eq_true rfl) (Nat.le_of_ble_eq_true rfl) hl.1 (Nat.le_of_ble_eq_true rfl) dX3_accept_57 (Nat.zero_le _) (Nat.zero_le _) (fun locs hS => ?_)
            refine zr_if_neB (b := hasG (gs g 22 0 0) (tn a1) (g 26 1)) (tgt := 69) hx hb dX3_accept_60 (by decide) (fun c_12 => ?_) (fun c_12 => ?_)
            · have hG2 := c_12
              have hne9 : (tn a1) ≠ g 7 4 := hnz
              refine lv_aload_n hx hb dX3_accept_69 rfl (lv_at hl 0 rfl) ?_
              refine lv_aload_n hx hb dX3_accept_70 rfl (lv_at hl 0 rfl) ?_
              refine gM_turn S hK hM (g 7 4) (by first | rfl | simp [gs]) dX3_accept_71 ?_
              have hb_13 : g 7 4 < 1048576 := by first | exact hg 7 4 | exact hg0 _ _ | (have := hg 7 4; omega) | omega
              refine lv_iload_n hx hb dX3_accept_74 rfl (lv_at hl 1 rfl) ?_
              refine lv_aload_n hx hb dX3_accept_75 rfl (lv_at hl 0 rfl) ?_
              refine gM_give S hK hM (g 26 0) (by first | rfl | simp [gs]) dX3_accept_76 ?_
              have hb_14 : g 26 0 < 1048576 := by first | exact hg 26 0 | exact hg0 _ _ | (have := hg 26 0; omega) | omega
              refine kM_gives S hK hM hg hS (g 7 4) (tn a1) (g 26 0) (by first | omega | assumption | grind) (by first | omega | assumption | grind) (by first | omega | assumption | grind) (by exact hasG_le hG1) (by exact fun j hj => Nat.le_trans (hb4 j hj) (by decide)) (Nat.le_of_ble_eq_true rfl) (Nat.le_of_ble_eq_true rfl) hl.1 (Nat.le_of_ble_eq_true rfl) dX3_accept_79 (Nat.zero_le _) (Nat.zero_le _) (fun H locs hM hg hS => ?_)
              refine lv_aload_n hx hb dX3_accept_82 rfl (lv_at hl 0 rfl) ?_
              refine lv_iload_n hx hb dX3_accept_83 rfl (lv_at hl 1 rfl) ?_
              refine lv_aload_n hx hb dX3_accept_84 rfl (lv_at hl 0 rfl) ?_
              refine gM_turn S hK hM (g 7 4) (by first | rfl | (simp [giveN_nf, moveN_nf, eoN_nf, gs]; done)) dX3_accept_85 ?_
              have hb_15 : g 7 4 < 1048576 := by first | exact hg 7 4 | exact hg0 _ _ | (have := hg 7 4; omega) | omega
              refine lv_aload_n hx hb dX3_accept_88 rfl (lv_at hl 0 rfl) ?_
              refine gM_want S hK hM (g 26 1) (by first | rfl | (simp [giveN_nf, moveN_nf, eoN_nf, gs]; done)) dX3_accept_89 ?_
              have hb_16 : g 26 1 < 1048576 := by first | exact hg 26 1 | exact hg0 _ _ | (have := hg 26 1; omega) | omega
              refine kM_gives S hK hM hg hS (tn a1) (g 7 4) (g 26 1) (by first | omega | assumption | grind) (by first | omega | assumption | grind) (by first | omega | assumption | grind) (by exact fun k hk => Nat.le_trans (hasG_le hG2 k hk) (giveN_keep hne9 5 (by omega) k hk)) (by exact fun j hj => Nat.le_trans (giveN_le hb5 5 (by omega) j hj) (by decide)) (Nat.le_of_ble_eq_true rfl) (Nat.le_of_ble_eq_true rfl) hl.1 (Nat.le_of_ble_eq_true rfl) dX3_accept_92 (Nat.zero_le _) (Nat.zero_le _) (fun H locs hM hg hS => ?_)
              refine lv_aload_n hx hb dX3_accept_95 rfl (lv_at hl 0 rfl) ?_
              refine kM_endsOffers S hK hM hg hS   (Nat.le_of_ble_eq_true rfl) (Nat.le_of_ble_eq_true rfl) hl.1 (Nat.le_of_ble_eq_true rfl) dX3_accept_96 (Nat.zero_le _) (Nat.zero_le _) (fun H locs hM hg hS => ?_)
              refine lv_aload_n hx hb dX3_accept_99 rfl (lv_at hl 0 rfl) ?_
              refine lv_iload_n hx hb dX3_accept_100 rfl (lv_at hl 1 rfl) ?_
              refine kM_handOf S hK hM hg hS (tn a1) (by first | omega | assumption | grind) (Nat.le_of_ble_eq_true rfl) (Nat.le_of_ble_eq_true rfl) hl.1 (Nat.le_of_ble_eq_true rfl) dX3_accept_101 (Nat.zero_le _) (Nat.zero_le _) (fun locs hS => ?_)
              have f101_0 : handN (eoN (giveN (giveN (gs g 22 0 0) (g 7 4) (tn a1) (g 26 0) 5) (tn a1) (g 7 4) (g 26 1) 5) 3) (tn a1) 5 < 5242880 := handN_lt hg _
              rw [show (eoN (giveN (giveN (gs g 22 0 0) (g 7 4) (tn a1) (g 26 0) 5) (tn a1) (g 7 4) (g 26 1) 5) 3 : G) = mAccG g a1 from by first | with_reducible rfl | (simp [c_1, c_3, c_5, c_7, c_10, c_12, gA, mAccG, mAccR]; done) | (simp only [c_1, c_3, c_5, c_7, c_10, c_12] <;> simp [gA, mAccG, mAccR]; done) | (simp only [gA, mAccG, mAccR, c_1, c_3, c_5, c_7, c_10, c_12] <;> simp [gA, mAccG, mAccR]; done) | (simp [c_1, c_3, c_5, c_7, c_10, c_12, gA, mAccG, mAccR, Bool.and_assoc]; done) | (simp [c_1, c_3, c_5, c_7, c_10, c_12, gA, mAccG, mAccR, Bool.and_assoc, Bool.or_assoc]; done) | rfl | (simp [c_1, c_3, c_5, c_7, c_10, c_12, gA, mAccG, mAccR]; omega)] at hM hg
              exact zc_nret (nI (mAccR g a1)) (congrArg nI (show (handN (eoN (giveN (giveN (gs g 22 0 0) (g 7 4) (tn a1) (g 26 0) 5) (tn a1) (g 7 4) (g 26 1) 5) 3) (tn a1) 5 : Nat) = (mAccR g a1) from by first | with_reducible rfl | (simp [c_1, c_3, c_5, c_7, c_10, c_12, gA, mAccG, mAccR]; done) | (simp only [c_1, c_3, c_5, c_7, c_10, c_12] <;> simp [gA, mAccG, mAccR]; done) | (simp only [gA, mAccG, mAccR, c_1, c_3, c_5, c_7, c_10, c_12] <;> simp [gA, mAccG, mAccR]; done) | (simp [c_1, c_3, c_5, c_7, c_10, c_12, gA, mAccG, mAccR, Bool.and_assoc]; done) | (simp [c_1, c_3, c_5, c_7, c_10, c_12, gA, mAccG, mAccR, Bool.and_assoc, Bool.or_assoc]; done) | rfl | (simp [c_1, c_3, c_5, c_7, c_10, c_12, gA, mAccG, mAccR]; omega))) (hPost H hM hg) hS hx hb hr hlk (Nat.zero_le _) (Nat.zero_le _) dX3_accept_104
            · refine lv_aload_n hx hb dX3_accept_63 rfl (lv_at hl 0 rfl) ?_
              refine lv_iconst (v := nI 2) hx hb dX3_accept_64 zi_2 ?_
              refine kM_fails S hK hM hg hS 2 (by first | omega | assumption | grind) (Nat.le_of_ble_eq_true rfl) (Nat.le_of_ble_eq_true rfl) hl.1 (Nat.le_of_ble_eq_true rfl) dX3_accept_65 (Nat.zero_le _) (Nat.zero_le _) (fun H locs hM hg hS => ?_)
              rw [show (gs (gs g 22 0 0) 22 0 2 : G) = mAccG g a1 from by first | with_reducible rfl | (simp [c_1, c_3, c_5, c_7, c_10, c_12, gA, mAccG, mAccR]; done) | (simp only [c_1, c_3, c_5, c_7, c_10, c_12] <;> simp [gA, mAccG, mAccR]; done) | (simp only [gA, mAccG, mAccR, c_1, c_3, c_5, c_7, c_10, c_12] <;> simp [gA, mAccG, mAccR]; done) | (simp [c_1, c_3, c_5, c_7, c_10, c_12, gA, mAccG, mAccR, Bool.and_assoc]; done) | (simp [c_1, c_3, c_5, c_7, c_10, c_12, gA, mAccG, mAccR, Bool.and_assoc, Bool.or_assoc]; done) | rfl | (simp [c_1, c_3, c_5, c_7, c_10, c_12, gA, mAccG, mAccR]; omega)] at hM hg
              exact zc_nret (nI (mAccR g a1)) (congrArg nI (show (0 : Nat) = (mAccR g a1) from by first | with_reducible rfl | (simp [c_1, c_3, c_5, c_7, c_10, c_12, gA, mAccG, mAccR]; done) | (simp only [c_1, c_3, c_5, c_7, c_10, c_12] <;> simp [gA, mAccG, mAccR]; done) | (simp only [gA, mAccG, mAccR, c_1, c_3, c_5, c_7, c_10, c_12] <;> simp [gA, mAccG, mAccR]; done) | (simp [c_1, c_3, c_5, c_7, c_10, c_12, gA, mAccG, mAccR, Bool.and_assoc]; done) | (simp [c_1, c_3, c_5, c_7, c_10, c_12, gA, mAccG, mAccR, Bool.and_assoc, Bool.or_assoc]; done) | rfl | (simp [c_1, c_3, c_5, c_7, c_10, c_12, gA, mAccG, mAccR]; omega))) (hPost H hM hg) hS hx hb hr hlk (Nat.zero_le _) (Nat.zero_le _) dX3_accept_68
  · rw [show (!(inB a1 3)).toNat = 1 from by rw [c_1]; rfl] at hM hg
    refine lv_iconst (v := nI 0) hx hb dX3_accept_11 zi_0 ?_
    rw [show (gs g 22 0 1 : G) = mAccG g a1 from by first | with_reducible rfl | (simp [c_1, gA, mAccG, mAccR]; done) | (simp only [c_1] <;> simp [gA, mAccG, mAccR]; done) | (simp only [gA, mAccG, mAccR, c_1] <;> simp [gA, mAccG, mAccR]; done) | (simp [c_1, gA, mAccG, mAccR, Bool.and_assoc]; done) | (simp [c_1, gA, mAccG, mAccR, Bool.and_assoc, Bool.or_assoc]; done) | rfl | (simp [c_1, gA, mAccG, mAccR]; omega)] at hM hg
    exact zc_nret (nI (mAccR g a1)) (congrArg nI (show (0 : Nat) = (mAccR g a1) from by first | with_reducible rfl | (simp [c_1, gA, mAccG, mAccR]; done) | (simp only [c_1] <;> simp [gA, mAccG, mAccR]; done) | (simp only [gA, mAccG, mAccR, c_1] <;> simp [gA, mAccG, mAccR]; done) | (simp [c_1, gA, mAccG, mAccR, Bool.and_assoc]; done) | (simp [c_1, gA, mAccG, mAccR, Bool.and_assoc, Bool.or_assoc]; done) | rfl | (simp [c_1, gA, mAccG, mAccR]; omega))) (hPost H hM hg) hS hx hb hr hlk (Nat.zero_le _) (Nat.zero_le _) dX3_accept_12
set_option maxHeartbeats 1000000 in
set_option maxRecDepth 100000 in
theorem cM_pays (l : Launch) {D : va_G} {dA : Nat → ClassId} {A : Nat → Prop} {ad : Nat → Nat} {g : G} (hg : Sm g) (a1 : Nat) (ht : g 7 4 < 3) (hb4 : ∀ j, j < 20 → g 4 j ≤ 100) (h1 : a1 < 1048576) (h2 : ∀ k, k < 5 → digN a1 k ≤ g 4 (5 * g 7 4 + k)) (H0 : Heap) (hM : MS D dA A ad g H0) {Post : Option Value → Heap → Prop} (hPost : ∀ H : Heap, MS D dA A ad (gPay g a1) H → Sm (gPay g a1) → Post (none) H) : Ct l yX3_pays (ws_ yX3_pays cX3_pays 2 none) (rmF 3 0 0 62) A (KT D dA) [.ref (ad 0), .int (nI a1)] H0 Post := by
  refine zc_of RX3 rfl (by decide) (Nat.le_of_ble_eq_true rfl) ?_
  intro pr en s m args below meth cd S hr hlk hnm hh hK ls hl
  have hS : va_S A s.heap H0 [] := zc_start hh
  have hg0 := hg
  have hx := S.1
  have hb := S.2.1
  have hown := S.2.2.2.1
  have hts := S.2.2.2.2
  have hl : lv_has ls 2 [(0, .ref (ad 0)), (1, .int (nI a1))] := hl
  refine lv_aload_n hx hb dX3_pays_0 rfl (lv_at hl 0 rfl) ?_
  refine lv_aload_n hx hb dX3_pays_1 rfl (lv_at hl 0 rfl) ?_
  refine gM_turn S hK hM (g 7 4) rfl dX3_pays_2 ?_
  have hb_1 : g 7 4 < 1048576 := by first | exact hg 7 4 | exact hg0 _ _ | (have := hg 7 4; omega) | omega
  refine lv_iconst (v := nI 3) hx hb dX3_pays_5 zi_3 ?_
  refine lv_iload_n hx hb dX3_pays_6 rfl (lv_at hl 1 rfl) ?_
  refine kM_gives S hK hM hg hS (g 7 4) 3 a1 (by first | omega | assumption | grind) (by first | omega | assumption | grind) (by first | omega | assumption | grind) (by exact h2) (by exact fun j hj => Nat.le_trans (hb4 j hj) (by decide)) (Nat.le_of_ble_eq_true rfl) (Nat.le_of_ble_eq_true rfl) hl.1 (Nat.le_of_ble_eq_true rfl) dX3_pays_7 (Nat.zero_le _) (Nat.zero_le _) (fun H locs hM hg hS => ?_)
  rw [show (giveN g (g 7 4) 3 a1 5 : G) = gPay g a1 from by first | with_reducible rfl | (simp [gPay]; done) | (simp [gPay, Bool.and_assoc]; done) | (simp [gPay, Bool.and_assoc, Bool.or_assoc]; done) | rfl | (simp [gPay]; omega)] at hM hg
  exact zc_vret (hPost H hM hg) hS hx hb hr hlk (Nat.zero_le _) (Nat.zero_le _) dX3_pays_10
theorem kM_pays {pr : Program} {l : Launch} {en : Env} {R : Room} {s : State} {m : MethodId} {args : Array Value} {below : List Frame} {meth : Method} {cd : Code} {H : Heap} {locs : List Loc} {cells slots : Nat} {Q : State → Prop} {cc : ByteArray} {pc nL : Nat} {ls : Array Slot} {rest : List Value} {D : va_G} {dA : Nat → ClassId} {A : Nat → Prop} {ad : Nat → Nat} {g : G} (S : CallFix pr m cd cc nL s args lw_all RX3) (hK : KT D dA s) (hM : MS D dA A ad g H) (hg : Sm g) (hS : va_S A s.heap H locs) (a1 : Nat) (ht : g 7 4 < 3) (hb4 : ∀ j, j < 20 → g 4 j ≤ 100) (h1 : a1 < 1048576) (h2 : ∀ k, k < 5 → digN a1 k ≤ g 4 (5 * g 7 4 + k)) (hf : 3 + 1 ≤ R.frames) (hlo : 8 + (2 + 11) + 62 ≤ R.locals) (hsz : ls.size = nL) (hcat : (rest.map fun v => v.category).sum ≤ 8) (hdg : decode cc pc = .ok (.invokevirtual 203, 3)) (hq1 : cells ≤ R.cells) (hq2 : slots ≤ R.slots) (kk : ∀ (H1 : Heap) (locs1 : List Loc), MS D dA A ad (gPay g a1) H1 → Sm (gPay g a1) → va_S A s.heap H1 locs1 → W pr l en R s m args below meth cd H1 locs1 cells slots Q (F0 m (pc + 3) ls (rest))) : W pr l en R s m args below meth cd H locs cells slots Q (F0 m pc ls (.int (nI a1) :: .ref (ad 0) :: rest)) :=
  zc_callV (n := 1) (As := [.int (nI a1)]) (rest := rest) S (cM_pays l hg a1 ht hb4 h1 h2  H hM (Post := (fun v H1 => v = none ∧ MS D dA A ad (gPay g a1) H1 ∧ Sm (gPay g a1))) (fun H1 h h2 => ⟨rfl, h, h2⟩)) (lw_V q1290 q1292 qs59 q76 q1293) (by decide +kernel) ⟨hf, hlo⟩ ⟨hq1, hq2⟩ (zm_recv hK hM) KT_mv (zc_K KT_mv hK hS) hS (fun _ h => h) rfl hsz rfl hcat hdg (fun v H1 locs1 hp _ _ hS1 => by obtain ⟨rfl, hM1, hg1⟩ := hp; exact kk H1 locs1 hM1 hg1 hS1)
set_option maxHeartbeats 1000000 in
set_option maxRecDepth 100000 in
theorem cM_lays (l : Launch) {D : va_G} {dA : Nat → ClassId} {A : Nat → Prop} {ad : Nat → Nat} {g : G} (hg : Sm g) (a1 : Nat) (ht : g 7 4 < 3) (h1 : a1 < 30) (h2 : ∀ p, p < 3 → roadsN (gs g 3 a1 (g 7 4 + 1)) p 30 ≤ 8) (H0 : Heap) (hM : MS D dA A ad g H0) {Post : Option Value → Heap → Prop} (hPost : ∀ H : Heap, MS D dA A ad (gLay g a1) H → Sm (gLay g a1) → Post (none) H) : Ct l yX3_lays (ws_ yX3_lays cX3_lays 2 none) (rmF 7 0 0 156) A (KT D dA) [.ref (ad 0), .int (nI a1)] H0 Post := by
  refine zc_of RX3 rfl (by decide) (Nat.le_of_ble_eq_true rfl) ?_
  intro pr en s m args below meth cd S hr hlk hnm hh hK ls hl
  have hS : va_S A s.heap H0 [] := zc_start hh
  have hg0 := hg
  have hx := S.1
  have hb := S.2.1
  have hown := S.2.2.2.1
  have hts := S.2.2.2.2
  have hl : lv_has ls 2 [(0, .ref (ad 0)), (1, .int (nI a1))] := hl
  refine lv_aload_n hx hb dX3_lays_0 rfl (lv_at hl 0 rfl) ?_
  refine gM_road S hK hM dX3_lays_1 ?_
  refine lv_iload_n hx hb dX3_lays_4 rfl (lv_at hl 1 rfl) ?_
  refine lv_aload_n hx hb dX3_lays_5 rfl (lv_at hl 0 rfl) ?_
  refine gM_turn S hK hM (g 7 4) rfl dX3_lays_6 ?_
  have hb_1 : g 7 4 < 1048576 := by first | exact hg 7 4 | exact hg0 _ _ | (have := hg 7 4; omega) | omega
  refine lv_iconst (v := nI 1) hx hb dX3_lays_9 zi_1 ?_
  refine zr_addN (a := (g 7 4)) (b := 1) hx hb dX3_lays_10 ?_
  refine sM_road S hK hM hS a1 (by omega) ((g 7 4) + 1) dX3_lays_11 (fun H locs hM hS => ?_)
  have hg : Sm (gs g 3 a1 ((g 7 4) + 1)) := Sm_gs hg (by first | omega | exact Nat.lt_of_le_of_lt (Bool.toNat_le _) (by decide) | ((repeat' split) <;> omega))
  refine lv_aload_n hx hb dX3_lays_12 rfl (lv_at hl 0 rfl) ?_
  refine kM_looksAtTrails S hK hM hg hS  (by first | exact h2 | omega) (Nat.le_of_ble_eq_true rfl) (Nat.le_of_ble_eq_true rfl) hl.1 (Nat.le_of_ble_eq_true rfl) dX3_lays_13 (Nat.zero_le _) (Nat.zero_le _) (fun H locs hM hg hS => ?_)
  rw [show (gTr (gs g 3 a1 ((g 7 4) + 1)) : G) = gLay g a1 from by first | with_reducible rfl | (simp [gLay]; done) | (simp [gLay, Bool.and_assoc]; done) | (simp [gLay, Bool.and_assoc, Bool.or_assoc]; done) | rfl | (simp [gLay]; omega)] at hM hg
  exact zc_vret (hPost H hM hg) hS hx hb hr hlk (Nat.zero_le _) (Nat.zero_le _) dX3_lays_16
theorem kM_lays {pr : Program} {l : Launch} {en : Env} {R : Room} {s : State} {m : MethodId} {args : Array Value} {below : List Frame} {meth : Method} {cd : Code} {H : Heap} {locs : List Loc} {cells slots : Nat} {Q : State → Prop} {cc : ByteArray} {pc nL : Nat} {ls : Array Slot} {rest : List Value} {D : va_G} {dA : Nat → ClassId} {A : Nat → Prop} {ad : Nat → Nat} {g : G} (S : CallFix pr m cd cc nL s args lw_all RX3) (hK : KT D dA s) (hM : MS D dA A ad g H) (hg : Sm g) (hS : va_S A s.heap H locs) (a1 : Nat) (ht : g 7 4 < 3) (h1 : a1 < 30) (h2 : ∀ p, p < 3 → roadsN (gs g 3 a1 (g 7 4 + 1)) p 30 ≤ 8) (hf : 7 + 1 ≤ R.frames) (hlo : 8 + (2 + 11) + 156 ≤ R.locals) (hsz : ls.size = nL) (hcat : (rest.map fun v => v.category).sum ≤ 8) (hdg : decode cc pc = .ok (.invokevirtual 206, 3)) (hq1 : cells ≤ R.cells) (hq2 : slots ≤ R.slots) (kk : ∀ (H1 : Heap) (locs1 : List Loc), MS D dA A ad (gLay g a1) H1 → Sm (gLay g a1) → va_S A s.heap H1 locs1 → W pr l en R s m args below meth cd H1 locs1 cells slots Q (F0 m (pc + 3) ls (rest))) : W pr l en R s m args below meth cd H locs cells slots Q (F0 m pc ls (.int (nI a1) :: .ref (ad 0) :: rest)) :=
  zc_callV (n := 1) (As := [.int (nI a1)]) (rest := rest) S (cM_lays l hg a1 ht h1 h2  H hM (Post := (fun v H1 => v = none ∧ MS D dA A ad (gLay g a1) H1 ∧ Sm (gLay g a1))) (fun H1 h h2 => ⟨rfl, h, h2⟩)) (lw_V q1294 q1296 qs60 q76 q1297) (by decide +kernel) ⟨hf, hlo⟩ ⟨hq1, hq2⟩ (zm_recv hK hM) KT_mv (zc_K KT_mv hK hS) hS (fun _ h => h) rfl hsz rfl hcat hdg (fun v H1 locs1 hp _ _ hS1 => by obtain ⟨rfl, hM1, hg1⟩ := hp; exact kk H1 locs1 hM1 hg1 hS1)
