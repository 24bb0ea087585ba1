/-! THE MODEL: rolling (printed by gen/m13.py) -/
theorem rkP_at {all bank gd : Nat} {y : G} (hgd : gd < 5) : ∀ i, ∀ p q, q < 5 → rkP all bank gd y i 21 (5 * p + q) = if q = gd ∧ p < i then (if y 21 (5 * p + q) = all then bank else 0) else y 21 (5 * p + q) := by
  intro i
  induction i with
  | zero => intro p q hq; rw [if_neg (by omega)]; rfl
  | succ i ih =>
    intro p q hq
    show gs (rkP all bank gd y i) 21 (5 * i + gd) (if rkP all bank gd y i 21 (5 * i + gd) = all then bank else 0) 21 (5 * p + q) = _
    by_cases e : 5 * p + q = 5 * i + gd
    · have e1 : p = i := by omega
      have e2 : q = gd := by omega
      have hm := ih p q hq
      rw [if_neg (show ¬ (q = gd ∧ p < i) by omega)] at hm
      rw [e, gs_eq, ← e, hm, if_pos (show q = gd ∧ p < i + 1 by omega)]
    · rw [gs_ni _ e, ih p q hq]
      by_cases r : q = gd ∧ p < i
      · rw [if_pos r, if_pos (show q = gd ∧ p < i + 1 by omega)]
      · rw [if_neg r, if_neg (show ¬ (q = gd ∧ p < i + 1) by omega)]
theorem rkG_far {g : G} {sum : Nat} : ∀ i, i ≤ 5 → ∀ p q, q < 5 → i ≤ q → rkG g sum i 21 (5 * p + q) = rkO g sum 7 21 (5 * p + q) := by
  intro i
  induction i with
  | zero => intro _ p q _ _; rfl
  | succ i ih =>
    intro h p q hq hi
    simp only [rkG]
    split
    · rw [rkP_at (by omega) 3 p q hq, if_neg (by omega)]; exact ih (by omega) p q hq (by omega)
    · exact ih (by omega) p q hq (by omega)
/-- nobody gets more than the bank has -/
theorem rkG_bank {g : G} {sum : Nat} : ∀ i, i ≤ 5 → ∀ q, q < i → rkG g sum i 21 q + rkG g sum i 21 (5 + q) + rkG g sum i 21 (10 + q) ≤ g 4 (15 + q) := by
  intro i
  induction i with
  | zero => intro _ q h; omega
  | succ i ih =>
    intro h q hq
    have e0 : q = 5 * 0 + q := by omega
    have e1 : 5 + q = 5 * 1 + q := by omega
    have e2 : 10 + q = 5 * 2 + q := by omega
    simp only [rkG]
    split
    · rename_i hb
      have a0 := rkP_at (all := rkG g sum i 21 i + rkG g sum i 21 (5 + i) + rkG g sum i 21 (10 + i)) (bank := g 4 (15 + i)) (y := rkG g sum i) (show i < 5 by omega) 3 0 q (by omega)
      have a1 := rkP_at (all := rkG g sum i 21 i + rkG g sum i 21 (5 + i) + rkG g sum i 21 (10 + i)) (bank := g 4 (15 + i)) (y := rkG g sum i) (show i < 5 by omega) 3 1 q (by omega)
      have a2 := rkP_at (all := rkG g sum i 21 i + rkG g sum i 21 (5 + i) + rkG g sum i 21 (10 + i)) (bank := g 4 (15 + i)) (y := rkG g sum i) (show i < 5 by omega) 3 2 q (by omega)
      rw [← e0] at a0; rw [← e1] at a1; rw [← e2] at a2
      by_cases r : q = i
      · rw [if_pos (show q = i ∧ 0 < 3 by omega)] at a0
        rw [if_pos (show q = i ∧ 1 < 3 by omega)] at a1
        rw [if_pos (show q = i ∧ 2 < 3 by omega)] at a2
        rw [a0, a1, a2]
        subst r
        by_cases b0 : rkG g sum q 21 q = rkG g sum q 21 q + rkG g sum q 21 (5 + q) + rkG g sum q 21 (10 + q) <;> by_cases b1 : rkG g sum q 21 (5 + q) = rkG g sum q 21 q + rkG g sum q 21 (5 + q) + rkG g sum q 21 (10 + q) <;> by_cases b2 : rkG g sum q 21 (10 + q) = rkG g sum q 21 q + rkG g sum q 21 (5 + q) + rkG g sum q 21 (10 + q)
        all_goals (first | rw [if_pos b0] | rw [if_neg b0])
        all_goals (first | rw [if_pos b1] | rw [if_neg b1])
        all_goals (first | rw [if_pos b2] | rw [if_neg b2])
        all_goals omega
      · rw [if_neg (show ¬ (q = i ∧ 0 < 3) by omega)] at a0
        rw [if_neg (show ¬ (q = i ∧ 1 < 3) by omega)] at a1
        rw [if_neg (show ¬ (q = i ∧ 2 < 3) by omega)] at a2
        rw [a0, a1, a2]
        exact ih (by omega) q (by omega)
    · rename_i hb
      by_cases r : q = i
      · subst r; omega
      · exact ih (by omega) q (by omega)
def hdN (y : G) : Nat → G
  | 0 => y
  | k + 1 => gs (gs (hdN y k) 4 k (hdN y k 4 k + hdN y k 21 k)) 4 (15 + k % 5) (gs (hdN y k) 4 k (hdN y k 4 k + hdN y k 21 k) 4 (15 + k % 5) - hdN y k 21 k)
theorem hdN_nf (y : G) {f : Nat} (hf : f ≠ 4) : ∀ i j, hdN y i f j = y f j := by
  intro i
  induction i with
  | zero => intro j; rfl
  | succ i ih => intro j; show gs _ 4 _ _ f j = _; rw [gs_nf _ hf, gs_nf _ hf]; exact ih j
theorem hdN_ge (y : G) : ∀ i j, i ≤ j → j < 15 → hdN y i 4 j = y 4 j := by
  intro i
  induction i with
  | zero => intro j _ _; rfl
  | succ i ih => intro j h1 h2; show gs _ 4 _ _ 4 j = _; rw [gs_ni _ (by omega), gs_ni _ (by omega)]; exact ih j (by omega) h2
def usd (y : G) (k q : Nat) : Nat := (if q < k then y 21 q else 0) + (if 5 + q < k then y 21 (5 + q) else 0) + (if 10 + q < k then y 21 (10 + q) else 0)
theorem hdN_bank {y : G} (hs : ∀ q, q < 5 → y 21 q + y 21 (5 + q) + y 21 (10 + q) ≤ y 4 (15 + q)) : ∀ k, k ≤ 15 → ∀ q, q < 5 → hdN y k 4 (15 + q) + usd y k q = y 4 (15 + q) := by
  intro k
  induction k with
  | zero => intro _ q _; unfold usd; rw [if_neg (by omega), if_neg (by omega), if_neg (by omega)]; rfl
  | succ k ih =>
    intro hk q hq
    have h1 := ih (by omega) q hq
    have h2 := hs q hq
    show gs (gs (hdN y k) 4 k (hdN y k 4 k + hdN y k 21 k)) 4 (15 + k % 5) (gs (hdN y k) 4 k (hdN y k 4 k + hdN y k 21 k) 4 (15 + k % 5) - hdN y k 21 k) 4 (15 + q) + usd y (k + 1) q = _
    by_cases e : q = k % 5
    · have e9 : gs (hdN y k) 4 k (hdN y k 4 k + hdN y k 21 k) 4 (15 + k % 5) = hdN y k 4 (15 + k % 5) := gs_ni _ (by omega)
      rw [← e, gs_eq]
      rw [← e] at e9
      rw [e9, hdN_nf _ (show (21 : Nat) ≠ 4 by decide)]
      unfold usd at h1 ⊢
      rcases (show k = q ∨ k = 5 + q ∨ k = 10 + q by omega) with r | r | r
      · subst r
        rw [if_neg (by omega), if_neg (by omega), if_neg (by omega)] at h1
        rw [if_pos (by omega), if_neg (by omega), if_neg (by omega)]; omega
      · subst r
        rw [if_pos (by omega), if_neg (by omega), if_neg (by omega)] at h1
        rw [if_pos (by omega), if_pos (by omega), if_neg (by omega)]; omega
      · subst r
        rw [if_pos (by omega), if_pos (by omega), if_neg (by omega)] at h1
        rw [if_pos (by omega), if_pos (by omega), if_pos (by omega)]; omega
    · rw [gs_ni _ (by omega), gs_ni _ (by omega)]
      have e7 : usd y (k + 1) q = usd y k q := by
        have key : ∀ a v : Nat, a ≠ k → (if a < k + 1 then v else 0) = if a < k then v else 0 := by
          intro a v ha
          by_cases h : a < k
          · rw [if_pos h, if_pos (by omega)]
          · rw [if_neg h, if_neg (by omega)]
        unfold usd
        rw [key _ _ (by omega), key _ _ (by omega), key _ _ (by omega)]
      rw [e7]; exact h1
theorem hdN_can {y : G} (hs : ∀ q, q < 5 → y 21 q + y 21 (5 + q) + y 21 (10 + q) ≤ y 4 (15 + q)) {k : Nat} (hk : k < 15) : hdN y k 21 k ≤ gs (hdN y k) 4 k (hdN y k 4 k + hdN y k 21 k) 4 (15 + k % 5) := by
  have h1 := hdN_bank hs k (by omega) (k % 5) (by omega)
  have h2 := hs (k % 5) (by omega)
  rw [gs_ni _ (by omega), hdN_nf _ (show (21 : Nat) ≠ 4 by decide)]
  unfold usd at h1
  rcases (show k = k % 5 ∨ k = 5 + k % 5 ∨ k = 10 + k % 5 by omega) with r | r | r
  · rw [if_neg (by omega), if_neg (by omega), if_neg (by omega)] at h1; rw [← r] at h1 h2 ⊢; omega
  · rw [if_pos (by omega), if_neg (by omega), if_neg (by omega)] at h1; rw [← r] at h2; omega
  · rw [if_pos (by omega), if_pos (by omega), if_neg (by omega)] at h1; rw [← r] at h2; omega
def duV (y : G) (p : Nat) : Nat := if 7 < handN y p 5 then handN y p 5 / 2 else 0
def duN (y : G) : Nat → G
  | 0 => y
  | i + 1 => gs (duN y i) 5 i (duV y i)
theorem duN_nf (y : G) {f : Nat} (hf : f ≠ 5) : ∀ i j, duN y i f j = y f j := by
  intro i
  induction i with
  | zero => intro j; rfl
  | succ i ih => intro j; show gs _ 5 _ _ f j = _; rw [gs_nf _ hf]; exact ih j
theorem handN_du (y : G) (i p n : Nat) : handN (duN y i) p n = handN y p n := eu_sm_congr (fun k _ => duN_nf _ (by decide) _ _)
def mRollG (g : G) (a1 : Int32) (a2 : Int32) : G := if (inR a1 1 6 && inR a2 1 6) = true then (if (decide (g 7 1 = 1)) = true then ((if tn a1 + tn a2 = 7 then gs (duN (gs (gs (gs g 22 0 0) 7 5 1) 7 1 2) 3) 7 1 (if anyN 3 (fun z => decide (0 < duV (gs (gs (gs g 22 0 0) 7 5 1) 7 1 2) z)) = true then 3 else 4) else hdN (rkG (gs (gs (gs g 22 0 0) 7 5 1) 7 1 2) (tn a1 + tn a2) 5) 15)) else gs (gs g 22 0 0) 22 0 2) else gs g 22 0 1
def mRollR (g : G) (a1 : Int32) (a2 : Int32) : Nat := if (inR a1 1 6 && inR a2 1 6) = true then (if (decide (g 7 1 = 1)) = true then ((if tn a1 + tn a2 = 7 then (if anyN 3 (fun z => decide (0 < duV (gs (gs (gs g 22 0 0) 7 5 1) 7 1 2) z)) = true then 3 else 4) else 2)) else 0) else 0
set_option maxHeartbeats 1000000 in
set_option maxRecDepth 100000 in
theorem cM_roll (l : Launch) {D : va_G} {dA : Nat → ClassId} {A : Nat → Prop} {ad : Nat → Nat} {g : G} (hg : Sm g) (a1 : Int32) (a2 : Int32) (hb4 : ∀ j, j < 20 → g 4 j ≤ 100) (hgd : ∀ h, h < 7 → g 0 h ≤ 5) (hn7 : ∀ h, h < 7 → g 0 h = 5 → g 1 h = 7) (h21 : ∀ j, g 21 j ≤ 2000) (H0 : Heap) (hM : MS D dA A ad g H0) {Post : Option Value → Heap → Prop} (hPost : ∀ H : Heap, MS D dA A ad (mRollG g a1 a2) H → Sm (mRollG g a1 a2) → Post (some (.int (nI (mRollR g a1 a2)))) H) : Ct l yX3_roll (ws_ yX3_roll cX3_roll 5 (some .int)) (rmF 3 0 0 61) A (KT D dA) [.ref (ad 0), .int a1, .int a2] H0 Post := by
  refine zc_of RX3 rfl (by decide) (Nat.le_of_ble_eq_true rfl) ?_
  intro pr en s m args below meth cd S hr hlk hnm hh hK ls hl
  have hS : va_S A s.heap H0 [] := zc_start hh
  have hg0 := hg
  have hx := S.1
  have hb := S.2.1
  have hown := S.2.2.2.1
  have hts := S.2.2.2.2
  have hl : lv_has ls 5 [(0, .ref (ad 0)), (1, .int a1), (2, .int a2)] := hl
  have hb5 : ∀ j, j < 20 → gs g 22 0 0 4 j ≤ 100 := hb4
  refine lv_aload_n hx hb dX3_roll_0 rfl (lv_at hl 0 rfl) ?_
  refine lv_iload_n hx hb dX3_roll_1 rfl (lv_at hl 1 rfl) ?_
  refine lv_iconst (v := nI 1) hx hb dX3_roll_2 zi_1 ?_
  refine lv_bipush (v := nI 6) hx hb dX3_roll_3 zb_6 ?_
  refine kM_in S hK hM hg hS a1 1 6  (Nat.le_of_ble_eq_true rfl) (Nat.le_of_ble_eq_true rfl) hl.1 (Nat.le_of_ble_eq_true rfl) dX3_roll_5 (Nat.zero_le _) (Nat.zero_le _) (fun locs hS => ?_)
  have J_26 : ∀ yS0_26 : Int32, yS0_26 = nI ((inR a1 1 6) && ((inR a2 1 6))).toNat → ∀ (H : Heap) (locs : List Loc), MS D dA A ad g H → va_S A s.heap H locs → ∀ ls : Array Slot, lv_has ls 5 [(0, .ref (ad 0)), (1, .int a1), (2, .int a2)] → W pr l en (rmF 3 0 0 61) s m args below meth cd H locs 0 0 (MQ below (zc_Q Post A) args s 0 0 A) (F0 m 26 ls [.int yS0_26, .ref (ad 0)]) := by
    intro yS0_26 eyS0_26 H locs hM hS ls hl
    subst eyS0_26
    refine kM_asks S hK hM hg hS ((inR a1 1 6) && ((inR a2 1 6)))  (Nat.le_of_ble_eq_true rfl) (Nat.le_of_ble_eq_true rfl) hl.1 (Nat.le_of_ble_eq_true rfl) dX3_roll_26 (Nat.zero_le _) (Nat.zero_le _) (fun H locs hM hg hS => ?_)
    refine zr_if_neB (b := ((inR a1 1 6) && ((inR a2 1 6)))) (tgt := 34) hx hb dX3_roll_29 (by decide) (fun c_3 => ?_) (fun c_3 => ?_)
    · rw [show (!((inR a1 1 6) && ((inR a2 1 6)))).toNat = 0 from by rw [c_3]; rfl] at hM hg
      have hc_4 := c_3
      simp only [Bool.and_eq_true] at hc_4
      obtain ⟨q_5, q_6⟩ := hc_4
      obtain ⟨lj1, hj1, ea1⟩ := inR_tn (by decide) (by decide) q_5
      rw [ea1] at hl
      obtain ⟨lj2, hj2, ea2⟩ := inR_tn (by decide) (by decide) q_6
      rw [ea2] at hl
      refine lv_aload_n hx hb dX3_roll_34 rfl (lv_at hl 0 rfl) ?_
      refine gM_phase S hK hM (g 7 1) (by first | rfl | simp [gs]) dX3_roll_35 ?_
      have hb_7 : g 7 1 < 1048576 := by first | exact hg 7 1 | exact hg0 _ _ | (have := hg 7 1; omega) | omega
      refine lv_iconst (v := nI 1) hx hb dX3_roll_38 zi_1 ?_
      refine zr_icmp_eqN (a := (g 7 1)) (b := 1) (tgt := 48) hx hb (by omega) (by omega) dX3_roll_39 (by decide) (fun c_8 => ?_) (fun c_8 => ?_)
      · refine lv_aload_n hx hb dX3_roll_48 rfl (lv_at hl 0 rfl) ?_
        refine lv_iconst (v := nI 1) hx hb dX3_roll_49 zi_1 ?_
        refine pM_isRolled S hK hM hS 1 (by omega) dX3_roll_50 (fun H locs hM hS => ?_)
        have hg : Sm (gs (gs g 22 0 0) 7 5 1) := Sm_gs hg (by first | omega | exact Nat.lt_of_le_of_lt (Bool.toNat_le _) (by decide) | ((repeat' split) <;> omega))
        refine lv_aload_n hx hb dX3_roll_53 rfl (lv_at hl 0 rfl) ?_
        refine lv_iconst (v := nI 2) hx hb dX3_roll_54 zi_2 ?_
        refine pM_phase S hK hM hS 2 dX3_roll_55 (fun H locs hM hS => ?_)
        have hg : Sm (gs (gs (gs g 22 0 0) 7 5 1) 7 1 2) := Sm_gs hg (by first | omega | exact Nat.lt_of_le_of_lt (Bool.toNat_le _) (by decide) | ((repeat' split) <;> omega))
        refine lv_iload_n hx hb dX3_roll_58 rfl (lv_at hl 1 rfl) ?_
        refine lv_iload_n hx hb dX3_roll_59 rfl (lv_at hl 2 rfl) ?_
        refine zr_addN (a := (tn a1)) (b := (tn a2)) hx hb dX3_roll_60 ?_
        refine lv_bipush (v := nI 7) hx hb dX3_roll_61 zb_7 ?_
        refine zr_icmp_neN (a := ((tn a1) + (tn a2))) (b := 7) (tgt := 151) hx hb (by omega) (by omega) dX3_roll_63 (by decide) (fun c_9 => ?_) (fun c_9 => ?_)
        · refine lv_aload_n hx hb dX3_roll_151 rfl (lv_at hl 0 rfl) ?_
          refine lv_iload_n hx hb dX3_roll_152 rfl (lv_at hl 1 rfl) ?_
          refine lv_iload_n hx hb dX3_roll_153 rfl (lv_at hl 2 rfl) ?_
          refine zr_addN (a := (tn a1)) (b := (tn a2)) hx hb dX3_roll_154 ?_
          refine kM_reckons S hK hM hg hS ((tn a1) + (tn a2)) (by first | omega | assumption | grind) (by exact hgd) (by exact hn7) (by exact h21) (Nat.le_of_ble_eq_true rfl) (Nat.le_of_ble_eq_true rfl) hl.1 (Nat.le_of_ble_eq_true rfl) dX3_roll_155 (Nat.zero_le _) (Nat.zero_le _) (fun H locs hM hg hS => ?_)
          have hs9 : ∀ q, q < 5 → (rkG (gs (gs (gs g 22 0 0) 7 5 1) 7 1 2) (tn a1 + tn a2) 5) 21 q + (rkG (gs (gs (gs g 22 0 0) 7 5 1) 7 1 2) (tn a1 + tn a2) 5) 21 (5 + q) + (rkG (gs (gs (gs g 22 0 0) 7 5 1) 7 1 2) (tn a1 + tn a2) 5) 21 (10 + q) ≤ (rkG (gs (gs (gs g 22 0 0) 7 5 1) 7 1 2) (tn a1 + tn a2) 5) 4 (15 + q) := fun q hq => Nat.le_trans (rkG_bank 5 (by omega) q hq) (Nat.le_of_eq (rkG_nf _ _ (by decide) _ _).symm)
          refine lv_iconst (v := nI 0) hx hb dX3_roll_158 zi_0 ?_
          refine lv_istore_n (lv' := [(3, .int (nI 0)), (0, .ref (ad 0)), (1, .int (nI (tn a1))), (2, .int (nI (tn a2)))]) hx hb dX3_roll_159 rfl hl (by decide) rfl (fun ls hl => ?_)
          have L_160 : ∀ (n_160 : Nat) (k : Nat), k ≤ 15 → 15 - k < n_160 → ∀ gLv : G, gLv = hdN (rkG (gs (gs (gs g 22 0 0) 7 5 1) 7 1 2) (tn a1 + tn a2) 5) k → Sm gLv → ∀ (H : Heap) (locs : List Loc), MS D dA A ad gLv H → va_S A s.heap H locs → ∀ ls : Array Slot, lv_has ls 5 [(0, .ref (ad 0)), (3, .int (nI k))] → W pr l en (rmF 3 0 0 61) s m args below meth cd H locs 0 0 (MQ below (zc_Q Post A) args s 0 0 A) (F0 m 160 ls []) := by
            intro n_160
            induction n_160 with
            | zero => intro k hi_160 hm_160; exact absurd hm_160 (Nat.not_lt_zero _)
            | succ n_160 ih_160 =>
              intro k hi_160 hm_160 gLv egL hg H locs hM hS ls hl
              subst egL
              refine lv_iload_n hx hb dX3_roll_160 rfl (lv_at hl 1 rfl) ?_
              refine lv_bipush (v := nI 15) hx hb dX3_roll_161 zb_15 ?_
              refine zr_icmp_geN (a := k) (b := 15) (tgt := 207) hx hb (by omega) (by omega) dX3_roll_163 (by decide) (fun c_10 => ?_) (fun c_10 => ?_)
              · have e_k : 15 = k := by omega
                subst e_k
                refine lv_aload_n hx hb dX3_roll_207 rfl (lv_at hl 0 rfl) ?_
                refine gM_phase S hK hM ((hdN (rkG (gs (gs (gs g 22 0 0) 7 5 1) 7 1 2) (tn a1 + tn a2) 5) 15) 7 1) rfl dX3_roll_208 ?_
                have hb_11 : (hdN (rkG (gs (gs (gs g 22 0 0) 7 5 1) 7 1 2) (tn a1 + tn a2) 5) 15) 7 1 < 1048576 := by first | exact hg 7 1 | exact hg0 _ _ | (have := hg 7 1; omega) | omega
                rw [show (hdN (rkG (gs (gs (gs g 22 0 0) 7 5 1) 7 1 2) (tn a1 + tn a2) 5) 15 : G) = mRollG g a1 a2 from by first | (simp [mRollG, c_3, q_5, q_6, c_8, c_9, c_10]; done) | (simp only [mRollG, c_3, q_5, q_6, c_8, c_9, c_10]; done)] at hM hg
                exact zc_nret (nI (mRollR g a1 a2)) (congrArg nI (show ((hdN (rkG (gs (gs (gs g 22 0 0) 7 5 1) 7 1 2) (tn a1 + tn a2) 5) 15) 7 1 : Nat) = (mRollR g a1 a2) from by first | (simp [mRollR, c_3, q_5, q_6, c_8, c_9, c_10]; done) | (simp [mRollR, c_3, q_5, q_6, c_8, c_9, c_10, hdN_nf, rkG_nf, gs]; done))) (hPost H hM hg) hS hx hb hr hlk (Nat.zero_le _) (Nat.zero_le _) dX3_roll_211
              · have hc9 := hdN_can hs9 (k := k) (by omega)
                have hr9 : (rkG (gs (gs (gs g 22 0 0) 7 5 1) 7 1 2) (tn a1 + tn a2) 5) 4 k ≤ 100 := by rw [rkG_nf _ _ (by decide)]; exact hb4 k (by omega)
                have hge := hdN_ge (rkG (gs (gs (gs g 22 0 0) 7 5 1) 7 1 2) (tn a1 + tn a2) 5) k k (Nat.le_refl _) (by omega)
                have h219 := hdN_nf (rkG (gs (gs (gs g 22 0 0) 7 5 1) 7 1 2) (tn a1 + tn a2) 5) (show (21:Nat) ≠ 4 by decide) k k
                have hbk9 : (rkG (gs (gs (gs g 22 0 0) 7 5 1) 7 1 2) (tn a1 + tn a2) 5) 21 k ≤ 100 := by
                  have e := hs9 (k % 5) (by omega)
                  rw [rkG_nf _ _ (show (4:Nat) ≠ 21 by decide)] at e
                  have e2 : (gs (gs (gs g 22 0 0) 7 5 1) 7 1 2) 4 (15 + k % 5) ≤ 100 := hb4 _ (by omega)
                  rcases (show k = k % 5 ∨ k = 5 + k % 5 ∨ k = 10 + k % 5 by omega) with r | r | r <;> (first | (rw [← r] at e e2; omega) | (rw [← r] at e; omega))
                refine lv_aload_n hx hb dX3_roll_166 rfl (lv_at hl 0 rfl) ?_
                refine gM_hand S hK hM dX3_roll_167 ?_
                refine lv_iload_n hx hb dX3_roll_170 rfl (lv_at hl 1 rfl) ?_
                refine lv_dup2_11 hx hb dX3_roll_171 rfl rfl ?_
                refine lM_hand S hK hM k (by omega) ((hdN (rkG (gs (gs (gs g 22 0 0) 7 5 1) 7 1 2) (tn a1 + tn a2) 5) k) 4 k) rfl dX3_roll_172 ?_
                have hb_12 : (hdN (rkG (gs (gs (gs g 22 0 0) 7 5 1) 7 1 2) (tn a1 + tn a2) 5) k) 4 k < 1048576 := by first | exact hg 4 k | exact hg0 _ _ | (have := hg 4 k; omega) | omega
                refine lv_aload_n hx hb dX3_roll_173 rfl (lv_at hl 0 rfl) ?_
                refine gM_yield S hK hM dX3_roll_174 ?_
                refine lv_iload_n hx hb dX3_roll_177 rfl (lv_at hl 1 rfl) ?_
                refine lM_yield S hK hM k (by omega) ((hdN (rkG (gs (gs (gs g 22 0 0) 7 5 1) 7 1 2) (tn a1 + tn a2) 5) k) 21 k) rfl dX3_roll_178 ?_
                have hb_13 : (hdN (rkG (gs (gs (gs g 22 0 0) 7 5 1) 7 1 2) (tn a1 + tn a2) 5) k) 21 k < 1048576 := by first | exact hg 21 k | exact hg0 _ _ | (have := hg 21 k; omega) | omega
                refine zr_addN (a := ((hdN (rkG (gs (gs (gs g 22 0 0) 7 5 1) 7 1 2) (tn a1 + tn a2) 5) k) 4 k)) (b := ((hdN (rkG (gs (gs (gs g 22 0 0) 7 5 1) 7 1 2) (tn a1 + tn a2) 5) k) 21 k)) hx hb dX3_roll_179 ?_
                refine sM_hand S hK hM hS k (by omega) (((hdN (rkG (gs (gs (gs g 22 0 0) 7 5 1) 7 1 2) (tn a1 + tn a2) 5) k) 4 k) + ((hdN (rkG (gs (gs (gs g 22 0 0) 7 5 1) 7 1 2) (tn a1 + tn a2) 5) k) 21 k)) dX3_roll_180 (fun H locs hM hS => ?_)
                have hg : Sm (gs (hdN (rkG (gs (gs (gs g 22 0 0) 7 5 1) 7 1 2) (tn a1 + tn a2) 5) k) 4 k (((hdN (rkG (gs (gs (gs g 22 0 0) 7 5 1) 7 1 2) (tn a1 + tn a2) 5) k) 4 k) + ((hdN (rkG (gs (gs (gs g 22 0 0) 7 5 1) 7 1 2) (tn a1 + tn a2) 5) k) 21 k))) := Sm_gs hg (by first | omega | exact Nat.lt_of_le_of_lt (Bool.toNat_le _) (by decide) | ((repeat' split) <;> omega))
                refine lv_aload_n hx hb dX3_roll_181 rfl (lv_at hl 0 rfl) ?_
                refine gM_hand S hK hM dX3_roll_182 ?_
                refine lv_bipush (v := nI 15) hx hb dX3_roll_185 zb_15 ?_
                refine lv_iload_n hx hb dX3_roll_187 rfl (lv_at hl 1 rfl) ?_
                refine lv_iconst (v := nI 5) hx hb dX3_roll_188 zi_5 ?_
                refine zr_remN (a := k) (b := 5) hx hb (by omega) (by omega) (by omega) dX3_roll_189 ?_
                refine zr_addN (a := 15) (b := (k % 5)) hx hb dX3_roll_190 ?_
                refine lv_dup2_11 hx hb dX3_roll_191 rfl rfl ?_
                refine lM_hand S hK hM (15 + (k % 5)) (by omega) ((gs (hdN (rkG (gs (gs (gs g 22 0 0) 7 5 1) 7 1 2) (tn a1 + tn a2) 5) k) 4 k (((hdN (rkG (gs (gs (gs g 22 0 0) 7 5 1) 7 1 2) (tn a1 + tn a2) 5) k) 4 k) + ((hdN (rkG (gs (gs (gs g 22 0 0) 7 5 1) 7 1 2) (tn a1 + tn a2) 5) k) 21 k))) 4 (15 + (k % 5))) (by first | rfl | simp [gs]) dX3_roll_192 ?_
                have hb_14 : (gs (hdN (rkG (gs (gs (gs g 22 0 0) 7 5 1) 7 1 2) (tn a1 + tn a2) 5) k) 4 k (((hdN (rkG (gs (gs (gs g 22 0 0) 7 5 1) 7 1 2) (tn a1 + tn a2) 5) k) 4 k) + ((hdN (rkG (gs (gs (gs g 22 0 0) 7 5 1) 7 1 2) (tn a1 + tn a2) 5) k) 21 k))) 4 (15 + (k % 5)) < 1048576 := by first | exact hg 4 (15 + (k % 5)) | exact hg0 _ _ | (have := hg 4 (15 + (k % 5)); omega) | omega
                refine lv_aload_n hx hb dX3_roll_193 rfl (lv_at hl 0 rfl) ?_
                refine gM_yield S hK hM dX3_roll_194 ?_
                refine lv_iload_n hx hb dX3_roll_197 rfl (lv_at hl 1 rfl) ?_
                refine lM_yield S hK hM k (by omega) ((hdN (rkG (gs (gs (gs g 22 0 0) 7 5 1) 7 1 2) (tn a1 + tn a2) 5) k) 21 k) (by first | rfl | simp [gs]) dX3_roll_198 ?_
                have hb_15 : (hdN (rkG (gs (gs (gs g 22 0 0) 7 5 1) 7 1 2) (tn a1 + tn a2) 5) k) 21 k < 1048576 := by first | exact hg 21 k | exact hg0 _ _ | (have := hg 21 k; omega) | omega
                refine zr_subN (a := ((gs (hdN (rkG (gs (gs (gs g 22 0 0) 7 5 1) 7 1 2) (tn a1 + tn a2) 5) k) 4 k (((hdN (rkG (gs (gs (gs g 22 0 0) 7 5 1) 7 1 2) (tn a1 + tn a2) 5) k) 4 k) + ((hdN (rkG (gs (gs (gs g 22 0 0) 7 5 1) 7 1 2) (tn a1 + tn a2) 5) k) 21 k))) 4 (15 + (k % 5)))) (b := ((hdN (rkG (gs (gs (gs g 22 0 0) 7 5 1) 7 1 2) (tn a1 + tn a2) 5) k) 21 k)) hx hb (by omega) dX3_roll_199 ?_
                refine sM_hand S hK hM hS (15 + (k % 5)) (by omega) (((gs (hdN (rkG (gs (gs (gs g 22 0 0) 7 5 1) 7 1 2) (tn a1 + tn a2) 5) k) 4 k (((hdN (rkG (gs (gs (gs g 22 0 0) 7 5 1) 7 1 2) (tn a1 + tn a2) 5) k) 4 k) + ((hdN (rkG (gs (gs (gs g 22 0 0) 7 5 1) 7 1 2) (tn a1 + tn a2) 5) k) 21 k))) 4 (15 + (k % 5))) - ((hdN (rkG (gs (gs (gs g 22 0 0) 7 5 1) 7 1 2) (tn a1 + tn a2) 5) k) 21 k)) dX3_roll_200 (fun H locs hM hS => ?_)
                have hg : Sm (gs (gs (hdN (rkG (gs (gs (gs g 22 0 0) 7 5 1) 7 1 2) (tn a1 + tn a2) 5) k) 4 k (((hdN (rkG (gs (gs (gs g 22 0 0) 7 5 1) 7 1 2) (tn a1 + tn a2) 5) k) 4 k) + ((hdN (rkG (gs (gs (gs g 22 0 0) 7 5 1) 7 1 2) (tn a1 + tn a2) 5) k) 21 k))) 4 (15 + (k % 5)) (((gs (hdN (rkG (gs (gs (gs g 22 0 0) 7 5 1) 7 1 2) (tn a1 + tn a2) 5) k) 4 k (((hdN (rkG (gs (gs (gs g 22 0 0) 7 5 1) 7 1 2) (tn a1 + tn a2) 5) k) 4 k) + ((hdN (rkG (gs (gs (gs g 22 0 0) 7 5 1) 7 1 2) (tn a1 + tn a2) 5) k) 21 k))) 4 (15 + (k % 5))) - ((hdN (rkG (gs (gs (gs g 22 0 0) 7 5 1) 7 1 2) (tn a1 + tn a2) 5) k) 21 k))) := Sm_gs hg (by first | omega | exact Nat.lt_of_le_of_lt (Bool.toNat_le _) (by decide) | ((repeat' split) <;> omega))
                refine lv_iinc (v := nI (k + 1)) (lv' := [(3, .int (nI (k + 1))), (0, .ref (ad 0))]) hx hb dX3_roll_201 hl (k := 1) rfl (zk_inc _) (by decide) rfl (fun ls hl => ?_)
                refine lv_goto (tgt := 160) hx hb dX3_roll_204 (by decide) ?_
                exact ih_160 (k + 1) (by first | omega | assumption | (simp; done) | grind) (by omega) (gs (gs (hdN (rkG (gs (gs (gs g 22 0 0) 7 5 1) 7 1 2) (tn a1 + tn a2) 5) k) 4 k (((hdN (rkG (gs (gs (gs g 22 0 0) 7 5 1) 7 1 2) (tn a1 + tn a2) 5) k) 4 k) + ((hdN (rkG (gs (gs (gs g 22 0 0) 7 5 1) 7 1 2) (tn a1 + tn a2) 5) k) 21 k))) 4 (15 + (k % 5)) (((gs (hdN (rkG (gs (gs (gs g 22 0 0) 7 5 1) 7 1 2) (tn a1 + tn a2) 5) k) 4 k (((hdN (rkG (gs (gs (gs g 22 0 0) 7 5 1) 7 1 2) (tn a1 + tn a2) 5) k) 4 k) + ((hdN (rkG (gs (gs (gs g 22 0 0) 7 5 1) 7 1 2) (tn a1 + tn a2) 5) k) 21 k))) 4 (15 + (k % 5))) - ((hdN (rkG (gs (gs (gs g 22 0 0) 7 5 1) 7 1 2) (tn a1 + tn a2) 5) k) 21 k))) (rfl) hg H locs hM hS ls (lv_sub hl [1, 0] rfl)
          exact L_160 _ 0 (by first | omega | assumption | (simp; done) | grind) (Nat.lt_succ_self _) (rkG (gs (gs (gs g 22 0 0) 7 5 1) 7 1 2) ((tn a1) + (tn a2)) 5) (rfl) hg H locs hM hS ls (lv_sub hl [1, 0] rfl)
        · refine lv_iconst (v := nI 0) hx hb dX3_roll_66 zi_0 ?_
          refine lv_istore_n (lv' := [(3, .int (nI 0)), (0, .ref (ad 0)), (1, .int (nI (tn a1))), (2, .int (nI (tn a2)))]) hx hb dX3_roll_67 rfl hl (by decide) rfl (fun ls hl => ?_)
          refine lv_iconst (v := nI 0) hx hb dX3_roll_68 zi_0 ?_
          refine lv_istore (lv' := [(4, .int (nI 0)), (3, .int (nI 0)), (0, .ref (ad 0)), (1, .int (nI (tn a1))), (2, .int (nI (tn a2)))]) hx hb dX3_roll_69 hl (by decide) rfl (fun ls hl => ?_)
          have L_71 : ∀ (n_71 : Nat) (i : Nat), i ≤ 3 → 3 - i < n_71 → ∀ x3_71 : Int32, x3_71 = nI (anyN i (fun z => decide (0 < duV (gs (gs (gs g 22 0 0) 7 5 1) 7 1 2) z))).toNat → ∀ gLv : G, gLv = duN (gs (gs (gs g 22 0 0) 7 5 1) 7 1 2) i → Sm gLv → ∀ (H : Heap) (locs : List Loc), MS D dA A ad gLv H → va_S A s.heap H locs → ∀ ls : Array Slot, lv_has ls 5 [(0, .ref (ad 0)), (3, .int x3_71), (4, .int (nI i))] → W pr l en (rmF 3 0 0 61) s m args below meth cd H locs 0 0 (MQ below (zc_Q Post A) args s 0 0 A) (F0 m 71 ls []) := by
            intro n_71
            induction n_71 with
            | zero => intro i hi_71 hm_71; exact absurd hm_71 (Nat.not_lt_zero _)
            | succ n_71 ih_71 =>
              intro i hi_71 hm_71 x3_71 ex3_71 gLv egL hg H locs hM hS ls hl
              subst ex3_71
              subst egL
              refine lv_iload hx hb dX3_roll_71 (lv_at hl 2 rfl) ?_
              refine lv_iconst (v := nI 3) hx hb dX3_roll_73 zi_3 ?_
              refine zr_icmp_geN (a := i) (b := 3) (tgt := 133) hx hb (by omega) (by omega) dX3_roll_74 (by decide) (fun c_16 => ?_) (fun c_16 => ?_)
              · have e_i : 3 = i := by omega
                subst e_i
                refine lv_aload_n hx hb dX3_roll_133 rfl (lv_at hl 0 rfl) ?_
                refine lv_iload_n hx hb dX3_roll_134 rfl (lv_at hl 1 rfl) ?_
                refine zr_if_eqB (b := anyN 3 (fun z => decide (0 < duV (gs (gs (gs g 22 0 0) 7 5 1) 7 1 2) z))) (tgt := 142) hx hb dX3_roll_135 (by decide) (fun c_17 => ?_) (fun c_17 => ?_)
                · refine lv_iconst (v := nI 4) hx hb dX3_roll_142 zi_4 ?_
                  refine pM_phase S hK hM hS 4 dX3_roll_143 (fun H locs hM hS => ?_)
                  have hg : Sm (gs (duN (gs (gs (gs g 22 0 0) 7 5 1) 7 1 2) 3) 7 1 4) := Sm_gs hg (by first | omega | exact Nat.lt_of_le_of_lt (Bool.toNat_le _) (by decide) | ((repeat' split) <;> omega))
                  refine lv_aload_n hx hb dX3_roll_146 rfl (lv_at hl 0 rfl) ?_
                  refine gM_phase S hK hM 4 (by first | rfl | simp [gs]) dX3_roll_147 ?_
                  have hb_18 : 4 < 1048576 := by first | exact hg 7 1 | exact hg0 _ _ | (have := hg 7 1; omega) | omega
                  rw [show (gs (duN (gs (gs (gs g 22 0 0) 7 5 1) 7 1 2) 3) 7 1 4 : G) = mRollG g a1 a2 from by first | (simp [mRollG, c_3, q_5, q_6, c_8, c_9, c_16, c_17]; done) | (simp only [mRollG, c_3, q_5, q_6, c_8, c_9, c_16, c_17]; done)] at hM hg
                  exact zc_nret (nI (mRollR g a1 a2)) (congrArg nI (show (4 : Nat) = (mRollR g a1 a2) from by first | (simp [mRollR, c_3, q_5, q_6, c_8, c_9, c_16, c_17]; done) | (simp [mRollR, c_3, q_5, q_6, c_8, c_9, c_16, c_17, hdN_nf, rkG_nf, gs]; done))) (hPost H hM hg) hS hx hb hr hlk (Nat.zero_le _) (Nat.zero_le _) dX3_roll_150
                · refine lv_iconst (v := nI 3) hx hb dX3_roll_138 zi_3 ?_
                  refine lv_goto (tgt := 143) hx hb dX3_roll_139 (by decide) ?_
                  refine pM_phase S hK hM hS 3 dX3_roll_143 (fun H locs hM hS => ?_)
                  have hg : Sm (gs (duN (gs (gs (gs g 22 0 0) 7 5 1) 7 1 2) 3) 7 1 3) := Sm_gs hg (by first | omega | exact Nat.lt_of_le_of_lt (Bool.toNat_le _) (by decide) | ((repeat' split) <;> omega))
                  refine lv_aload_n hx hb dX3_roll_146 rfl (lv_at hl 0 rfl) ?_
                  refine gM_phase S hK hM 3 (by first | rfl | simp [gs]) dX3_roll_147 ?_
                  have hb_19 : 3 < 1048576 := by first | exact hg 7 1 | exact hg0 _ _ | (have := hg 7 1; omega) | omega
                  rw [show (gs (duN (gs (gs (gs g 22 0 0) 7 5 1) 7 1 2) 3) 7 1 3 : G) = mRollG g a1 a2 from by first | (simp [mRollG, c_3, q_5, q_6, c_8, c_9, c_16, c_17]; done) | (simp only [mRollG, c_3, q_5, q_6, c_8, c_9, c_16, c_17]; done)] at hM hg
                  exact zc_nret (nI (mRollR g a1 a2)) (congrArg nI (show (3 : Nat) = (mRollR g a1 a2) from by first | (simp [mRollR, c_3, q_5, q_6, c_8, c_9, c_16, c_17]; done) | (simp [mRollR, c_3, q_5, q_6, c_8, c_9, c_16, c_17, hdN_nf, rkG_nf, gs]; done))) (hPost H hM hg) hS hx hb hr hlk (Nat.zero_le _) (Nat.zero_le _) dX3_roll_150
              · refine lv_aload_n hx hb dX3_roll_77 rfl (lv_at hl 0 rfl) ?_
                refine gM_due S hK hM dX3_roll_78 ?_
                refine lv_iload hx hb dX3_roll_81 (lv_at hl 2 rfl) ?_
                refine lv_aload_n hx hb dX3_roll_83 rfl (lv_at hl 0 rfl) ?_
                refine lv_iload hx hb dX3_roll_84 (lv_at hl 2 rfl) ?_
                refine kM_handOf S hK hM hg hS i (by first | omega | assumption | grind) (Nat.le_of_ble_eq_true rfl) (Nat.le_of_ble_eq_true rfl) hl.1 (Nat.le_of_ble_eq_true rfl) dX3_roll_86 (Nat.zero_le _) (Nat.zero_le _) (fun locs hS => ?_)
                have f86_0 : handN (duN (gs (gs (gs g 22 0 0) 7 5 1) 7 1 2) i) i 5 < 5242880 := handN_lt hg _
                rw [handN_du]
                have hhn := handN_lt (g := gs (gs (gs g 22 0 0) 7 5 1) 7 1 2) (Sm_gs (Sm_gs (Sm_gs hg0 (by decide)) (by decide)) (by decide)) i
                have hdv : duV (gs (gs (gs g 22 0 0) 7 5 1) 7 1 2) i ≤ handN (gs (gs (gs g 22 0 0) 7 5 1) 7 1 2) i 5 := by unfold duV; split <;> omega
                have hh100 : handN (gs (gs (gs g 22 0 0) 7 5 1) 7 1 2) i 5 ≤ 500 := by
                  have e := fun k (hk : k < 5) => hb4 (5 * i + k) (by omega)
                  have e0 := e 0 (by omega); have e1 := e 1 (by omega); have e2 := e 2 (by omega); have e3 := e 3 (by omega); have e4 := e 4 (by omega)
                  show 0 + g 4 (5 * i + 0) + g 4 (5 * i + 1) + g 4 (5 * i + 2) + g 4 (5 * i + 3) + g 4 (5 * i + 4) ≤ 500
                  omega
                refine lv_bipush (v := nI 7) hx hb dX3_roll_89 zb_7 ?_
                have J_106 : ∀ yS0_106 : Int32, yS0_106 = nI (duV (gs (gs (gs g 22 0 0) 7 5 1) 7 1 2) i) → ∀ (H : Heap) (locs : List Loc), MS D dA A ad (duN (gs (gs (gs g 22 0 0) 7 5 1) 7 1 2) i) H → va_S A s.heap H locs → ∀ ls : Array Slot, lv_has ls 5 [(0, .ref (ad 0)), (3, .int (nI (anyN i (fun z => decide (0 < duV (gs (gs (gs g 22 0 0) 7 5 1) 7 1 2) z))).toNat)), (4, .int (nI i))] → W pr l en (rmF 3 0 0 61) s m args below meth cd H locs 0 0 (MQ below (zc_Q Post A) args s 0 0 A) (F0 m 106 ls [.int yS0_106, .int (nI i), .ref (ad 6)]) := by
                  intro yS0_106 eyS0_106 H locs hM hS ls hl
                  subst eyS0_106
                  refine sM_due S hK hM hS i (by omega) (duV (gs (gs (gs g 22 0 0) 7 5 1) 7 1 2) i) dX3_roll_106 (fun H locs hM hS => ?_)
                  have hg : Sm (gs (duN (gs (gs (gs g 22 0 0) 7 5 1) 7 1 2) i) 5 i (duV (gs (gs (gs g 22 0 0) 7 5 1) 7 1 2) i)) := Sm_gs hg (by first | omega | exact Nat.lt_of_le_of_lt (Bool.toNat_le _) (by decide) | ((repeat' split) <;> omega))
                  refine lv_iload_n hx hb dX3_roll_107 rfl (lv_at hl 1 rfl) ?_
                  have J_126 : ∀ yS0_126 : Int32, yS0_126 = nI ((anyN i (fun z => decide (0 < duV (gs (gs (gs g 22 0 0) 7 5 1) 7 1 2) z))) || (decide (0 < (duV (gs (gs (gs g 22 0 0) 7 5 1) 7 1 2) i)))).toNat → ∀ (H : Heap) (locs : List Loc), MS D dA A ad (gs (duN (gs (gs (gs g 22 0 0) 7 5 1) 7 1 2) i) 5 i (duV (gs (gs (gs g 22 0 0) 7 5 1) 7 1 2) i)) H → va_S A s.heap H locs → ∀ ls : Array Slot, lv_has ls 5 [(0, .ref (ad 0)), (4, .int (nI i))] → W pr l en (rmF 3 0 0 61) s m args below meth cd H locs 0 0 (MQ below (zc_Q Post A) args s 0 0 A) (F0 m 126 ls [.int yS0_126]) := by
                    intro yS0_126 eyS0_126 H locs hM hS ls hl
                    subst eyS0_126
                    refine lv_istore_n (lv' := [(3, .int (nI ((anyN i (fun z => decide (0 < duV (gs (gs (gs g 22 0 0) 7 5 1) 7 1 2) z))) || (decide (0 < (duV (gs (gs (gs g 22 0 0) 7 5 1) 7 1 2) i)))).toNat)), (0, .ref (ad 0)), (4, .int (nI i))]) hx hb dX3_roll_126 rfl hl (by decide) rfl (fun ls hl => ?_)
                    refine lv_iinc (v := nI (i + 1)) (lv' := [(4, .int (nI (i + 1))), (3, .int (nI ((anyN i (fun z => decide (0 < duV (gs (gs (gs g 22 0 0) 7 5 1) 7 1 2) z))) || (decide (0 < (duV (gs (gs (gs g 22 0 0) 7 5 1) 7 1 2) i)))).toNat)), (0, .ref (ad 0))]) hx hb dX3_roll_127 hl (k := 2) rfl (zk_inc _) (by decide) rfl (fun ls hl => ?_)
                    refine lv_goto (tgt := 71) hx hb dX3_roll_130 (by decide) ?_
                    exact ih_71 (i + 1) (by first | omega | assumption | (simp; done) | grind) (by omega) _ (congrArg (fun z : Bool => nI z.toNat) (show ((anyN i (fun z => decide (0 < duV (gs (gs (gs g 22 0 0) 7 5 1) 7 1 2) z))) || (decide (0 < (duV (gs (gs (gs g 22 0 0) 7 5 1) 7 1 2) i))) : Bool) = (anyN (i + 1) (fun z => decide (0 < duV (gs (gs (gs g 22 0 0) 7 5 1) 7 1 2) z))) from by first | with_reducible rfl | (simp [c_3, q_5, q_6, c_8, c_9, c_16, duV, anyN]; done) | (simp only [c_3, q_5, q_6, c_8, c_9, c_16] <;> simp [duV, anyN]; done) | (simp only [duV, anyN, c_3, q_5, q_6, c_8, c_9, c_16] <;> simp [duV, anyN]; done) | (simp [c_3, q_5, q_6, c_8, c_9, c_16, duV, anyN, Bool.and_assoc]; done) | (simp [c_3, q_5, q_6, c_8, c_9, c_16, duV, anyN, Bool.and_assoc, Bool.or_assoc]; done) | rfl | (simp [c_3, q_5, q_6, c_8, c_9, c_16, duV, anyN]; omega))) (gs (duN (gs (gs (gs g 22 0 0) 7 5 1) 7 1 2) i) 5 i (duV (gs (gs (gs g 22 0 0) 7 5 1) 7 1 2) i)) (rfl) hg H locs hM hS ls (lv_sub hl [2, 1, 0] rfl)
                  refine zr_if_neB (b := anyN i (fun z => decide (0 < duV (gs (gs (gs g 22 0 0) 7 5 1) 7 1 2) z))) (tgt := 121) hx hb dX3_roll_108 (by decide) (fun c_24 => ?_) (fun c_24 => ?_)
                  · refine lv_iconst (v := nI 1) hx hb dX3_roll_121 zi_1 ?_
                    refine lv_goto (tgt := 126) hx hb dX3_roll_122 (by decide) ?_
                    exact J_126 _ (congrArg (fun z : Bool => nI z.toNat) (show (true : Bool) = ((anyN i (fun z => decide (0 < duV (gs (gs (gs g 22 0 0) 7 5 1) 7 1 2) z))) || (decide (0 < (duV (gs (gs (gs g 22 0 0) 7 5 1) 7 1 2) i)))) from by first | with_reducible rfl | (simp [c_3, q_5, q_6, c_8, c_9, c_16, c_24, duV]; done) | (simp only [c_3, q_5, q_6, c_8, c_9, c_16, c_24] <;> simp [duV]; done) | (simp only [duV, c_3, q_5, q_6, c_8, c_9, c_16, c_24] <;> simp [duV]; done) | (simp [c_3, q_5, q_6, c_8, c_9, c_16, c_24, duV, Bool.and_assoc]; done) | (simp [c_3, q_5, q_6, c_8, c_9, c_16, c_24, duV, Bool.and_assoc, Bool.or_assoc]; done) | rfl | (simp [c_3, q_5, q_6, c_8, c_9, c_16, c_24, duV]; omega))) H locs hM hS ls (lv_sub hl [0, 2] rfl)
                  · refine lv_aload_n hx hb dX3_roll_111 rfl (lv_at hl 0 rfl) ?_
                    refine gM_due S hK hM dX3_roll_112 ?_
                    refine lv_iload hx hb dX3_roll_115 (lv_at hl 2 rfl) ?_
                    refine lM_due S hK hM i (by omega) (duV (gs (gs (gs g 22 0 0) 7 5 1) 7 1 2) i) (by first | rfl | simp [gs]) dX3_roll_117 ?_
                    have hb_25 : duV (gs (gs (gs g 22 0 0) 7 5 1) 7 1 2) i < 1048576 := by first | exact hg 5 i | exact hg0 _ _ | (have := hg 5 i; omega) | omega
                    refine zr_if_leN (a := (duV (gs (gs (gs g 22 0 0) 7 5 1) 7 1 2) i)) (tgt := 125) hx hb (by omega) dX3_roll_118 (by decide) (fun c_26 => ?_) (fun c_26 => ?_)
                    · refine lv_iconst (v := nI 0) hx hb dX3_roll_125 zi_0 ?_
                      exact J_126 _ (congrArg (fun z : Bool => nI z.toNat) (show (false : Bool) = ((anyN i (fun z => decide (0 < duV (gs (gs (gs g 22 0 0) 7 5 1) 7 1 2) z))) || (decide (0 < (duV (gs (gs (gs g 22 0 0) 7 5 1) 7 1 2) i)))) from by first | with_reducible rfl | (simp [c_3, q_5, q_6, c_8, c_9, c_16, c_24, c_26, duV]; done) | (simp only [c_3, q_5, q_6, c_8, c_9, c_16, c_24, c_26] <;> simp [duV]; done) | (simp only [duV, c_3, q_5, q_6, c_8, c_9, c_16, c_24, c_26] <;> simp [duV]; done) | (simp [c_3, q_5, q_6, c_8, c_9, c_16, c_24, c_26, duV, Bool.and_assoc]; done) | (simp [c_3, q_5, q_6, c_8, c_9, c_16, c_24, c_26, duV, Bool.and_assoc, Bool.or_assoc]; done) | rfl | (simp [c_3, q_5, q_6, c_8, c_9, c_16, c_24, c_26, duV]; omega))) H locs hM hS ls (lv_sub hl [0, 2] rfl)
                    · refine lv_iconst (v := nI 1) hx hb dX3_roll_121 zi_1 ?_
                      refine lv_goto (tgt := 126) hx hb dX3_roll_122 (by decide) ?_
                      exact J_126 _ (congrArg (fun z : Bool => nI z.toNat) (show (true : Bool) = ((anyN i (fun z => decide (0 < duV (gs (gs (gs g 22 0 0) 7 5 1) 7 1 2) z))) || (decide (0 < (duV (gs (gs (gs g 22 0 0) 7 5 1) 7 1 2) i)))) from by first | with_reducible rfl | (simp [c_3, q_5, q_6, c_8, c_9, c_16, c_24, c_26, duV]; done) | (simp only [c_3, q_5, q_6, c_8, c_9, c_16, c_24, c_26] <;> simp [duV]; done) | (simp only [duV, c_3, q_5, q_6, c_8, c_9, c_16, c_24, c_26] <;> simp [duV]; done) | (simp [c_3, q_5, q_6, c_8, c_9, c_16, c_24, c_26, duV, Bool.and_assoc]; done) | (simp [c_3, q_5, q_6, c_8, c_9, c_16, c_24, c_26, duV, Bool.and_assoc, Bool.or_assoc]; done) | rfl | (simp [c_3, q_5, q_6, c_8, c_9, c_16, c_24, c_26, duV]; omega))) H locs hM hS ls (lv_sub hl [0, 2] rfl)
                refine zr_icmp_leN (a := (handN (gs (gs (gs g 22 0 0) 7 5 1) 7 1 2) i 5)) (b := 7) (tgt := 105) hx hb (by omega) (by omega) dX3_roll_91 (by decide) (fun c_27 => ?_) (fun c_27 => ?_)
                · refine lv_iconst (v := nI 0) hx hb dX3_roll_105 zi_0 ?_
                  exact J_106 _ (congrArg nI (show (0 : Nat) = (duV (gs (gs (gs g 22 0 0) 7 5 1) 7 1 2) i) from by first | with_reducible rfl | (simp [c_3, q_5, q_6, c_8, c_9, c_16, c_27, duV]; done) | (simp only [c_3, q_5, q_6, c_8, c_9, c_16, c_27] <;> simp [duV]; done) | (simp only [duV, c_3, q_5, q_6, c_8, c_9, c_16, c_27] <;> simp [duV]; done) | (simp [c_3, q_5, q_6, c_8, c_9, c_16, c_27, duV, Bool.and_assoc]; done) | (simp [c_3, q_5, q_6, c_8, c_9, c_16, c_27, duV, Bool.and_assoc, Bool.or_assoc]; done) | rfl | (simp [c_3, q_5, q_6, c_8, c_9, c_16, c_27, duV]; omega))) H locs hM hS ls (lv_sub hl [0, 1, 2] rfl)
                · refine lv_aload_n hx hb dX3_roll_94 rfl (lv_at hl 0 rfl) ?_
                  refine lv_iload hx hb dX3_roll_95 (lv_at hl 2 rfl) ?_
                  refine kM_handOf S hK hM hg hS i (by first | omega | assumption | grind) (Nat.le_of_ble_eq_true rfl) (Nat.le_of_ble_eq_true rfl) hl.1 (Nat.le_of_ble_eq_true rfl) dX3_roll_97 (Nat.zero_le _) (Nat.zero_le _) (fun locs hS => ?_)
                  have f97_0 : handN (duN (gs (gs (gs g 22 0 0) 7 5 1) 7 1 2) i) i 5 < 5242880 := handN_lt hg _
                  rw [handN_du]
                  refine lv_iconst (v := nI 2) hx hb dX3_roll_100 zi_2 ?_
                  refine zr_divN (a := (handN (gs (gs (gs g 22 0 0) 7 5 1) 7 1 2) i 5)) (b := 2) hx hb (by omega) (by omega) (by omega) dX3_roll_101 ?_
                  refine lv_goto (tgt := 106) hx hb dX3_roll_102 (by decide) ?_
                  exact J_106 _ (congrArg nI (show ((handN (gs (gs (gs g 22 0 0) 7 5 1) 7 1 2) i 5) / 2 : Nat) = (duV (gs (gs (gs g 22 0 0) 7 5 1) 7 1 2) i) from by first | with_reducible rfl | (simp [c_3, q_5, q_6, c_8, c_9, c_16, c_27, duV]; done) | (simp only [c_3, q_5, q_6, c_8, c_9, c_16, c_27] <;> simp [duV]; done) | (simp only [duV, c_3, q_5, q_6, c_8, c_9, c_16, c_27] <;> simp [duV]; done) | (simp [c_3, q_5, q_6, c_8, c_9, c_16, c_27, duV, Bool.and_assoc]; done) | (simp [c_3, q_5, q_6, c_8, c_9, c_16, c_27, duV, Bool.and_assoc, Bool.or_assoc]; done) | rfl | (simp [c_3, q_5, q_6, c_8, c_9, c_16, c_27, duV]; omega))) H locs hM hS ls (lv_sub hl [0, 1, 2] rfl)
          exact L_71 _ 0 (by first | omega | assumption | (simp; done) | grind) (Nat.lt_succ_self _) _ (rfl) (gs (gs (gs g 22 0 0) 7 5 1) 7 1 2) (rfl) hg H locs hM hS ls (lv_sub hl [2, 1, 0] rfl)
      · refine lv_aload_n hx hb dX3_roll_42 rfl (lv_at hl 0 rfl) ?_
        refine lv_iconst (v := nI 2) hx hb dX3_roll_43 zi_2 ?_
        refine kM_fails S hK hM hg hS 2 (by first | omega | assumption | grind) (Nat.le_of_ble_eq_true rfl) (Nat.le_of_ble_eq_true rfl) hl.1 (Nat.le_of_ble_eq_true rfl) dX3_roll_44 (Nat.zero_le _) (Nat.zero_le _) (fun H locs hM hg hS => ?_)
        rw [show (gs (gs g 22 0 0) 22 0 2 : G) = mRollG g a1 a2 from by first | (simp [mRollG, c_3, q_5, q_6, c_8]; done) | (simp only [mRollG, c_3, q_5, q_6, c_8]; done)] at hM hg
        exact zc_nret (nI (mRollR g a1 a2)) (congrArg nI (show (0 : Nat) = (mRollR g a1 a2) from by first | (simp [mRollR, c_3, q_5, q_6, c_8]; done) | (simp [mRollR, c_3, q_5, q_6, c_8, hdN_nf, rkG_nf, gs]; done))) (hPost H hM hg) hS hx hb hr hlk (Nat.zero_le _) (Nat.zero_le _) dX3_roll_47
    · rw [show (!((inR a1 1 6) && ((inR a2 1 6)))).toNat = 1 from by rw [c_3]; rfl] at hM hg
      refine lv_iconst (v := nI 0) hx hb dX3_roll_32 zi_0 ?_
      rw [show (gs g 22 0 1 : G) = mRollG g a1 a2 from by first | (simp [mRollG, c_3]; done) | (simp only [mRollG, c_3]; done)] at hM hg
      exact zc_nret (nI (mRollR g a1 a2)) (congrArg nI (show (0 : Nat) = (mRollR g a1 a2) from by first | (simp [mRollR, c_3]; done) | (simp [mRollR, c_3, hdN_nf, rkG_nf, gs]; done))) (hPost H hM hg) hS hx hb hr hlk (Nat.zero_le _) (Nat.zero_le _) dX3_roll_33
  refine zr_if_eqB (b := inR a1 1 6) (tgt := 25) hx hb dX3_roll_8 (by decide) (fun c_28 => ?_) (fun c_28 => ?_)
  · refine lv_iconst (v := nI 0) hx hb dX3_roll_25 zi_0 ?_
    exact J_26 _ (congrArg (fun z : Bool => nI z.toNat) (show (false : Bool) = ((inR a1 1 6) && ((inR a2 1 6))) from by first | with_reducible rfl | (simp [c_28, duV]; done) | (simp only [c_28] <;> simp [duV]; done) | (simp only [duV, c_28] <;> simp [duV]; done) | (simp [c_28, duV, Bool.and_assoc]; done) | (simp [c_28, duV, Bool.and_assoc, Bool.or_assoc]; done) | rfl | (simp [c_28, duV]; omega))) H0 locs hM hS ls (lv_sub hl [0, 1, 2] rfl)
  · obtain ⟨lj1, hj1, ea1⟩ := inR_tn (by decide) (by decide) c_28
    rw [ea1] at hl
    refine lv_iload_n hx hb dX3_roll_11 rfl (lv_at hl 2 rfl) ?_
    refine lv_iconst (v := nI 1) hx hb dX3_roll_12 zi_1 ?_
    refine lv_bipush (v := nI 6) hx hb dX3_roll_13 zb_6 ?_
    refine kM_in S hK hM hg hS a2 1 6  (Nat.le_of_ble_eq_true rfl) (Nat.le_of_ble_eq_true rfl) hl.1 (Nat.le_of_ble_eq_true rfl) dX3_roll_15 (Nat.zero_le _) (Nat.zero_le _) (fun locs hS => ?_)
    refine zr_if_eqB (b := inR a2 1 6) (tgt := 25) hx hb dX3_roll_18 (by decide) (fun c_29 => ?_) (fun c_29 => ?_)
    · refine lv_iconst (v := nI 0) hx hb dX3_roll_25 zi_0 ?_
      rw [← ea1] at hl
      exact J_26 _ (congrArg (fun z : Bool => nI z.toNat) (show (false : Bool) = ((inR a1 1 6) && ((inR a2 1 6))) from by first | with_reducible rfl | (simp [c_28, c_29, duV]; done) | (simp only [c_28, c_29] <;> simp [duV]; done) | (simp only [duV, c_28, c_29] <;> simp [duV]; done) | (simp [c_28, c_29, duV, Bool.and_assoc]; done) | (simp [c_28, c_29, duV, Bool.and_assoc, Bool.or_assoc]; done) | rfl | (simp [c_28, c_29, duV]; omega))) H0 locs hM hS ls (lv_sub hl [0, 1, 2] rfl)
    · obtain ⟨lj2, hj2, ea2⟩ := inR_tn (by decide) (by decide) c_29
      rw [ea2] at hl
      refine lv_iconst (v := nI 1) hx hb dX3_roll_21 zi_1 ?_
      refine lv_goto (tgt := 26) hx hb dX3_roll_22 (by decide) ?_
      rw [← ea1] at hl
      rw [← ea2] at hl
      exact J_26 _ (congrArg (fun z : Bool => nI z.toNat) (show (true : Bool) = ((inR a1 1 6) && ((inR a2 1 6))) from by first | with_reducible rfl | (simp [c_28, c_29, duV]; done) | (simp only [c_28, c_29] <;> simp [duV]; done) | (simp only [duV, c_28, c_29] <;> simp [duV]; done) | (simp [c_28, c_29, duV, Bool.and_assoc]; done) | (simp [c_28, c_29, duV, Bool.and_assoc, Bool.or_assoc]; done) | rfl | (simp [c_28, c_29, duV]; omega))) H0 locs hM hS ls (lv_sub hl [0, 1, 2] rfl)
