/-! THE CLASS: trails -/
theorem bt1 (x e : Nat) : x / 2 ^ e &&& 1 = (x.testBit e).toNat := by
  rw [Nat.and_one_is_mod, Nat.testBit_eq_decide_div_mod_eq]
  by_cases h : x / 2 ^ e % 2 = 1
  · simp [h]
  · simp only [h, decide_false, Bool.toNat_false]
    omega
theorem bt_or (x i e : Nat) : (x ||| (1 * 2 ^ i)).testBit e = (x.testBit e || decide (i = e)) := by
  rw [Nat.testBit_or, Nat.one_mul, Nat.testBit_two_pow]
theorem eu_sm_lt {n i : Nat} {f h : Nat → Nat} (hi : i < n) (hl : ∀ j, j < n → f j ≤ h j) (hs : f i < h i) : eu_sm n f < eu_sm n h := by
  induction n with
  | zero => exact absurd hi (Nat.not_lt_zero _)
  | succ n ih =>
    show eu_sm n f + f n < eu_sm n h + h n
    have h1 := hl n (Nat.lt_succ_self n)
    by_cases hq : i = n
    · subst hq
      have : eu_sm i f ≤ eu_sm i h := eu_sm_le (fun j hj => hl j (Nat.lt_succ_of_lt hj))
      omega
    · have := ih (by omega) (fun j hj => hl j (Nat.lt_succ_of_lt hj))
      omega
/-- a player's roads that aren't gone -/
def remN (g : G) (p gone : Nat) : Nat := eu_sm 30 (fun e => (decide (g 3 e = p + 1) && decide (gone / 2 ^ e &&& 1 = 0)).toNat)
theorem remN_lt {g : G} {p gone i : Nat} (hi : i < 30) (h1 : g 3 i = p + 1) (h2 : gone / 2 ^ i &&& 1 = 0) : remN g p (gone ||| (1 * 2 ^ i)) < remN g p gone := by
  unfold remN
  refine eu_sm_lt hi (fun j _ => ?_) ?_
  · rw [bt1, bt1, bt_or]
    cases (gone.testBit j) <;> cases decide (i = j) <;> simp
  · rw [bt1, bt_or, h2]
    simp [h1]
theorem remN_0 (g : G) (p : Nat) : remN g p 0 = roadsN g p 30 := by
  unfold remN roadsN
  exact eu_sm_congr (fun e _ => by simp)
def xGoS (g : G) (p c gone : Nat) (F : Nat → Nat → Nat) (e acc : Nat) : Nat := if g 3 e = p + 1 ∧ atE e c = true ∧ gone / 2 ^ e &&& 1 = 0 then (if acc < 1 + F (oE e c) (gone ||| (1 * 2 ^ e)) then 1 + F (oE e c) (gone ||| (1 * 2 ^ e)) else acc) else acc
/-- how many roads a trail can go on (d: enough) -/
def xGo (g : G) (p : Nat) : Nat → Nat → Nat → Nat
  | 0, _, _ => 0
  | d + 1, c, gone => if gone ≠ 0 ∧ barN g p c = true then 0 else itN 30 (fun e acc => xGoS g p c gone (xGo g p d) e acc) 0
def xGoP (g : G) (p d c gone i : Nat) : Nat := itN i (fun e acc => xGoS g p c gone (xGo g p d) e acc) 0
theorem xGoP_le {g : G} {p d c gone b : Nat} (h : ∀ c gone, xGo g p d c gone ≤ b) : ∀ i, xGoP g p d c gone i ≤ b + 1 := by
  intro i
  induction i with
  | zero => exact Nat.zero_le _
  | succ i ih =>
    show xGoS g p c gone (xGo g p d) i (xGoP g p d c gone i) ≤ b + 1
    unfold xGoS
    have := h (oE i c) (gone ||| (1 * 2 ^ i))
    (repeat' split) <;> omega
theorem xGo_le (g : G) (p : Nat) : ∀ d c gone, xGo g p d c gone ≤ d := by
  intro d
  induction d with
  | zero => intro c gone; exact Nat.zero_le _
  | succ d ih =>
    intro c gone
    show (if gone ≠ 0 ∧ barN g p c = true then 0 else xGoP g p d c gone 30) ≤ d + 1
    split
    · exact Nat.zero_le _
    · exact xGoP_le ih 30
def xLongP (g : G) (p i : Nat) : Nat := itN i (fun c acc => if acc < xGo g p 9 c 0 then xGo g p 9 c 0 else acc) 0
def xLong (g : G) (p : Nat) : Nat := xLongP g p 24
theorem xLongP_le (g : G) (p : Nat) : ∀ i, xLongP g p i ≤ 9 := by
  intro i
  induction i with
  | zero => exact Nat.zero_le _
  | succ i ih =>
    show (if xLongP g p i < xGo g p 9 i 0 then xGo g p 9 i 0 else xLongP g p i) ≤ 9
    have := xGo_le g p 9 i 0
    split <;> omega
theorem xLong_le (g : G) (p : Nat) : xLong g p ≤ 9 := xLongP_le g p 24
def xMx (g : G) : Nat → Nat
  | 0 => 0
  | i + 1 => if xMx g i < xLong g i then xLong g i else xMx g i
theorem xMx_le (g : G) : ∀ i, xMx g i ≤ 9 := by
  intro i
  induction i with
  | zero => exact Nat.zero_le _
  | succ i ih =>
    show (if xMx g i < xLong g i then xLong g i else xMx g i) ≤ 9
    have := xLong_le g i
    split <;> omega
def xCnt (g : G) : Nat → Nat
  | 0 => 0
  | i + 1 => if xMx g i < xLong g i then 1 else if xLong g i = xMx g i then xCnt g i + 1 else xCnt g i
theorem xCnt_le (g : G) : ∀ i, xCnt g i ≤ i := by
  intro i
  induction i with
  | zero => exact Nat.zero_le _
  | succ i ih =>
    show (if xMx g i < xLong g i then 1 else if xLong g i = xMx g i then xCnt g i + 1 else xCnt g i) ≤ i + 1
    (repeat' split) <;> omega
def xOne (g : G) : Nat → Nat
  | 0 => 0
  | i + 1 => if xMx g i < xLong g i then i + 1 else xOne g i
theorem xOne_le (g : G) : ∀ i, xOne g i ≤ i := by
  intro i
  induction i with
  | zero => exact Nat.zero_le _
  | succ i ih =>
    show (if xMx g i < xLong g i then i + 1 else xOne g i) ≤ i + 1
    split <;> omega
def xStay (g : G) : Bool := decide (g 7 7 ≠ 0) && decide (xLong g (g 7 7 - 1) = xMx g 3)
def xHold (g : G) : Nat := if xMx g 3 < 5 then 0 else if xStay g = true then g 7 7 else if xCnt g 3 = 1 then xOne g 3 else 0
theorem xHold_le (g : G) (h : g 7 7 ≤ 3) : xHold g ≤ 3 := by
  unfold xHold
  have := xOne_le g 3
  (repeat' split) <;> omega
set_option maxHeartbeats 4000000 in
set_option maxRecDepth 100000 in
theorem cX_goOnD (l : Launch) {D : va_G} {dA : Nat → ClassId} {cn : Nat → Nat} {A : Nat → Prop} {pa : NM → Nat} {g : G} {T : va_W} (hg : Sm g) (a1 : Nat) (h1 : a1 < 3) (h6 : ∀ c, c < 24 → g 2 c ≤ 6) : ∀ (d a2 a3 : Nat) (hd : d ≤ 100) (h2 : a2 < 24) (h3 : a3 < 1073741824) (h4 : remN g a1 a3 < d) (H0 : Heap) (hM : XS D dA cn A pa g T H0) {Post : Option Value → Heap → Prop} (hPost : Post (some (.int (nI (xGo g a1 d a2 a3)))) H0), Ct l yX1_goOn (ws_ yX1_goOn cX1_goOn 6 (some .int)) (rmF (d + 5) 0 0 (60 * d + 200)) A (KX D dA cn A) [.ref (pa (0, 0)), .int (nI a1), .int (nI a2), .int (nI a3)] H0 Post := by
  intro d
  induction d with
  | zero => intro a2 a3 hd h2 h3 h4; exact absurd h4 (Nat.not_lt_zero _)
  | succ d ih =>
    intro a2 a3 hd h2 h3 h4 H0 hM Post hPost
    refine zc_of RX1 rfl (by decide) (by first | exact Nat.le_of_ble_eq_true rfl | (simp only [rmF]; omega)) ?_
    intro pr en s m args below meth cd S hr hlk hnm hh hKX ls hl
    have hS : va_S A s.heap H0 [] := zc_start hh
    have hg0 := hg
    have hx := S.1
    have hb := S.2.1
    have hown := S.2.2.2.1
    have hts := S.2.2.2.2
    have hK := hKX.1
    have hN := hKX.2.1.1
    have hl : lv_has ls 6 [(0, .ref (pa (0, 0))), (1, .int (nI a1)), (2, .int (nI a2)), (3, .int (nI a3))] := hl
    refine lv_iconst (v := nI 0) hx hb dX1_goOn_0 zi_0 ?_
    refine lv_istore (lv' := [(4, .int (nI 0)), (0, .ref (pa (0, 0))), (1, .int (nI a1)), (2, .int (nI a2)), (3, .int (nI a3))]) hx hb dX1_goOn_1 hl (by decide) rfl (fun ls hl => ?_)
    refine lv_iconst (v := nI 0) hx hb dX1_goOn_3 zi_0 ?_
    refine lv_istore (lv' := [(5, .int (nI 0)), (4, .int (nI 0)), (0, .ref (pa (0, 0))), (1, .int (nI a1)), (2, .int (nI a2)), (3, .int (nI a3))]) hx hb dX1_goOn_4 hl (by decide) rfl (fun ls hl => ?_)
    have L_6 : ∀ (n_6 : Nat) (i : Nat), i ≤ 30 → (0 < i → ¬ (a3 ≠ 0 ∧ barN g a1 a2 = true)) → 30 - i < n_6 → ∀ x4_6 : Int32, x4_6 = nI (xGoP g a1 d a2 a3 i) → ∀ (locs : List Loc), va_S A s.heap H0 locs → ∀ ls : Array Slot, lv_has ls 6 [(0, .ref (pa (0, 0))), (1, .int (nI a1)), (2, .int (nI a2)), (3, .int (nI a3)), (4, .int x4_6), (5, .int (nI i))] → W pr l en (rmF (d + 1 + 5) 0 0 (60 * (d + 1) + 200)) s m args below meth cd H0 locs (0) (0) (MQ below (zc_Q Post A) args s 0 0 A) (F0 m 6 ls []) := by
      intro n_6
      induction n_6 with
      | zero => intro i hi_6 hv hm_6; exact absurd hm_6 (Nat.not_lt_zero _)
      | succ n_6 ih_6 =>
        intro i hi_6 hv hm_6 x4_6 ex4_6 locs hS ls hl
        subst ex4_6
        have hbP := xGoP_le (c := a2) (gone := a3) (xGo_le g a1 d) i
        have h9 : a3 / 2 ^ i ≤ a3 := Nat.div_le_self _ _
        have h8 : (a3 / 2 ^ i &&& 1) ≤ 1 := Nat.and_le_right
        refine lv_iload hx hb dX1_goOn_6 (lv_at hl 5 rfl) ?_
        refine lv_bipush (v := nI 30) hx hb dX1_goOn_8 zb_30 ?_
        refine zr_icmp_geN (a := i) (b := 30) (tgt := 87) hx hb (by omega) (by omega) dX1_goOn_10 (by decide) (fun c_1 => ?_) (fun c_1 => ?_)
        · have e_i : 30 = i := by omega
          subst e_i
          refine lv_iload hx hb dX1_goOn_87 (lv_at hl 4 rfl) ?_
          exact zc_nret (nI (xGo g a1 (d + 1) a2 a3)) (congrArg nI (show (xGoP g a1 d a2 a3 30 : Nat) = (xGo g a1 (d + 1) a2 a3) from by first | (show xGoP g a1 d a2 a3 30 = (if a3 ≠ 0 ∧ barN g a1 a2 = true then 0 else xGoP g a1 d a2 a3 30); rw [if_neg (hv (by omega))]) | (show xGoP g a1 d a2 a3 i = (if a3 ≠ 0 ∧ barN g a1 a2 = true then 0 else xGoP g a1 d a2 a3 30); have hq : a3 ≠ 0 ∧ barN g a1 a2 = true := (by simp_all); rw [if_pos hq]; rcases Nat.eq_zero_or_pos i with q | q; (subst q; rfl); exact absurd hq (hv q)))) hPost hS hx hb hr hlk (by first | exact Nat.le_of_ble_eq_true rfl | (simp only [rmF]; omega)) (by first | exact Nat.le_of_ble_eq_true rfl | (simp only [rmF]; omega)) dX1_goOn_89
        · refine lv_iload_n hx hb dX1_goOn_13 rfl (lv_at hl 3 rfl) ?_
          have J_26 : ((a3 = 0) ∨ (¬ ((barN g a1 a2) = true))) → ∀ (locs : List Loc), va_S A s.heap H0 locs → ∀ ls : Array Slot, lv_has ls 6 [(0, .ref (pa (0, 0))), (1, .int (nI a1)), (2, .int (nI a2)), (3, .int (nI a3)), (4, .int (nI (xGoP g a1 d a2 a3 i))), (5, .int (nI i))] → W pr l en (rmF (d + 1 + 5) 0 0 (60 * (d + 1) + 200)) s m args below meth cd H0 locs (0) (0) (MQ below (zc_Q Post A) args s 0 0 A) (F0 m 26 ls []) := by
            intro cJ_26 locs hS ls hl
            refine lv_aload_n hx hb dX1_goOn_26 rfl (lv_at hl 0 rfl) ?_
            refine gX_roads S hK hM dX1_goOn_27 ?_
            refine lv_iload hx hb dX1_goOn_30 (lv_at hl 5 rfl) ?_
            refine lX_roads S hK hM i (by omega) (g 3 i) rfl dX1_goOn_32 ?_
            have hb_4 : g 3 i < 1048576 := by first | exact hg 3 i | exact hg0 _ _ | (have := hg 3 i; omega) | omega
            refine lv_iload_n hx hb dX1_goOn_33 rfl (lv_at hl 1 rfl) ?_
            rw [← mI_succ a1]
            refine zr_icmp_neM (a := (g 3 i)) (b := (a1 + 1)) (tgt := 81) hx hb (by omega) (by omega) dX1_goOn_34 (by decide) (fun c_5 => ?_) (fun c_5 => ?_)
            · refine lv_iinc (v := nI (i + 1)) (lv' := [(5, .int (nI (i + 1))), (0, .ref (pa (0, 0))), (1, .int (nI a1)), (2, .int (nI a2)), (3, .int (nI a3)), (4, .int (nI (xGoP g a1 d a2 a3 i)))]) hx hb dX1_goOn_81 hl (k := 5) rfl (zk_inc _) (by decide) rfl (fun ls hl => ?_)
              refine lv_goto (tgt := 6) hx hb dX1_goOn_84 (by decide) ?_
              exact ih_6 (i + 1) (by first | omega | assumption | (simp; done) | grind) (by exact fun _ h => by simp_all) (by omega) _ (congrArg nI (show (xGoP g a1 d a2 a3 i : Nat) = (xGoP g a1 d a2 a3 (i + 1)) from by first | with_reducible rfl | (simp [c_1, cJ_26, c_5, xGoP, xGoS, itN]; done) | (simp only [c_1, cJ_26, c_5] <;> simp [xGoP, xGoS, itN]; done) | (simp only [xGoP, xGoS, itN, c_1, cJ_26, c_5] <;> simp [xGoP, xGoS, itN]; done) | (simp [c_1, cJ_26, c_5, xGoP, xGoS, itN, Bool.and_assoc]; done) | (simp [c_1, cJ_26, c_5, xGoP, xGoS, itN, Bool.and_assoc, Bool.or_assoc]; done) | rfl | (simp [c_1, cJ_26, c_5, xGoP, xGoS, itN]; omega) | (simp_all [xGoP, xGoS, itN]; done))) locs hS ls (lv_sub hl [1, 2, 3, 4, 5, 0] rfl)
            · refine lv_iload hx hb dX1_goOn_37 (lv_at hl 5 rfl) ?_
              refine lv_iload_n hx hb dX1_goOn_39 rfl (lv_at hl 2 rfl) ?_
              refine kX_isAt S hKX hM hg hS i a2 (by first | omega | assumption | grind) (by first | omega | assumption | grind) (by first | exact Nat.le_of_ble_eq_true rfl | (simp only [rmF]; omega)) (by first | exact Nat.le_of_ble_eq_true rfl | (simp only [rmF]; omega)) hl.1 (by first | exact Nat.le_of_ble_eq_true rfl | (simp only [rmF]; omega)) dX1_goOn_40 (by first | exact Nat.le_of_ble_eq_true rfl | (simp only [rmF]; omega)) (by first | exact Nat.le_of_ble_eq_true rfl | (simp only [rmF]; omega)) (fun locs hS => ?_)
              refine zr_if_eqB (b := atE i a2) (tgt := 81) hx hb dX1_goOn_43 (by decide) (fun c_6 => ?_) (fun c_6 => ?_)
              · refine lv_iinc (v := nI (i + 1)) (lv' := [(5, .int (nI (i + 1))), (0, .ref (pa (0, 0))), (1, .int (nI a1)), (2, .int (nI a2)), (3, .int (nI a3)), (4, .int (nI (xGoP g a1 d a2 a3 i)))]) hx hb dX1_goOn_81 hl (k := 5) rfl (zk_inc _) (by decide) rfl (fun ls hl => ?_)
                refine lv_goto (tgt := 6) hx hb dX1_goOn_84 (by decide) ?_
                exact ih_6 (i + 1) (by first | omega | assumption | (simp; done) | grind) (by exact fun _ h => by simp_all) (by omega) _ (congrArg nI (show (xGoP g a1 d a2 a3 i : Nat) = (xGoP g a1 d a2 a3 (i + 1)) from by first | with_reducible rfl | (simp [c_1, cJ_26, c_5, c_6, xGoP, xGoS, itN]; done) | (simp only [c_1, cJ_26, c_5, c_6] <;> simp [xGoP, xGoS, itN]; done) | (simp only [xGoP, xGoS, itN, c_1, cJ_26, c_5, c_6] <;> simp [xGoP, xGoS, itN]; done) | (simp [c_1, cJ_26, c_5, c_6, xGoP, xGoS, itN, Bool.and_assoc]; done) | (simp [c_1, cJ_26, c_5, c_6, xGoP, xGoS, itN, Bool.and_assoc, Bool.or_assoc]; done) | rfl | (simp [c_1, cJ_26, c_5, c_6, xGoP, xGoS, itN]; omega) | (simp_all [xGoP, xGoS, itN]; done))) locs hS ls (lv_sub hl [1, 2, 3, 4, 5, 0] rfl)
              · refine lv_iload_n hx hb dX1_goOn_46 rfl (lv_at hl 3 rfl) ?_
                refine lv_iload hx hb dX1_goOn_47 (lv_at hl 5 rfl) ?_
                refine zr_shrN (a := a3) (b := i) hx hb (by omega) (by omega) dX1_goOn_49 ?_
                refine lv_iconst (v := nI 1) hx hb dX1_goOn_50 zi_1 ?_
                refine zr_andN (a := (a3 / 2 ^ i)) (b := 1) hx hb dX1_goOn_51 ?_
                refine zr_if_neN (a := ((a3 / 2 ^ i) &&& 1)) (tgt := 81) hx hb (by omega) dX1_goOn_52 (by decide) (fun c_7 => ?_) (fun c_7 => ?_)
                · refine lv_iinc (v := nI (i + 1)) (lv' := [(5, .int (nI (i + 1))), (0, .ref (pa (0, 0))), (1, .int (nI a1)), (2, .int (nI a2)), (3, .int (nI a3)), (4, .int (nI (xGoP g a1 d a2 a3 i)))]) hx hb dX1_goOn_81 hl (k := 5) rfl (zk_inc _) (by decide) rfl (fun ls hl => ?_)
                  refine lv_goto (tgt := 6) hx hb dX1_goOn_84 (by decide) ?_
                  exact ih_6 (i + 1) (by first | omega | assumption | (simp; done) | grind) (by exact fun _ h => by simp_all) (by omega) _ (congrArg nI (show (xGoP g a1 d a2 a3 i : Nat) = (xGoP g a1 d a2 a3 (i + 1)) from by first | with_reducible rfl | (simp [c_1, cJ_26, c_5, c_6, c_7, xGoP, xGoS, itN]; done) | (simp only [c_1, cJ_26, c_5, c_6, c_7] <;> simp [xGoP, xGoS, itN]; done) | (simp only [xGoP, xGoS, itN, c_1, cJ_26, c_5, c_6, c_7] <;> simp [xGoP, xGoS, itN]; done) | (simp [c_1, cJ_26, c_5, c_6, c_7, xGoP, xGoS, itN, Bool.and_assoc]; done) | (simp [c_1, cJ_26, c_5, c_6, c_7, xGoP, xGoS, itN, Bool.and_assoc, Bool.or_assoc]; done) | rfl | (simp [c_1, cJ_26, c_5, c_6, c_7, xGoP, xGoS, itN]; omega) | (simp_all [xGoP, xGoS, itN]; done))) locs hS ls (lv_sub hl [1, 2, 3, 4, 5, 0] rfl)
                · refine lv_iload hx hb dX1_goOn_55 (lv_at hl 4 rfl) ?_
                  refine lv_iconst (v := nI 1) hx hb dX1_goOn_57 zi_1 ?_
                  refine lv_aload_n hx hb dX1_goOn_58 rfl (lv_at hl 0 rfl) ?_
                  refine lv_iload_n hx hb dX1_goOn_59 rfl (lv_at hl 1 rfl) ?_
                  refine lv_iload hx hb dX1_goOn_60 (lv_at hl 5 rfl) ?_
                  refine lv_iload_n hx hb dX1_goOn_62 rfl (lv_at hl 2 rfl) ?_
                  refine kX_otherEnd S hKX hM hg hS i a2 (by first | omega | assumption | grind) (by first | omega | assumption | grind) (by first | exact Nat.le_of_ble_eq_true rfl | (simp only [rmF]; omega)) (by first | exact Nat.le_of_ble_eq_true rfl | (simp only [rmF]; omega)) hl.1 (by first | exact Nat.le_of_ble_eq_true rfl | (simp only [rmF]; omega)) dX1_goOn_63 (by first | exact Nat.le_of_ble_eq_true rfl | (simp only [rmF]; omega)) (by first | exact Nat.le_of_ble_eq_true rfl | (simp only [rmF]; omega)) (fun locs hS => ?_)
                  have f63_0 : oE i a2 < 24 := oE_lt (by omega)
                  refine lv_iload_n hx hb dX1_goOn_66 rfl (lv_at hl 3 rfl) ?_
                  refine lv_iconst (v := nI 1) hx hb dX1_goOn_67 zi_1 ?_
                  refine lv_iload hx hb dX1_goOn_68 (lv_at hl 5 rfl) ?_
                  refine zr_shlN (a := 1) (b := i) hx hb (by (have hpw := Nat.pow_lt_pow_right (show 1 < 2 by decide) (show i < 30 by omega); omega)) (by omega) dX1_goOn_70 ?_
                  refine zr_orN (a := a3) (b := (1 * 2 ^ i)) hx hb dX1_goOn_71 ?_
                  refine zc_callV (n := 3) (As := [.int (nI a1), .int (nI (oE i a2)), .int (nI (a3 ||| (1 * 2 ^ i)))]) (rest := [.int (nI 1), .int (nI (xGoP g a1 d a2 a3 i))]) S (ih (oE i a2) (a3 ||| (1 * 2 ^ i)) (by omega) (by omega) (Nat.or_lt_two_pow (n := 30) h3 (by rw [Nat.one_mul]; exact Nat.pow_lt_pow_right (by decide) (by omega))) (Nat.lt_of_lt_of_le (remN_lt (by omega) (by assumption) (by assumption)) (Nat.le_of_lt_succ h4)) H0 hM (Post := fun v H1 => v = some (.int (nI (xGo g a1 d (oE i a2) (a3 ||| (1 * 2 ^ i))))) ∧ H0 = H1) ⟨rfl, rfl⟩) (lw_V q522 q524 qs9 q71 q525) (by decide +kernel) ⟨(by simp only [rmF]; omega), (by simp only [rmF]; omega)⟩ ⟨Nat.le_of_ble_eq_true rfl, Nat.le_of_ble_eq_true rfl⟩ (zx_recv hKX.1 hM) KX_mv (zc_K KX_mv hKX hS) hS (fun _ h => h) rfl hl.1 rfl (by first | exact Nat.le_of_ble_eq_true rfl | (simp only [rmF]; omega)) dX1_goOn_72 (fun v H1 locs hp _ _ hS => ?_)
                  obtain ⟨rfl, rfl⟩ := hp
                  have hb_8 := xGo_le g a1 d (oE i a2) (a3 ||| (1 * 2 ^ i))
                  refine zr_addN (a := 1) (b := (xGo g a1 d (oE i a2) (a3 ||| (1 * 2 ^ i)))) hx hb dX1_goOn_75 ?_
                  refine zx_max S (a := (xGoP g a1 d a2 a3 i)) (b := (1 + (xGo g a1 d (oE i a2) (a3 ||| (1 * 2 ^ i))))) (by omega) (by omega) (by first | exact Nat.le_of_ble_eq_true rfl | (simp only [rmF]; omega)) (by first | exact Nat.le_of_ble_eq_true rfl | (simp only [rmF]; omega)) (by first | exact Nat.le_of_ble_eq_true rfl | (simp only [rmF]; omega)) (by first | exact Nat.le_of_ble_eq_true rfl | (simp only [rmF]; omega)) hl.1 dX1_goOn_76 (by first | exact Nat.le_of_ble_eq_true rfl | (simp only [rmF]; omega)) ?_
                  have hb_9 : (if (xGoP g a1 d a2 a3 i) < (1 + (xGo g a1 d (oE i a2) (a3 ||| (1 * 2 ^ i)))) then (1 + (xGo g a1 d (oE i a2) (a3 ||| (1 * 2 ^ i)))) else (xGoP g a1 d a2 a3 i) : Nat) ≤ (xGoP g a1 d a2 a3 i) + (1 + (xGo g a1 d (oE i a2) (a3 ||| (1 * 2 ^ i)))) := by split <;> omega
                  refine lv_istore (lv' := [(4, .int (nI (if (xGoP g a1 d a2 a3 i) < (1 + (xGo g a1 d (oE i a2) (a3 ||| (1 * 2 ^ i)))) then (1 + (xGo g a1 d (oE i a2) (a3 ||| (1 * 2 ^ i)))) else (xGoP g a1 d a2 a3 i)))), (0, .ref (pa (0, 0))), (1, .int (nI a1)), (2, .int (nI a2)), (3, .int (nI a3)), (5, .int (nI i))]) hx hb dX1_goOn_79 hl (by decide) rfl (fun ls hl => ?_)
                  refine lv_iinc (v := nI (i + 1)) (lv' := [(5, .int (nI (i + 1))), (4, .int (nI (if (xGoP g a1 d a2 a3 i) < (1 + (xGo g a1 d (oE i a2) (a3 ||| (1 * 2 ^ i)))) then (1 + (xGo g a1 d (oE i a2) (a3 ||| (1 * 2 ^ i)))) else (xGoP g a1 d a2 a3 i)))), (0, .ref (pa (0, 0))), (1, .int (nI a1)), (2, .int (nI a2)), (3, .int (nI a3))]) hx hb dX1_goOn_81 hl (k := 5) rfl (zk_inc _) (by decide) rfl (fun ls hl => ?_)
                  refine lv_goto (tgt := 6) hx hb dX1_goOn_84 (by decide) ?_
                  exact ih_6 (i + 1) (by first | omega | assumption | (simp; done) | grind) (by exact fun _ h => by simp_all) (by omega) _ (congrArg nI (show (if (xGoP g a1 d a2 a3 i) < (1 + (xGo g a1 d (oE i a2) (a3 ||| (1 * 2 ^ i)))) then (1 + (xGo g a1 d (oE i a2) (a3 ||| (1 * 2 ^ i)))) else (xGoP g a1 d a2 a3 i) : Nat) = (xGoP g a1 d a2 a3 (i + 1)) from by first | with_reducible rfl | (simp [c_1, cJ_26, c_5, c_6, c_7, xGoP, xGoS, itN]; done) | (simp only [c_1, cJ_26, c_5, c_6, c_7] <;> simp [xGoP, xGoS, itN]; done) | (simp only [xGoP, xGoS, itN, c_1, cJ_26, c_5, c_6, c_7] <;> simp [xGoP, xGoS, itN]; done) | (simp [c_1, cJ_26, c_5, c_6, c_7, xGoP, xGoS, itN, Bool.and_assoc]; done) | (simp [c_1, cJ_26, c_5, c_6, c_7, xGoP, xGoS, itN, Bool.and_assoc, Bool.or_assoc]; done) | rfl | (simp [c_1, cJ_26, c_5, c_6, c_7, xGoP, xGoS, itN]; omega) | (simp_all [xGoP, xGoS, itN]; done))) locs hS ls (lv_sub hl [2, 3, 4, 5, 1, 0] rfl)
          refine zr_if_eqN (a := a3) (tgt := 26) hx hb (by omega) dX1_goOn_14 (by decide) (fun c_10 => ?_) (fun c_10 => ?_)
          · exact J_26 (by first | assumption | omega | (simp [c_1, c_10, xGoP, xGoS, itN]; done) | (simp [c_1, c_10, xGoP, xGoS, itN]; omega) | grind) locs hS ls (lv_sub hl [0, 1, 2, 3, 4, 5] rfl)
          · refine lv_aload_n hx hb dX1_goOn_17 rfl (lv_at hl 0 rfl) ?_
            refine lv_iload_n hx hb dX1_goOn_18 rfl (lv_at hl 2 rfl) ?_
            refine lv_iload_n hx hb dX1_goOn_19 rfl (lv_at hl 1 rfl) ?_
            refine kX_isShut S hKX hM hg hS a2 a1 (by first | omega | assumption | grind) (by first | omega | assumption | grind) (by first | omega | assumption | grind) (by first | exact Nat.le_of_ble_eq_true rfl | (simp only [rmF]; omega)) (by first | exact Nat.le_of_ble_eq_true rfl | (simp only [rmF]; omega)) hl.1 (by first | exact Nat.le_of_ble_eq_true rfl | (simp only [rmF]; omega)) dX1_goOn_20 (by first | exact Nat.le_of_ble_eq_true rfl | (simp only [rmF]; omega)) (by first | exact Nat.le_of_ble_eq_true rfl | (simp only [rmF]; omega)) (fun locs hS => ?_)
            refine zr_if_neB (b := barN g a1 a2) (tgt := 87) hx hb dX1_goOn_23 (by decide) (fun c_11 => ?_) (fun c_11 => ?_)
            · refine lv_iload hx hb dX1_goOn_87 (lv_at hl 4 rfl) ?_
              exact zc_nret (nI (xGo g a1 (d + 1) a2 a3)) (congrArg nI (show (xGoP g a1 d a2 a3 i : Nat) = (xGo g a1 (d + 1) a2 a3) from by first | (show xGoP g a1 d a2 a3 30 = (if a3 ≠ 0 ∧ barN g a1 a2 = true then 0 else xGoP g a1 d a2 a3 30); rw [if_neg (hv (by omega))]) | (show xGoP g a1 d a2 a3 i = (if a3 ≠ 0 ∧ barN g a1 a2 = true then 0 else xGoP g a1 d a2 a3 30); have hq : a3 ≠ 0 ∧ barN g a1 a2 = true := (by simp_all); rw [if_pos hq]; rcases Nat.eq_zero_or_pos i with q | q; (subst q; rfl); exact absurd hq (hv q)))) hPost hS hx hb hr hlk (by first | exact Nat.le_of_ble_eq_true rfl | (simp only [rmF]; omega)) (by first | exact Nat.le_of_ble_eq_true rfl | (simp only [rmF]; omega)) dX1_goOn_89
            · exact J_26 (by first | assumption | omega | (simp [c_1, c_10, c_11, xGoP, xGoS, itN]; done) | (simp [c_1, c_10, c_11, xGoP, xGoS, itN]; omega) | grind) locs hS ls (lv_sub hl [0, 1, 2, 3, 4, 5] rfl)
    exact L_6 _ 0 (by first | omega | assumption | (simp; done) | grind) (by exact fun h => absurd h (Nat.lt_irrefl _)) (Nat.lt_succ_self _) _ (congrArg nI (show (0 : Nat) = (xGoP g a1 d a2 a3 0) from by first | with_reducible rfl | (simp [xGoP, xGoS, itN]; done) | (simp [xGoP, xGoS, itN, Bool.and_assoc]; done) | (simp [xGoP, xGoS, itN, Bool.and_assoc, Bool.or_assoc]; done) | rfl | (simp [xGoP, xGoS, itN]; omega) | (simp_all [xGoP, xGoS, itN]; done))) [] hS ls (lv_sub hl [2, 3, 4, 5, 1, 0] rfl)
theorem cX_goOn (l : Launch) {D : va_G} {dA : Nat → ClassId} {cn : Nat → Nat} {A : Nat → Prop} {pa : NM → Nat} {g : G} {T : va_W} (hg : Sm g) (a1 : Nat) (a2 : Nat) (a3 : Nat) (h1 : a1 < 3) (h2 : a2 < 24) (h3 : a3 < 1073741824) (h4 : remN g a1 a3 < 9) (h6 : ∀ c, c < 24 → g 2 c ≤ 6) (H0 : Heap) (hM : XS D dA cn A pa g T H0) {Post : Option Value → Heap → Prop} (hPost : Post (some (.int (nI (xGo g a1 9 a2 a3)))) H0) : Ct l yX1_goOn (ws_ yX1_goOn cX1_goOn 6 (some .int)) (rmF 14 0 0 740) A (KX D dA cn A) [.ref (pa (0, 0)), .int (nI a1), .int (nI a2), .int (nI a3)] H0 Post := cX_goOnD l hg a1 h1 h6 9 a2 a3 (by decide) h2 h3 h4 H0 hM hPost
theorem kX_goOn {pr : Program} {l : Launch} {en : Env} {R : Room} {s : State} {m : MethodId} {args : Array Value} {below : List Frame} {meth : Method} {cd : Code} {H : Heap} {locs : List Loc} {cells slots : Nat} {cc : ByteArray} {pc nL : Nat} {ls : Array Slot} {rest : List Value} {D : va_G} {dA : Nat → ClassId} {cn : Nat → Nat} {A : Nat → Prop} {pa : NM → Nat} {g : G} {T : va_W} {Q : State → Prop} (S : CallFix pr m cd cc nL s args lw_all RX1) (hKX : KX D dA cn A s) (hM : XS D dA cn A pa g T H) (hg : Sm g) (hS : va_S A s.heap H locs) (a1 : Nat) (a2 : Nat) (a3 : Nat) (h1 : a1 < 3) (h2 : a2 < 24) (h3 : a3 < 1073741824) (h4 : remN g a1 a3 < 9) (h6 : ∀ c, c < 24 → g 2 c ≤ 6) (hf : 14 + 1 ≤ R.frames) (hlo : 8 + (6 + 11) + 740 ≤ R.locals) (hsz : ls.size = nL) (hcat : (rest.map fun v => v.category).sum ≤ 8) (hdg : decode cc pc = .ok (.invokevirtual 132, 3)) (hq1 : cells ≤ R.cells) (hq2 : slots ≤ R.slots) (kk : ∀ locs1 : List Loc, va_S A s.heap H locs1 → W pr l en R s m args below meth cd H locs1 cells slots Q (F0 m (pc + 3) ls (.int (nI (xGo g a1 9 a2 a3)) :: rest))) : W pr l en R s m args below meth cd H locs cells slots Q (F0 m pc ls (.int (nI a3) :: .int (nI a2) :: .int (nI a1) :: .ref (pa (0, 0)) :: rest)) :=
  zc_callV (n := 3) (As := [.int (nI a1), .int (nI a2), .int (nI a3)]) (rest := rest) S (cX_goOn l hg a1 a2 a3 h1 h2 h3 h4 h6 H hM (Post := (fun v H1 => v = some (.int (nI (xGo g a1 9 a2 a3))) ∧ H1 = H)) ⟨rfl, rfl⟩) (lw_V q522 q524 qs9 q71 q525) (by decide +kernel) ⟨hf, hlo⟩ ⟨hq1, hq2⟩ (zx_recv hKX.1 hM) KX_mv (zc_K KX_mv hKX hS) hS (fun _ h => h) rfl hsz rfl hcat hdg (fun v H1 locs1 hp _ _ hS1 => by obtain ⟨rfl, rfl⟩ := hp; exact kk locs1 hS1)
set_option maxHeartbeats 1000000 in
set_option maxRecDepth 100000 in
theorem cX_longest (l : Launch) {D : va_G} {dA : Nat → ClassId} {cn : Nat → Nat} {A : Nat → Prop} {pa : NM → Nat} {g : G} {T : va_W} (hg : Sm g) (a1 : Nat) (h1 : a1 < 3) (h6 : ∀ c, c < 24 → g 2 c ≤ 6) (hr8 : ∀ p, p < 3 → roadsN g p 30 ≤ 8) (H0 : Heap) (hM : XS D dA cn A pa g T H0) {Post : Option Value → Heap → Prop} (hPost : Post (some (.int (nI (xLong g a1)))) H0) : Ct l yX1_longest (ws_ yX1_longest cX1_longest 4 (some .int)) (rmF 15 0 0 765) A (KX D dA cn A) [.ref (pa (0, 0)), .int (nI a1)] H0 Post := by
  refine zc_of RX1 rfl (by decide) (Nat.le_of_ble_eq_true rfl) ?_
  intro pr en s m args below meth cd S hr hlk hnm hh hKX ls hl
  have hS : va_S A s.heap H0 [] := zc_start hh
  have hg0 := hg
  have hx := S.1
  have hb := S.2.1
  have hown := S.2.2.2.1
  have hts := S.2.2.2.2
  have hK := hKX.1
  have hN := hKX.2.1.1
  have hl : lv_has ls 4 [(0, .ref (pa (0, 0))), (1, .int (nI a1))] := hl
  refine lv_iconst (v := nI 0) hx hb dX1_longest_0 zi_0 ?_
  refine lv_istore_n (lv' := [(2, .int (nI 0)), (0, .ref (pa (0, 0))), (1, .int (nI a1))]) hx hb dX1_longest_1 rfl hl (by decide) rfl (fun ls hl => ?_)
  refine lv_iconst (v := nI 0) hx hb dX1_longest_2 zi_0 ?_
  refine lv_istore_n (lv' := [(3, .int (nI 0)), (2, .int (nI 0)), (0, .ref (pa (0, 0))), (1, .int (nI a1))]) hx hb dX1_longest_3 rfl hl (by decide) rfl (fun ls hl => ?_)
  have L_4 : ∀ (n_4 : Nat) (i : Nat), i ≤ 24 → 24 - i < n_4 → ∀ x2_4 : Int32, x2_4 = nI (xLongP g a1 i) → ∀ (locs : List Loc), va_S A s.heap H0 locs → ∀ ls : Array Slot, lv_has ls 4 [(0, .ref (pa (0, 0))), (1, .int (nI a1)), (2, .int x2_4), (3, .int (nI i))] → W pr l en (rmF 15 0 0 765) s m args below meth cd H0 locs (0) (0) (MQ below (zc_Q Post A) args s 0 0 A) (F0 m 4 ls []) := by
    intro n_4
    induction n_4 with
    | zero => intro i hi_4 hm_4; exact absurd hm_4 (Nat.not_lt_zero _)
    | succ n_4 ih_4 =>
      intro i hi_4 hm_4 x2_4 ex2_4 locs hS ls hl
      subst ex2_4
      refine lv_iload_n hx hb dX1_longest_4 rfl (lv_at hl 3 rfl) ?_
      refine lv_bipush (v := nI 24) hx hb dX1_longest_5 zb_24 ?_
      refine zr_icmp_geN (a := i) (b := 24) (tgt := 28) hx hb (by omega) (by omega) dX1_longest_7 (by decide) (fun c_1 => ?_) (fun c_1 => ?_)
      · have e_i : 24 = i := by omega
        subst e_i
        refine lv_iload_n hx hb dX1_longest_28 rfl (lv_at hl 2 rfl) ?_
        exact zc_nret (nI (xLong g a1)) (congrArg nI (show (xLongP g a1 24 : Nat) = (xLong g a1) from by first | with_reducible rfl | (simp [c_1, xLong, xLongP, itN]; done) | (simp only [c_1] <;> simp [xLong, xLongP, itN]; done) | (simp only [xLong, xLongP, itN, c_1] <;> simp [xLong, xLongP, itN]; done) | (simp [c_1, xLong, xLongP, itN, Bool.and_assoc]; done) | (simp [c_1, xLong, xLongP, itN, Bool.and_assoc, Bool.or_assoc]; done) | rfl | (simp [c_1, xLong, xLongP, itN]; omega) | (simp_all [xLong, xLongP, itN]; done))) hPost hS hx hb hr hlk (Nat.le_of_ble_eq_true rfl) (Nat.le_of_ble_eq_true rfl) dX1_longest_29
      · have hbP := xLongP_le g a1 i
        have hbG := xGo_le g a1 9 i 0
        have hrm : remN g a1 0 < 9 := by rw [remN_0]; exact Nat.lt_succ_of_le (hr8 _ h1)
        refine lv_iload_n hx hb dX1_longest_10 rfl (lv_at hl 2 rfl) ?_
        refine lv_aload_n hx hb dX1_longest_11 rfl (lv_at hl 0 rfl) ?_
        refine lv_iload_n hx hb dX1_longest_12 rfl (lv_at hl 1 rfl) ?_
        refine lv_iload_n hx hb dX1_longest_13 rfl (lv_at hl 3 rfl) ?_
        refine lv_iconst (v := nI 0) hx hb dX1_longest_14 zi_0 ?_
        refine kX_goOn S hKX hM hg hS a1 i 0 (by first | omega | assumption | grind) (by first | omega | assumption | grind) (by first | omega | assumption | grind) (by first | omega | assumption | grind) (by first | omega | assumption | grind) (Nat.le_of_ble_eq_true rfl) (Nat.le_of_ble_eq_true rfl) hl.1 (Nat.le_of_ble_eq_true rfl) dX1_longest_15 (Nat.le_of_ble_eq_true rfl) (Nat.le_of_ble_eq_true rfl) (fun locs hS => ?_)
        refine zx_max S (a := (xLongP g a1 i)) (b := (xGo g a1 9 i 0)) (by omega) (by omega) (Nat.le_of_ble_eq_true rfl) (Nat.le_of_ble_eq_true rfl) (Nat.le_of_ble_eq_true rfl) (Nat.le_of_ble_eq_true rfl) hl.1 dX1_longest_18 (Nat.le_of_ble_eq_true rfl) ?_
        have hb_2 : (if (xLongP g a1 i) < (xGo g a1 9 i 0) then (xGo g a1 9 i 0) else (xLongP g a1 i) : Nat) ≤ (xLongP g a1 i) + (xGo g a1 9 i 0) := by split <;> omega
        refine lv_istore_n (lv' := [(2, .int (nI (if (xLongP g a1 i) < (xGo g a1 9 i 0) then (xGo g a1 9 i 0) else (xLongP g a1 i)))), (0, .ref (pa (0, 0))), (1, .int (nI a1)), (3, .int (nI i))]) hx hb dX1_longest_21 rfl hl (by decide) rfl (fun ls hl => ?_)
        refine lv_iinc (v := nI (i + 1)) (lv' := [(3, .int (nI (i + 1))), (2, .int (nI (if (xLongP g a1 i) < (xGo g a1 9 i 0) then (xGo g a1 9 i 0) else (xLongP g a1 i)))), (0, .ref (pa (0, 0))), (1, .int (nI a1))]) hx hb dX1_longest_22 hl (k := 3) rfl (zk_inc _) (by decide) rfl (fun ls hl => ?_)
        refine lv_goto (tgt := 4) hx hb dX1_longest_25 (by decide) ?_
        exact ih_4 (i + 1) (by first | omega | assumption | (simp; done) | grind) (by omega) _ (congrArg nI (show (if (xLongP g a1 i) < (xGo g a1 9 i 0) then (xGo g a1 9 i 0) else (xLongP g a1 i) : Nat) = (xLongP g a1 (i + 1)) from by first | with_reducible rfl | (simp [c_1, xLong, xLongP, itN]; done) | (simp only [c_1] <;> simp [xLong, xLongP, itN]; done) | (simp only [xLong, xLongP, itN, c_1] <;> simp [xLong, xLongP, itN]; done) | (simp [c_1, xLong, xLongP, itN, Bool.and_assoc]; done) | (simp [c_1, xLong, xLongP, itN, Bool.and_assoc, Bool.or_assoc]; done) | rfl | (simp [c_1, xLong, xLongP, itN]; omega) | (simp_all [xLong, xLongP, itN]; done))) locs hS ls (lv_sub hl [2, 3, 1, 0] rfl)
  exact L_4 _ 0 (by first | omega | assumption | (simp; done) | grind) (Nat.lt_succ_self _) _ (congrArg nI (show (0 : Nat) = (xLongP g a1 0) from by first | with_reducible rfl | (simp [xLong, xLongP, itN]; done) | (simp [xLong, xLongP, itN, Bool.and_assoc]; done) | (simp [xLong, xLongP, itN, Bool.and_assoc, Bool.or_assoc]; done) | rfl | (simp [xLong, xLongP, itN]; omega) | (simp_all [xLong, xLongP, itN]; done))) [] hS ls (lv_sub hl [2, 3, 1, 0] rfl)
theorem kX_longest {pr : Program} {l : Launch} {en : Env} {R : Room} {s : State} {m : MethodId} {args : Array Value} {below : List Frame} {meth : Method} {cd : Code} {H : Heap} {locs : List Loc} {cells slots : Nat} {cc : ByteArray} {pc nL : Nat} {ls : Array Slot} {rest : List Value} {D : va_G} {dA : Nat → ClassId} {cn : Nat → Nat} {A : Nat → Prop} {pa : NM → Nat} {g : G} {T : va_W} {Q : State → Prop} (S : CallFix pr m cd cc nL s args lw_all RX1) (hKX : KX D dA cn A s) (hM : XS D dA cn A pa g T H) (hg : Sm g) (hS : va_S A s.heap H locs) (a1 : Nat) (h1 : a1 < 3) (h6 : ∀ c, c < 24 → g 2 c ≤ 6) (hr8 : ∀ p, p < 3 → roadsN g p 30 ≤ 8) (hf : 15 + 1 ≤ R.frames) (hlo : 8 + (4 + 11) + 765 ≤ R.locals) (hsz : ls.size = nL) (hcat : (rest.map fun v => v.category).sum ≤ 8) (hdg : decode cc pc = .ok (.invokevirtual 145, 3)) (hq1 : cells ≤ R.cells) (hq2 : slots ≤ R.slots) (kk : ∀ locs1 : List Loc, va_S A s.heap H locs1 → W pr l en R s m args below meth cd H locs1 cells slots Q (F0 m (pc + 3) ls (.int (nI (xLong g a1)) :: rest))) : W pr l en R s m args below meth cd H locs cells slots Q (F0 m pc ls (.int (nI a1) :: .ref (pa (0, 0)) :: rest)) :=
  zc_callV (n := 1) (As := [.int (nI a1)]) (rest := rest) S (cX_longest l hg a1 h1 h6 hr8 H hM (Post := (fun v H1 => v = some (.int (nI (xLong g a1))) ∧ H1 = H)) ⟨rfl, rfl⟩) (lw_V q518 q520 qs8 q71 q521) (by decide +kernel) ⟨hf, hlo⟩ ⟨hq1, hq2⟩ (zx_recv hKX.1 hM) KX_mv (zc_K KX_mv hKX hS) hS (fun _ h => h) rfl hsz rfl hcat hdg (fun v H1 locs1 hp _ _ hS1 => by obtain ⟨rfl, rfl⟩ := hp; exact kk locs1 hS1)
set_option maxHeartbeats 1000000 in
set_option maxRecDepth 100000 in
theorem cX_lookAtTrails (l : Launch) {D : va_G} {dA : Nat → ClassId} {cn : Nat → Nat} {A : Nat → Prop} {pa : NM → Nat} {g : G} {T : va_W} (hg : Sm g) (h6 : ∀ c, c < 24 → g 2 c ≤ 6) (hr8 : ∀ p, p < 3 → roadsN g p 30 ≤ 8) (h7 : g 7 7 ≤ 3) (H0 : Heap) (hM : XS D dA cn A pa g T H0) (hA : ∀ q, H0.size ≤ q → A q) {Post : Option Value → Heap → Prop} (hPost : ∀ H : Heap, XS D dA cn A pa (gs g 7 7 (xHold g)) T H → Sm (gs g 7 7 (xHold g)) → Post (none) H) : Ct l yX1_lookAtTrails (ws_ yX1_lookAtTrails cX1_lookAtTrails 6 none) (rmF 16 0 0 788) A (KX D dA cn A) [.ref (pa (0, 0))] H0 Post := by
  refine zc_of RX1 rfl (by decide) (Nat.le_of_ble_eq_true rfl) ?_
  intro pr en s m args below meth cd S hr hlk hnm hh hKX ls hl
  have hS : va_S A s.heap H0 [] := zc_start hh
  have hA : ∀ q, s.heap.size ≤ q → A q := fun q h => hA q (by rw [← hh]; exact h)
  have hg0 := hg
  have hx := S.1
  have hb := S.2.1
  have hown := S.2.2.2.1
  have hts := S.2.2.2.2
  have hK := hKX.1
  have hN := hKX.2.1.1
  have hl : lv_has ls 6 [(0, .ref (pa (0, 0)))] := hl
  refine lv_iconst (v := nI 0) hx hb dX1_lookAtTrails_0 zi_0 ?_
  refine lv_istore_n (lv' := [(1, .int (nI 0)), (0, .ref (pa (0, 0)))]) hx hb dX1_lookAtTrails_1 rfl hl (by decide) rfl (fun ls hl => ?_)
  refine lv_iconst (v := nI 0) hx hb dX1_lookAtTrails_2 zi_0 ?_
  refine lv_istore_n (lv' := [(2, .int (nI 0)), (1, .int (nI 0)), (0, .ref (pa (0, 0)))]) hx hb dX1_lookAtTrails_3 rfl hl (by decide) rfl (fun ls hl => ?_)
  refine lv_iconst (v := mI 0) hx hb dX1_lookAtTrails_4 zi_m1 ?_
  refine lv_istore_n (lv' := [(3, .int (mI 0)), (2, .int (nI 0)), (1, .int (nI 0)), (0, .ref (pa (0, 0)))]) hx hb dX1_lookAtTrails_5 rfl hl (by decide) rfl (fun ls hl => ?_)
  refine lv_iconst (v := nI 0) hx hb dX1_lookAtTrails_6 zi_0 ?_
  refine lv_istore (lv' := [(4, .int (nI 0)), (3, .int (mI 0)), (2, .int (nI 0)), (1, .int (nI 0)), (0, .ref (pa (0, 0)))]) hx hb dX1_lookAtTrails_7 hl (by decide) rfl (fun ls hl => ?_)
  have L_9 : ∀ (n_9 : Nat) (i : Nat), i ≤ 3 → 3 - i < n_9 → ∀ x1_9 : Int32, x1_9 = nI (xMx g i) → ∀ x2_9 : Int32, x2_9 = nI (xCnt g i) → ∀ x3_9 : Int32, x3_9 = mI (xOne g i) → ∀ (H : Heap) (locs : List Loc), XS D dA cn A pa g T H → va_S A s.heap H locs → ∀ ls : Array Slot, lv_has ls 6 [(0, .ref (pa (0, 0))), (1, .int x1_9), (2, .int x2_9), (3, .int x3_9), (4, .int (nI i))] → W pr l en (rmF 16 0 0 788) s m args below meth cd H locs (0) (0) (MQ below (zc_Q Post A) args s 0 0 A) (F0 m 9 ls []) := by
    intro n_9
    induction n_9 with
    | zero => intro i hi_9 hm_9; exact absurd hm_9 (Nat.not_lt_zero _)
    | succ n_9 ih_9 =>
      intro i hi_9 hm_9 x1_9 ex1_9 x2_9 ex2_9 x3_9 ex3_9 H locs hM hS ls hl
      subst ex1_9
      subst ex2_9
      subst ex3_9
      refine lv_iload hx hb dX1_lookAtTrails_9 (lv_at hl 4 rfl) ?_
      refine lv_iconst (v := nI 3) hx hb dX1_lookAtTrails_11 zi_3 ?_
      refine zr_icmp_geN (a := i) (b := 3) (tgt := 73) hx hb (by omega) (by omega) dX1_lookAtTrails_12 (by decide) (fun c_1 => ?_) (fun c_1 => ?_)
      · have e_i : 3 = i := by omega
        subst e_i
        have hb1 := xMx_le g 3
        have hb2 := xCnt_le g 3
        have hb3 := xOne_le g 3
        refine lv_aload_n hx hb dX1_lookAtTrails_73 rfl (lv_at hl 0 rfl) ?_
        refine gX_trailHolder S hK hM (g 7 7) rfl dX1_lookAtTrails_74 ?_
        have hb_2 : g 7 7 < 1048576 := by first | exact hg 7 7 | exact hg0 _ _ | (have := hg 7 7; omega) | omega
        refine lv_iconst (v := mI 0) hx hb dX1_lookAtTrails_77 zi_m1 ?_
        have J_98 : ∀ yS0_98 : Int32, yS0_98 = nI (!decide ((g 7 7) = 0) && (decide ((xLong g ((g 7 7) - 1)) = (xMx g 3)))).toNat → ∀ (H : Heap) (locs : List Loc), XS D dA cn A pa g T H → va_S A s.heap H locs → ∀ ls : Array Slot, lv_has ls 6 [(0, .ref (pa (0, 0))), (1, .int (nI (xMx g 3))), (2, .int (nI (xCnt g 3))), (3, .int (mI (xOne g 3)))] → W pr l en (rmF 16 0 0 788) s m args below meth cd H locs (0) (0) (MQ below (zc_Q Post A) args s 0 0 A) (F0 m 98 ls [.int yS0_98]) := by
          intro yS0_98 eyS0_98 H locs hM hS ls hl
          subst eyS0_98
          refine lv_istore (lv' := [(4, .int (nI (!decide ((g 7 7) = 0) && (decide ((xLong g ((g 7 7) - 1)) = (xMx g 3)))).toNat)), (0, .ref (pa (0, 0))), (1, .int (nI (xMx g 3))), (2, .int (nI (xCnt g 3))), (3, .int (mI (xOne g 3)))]) hx hb dX1_lookAtTrails_98 hl (by decide) rfl (fun ls hl => ?_)
          refine lv_aload_n hx hb dX1_lookAtTrails_100 rfl (lv_at hl 1 rfl) ?_
          refine lv_iload_n hx hb dX1_lookAtTrails_101 rfl (lv_at hl 2 rfl) ?_
          refine lv_iconst (v := nI 5) hx hb dX1_lookAtTrails_102 zi_5 ?_
          refine zr_icmp_geN (a := (xMx g 3)) (b := 5) (tgt := 110) hx hb (by omega) (by omega) dX1_lookAtTrails_103 (by decide) (fun c_6 => ?_) (fun c_6 => ?_)
          · refine lv_iload hx hb dX1_lookAtTrails_110 (lv_at hl 0 rfl) ?_
            refine zr_if_eqB (b := !decide ((g 7 7) = 0) && (decide ((xLong g ((g 7 7) - 1)) = (xMx g 3)))) (tgt := 122) hx hb dX1_lookAtTrails_112 (by decide) (fun c_7 => ?_) (fun c_7 => ?_)
            · refine lv_iload_n hx hb dX1_lookAtTrails_122 rfl (lv_at hl 3 rfl) ?_
              refine lv_iconst (v := nI 1) hx hb dX1_lookAtTrails_123 zi_1 ?_
              refine zr_icmp_neN (a := (xCnt g 3)) (b := 1) (tgt := 131) hx hb (by omega) (by omega) dX1_lookAtTrails_124 (by decide) (fun c_8 => ?_) (fun c_8 => ?_)
              · refine lv_iconst (v := mI 0) hx hb dX1_lookAtTrails_131 zi_m1 ?_
                refine pX_trailHolder S hK hM hS 0 dX1_lookAtTrails_132 (fun H locs hM hS => ?_)
                have hg : Sm (gs g 7 7 0) := Sm_gs hg (by first | omega | exact Nat.lt_of_le_of_lt (Bool.toNat_le _) (by decide) | ((repeat' split) <;> omega))
                rw [show (gs g 7 7 0 : G) = gs g 7 7 (xHold g) from by first | with_reducible rfl | (simp [c_1, c_6, c_7, c_8, xHold, xStay]; done) | (simp only [c_1, c_6, c_7, c_8] <;> simp [xHold, xStay]; done) | (simp only [xHold, xStay, c_1, c_6, c_7, c_8] <;> simp [xHold, xStay]; done) | (simp [c_1, c_6, c_7, c_8, xHold, xStay, Bool.and_assoc]; done) | (simp [c_1, c_6, c_7, c_8, xHold, xStay, Bool.and_assoc, Bool.or_assoc]; done) | rfl | (simp [c_1, c_6, c_7, c_8, xHold, xStay]; omega) | (simp_all [xHold, xStay]; done)] at hM hg
                exact zc_vret (hPost H hM hg) hS hx hb hr hlk (Nat.le_of_ble_eq_true rfl) (Nat.le_of_ble_eq_true rfl) dX1_lookAtTrails_135
              · refine lv_iload_n hx hb dX1_lookAtTrails_127 rfl (lv_at hl 4 rfl) ?_
                refine lv_goto (tgt := 132) hx hb dX1_lookAtTrails_128 (by decide) ?_
                refine pX_trailHolder S hK hM hS (xOne g 3) dX1_lookAtTrails_132 (fun H locs hM hS => ?_)
                have hg : Sm (gs g 7 7 (xOne g 3)) := Sm_gs hg (by first | omega | exact Nat.lt_of_le_of_lt (Bool.toNat_le _) (by decide) | ((repeat' split) <;> omega))
                rw [show (gs g 7 7 (xOne g 3) : G) = gs g 7 7 (xHold g) from by first | with_reducible rfl | (simp [c_1, c_6, c_7, c_8, xHold, xStay]; done) | (simp only [c_1, c_6, c_7, c_8] <;> simp [xHold, xStay]; done) | (simp only [xHold, xStay, c_1, c_6, c_7, c_8] <;> simp [xHold, xStay]; done) | (simp [c_1, c_6, c_7, c_8, xHold, xStay, Bool.and_assoc]; done) | (simp [c_1, c_6, c_7, c_8, xHold, xStay, Bool.and_assoc, Bool.or_assoc]; done) | rfl | (simp [c_1, c_6, c_7, c_8, xHold, xStay]; omega) | (simp_all [xHold, xStay]; done)] at hM hg
                exact zc_vret (hPost H hM hg) hS hx hb hr hlk (Nat.le_of_ble_eq_true rfl) (Nat.le_of_ble_eq_true rfl) dX1_lookAtTrails_135
            · refine lv_aload_n hx hb dX1_lookAtTrails_115 rfl (lv_at hl 1 rfl) ?_
              refine gX_trailHolder S hK hM (g 7 7) rfl dX1_lookAtTrails_116 ?_
              have hb_9 : g 7 7 < 1048576 := by first | exact hg 7 7 | exact hg0 _ _ | (have := hg 7 7; omega) | omega
              refine lv_goto (tgt := 132) hx hb dX1_lookAtTrails_119 (by decide) ?_
              refine pX_trailHolder S hK hM hS (g 7 7) dX1_lookAtTrails_132 (fun H locs hM hS => ?_)
              have hg : Sm (gs g 7 7 (g 7 7)) := Sm_gs hg (by first | omega | exact Nat.lt_of_le_of_lt (Bool.toNat_le _) (by decide) | ((repeat' split) <;> omega))
              rw [show (gs g 7 7 (g 7 7) : G) = gs g 7 7 (xHold g) from by first | with_reducible rfl | (simp [c_1, c_6, c_7, xHold, xStay]; done) | (simp only [c_1, c_6, c_7] <;> simp [xHold, xStay]; done) | (simp only [xHold, xStay, c_1, c_6, c_7] <;> simp [xHold, xStay]; done) | (simp [c_1, c_6, c_7, xHold, xStay, Bool.and_assoc]; done) | (simp [c_1, c_6, c_7, xHold, xStay, Bool.and_assoc, Bool.or_assoc]; done) | rfl | (simp [c_1, c_6, c_7, xHold, xStay]; omega) | (simp_all [xHold, xStay]; done)] at hM hg
              exact zc_vret (hPost H hM hg) hS hx hb hr hlk (Nat.le_of_ble_eq_true rfl) (Nat.le_of_ble_eq_true rfl) dX1_lookAtTrails_135
          · refine lv_iconst (v := mI 0) hx hb dX1_lookAtTrails_106 zi_m1 ?_
            refine lv_goto (tgt := 132) hx hb dX1_lookAtTrails_107 (by decide) ?_
            refine pX_trailHolder S hK hM hS 0 dX1_lookAtTrails_132 (fun H locs hM hS => ?_)
            have hg : Sm (gs g 7 7 0) := Sm_gs hg (by first | omega | exact Nat.lt_of_le_of_lt (Bool.toNat_le _) (by decide) | ((repeat' split) <;> omega))
            rw [show (gs g 7 7 0 : G) = gs g 7 7 (xHold g) from by first | with_reducible rfl | (simp [c_1, c_6, xHold, xStay]; done) | (simp only [c_1, c_6] <;> simp [xHold, xStay]; done) | (simp only [xHold, xStay, c_1, c_6] <;> simp [xHold, xStay]; done) | (simp [c_1, c_6, xHold, xStay, Bool.and_assoc]; done) | (simp [c_1, c_6, xHold, xStay, Bool.and_assoc, Bool.or_assoc]; done) | rfl | (simp [c_1, c_6, xHold, xStay]; omega) | (simp_all [xHold, xStay]; done)] at hM hg
            exact zc_vret (hPost H hM hg) hS hx hb hr hlk (Nat.le_of_ble_eq_true rfl) (Nat.le_of_ble_eq_true rfl) dX1_lookAtTrails_135
        refine zr_icmp_eqM (a := (g 7 7)) (b := 0) (tgt := 97) hx hb (by omega) (by omega) dX1_lookAtTrails_78 (by decide) (fun c_10 => ?_) (fun c_10 => ?_)
        · refine lv_iconst (v := nI 0) hx hb dX1_lookAtTrails_97 zi_0 ?_
          exact J_98 _ (congrArg (fun z : Bool => nI z.toNat) (show (false : Bool) = (!decide ((g 7 7) = 0) && (decide ((xLong g ((g 7 7) - 1)) = (xMx g 3)))) from by first | with_reducible rfl | (simp [c_1, c_10, xHold, xStay]; done) | (simp only [c_1, c_10] <;> simp [xHold, xStay]; done) | (simp only [xHold, xStay, c_1, c_10] <;> simp [xHold, xStay]; done) | (simp [c_1, c_10, xHold, xStay, Bool.and_assoc]; done) | (simp [c_1, c_10, xHold, xStay, Bool.and_assoc, Bool.or_assoc]; done) | rfl | (simp [c_1, c_10, xHold, xStay]; omega) | (simp_all [xHold, xStay]; done))) H locs hM hS ls (lv_sub hl [0, 1, 2, 3] rfl)
        · refine lv_aload_n hx hb dX1_lookAtTrails_81 rfl (lv_at hl 0 rfl) ?_
          refine lv_aload_n hx hb dX1_lookAtTrails_82 rfl (lv_at hl 0 rfl) ?_
          refine gX_trailHolder S hK hM (g 7 7) rfl dX1_lookAtTrails_83 ?_
          have hb_11 : g 7 7 < 1048576 := by first | exact hg 7 7 | exact hg0 _ _ | (have := hg 7 7; omega) | omega
          rw [mI_pred (show 0 < (g 7 7) from by omega)]
          refine kX_longest S hKX hM hg hS ((g 7 7) - 1) (by first | omega | assumption | grind) (by first | omega | assumption | grind) (by first | omega | assumption | grind) (Nat.le_of_ble_eq_true rfl) (Nat.le_of_ble_eq_true rfl) hl.1 (Nat.le_of_ble_eq_true rfl) dX1_lookAtTrails_86 (Nat.le_of_ble_eq_true rfl) (Nat.le_of_ble_eq_true rfl) (fun locs hS => ?_)
          have f86_0 : xLong g ((g 7 7) - 1) ≤ 9 := xLong_le _ _
          refine lv_iload_n hx hb dX1_lookAtTrails_89 rfl (lv_at hl 1 rfl) ?_
          refine zr_icmp_neN (a := (xLong g ((g 7 7) - 1))) (b := (xMx g 3)) (tgt := 97) hx hb (by omega) (by omega) dX1_lookAtTrails_90 (by decide) (fun c_12 => ?_) (fun c_12 => ?_)
          · refine lv_iconst (v := nI 0) hx hb dX1_lookAtTrails_97 zi_0 ?_
            exact J_98 _ (congrArg (fun z : Bool => nI z.toNat) (show (false : Bool) = (!decide ((g 7 7) = 0) && (decide ((xLong g ((g 7 7) - 1)) = (xMx g 3)))) from by first | with_reducible rfl | (simp [c_1, c_10, c_12, xHold, xStay]; done) | (simp only [c_1, c_10, c_12] <;> simp [xHold, xStay]; done) | (simp only [xHold, xStay, c_1, c_10, c_12] <;> simp [xHold, xStay]; done) | (simp [c_1, c_10, c_12, xHold, xStay, Bool.and_assoc]; done) | (simp [c_1, c_10, c_12, xHold, xStay, Bool.and_assoc, Bool.or_assoc]; done) | rfl | (simp [c_1, c_10, c_12, xHold, xStay]; omega) | (simp_all [xHold, xStay]; done))) H locs hM hS ls (lv_sub hl [0, 1, 2, 3] rfl)
          · refine lv_iconst (v := nI 1) hx hb dX1_lookAtTrails_93 zi_1 ?_
            refine lv_goto (tgt := 98) hx hb dX1_lookAtTrails_94 (by decide) ?_
            exact J_98 _ (congrArg (fun z : Bool => nI z.toNat) (show (true : Bool) = (!decide ((g 7 7) = 0) && (decide ((xLong g ((g 7 7) - 1)) = (xMx g 3)))) from by first | with_reducible rfl | (simp [c_1, c_10, c_12, xHold, xStay]; done) | (simp only [c_1, c_10, c_12] <;> simp [xHold, xStay]; done) | (simp only [xHold, xStay, c_1, c_10, c_12] <;> simp [xHold, xStay]; done) | (simp [c_1, c_10, c_12, xHold, xStay, Bool.and_assoc]; done) | (simp [c_1, c_10, c_12, xHold, xStay, Bool.and_assoc, Bool.or_assoc]; done) | rfl | (simp [c_1, c_10, c_12, xHold, xStay]; omega) | (simp_all [xHold, xStay]; done))) H locs hM hS ls (lv_sub hl [0, 1, 2, 3] rfl)
      · have hb1 := xMx_le g i
        have hb2 := xCnt_le g i
        have hb3 := xOne_le g i
        refine lv_aload_n hx hb dX1_lookAtTrails_15 rfl (lv_at hl 0 rfl) ?_
        refine lv_iload hx hb dX1_lookAtTrails_16 (lv_at hl 4 rfl) ?_
        refine kX_longest S hKX hM hg hS i (by first | omega | assumption | grind) (by first | omega | assumption | grind) (by first | omega | assumption | grind) (Nat.le_of_ble_eq_true rfl) (Nat.le_of_ble_eq_true rfl) hl.1 (Nat.le_of_ble_eq_true rfl) dX1_lookAtTrails_18 (Nat.le_of_ble_eq_true rfl) (Nat.le_of_ble_eq_true rfl) (fun locs hS => ?_)
        have f18_0 : xLong g i ≤ 9 := xLong_le _ _
        refine lv_istore (lv' := [(5, .int (nI (xLong g i))), (0, .ref (pa (0, 0))), (1, .int (nI (xMx g i))), (2, .int (nI (xCnt g i))), (3, .int (mI (xOne g i))), (4, .int (nI i))]) hx hb dX1_lookAtTrails_21 hl (by decide) rfl (fun ls hl => ?_)
        refine lv_iload hx hb dX1_lookAtTrails_23 (lv_at hl 0 rfl) ?_
        refine lv_iload_n hx hb dX1_lookAtTrails_25 rfl (lv_at hl 2 rfl) ?_
        have J_46 : ∀ yS0_46 : Int32, yS0_46 = nI ((if (xMx g i) < (xLong g i) then 1 else (if (xLong g i) = (xMx g i) then (xCnt g i) + 1 else xCnt g i))) → ∀ (H : Heap) (locs : List Loc), XS D dA cn A pa g T H → va_S A s.heap H locs → ∀ ls : Array Slot, lv_has ls 6 [(0, .ref (pa (0, 0))), (1, .int (nI (xMx g i))), (3, .int (mI (xOne g i))), (4, .int (nI i)), (5, .int (nI (xLong g i)))] → W pr l en (rmF 16 0 0 788) s m args below meth cd H locs (0) (0) (MQ below (zc_Q Post A) args s 0 0 A) (F0 m 46 ls [.int yS0_46]) := by
          intro yS0_46 eyS0_46 H locs hM hS ls hl
          subst eyS0_46
          refine lv_istore_n (lv' := [(2, .int (nI ((if (xMx g i) < (xLong g i) then 1 else (if (xLong g i) = (xMx g i) then (xCnt g i) + 1 else xCnt g i))))), (0, .ref (pa (0, 0))), (1, .int (nI (xMx g i))), (3, .int (mI (xOne g i))), (4, .int (nI i)), (5, .int (nI (xLong g i)))]) hx hb dX1_lookAtTrails_46 rfl hl (by decide) rfl (fun ls hl => ?_)
          refine lv_iload hx hb dX1_lookAtTrails_47 (lv_at hl 5 rfl) ?_
          refine lv_iload_n hx hb dX1_lookAtTrails_49 rfl (lv_at hl 2 rfl) ?_
          have J_59 : ∀ yS0_59 : Int32, yS0_59 = mI ((if (xMx g i) < (xLong g i) then i + 1 else xOne g i)) → ∀ (H : Heap) (locs : List Loc), XS D dA cn A pa g T H → va_S A s.heap H locs → ∀ ls : Array Slot, lv_has ls 6 [(0, .ref (pa (0, 0))), (1, .int (nI (xMx g i))), (2, .int (nI ((if (xMx g i) < (xLong g i) then 1 else (if (xLong g i) = (xMx g i) then (xCnt g i) + 1 else xCnt g i))))), (4, .int (nI i)), (5, .int (nI (xLong g i)))] → W pr l en (rmF 16 0 0 788) s m args below meth cd H locs (0) (0) (MQ below (zc_Q Post A) args s 0 0 A) (F0 m 59 ls [.int yS0_59]) := by
            intro yS0_59 eyS0_59 H locs hM hS ls hl
            subst eyS0_59
            refine lv_istore_n (lv' := [(3, .int (mI ((if (xMx g i) < (xLong g i) then i + 1 else xOne g i)))), (0, .ref (pa (0, 0))), (1, .int (nI (xMx g i))), (2, .int (nI ((if (xMx g i) < (xLong g i) then 1 else (if (xLong g i) = (xMx g i) then (xCnt g i) + 1 else xCnt g i))))), (4, .int (nI i)), (5, .int (nI (xLong g i)))]) hx hb dX1_lookAtTrails_59 rfl hl (by decide) rfl (fun ls hl => ?_)
            refine lv_iload_n hx hb dX1_lookAtTrails_60 rfl (lv_at hl 2 rfl) ?_
            refine lv_iload hx hb dX1_lookAtTrails_61 (lv_at hl 5 rfl) ?_
            refine zx_max S (a := (xMx g i)) (b := (xLong g i)) (by omega) (by omega) (Nat.le_of_ble_eq_true rfl) (Nat.le_of_ble_eq_true rfl) (Nat.le_of_ble_eq_true rfl) (Nat.le_of_ble_eq_true rfl) hl.1 dX1_lookAtTrails_63 (Nat.le_of_ble_eq_true rfl) ?_
            have hb_16 : (if (xMx g i) < (xLong g i) then (xLong g i) else (xMx g i) : Nat) ≤ (xMx g i) + (xLong g i) := by split <;> omega
            refine lv_istore_n (lv' := [(1, .int (nI (if (xMx g i) < (xLong g i) then (xLong g i) else (xMx g i)))), (3, .int (mI ((if (xMx g i) < (xLong g i) then i + 1 else xOne g i)))), (0, .ref (pa (0, 0))), (2, .int (nI ((if (xMx g i) < (xLong g i) then 1 else (if (xLong g i) = (xMx g i) then (xCnt g i) + 1 else xCnt g i))))), (4, .int (nI i)), (5, .int (nI (xLong g i)))]) hx hb dX1_lookAtTrails_66 rfl hl (by decide) rfl (fun ls hl => ?_)
            refine lv_iinc (v := nI (i + 1)) (lv' := [(4, .int (nI (i + 1))), (1, .int (nI (if (xMx g i) < (xLong g i) then (xLong g i) else (xMx g i)))), (3, .int (mI ((if (xMx g i) < (xLong g i) then i + 1 else xOne g i)))), (0, .ref (pa (0, 0))), (2, .int (nI ((if (xMx g i) < (xLong g i) then 1 else (if (xLong g i) = (xMx g i) then (xCnt g i) + 1 else xCnt g i))))), (5, .int (nI (xLong g i)))]) hx hb dX1_lookAtTrails_67 hl (k := 4) rfl (zk_inc _) (by decide) rfl (fun ls hl => ?_)
            refine lv_goto (tgt := 9) hx hb dX1_lookAtTrails_70 (by decide) ?_
            exact ih_9 (i + 1) (by first | omega | assumption | (simp; done) | grind) (by omega) _ (congrArg nI (show (if (xMx g i) < (xLong g i) then (xLong g i) else (xMx g i) : Nat) = (xMx g (i + 1)) from by first | with_reducible rfl | (simp [c_1, xHold, xStay, xMx, xCnt, xOne]; done) | (simp only [c_1] <;> simp [xHold, xStay, xMx, xCnt, xOne]; done) | (simp only [xHold, xStay, xMx, xCnt, xOne, c_1] <;> simp [xHold, xStay, xMx, xCnt, xOne]; done) | (simp [c_1, xHold, xStay, xMx, xCnt, xOne, Bool.and_assoc]; done) | (simp [c_1, xHold, xStay, xMx, xCnt, xOne, Bool.and_assoc, Bool.or_assoc]; done) | rfl | (simp [c_1, xHold, xStay, xMx, xCnt, xOne]; omega) | (simp_all [xHold, xStay, xMx, xCnt, xOne]; done))) _ (congrArg nI (show ((if (xMx g i) < (xLong g i) then 1 else (if (xLong g i) = (xMx g i) then (xCnt g i) + 1 else xCnt g i)) : Nat) = (xCnt g (i + 1)) from by first | with_reducible rfl | (simp [c_1, xHold, xStay, xMx, xCnt, xOne]; done) | (simp only [c_1] <;> simp [xHold, xStay, xMx, xCnt, xOne]; done) | (simp only [xHold, xStay, xMx, xCnt, xOne, c_1] <;> simp [xHold, xStay, xMx, xCnt, xOne]; done) | (simp [c_1, xHold, xStay, xMx, xCnt, xOne, Bool.and_assoc]; done) | (simp [c_1, xHold, xStay, xMx, xCnt, xOne, Bool.and_assoc, Bool.or_assoc]; done) | rfl | (simp [c_1, xHold, xStay, xMx, xCnt, xOne]; omega) | (simp_all [xHold, xStay, xMx, xCnt, xOne]; done))) _ (congrArg mI (show ((if (xMx g i) < (xLong g i) then i + 1 else xOne g i) : Nat) = (xOne g (i + 1)) from by first | with_reducible rfl | (simp [c_1, xHold, xStay, xMx, xCnt, xOne]; done) | (simp only [c_1] <;> simp [xHold, xStay, xMx, xCnt, xOne]; done) | (simp only [xHold, xStay, xMx, xCnt, xOne, c_1] <;> simp [xHold, xStay, xMx, xCnt, xOne]; done) | (simp [c_1, xHold, xStay, xMx, xCnt, xOne, Bool.and_assoc]; done) | (simp [c_1, xHold, xStay, xMx, xCnt, xOne, Bool.and_assoc, Bool.or_assoc]; done) | rfl | (simp [c_1, xHold, xStay, xMx, xCnt, xOne]; omega) | (simp_all [xHold, xStay, xMx, xCnt, xOne]; done))) H locs hM hS ls (lv_sub hl [3, 1, 4, 2, 0] rfl)
          refine zr_icmp_leN (a := (xLong g i)) (b := (xMx g i)) (tgt := 58) hx hb (by omega) (by omega) dX1_lookAtTrails_50 (by decide) (fun c_17 => ?_) (fun c_17 => ?_)
          · refine lv_iload_n hx hb dX1_lookAtTrails_58 rfl (lv_at hl 3 rfl) ?_
            exact J_59 _ (congrArg mI (show (xOne g i : Nat) = ((if (xMx g i) < (xLong g i) then i + 1 else xOne g i)) from by first | with_reducible rfl | (simp [c_1, c_17, xHold, xStay]; done) | (simp only [c_1, c_17] <;> simp [xHold, xStay]; done) | (simp only [xHold, xStay, c_1, c_17] <;> simp [xHold, xStay]; done) | (simp [c_1, c_17, xHold, xStay, Bool.and_assoc]; done) | (simp [c_1, c_17, xHold, xStay, Bool.and_assoc, Bool.or_assoc]; done) | rfl | (simp [c_1, c_17, xHold, xStay]; omega) | (simp_all [xHold, xStay]; done))) H locs hM hS ls (lv_sub hl [1, 2, 0, 4, 5] rfl)
          · refine lv_iload hx hb dX1_lookAtTrails_53 (lv_at hl 4 rfl) ?_
            refine lv_goto (tgt := 59) hx hb dX1_lookAtTrails_55 (by decide) ?_
            exact J_59 _ ((mI_succ i).symm.trans (congrArg mI (show (i + 1 : Nat) = ((if (xMx g i) < (xLong g i) then i + 1 else xOne g i)) from by first | with_reducible rfl | (simp [c_1, c_17, xHold, xStay]; done) | (simp only [c_1, c_17] <;> simp [xHold, xStay]; done) | (simp only [xHold, xStay, c_1, c_17] <;> simp [xHold, xStay]; done) | (simp [c_1, c_17, xHold, xStay, Bool.and_assoc]; done) | (simp [c_1, c_17, xHold, xStay, Bool.and_assoc, Bool.or_assoc]; done) | rfl | (simp [c_1, c_17, xHold, xStay]; omega) | (simp_all [xHold, xStay]; done)))) H locs hM hS ls (lv_sub hl [1, 2, 0, 4, 5] rfl)
        refine zr_icmp_leN (a := (xLong g i)) (b := (xMx g i)) (tgt := 33) hx hb (by omega) (by omega) dX1_lookAtTrails_26 (by decide) (fun c_18 => ?_) (fun c_18 => ?_)
        · refine lv_iload hx hb dX1_lookAtTrails_33 (lv_at hl 0 rfl) ?_
          refine lv_iload_n hx hb dX1_lookAtTrails_35 rfl (lv_at hl 2 rfl) ?_
          refine zr_icmp_neN (a := (xLong g i)) (b := (xMx g i)) (tgt := 45) hx hb (by omega) (by omega) dX1_lookAtTrails_36 (by decide) (fun c_19 => ?_) (fun c_19 => ?_)
          · refine lv_iload_n hx hb dX1_lookAtTrails_45 rfl (lv_at hl 3 rfl) ?_
            exact J_46 _ (congrArg nI (show (xCnt g i : Nat) = ((if (xMx g i) < (xLong g i) then 1 else (if (xLong g i) = (xMx g i) then (xCnt g i) + 1 else xCnt g i))) from by first | with_reducible rfl | (simp [c_1, c_18, c_19, xHold, xStay]; done) | (simp only [c_1, c_18, c_19] <;> simp [xHold, xStay]; done) | (simp only [xHold, xStay, c_1, c_18, c_19] <;> simp [xHold, xStay]; done) | (simp [c_1, c_18, c_19, xHold, xStay, Bool.and_assoc]; done) | (simp [c_1, c_18, c_19, xHold, xStay, Bool.and_assoc, Bool.or_assoc]; done) | rfl | (simp [c_1, c_18, c_19, xHold, xStay]; omega) | (simp_all [xHold, xStay]; done))) H locs hM hS ls (lv_sub hl [1, 2, 4, 5, 0] rfl)
          · refine lv_iload_n hx hb dX1_lookAtTrails_39 rfl (lv_at hl 3 rfl) ?_
            refine lv_iconst (v := nI 1) hx hb dX1_lookAtTrails_40 zi_1 ?_
            refine zr_addN (a := (xCnt g i)) (b := 1) hx hb dX1_lookAtTrails_41 ?_
            refine lv_goto (tgt := 46) hx hb dX1_lookAtTrails_42 (by decide) ?_
            exact J_46 _ (congrArg nI (show ((xCnt g i) + 1 : Nat) = ((if (xMx g i) < (xLong g i) then 1 else (if (xLong g i) = (xMx g i) then (xCnt g i) + 1 else xCnt g i))) from by first | with_reducible rfl | (simp [c_1, c_18, c_19, xHold, xStay]; done) | (simp only [c_1, c_18, c_19] <;> simp [xHold, xStay]; done) | (simp only [xHold, xStay, c_1, c_18, c_19] <;> simp [xHold, xStay]; done) | (simp [c_1, c_18, c_19, xHold, xStay, Bool.and_assoc]; done) | (simp [c_1, c_18, c_19, xHold, xStay, Bool.and_assoc, Bool.or_assoc]; done) | rfl | (simp [c_1, c_18, c_19, xHold, xStay]; omega) | (simp_all [xHold, xStay]; done))) H locs hM hS ls (lv_sub hl [1, 2, 4, 5, 0] rfl)
        · refine lv_iconst (v := nI 1) hx hb dX1_lookAtTrails_29 zi_1 ?_
          refine lv_goto (tgt := 46) hx hb dX1_lookAtTrails_30 (by decide) ?_
          exact J_46 _ (congrArg nI (show (1 : Nat) = ((if (xMx g i) < (xLong g i) then 1 else (if (xLong g i) = (xMx g i) then (xCnt g i) + 1 else xCnt g i))) from by first | with_reducible rfl | (simp [c_1, c_18, xHold, xStay]; done) | (simp only [c_1, c_18] <;> simp [xHold, xStay]; done) | (simp only [xHold, xStay, c_1, c_18] <;> simp [xHold, xStay]; done) | (simp [c_1, c_18, xHold, xStay, Bool.and_assoc]; done) | (simp [c_1, c_18, xHold, xStay, Bool.and_assoc, Bool.or_assoc]; done) | rfl | (simp [c_1, c_18, xHold, xStay]; omega) | (simp_all [xHold, xStay]; done))) H locs hM hS ls (lv_sub hl [1, 2, 4, 5, 0] rfl)
  exact L_9 _ 0 (by first | omega | assumption | (simp; done) | grind) (Nat.lt_succ_self _) _ (congrArg nI (show (0 : Nat) = (xMx g 0) from by first | with_reducible rfl | (simp [xHold, xStay, xMx, xCnt, xOne]; done) | (simp [xHold, xStay, xMx, xCnt, xOne, Bool.and_assoc]; done) | (simp [xHold, xStay, xMx, xCnt, xOne, Bool.and_assoc, Bool.or_assoc]; done) | rfl | (simp [xHold, xStay, xMx, xCnt, xOne]; omega) | (simp_all [xHold, xStay, xMx, xCnt, xOne]; done))) _ (congrArg nI (show (0 : Nat) = (xCnt g 0) from by first | with_reducible rfl | (simp [xHold, xStay, xMx, xCnt, xOne]; done) | (simp [xHold, xStay, xMx, xCnt, xOne, Bool.and_assoc]; done) | (simp [xHold, xStay, xMx, xCnt, xOne, Bool.and_assoc, Bool.or_assoc]; done) | rfl | (simp [xHold, xStay, xMx, xCnt, xOne]; omega) | (simp_all [xHold, xStay, xMx, xCnt, xOne]; done))) _ (congrArg mI (show (0 : Nat) = (xOne g 0) from by first | with_reducible rfl | (simp [xHold, xStay, xMx, xCnt, xOne]; done) | (simp [xHold, xStay, xMx, xCnt, xOne, Bool.and_assoc]; done) | (simp [xHold, xStay, xMx, xCnt, xOne, Bool.and_assoc, Bool.or_assoc]; done) | rfl | (simp [xHold, xStay, xMx, xCnt, xOne]; omega) | (simp_all [xHold, xStay, xMx, xCnt, xOne]; done))) H0 [] hM hS ls (lv_sub hl [4, 3, 2, 1, 0] rfl)
theorem kX_lookAtTrails {pr : Program} {l : Launch} {en : Env} {R : Room} {s : State} {m : MethodId} {args : Array Value} {below : List Frame} {meth : Method} {cd : Code} {H : Heap} {locs : List Loc} {cells slots : Nat} {cc : ByteArray} {pc nL : Nat} {ls : Array Slot} {rest : List Value} {D : va_G} {dA : Nat → ClassId} {cn : Nat → Nat} {A : Nat → Prop} {pa : NM → Nat} {g : G} {T : va_W} {Q : State → Prop} (S : CallFix pr m cd cc nL s args lw_all RX1) (hKX : KX D dA cn A s) (hM : XS D dA cn A pa g T H) (hg : Sm g) (hS : va_S A s.heap H locs) (hA : ∀ q, H.size ≤ q → A q) (h6 : ∀ c, c < 24 → g 2 c ≤ 6) (hr8 : ∀ p, p < 3 → roadsN g p 30 ≤ 8) (h7 : g 7 7 ≤ 3) (hf : 16 + 1 ≤ R.frames) (hlo : 8 + (6 + 11) + 788 ≤ R.locals) (hsz : ls.size = nL) (hcat : (rest.map fun v => v.category).sum ≤ 8) (hdg : decode cc pc = .ok (.invokevirtual 218, 3)) (hq1 : cells + 0 ≤ R.cells) (hq2 : slots + 0 ≤ R.slots) (kk : ∀ (H1 : Heap) (locs1 : List Loc), XS D dA cn A pa (gs g 7 7 (xHold g)) T H1 → Sm (gs g 7 7 (xHold g)) → va_S A s.heap H1 locs1 → W pr l en R s m args below meth cd H1 locs1 (cells + 0) (slots + 0) Q (F0 m (pc + 3) ls (rest))) : W pr l en R s m args below meth cd H locs cells slots Q (F0 m pc ls (.ref (pa (0, 0)) :: rest)) :=
  zc_callV (n := 0) (As := []) (rest := rest) S (cX_lookAtTrails l hg h6 hr8 h7 H hM hA (Post := (fun v H1 => v = none ∧ XS D dA cn A pa (gs g 7 7 (xHold g)) T H1 ∧ Sm (gs g 7 7 (xHold g)))) (fun H1 h h2 => ⟨rfl, h, h2⟩)) (lw_V q514 q516 qs7 q71 q517) (by decide +kernel) ⟨hf, hlo⟩ ⟨hq1, hq2⟩ (zx_recv hKX.1 hM) KX_mv (zc_K KX_mv hKX hS) hS (fun _ h => h) rfl hsz rfl hcat hdg (fun v H1 locs1 hp _ _ hS1 => by obtain ⟨rfl, hM1, hg1⟩ := hp; exact kk H1 locs1 hM1 hg1 hS1)
