/-! THE MODEL: the robber, swaps, cards (printed by gen/m7.py) -/
theorem mMayRob_pos {g : G} {h v : Nat} (q : mMayRob g h v = true) (hv : 0 < v) : 0 < handN g (v - 1) 5 := by
  unfold mMayRob at q
  rw [if_neg (by omega)] at q
  unfold mVic at q
  simp at q
  exact q.2.2.2
theorem rbCode_0 {a1 a2 a3 : Int32} (h : (inB a1 7 && (okV a2 && inR a3 0 999)) = true) : rbCode a1 a2 a3 = 0 := by
  simp only [Bool.and_eq_true] at h
  unfold rbCode
  rw [if_pos h.1, if_pos h.2.1, if_pos h.2.2]
theorem moveN_other (y : G) {a b k n j : Nat} (h1 : j ≠ 5 * a + k) (h2 : j ≠ 5 * b + k) : moveN y a b k n 4 j = y 4 j := by unfold moveN; rw [gs_ni _ h2, gs_ni _ h1]
theorem moveN_from (y : G) {a b k n : Nat} (h : a ≠ b) : moveN y a b k n 4 (5 * a + k) = y 4 (5 * a + k) - n := by unfold moveN; rw [gs_ni _ (by omega), gs_eq]
theorem deckN_le (k : Nat) : deckN k ≤ 4 := by unfold deckN; (repeat' split) <;> omega
set_option maxHeartbeats 1000000 in
set_option maxRecDepth 100000 in
theorem cM_kindOf (l : Launch) {D : va_G} {dA : Nat → ClassId} {A : Nat → Prop} {ad : Nat → Nat} {g : G} (hg : Sm g) (a1 : Nat) (h1 : a1 < 15) (H0 : Heap) (hM : MS D dA A ad g H0) {Post : Option Value → Heap → Prop} (hPost : Post (some (.int (nI (deckN a1)))) H0) : Ct l yX3_kindOf (ws_ yX3_kindOf cX3_kindOf 1 (some .int)) (rmF 1 0 0 12) A (KT D dA) [.int (nI a1)] H0 Post := by
  refine zc_of RX3 rfl (by decide) (Nat.le_of_ble_eq_true rfl) ?_
  intro pr en s m args below meth cd S hr hlk hnm hh hK ls hl
  have hS : va_S A s.heap H0 [] := zc_start hh
  have hg0 := hg
  have hx := S.1
  have hb := S.2.1
  have hown := S.2.2.2.1
  have hts := S.2.2.2.2
  have hl : lv_has ls 1 [(0, .int (nI a1))] := hl
  rcases (show a1 = 0 ∨ a1 = 1 ∨ a1 = 2 ∨ a1 = 3 ∨ a1 = 4 ∨ a1 = 5 ∨ a1 = 6 ∨ a1 = 7 ∨ a1 = 8 ∨ a1 = 9 ∨ a1 = 10 ∨ a1 = 11 ∨ a1 = 12 ∨ a1 = 13 ∨ a1 = 14 by omega) with rfl | rfl | rfl | rfl | rfl | rfl | rfl | rfl | rfl | rfl | rfl | rfl | rfl | rfl | rfl
  · refine lv_iload_n hx hb dX3_kindOf_0 rfl (lv_at hl 0 rfl) ?_
    refine lv_tableOut (tgt := 80) hx hb dX3_kindOf_1 (by decide) (by decide) ?_
    refine lv_iconst (v := nI 0) hx hb dX3_kindOf_80 zi_0 ?_
    exact zc_nret (nI (deckN 0)) (by decide) hPost hS hx hb hr hlk (Nat.zero_le _) (Nat.zero_le _) dX3_kindOf_81
  · refine lv_iload_n hx hb dX3_kindOf_0 rfl (lv_at hl 0 rfl) ?_
    refine lv_tableIn (off := 71) (tgt := 72) hx hb dX3_kindOf_1 (by decide) (by decide) (by decide) (by decide) ?_
    refine lv_iconst (v := nI 4) hx hb dX3_kindOf_72 zi_4 ?_
    exact zc_nret (nI (deckN 1)) (by decide) hPost hS hx hb hr hlk (Nat.zero_le _) (Nat.zero_le _) dX3_kindOf_73
  · refine lv_iload_n hx hb dX3_kindOf_0 rfl (lv_at hl 0 rfl) ?_
    refine lv_tableIn (off := 73) (tgt := 74) hx hb dX3_kindOf_1 (by decide) (by decide) (by decide) (by decide) ?_
    refine lv_iconst (v := nI 1) hx hb dX3_kindOf_74 zi_1 ?_
    exact zc_nret (nI (deckN 2)) (by decide) hPost hS hx hb hr hlk (Nat.zero_le _) (Nat.zero_le _) dX3_kindOf_75
  · refine lv_iload_n hx hb dX3_kindOf_0 rfl (lv_at hl 0 rfl) ?_
    refine lv_tableIn (off := 79) (tgt := 80) hx hb dX3_kindOf_1 (by decide) (by decide) (by decide) (by decide) ?_
    refine lv_iconst (v := nI 0) hx hb dX3_kindOf_80 zi_0 ?_
    exact zc_nret (nI (deckN 3)) (by decide) hPost hS hx hb hr hlk (Nat.zero_le _) (Nat.zero_le _) dX3_kindOf_81
  · refine lv_iload_n hx hb dX3_kindOf_0 rfl (lv_at hl 0 rfl) ?_
    refine lv_tableIn (off := 75) (tgt := 76) hx hb dX3_kindOf_1 (by decide) (by decide) (by decide) (by decide) ?_
    refine lv_iconst (v := nI 2) hx hb dX3_kindOf_76 zi_2 ?_
    exact zc_nret (nI (deckN 4)) (by decide) hPost hS hx hb hr hlk (Nat.zero_le _) (Nat.zero_le _) dX3_kindOf_77
  · refine lv_iload_n hx hb dX3_kindOf_0 rfl (lv_at hl 0 rfl) ?_
    refine lv_tableIn (off := 77) (tgt := 78) hx hb dX3_kindOf_1 (by decide) (by decide) (by decide) (by decide) ?_
    refine lv_iconst (v := nI 3) hx hb dX3_kindOf_78 zi_3 ?_
    exact zc_nret (nI (deckN 5)) (by decide) hPost hS hx hb hr hlk (Nat.zero_le _) (Nat.zero_le _) dX3_kindOf_79
  · refine lv_iload_n hx hb dX3_kindOf_0 rfl (lv_at hl 0 rfl) ?_
    refine lv_tableIn (off := 79) (tgt := 80) hx hb dX3_kindOf_1 (by decide) (by decide) (by decide) (by decide) ?_
    refine lv_iconst (v := nI 0) hx hb dX3_kindOf_80 zi_0 ?_
    exact zc_nret (nI (deckN 6)) (by decide) hPost hS hx hb hr hlk (Nat.zero_le _) (Nat.zero_le _) dX3_kindOf_81
  · refine lv_iload_n hx hb dX3_kindOf_0 rfl (lv_at hl 0 rfl) ?_
    refine lv_tableIn (off := 71) (tgt := 72) hx hb dX3_kindOf_1 (by decide) (by decide) (by decide) (by decide) ?_
    refine lv_iconst (v := nI 4) hx hb dX3_kindOf_72 zi_4 ?_
    exact zc_nret (nI (deckN 7)) (by decide) hPost hS hx hb hr hlk (Nat.zero_le _) (Nat.zero_le _) dX3_kindOf_73
  · refine lv_iload_n hx hb dX3_kindOf_0 rfl (lv_at hl 0 rfl) ?_
    refine lv_tableIn (off := 79) (tgt := 80) hx hb dX3_kindOf_1 (by decide) (by decide) (by decide) (by decide) ?_
    refine lv_iconst (v := nI 0) hx hb dX3_kindOf_80 zi_0 ?_
    exact zc_nret (nI (deckN 8)) (by decide) hPost hS hx hb hr hlk (Nat.zero_le _) (Nat.zero_le _) dX3_kindOf_81
  · refine lv_iload_n hx hb dX3_kindOf_0 rfl (lv_at hl 0 rfl) ?_
    refine lv_tableIn (off := 73) (tgt := 74) hx hb dX3_kindOf_1 (by decide) (by decide) (by decide) (by decide) ?_
    refine lv_iconst (v := nI 1) hx hb dX3_kindOf_74 zi_1 ?_
    exact zc_nret (nI (deckN 9)) (by decide) hPost hS hx hb hr hlk (Nat.zero_le _) (Nat.zero_le _) dX3_kindOf_75
  · refine lv_iload_n hx hb dX3_kindOf_0 rfl (lv_at hl 0 rfl) ?_
    refine lv_tableIn (off := 75) (tgt := 76) hx hb dX3_kindOf_1 (by decide) (by decide) (by decide) (by decide) ?_
    refine lv_iconst (v := nI 2) hx hb dX3_kindOf_76 zi_2 ?_
    exact zc_nret (nI (deckN 10)) (by decide) hPost hS hx hb hr hlk (Nat.zero_le _) (Nat.zero_le _) dX3_kindOf_77
  · refine lv_iload_n hx hb dX3_kindOf_0 rfl (lv_at hl 0 rfl) ?_
    refine lv_tableIn (off := 79) (tgt := 80) hx hb dX3_kindOf_1 (by decide) (by decide) (by decide) (by decide) ?_
    refine lv_iconst (v := nI 0) hx hb dX3_kindOf_80 zi_0 ?_
    exact zc_nret (nI (deckN 11)) (by decide) hPost hS hx hb hr hlk (Nat.zero_le _) (Nat.zero_le _) dX3_kindOf_81
  · refine lv_iload_n hx hb dX3_kindOf_0 rfl (lv_at hl 0 rfl) ?_
    refine lv_tableIn (off := 77) (tgt := 78) hx hb dX3_kindOf_1 (by decide) (by decide) (by decide) (by decide) ?_
    refine lv_iconst (v := nI 3) hx hb dX3_kindOf_78 zi_3 ?_
    exact zc_nret (nI (deckN 12)) (by decide) hPost hS hx hb hr hlk (Nat.zero_le _) (Nat.zero_le _) dX3_kindOf_79
  · refine lv_iload_n hx hb dX3_kindOf_0 rfl (lv_at hl 0 rfl) ?_
    refine lv_tableIn (off := 79) (tgt := 80) hx hb dX3_kindOf_1 (by decide) (by decide) (by decide) (by decide) ?_
    refine lv_iconst (v := nI 0) hx hb dX3_kindOf_80 zi_0 ?_
    exact zc_nret (nI (deckN 13)) (by decide) hPost hS hx hb hr hlk (Nat.zero_le _) (Nat.zero_le _) dX3_kindOf_81
  · refine lv_iload_n hx hb dX3_kindOf_0 rfl (lv_at hl 0 rfl) ?_
    refine lv_tableIn (off := 71) (tgt := 72) hx hb dX3_kindOf_1 (by decide) (by decide) (by decide) (by decide) ?_
    refine lv_iconst (v := nI 4) hx hb dX3_kindOf_72 zi_4 ?_
    exact zc_nret (nI (deckN 14)) (by decide) hPost hS hx hb hr hlk (Nat.zero_le _) (Nat.zero_le _) dX3_kindOf_73
theorem kM_kindOf {pr : Program} {l : Launch} {en : Env} {R : Room} {s : State} {m : MethodId} {args : Array Value} {below : List Frame} {meth : Method} {cd : Code} {H : Heap} {locs : List Loc} {cells slots : Nat} {Q : State → Prop} {cc : ByteArray} {pc nL : Nat} {ls : Array Slot} {rest : List Value} {D : va_G} {dA : Nat → ClassId} {A : Nat → Prop} {ad : Nat → Nat} {g : G} (S : CallFix pr m cd cc nL s args lw_all RX3) (hK : KT D dA s) (hM : MS D dA A ad g H) (hg : Sm g) (hS : va_S A s.heap H locs) (a1 : Nat) (h1 : a1 < 15) (hf : 1 + 1 ≤ R.frames) (hlo : 8 + (1 + 11) + 12 ≤ R.locals) (hsz : ls.size = nL) (hcat : (rest.map fun v => v.category).sum ≤ 8) (hdg : decode cc pc = .ok (.invokestatic 215, 3)) (hq1 : cells ≤ R.cells) (hq2 : slots ≤ R.slots) (kk : ∀ locs1 : List Loc, va_S A s.heap H locs1 → W pr l en R s m args below meth cd H locs1 cells slots Q (F0 m (pc + 3) ls (.int (nI (deckN a1)) :: rest))) : W pr l en R s m args below meth cd H locs cells slots Q (F0 m pc ls (.int (nI a1) :: rest)) :=
  zc_callS (n := 1) (As := [.int (nI a1)]) (rest := rest) S (cM_kindOf l hg a1 h1  H hM (Post := (fun v H1 => v = some (.int (nI (deckN a1))) ∧ H1 = H)) ⟨rfl, rfl⟩) (lw_S q1322 q1323 q76 q1324) (by decide +kernel) ⟨hf, hlo⟩ ⟨hq1, hq2⟩ KT_mv (zc_K KT_mv hK hS) hS (fun _ h => h) rfl hsz rfl hcat hdg (fun v H1 locs1 hp _ _ hS1 => by obtain ⟨rfl, rfl⟩ := hp; exact kk locs1 hS1)
def mRobG (g : G) (a1 : Int32) (a2 : Int32) (a3 : Int32) : G := if (inB a1 7 && (okV a2 && inR a3 0 999)) = true then (if (decide (g 7 1 = 4) && mMayRob (gs g 22 0 0) (tn a1) (tv a2)) = true then gRob (gs (gs g 22 0 0) 7 1 2) (tn a1) (tv a2) (tn a3) else gs (gs g 22 0 0) 22 0 3) else gs g 22 0 (rbCode a1 a2 a3)
def mRobR (g : G) (a1 : Int32) (a2 : Int32) (a3 : Int32) : Nat := if (inB a1 7 && (okV a2 && inR a3 0 999)) = true then (if (decide (g 7 1 = 4) && mMayRob (gs g 22 0 0) (tn a1) (tv a2)) = true then (if tv a2 = 0 then 0 else robK (gs (gs g 22 0 0) 7 1 2) (tv a2 - 1) (rX (gs (gs g 22 0 0) 7 1 2) (tv a2) (tn a3)) + 1) else 1) else 1
set_option maxHeartbeats 1000000 in
set_option maxRecDepth 100000 in
theorem cM_rob (l : Launch) {D : va_G} {dA : Nat → ClassId} {A : Nat → Prop} {ad : Nat → Nat} {g : G} (hg : Sm g) (a1 : Int32) (a2 : Int32) (a3 : Int32) (ht : g 7 4 < 3) (hb4 : ∀ j, j < 20 → g 4 j ≤ 100) (H0 : Heap) (hM : MS D dA A ad g H0) {Post : Option Value → Heap → Prop} (hPost : ∀ H : Heap, MS D dA A ad (mRobG g a1 a2 a3) H → Sm (mRobG g a1 a2 a3) → Post (some (.int (mI (mRobR g a1 a2 a3)))) H) : Ct l yX3_rob (ws_ yX3_rob cX3_rob 4 (some .int)) (rmF 4 0 0 85) A (KT D dA) [.ref (ad 0), .int a1, .int a2, .int a3] H0 Post := by
  refine zc_of RX3 rfl (by decide) (Nat.le_of_ble_eq_true rfl) ?_
  intro pr en s m args below meth cd S hr hlk hnm hh hK ls hl
  have hS : va_S A s.heap H0 [] := zc_start hh
  have hg0 := hg
  have hx := S.1
  have hb := S.2.1
  have hown := S.2.2.2.1
  have hts := S.2.2.2.2
  have hl : lv_has ls 4 [(0, .ref (ad 0)), (1, .int a1), (2, .int a2), (3, .int a3)] := hl
  refine lv_aload_n hx hb dX3_rob_0 rfl (lv_at hl 0 rfl) ?_
  refine lv_iload_n hx hb dX3_rob_1 rfl (lv_at hl 1 rfl) ?_
  refine lv_iload_n hx hb dX3_rob_2 rfl (lv_at hl 2 rfl) ?_
  refine lv_iload_n hx hb dX3_rob_3 rfl (lv_at hl 3 rfl) ?_
  refine kM_asksRob S hK hM hg hS a1 a2 a3  (Nat.le_of_ble_eq_true rfl) (Nat.le_of_ble_eq_true rfl) hl.1 (Nat.le_of_ble_eq_true rfl) dX3_rob_4 (Nat.zero_le _) (Nat.zero_le _) (fun H locs hM hg hS => ?_)
  refine zr_if_neB (b := inB a1 7 && (okV a2 && inR a3 0 999)) (tgt := 12) hx hb dX3_rob_7 (by decide) (fun c_1 => ?_) (fun c_1 => ?_)
  · have hc_2 := c_1
    simp only [Bool.and_eq_true] at hc_2
    obtain ⟨q_3, ⟨q_4, q_5⟩⟩ := hc_2
    obtain ⟨hj1, ea1⟩ := inB_tn (by decide) q_3
    rw [ea1] at hl
    obtain ⟨hj2, ea2⟩ := okV_tv q_4
    rw [ea2] at hl
    obtain ⟨lj3, hj3, ea3⟩ := inR_tn (by decide) (by decide) q_5
    rw [ea3] at hl
    rw [rbCode_0 c_1] at hM hg
    refine lv_aload_n hx hb dX3_rob_12 rfl (lv_at hl 0 rfl) ?_
    refine gM_phase S hK hM (g 7 1) (by first | rfl | simp [gs]) dX3_rob_13 ?_
    have hb_6 : g 7 1 < 1048576 := by first | exact hg 7 1 | exact hg0 _ _ | (have := hg 7 1; omega) | omega
    refine lv_iconst (v := nI 4) hx hb dX3_rob_16 zi_4 ?_
    refine zr_icmp_neN (a := (g 7 1)) (b := 4) (tgt := 29) hx hb (by omega) (by omega) dX3_rob_17 (by decide) (fun c_7 => ?_) (fun c_7 => ?_)
    · refine lv_aload_n hx hb dX3_rob_29 rfl (lv_at hl 0 rfl) ?_
      refine lv_iconst (v := nI 3) hx hb dX3_rob_30 zi_3 ?_
      refine kM_fails S hK hM hg hS 3 (by first | omega | assumption | grind) (Nat.le_of_ble_eq_true rfl) (Nat.le_of_ble_eq_true rfl) hl.1 (Nat.le_of_ble_eq_true rfl) dX3_rob_31 (Nat.zero_le _) (Nat.zero_le _) (fun H locs hM hg hS => ?_)
      rw [show (gs (gs g 22 0 0) 22 0 3 : G) = mRobG g a1 a2 a3 from by first | with_reducible rfl | (simp [c_1, q_3, q_4, q_5, c_7, mRobG, mRobR]; done) | (simp only [c_1, q_3, q_4, q_5, c_7] <;> simp [mRobG, mRobR]; done) | (simp only [mRobG, mRobR, c_1, q_3, q_4, q_5, c_7] <;> simp [mRobG, mRobR]; done) | (simp [c_1, q_3, q_4, q_5, c_7, mRobG, mRobR, Bool.and_assoc]; done) | (simp [c_1, q_3, q_4, q_5, c_7, mRobG, mRobR, Bool.and_assoc, Bool.or_assoc]; done) | rfl | (simp [c_1, q_3, q_4, q_5, c_7, mRobG, mRobR]; omega)] at hM hg
      exact zc_nret (mI (mRobR g a1 a2 a3)) ((mI_succ 0).symm.trans (congrArg mI (show (1 : Nat) = (mRobR g a1 a2 a3) from by first | with_reducible rfl | (simp [c_1, q_3, q_4, q_5, c_7, mRobG, mRobR]; done) | (simp only [c_1, q_3, q_4, q_5, c_7] <;> simp [mRobG, mRobR]; done) | (simp only [mRobG, mRobR, c_1, q_3, q_4, q_5, c_7] <;> simp [mRobG, mRobR]; done) | (simp [c_1, q_3, q_4, q_5, c_7, mRobG, mRobR, Bool.and_assoc]; done) | (simp [c_1, q_3, q_4, q_5, c_7, mRobG, mRobR, Bool.and_assoc, Bool.or_assoc]; done) | rfl | (simp [c_1, q_3, q_4, q_5, c_7, mRobG, mRobR]; omega)))) (hPost H hM hg) hS hx hb hr hlk (Nat.zero_le _) (Nat.zero_le _) dX3_rob_34
    · refine lv_aload_n hx hb dX3_rob_20 rfl (lv_at hl 0 rfl) ?_
      refine lv_iload_n hx hb dX3_rob_21 rfl (lv_at hl 1 rfl) ?_
      refine lv_iload_n hx hb dX3_rob_22 rfl (lv_at hl 2 rfl) ?_
      refine kM_mayRob S hK hM hg hS (tn a1) (tv a2) (by first | omega | assumption | grind) (by first | omega | assumption | grind) (Nat.le_of_ble_eq_true rfl) (Nat.le_of_ble_eq_true rfl) hl.1 (Nat.le_of_ble_eq_true rfl) dX3_rob_23 (Nat.zero_le _) (Nat.zero_le _) (fun locs hS => ?_)
      refine zr_if_neB (b := mMayRob (gs g 22 0 0) (tn a1) (tv a2)) (tgt := 35) hx hb dX3_rob_26 (by decide) (fun c_8 => ?_) (fun c_8 => ?_)
      · have hMR := c_8
        refine lv_aload_n hx hb dX3_rob_35 rfl (lv_at hl 0 rfl) ?_
        refine lv_iconst (v := nI 2) hx hb dX3_rob_36 zi_2 ?_
        refine pM_phase S hK hM hS 2 dX3_rob_37 (fun H locs hM hS => ?_)
        have hg : Sm (gs (gs g 22 0 0) 7 1 2) := Sm_gs hg (by first | omega | exact Nat.lt_of_le_of_lt (Bool.toNat_le _) (by decide) | ((repeat' split) <;> omega))
        refine lv_aload_n hx hb dX3_rob_40 rfl (lv_at hl 0 rfl) ?_
        refine lv_iload_n hx hb dX3_rob_41 rfl (lv_at hl 1 rfl) ?_
        refine lv_iload_n hx hb dX3_rob_42 rfl (lv_at hl 2 rfl) ?_
        refine lv_iload_n hx hb dX3_rob_43 rfl (lv_at hl 3 rfl) ?_
        refine kM_robs S hK hM hg hS (tn a1) (tv a2) (tn a3) (by first | omega | assumption | grind) (by first | omega | assumption | grind) (by first | omega | assumption | grind) (by first | omega | assumption | grind) (by exact hb4) (by exact mMayRob_pos hMR) (Nat.le_of_ble_eq_true rfl) (Nat.le_of_ble_eq_true rfl) hl.1 (Nat.le_of_ble_eq_true rfl) dX3_rob_44 (Nat.zero_le _) (Nat.zero_le _) (fun H locs hM hg hS => ?_)
        rw [show (gRob (gs (gs g 22 0 0) 7 1 2) (tn a1) (tv a2) (tn a3) : G) = mRobG g a1 a2 a3 from by first | with_reducible rfl | (simp [c_1, q_3, q_4, q_5, c_7, c_8, mRobG, mRobR]; done) | (simp only [c_1, q_3, q_4, q_5, c_7, c_8] <;> simp [mRobG, mRobR]; done) | (simp only [mRobG, mRobR, c_1, q_3, q_4, q_5, c_7, c_8] <;> simp [mRobG, mRobR]; done) | (simp [c_1, q_3, q_4, q_5, c_7, c_8, mRobG, mRobR, Bool.and_assoc]; done) | (simp [c_1, q_3, q_4, q_5, c_7, c_8, mRobG, mRobR, Bool.and_assoc, Bool.or_assoc]; done) | rfl | (simp [c_1, q_3, q_4, q_5, c_7, c_8, mRobG, mRobR]; omega)] at hM hg
        exact zc_nret (mI (mRobR g a1 a2 a3)) (congrArg mI (show (if (tv a2) = 0 then 0 else robK (gs (gs g 22 0 0) 7 1 2) ((tv a2) - 1) (rX (gs (gs g 22 0 0) 7 1 2) (tv a2) (tn a3)) + 1 : Nat) = (mRobR g a1 a2 a3) from by first | with_reducible rfl | (simp [c_1, q_3, q_4, q_5, c_7, c_8, mRobG, mRobR]; done) | (simp only [c_1, q_3, q_4, q_5, c_7, c_8] <;> simp [mRobG, mRobR]; done) | (simp only [mRobG, mRobR, c_1, q_3, q_4, q_5, c_7, c_8] <;> simp [mRobG, mRobR]; done) | (simp [c_1, q_3, q_4, q_5, c_7, c_8, mRobG, mRobR, Bool.and_assoc]; done) | (simp [c_1, q_3, q_4, q_5, c_7, c_8, mRobG, mRobR, Bool.and_assoc, Bool.or_assoc]; done) | rfl | (simp [c_1, q_3, q_4, q_5, c_7, c_8, mRobG, mRobR]; omega))) (hPost H hM hg) hS hx hb hr hlk (Nat.zero_le _) (Nat.zero_le _) dX3_rob_47
      · refine lv_aload_n hx hb dX3_rob_29 rfl (lv_at hl 0 rfl) ?_
        refine lv_iconst (v := nI 3) hx hb dX3_rob_30 zi_3 ?_
        refine kM_fails S hK hM hg hS 3 (by first | omega | assumption | grind) (Nat.le_of_ble_eq_true rfl) (Nat.le_of_ble_eq_true rfl) hl.1 (Nat.le_of_ble_eq_true rfl) dX3_rob_31 (Nat.zero_le _) (Nat.zero_le _) (fun H locs hM hg hS => ?_)
        rw [show (gs (gs g 22 0 0) 22 0 3 : G) = mRobG g a1 a2 a3 from by first | with_reducible rfl | (simp [c_1, q_3, q_4, q_5, c_7, c_8, mRobG, mRobR]; done) | (simp only [c_1, q_3, q_4, q_5, c_7, c_8] <;> simp [mRobG, mRobR]; done) | (simp only [mRobG, mRobR, c_1, q_3, q_4, q_5, c_7, c_8] <;> simp [mRobG, mRobR]; done) | (simp [c_1, q_3, q_4, q_5, c_7, c_8, mRobG, mRobR, Bool.and_assoc]; done) | (simp [c_1, q_3, q_4, q_5, c_7, c_8, mRobG, mRobR, Bool.and_assoc, Bool.or_assoc]; done) | rfl | (simp [c_1, q_3, q_4, q_5, c_7, c_8, mRobG, mRobR]; omega)] at hM hg
        exact zc_nret (mI (mRobR g a1 a2 a3)) ((mI_succ 0).symm.trans (congrArg mI (show (1 : Nat) = (mRobR g a1 a2 a3) from by first | with_reducible rfl | (simp [c_1, q_3, q_4, q_5, c_7, c_8, mRobG, mRobR]; done) | (simp only [c_1, q_3, q_4, q_5, c_7, c_8] <;> simp [mRobG, mRobR]; done) | (simp only [mRobG, mRobR, c_1, q_3, q_4, q_5, c_7, c_8] <;> simp [mRobG, mRobR]; done) | (simp [c_1, q_3, q_4, q_5, c_7, c_8, mRobG, mRobR, Bool.and_assoc]; done) | (simp [c_1, q_3, q_4, q_5, c_7, c_8, mRobG, mRobR, Bool.and_assoc, Bool.or_assoc]; done) | rfl | (simp [c_1, q_3, q_4, q_5, c_7, c_8, mRobG, mRobR]; omega)))) (hPost H hM hg) hS hx hb hr hlk (Nat.zero_le _) (Nat.zero_le _) dX3_rob_34
  · refine lv_iconst (v := nI 0) hx hb dX3_rob_10 zi_0 ?_
    rw [show (gs g 22 0 (rbCode a1 a2 a3) : G) = mRobG g a1 a2 a3 from by first | with_reducible rfl | (simp [c_1, mRobG, mRobR]; done) | (simp only [c_1] <;> simp [mRobG, mRobR]; done) | (simp only [mRobG, mRobR, c_1] <;> simp [mRobG, mRobR]; done) | (simp [c_1, mRobG, mRobR, Bool.and_assoc]; done) | (simp [c_1, mRobG, mRobR, Bool.and_assoc, Bool.or_assoc]; done) | rfl | (simp [c_1, mRobG, mRobR]; omega)] at hM hg
    exact zc_nret (mI (mRobR g a1 a2 a3)) ((mI_succ 0).symm.trans (congrArg mI (show (1 : Nat) = (mRobR g a1 a2 a3) from by first | with_reducible rfl | (simp [c_1, mRobG, mRobR]; done) | (simp only [c_1] <;> simp [mRobG, mRobR]; done) | (simp only [mRobG, mRobR, c_1] <;> simp [mRobG, mRobR]; done) | (simp [c_1, mRobG, mRobR, Bool.and_assoc]; done) | (simp [c_1, mRobG, mRobR, Bool.and_assoc, Bool.or_assoc]; done) | rfl | (simp [c_1, mRobG, mRobR]; omega)))) (hPost H hM hg) hS hx hb hr hlk (Nat.zero_le _) (Nat.zero_le _) dX3_rob_11
def mSwapG (g : G) (a1 : Int32) (a2 : Int32) : G := if (inB a1 5 && (inB a2 5 && !decide (tn a1 = tn a2))) = true then (if (decide (g 7 1 = 2) && (!decide (g 4 (5 * g 7 4 + tn a1) < rateN (gs g 22 0 0) (g 7 4) (tn a1) 6) && !decide (g 4 (15 + tn a2) = 0))) = true then (moveN (moveN (gs g 22 0 0) (g 7 4) 3 (tn a1) (rateN (gs g 22 0 0) (g 7 4) (tn a1) 6)) 3 (g 7 4) (tn a2) 1) else gs (gs g 22 0 0) 22 0 2) else gs g 22 0 1
def mSwapR (g : G) (a1 : Int32) (a2 : Int32) : Nat := if (inB a1 5 && (inB a2 5 && !decide (tn a1 = tn a2))) = true then (if (decide (g 7 1 = 2) && (!decide (g 4 (5 * g 7 4 + tn a1) < rateN (gs g 22 0 0) (g 7 4) (tn a1) 6) && !decide (g 4 (15 + tn a2) = 0))) = true then ((moveN (moveN (gs g 22 0 0) (g 7 4) 3 (tn a1) (rateN (gs g 22 0 0) (g 7 4) (tn a1) 6)) 3 (g 7 4) (tn a2) 1) 4 (5 * g 7 4 + tn a2)) else 0) else 0
set_option maxHeartbeats 1000000 in
set_option maxRecDepth 100000 in
theorem cM_swap (l : Launch) {D : va_G} {dA : Nat → ClassId} {A : Nat → Prop} {ad : Nat → Nat} {g : G} (hg : Sm g) (a1 : Int32) (a2 : Int32) (ht : g 7 4 < 3) (hb4 : ∀ j, j < 20 → g 4 j ≤ 100) (H0 : Heap) (hM : MS D dA A ad g H0) {Post : Option Value → Heap → Prop} (hPost : ∀ H : Heap, MS D dA A ad (mSwapG g a1 a2) H → Sm (mSwapG g a1 a2) → Post (some (.int (nI (mSwapR g a1 a2)))) H) : Ct l yX3_swap (ws_ yX3_swap cX3_swap 4 (some .int)) (rmF 3 0 0 60) A (KT D dA) [.ref (ad 0), .int a1, .int a2] H0 Post := by
  refine zc_of RX3 rfl (by decide) (Nat.le_of_ble_eq_true rfl) ?_
  intro pr en s m args below meth cd S hr hlk hnm hh hK ls hl
  have hS : va_S A s.heap H0 [] := zc_start hh
  have hg0 := hg
  have hx := S.1
  have hb := S.2.1
  have hown := S.2.2.2.1
  have hts := S.2.2.2.2
  have hl : lv_has ls 4 [(0, .ref (ad 0)), (1, .int a1), (2, .int a2)] := hl
  have hb5 : ∀ j, j < 20 → gs g 22 0 0 4 j ≤ 100 := hb4
  refine lv_aload_n hx hb dX3_swap_0 rfl (lv_at hl 0 rfl) ?_
  refine lv_iload_n hx hb dX3_swap_1 rfl (lv_at hl 1 rfl) ?_
  refine kM_isGood S hK hM hg hS a1  (Nat.le_of_ble_eq_true rfl) (Nat.le_of_ble_eq_true rfl) hl.1 (Nat.le_of_ble_eq_true rfl) dX3_swap_2 (Nat.zero_le _) (Nat.zero_le _) (fun locs hS => ?_)
  have J_25 : ∀ yS0_25 : Int32, yS0_25 = nI ((inB a1 5) && ((inB a2 5) && (!decide ((tn a1) = (tn a2))))).toNat → ∀ (H : Heap) (locs : List Loc), MS D dA A ad g H → va_S A s.heap H locs → ∀ ls : Array Slot, lv_has ls 4 [(0, .ref (ad 0)), (1, .int a1), (2, .int a2)] → W pr l en (rmF 3 0 0 60) s m args below meth cd H locs 0 0 (MQ below (zc_Q Post A) args s 0 0 A) (F0 m 25 ls [.int yS0_25, .ref (ad 0)]) := by
    intro yS0_25 eyS0_25 H locs hM hS ls hl
    subst eyS0_25
    refine kM_asks S hK hM hg hS ((inB a1 5) && ((inB a2 5) && (!decide ((tn a1) = (tn a2)))))  (Nat.le_of_ble_eq_true rfl) (Nat.le_of_ble_eq_true rfl) hl.1 (Nat.le_of_ble_eq_true rfl) dX3_swap_25 (Nat.zero_le _) (Nat.zero_le _) (fun H locs hM hg hS => ?_)
    refine zr_if_neB (b := ((inB a1 5) && ((inB a2 5) && (!decide ((tn a1) = (tn a2)))))) (tgt := 33) hx hb dX3_swap_28 (by decide) (fun c_4 => ?_) (fun c_4 => ?_)
    · rw [show (!((inB a1 5) && ((inB a2 5) && (!decide ((tn a1) = (tn a2)))))).toNat = 0 from by rw [c_4]; rfl] at hM hg
      have hc_5 := c_4
      simp only [Bool.and_eq_true] at hc_5
      obtain ⟨q_6, ⟨q_7, q_8⟩⟩ := hc_5
      obtain ⟨hj1, ea1⟩ := inB_tn (by decide) q_6
      rw [ea1] at hl
      obtain ⟨hj2, ea2⟩ := inB_tn (by decide) q_7
      rw [ea2] at hl
      refine lv_aload_n hx hb dX3_swap_33 rfl (lv_at hl 0 rfl) ?_
      refine lv_aload_n hx hb dX3_swap_34 rfl (lv_at hl 0 rfl) ?_
      refine gM_turn S hK hM (g 7 4) (by first | rfl | simp [gs]) dX3_swap_35 ?_
      have hb_9 : g 7 4 < 1048576 := by first | exact hg 7 4 | exact hg0 _ _ | (have := hg 7 4; omega) | omega
      refine lv_iload_n hx hb dX3_swap_38 rfl (lv_at hl 1 rfl) ?_
      refine kM_rateOf S hK hM hg hS (g 7 4) (tn a1) (by first | omega | assumption | grind) (by first | omega | assumption | grind) (Nat.le_of_ble_eq_true rfl) (Nat.le_of_ble_eq_true rfl) hl.1 (Nat.le_of_ble_eq_true rfl) dX3_swap_39 (Nat.zero_le _) (Nat.zero_le _) (fun locs hS => ?_)
      have f39_0 : rateN (gs g 22 0 0) (g 7 4) (tn a1) 6 ≤ 4 := rateN_le _ _ _ _
      refine lv_istore_n (lv' := [(3, .int (nI (rateN (gs g 22 0 0) (g 7 4) (tn a1) 6))), (0, .ref (ad 0)), (1, .int (nI (tn a1))), (2, .int (nI (tn a2)))]) hx hb dX3_swap_42 rfl hl (by decide) rfl (fun ls hl => ?_)
      refine lv_aload_n hx hb dX3_swap_43 rfl (lv_at hl 1 rfl) ?_
      refine gM_phase S hK hM (g 7 1) (by first | rfl | simp [gs]) dX3_swap_44 ?_
      have hb_10 : g 7 1 < 1048576 := by first | exact hg 7 1 | exact hg0 _ _ | (have := hg 7 1; omega) | omega
      refine lv_iconst (v := nI 2) hx hb dX3_swap_47 zi_2 ?_
      refine zr_icmp_neN (a := (g 7 1)) (b := 2) (tgt := 80) hx hb (by omega) (by omega) dX3_swap_48 (by decide) (fun c_11 => ?_) (fun c_11 => ?_)
      · refine lv_aload_n hx hb dX3_swap_80 rfl (lv_at hl 1 rfl) ?_
        refine lv_iconst (v := nI 2) hx hb dX3_swap_81 zi_2 ?_
        refine kM_fails S hK hM hg hS 2 (by first | omega | assumption | grind) (Nat.le_of_ble_eq_true rfl) (Nat.le_of_ble_eq_true rfl) hl.1 (Nat.le_of_ble_eq_true rfl) dX3_swap_82 (Nat.zero_le _) (Nat.zero_le _) (fun H locs hM hg hS => ?_)
        rw [show (gs (gs g 22 0 0) 22 0 2 : G) = mSwapG g a1 a2 from by first | with_reducible rfl | (simp [c_4, q_6, q_7, q_8, c_11, gA, mSwapG, mSwapR]; done) | (simp only [c_4, q_6, q_7, q_8, c_11] <;> simp [gA, mSwapG, mSwapR]; done) | (simp only [gA, mSwapG, mSwapR, c_4, q_6, q_7, q_8, c_11] <;> simp [gA, mSwapG, mSwapR]; done) | (simp [c_4, q_6, q_7, q_8, c_11, gA, mSwapG, mSwapR, Bool.and_assoc]; done) | (simp [c_4, q_6, q_7, q_8, c_11, gA, mSwapG, mSwapR, Bool.and_assoc, Bool.or_assoc]; done) | rfl | (simp [c_4, q_6, q_7, q_8, c_11, gA, mSwapG, mSwapR]; omega)] at hM hg
        exact zc_nret (nI (mSwapR g a1 a2)) (congrArg nI (show (0 : Nat) = (mSwapR g a1 a2) from by first | with_reducible rfl | (simp [c_4, q_6, q_7, q_8, c_11, gA, mSwapG, mSwapR]; done) | (simp only [c_4, q_6, q_7, q_8, c_11] <;> simp [gA, mSwapG, mSwapR]; done) | (simp only [gA, mSwapG, mSwapR, c_4, q_6, q_7, q_8, c_11] <;> simp [gA, mSwapG, mSwapR]; done) | (simp [c_4, q_6, q_7, q_8, c_11, gA, mSwapG, mSwapR, Bool.and_assoc]; done) | (simp [c_4, q_6, q_7, q_8, c_11, gA, mSwapG, mSwapR, Bool.and_assoc, Bool.or_assoc]; done) | rfl | (simp [c_4, q_6, q_7, q_8, c_11, gA, mSwapG, mSwapR]; omega))) (hPost H hM hg) hS hx hb hr hlk (Nat.zero_le _) (Nat.zero_le _) dX3_swap_85
      · refine lv_aload_n hx hb dX3_swap_51 rfl (lv_at hl 1 rfl) ?_
        refine gM_hand S hK hM dX3_swap_52 ?_
        refine lv_iconst (v := nI 5) hx hb dX3_swap_55 zi_5 ?_
        refine lv_aload_n hx hb dX3_swap_56 rfl (lv_at hl 1 rfl) ?_
        refine gM_turn S hK hM (g 7 4) (by first | rfl | simp [gs]) dX3_swap_57 ?_
        have hb_12 : g 7 4 < 1048576 := by first | exact hg 7 4 | exact hg0 _ _ | (have := hg 7 4; omega) | omega
        refine zr_mulN (a := 5) (b := (g 7 4)) hx hb dX3_swap_60 ?_
        refine lv_iload_n hx hb dX3_swap_61 rfl (lv_at hl 2 rfl) ?_
        refine zr_addN (a := (5 * (g 7 4))) (b := (tn a1)) hx hb dX3_swap_62 ?_
        refine lM_hand S hK hM ((5 * (g 7 4)) + (tn a1)) (by omega) (g 4 ((5 * (g 7 4)) + (tn a1))) (by first | rfl | simp [gs]) dX3_swap_63 ?_
        have hb_13 : g 4 ((5 * (g 7 4)) + (tn a1)) < 1048576 := by first | exact hg 4 ((5 * (g 7 4)) + (tn a1)) | exact hg0 _ _ | (have := hg 4 ((5 * (g 7 4)) + (tn a1)); omega) | omega
        refine lv_iload_n hx hb dX3_swap_64 rfl (lv_at hl 0 rfl) ?_
        refine zr_icmp_ltN (a := (g 4 ((5 * (g 7 4)) + (tn a1)))) (b := (rateN (gs g 22 0 0) (g 7 4) (tn a1) 6)) (tgt := 80) hx hb (by omega) (by omega) dX3_swap_65 (by decide) (fun c_14 => ?_) (fun c_14 => ?_)
        · refine lv_aload_n hx hb dX3_swap_80 rfl (lv_at hl 1 rfl) ?_
          refine lv_iconst (v := nI 2) hx hb dX3_swap_81 zi_2 ?_
          refine kM_fails S hK hM hg hS 2 (by first | omega | assumption | grind) (Nat.le_of_ble_eq_true rfl) (Nat.le_of_ble_eq_true rfl) hl.1 (Nat.le_of_ble_eq_true rfl) dX3_swap_82 (Nat.zero_le _) (Nat.zero_le _) (fun H locs hM hg hS => ?_)
          rw [show (gs (gs g 22 0 0) 22 0 2 : G) = mSwapG g a1 a2 from by first | with_reducible rfl | (simp [c_4, q_6, q_7, q_8, c_11, c_14, gA, mSwapG, mSwapR]; done) | (simp only [c_4, q_6, q_7, q_8, c_11, c_14] <;> simp [gA, mSwapG, mSwapR]; done) | (simp only [gA, mSwapG, mSwapR, c_4, q_6, q_7, q_8, c_11, c_14] <;> simp [gA, mSwapG, mSwapR]; done) | (simp [c_4, q_6, q_7, q_8, c_11, c_14, gA, mSwapG, mSwapR, Bool.and_assoc]; done) | (simp [c_4, q_6, q_7, q_8, c_11, c_14, gA, mSwapG, mSwapR, Bool.and_assoc, Bool.or_assoc]; done) | rfl | (simp [c_4, q_6, q_7, q_8, c_11, c_14, gA, mSwapG, mSwapR]; omega)] at hM hg
          exact zc_nret (nI (mSwapR g a1 a2)) (congrArg nI (show (0 : Nat) = (mSwapR g a1 a2) from by first | with_reducible rfl | (simp [c_4, q_6, q_7, q_8, c_11, c_14, gA, mSwapG, mSwapR]; done) | (simp only [c_4, q_6, q_7, q_8, c_11, c_14] <;> simp [gA, mSwapG, mSwapR]; done) | (simp only [gA, mSwapG, mSwapR, c_4, q_6, q_7, q_8, c_11, c_14] <;> simp [gA, mSwapG, mSwapR]; done) | (simp [c_4, q_6, q_7, q_8, c_11, c_14, gA, mSwapG, mSwapR, Bool.and_assoc]; done) | (simp [c_4, q_6, q_7, q_8, c_11, c_14, gA, mSwapG, mSwapR, Bool.and_assoc, Bool.or_assoc]; done) | rfl | (simp [c_4, q_6, q_7, q_8, c_11, c_14, gA, mSwapG, mSwapR]; omega))) (hPost H hM hg) hS hx hb hr hlk (Nat.zero_le _) (Nat.zero_le _) dX3_swap_85
        · refine lv_aload_n hx hb dX3_swap_68 rfl (lv_at hl 1 rfl) ?_
          refine gM_hand S hK hM dX3_swap_69 ?_
          refine lv_bipush (v := nI 15) hx hb dX3_swap_72 zb_15 ?_
          refine lv_iload_n hx hb dX3_swap_74 rfl (lv_at hl 3 rfl) ?_
          refine zr_addN (a := 15) (b := (tn a2)) hx hb dX3_swap_75 ?_
          refine lM_hand S hK hM (15 + (tn a2)) (by omega) (g 4 (15 + (tn a2))) (by first | rfl | simp [gs]) dX3_swap_76 ?_
          have hb_15 : g 4 (15 + (tn a2)) < 1048576 := by first | exact hg 4 (15 + (tn a2)) | exact hg0 _ _ | (have := hg 4 (15 + (tn a2)); omega) | omega
          refine zr_if_neN (a := (g 4 (15 + (tn a2)))) (tgt := 86) hx hb (by omega) dX3_swap_77 (by decide) (fun c_16 => ?_) (fun c_16 => ?_)
          · have hne9 : ¬ tn a1 = tn a2 := by simpa using (by assumption : (!decide (tn a1 = tn a2)) = true)
            refine lv_aload_n hx hb dX3_swap_86 rfl (lv_at hl 1 rfl) ?_
            refine lv_aload_n hx hb dX3_swap_87 rfl (lv_at hl 1 rfl) ?_
            refine gM_turn S hK hM (g 7 4) (by first | rfl | simp [gs]) dX3_swap_88 ?_
            have hb_17 : g 7 4 < 1048576 := by first | exact hg 7 4 | exact hg0 _ _ | (have := hg 7 4; omega) | omega
            refine lv_iconst (v := nI 3) hx hb dX3_swap_91 zi_3 ?_
            refine lv_iload_n hx hb dX3_swap_92 rfl (lv_at hl 2 rfl) ?_
            refine lv_iload_n hx hb dX3_swap_93 rfl (lv_at hl 0 rfl) ?_
            refine kM_moves S hK hM hg hS (g 7 4) 3 (tn a1) (rateN (gs g 22 0 0) (g 7 4) (tn a1) 6) (by first | omega | assumption | grind) (by first | omega | assumption | grind) (by first | omega | assumption | grind) (by show rateN (gs g 22 0 0) (g 7 4) (tn a1) 6 ≤ g 4 (5 * g 7 4 + tn a1); omega) (by exact fun j hj => Nat.le_trans (hb4 j hj) (by decide)) (Nat.le_of_ble_eq_true rfl) (Nat.le_of_ble_eq_true rfl) hl.1 (Nat.le_of_ble_eq_true rfl) dX3_swap_94 (Nat.zero_le _) (Nat.zero_le _) (fun H locs hM hg hS => ?_)
            refine lv_aload_n hx hb dX3_swap_97 rfl (lv_at hl 1 rfl) ?_
            refine lv_iconst (v := nI 3) hx hb dX3_swap_98 zi_3 ?_
            refine lv_aload_n hx hb dX3_swap_99 rfl (lv_at hl 1 rfl) ?_
            refine gM_turn S hK hM (g 7 4) (by first | rfl | (simp [giveN_nf, moveN_nf, eoN_nf, gs]; done)) dX3_swap_100 ?_
            have hb_18 : g 7 4 < 1048576 := by first | exact hg 7 4 | exact hg0 _ _ | (have := hg 7 4; omega) | omega
            refine lv_iload_n hx hb dX3_swap_103 rfl (lv_at hl 3 rfl) ?_
            refine lv_iconst (v := nI 1) hx hb dX3_swap_104 zi_1 ?_
            refine kM_moves S hK hM hg hS 3 (g 7 4) (tn a2) 1 (by first | omega | assumption | grind) (by first | omega | assumption | grind) (by first | omega | assumption | grind) (by rw [moveN_other _ (by omega) (by omega)]; show 1 ≤ g 4 (15 + tn a2); omega) (by exact fun j hj => Nat.le_trans (moveN_le hb5 (C := 4) (by omega) j hj) (by decide)) (Nat.le_of_ble_eq_true rfl) (Nat.le_of_ble_eq_true rfl) hl.1 (Nat.le_of_ble_eq_true rfl) dX3_swap_105 (Nat.zero_le _) (Nat.zero_le _) (fun H locs hM hg hS => ?_)
            refine lv_aload_n hx hb dX3_swap_108 rfl (lv_at hl 1 rfl) ?_
            refine gM_hand S hK hM dX3_swap_109 ?_
            refine lv_iconst (v := nI 5) hx hb dX3_swap_112 zi_5 ?_
            refine lv_aload_n hx hb dX3_swap_113 rfl (lv_at hl 1 rfl) ?_
            refine gM_turn S hK hM (g 7 4) (by first | rfl | (simp [giveN_nf, moveN_nf, eoN_nf, gs]; done)) dX3_swap_114 ?_
            have hb_19 : g 7 4 < 1048576 := by first | exact hg 7 4 | exact hg0 _ _ | (have := hg 7 4; omega) | omega
            refine zr_mulN (a := 5) (b := (g 7 4)) hx hb dX3_swap_117 ?_
            refine lv_iload_n hx hb dX3_swap_118 rfl (lv_at hl 3 rfl) ?_
            refine zr_addN (a := (5 * (g 7 4))) (b := (tn a2)) hx hb dX3_swap_119 ?_
            refine lM_hand S hK hM ((5 * (g 7 4)) + (tn a2)) (by omega) ((moveN (moveN (gs g 22 0 0) (g 7 4) 3 (tn a1) (rateN (gs g 22 0 0) (g 7 4) (tn a1) 6)) 3 (g 7 4) (tn a2) 1) 4 ((5 * (g 7 4)) + (tn a2))) rfl dX3_swap_120 ?_
            have hb_20 : (moveN (moveN (gs g 22 0 0) (g 7 4) 3 (tn a1) (rateN (gs g 22 0 0) (g 7 4) (tn a1) 6)) 3 (g 7 4) (tn a2) 1) 4 ((5 * (g 7 4)) + (tn a2)) < 1048576 := by first | exact hg 4 ((5 * (g 7 4)) + (tn a2)) | exact hg0 _ _ | (have := hg 4 ((5 * (g 7 4)) + (tn a2)); omega) | omega
            rw [show (moveN (moveN (gs g 22 0 0) (g 7 4) 3 (tn a1) (rateN (gs g 22 0 0) (g 7 4) (tn a1) 6)) 3 (g 7 4) (tn a2) 1 : G) = mSwapG g a1 a2 from by first | with_reducible rfl | (simp [c_4, q_6, q_7, q_8, c_11, c_14, c_16, gA, mSwapG, mSwapR]; done) | (simp only [c_4, q_6, q_7, q_8, c_11, c_14, c_16] <;> simp [gA, mSwapG, mSwapR]; done) | (simp only [gA, mSwapG, mSwapR, c_4, q_6, q_7, q_8, c_11, c_14, c_16] <;> simp [gA, mSwapG, mSwapR]; done) | (simp [c_4, q_6, q_7, q_8, c_11, c_14, c_16, gA, mSwapG, mSwapR, Bool.and_assoc]; done) | (simp [c_4, q_6, q_7, q_8, c_11, c_14, c_16, gA, mSwapG, mSwapR, Bool.and_assoc, Bool.or_assoc]; done) | rfl | (simp [c_4, q_6, q_7, q_8, c_11, c_14, c_16, gA, mSwapG, mSwapR]; omega)] at hM hg
            exact zc_nret (nI (mSwapR g a1 a2)) (congrArg nI (show ((moveN (moveN (gs g 22 0 0) (g 7 4) 3 (tn a1) (rateN (gs g 22 0 0) (g 7 4) (tn a1) 6)) 3 (g 7 4) (tn a2) 1) 4 ((5 * (g 7 4)) + (tn a2)) : Nat) = (mSwapR g a1 a2) from by first | with_reducible rfl | (simp [c_4, q_6, q_7, q_8, c_11, c_14, c_16, gA, mSwapG, mSwapR]; done) | (simp only [c_4, q_6, q_7, q_8, c_11, c_14, c_16] <;> simp [gA, mSwapG, mSwapR]; done) | (simp only [gA, mSwapG, mSwapR, c_4, q_6, q_7, q_8, c_11, c_14, c_16] <;> simp [gA, mSwapG, mSwapR]; done) | (simp [c_4, q_6, q_7, q_8, c_11, c_14, c_16, gA, mSwapG, mSwapR, Bool.and_assoc]; done) | (simp [c_4, q_6, q_7, q_8, c_11, c_14, c_16, gA, mSwapG, mSwapR, Bool.and_assoc, Bool.or_assoc]; done) | rfl | (simp [c_4, q_6, q_7, q_8, c_11, c_14, c_16, gA, mSwapG, mSwapR]; omega))) (hPost H hM hg) hS hx hb hr hlk (Nat.zero_le _) (Nat.zero_le _) dX3_swap_121
          · refine lv_aload_n hx hb dX3_swap_80 rfl (lv_at hl 1 rfl) ?_
            refine lv_iconst (v := nI 2) hx hb dX3_swap_81 zi_2 ?_
            refine kM_fails S hK hM hg hS 2 (by first | omega | assumption | grind) (Nat.le_of_ble_eq_true rfl) (Nat.le_of_ble_eq_true rfl) hl.1 (Nat.le_of_ble_eq_true rfl) dX3_swap_82 (Nat.zero_le _) (Nat.zero_le _) (fun H locs hM hg hS => ?_)
            rw [show (gs (gs g 22 0 0) 22 0 2 : G) = mSwapG g a1 a2 from by first | with_reducible rfl | (simp [c_4, q_6, q_7, q_8, c_11, c_14, c_16, gA, mSwapG, mSwapR]; done) | (simp only [c_4, q_6, q_7, q_8, c_11, c_14, c_16] <;> simp [gA, mSwapG, mSwapR]; done) | (simp only [gA, mSwapG, mSwapR, c_4, q_6, q_7, q_8, c_11, c_14, c_16] <;> simp [gA, mSwapG, mSwapR]; done) | (simp [c_4, q_6, q_7, q_8, c_11, c_14, c_16, gA, mSwapG, mSwapR, Bool.and_assoc]; done) | (simp [c_4, q_6, q_7, q_8, c_11, c_14, c_16, gA, mSwapG, mSwapR, Bool.and_assoc, Bool.or_assoc]; done) | rfl | (simp [c_4, q_6, q_7, q_8, c_11, c_14, c_16, gA, mSwapG, mSwapR]; omega)] at hM hg
            exact zc_nret (nI (mSwapR g a1 a2)) (congrArg nI (show (0 : Nat) = (mSwapR g a1 a2) from by first | with_reducible rfl | (simp [c_4, q_6, q_7, q_8, c_11, c_14, c_16, gA, mSwapG, mSwapR]; done) | (simp only [c_4, q_6, q_7, q_8, c_11, c_14, c_16] <;> simp [gA, mSwapG, mSwapR]; done) | (simp only [gA, mSwapG, mSwapR, c_4, q_6, q_7, q_8, c_11, c_14, c_16] <;> simp [gA, mSwapG, mSwapR]; done) | (simp [c_4, q_6, q_7, q_8, c_11, c_14, c_16, gA, mSwapG, mSwapR, Bool.and_assoc]; done) | (simp [c_4, q_6, q_7, q_8, c_11, c_14, c_16, gA, mSwapG, mSwapR, Bool.and_assoc, Bool.or_assoc]; done) | rfl | (simp [c_4, q_6, q_7, q_8, c_11, c_14, c_16, gA, mSwapG, mSwapR]; omega))) (hPost H hM hg) hS hx hb hr hlk (Nat.zero_le _) (Nat.zero_le _) dX3_swap_85
    · rw [show (!((inB a1 5) && ((inB a2 5) && (!decide ((tn a1) = (tn a2)))))).toNat = 1 from by rw [c_4]; rfl] at hM hg
      refine lv_iconst (v := nI 0) hx hb dX3_swap_31 zi_0 ?_
      rw [show (gs g 22 0 1 : G) = mSwapG g a1 a2 from by first | with_reducible rfl | (simp [c_4, gA, mSwapG, mSwapR]; done) | (simp only [c_4] <;> simp [gA, mSwapG, mSwapR]; done) | (simp only [gA, mSwapG, mSwapR, c_4] <;> simp [gA, mSwapG, mSwapR]; done) | (simp [c_4, gA, mSwapG, mSwapR, Bool.and_assoc]; done) | (simp [c_4, gA, mSwapG, mSwapR, Bool.and_assoc, Bool.or_assoc]; done) | rfl | (simp [c_4, gA, mSwapG, mSwapR]; omega)] at hM hg
      exact zc_nret (nI (mSwapR g a1 a2)) (congrArg nI (show (0 : Nat) = (mSwapR g a1 a2) from by first | with_reducible rfl | (simp [c_4, gA, mSwapG, mSwapR]; done) | (simp only [c_4] <;> simp [gA, mSwapG, mSwapR]; done) | (simp only [gA, mSwapG, mSwapR, c_4] <;> simp [gA, mSwapG, mSwapR]; done) | (simp [c_4, gA, mSwapG, mSwapR, Bool.and_assoc]; done) | (simp [c_4, gA, mSwapG, mSwapR, Bool.and_assoc, Bool.or_assoc]; done) | rfl | (simp [c_4, gA, mSwapG, mSwapR]; omega))) (hPost H hM hg) hS hx hb hr hlk (Nat.zero_le _) (Nat.zero_le _) dX3_swap_32
  refine zr_if_eqB (b := inB a1 5) (tgt := 24) hx hb dX3_swap_5 (by decide) (fun c_21 => ?_) (fun c_21 => ?_)
  · refine lv_iconst (v := nI 0) hx hb dX3_swap_24 zi_0 ?_
    exact J_25 _ (congrArg (fun z : Bool => nI z.toNat) (show (false : Bool) = ((inB a1 5) && ((inB a2 5) && (!decide ((tn a1) = (tn a2))))) from by first | with_reducible rfl | (simp [c_21, gA, mSwapG, mSwapR]; done) | (simp only [c_21] <;> simp [gA, mSwapG, mSwapR]; done) | (simp only [gA, mSwapG, mSwapR, c_21] <;> simp [gA, mSwapG, mSwapR]; done) | (simp [c_21, gA, mSwapG, mSwapR, Bool.and_assoc]; done) | (simp [c_21, gA, mSwapG, mSwapR, Bool.and_assoc, Bool.or_assoc]; done) | rfl | (simp [c_21, gA, mSwapG, mSwapR]; omega))) H0 locs hM hS ls (lv_sub hl [0, 1, 2] rfl)
  · obtain ⟨hj1, ea1⟩ := inB_tn (by decide) c_21
    rw [ea1] at hl
    refine lv_iload_n hx hb dX3_swap_8 rfl (lv_at hl 2 rfl) ?_
    refine kM_isGood S hK hM hg hS a2  (Nat.le_of_ble_eq_true rfl) (Nat.le_of_ble_eq_true rfl) hl.1 (Nat.le_of_ble_eq_true rfl) dX3_swap_9 (Nat.zero_le _) (Nat.zero_le _) (fun locs hS => ?_)
    refine zr_if_eqB (b := inB a2 5) (tgt := 24) hx hb dX3_swap_12 (by decide) (fun c_22 => ?_) (fun c_22 => ?_)
    · refine lv_iconst (v := nI 0) hx hb dX3_swap_24 zi_0 ?_
      rw [← ea1] at hl
      exact J_25 _ (congrArg (fun z : Bool => nI z.toNat) (show (false : Bool) = ((inB a1 5) && ((inB a2 5) && (!decide ((tn a1) = (tn a2))))) from by first | with_reducible rfl | (simp [c_21, c_22, gA, mSwapG, mSwapR]; done) | (simp only [c_21, c_22] <;> simp [gA, mSwapG, mSwapR]; done) | (simp only [gA, mSwapG, mSwapR, c_21, c_22] <;> simp [gA, mSwapG, mSwapR]; done) | (simp [c_21, c_22, gA, mSwapG, mSwapR, Bool.and_assoc]; done) | (simp [c_21, c_22, gA, mSwapG, mSwapR, Bool.and_assoc, Bool.or_assoc]; done) | rfl | (simp [c_21, c_22, gA, mSwapG, mSwapR]; omega))) H0 locs hM hS ls (lv_sub hl [0, 1, 2] rfl)
    · obtain ⟨hj2, ea2⟩ := inB_tn (by decide) c_22
      rw [ea2] at hl
      refine lv_iload_n hx hb dX3_swap_15 rfl (lv_at hl 1 rfl) ?_
      refine lv_iload_n hx hb dX3_swap_16 rfl (lv_at hl 2 rfl) ?_
      refine zr_icmp_eqN (a := (tn a1)) (b := (tn a2)) (tgt := 24) hx hb (by omega) (by omega) dX3_swap_17 (by decide) (fun c_23 => ?_) (fun c_23 => ?_)
      · refine lv_iconst (v := nI 0) hx hb dX3_swap_24 zi_0 ?_
        rw [← ea1] at hl
        rw [← ea2] at hl
        exact J_25 _ (congrArg (fun z : Bool => nI z.toNat) (show (false : Bool) = ((inB a1 5) && ((inB a2 5) && (!decide ((tn a1) = (tn a2))))) from by first | with_reducible rfl | (simp [c_21, c_22, c_23, gA, mSwapG, mSwapR]; done) | (simp only [c_21, c_22, c_23] <;> simp [gA, mSwapG, mSwapR]; done) | (simp only [gA, mSwapG, mSwapR, c_21, c_22, c_23] <;> simp [gA, mSwapG, mSwapR]; done) | (simp [c_21, c_22, c_23, gA, mSwapG, mSwapR, Bool.and_assoc]; done) | (simp [c_21, c_22, c_23, gA, mSwapG, mSwapR, Bool.and_assoc, Bool.or_assoc]; done) | rfl | (simp [c_21, c_22, c_23, gA, mSwapG, mSwapR]; omega))) H0 locs hM hS ls (lv_sub hl [0, 1, 2] rfl)
      · refine lv_iconst (v := nI 1) hx hb dX3_swap_20 zi_1 ?_
        refine lv_goto (tgt := 25) hx hb dX3_swap_21 (by decide) ?_
        rw [← ea1] at hl
        rw [← ea2] at hl
        exact J_25 _ (congrArg (fun z : Bool => nI z.toNat) (show (true : Bool) = ((inB a1 5) && ((inB a2 5) && (!decide ((tn a1) = (tn a2))))) from by first | with_reducible rfl | (simp [c_21, c_22, c_23, gA, mSwapG, mSwapR]; done) | (simp only [c_21, c_22, c_23] <;> simp [gA, mSwapG, mSwapR]; done) | (simp only [gA, mSwapG, mSwapR, c_21, c_22, c_23] <;> simp [gA, mSwapG, mSwapR]; done) | (simp [c_21, c_22, c_23, gA, mSwapG, mSwapR, Bool.and_assoc]; done) | (simp [c_21, c_22, c_23, gA, mSwapG, mSwapR, Bool.and_assoc, Bool.or_assoc]; done) | rfl | (simp [c_21, c_22, c_23, gA, mSwapG, mSwapR]; omega))) H0 locs hM hS ls (lv_sub hl [0, 1, 2] rfl)
