/-! THE CLASS: hands by moves (printed by gen/x11.py) -/
def xHM (g : G) (p k : Nat) : Nat → Int32
  | 0 => nI (if p = 3 then 12 else 0)
  | i + 1 => xHM g p k i + gnV (g 12 i) (g 13 i) (g 14 i) (g 15 i) p k
def cdHandByMoves (g : G) (a1 : Int32) (a2 : Int32) : Nat := (if (inB a1 4) = true then (if (inB a2 5) = true then 0 else 2) else 1)
set_option maxHeartbeats 1000000 in
set_option maxRecDepth 100000 in
theorem cX_handByMoves (l : Launch) (hfl : l.stackTraces = false) {D : va_G} {dA : Nat → ClassId} {cn : Nat → Nat} {A : Nat → Prop} {pa : NM → Nat} {g : G} {T : va_W} (hg : Sm g) (a1 : Int32) (a2 : Int32) (hnm : g 8 1 ≤ 2000) (H0 : Heap) (hM : XS D dA cn A pa g T H0) (hA : ∀ q, H0.size ≤ q → A q) {Post : Option Value → Heap → Prop} {XPost : String → Heap → Prop} (hPost : (cdHandByMoves g a1 a2) = 0 → ∀ H : Heap, XS D dA cn A pa g T H → Sm g → Post (some (.int (xHM g (tn a1) (tn a2) (g 8 1)))) H) (hXP : ∀ n : Nat, (cdHandByMoves g a1 a2) = n → n ≠ 0 → ∀ H : Heap, XS D dA cn A pa g T H → XPost (exS n) H) : vCt l yX1_handByMoves (ws_ yX1_handByMoves cX1_handByMoves 6 (some .int)) (rmF 9 3 16 500) A (KX D dA cn A) [.ref (pa (0, 0)), .int a1, .int a2] H0 Post XPost := by
  refine vc_of RX1 rfl (by decide) (Nat.le_of_ble_eq_true rfl) ?_
  intro pr en s m args below meth cd S hr hlk hnm hno hh hKX ls hl
  have hS : va_S A s.heap H0 [] := zc_start hh
  have hA : ∀ q, s.heap.size ≤ q → A q := fun q h => hA q (by rw [← hh]; exact h)
  have hg0 := hg
  have hx := S.1
  have hb := S.2.1
  have hown := S.2.2.2.1
  have hts := S.2.2.2.2
  have hK := hKX.1
  have hN := hKX.2.1.1
  have hl : lv_has ls 6 [(0, .ref (pa (0, 0))), (1, .int a1), (2, .int a2)] := hl
  refine lv_iload_n hx hb dX1_handByMoves_0 rfl (lv_at hl 1 rfl) ?_
  refine lv_iconst (v := nI 4) hx hb dX1_handByMoves_1 zi_4 ?_
  refine kX_check hfl S hKX hM hg hS (fun q h => hA q (Nat.le_trans hS.1 h)) a1 4 (by first | omega | assumption | grind) (Nat.le_of_ble_eq_true rfl) (Nat.le_of_ble_eq_true rfl) hl.1 (Nat.le_of_ble_eq_true rfl) dX1_handByMoves_2 (Nat.le_of_ble_eq_true rfl) (Nat.le_of_ble_eq_true rfl) hno hlk (Nat.le_of_ble_eq_true rfl) (Nat.le_of_ble_eq_true rfl) (fun c_1 H1 hM1 => hXP 1 (by first | (simp only [c_1, cdHandByMoves, Bool.true_and, Bool.and_true, Bool.false_and, Bool.and_false, reduceIte, Bool.false_eq_true]; done) | (simp [c_1, cdHandByMoves]; done) | grind | (simp_all; done)) (by decide) H1 hM1) (fun c_1 H locs hM hg hS => ?_)
  obtain ⟨hj1, ea1⟩ := inB_tn (by decide) c_1
  rw [ea1] at hl
  refine lv_iload_n hx hb dX1_handByMoves_5 rfl (lv_at hl 2 rfl) ?_
  refine kX_checkGood hfl S hKX hM hg hS (fun q h => hA q (Nat.le_trans hS.1 h)) a2  (Nat.le_of_ble_eq_true rfl) (Nat.le_of_ble_eq_true rfl) hl.1 (Nat.le_of_ble_eq_true rfl) dX1_handByMoves_6 (Nat.le_of_ble_eq_true rfl) (Nat.le_of_ble_eq_true rfl) hno hlk (Nat.le_of_ble_eq_true rfl) (Nat.le_of_ble_eq_true rfl) (fun c_2 H1 hM1 => hXP 2 (by first | (simp only [c_1, c_2, cdHandByMoves, Bool.true_and, Bool.and_true, Bool.false_and, Bool.and_false, reduceIte, Bool.false_eq_true]; done) | (simp [c_1, c_2, cdHandByMoves]; done) | grind | (simp_all; done)) (by decide) H1 hM1) (fun c_2 H locs hM hg hS => ?_)
  obtain ⟨hj2, ea2⟩ := inB_tn (by decide) c_2
  rw [ea2] at hl
  refine lv_iload_n hx hb dX1_handByMoves_9 rfl (lv_at hl 1 rfl) ?_
  refine lv_iconst (v := nI 3) hx hb dX1_handByMoves_10 zi_3 ?_
  have J_20 : ∀ yS0_20 : Int32, yS0_20 = nI ((if (tn a1) = 3 then 12 else 0)) → ∀ (H : Heap) (locs : List Loc), XS D dA cn A pa g T H → va_S A s.heap H locs → ∀ ls : Array Slot, lv_has ls 6 [(0, .ref (pa (0, 0))), (1, .int (nI (tn a1))), (2, .int (nI (tn a2)))] → W pr l en (rmF 9 3 16 500) s m args below meth cd H locs (2) (12) (vx_MQ below (zc_Q Post A) (vc_X XPost A) args s 3 16 A) (F0 m 20 ls [.int yS0_20]) := by
    intro yS0_20 eyS0_20 H locs hM hS ls hl
    subst eyS0_20
    refine lv_istore_n (lv' := [(3, .int (nI ((if (tn a1) = 3 then 12 else 0)))), (0, .ref (pa (0, 0))), (1, .int (nI (tn a1))), (2, .int (nI (tn a2)))]) hx hb dX1_handByMoves_20 rfl hl (by decide) rfl (fun ls hl => ?_)
    refine lv_aload_n hx hb dX1_handByMoves_21 rfl (lv_at hl 1 rfl) ?_
    refine gX_moves S hK hM dX1_handByMoves_22 ?_
    refine kL_iter_m S hKX hM hS (fun q h => hA q (Nat.le_trans hS.1 h)) (Nat.le_of_ble_eq_true rfl) (Nat.le_of_ble_eq_true rfl) hl.1 (Nat.le_of_ble_eq_true rfl) (Nat.le_of_ble_eq_true rfl) (Nat.le_of_ble_eq_true rfl) dX1_handByMoves_25 (fun it_4 H locs hM hS => ?_)
    refine lv_astore (lv' := [(4, .ref it_4), (3, .int (nI ((if (tn a1) = 3 then 12 else 0)))), (0, .ref (pa (0, 0))), (1, .int (nI (tn a1))), (2, .int (nI (tn a2)))]) hx hb dX1_handByMoves_30 hl (by decide) rfl (fun ls hl => ?_)
    have L_32 : ∀ (n_32 : Nat) (i : Nat), i ≤ g 8 1 → g 8 1 - i < n_32 → ∀ x3_32 : Int32, x3_32 = xHM g (tn a1) (tn a2) i → ∀ (H : Heap) (locs : List Loc), XS D dA cn A pa g (T ++ [(it_4, itM pa (g 8 1) i)]) H → va_S A s.heap H locs → ∀ ls : Array Slot, lv_has ls 6 [(1, .int (nI (tn a1))), (2, .int (nI (tn a2))), (3, .int x3_32), (4, .ref it_4)] → W pr l en (rmF 9 3 16 500) s m args below meth cd H locs (3) (16) (vx_MQ below (zc_Q Post A) (vc_X XPost A) args s 3 16 A) (F0 m 32 ls []) := by
      intro n_32
      induction n_32 with
      | zero => intro i hi_32 hm_32; exact absurd hm_32 (Nat.not_lt_zero _)
      | succ n_32 ih_32 =>
        intro i hi_32 hm_32 x3_32 ex3_32 H locs hM hS ls hl
        subst ex3_32
        refine lv_aload hx hb dX1_handByMoves_32 (lv_at hl 3 rfl) ?_
        refine kL_has_m S hKX (i := i) hM hS (by omega) (by omega) (Nat.le_of_ble_eq_true rfl) (Nat.le_of_ble_eq_true rfl) hl.1 (Nat.le_of_ble_eq_true rfl) (Nat.le_of_ble_eq_true rfl) (Nat.le_of_ble_eq_true rfl) dX1_handByMoves_34 (fun locs hS => ?_)
        refine zr_if_eqB (b := decide (i < g 8 1)) (tgt := 67) hx hb dX1_handByMoves_39 (by decide) (fun c_5 => ?_) (fun c_5 => ?_)
        · have hge_39 : ¬ i < g 8 1 := by simpa using c_5
          have e_i : g 8 1 = i := by omega
          subst e_i
          refine lv_iload_n hx hb dX1_handByMoves_67 rfl (lv_at hl 2 rfl) ?_
          have hM := hM.drop
          exact vx_ret (zc_nret (xHM g (tn a1) (tn a2) (g 8 1)) rfl (hPost (by first | rfl | (simp only [c_1, c_2, c_5, cdHandByMoves, Bool.true_and, Bool.and_true, reduceIte]; done) | (simp [c_1, c_2, c_5, cdHandByMoves]; done) | grind | (simp_all; done)) H hM hg) hS hx hb hr hlk (Nat.le_of_ble_eq_true rfl) (Nat.le_of_ble_eq_true rfl) dX1_handByMoves_68)
        · have hlt_39 := of_decide_eq_true c_5
          refine lv_aload hx hb dX1_handByMoves_42 (lv_at hl 3 rfl) ?_
          refine kL_next_m S hKX (i := i) hM hS (by omega) (by omega) (Nat.le_of_ble_eq_true rfl) (Nat.le_of_ble_eq_true rfl) hl.1 (Nat.le_of_ble_eq_true rfl) (Nat.le_of_ble_eq_true rfl) (Nat.le_of_ble_eq_true rfl) dX1_handByMoves_44 (fun y_6 H locs hy hM hS => ?_)
          have hM := itM_s hM
          refine kL_cast_m S hKX hy dX1_handByMoves_49 ?_
          refine lv_astore (lv' := [(5, .ref y_6), (1, .int (nI (tn a1))), (2, .int (nI (tn a2))), (3, .int (xHM g (tn a1) (tn a2) i)), (4, .ref it_4)]) hx hb dX1_handByMoves_52 hl (by decide) rfl (fun ls hl => ?_)
          refine lv_iload_n hx hb dX1_handByMoves_54 rfl (lv_at hl 3 rfl) ?_
          refine lv_aload hx hb dX1_handByMoves_55 (lv_at hl 0 rfl) ?_
          refine lv_iload_n hx hb dX1_handByMoves_57 rfl (lv_at hl 1 rfl) ?_
          refine lv_iload_n hx hb dX1_handByMoves_58 rfl (lv_at hl 2 rfl) ?_
          refine kI_gain S hKX hS hy (tn a1) (tn a2) (hg 12 _) (hg 13 _) (hg 14 _) (by omega) (by omega) (Nat.le_of_ble_eq_true rfl) (Nat.le_of_ble_eq_true rfl) hl.1 (Nat.le_of_ble_eq_true rfl) (Nat.le_of_ble_eq_true rfl) (Nat.le_of_ble_eq_true rfl) dX1_handByMoves_59 (fun locs hS => ?_)
          refine lv_iadd hx hb dX1_handByMoves_62 ?_
          refine lv_istore_n (lv' := [(3, .int ((xHM g (tn a1) (tn a2) i) + (gnV (g 12 i) (g 13 i) (g 14 i) (g 15 i) (tn a1) (tn a2)))), (5, .ref y_6), (1, .int (nI (tn a1))), (2, .int (nI (tn a2))), (4, .ref it_4)]) hx hb dX1_handByMoves_63 rfl hl (by decide) rfl (fun ls hl => ?_)
          refine lv_goto (tgt := 32) hx hb dX1_handByMoves_64 (by decide) ?_
          exact ih_32 (i + 1) (by first | omega | assumption | (simp; done) | grind) (by omega) _ (rfl) H locs hM hS ls (lv_sub hl [2, 3, 0, 4] rfl)
    exact L_32 _ 0 (by first | omega | assumption | (simp; done) | grind) (Nat.lt_succ_self _) _ (rfl) H locs hM hS ls (lv_sub hl [3, 4, 1, 0] rfl)
  refine zr_icmp_neN (a := (tn a1)) (b := 3) (tgt := 19) hx hb (by omega) (by omega) dX1_handByMoves_11 (by decide) (fun c_7 => ?_) (fun c_7 => ?_)
  · refine lv_iconst (v := nI 0) hx hb dX1_handByMoves_19 zi_0 ?_
    exact J_20 _ (congrArg nI (show (0 : Nat) = ((if (tn a1) = 3 then 12 else 0)) from by first | with_reducible rfl | (simp [c_1, c_2, c_7, cdHandByMoves]; done) | (simp only [c_1, c_2, c_7] <;> simp [cdHandByMoves]; done) | (simp only [cdHandByMoves, c_1, c_2, c_7] <;> simp [cdHandByMoves]; done) | (simp [c_1, c_2, c_7, cdHandByMoves, Bool.and_assoc]; done) | (simp [c_1, c_2, c_7, cdHandByMoves, Bool.and_assoc, Bool.or_assoc]; done) | rfl | (simp [c_1, c_2, c_7, cdHandByMoves]; omega) | (simp_all [cdHandByMoves]; done))) H locs hM hS ls (lv_sub hl [0, 1, 2] rfl)
  · refine lv_bipush (v := nI 12) hx hb dX1_handByMoves_14 zb_12 ?_
    refine lv_goto (tgt := 20) hx hb dX1_handByMoves_16 (by decide) ?_
    exact J_20 _ (congrArg nI (show (12 : Nat) = ((if (tn a1) = 3 then 12 else 0)) from by first | with_reducible rfl | (simp [c_1, c_2, c_7, cdHandByMoves]; done) | (simp only [c_1, c_2, c_7] <;> simp [cdHandByMoves]; done) | (simp only [cdHandByMoves, c_1, c_2, c_7] <;> simp [cdHandByMoves]; done) | (simp [c_1, c_2, c_7, cdHandByMoves, Bool.and_assoc]; done) | (simp [c_1, c_2, c_7, cdHandByMoves, Bool.and_assoc, Bool.or_assoc]; done) | rfl | (simp [c_1, c_2, c_7, cdHandByMoves]; omega) | (simp_all [cdHandByMoves]; done))) H locs hM hS ls (lv_sub hl [0, 1, 2] rfl)
def cdTrail (g : G) (a1 : Int32) : Nat := (if (inB a1 3) = true then 0 else 1)
set_option maxHeartbeats 1000000 in
set_option maxRecDepth 100000 in
theorem cX_trail (l : Launch) (hfl : l.stackTraces = false) {D : va_G} {dA : Nat → ClassId} {cn : Nat → Nat} {A : Nat → Prop} {pa : NM → Nat} {g : G} {T : va_W} (hg : Sm g) (a1 : Int32) (h6 : ∀ c, c < 24 → g 2 c ≤ 6) (hr8 : ∀ p, p < 3 → roadsN g p 30 ≤ 8) (H0 : Heap) (hM : XS D dA cn A pa g T H0) (hA : ∀ q, H0.size ≤ q → A q) {Post : Option Value → Heap → Prop} {XPost : String → Heap → Prop} (hPost : (cdTrail g a1) = 0 → ∀ H : Heap, XS D dA cn A pa g T H → Sm g → Post (some (.int (nI (xLong g (tn a1))))) H) (hXP : ∀ n : Nat, (cdTrail g a1) = n → n ≠ 0 → ∀ H : Heap, XS D dA cn A pa g T H → XPost (exS n) H) : vCt l yX1_trail (ws_ yX1_trail cX1_trail 2 (some .int)) (rmF 16 1 6 788) A (KX D dA cn A) [.ref (pa (0, 0)), .int a1] H0 Post XPost := by
  refine vc_of RX1 rfl (by decide) (Nat.le_of_ble_eq_true rfl) ?_
  intro pr en s m args below meth cd S hr hlk hnm hno hh hKX ls hl
  have hS : va_S A s.heap H0 [] := zc_start hh
  have hA : ∀ q, s.heap.size ≤ q → A q := fun q h => hA q (by rw [← hh]; exact h)
  have hg0 := hg
  have hx := S.1
  have hb := S.2.1
  have hown := S.2.2.2.1
  have hts := S.2.2.2.2
  have hK := hKX.1
  have hN := hKX.2.1.1
  have hl : lv_has ls 2 [(0, .ref (pa (0, 0))), (1, .int a1)] := hl
  refine lv_iload_n hx hb dX1_trail_0 rfl (lv_at hl 1 rfl) ?_
  refine lv_iconst (v := nI 3) hx hb dX1_trail_1 zi_3 ?_
  refine kX_check hfl S hKX hM hg hS (fun q h => hA q (Nat.le_trans hS.1 h)) a1 3 (by first | omega | assumption | grind) (Nat.le_of_ble_eq_true rfl) (Nat.le_of_ble_eq_true rfl) hl.1 (Nat.le_of_ble_eq_true rfl) dX1_trail_2 (Nat.le_of_ble_eq_true rfl) (Nat.le_of_ble_eq_true rfl) hno hlk (Nat.le_of_ble_eq_true rfl) (Nat.le_of_ble_eq_true rfl) (fun c_1 H1 hM1 => hXP 1 (by first | (simp only [c_1, cdTrail, Bool.true_and, Bool.and_true, Bool.false_and, Bool.and_false, reduceIte, Bool.false_eq_true]; done) | (simp [c_1, cdTrail]; done) | grind | (simp_all; done)) (by decide) H1 hM1) (fun c_1 H locs hM hg hS => ?_)
  obtain ⟨hj1, ea1⟩ := inB_tn (by decide) c_1
  rw [ea1] at hl
  refine lv_aload_n hx hb dX1_trail_5 rfl (lv_at hl 0 rfl) ?_
  refine lv_iload_n hx hb dX1_trail_6 rfl (lv_at hl 1 rfl) ?_
  refine kX_longest S hKX hM hg hS (tn a1) (by first | omega | assumption | grind) (by first | omega | assumption | grind) (by first | omega | assumption | grind) (Nat.le_of_ble_eq_true rfl) (Nat.le_of_ble_eq_true rfl) hl.1 (Nat.le_of_ble_eq_true rfl) dX1_trail_7 (Nat.le_of_ble_eq_true rfl) (Nat.le_of_ble_eq_true rfl) (fun locs hS => ?_)
  have f7_0 : xLong g (tn a1) ≤ 9 := xLong_le _ _
  exact vx_ret (zc_nret (nI (xLong g (tn a1))) rfl (hPost (by first | rfl | (simp only [c_1, cdTrail, Bool.true_and, Bool.and_true, reduceIte]; done) | (simp [c_1, cdTrail]; done) | grind | (simp_all; done)) H hM hg) hS hx hb hr hlk (Nat.le_of_ble_eq_true rfl) (Nat.le_of_ble_eq_true rfl) dX1_trail_10)
