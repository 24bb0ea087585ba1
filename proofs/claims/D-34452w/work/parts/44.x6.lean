/-! THE CLASS: goods that are checked, deals and offers (printed by gen/x6.py) -/
set_option maxHeartbeats 1000000 in
set_option maxRecDepth 100000 in
theorem cX_checkGoods (l : Launch) (hfl : l.stackTraces = false) {D : va_G} {dA : Nat → ClassId} {cn : Nat → Nat} {A : Nat → Prop} {pa : NM → Nat} {g : G} {T : va_W} (hg : Sm g) (a1 : Nat) (q : Nat) (N : Nat) (f : Nat → Int32) (h1 : a1 < 1048576) (hN : N ≤ 2) (hT : (q, tA dA N f) ∈ T) (H0 : Heap) (hM : XS D dA cn A pa g T H0) (hA : ∀ q, H0.size ≤ q → A q) {Post : Option Value → Heap → Prop} {XPost : String → Heap → Prop} (hPost : (allN N (fun i => inR (f i) a1 99999)) = true → ∀ H : Heap, XS D dA cn A pa g T H → Sm g → Post (none) H) (hXP : ¬ (allN N (fun i => inR (f i) a1 99999)) = true → ∀ H : Heap, XS D dA cn A pa g T H → XPost (exS 2) H) : vCt l yX1_checkGoods (ws_ yX1_checkGoods cX1_checkGoods 6 none) (rmF 7 3 18 122) A (KX D dA cn A) [.int (nI a1), .ref q] H0 Post XPost := by
  refine vc_of RX1 rfl (by decide) (Nat.le_of_ble_eq_true rfl) ?_
  intro pr en s m args below meth cd S hr hlk hnm hno hh hKX ls hl
  have hS : va_S A s.heap H0 [] := zc_start hh
  have hA : ∀ q, s.heap.size ≤ q → A q := fun q h => hA q (by rw [← hh]; exact h)
  have hg0 := hg
  have hx := S.1
  have hb := S.2.1
  have hown := S.2.2.2.1
  have hts := S.2.2.2.2
  have hK := hKX.1
  have hN := hKX.2.1.1
  have hl : lv_has ls 6 [(0, .int (nI a1)), (1, .ref q)] := hl
  refine lv_aload_n hx hb dX1_checkGoods_0 rfl (lv_at hl 1 rfl) ?_
  refine lv_astore_n (lv' := [(2, .ref q), (0, .int (nI a1)), (1, .ref q)]) hx hb dX1_checkGoods_1 rfl hl (by decide) rfl (fun ls hl => ?_)
  refine lv_aload_n hx hb dX1_checkGoods_2 rfl (lv_at hl 0 rfl) ?_
  refine xT_len S hK hM (f := f) (by first | exact hT | exact tA_last) dX1_checkGoods_3 ?_
  refine lv_istore_n (lv' := [(3, .int (nI N)), (2, .ref q), (0, .int (nI a1)), (1, .ref q)]) hx hb dX1_checkGoods_4 rfl hl (by decide) rfl (fun ls hl => ?_)
  refine lv_iconst (v := nI 0) hx hb dX1_checkGoods_5 zi_0 ?_
  refine lv_istore (lv' := [(4, .int (nI 0)), (3, .int (nI N)), (2, .ref q), (0, .int (nI a1)), (1, .ref q)]) hx hb dX1_checkGoods_6 hl (by decide) rfl (fun ls hl => ?_)
  have L_8 : ∀ (n_8 : Nat) (i : Nat), i ≤ N → allN i (fun j => inR (f j) a1 99999) = true → N - i < n_8 → ∀ (H : Heap) (locs : List Loc), XS D dA cn A pa g T H → va_S A s.heap H locs → ∀ ls : Array Slot, lv_has ls 6 [(0, .int (nI a1)), (2, .ref q), (3, .int (nI N)), (4, .int (nI i))] → W pr l en (rmF 7 3 18 122) s m args below meth cd H locs (i) (6 * i) (vx_MQ below (zc_Q Post A) (vc_X XPost A) args s 3 18 A) (F0 m 8 ls []) := by
    intro n_8
    induction n_8 with
    | zero => intro i hi_8 ha hm_8; exact absurd hm_8 (Nat.not_lt_zero _)
    | succ n_8 ih_8 =>
      intro i hi_8 ha hm_8 H locs hM hS ls hl
      refine lv_iload hx hb dX1_checkGoods_8 (lv_at hl 3 rfl) ?_
      refine lv_iload_n hx hb dX1_checkGoods_10 rfl (lv_at hl 2 rfl) ?_
      refine zr_icmp_geN (a := i) (b := N) (tgt := 34) hx hb (by omega) (by omega) dX1_checkGoods_11 (by decide) (fun c_1 => ?_) (fun c_1 => ?_)
      · have e_i : N = i := by omega
        subst e_i
        refine W.widen (k := 2) (n := 12) (by omega) (by omega) ?_
        exact vx_ret (zc_vret (hPost (by first | rfl | (exact ha) | (simp only [c_1, Bool.true_and, Bool.and_true, reduceIte]; done) | (simp [c_1]; done) | grind | (simp_all; done)) H hM hg) hS hx hb hr hlk (Nat.le_of_ble_eq_true rfl) (Nat.le_of_ble_eq_true rfl) dX1_checkGoods_34)
      · refine lv_aload_n hx hb dX1_checkGoods_14 rfl (lv_at hl 1 rfl) ?_
        refine lv_iload hx hb dX1_checkGoods_15 (lv_at hl 3 rfl) ?_
        refine xT_ld S hK hM (f := f) (by first | exact hT | exact tA_last) i (by omega) (by omega) dX1_checkGoods_17 ?_
        refine lv_istore (lv' := [(5, .int (f i)), (0, .int (nI a1)), (2, .ref q), (3, .int (nI N)), (4, .int (nI i))]) hx hb dX1_checkGoods_18 hl (by decide) rfl (fun ls hl => ?_)
        refine lv_iload hx hb dX1_checkGoods_20 (lv_at hl 0 rfl) ?_
        refine lv_iload_n hx hb dX1_checkGoods_22 rfl (lv_at hl 1 rfl) ?_
        refine lv_ldc (v := nI 99999) hx hb hown (hts _ q647) dX1_checkGoods_23 ?_
        refine kX_checkRange hfl S hKX hM hg hS (fun q h => hA q (Nat.le_trans hS.1 h)) (f i) a1 99999 (by first | omega | assumption | grind) (by first | omega | assumption | grind) (Nat.le_of_ble_eq_true rfl) (Nat.le_of_ble_eq_true rfl) hl.1 (Nat.le_of_ble_eq_true rfl) dX1_checkGoods_25 (show i + 1 ≤ 3 from by omega) (show 6 * i + 6 ≤ 18 from by omega) hno hlk (show i + 1 ≤ 3 from by omega) (show 6 * i + 6 ≤ 18 from by omega) (fun c_2 H1 hM1 => hXP (by first | (exact fun q => c_2 (allN_iff.mp q i (by omega))) | (simp [c_1, c_2]; done) | grind | (simp_all; done)) H1 hM1) (fun c_2 H locs hM hg hS => ?_)
        refine lv_iinc (v := nI (i + 1)) (lv' := [(4, .int (nI (i + 1))), (5, .int (f i)), (0, .int (nI a1)), (2, .ref q), (3, .int (nI N))]) hx hb dX1_checkGoods_28 hl (k := 4) rfl (zk_inc _) (by decide) rfl (fun ls hl => ?_)
        refine lv_goto (tgt := 8) hx hb dX1_checkGoods_31 (by decide) ?_
        refine W.widen (k := (i + 1)) (n := 6 * (i + 1)) (by omega) (by omega) ?_
        exact ih_8 (i + 1) (by first | omega | assumption | (simp; done) | grind) (by show (allN i _ && inR (f i) a1 99999) = true; rw [ha, Bool.true_and]; exact c_2) (by omega) H locs hM hS ls (lv_sub hl [2, 3, 4, 0] rfl)
  exact L_8 _ 0 (by first | omega | assumption | (simp; done) | grind) (by rfl) (Nat.lt_succ_self _) H0 [] hM hS ls (lv_sub hl [3, 2, 1, 0] rfl)
theorem kX_checkGoods {pr : Program} {l : Launch} {en : Env} {R : Room} {s : State} {m : MethodId} {args : Array Value} {below : List Frame} {meth : Method} {cd : Code} {H : Heap} {locs : List Loc} {cells slots : Nat} {cc : ByteArray} {pc nL : Nat} {ls : Array Slot} {rest : List Value} {D : va_G} {dA : Nat → ClassId} {cn : Nat → Nat} {A : Nat → Prop} {pa : NM → Nat} {g : G} {T : va_W} {mc ms : Nat} {Post : Option Value → Heap → Prop} {XPost : String → Heap → Prop} (hfl : l.stackTraces = false) (S : CallFix pr m cd cc nL s args lw_all RX1) (hKX : KX D dA cn A s) (hM : XS D dA cn A pa g T H) (hg : Sm g) (hS : va_S A s.heap H locs) (hA : ∀ q, H.size ≤ q → A q) (a1 : Nat) (q : Nat) (N : Nat) (f : Nat → Int32) (h1 : a1 < 1048576) (hN : N ≤ 2) (hT : (q, tA dA N f) ∈ T) (hf : 7 + 1 ≤ R.frames) (hlo : 8 + (6 + 11) + 122 ≤ R.locals) (hsz : ls.size = nL) (hcat : (rest.map fun v => v.category).sum ≤ 8) (hdg : decode cc pc = .ok (.invokestatic 249, 3)) (hq1 : cells + 3 ≤ R.cells) (hq2 : slots + 18 ≤ R.slots) (hno : ∀ x ∈ cd.exceptionTable.toList, False) (hlk : meth.locks = false) (hmc : cells + 3 ≤ mc) (hms : slots + 18 ≤ ms) (hX : ¬ (allN N (fun i => inR (f i) a1 99999)) = true → ∀ H1 : Heap, XS D dA cn A pa g T H1 → XPost (exS 2) H1) (kk : (allN N (fun i => inR (f i) a1 99999)) = true → ∀ (H1 : Heap) (locs1 : List Loc), XS D dA cn A pa g T H1 → Sm g → va_S A s.heap H1 locs1 → W pr l en R s m args below meth cd H1 locs1 (cells + 3) (slots + 18) (vx_MQ below (zc_Q Post A) (vc_X XPost A) args s mc ms A) (F0 m (pc + 3) ls (rest))) : W pr l en R s m args below meth cd H locs cells slots (vx_MQ below (zc_Q Post A) (vc_X XPost A) args s mc ms A) (F0 m pc ls (.ref q :: .int (nI a1) :: rest)) :=
  vc_callS (n := 2) (As := [.int (nI a1), .ref q]) (rest := rest) S (cX_checkGoods l hfl hg a1 q N f h1 hN hT H hM hA (Post := (fun v H1 => v = none ∧ (allN N (fun i => inR (f i) a1 99999)) = true ∧ XS D dA cn A pa g T H1 ∧ Sm g)) (XPost := fun E H1 => E = exS 2 ∧ ¬ (allN N (fun i => inR (f i) a1 99999)) = true ∧ XS D dA cn A pa g T H1) (fun h0 H1 h h2 => ⟨rfl, h0, h, h2⟩) (fun h0 H1 h => ⟨rfl, h0, h⟩)) (lw_S q644 q645 q71 q646) (by decide +kernel) ⟨hf, hlo⟩ ⟨hq1, hq2⟩ KX_mv (zc_K KX_mv hKX hS) hS (fun _ h => h) rfl hsz rfl hcat hdg hno hlk (fun E H1 h => by obtain ⟨rfl, h0, hM1⟩ := h; exact hX h0 H1 hM1) hmc hms (fun v H1 locs1 hp _ _ hS1 => by obtain ⟨rfl, h0, hM1, hg1⟩ := hp; exact kk h0 H1 locs1 hM1 hg1 hS1)
def cdDeal (g : G) (a1 : Int32) (a2 : Int32) : Nat := (if (inB a1 3) = true then (if (goodsB a2) = true then (if (decide (g 7 5 = 0) && hasG g 3 (tn a2)) = true then 0 else 3) else 2) else 1)
set_option maxHeartbeats 1000000 in
set_option maxRecDepth 100000 in
theorem cX_deal (l : Launch) (hfl : l.stackTraces = false) {D : va_G} {dA : Nat → ClassId} {cn : Nat → Nat} {A : Nat → Prop} {pa : NM → Nat} {g : G} {T : va_W} (hg : Sm g) (a1 : Int32) (a2 : Int32) (hb4 : ∀ j, j < 20 → g 4 j ≤ 100) (hv : g 8 1 ≤ 1900) (H0 : Heap) (hM : XS D dA cn A pa g T H0) (hA : ∀ q, H0.size ≤ q → A q) {Post : Option Value → Heap → Prop} {XPost : String → Heap → Prop} (hPost : (cdDeal g a1 a2) = 0 → ∀ H : Heap, XS D dA cn A pa (giveX g 3 (tn a1) (tn a2) 5) T H → Sm (giveX g 3 (tn a1) (tn a2) 5) → Post (some (.int (nI (handN (giveX g 3 (tn a1) (tn a2) 5) (tn a1) 5)))) H) (hXP : ∀ n : Nat, (cdDeal g a1 a2) = n → n ≠ 0 → ∀ H : Heap, XS D dA cn A pa g T H → XPost (exS n) H) : vCt l yX1_deal (ws_ yX1_deal cX1_deal 3 (some .int)) (rmF 11 18 24055 548) A (KX D dA cn A) [.ref (pa (0, 0)), .int a1, .int a2] H0 Post XPost := by
  refine vc_of RX1 rfl (by decide) (Nat.le_of_ble_eq_true rfl) ?_
  intro pr en s m args below meth cd S hr hlk hnm hno hh hKX ls hl
  have hS : va_S A s.heap H0 [] := zc_start hh
  have hA : ∀ q, s.heap.size ≤ q → A q := fun q h => hA q (by rw [← hh]; exact h)
  have hg0 := hg
  have hx := S.1
  have hb := S.2.1
  have hown := S.2.2.2.1
  have hts := S.2.2.2.2
  have hK := hKX.1
  have hN := hKX.2.1.1
  have hl : lv_has ls 3 [(0, .ref (pa (0, 0))), (1, .int a1), (2, .int a2)] := hl
  refine lv_iload_n hx hb dX1_deal_0 rfl (lv_at hl 1 rfl) ?_
  refine lv_iconst (v := nI 3) hx hb dX1_deal_1 zi_3 ?_
  refine kX_check hfl S hKX hM hg hS (fun q h => hA q (Nat.le_trans hS.1 h)) a1 3 (by first | omega | assumption | grind) (Nat.le_of_ble_eq_true rfl) (Nat.le_of_ble_eq_true rfl) hl.1 (Nat.le_of_ble_eq_true rfl) dX1_deal_2 (Nat.le_of_ble_eq_true rfl) (Nat.le_of_ble_eq_true rfl) hno hlk (Nat.le_of_ble_eq_true rfl) (Nat.le_of_ble_eq_true rfl) (fun c_1 H1 hM1 => hXP 1 (by first | (simp only [c_1, cdDeal, Bool.true_and, Bool.and_true, Bool.false_and, Bool.and_false, reduceIte, Bool.false_eq_true]; done) | (simp [c_1, cdDeal]; done) | grind | (simp_all; done)) (by decide) H1 hM1) (fun c_1 H locs hM hg hS => ?_)
  obtain ⟨hj1, ea1⟩ := inB_tn (by decide) c_1
  rw [ea1] at hl
  refine lv_iconst (v := nI 0) hx hb dX1_deal_5 zi_0 ?_
  refine lv_iconst (v := nI 1) hx hb dX1_deal_6 zi_1 ?_
  refine xT_new S hK hM hS hA 1 (by omega) (Nat.le_of_ble_eq_true rfl) (Nat.le_of_ble_eq_true rfl) dX1_deal_7 (fun q_2 H locs hM hS => ?_)
  refine lv_dup hx hb dX1_deal_9 rfl ?_
  refine lv_iconst (v := nI 0) hx hb dX1_deal_10 zi_0 ?_
  refine lv_iload_n hx hb dX1_deal_11 rfl (lv_at hl 2 rfl) ?_
  refine xT_st S hK hM hS 0 (by omega) (by omega) a2 dX1_deal_12 (fun H locs hM hS => ?_)
  refine kX_checkGoods hfl S hKX hM hg hS (fun q h => hA q (Nat.le_trans hS.1 h)) 0 q_2 1 (upd (fun _ => 0) 0 a2) (by decide) (by decide) tA_last (Nat.le_of_ble_eq_true rfl) (Nat.le_of_ble_eq_true rfl) hl.1 (Nat.le_of_ble_eq_true rfl) dX1_deal_13 (Nat.le_of_ble_eq_true rfl) (Nat.le_of_ble_eq_true rfl) hno hlk (Nat.le_of_ble_eq_true rfl) (Nat.le_of_ble_eq_true rfl) (fun c_3 H1 hM1 => hXP 2 (by first | (simp only [c_1, (show ¬ (goodsB a2) = true from fun q => c_3 ((cg_1 _).trans q)), cdDeal, Bool.true_and, Bool.and_true, Bool.false_and, Bool.and_false, reduceIte, Bool.false_eq_true]; done) | (simp [c_1, (show ¬ (goodsB a2) = true from fun q => c_3 ((cg_1 _).trans q)), cdDeal]; done) | grind | (simp_all; done)) (by decide) H1 hM1.drop) (fun c_3 H locs hM hg hS => ?_)
  have c_4 : (goodsB a2) = true := (cg_1 _).symm.trans c_3
  have hM := hM.drop
  obtain ⟨hj2, ea2⟩ := goodsB_tn c_4
  rw [ea2] at hl
  refine lv_aload_n hx hb dX1_deal_16 rfl (lv_at hl 0 rfl) ?_
  refine gX_hasRolled S hK hM (g 7 5) rfl dX1_deal_17 ?_
  have hb_5 : g 7 5 < 1048576 := by first | exact hg 7 5 | exact hg0 _ _ | (have := hg 7 5; omega) | omega
  have J_37 : ∀ yS0_37 : Int32, yS0_37 = nI (decide ((g 7 5) = 0) && ((hasG g 3 (tn a2)))).toNat → ∀ (H : Heap) (locs : List Loc), XS D dA cn A pa g T H → va_S A s.heap H locs → ∀ ls : Array Slot, lv_has ls 3 [(0, .ref (pa (0, 0))), (1, .int (nI (tn a1))), (2, .int (nI (tn a2)))] → W pr l en (rmF 11 18 24055 548) s m args below meth cd H locs (5) (25) (vx_MQ below (zc_Q Post A) (vc_X XPost A) args s 18 24055 A) (F0 m 37 ls [.int yS0_37]) := by
    intro yS0_37 eyS0_37 H locs hM hS ls hl
    subst eyS0_37
    refine kX_checkState hfl S hKX hM hg hS (fun q h => hA q (Nat.le_trans hS.1 h)) (decide ((g 7 5) = 0) && ((hasG g 3 (tn a2))))  (Nat.le_of_ble_eq_true rfl) (Nat.le_of_ble_eq_true rfl) hl.1 (Nat.le_of_ble_eq_true rfl) dX1_deal_37 (Nat.le_of_ble_eq_true rfl) (Nat.le_of_ble_eq_true rfl) hno hlk (Nat.le_of_ble_eq_true rfl) (Nat.le_of_ble_eq_true rfl) (fun c_8 H1 hM1 => hXP 3 (by first | (simp only [c_1, c_4, c_8, cdDeal, Bool.true_and, Bool.and_true, Bool.false_and, Bool.and_false, reduceIte, Bool.false_eq_true]; done) | (simp [c_1, c_4, c_8, cdDeal]; done) | grind | (simp_all; done)) (by decide) H1 hM1) (fun c_8 H locs hM hg hS => ?_)
    have hHG : hasG g 3 (tn a2) = true := by have q := c_8; simp only [Bool.and_eq_true, decide_eq_true_eq, Bool.not_eq_true', decide_eq_false_iff_not] at q; exact q.2
    refine lv_aload_n hx hb dX1_deal_40 rfl (lv_at hl 0 rfl) ?_
    refine lv_iconst (v := nI 3) hx hb dX1_deal_41 zi_3 ?_
    refine lv_iload_n hx hb dX1_deal_42 rfl (lv_at hl 1 rfl) ?_
    refine lv_iload_n hx hb dX1_deal_43 rfl (lv_at hl 2 rfl) ?_
    refine kX_give S hKX hM hg hS (fun q h => hA q (Nat.le_trans hS.1 h)) 3 (tn a1) (tn a2) (by first | omega | assumption | grind) (by first | omega | assumption | grind) (by first | omega | assumption | grind) (by exact hasG_le hHG) (by exact fun j hj => Nat.le_trans (hb4 j hj) (by decide)) (by first | omega | assumption | grind) (Nat.le_of_ble_eq_true rfl) (Nat.le_of_ble_eq_true rfl) hl.1 (Nat.le_of_ble_eq_true rfl) dX1_deal_44 (Nat.le_of_ble_eq_true rfl) (Nat.le_of_ble_eq_true rfl) (fun H locs hM hg hS => ?_)
    refine lv_aload_n hx hb dX1_deal_47 rfl (lv_at hl 0 rfl) ?_
    refine lv_iload_n hx hb dX1_deal_48 rfl (lv_at hl 1 rfl) ?_
    refine kX_total S hKX hM hg hS (tn a1) (by first | omega | assumption | grind) (Nat.le_of_ble_eq_true rfl) (Nat.le_of_ble_eq_true rfl) hl.1 (Nat.le_of_ble_eq_true rfl) dX1_deal_49 (Nat.le_of_ble_eq_true rfl) (Nat.le_of_ble_eq_true rfl) (fun locs hS => ?_)
    have f49_0 : handN (giveX g 3 (tn a1) (tn a2) 5) (tn a1) 5 < 5242880 := handN_lt hg _
    exact vx_ret (zc_nret (nI (handN (giveX g 3 (tn a1) (tn a2) 5) (tn a1) 5)) rfl (hPost (by first | rfl | (simp only [c_1, c_4, c_8, cdDeal, Bool.true_and, Bool.and_true, reduceIte]; done) | (simp [c_1, c_4, c_8, cdDeal]; done) | grind | (simp_all; done)) H hM hg) hS hx hb hr hlk (Nat.le_of_ble_eq_true rfl) (Nat.le_of_ble_eq_true rfl) dX1_deal_52)
  refine zr_if_neN (a := (g 7 5)) (tgt := 36) hx hb (by omega) dX1_deal_20 (by decide) (fun c_9 => ?_) (fun c_9 => ?_)
  · refine lv_iconst (v := nI 0) hx hb dX1_deal_36 zi_0 ?_
    exact J_37 _ (congrArg (fun z : Bool => nI z.toNat) (show (false : Bool) = (decide ((g 7 5) = 0) && ((hasG g 3 (tn a2)))) from by first | with_reducible rfl | (simp [c_1, c_4, c_9, cdDeal]; done) | (simp only [c_1, c_4, c_9] <;> simp [cdDeal]; done) | (simp only [cdDeal, c_1, c_4, c_9] <;> simp [cdDeal]; done) | (simp [c_1, c_4, c_9, cdDeal, Bool.and_assoc]; done) | (simp [c_1, c_4, c_9, cdDeal, Bool.and_assoc, Bool.or_assoc]; done) | rfl | (simp [c_1, c_4, c_9, cdDeal]; omega) | (simp_all [cdDeal]; done))) H locs hM hS ls (lv_sub hl [0, 1, 2] rfl)
  · refine lv_aload_n hx hb dX1_deal_23 rfl (lv_at hl 0 rfl) ?_
    refine lv_iconst (v := nI 3) hx hb dX1_deal_24 zi_3 ?_
    refine lv_iload_n hx hb dX1_deal_25 rfl (lv_at hl 2 rfl) ?_
    refine kX_hasGoods S hKX hM hg hS 3 (tn a2) (by first | omega | assumption | grind) (by first | omega | assumption | grind) (Nat.le_of_ble_eq_true rfl) (Nat.le_of_ble_eq_true rfl) hl.1 (Nat.le_of_ble_eq_true rfl) dX1_deal_26 (Nat.le_of_ble_eq_true rfl) (Nat.le_of_ble_eq_true rfl) (fun locs hS => ?_)
    refine zr_if_eqB (b := hasG g 3 (tn a2)) (tgt := 36) hx hb dX1_deal_29 (by decide) (fun c_10 => ?_) (fun c_10 => ?_)
    · refine lv_iconst (v := nI 0) hx hb dX1_deal_36 zi_0 ?_
      exact J_37 _ (congrArg (fun z : Bool => nI z.toNat) (show (false : Bool) = (decide ((g 7 5) = 0) && ((hasG g 3 (tn a2)))) from by first | with_reducible rfl | (simp [c_1, c_4, c_9, c_10, cdDeal]; done) | (simp only [c_1, c_4, c_9, c_10] <;> simp [cdDeal]; done) | (simp only [cdDeal, c_1, c_4, c_9, c_10] <;> simp [cdDeal]; done) | (simp [c_1, c_4, c_9, c_10, cdDeal, Bool.and_assoc]; done) | (simp [c_1, c_4, c_9, c_10, cdDeal, Bool.and_assoc, Bool.or_assoc]; done) | rfl | (simp [c_1, c_4, c_9, c_10, cdDeal]; omega) | (simp_all [cdDeal]; done))) H locs hM hS ls (lv_sub hl [0, 1, 2] rfl)
    · refine lv_iconst (v := nI 1) hx hb dX1_deal_32 zi_1 ?_
      refine lv_goto (tgt := 37) hx hb dX1_deal_33 (by decide) ?_
      exact J_37 _ (congrArg (fun z : Bool => nI z.toNat) (show (true : Bool) = (decide ((g 7 5) = 0) && ((hasG g 3 (tn a2)))) from by first | with_reducible rfl | (simp [c_1, c_4, c_9, c_10, cdDeal]; done) | (simp only [c_1, c_4, c_9, c_10] <;> simp [cdDeal]; done) | (simp only [cdDeal, c_1, c_4, c_9, c_10] <;> simp [cdDeal]; done) | (simp [c_1, c_4, c_9, c_10, cdDeal, Bool.and_assoc]; done) | (simp [c_1, c_4, c_9, c_10, cdDeal, Bool.and_assoc, Bool.or_assoc]; done) | rfl | (simp [c_1, c_4, c_9, c_10, cdDeal]; omega) | (simp_all [cdDeal]; done))) H locs hM hS ls (lv_sub hl [0, 1, 2] rfl)
def cdDiscard (g : G) (a1 : Int32) (a2 : Int32) : Nat := (if (inB a1 3) = true then (if (goodsB a2) = true then (if (decide (g 7 1 = 3) && (decide (0 < g 5 (tn a1)) && (decide (sizeN (tn a2) 5 = g 5 (tn a1)) && hasG g (tn a1) (tn a2)))) = true then 0 else 3) else 2) else 1)
set_option maxHeartbeats 1000000 in
set_option maxRecDepth 100000 in
theorem cX_discard (l : Launch) (hfl : l.stackTraces = false) {D : va_G} {dA : Nat → ClassId} {cn : Nat → Nat} {A : Nat → Prop} {pa : NM → Nat} {g : G} {T : va_W} (hg : Sm g) (a1 : Int32) (a2 : Int32) (hb4 : ∀ j, j < 20 → g 4 j ≤ 100) (hv : g 8 1 ≤ 1900) (H0 : Heap) (hM : XS D dA cn A pa g T H0) (hA : ∀ q, H0.size ≤ q → A q) {Post : Option Value → Heap → Prop} {XPost : String → Heap → Prop} (hPost : (cdDiscard g a1 a2) = 0 → ∀ H : Heap, XS D dA cn A pa (gs (gs (giveX g (tn a1) 3 (tn a2) 5) 5 (tn a1) 0) 7 1 (xDue (gs (giveX g (tn a1) 3 (tn a2) 5) 5 (tn a1) 0) 3)) T H → Sm (gs (gs (giveX g (tn a1) 3 (tn a2) 5) 5 (tn a1) 0) 7 1 (xDue (gs (giveX g (tn a1) 3 (tn a2) 5) 5 (tn a1) 0) 3)) → Post (some (.int (nI (xDue (gs (giveX g (tn a1) 3 (tn a2) 5) 5 (tn a1) 0) 3)))) H) (hXP : ∀ n : Nat, (cdDiscard g a1 a2) = n → n ≠ 0 → ∀ H : Heap, XS D dA cn A pa g T H → XPost (exS n) H) : vCt l yX1_discard (ws_ yX1_discard cX1_discard 3 (some .int)) (rmF 11 18 24055 548) A (KX D dA cn A) [.ref (pa (0, 0)), .int a1, .int a2] H0 Post XPost := by
  refine vc_of RX1 rfl (by decide) (Nat.le_of_ble_eq_true rfl) ?_
  intro pr en s m args below meth cd S hr hlk hnm hno hh hKX ls hl
  have hS : va_S A s.heap H0 [] := zc_start hh
  have hA : ∀ q, s.heap.size ≤ q → A q := fun q h => hA q (by rw [← hh]; exact h)
  have hg0 := hg
  have hx := S.1
  have hb := S.2.1
  have hown := S.2.2.2.1
  have hts := S.2.2.2.2
  have hK := hKX.1
  have hN := hKX.2.1.1
  have hl : lv_has ls 3 [(0, .ref (pa (0, 0))), (1, .int a1), (2, .int a2)] := hl
  refine lv_iload_n hx hb dX1_discard_0 rfl (lv_at hl 1 rfl) ?_
  refine lv_iconst (v := nI 3) hx hb dX1_discard_1 zi_3 ?_
  refine kX_check hfl S hKX hM hg hS (fun q h => hA q (Nat.le_trans hS.1 h)) a1 3 (by first | omega | assumption | grind) (Nat.le_of_ble_eq_true rfl) (Nat.le_of_ble_eq_true rfl) hl.1 (Nat.le_of_ble_eq_true rfl) dX1_discard_2 (Nat.le_of_ble_eq_true rfl) (Nat.le_of_ble_eq_true rfl) hno hlk (Nat.le_of_ble_eq_true rfl) (Nat.le_of_ble_eq_true rfl) (fun c_1 H1 hM1 => hXP 1 (by first | (simp only [c_1, cdDiscard, Bool.true_and, Bool.and_true, Bool.false_and, Bool.and_false, reduceIte, Bool.false_eq_true]; done) | (simp [c_1, cdDiscard]; done) | grind | (simp_all; done)) (by decide) H1 hM1) (fun c_1 H locs hM hg hS => ?_)
  obtain ⟨hj1, ea1⟩ := inB_tn (by decide) c_1
  rw [ea1] at hl
  refine lv_iconst (v := nI 0) hx hb dX1_discard_5 zi_0 ?_
  refine lv_iconst (v := nI 1) hx hb dX1_discard_6 zi_1 ?_
  refine xT_new S hK hM hS hA 1 (by omega) (Nat.le_of_ble_eq_true rfl) (Nat.le_of_ble_eq_true rfl) dX1_discard_7 (fun q_2 H locs hM hS => ?_)
  refine lv_dup hx hb dX1_discard_9 rfl ?_
  refine lv_iconst (v := nI 0) hx hb dX1_discard_10 zi_0 ?_
  refine lv_iload_n hx hb dX1_discard_11 rfl (lv_at hl 2 rfl) ?_
  refine xT_st S hK hM hS 0 (by omega) (by omega) a2 dX1_discard_12 (fun H locs hM hS => ?_)
  refine kX_checkGoods hfl S hKX hM hg hS (fun q h => hA q (Nat.le_trans hS.1 h)) 0 q_2 1 (upd (fun _ => 0) 0 a2) (by decide) (by decide) tA_last (Nat.le_of_ble_eq_true rfl) (Nat.le_of_ble_eq_true rfl) hl.1 (Nat.le_of_ble_eq_true rfl) dX1_discard_13 (Nat.le_of_ble_eq_true rfl) (Nat.le_of_ble_eq_true rfl) hno hlk (Nat.le_of_ble_eq_true rfl) (Nat.le_of_ble_eq_true rfl) (fun c_3 H1 hM1 => hXP 2 (by first | (simp only [c_1, (show ¬ (goodsB a2) = true from fun q => c_3 ((cg_1 _).trans q)), cdDiscard, Bool.true_and, Bool.and_true, Bool.false_and, Bool.and_false, reduceIte, Bool.false_eq_true]; done) | (simp [c_1, (show ¬ (goodsB a2) = true from fun q => c_3 ((cg_1 _).trans q)), cdDiscard]; done) | grind | (simp_all; done)) (by decide) H1 hM1.drop) (fun c_3 H locs hM hg hS => ?_)
  have c_4 : (goodsB a2) = true := (cg_1 _).symm.trans c_3
  have hM := hM.drop
  obtain ⟨hj2, ea2⟩ := goodsB_tn c_4
  rw [ea2] at hl
  refine lv_aload_n hx hb dX1_discard_16 rfl (lv_at hl 0 rfl) ?_
  refine gX_phase S hK hM (g 7 1) rfl dX1_discard_17 ?_
  have hb_5 : g 7 1 < 1048576 := by first | exact hg 7 1 | exact hg0 _ _ | (have := hg 7 1; omega) | omega
  refine lv_iconst (v := nI 3) hx hb dX1_discard_20 zi_3 ?_
  have J_60 : ∀ yS0_60 : Int32, yS0_60 = nI (decide ((g 7 1) = 3) && (decide (0 < (g 5 (tn a1))) && (decide ((sizeN (tn a2) 5) = (g 5 (tn a1))) && ((hasG g (tn a1) (tn a2)))))).toNat → ∀ (H : Heap) (locs : List Loc), XS D dA cn A pa g T H → va_S A s.heap H locs → ∀ ls : Array Slot, lv_has ls 3 [(0, .ref (pa (0, 0))), (1, .int (nI (tn a1))), (2, .int (nI (tn a2)))] → W pr l en (rmF 11 18 24055 548) s m args below meth cd H locs (5) (25) (vx_MQ below (zc_Q Post A) (vc_X XPost A) args s 18 24055 A) (F0 m 60 ls [.int yS0_60]) := by
    intro yS0_60 eyS0_60 H locs hM hS ls hl
    subst eyS0_60
    refine kX_checkState hfl S hKX hM hg hS (fun q h => hA q (Nat.le_trans hS.1 h)) (decide ((g 7 1) = 3) && (decide (0 < (g 5 (tn a1))) && (decide ((sizeN (tn a2) 5) = (g 5 (tn a1))) && ((hasG g (tn a1) (tn a2))))))  (Nat.le_of_ble_eq_true rfl) (Nat.le_of_ble_eq_true rfl) hl.1 (Nat.le_of_ble_eq_true rfl) dX1_discard_60 (Nat.le_of_ble_eq_true rfl) (Nat.le_of_ble_eq_true rfl) hno hlk (Nat.le_of_ble_eq_true rfl) (Nat.le_of_ble_eq_true rfl) (fun c_12 H1 hM1 => hXP 3 (by first | (simp only [c_1, c_4, c_12, cdDiscard, Bool.true_and, Bool.and_true, Bool.false_and, Bool.and_false, reduceIte, Bool.false_eq_true]; done) | (simp [c_1, c_4, c_12, cdDiscard]; done) | grind | (simp_all; done)) (by decide) H1 hM1) (fun c_12 H locs hM hg hS => ?_)
    refine lv_aload_n hx hb dX1_discard_63 rfl (lv_at hl 0 rfl) ?_
    have hHG : hasG g (tn a1) (tn a2) = true := by have q := c_12; simp only [Bool.and_eq_true, decide_eq_true_eq, Bool.not_eq_true', decide_eq_false_iff_not] at q; exact q.2.2.2
    refine lv_iload_n hx hb dX1_discard_64 rfl (lv_at hl 1 rfl) ?_
    refine lv_iconst (v := nI 3) hx hb dX1_discard_65 zi_3 ?_
    refine lv_iload_n hx hb dX1_discard_66 rfl (lv_at hl 2 rfl) ?_
    refine kX_give S hKX hM hg hS (fun q h => hA q (Nat.le_trans hS.1 h)) (tn a1) 3 (tn a2) (by first | omega | assumption | grind) (by first | omega | assumption | grind) (by first | omega | assumption | grind) (by exact hasG_le hHG) (by exact fun j hj => Nat.le_trans (hb4 j hj) (by decide)) (by first | omega | assumption | grind) (Nat.le_of_ble_eq_true rfl) (Nat.le_of_ble_eq_true rfl) hl.1 (Nat.le_of_ble_eq_true rfl) dX1_discard_67 (Nat.le_of_ble_eq_true rfl) (Nat.le_of_ble_eq_true rfl) (fun H locs hM hg hS => ?_)
    refine lv_aload_n hx hb dX1_discard_70 rfl (lv_at hl 0 rfl) ?_
    refine gX_due S hK hM dX1_discard_71 ?_
    refine lv_iload_n hx hb dX1_discard_74 rfl (lv_at hl 1 rfl) ?_
    refine lv_iconst (v := nI 0) hx hb dX1_discard_75 zi_0 ?_
    refine sX_due S hK hM hS (tn a1) (by omega) 0 dX1_discard_76 (fun H locs hM hS => ?_)
    have hg : Sm (gs (giveX g (tn a1) 3 (tn a2) 5) 5 (tn a1) 0) := Sm_gs hg (by first | omega | exact Nat.lt_of_le_of_lt (Bool.toNat_le _) (by decide) | ((repeat' split) <;> omega))
    refine lv_aload_n hx hb dX1_discard_77 rfl (lv_at hl 0 rfl) ?_
    refine kX_lookAtDue S hKX hM hg hS (fun q h => hA q (Nat.le_trans hS.1 h))   (Nat.le_of_ble_eq_true rfl) (Nat.le_of_ble_eq_true rfl) hl.1 (Nat.le_of_ble_eq_true rfl) dX1_discard_78 (Nat.le_of_ble_eq_true rfl) (Nat.le_of_ble_eq_true rfl) (fun H locs hM hg hS => ?_)
    refine lv_aload_n hx hb dX1_discard_81 rfl (lv_at hl 0 rfl) ?_
    refine gX_phase S hK hM ((xDue (gs (giveX g (tn a1) 3 (tn a2) 5) 5 (tn a1) 0) 3)) (by first | rfl | simp [gs]) dX1_discard_82 ?_
    have hb_13 : (xDue (gs (giveX g (tn a1) 3 (tn a2) 5) 5 (tn a1) 0) 3) < 1048576 := by first | exact hg 7 1 | exact hg0 _ _ | (have := hg 7 1; omega) | omega
    exact vx_ret (zc_nret (nI (xDue (gs (giveX g (tn a1) 3 (tn a2) 5) 5 (tn a1) 0) 3)) (congrArg nI (show ((xDue (gs (giveX g (tn a1) 3 (tn a2) 5) 5 (tn a1) 0) 3) : Nat) = (xDue (gs (giveX g (tn a1) 3 (tn a2) 5) 5 (tn a1) 0) 3) from by first | with_reducible rfl | (simp [c_1, c_4, c_12, cdDiscard]; done) | (simp only [c_1, c_4, c_12] <;> simp [cdDiscard]; done) | (simp only [cdDiscard, c_1, c_4, c_12] <;> simp [cdDiscard]; done) | (simp [c_1, c_4, c_12, cdDiscard, Bool.and_assoc]; done) | (simp [c_1, c_4, c_12, cdDiscard, Bool.and_assoc, Bool.or_assoc]; done) | rfl | (simp [c_1, c_4, c_12, cdDiscard]; omega) | (simp_all [cdDiscard]; done))) (hPost (by first | rfl | (simp only [c_1, c_4, c_12, cdDiscard, Bool.true_and, Bool.and_true, reduceIte]; done) | (simp [c_1, c_4, c_12, cdDiscard]; done) | grind | (simp_all; done)) H hM hg) hS hx hb hr hlk (Nat.le_of_ble_eq_true rfl) (Nat.le_of_ble_eq_true rfl) dX1_discard_85)
  refine zr_icmp_neN (a := (g 7 1)) (b := 3) (tgt := 59) hx hb (by omega) (by omega) dX1_discard_21 (by decide) (fun c_14 => ?_) (fun c_14 => ?_)
  · refine lv_iconst (v := nI 0) hx hb dX1_discard_59 zi_0 ?_
    exact J_60 _ (congrArg (fun z : Bool => nI z.toNat) (show (false : Bool) = (decide ((g 7 1) = 3) && (decide (0 < (g 5 (tn a1))) && (decide ((sizeN (tn a2) 5) = (g 5 (tn a1))) && ((hasG g (tn a1) (tn a2)))))) from by first | with_reducible rfl | (simp [c_1, c_4, c_14, cdDiscard]; done) | (simp only [c_1, c_4, c_14] <;> simp [cdDiscard]; done) | (simp only [cdDiscard, c_1, c_4, c_14] <;> simp [cdDiscard]; done) | (simp [c_1, c_4, c_14, cdDiscard, Bool.and_assoc]; done) | (simp [c_1, c_4, c_14, cdDiscard, Bool.and_assoc, Bool.or_assoc]; done) | rfl | (simp [c_1, c_4, c_14, cdDiscard]; omega) | (simp_all [cdDiscard]; done))) H locs hM hS ls (lv_sub hl [0, 1, 2] rfl)
  · refine lv_aload_n hx hb dX1_discard_24 rfl (lv_at hl 0 rfl) ?_
    refine gX_due S hK hM dX1_discard_25 ?_
    refine lv_iload_n hx hb dX1_discard_28 rfl (lv_at hl 1 rfl) ?_
    refine lX_due S hK hM (tn a1) (by omega) (g 5 (tn a1)) rfl dX1_discard_29 ?_
    have hb_15 : g 5 (tn a1) < 1048576 := by first | exact hg 5 (tn a1) | exact hg0 _ _ | (have := hg 5 (tn a1); omega) | omega
    refine zr_if_leN (a := (g 5 (tn a1))) (tgt := 59) hx hb (by omega) dX1_discard_30 (by decide) (fun c_16 => ?_) (fun c_16 => ?_)
    · refine lv_iconst (v := nI 0) hx hb dX1_discard_59 zi_0 ?_
      exact J_60 _ (congrArg (fun z : Bool => nI z.toNat) (show (false : Bool) = (decide ((g 7 1) = 3) && (decide (0 < (g 5 (tn a1))) && (decide ((sizeN (tn a2) 5) = (g 5 (tn a1))) && ((hasG g (tn a1) (tn a2)))))) from by first | with_reducible rfl | (simp [c_1, c_4, c_14, c_16, cdDiscard]; done) | (simp only [c_1, c_4, c_14, c_16] <;> simp [cdDiscard]; done) | (simp only [cdDiscard, c_1, c_4, c_14, c_16] <;> simp [cdDiscard]; done) | (simp [c_1, c_4, c_14, c_16, cdDiscard, Bool.and_assoc]; done) | (simp [c_1, c_4, c_14, c_16, cdDiscard, Bool.and_assoc, Bool.or_assoc]; done) | rfl | (simp [c_1, c_4, c_14, c_16, cdDiscard]; omega) | (simp_all [cdDiscard]; done))) H locs hM hS ls (lv_sub hl [0, 1, 2] rfl)
    · refine lv_iload_n hx hb dX1_discard_33 rfl (lv_at hl 2 rfl) ?_
      refine kX_count S hKX hM hg hS (tn a2) (by first | omega | assumption | grind) (Nat.le_of_ble_eq_true rfl) (Nat.le_of_ble_eq_true rfl) hl.1 (Nat.le_of_ble_eq_true rfl) dX1_discard_34 (Nat.le_of_ble_eq_true rfl) (Nat.le_of_ble_eq_true rfl) (fun locs hS => ?_)
      have f34_0 : sizeN (tn a2) 5 < 50 := sizeN_lt _
      refine lv_aload_n hx hb dX1_discard_37 rfl (lv_at hl 0 rfl) ?_
      refine gX_due S hK hM dX1_discard_38 ?_
      refine lv_iload_n hx hb dX1_discard_41 rfl (lv_at hl 1 rfl) ?_
      refine lX_due S hK hM (tn a1) (by omega) (g 5 (tn a1)) rfl dX1_discard_42 ?_
      have hb_17 : g 5 (tn a1) < 1048576 := by first | exact hg 5 (tn a1) | exact hg0 _ _ | (have := hg 5 (tn a1); omega) | omega
      refine zr_icmp_neN (a := (sizeN (tn a2) 5)) (b := (g 5 (tn a1))) (tgt := 59) hx hb (by omega) (by omega) dX1_discard_43 (by decide) (fun c_18 => ?_) (fun c_18 => ?_)
      · refine lv_iconst (v := nI 0) hx hb dX1_discard_59 zi_0 ?_
        exact J_60 _ (congrArg (fun z : Bool => nI z.toNat) (show (false : Bool) = (decide ((g 7 1) = 3) && (decide (0 < (g 5 (tn a1))) && (decide ((sizeN (tn a2) 5) = (g 5 (tn a1))) && ((hasG g (tn a1) (tn a2)))))) from by first | with_reducible rfl | (simp [c_1, c_4, c_14, c_16, c_18, cdDiscard]; done) | (simp only [c_1, c_4, c_14, c_16, c_18] <;> simp [cdDiscard]; done) | (simp only [cdDiscard, c_1, c_4, c_14, c_16, c_18] <;> simp [cdDiscard]; done) | (simp [c_1, c_4, c_14, c_16, c_18, cdDiscard, Bool.and_assoc]; done) | (simp [c_1, c_4, c_14, c_16, c_18, cdDiscard, Bool.and_assoc, Bool.or_assoc]; done) | rfl | (simp [c_1, c_4, c_14, c_16, c_18, cdDiscard]; omega) | (simp_all [cdDiscard]; done))) H locs hM hS ls (lv_sub hl [0, 1, 2] rfl)
      · refine lv_aload_n hx hb dX1_discard_46 rfl (lv_at hl 0 rfl) ?_
        refine lv_iload_n hx hb dX1_discard_47 rfl (lv_at hl 1 rfl) ?_
        refine lv_iload_n hx hb dX1_discard_48 rfl (lv_at hl 2 rfl) ?_
        refine kX_hasGoods S hKX hM hg hS (tn a1) (tn a2) (by first | omega | assumption | grind) (by first | omega | assumption | grind) (Nat.le_of_ble_eq_true rfl) (Nat.le_of_ble_eq_true rfl) hl.1 (Nat.le_of_ble_eq_true rfl) dX1_discard_49 (Nat.le_of_ble_eq_true rfl) (Nat.le_of_ble_eq_true rfl) (fun locs hS => ?_)
        refine zr_if_eqB (b := hasG g (tn a1) (tn a2)) (tgt := 59) hx hb dX1_discard_52 (by decide) (fun c_19 => ?_) (fun c_19 => ?_)
        · refine lv_iconst (v := nI 0) hx hb dX1_discard_59 zi_0 ?_
          exact J_60 _ (congrArg (fun z : Bool => nI z.toNat) (show (false : Bool) = (decide ((g 7 1) = 3) && (decide (0 < (g 5 (tn a1))) && (decide ((sizeN (tn a2) 5) = (g 5 (tn a1))) && ((hasG g (tn a1) (tn a2)))))) from by first | with_reducible rfl | (simp [c_1, c_4, c_14, c_16, c_18, c_19, cdDiscard]; done) | (simp only [c_1, c_4, c_14, c_16, c_18, c_19] <;> simp [cdDiscard]; done) | (simp only [cdDiscard, c_1, c_4, c_14, c_16, c_18, c_19] <;> simp [cdDiscard]; done) | (simp [c_1, c_4, c_14, c_16, c_18, c_19, cdDiscard, Bool.and_assoc]; done) | (simp [c_1, c_4, c_14, c_16, c_18, c_19, cdDiscard, Bool.and_assoc, Bool.or_assoc]; done) | rfl | (simp [c_1, c_4, c_14, c_16, c_18, c_19, cdDiscard]; omega) | (simp_all [cdDiscard]; done))) H locs hM hS ls (lv_sub hl [0, 1, 2] rfl)
        · refine lv_iconst (v := nI 1) hx hb dX1_discard_55 zi_1 ?_
          refine lv_goto (tgt := 60) hx hb dX1_discard_56 (by decide) ?_
          exact J_60 _ (congrArg (fun z : Bool => nI z.toNat) (show (true : Bool) = (decide ((g 7 1) = 3) && (decide (0 < (g 5 (tn a1))) && (decide ((sizeN (tn a2) 5) = (g 5 (tn a1))) && ((hasG g (tn a1) (tn a2)))))) from by first | with_reducible rfl | (simp [c_1, c_4, c_14, c_16, c_18, c_19, cdDiscard]; done) | (simp only [c_1, c_4, c_14, c_16, c_18, c_19] <;> simp [cdDiscard]; done) | (simp only [cdDiscard, c_1, c_4, c_14, c_16, c_18, c_19] <;> simp [cdDiscard]; done) | (simp [c_1, c_4, c_14, c_16, c_18, c_19, cdDiscard, Bool.and_assoc]; done) | (simp [c_1, c_4, c_14, c_16, c_18, c_19, cdDiscard, Bool.and_assoc, Bool.or_assoc]; done) | rfl | (simp [c_1, c_4, c_14, c_16, c_18, c_19, cdDiscard]; omega) | (simp_all [cdDiscard]; done))) H locs hM hS ls (lv_sub hl [0, 1, 2] rfl)
def cdOffer (g : G) (a1 : Int32) (a2 : Int32) : Nat := (if (someB a1 && someB a2) = true then (if (decide (g 7 1 = 2) && hasG g (g 7 4) (tn a1)) = true then 0 else 3) else 2)
set_option maxHeartbeats 1000000 in
set_option maxRecDepth 100000 in
theorem cX_offer (l : Launch) (hfl : l.stackTraces = false) {D : va_G} {dA : Nat → ClassId} {cn : Nat → Nat} {A : Nat → Prop} {pa : NM → Nat} {g : G} {T : va_W} (hg : Sm g) (a1 : Int32) (a2 : Int32) (ht : g 7 4 < 3) (H0 : Heap) (hM : XS D dA cn A pa g T H0) (hA : ∀ q, H0.size ≤ q → A q) {Post : Option Value → Heap → Prop} {XPost : String → Heap → Prop} (hPost : (cdOffer g a1 a2) = 0 → ∀ (pa1 : NM → Nat), pa1 (0, 0) = pa (0, 0) → ∀ H : Heap, XS D dA cn A pa1 (gs (gs (eoN g 3) 26 0 (tn a1)) 26 1 (tn a2)) T H → Sm (gs (gs (eoN g 3) 26 0 (tn a1)) 26 1 (tn a2)) → Post (none) H) (hXP : ∀ n : Nat, (cdOffer g a1 a2) = n → n ≠ 0 → ∀ H : Heap, XS D dA cn A pa g T H → XPost (exS n) H) : vCt l yX1_offer (ws_ yX1_offer cX1_offer 3 none) (rmF 8 6 28 147) A (KX D dA cn A) [.ref (pa (0, 0)), .int a1, .int a2] H0 Post XPost := by
  refine vc_of RX1 rfl (by decide) (Nat.le_of_ble_eq_true rfl) ?_
  intro pr en s m args below meth cd S hr hlk hnm hno hh hKX ls hl
  have hS : va_S A s.heap H0 [] := zc_start hh
  have hA : ∀ q, s.heap.size ≤ q → A q := fun q h => hA q (by rw [← hh]; exact h)
  have hg0 := hg
  have hx := S.1
  have hb := S.2.1
  have hown := S.2.2.2.1
  have hts := S.2.2.2.2
  have hK := hKX.1
  have hN := hKX.2.1.1
  have hl : lv_has ls 3 [(0, .ref (pa (0, 0))), (1, .int a1), (2, .int a2)] := hl
  refine lv_iconst (v := nI 1) hx hb dX1_offer_0 zi_1 ?_
  refine lv_iconst (v := nI 2) hx hb dX1_offer_1 zi_2 ?_
  refine xT_new S hK hM hS hA 2 (by omega) (Nat.le_of_ble_eq_true rfl) (Nat.le_of_ble_eq_true rfl) dX1_offer_2 (fun q_1 H locs hM hS => ?_)
  refine lv_dup hx hb dX1_offer_4 rfl ?_
  refine lv_iconst (v := nI 0) hx hb dX1_offer_5 zi_0 ?_
  refine lv_iload_n hx hb dX1_offer_6 rfl (lv_at hl 1 rfl) ?_
  refine xT_st S hK hM hS 0 (by omega) (by omega) a1 dX1_offer_7 (fun H locs hM hS => ?_)
  refine lv_dup hx hb dX1_offer_8 rfl ?_
  refine lv_iconst (v := nI 1) hx hb dX1_offer_9 zi_1 ?_
  refine lv_iload_n hx hb dX1_offer_10 rfl (lv_at hl 2 rfl) ?_
  refine xT_st S hK hM hS 1 (by omega) (by omega) a2 dX1_offer_11 (fun H locs hM hS => ?_)
  refine kX_checkGoods hfl S hKX hM hg hS (fun q h => hA q (Nat.le_trans hS.1 h)) 1 q_1 2 (upd (upd (fun _ => 0) 0 a1) 1 a2) (by decide) (by decide) tA_last (Nat.le_of_ble_eq_true rfl) (Nat.le_of_ble_eq_true rfl) hl.1 (Nat.le_of_ble_eq_true rfl) dX1_offer_12 (Nat.le_of_ble_eq_true rfl) (Nat.le_of_ble_eq_true rfl) hno hlk (Nat.le_of_ble_eq_true rfl) (Nat.le_of_ble_eq_true rfl) (fun c_2 H1 hM1 => hXP 2 (by first | (simp only [(show ¬ (someB a1 && someB a2) = true from fun q => c_2 ((cg_2 _ _).trans q)), cdOffer, Bool.true_and, Bool.and_true, Bool.false_and, Bool.and_false, reduceIte, Bool.false_eq_true]; done) | (simp [(show ¬ (someB a1 && someB a2) = true from fun q => c_2 ((cg_2 _ _).trans q)), cdOffer]; done) | grind | (simp_all; done)) (by decide) H1 hM1.drop) (fun c_2 H locs hM hg hS => ?_)
  have c_3 : (someB a1 && someB a2) = true := (cg_2 _ _).symm.trans c_2
  have hM := hM.drop
  have hc_4 := c_3
  simp only [Bool.and_eq_true] at hc_4
  obtain ⟨q_5, q_6⟩ := hc_4
  obtain ⟨lj1, hj1, ea1⟩ := someB_tn q_5
  rw [ea1] at hl
  obtain ⟨lj2, hj2, ea2⟩ := someB_tn q_6
  rw [ea2] at hl
  refine lv_aload_n hx hb dX1_offer_15 rfl (lv_at hl 0 rfl) ?_
  refine gX_phase S hK hM (g 7 1) rfl dX1_offer_16 ?_
  have hb_7 : g 7 1 < 1048576 := by first | exact hg 7 1 | exact hg0 _ _ | (have := hg 7 1; omega) | omega
  refine lv_iconst (v := nI 2) hx hb dX1_offer_19 zi_2 ?_
  have J_40 : ∀ yS0_40 : Int32, yS0_40 = nI (decide ((g 7 1) = 2) && ((hasG g (g 7 4) (tn a1)))).toNat → ∀ (H : Heap) (locs : List Loc), XS D dA cn A pa g T H → va_S A s.heap H locs → ∀ ls : Array Slot, lv_has ls 3 [(0, .ref (pa (0, 0))), (1, .int (nI (tn a1))), (2, .int (nI (tn a2)))] → W pr l en (rmF 8 6 28 147) s m args below meth cd H locs (4) (20) (vx_MQ below (zc_Q Post A) (vc_X XPost A) args s 6 28 A) (F0 m 40 ls [.int yS0_40]) := by
    intro yS0_40 eyS0_40 H locs hM hS ls hl
    subst eyS0_40
    refine kX_checkState hfl S hKX hM hg hS (fun q h => hA q (Nat.le_trans hS.1 h)) (decide ((g 7 1) = 2) && ((hasG g (g 7 4) (tn a1))))  (Nat.le_of_ble_eq_true rfl) (Nat.le_of_ble_eq_true rfl) hl.1 (Nat.le_of_ble_eq_true rfl) dX1_offer_40 (Nat.le_of_ble_eq_true rfl) (Nat.le_of_ble_eq_true rfl) hno hlk (Nat.le_of_ble_eq_true rfl) (Nat.le_of_ble_eq_true rfl) (fun c_11 H1 hM1 => hXP 3 (by first | (simp only [c_3, q_5, q_6, c_11, cdOffer, Bool.true_and, Bool.and_true, Bool.false_and, Bool.and_false, reduceIte, Bool.false_eq_true]; done) | (simp [c_3, q_5, q_6, c_11, cdOffer]; done) | grind | (simp_all; done)) (by decide) H1 hM1) (fun c_11 H locs hM hg hS => ?_)
    refine lv_aload_n hx hb dX1_offer_43 rfl (lv_at hl 0 rfl) ?_
    refine kX_forgetOffers S hKX hM hg hS (fun q h => hA q (Nat.le_trans hS.1 h))   (Nat.le_of_ble_eq_true rfl) (Nat.le_of_ble_eq_true rfl) hl.1 (Nat.le_of_ble_eq_true rfl) dX1_offer_44 (Nat.le_of_ble_eq_true rfl) (Nat.le_of_ble_eq_true rfl) (fun H locs hM hg hS => ?_)
    refine lv_aload_n hx hb dX1_offer_47 rfl (lv_at hl 0 rfl) ?_
    refine nw_X9 S hK hM hS hA (Nat.le_of_ble_eq_true rfl) (Nat.le_of_ble_eq_true rfl) dX1_offer_48 (fun q_12 H hM hS => ?_)
    refine lv_dup hx hb dX1_offer_51 rfl ?_
    refine lv_iload_n hx hb dX1_offer_52 rfl (lv_at hl 1 rfl) ?_
    refine lv_iload_n hx hb dX1_offer_53 rfl (lv_at hl 2 rfl) ?_
    refine kN_X9 S hKX hM hS (Nat.le_of_ble_eq_true rfl) (Nat.le_of_ble_eq_true rfl) hl.1 (Nat.le_of_ble_eq_true rfl) (Nat.le_of_ble_eq_true rfl) (Nat.le_of_ble_eq_true rfl) dX1_offer_54 (fun H locs hM hS => ?_)
    refine pX_offerS S hKX (tn a1) (tn a2) (by omega) hM hS dX1_offer_57 (fun H locs hM hS => ?_)
    obtain ⟨pa1, hpa1⟩ : ∃ p : NM → Nat, p = upA pa (19, 0) q_12 := ⟨_, rfl⟩
    rw [← hpa1] at hM
    have hp0_1 : pa1 (0, 0) = pa (0, 0) := by rw [hpa1]; rfl
    rw [← hp0_1] at hl
    have hg : Sm (gs (eoN g 3) 26 0 (tn a1)) := Sm_gs hg (by first | omega | exact Nat.lt_of_le_of_lt (Bool.toNat_le _) (by decide) | ((repeat' split) <;> omega))
    have hg : Sm (gs (gs (eoN g 3) 26 0 (tn a1)) 26 1 (tn a2)) := Sm_gs hg (by first | omega | exact Nat.lt_of_le_of_lt (Bool.toNat_le _) (by decide) | ((repeat' split) <;> omega))
    exact vx_ret (zc_vret (hPost (by first | rfl | (simp only [c_3, q_5, q_6, c_11, cdOffer, Bool.true_and, Bool.and_true, reduceIte]; done) | (simp [c_3, q_5, q_6, c_11, cdOffer]; done) | grind | (simp_all; done)) pa1 hp0_1 H hM hg) hS hx hb hr hlk (Nat.le_of_ble_eq_true rfl) (Nat.le_of_ble_eq_true rfl) dX1_offer_60)
  refine zr_icmp_neN (a := (g 7 1)) (b := 2) (tgt := 39) hx hb (by omega) (by omega) dX1_offer_20 (by decide) (fun c_13 => ?_) (fun c_13 => ?_)
  · refine lv_iconst (v := nI 0) hx hb dX1_offer_39 zi_0 ?_
    exact J_40 _ (congrArg (fun z : Bool => nI z.toNat) (show (false : Bool) = (decide ((g 7 1) = 2) && ((hasG g (g 7 4) (tn a1)))) from by first | with_reducible rfl | (simp [c_3, q_5, q_6, c_13, cdOffer]; done) | (simp only [c_3, q_5, q_6, c_13] <;> simp [cdOffer]; done) | (simp only [cdOffer, c_3, q_5, q_6, c_13] <;> simp [cdOffer]; done) | (simp [c_3, q_5, q_6, c_13, cdOffer, Bool.and_assoc]; done) | (simp [c_3, q_5, q_6, c_13, cdOffer, Bool.and_assoc, Bool.or_assoc]; done) | rfl | (simp [c_3, q_5, q_6, c_13, cdOffer]; omega) | (simp_all [cdOffer]; done))) H locs hM hS ls (lv_sub hl [0, 1, 2] rfl)
  · refine lv_aload_n hx hb dX1_offer_23 rfl (lv_at hl 0 rfl) ?_
    refine lv_aload_n hx hb dX1_offer_24 rfl (lv_at hl 0 rfl) ?_
    refine gX_turn S hK hM (g 7 4) rfl dX1_offer_25 ?_
    have hb_14 : g 7 4 < 1048576 := by first | exact hg 7 4 | exact hg0 _ _ | (have := hg 7 4; omega) | omega
    refine lv_iload_n hx hb dX1_offer_28 rfl (lv_at hl 1 rfl) ?_
    refine kX_hasGoods S hKX hM hg hS (g 7 4) (tn a1) (by first | omega | assumption | grind) (by first | omega | assumption | grind) (Nat.le_of_ble_eq_true rfl) (Nat.le_of_ble_eq_true rfl) hl.1 (Nat.le_of_ble_eq_true rfl) dX1_offer_29 (Nat.le_of_ble_eq_true rfl) (Nat.le_of_ble_eq_true rfl) (fun locs hS => ?_)
    refine zr_if_eqB (b := hasG g (g 7 4) (tn a1)) (tgt := 39) hx hb dX1_offer_32 (by decide) (fun c_15 => ?_) (fun c_15 => ?_)
    · refine lv_iconst (v := nI 0) hx hb dX1_offer_39 zi_0 ?_
      exact J_40 _ (congrArg (fun z : Bool => nI z.toNat) (show (false : Bool) = (decide ((g 7 1) = 2) && ((hasG g (g 7 4) (tn a1)))) from by first | with_reducible rfl | (simp [c_3, q_5, q_6, c_13, c_15, cdOffer]; done) | (simp only [c_3, q_5, q_6, c_13, c_15] <;> simp [cdOffer]; done) | (simp only [cdOffer, c_3, q_5, q_6, c_13, c_15] <;> simp [cdOffer]; done) | (simp [c_3, q_5, q_6, c_13, c_15, cdOffer, Bool.and_assoc]; done) | (simp [c_3, q_5, q_6, c_13, c_15, cdOffer, Bool.and_assoc, Bool.or_assoc]; done) | rfl | (simp [c_3, q_5, q_6, c_13, c_15, cdOffer]; omega) | (simp_all [cdOffer]; done))) H locs hM hS ls (lv_sub hl [0, 1, 2] rfl)
    · refine lv_iconst (v := nI 1) hx hb dX1_offer_35 zi_1 ?_
      refine lv_goto (tgt := 40) hx hb dX1_offer_36 (by decide) ?_
      exact J_40 _ (congrArg (fun z : Bool => nI z.toNat) (show (true : Bool) = (decide ((g 7 1) = 2) && ((hasG g (g 7 4) (tn a1)))) from by first | with_reducible rfl | (simp [c_3, q_5, q_6, c_13, c_15, cdOffer]; done) | (simp only [c_3, q_5, q_6, c_13, c_15] <;> simp [cdOffer]; done) | (simp only [cdOffer, c_3, q_5, q_6, c_13, c_15] <;> simp [cdOffer]; done) | (simp [c_3, q_5, q_6, c_13, c_15, cdOffer, Bool.and_assoc]; done) | (simp [c_3, q_5, q_6, c_13, c_15, cdOffer, Bool.and_assoc, Bool.or_assoc]; done) | rfl | (simp [c_3, q_5, q_6, c_13, c_15, cdOffer]; omega) | (simp_all [cdOffer]; done))) H locs hM hS ls (lv_sub hl [0, 1, 2] rfl)
def cdCounter (g : G) (a1 : Int32) (a2 : Int32) (a3 : Int32) : Nat := (if (inB a1 3) = true then (if (someB a2 && someB a3) = true then (if (decide (g 7 1 = 2) && (decide (g 26 0 ≠ 0) && (!decide (tn a1 = g 7 4) && hasG g (tn a1) (tn a2)))) = true then 0 else 3) else 2) else 1)
set_option maxHeartbeats 1000000 in
set_option maxRecDepth 100000 in
theorem cX_counter (l : Launch) (hfl : l.stackTraces = false) {D : va_G} {dA : Nat → ClassId} {cn : Nat → Nat} {A : Nat → Prop} {pa : NM → Nat} {g : G} {T : va_W} (hg : Sm g) (a1 : Int32) (a2 : Int32) (a3 : Int32) (ht : g 7 4 < 3) (H0 : Heap) (hM : XS D dA cn A pa g T H0) (hA : ∀ q, H0.size ≤ q → A q) {Post : Option Value → Heap → Prop} {XPost : String → Heap → Prop} (hPost : (cdCounter g a1 a2 a3) = 0 → ∀ (pa1 : NM → Nat), pa1 (0, 0) = pa (0, 0) → ∀ H : Heap, XS D dA cn A pa1 (gs (gs g 16 (tn a1) (tn a2)) 17 (tn a1) (tn a3)) T H → Sm (gs (gs g 16 (tn a1) (tn a2)) 17 (tn a1) (tn a3)) → Post (none) H) (hXP : ∀ n : Nat, (cdCounter g a1 a2 a3) = n → n ≠ 0 → ∀ H : Heap, XS D dA cn A pa g T H → XPost (exS n) H) : vCt l yX1_counter (ws_ yX1_counter cX1_counter 4 none) (rmF 8 7 34 147) A (KX D dA cn A) [.ref (pa (0, 0)), .int a1, .int a2, .int a3] H0 Post XPost := by
  refine vc_of RX1 rfl (by decide) (Nat.le_of_ble_eq_true rfl) ?_
  intro pr en s m args below meth cd S hr hlk hnm hno hh hKX ls hl
  have hS : va_S A s.heap H0 [] := zc_start hh
  have hA : ∀ q, s.heap.size ≤ q → A q := fun q h => hA q (by rw [← hh]; exact h)
  have hg0 := hg
  have hx := S.1
  have hb := S.2.1
  have hown := S.2.2.2.1
  have hts := S.2.2.2.2
  have hK := hKX.1
  have hN := hKX.2.1.1
  have hl : lv_has ls 4 [(0, .ref (pa (0, 0))), (1, .int a1), (2, .int a2), (3, .int a3)] := hl
  refine lv_iload_n hx hb dX1_counter_0 rfl (lv_at hl 1 rfl) ?_
  refine lv_iconst (v := nI 3) hx hb dX1_counter_1 zi_3 ?_
  refine kX_check hfl S hKX hM hg hS (fun q h => hA q (Nat.le_trans hS.1 h)) a1 3 (by first | omega | assumption | grind) (Nat.le_of_ble_eq_true rfl) (Nat.le_of_ble_eq_true rfl) hl.1 (Nat.le_of_ble_eq_true rfl) dX1_counter_2 (Nat.le_of_ble_eq_true rfl) (Nat.le_of_ble_eq_true rfl) hno hlk (Nat.le_of_ble_eq_true rfl) (Nat.le_of_ble_eq_true rfl) (fun c_1 H1 hM1 => hXP 1 (by first | (simp only [c_1, cdCounter, Bool.true_and, Bool.and_true, Bool.false_and, Bool.and_false, reduceIte, Bool.false_eq_true]; done) | (simp [c_1, cdCounter]; done) | grind | (simp_all; done)) (by decide) H1 hM1) (fun c_1 H locs hM hg hS => ?_)
  obtain ⟨hj1, ea1⟩ := inB_tn (by decide) c_1
  rw [ea1] at hl
  refine lv_iconst (v := nI 1) hx hb dX1_counter_5 zi_1 ?_
  refine lv_iconst (v := nI 2) hx hb dX1_counter_6 zi_2 ?_
  refine xT_new S hK hM hS hA 2 (by omega) (Nat.le_of_ble_eq_true rfl) (Nat.le_of_ble_eq_true rfl) dX1_counter_7 (fun q_2 H locs hM hS => ?_)
  refine lv_dup hx hb dX1_counter_9 rfl ?_
  refine lv_iconst (v := nI 0) hx hb dX1_counter_10 zi_0 ?_
  refine lv_iload_n hx hb dX1_counter_11 rfl (lv_at hl 2 rfl) ?_
  refine xT_st S hK hM hS 0 (by omega) (by omega) a2 dX1_counter_12 (fun H locs hM hS => ?_)
  refine lv_dup hx hb dX1_counter_13 rfl ?_
  refine lv_iconst (v := nI 1) hx hb dX1_counter_14 zi_1 ?_
  refine lv_iload_n hx hb dX1_counter_15 rfl (lv_at hl 3 rfl) ?_
  refine xT_st S hK hM hS 1 (by omega) (by omega) a3 dX1_counter_16 (fun H locs hM hS => ?_)
  refine kX_checkGoods hfl S hKX hM hg hS (fun q h => hA q (Nat.le_trans hS.1 h)) 1 q_2 2 (upd (upd (fun _ => 0) 0 a2) 1 a3) (by decide) (by decide) tA_last (Nat.le_of_ble_eq_true rfl) (Nat.le_of_ble_eq_true rfl) hl.1 (Nat.le_of_ble_eq_true rfl) dX1_counter_17 (Nat.le_of_ble_eq_true rfl) (Nat.le_of_ble_eq_true rfl) hno hlk (Nat.le_of_ble_eq_true rfl) (Nat.le_of_ble_eq_true rfl) (fun c_3 H1 hM1 => hXP 2 (by first | (simp only [c_1, (show ¬ (someB a2 && someB a3) = true from fun q => c_3 ((cg_2 _ _).trans q)), cdCounter, Bool.true_and, Bool.and_true, Bool.false_and, Bool.and_false, reduceIte, Bool.false_eq_true]; done) | (simp [c_1, (show ¬ (someB a2 && someB a3) = true from fun q => c_3 ((cg_2 _ _).trans q)), cdCounter]; done) | grind | (simp_all; done)) (by decide) H1 hM1.drop) (fun c_3 H locs hM hg hS => ?_)
  have c_4 : (someB a2 && someB a3) = true := (cg_2 _ _).symm.trans c_3
  have hM := hM.drop
  have hc_5 := c_4
  simp only [Bool.and_eq_true] at hc_5
  obtain ⟨q_6, q_7⟩ := hc_5
  obtain ⟨lj2, hj2, ea2⟩ := someB_tn q_6
  rw [ea2] at hl
  obtain ⟨lj3, hj3, ea3⟩ := someB_tn q_7
  rw [ea3] at hl
  refine lv_aload_n hx hb dX1_counter_20 rfl (lv_at hl 0 rfl) ?_
  refine gX_phase S hK hM (g 7 1) rfl dX1_counter_21 ?_
  have hb_8 : g 7 1 < 1048576 := by first | exact hg 7 1 | exact hg0 _ _ | (have := hg 7 1; omega) | omega
  refine lv_iconst (v := nI 2) hx hb dX1_counter_24 zi_2 ?_
  have J_57 : ∀ yS0_57 : Int32, yS0_57 = nI (decide ((g 7 1) = 2) && ((decide (g 26 0 ≠ 0)) && (!decide ((tn a1) = (g 7 4)) && ((hasG g (tn a1) (tn a2)))))).toNat → ∀ (H : Heap) (locs : List Loc), XS D dA cn A pa g T H → va_S A s.heap H locs → ∀ ls : Array Slot, lv_has ls 4 [(0, .ref (pa (0, 0))), (1, .int (nI (tn a1))), (2, .int (nI (tn a2))), (3, .int (nI (tn a3)))] → W pr l en (rmF 8 7 34 147) s m args below meth cd H locs (5) (26) (vx_MQ below (zc_Q Post A) (vc_X XPost A) args s 7 34 A) (F0 m 57 ls [.int yS0_57]) := by
    intro yS0_57 eyS0_57 H locs hM hS ls hl
    subst eyS0_57
    refine kX_checkState hfl S hKX hM hg hS (fun q h => hA q (Nat.le_trans hS.1 h)) (decide ((g 7 1) = 2) && ((decide (g 26 0 ≠ 0)) && (!decide ((tn a1) = (g 7 4)) && ((hasG g (tn a1) (tn a2))))))  (Nat.le_of_ble_eq_true rfl) (Nat.le_of_ble_eq_true rfl) hl.1 (Nat.le_of_ble_eq_true rfl) dX1_counter_57 (Nat.le_of_ble_eq_true rfl) (Nat.le_of_ble_eq_true rfl) hno hlk (Nat.le_of_ble_eq_true rfl) (Nat.le_of_ble_eq_true rfl) (fun c_14 H1 hM1 => hXP 3 (by first | (simp only [c_1, c_4, q_6, q_7, c_14, cdCounter, Bool.true_and, Bool.and_true, Bool.false_and, Bool.and_false, reduceIte, Bool.false_eq_true]; done) | (simp [c_1, c_4, q_6, q_7, c_14, cdCounter]; done) | grind | (simp_all; done)) (by decide) H1 hM1) (fun c_14 H locs hM hg hS => ?_)
    refine lv_aload_n hx hb dX1_counter_60 rfl (lv_at hl 0 rfl) ?_
    refine gX_counters S hK hM dX1_counter_61 ?_
    refine lv_iload_n hx hb dX1_counter_64 rfl (lv_at hl 1 rfl) ?_
    refine nw_X9 S hK hM hS hA (Nat.le_of_ble_eq_true rfl) (Nat.le_of_ble_eq_true rfl) dX1_counter_65 (fun q_15 H hM hS => ?_)
    refine lv_dup hx hb dX1_counter_68 rfl ?_
    refine lv_iload_n hx hb dX1_counter_69 rfl (lv_at hl 2 rfl) ?_
    refine lv_iload_n hx hb dX1_counter_70 rfl (lv_at hl 3 rfl) ?_
    refine kN_X9 S hKX hM hS (Nat.le_of_ble_eq_true rfl) (Nat.le_of_ble_eq_true rfl) hl.1 (Nat.le_of_ble_eq_true rfl) (Nat.le_of_ble_eq_true rfl) (Nat.le_of_ble_eq_true rfl) dX1_counter_71 (fun H locs hM hS => ?_)
    refine sX_ctrS S hKX (tn a1) (by omega) (tn a2) (tn a3) (by omega) hM hS dX1_counter_74 (fun H locs hM hS => ?_)
    obtain ⟨pa1, hpa1⟩ : ∃ p : NM → Nat, p = upA pa (18, tn a1) q_15 := ⟨_, rfl⟩
    rw [← hpa1] at hM
    have hp0_1 : pa1 (0, 0) = pa (0, 0) := by rw [hpa1]; rfl
    rw [← hp0_1] at hl
    have hg : Sm (gs g 16 (tn a1) (tn a2)) := Sm_gs hg (by first | omega | exact Nat.lt_of_le_of_lt (Bool.toNat_le _) (by decide) | ((repeat' split) <;> omega))
    have hg : Sm (gs (gs g 16 (tn a1) (tn a2)) 17 (tn a1) (tn a3)) := Sm_gs hg (by first | omega | exact Nat.lt_of_le_of_lt (Bool.toNat_le _) (by decide) | ((repeat' split) <;> omega))
    exact vx_ret (zc_vret (hPost (by first | rfl | (simp only [c_1, c_4, q_6, q_7, c_14, cdCounter, Bool.true_and, Bool.and_true, reduceIte]; done) | (simp [c_1, c_4, q_6, q_7, c_14, cdCounter]; done) | grind | (simp_all; done)) pa1 hp0_1 H hM hg) hS hx hb hr hlk (Nat.le_of_ble_eq_true rfl) (Nat.le_of_ble_eq_true rfl) dX1_counter_75)
  refine zr_icmp_neN (a := (g 7 1)) (b := 2) (tgt := 56) hx hb (by omega) (by omega) dX1_counter_25 (by decide) (fun c_16 => ?_) (fun c_16 => ?_)
  · refine lv_iconst (v := nI 0) hx hb dX1_counter_56 zi_0 ?_
    exact J_57 _ (congrArg (fun z : Bool => nI z.toNat) (show (false : Bool) = (decide ((g 7 1) = 2) && ((decide (g 26 0 ≠ 0)) && (!decide ((tn a1) = (g 7 4)) && ((hasG g (tn a1) (tn a2)))))) from by first | with_reducible rfl | (simp [c_1, c_4, q_6, q_7, c_16, cdCounter]; done) | (simp only [c_1, c_4, q_6, q_7, c_16] <;> simp [cdCounter]; done) | (simp only [cdCounter, c_1, c_4, q_6, q_7, c_16] <;> simp [cdCounter]; done) | (simp [c_1, c_4, q_6, q_7, c_16, cdCounter, Bool.and_assoc]; done) | (simp [c_1, c_4, q_6, q_7, c_16, cdCounter, Bool.and_assoc, Bool.or_assoc]; done) | rfl | (simp [c_1, c_4, q_6, q_7, c_16, cdCounter]; omega) | (simp_all [cdCounter]; done))) H locs hM hS ls (lv_sub hl [0, 1, 2, 3] rfl)
  · refine lv_aload_n hx hb dX1_counter_28 rfl (lv_at hl 0 rfl) ?_
    refine gX_offer S hK hM dX1_counter_29 ?_
    refine zr_ifnullB (b := decide (g 26 0 ≠ 0)) (tgt := 56) hx hb dX1_counter_32 (by decide) (fun c_17 => ?_) (fun c_17 => ?_)
    · refine lv_iconst (v := nI 0) hx hb dX1_counter_56 zi_0 ?_
      exact J_57 _ (congrArg (fun z : Bool => nI z.toNat) (show (false : Bool) = (decide ((g 7 1) = 2) && ((decide (g 26 0 ≠ 0)) && (!decide ((tn a1) = (g 7 4)) && ((hasG g (tn a1) (tn a2)))))) from by first | with_reducible rfl | (simp [c_1, c_4, q_6, q_7, c_16, c_17, cdCounter]; done) | (simp only [c_1, c_4, q_6, q_7, c_16, c_17] <;> simp [cdCounter]; done) | (simp only [cdCounter, c_1, c_4, q_6, q_7, c_16, c_17] <;> simp [cdCounter]; done) | (simp [c_1, c_4, q_6, q_7, c_16, c_17, cdCounter, Bool.and_assoc]; done) | (simp [c_1, c_4, q_6, q_7, c_16, c_17, cdCounter, Bool.and_assoc, Bool.or_assoc]; done) | rfl | (simp [c_1, c_4, q_6, q_7, c_16, c_17, cdCounter]; omega) | (simp_all [cdCounter]; done))) H locs hM hS ls (lv_sub hl [0, 1, 2, 3] rfl)
    · refine lv_iload_n hx hb dX1_counter_35 rfl (lv_at hl 1 rfl) ?_
      refine lv_aload_n hx hb dX1_counter_36 rfl (lv_at hl 0 rfl) ?_
      refine gX_turn S hK hM (g 7 4) rfl dX1_counter_37 ?_
      have hb_18 : g 7 4 < 1048576 := by first | exact hg 7 4 | exact hg0 _ _ | (have := hg 7 4; omega) | omega
      refine zr_icmp_eqN (a := (tn a1)) (b := (g 7 4)) (tgt := 56) hx hb (by omega) (by omega) dX1_counter_40 (by decide) (fun c_19 => ?_) (fun c_19 => ?_)
      · refine lv_iconst (v := nI 0) hx hb dX1_counter_56 zi_0 ?_
        exact J_57 _ (congrArg (fun z : Bool => nI z.toNat) (show (false : Bool) = (decide ((g 7 1) = 2) && ((decide (g 26 0 ≠ 0)) && (!decide ((tn a1) = (g 7 4)) && ((hasG g (tn a1) (tn a2)))))) from by first | with_reducible rfl | (simp [c_1, c_4, q_6, q_7, c_16, c_17, c_19, cdCounter]; done) | (simp only [c_1, c_4, q_6, q_7, c_16, c_17, c_19] <;> simp [cdCounter]; done) | (simp only [cdCounter, c_1, c_4, q_6, q_7, c_16, c_17, c_19] <;> simp [cdCounter]; done) | (simp [c_1, c_4, q_6, q_7, c_16, c_17, c_19, cdCounter, Bool.and_assoc]; done) | (simp [c_1, c_4, q_6, q_7, c_16, c_17, c_19, cdCounter, Bool.and_assoc, Bool.or_assoc]; done) | rfl | (simp [c_1, c_4, q_6, q_7, c_16, c_17, c_19, cdCounter]; omega) | (simp_all [cdCounter]; done))) H locs hM hS ls (lv_sub hl [0, 1, 2, 3] rfl)
      · refine lv_aload_n hx hb dX1_counter_43 rfl (lv_at hl 0 rfl) ?_
        refine lv_iload_n hx hb dX1_counter_44 rfl (lv_at hl 1 rfl) ?_
        refine lv_iload_n hx hb dX1_counter_45 rfl (lv_at hl 2 rfl) ?_
        refine kX_hasGoods S hKX hM hg hS (tn a1) (tn a2) (by first | omega | assumption | grind) (by first | omega | assumption | grind) (Nat.le_of_ble_eq_true rfl) (Nat.le_of_ble_eq_true rfl) hl.1 (Nat.le_of_ble_eq_true rfl) dX1_counter_46 (Nat.le_of_ble_eq_true rfl) (Nat.le_of_ble_eq_true rfl) (fun locs hS => ?_)
        refine zr_if_eqB (b := hasG g (tn a1) (tn a2)) (tgt := 56) hx hb dX1_counter_49 (by decide) (fun c_20 => ?_) (fun c_20 => ?_)
        · refine lv_iconst (v := nI 0) hx hb dX1_counter_56 zi_0 ?_
          exact J_57 _ (congrArg (fun z : Bool => nI z.toNat) (show (false : Bool) = (decide ((g 7 1) = 2) && ((decide (g 26 0 ≠ 0)) && (!decide ((tn a1) = (g 7 4)) && ((hasG g (tn a1) (tn a2)))))) from by first | with_reducible rfl | (simp [c_1, c_4, q_6, q_7, c_16, c_17, c_19, c_20, cdCounter]; done) | (simp only [c_1, c_4, q_6, q_7, c_16, c_17, c_19, c_20] <;> simp [cdCounter]; done) | (simp only [cdCounter, c_1, c_4, q_6, q_7, c_16, c_17, c_19, c_20] <;> simp [cdCounter]; done) | (simp [c_1, c_4, q_6, q_7, c_16, c_17, c_19, c_20, cdCounter, Bool.and_assoc]; done) | (simp [c_1, c_4, q_6, q_7, c_16, c_17, c_19, c_20, cdCounter, Bool.and_assoc, Bool.or_assoc]; done) | rfl | (simp [c_1, c_4, q_6, q_7, c_16, c_17, c_19, c_20, cdCounter]; omega) | (simp_all [cdCounter]; done))) H locs hM hS ls (lv_sub hl [0, 1, 2, 3] rfl)
        · refine lv_iconst (v := nI 1) hx hb dX1_counter_52 zi_1 ?_
          refine lv_goto (tgt := 57) hx hb dX1_counter_53 (by decide) ?_
          exact J_57 _ (congrArg (fun z : Bool => nI z.toNat) (show (true : Bool) = (decide ((g 7 1) = 2) && ((decide (g 26 0 ≠ 0)) && (!decide ((tn a1) = (g 7 4)) && ((hasG g (tn a1) (tn a2)))))) from by first | with_reducible rfl | (simp [c_1, c_4, q_6, q_7, c_16, c_17, c_19, c_20, cdCounter]; done) | (simp only [c_1, c_4, q_6, q_7, c_16, c_17, c_19, c_20] <;> simp [cdCounter]; done) | (simp only [cdCounter, c_1, c_4, q_6, q_7, c_16, c_17, c_19, c_20] <;> simp [cdCounter]; done) | (simp [c_1, c_4, q_6, q_7, c_16, c_17, c_19, c_20, cdCounter, Bool.and_assoc]; done) | (simp [c_1, c_4, q_6, q_7, c_16, c_17, c_19, c_20, cdCounter, Bool.and_assoc, Bool.or_assoc]; done) | rfl | (simp [c_1, c_4, q_6, q_7, c_16, c_17, c_19, c_20, cdCounter]; omega) | (simp_all [cdCounter]; done))) H locs hM hS ls (lv_sub hl [0, 1, 2, 3] rfl)
set_option maxHeartbeats 1000000 in
set_option maxRecDepth 100000 in
theorem cX_changeO (l : Launch) (hfl : l.stackTraces = false) {D : va_G} {dA : Nat → ClassId} {cn : Nat → Nat} {A : Nat → Prop} {pa : NM → Nat} {g : G} {T : va_W} (hg : Sm g) (a1 : Nat) (a2 : Nat) (h1 : a1 < 3) (h2 : a2 < 3) (hne : a1 ≠ a2) (hkn : decide (g 26 0 ≠ 0) = true) (hb4 : ∀ j, j < 20 → g 4 j ≤ 100) (hv : g 8 1 ≤ 1880) (H0 : Heap) (hM : XS D dA cn A pa g T H0) (hA : ∀ q, H0.size ≤ q → A q) {Post : Option Value → Heap → Prop} {XPost : String → Heap → Prop} (hPost : (hasG g a1 (g 26 0) && hasG g a2 (g 26 1)) = true → ∀ H : Heap, XS D dA cn A pa (eoN (giveX (giveX g a1 a2 (g 26 0) 5) a2 a1 (g 26 1) 5) 3) T H → Sm (eoN (giveX (giveX g a1 a2 (g 26 0) 5) a2 a1 (g 26 1) 5) 3) → Post (none) H) (hXP : ¬ (hasG g a1 (g 26 0) && hasG g a2 (g 26 1)) = true → ∀ H : Heap, XS D dA cn A pa g T H → XPost (exS 3) H) : vCt l yX1_change (ws_ yX1_change cX1_change 4 none) (rmF 11 25 48054 548) A (KX D dA cn A) [.ref (pa (0, 0)), .int (nI a1), .int (nI a2), .ref (pa (19, 0))] H0 Post XPost := by
  refine vc_of RX1 rfl (by decide) (Nat.le_of_ble_eq_true rfl) ?_
  intro pr en s m args below meth cd S hr hlk hnm hno hh hKX ls hl
  have hS : va_S A s.heap H0 [] := zc_start hh
  have hA : ∀ q, s.heap.size ≤ q → A q := fun q h => hA q (by rw [← hh]; exact h)
  have hg0 := hg
  have hx := S.1
  have hb := S.2.1
  have hown := S.2.2.2.1
  have hts := S.2.2.2.2
  have hK := hKX.1
  have hN := hKX.2.1.1
  have hl : lv_has ls 4 [(0, .ref (pa (0, 0))), (1, .int (nI a1)), (2, .int (nI a2)), (3, .ref (pa (19, 0)))] := hl
  refine lv_aload_n hx hb dX1_change_0 rfl (lv_at hl 0 rfl) ?_
  refine lv_iload_n hx hb dX1_change_1 rfl (lv_at hl 1 rfl) ?_
  refine lv_aload_n hx hb dX1_change_2 rfl (lv_at hl 3 rfl) ?_
  refine gN_off_give S hK hM hN hkn (g 26 0) rfl dX1_change_3 ?_
  have hb_1 : g 26 0 < 1048576 := by first | exact hg 26 0 | exact hg0 _ _ | (have := hg 26 0; omega) | omega
  refine kX_hasGoods S hKX hM hg hS a1 (g 26 0) (by first | omega | assumption | grind) (by first | omega | assumption | grind) (Nat.le_of_ble_eq_true rfl) (Nat.le_of_ble_eq_true rfl) hl.1 (Nat.le_of_ble_eq_true rfl) dX1_change_6 (Nat.le_of_ble_eq_true rfl) (Nat.le_of_ble_eq_true rfl) (fun locs hS => ?_)
  have J_29 : ∀ yS0_29 : Int32, yS0_29 = nI ((hasG g a1 (g 26 0)) && ((hasG g a2 (g 26 1)))).toNat → ∀ (H : Heap) (locs : List Loc), XS D dA cn A pa g T H → va_S A s.heap H locs → ∀ ls : Array Slot, lv_has ls 4 [(0, .ref (pa (0, 0))), (1, .int (nI a1)), (2, .int (nI a2)), (3, .ref (pa (19, 0)))] → W pr l en (rmF 11 25 48054 548) s m args below meth cd H locs (0) (0) (vx_MQ below (zc_Q Post A) (vc_X XPost A) args s 25 48054 A) (F0 m 29 ls [.int yS0_29]) := by
    intro yS0_29 eyS0_29 H locs hM hS ls hl
    subst eyS0_29
    refine kX_checkState hfl S hKX hM hg hS (fun q h => hA q (Nat.le_trans hS.1 h)) ((hasG g a1 (g 26 0)) && ((hasG g a2 (g 26 1))))  (Nat.le_of_ble_eq_true rfl) (Nat.le_of_ble_eq_true rfl) hl.1 (Nat.le_of_ble_eq_true rfl) dX1_change_29 (Nat.le_of_ble_eq_true rfl) (Nat.le_of_ble_eq_true rfl) hno hlk (Nat.le_of_ble_eq_true rfl) (Nat.le_of_ble_eq_true rfl) (fun c_5 H1 hM1 => hXP (by first | (simp [c_5]; done) | grind | (simp_all; done)) H1 hM1) (fun c_5 H locs hM hg hS => ?_)
    have hCH : hasG g a1 (g 26 0) = true ∧ hasG g a2 (g 26 1) = true := by have q := c_5; simp only [Bool.and_eq_true, decide_eq_true_eq, Bool.not_eq_true', decide_eq_false_iff_not] at q; exact q
    refine lv_aload_n hx hb dX1_change_32 rfl (lv_at hl 0 rfl) ?_
    refine lv_iload_n hx hb dX1_change_33 rfl (lv_at hl 1 rfl) ?_
    refine lv_iload_n hx hb dX1_change_34 rfl (lv_at hl 2 rfl) ?_
    refine lv_aload_n hx hb dX1_change_35 rfl (lv_at hl 3 rfl) ?_
    refine gN_off_give S hK hM hN hkn (g 26 0) rfl dX1_change_36 ?_
    have hb_6 : g 26 0 < 1048576 := by first | exact hg 26 0 | exact hg0 _ _ | (have := hg 26 0; omega) | omega
    refine kX_give S hKX hM hg hS (fun q h => hA q (Nat.le_trans hS.1 h)) a1 a2 (g 26 0) (by first | omega | assumption | grind) (by first | omega | assumption | grind) (by first | omega | assumption | grind) (by exact hasG_le hCH.1) (by exact fun j hj => Nat.le_trans (hb4 j hj) (by decide)) (by first | omega | assumption | grind) (Nat.le_of_ble_eq_true rfl) (Nat.le_of_ble_eq_true rfl) hl.1 (Nat.le_of_ble_eq_true rfl) dX1_change_39 (Nat.le_of_ble_eq_true rfl) (Nat.le_of_ble_eq_true rfl) (fun H locs hM hg hS => ?_)
    refine lv_aload_n hx hb dX1_change_42 rfl (lv_at hl 0 rfl) ?_
    refine lv_iload_n hx hb dX1_change_43 rfl (lv_at hl 2 rfl) ?_
    refine lv_iload_n hx hb dX1_change_44 rfl (lv_at hl 1 rfl) ?_
    refine lv_aload_n hx hb dX1_change_45 rfl (lv_at hl 3 rfl) ?_
    refine gN_off_want S hK hM hN (by first | exact hkn | (rw [giveX_nf _ _ _ _ (by decide) (by decide) (by decide)]; exact hkn)) (g 26 1) (by first | rfl | (simp [giveX_nf, mvX_nf, gs]; done)) dX1_change_46 ?_
    have hb_7 : g 26 1 < 1048576 := by first | exact hg 26 1 | exact hg0 _ _ | (have := hg 26 1; omega) | omega
    refine kX_give S hKX hM hg hS (fun q h => hA q (Nat.le_trans hS.1 h)) a2 a1 (g 26 1) (by first | omega | assumption | grind) (by first | omega | assumption | grind) (by first | omega | assumption | grind) (by exact fun k hk => Nat.le_trans (hasG_le hCH.2 k hk) (by rw [giveX_4]; exact giveN_keep (Ne.symm hne) 5 (by omega) k hk)) (by exact fun j hj => by rw [giveX_4]; exact Nat.le_trans (giveN_le hb4 5 (by omega) j hj) (by decide)) (by exact Nat.le_trans (giveX_81 _ _ _ _ 5) (by omega)) (Nat.le_of_ble_eq_true rfl) (Nat.le_of_ble_eq_true rfl) hl.1 (Nat.le_of_ble_eq_true rfl) dX1_change_49 (Nat.le_of_ble_eq_true rfl) (Nat.le_of_ble_eq_true rfl) (fun H locs hM hg hS => ?_)
    refine lv_aload_n hx hb dX1_change_52 rfl (lv_at hl 0 rfl) ?_
    refine kX_forgetOffers S hKX hM hg hS (fun q h => hA q (Nat.le_trans hS.1 h))   (Nat.le_of_ble_eq_true rfl) (Nat.le_of_ble_eq_true rfl) hl.1 (Nat.le_of_ble_eq_true rfl) dX1_change_53 (Nat.le_of_ble_eq_true rfl) (Nat.le_of_ble_eq_true rfl) (fun H locs hM hg hS => ?_)
    exact vx_ret (zc_vret (hPost (by first | rfl | (simp only [c_5, Bool.true_and, Bool.and_true, reduceIte]; done) | (simp [c_5]; done) | grind | (simp_all; done)) H hM hg) hS hx hb hr hlk (Nat.le_of_ble_eq_true rfl) (Nat.le_of_ble_eq_true rfl) dX1_change_56)
  refine zr_if_eqB (b := hasG g a1 (g 26 0)) (tgt := 28) hx hb dX1_change_9 (by decide) (fun c_8 => ?_) (fun c_8 => ?_)
  · refine lv_iconst (v := nI 0) hx hb dX1_change_28 zi_0 ?_
    exact J_29 _ (congrArg (fun z : Bool => nI z.toNat) (show (false : Bool) = ((hasG g a1 (g 26 0)) && ((hasG g a2 (g 26 1)))) from by first | with_reducible rfl | (simp [c_8]; done) | (simp only [c_8] <;> simp []; done) | (simp [c_8, Bool.and_assoc]; done) | (simp [c_8, Bool.and_assoc, Bool.or_assoc]; done) | rfl | (simp [c_8]; omega) | (simp_all []; done))) H0 locs hM hS ls (lv_sub hl [0, 1, 2, 3] rfl)
  · refine lv_aload_n hx hb dX1_change_12 rfl (lv_at hl 0 rfl) ?_
    refine lv_iload_n hx hb dX1_change_13 rfl (lv_at hl 2 rfl) ?_
    refine lv_aload_n hx hb dX1_change_14 rfl (lv_at hl 3 rfl) ?_
    refine gN_off_want S hK hM hN hkn (g 26 1) rfl dX1_change_15 ?_
    have hb_9 : g 26 1 < 1048576 := by first | exact hg 26 1 | exact hg0 _ _ | (have := hg 26 1; omega) | omega
    refine kX_hasGoods S hKX hM hg hS a2 (g 26 1) (by first | omega | assumption | grind) (by first | omega | assumption | grind) (Nat.le_of_ble_eq_true rfl) (Nat.le_of_ble_eq_true rfl) hl.1 (Nat.le_of_ble_eq_true rfl) dX1_change_18 (Nat.le_of_ble_eq_true rfl) (Nat.le_of_ble_eq_true rfl) (fun locs hS => ?_)
    refine zr_if_eqB (b := hasG g a2 (g 26 1)) (tgt := 28) hx hb dX1_change_21 (by decide) (fun c_10 => ?_) (fun c_10 => ?_)
    · refine lv_iconst (v := nI 0) hx hb dX1_change_28 zi_0 ?_
      exact J_29 _ (congrArg (fun z : Bool => nI z.toNat) (show (false : Bool) = ((hasG g a1 (g 26 0)) && ((hasG g a2 (g 26 1)))) from by first | with_reducible rfl | (simp [c_8, c_10]; done) | (simp only [c_8, c_10] <;> simp []; done) | (simp [c_8, c_10, Bool.and_assoc]; done) | (simp [c_8, c_10, Bool.and_assoc, Bool.or_assoc]; done) | rfl | (simp [c_8, c_10]; omega) | (simp_all []; done))) H0 locs hM hS ls (lv_sub hl [0, 1, 2, 3] rfl)
    · refine lv_iconst (v := nI 1) hx hb dX1_change_24 zi_1 ?_
      refine lv_goto (tgt := 29) hx hb dX1_change_25 (by decide) ?_
      exact J_29 _ (congrArg (fun z : Bool => nI z.toNat) (show (true : Bool) = ((hasG g a1 (g 26 0)) && ((hasG g a2 (g 26 1)))) from by first | with_reducible rfl | (simp [c_8, c_10]; done) | (simp only [c_8, c_10] <;> simp []; done) | (simp [c_8, c_10, Bool.and_assoc]; done) | (simp [c_8, c_10, Bool.and_assoc, Bool.or_assoc]; done) | rfl | (simp [c_8, c_10]; omega) | (simp_all []; done))) H0 locs hM hS ls (lv_sub hl [0, 1, 2, 3] rfl)
theorem kX_changeO {pr : Program} {l : Launch} {en : Env} {R : Room} {s : State} {m : MethodId} {args : Array Value} {below : List Frame} {meth : Method} {cd : Code} {H : Heap} {locs : List Loc} {cells slots : Nat} {cc : ByteArray} {pc nL : Nat} {ls : Array Slot} {rest : List Value} {D : va_G} {dA : Nat → ClassId} {cn : Nat → Nat} {A : Nat → Prop} {pa : NM → Nat} {g : G} {T : va_W} {mc ms : Nat} {Post : Option Value → Heap → Prop} {XPost : String → Heap → Prop} (hfl : l.stackTraces = false) (S : CallFix pr m cd cc nL s args lw_all RX1) (hKX : KX D dA cn A s) (hM : XS D dA cn A pa g T H) (hg : Sm g) (hS : va_S A s.heap H locs) (hA : ∀ q, H.size ≤ q → A q) (a1 : Nat) (a2 : Nat) (h1 : a1 < 3) (h2 : a2 < 3) (hne : a1 ≠ a2) (hkn : decide (g 26 0 ≠ 0) = true) (hb4 : ∀ j, j < 20 → g 4 j ≤ 100) (hv : g 8 1 ≤ 1880) (hf : 11 + 1 ≤ R.frames) (hlo : 8 + (4 + 11) + 548 ≤ R.locals) (hsz : ls.size = nL) (hcat : (rest.map fun v => v.category).sum ≤ 8) (hdg : decode cc pc = .ok (.invokevirtual 349, 3)) (hq1 : cells + 25 ≤ R.cells) (hq2 : slots + 48054 ≤ R.slots) (hno : ∀ x ∈ cd.exceptionTable.toList, False) (hlk : meth.locks = false) (hmc : cells + 25 ≤ mc) (hms : slots + 48054 ≤ ms) (hX : ¬ (hasG g a1 (g 26 0) && hasG g a2 (g 26 1)) = true → ∀ H1 : Heap, XS D dA cn A pa g T H1 → XPost (exS 3) H1) (kk : (hasG g a1 (g 26 0) && hasG g a2 (g 26 1)) = true → ∀ (H1 : Heap) (locs1 : List Loc), XS D dA cn A pa (eoN (giveX (giveX g a1 a2 (g 26 0) 5) a2 a1 (g 26 1) 5) 3) T H1 → Sm (eoN (giveX (giveX g a1 a2 (g 26 0) 5) a2 a1 (g 26 1) 5) 3) → va_S A s.heap H1 locs1 → W pr l en R s m args below meth cd H1 locs1 (cells + 25) (slots + 48054) (vx_MQ below (zc_Q Post A) (vc_X XPost A) args s mc ms A) (F0 m (pc + 3) ls (rest))) : W pr l en R s m args below meth cd H locs cells slots (vx_MQ below (zc_Q Post A) (vc_X XPost A) args s mc ms A) (F0 m pc ls (.ref (pa (19, 0)) :: .int (nI a2) :: .int (nI a1) :: .ref (pa (0, 0)) :: rest)) :=
  vc_callV (n := 3) (As := [.int (nI a1), .int (nI a2), .ref (pa (19, 0))]) (rest := rest) S (cX_changeO l hfl hg a1 a2 h1 h2 hne hkn hb4 hv H hM hA (Post := (fun v H1 => v = none ∧ (hasG g a1 (g 26 0) && hasG g a2 (g 26 1)) = true ∧ XS D dA cn A pa (eoN (giveX (giveX g a1 a2 (g 26 0) 5) a2 a1 (g 26 1) 5) 3) T H1 ∧ Sm (eoN (giveX (giveX g a1 a2 (g 26 0) 5) a2 a1 (g 26 1) 5) 3))) (XPost := fun E H1 => E = exS 3 ∧ ¬ (hasG g a1 (g 26 0) && hasG g a2 (g 26 1)) = true ∧ XS D dA cn A pa g T H1) (fun h0 H1 h h2 => ⟨rfl, h0, h, h2⟩) (fun h0 H1 h => ⟨rfl, h0, h⟩)) (lw_V q918 q920 qs33 q71 q921) (by decide +kernel) ⟨hf, hlo⟩ ⟨hq1, hq2⟩ (zx_recv hKX.1 hM) KX_mv (zc_K KX_mv hKX hS) hS (fun _ h => h) rfl hsz rfl hcat hdg hno hlk (fun E H1 h => by obtain ⟨rfl, h0, hM1⟩ := h; exact hX h0 H1 hM1) hmc hms (fun v H1 locs1 hp _ _ hS1 => by obtain ⟨rfl, h0, hM1, hg1⟩ := hp; exact kk h0 H1 locs1 hM1 hg1 hS1)
set_option maxHeartbeats 1000000 in
set_option maxRecDepth 100000 in
theorem cX_changeC (l : Launch) (hfl : l.stackTraces = false) {D : va_G} {dA : Nat → ClassId} {cn : Nat → Nat} {A : Nat → Prop} {pa : NM → Nat} {g : G} {T : va_W} (hg : Sm g) (a1 : Nat) (a2 : Nat) (a9 : Nat) (h9 : a9 < 3) (h1 : a1 < 3) (h2 : a2 < 3) (hne : a1 ≠ a2) (hkn : decide (g 16 a9 ≠ 0) = true) (hb4 : ∀ j, j < 20 → g 4 j ≤ 100) (hv : g 8 1 ≤ 1880) (H0 : Heap) (hM : XS D dA cn A pa g T H0) (hA : ∀ q, H0.size ≤ q → A q) {Post : Option Value → Heap → Prop} {XPost : String → Heap → Prop} (hPost : (hasG g a1 (g 16 a9) && hasG g a2 (g 17 a9)) = true → ∀ H : Heap, XS D dA cn A pa (eoN (giveX (giveX g a1 a2 (g 16 a9) 5) a2 a1 (g 17 a9) 5) 3) T H → Sm (eoN (giveX (giveX g a1 a2 (g 16 a9) 5) a2 a1 (g 17 a9) 5) 3) → Post (none) H) (hXP : ¬ (hasG g a1 (g 16 a9) && hasG g a2 (g 17 a9)) = true → ∀ H : Heap, XS D dA cn A pa g T H → XPost (exS 3) H) : vCt l yX1_change (ws_ yX1_change cX1_change 4 none) (rmF 11 25 48054 548) A (KX D dA cn A) [.ref (pa (0, 0)), .int (nI a1), .int (nI a2), .ref (pa (18, a9))] H0 Post XPost := by
  refine vc_of RX1 rfl (by decide) (Nat.le_of_ble_eq_true rfl) ?_
  intro pr en s m args below meth cd S hr hlk hnm hno hh hKX ls hl
  have hS : va_S A s.heap H0 [] := zc_start hh
  have hA : ∀ q, s.heap.size ≤ q → A q := fun q h => hA q (by rw [← hh]; exact h)
  have hg0 := hg
  have hx := S.1
  have hb := S.2.1
  have hown := S.2.2.2.1
  have hts := S.2.2.2.2
  have hK := hKX.1
  have hN := hKX.2.1.1
  have hl : lv_has ls 4 [(0, .ref (pa (0, 0))), (1, .int (nI a1)), (2, .int (nI a2)), (3, .ref (pa (18, a9)))] := hl
  refine lv_aload_n hx hb dX1_change_0 rfl (lv_at hl 0 rfl) ?_
  refine lv_iload_n hx hb dX1_change_1 rfl (lv_at hl 1 rfl) ?_
  refine lv_aload_n hx hb dX1_change_2 rfl (lv_at hl 3 rfl) ?_
  refine gN_ctr_give S hK hM hN a9 (by omega) hkn (g 16 a9) rfl dX1_change_3 ?_
  have hb_1 : g 16 a9 < 1048576 := by first | exact hg 16 a9 | exact hg0 _ _ | (have := hg 16 a9; omega) | omega
  refine kX_hasGoods S hKX hM hg hS a1 (g 16 a9) (by first | omega | assumption | grind) (by first | omega | assumption | grind) (Nat.le_of_ble_eq_true rfl) (Nat.le_of_ble_eq_true rfl) hl.1 (Nat.le_of_ble_eq_true rfl) dX1_change_6 (Nat.le_of_ble_eq_true rfl) (Nat.le_of_ble_eq_true rfl) (fun locs hS => ?_)
  have J_29 : ∀ yS0_29 : Int32, yS0_29 = nI ((hasG g a1 (g 16 a9)) && ((hasG g a2 (g 17 a9)))).toNat → ∀ (H : Heap) (locs : List Loc), XS D dA cn A pa g T H → va_S A s.heap H locs → ∀ ls : Array Slot, lv_has ls 4 [(0, .ref (pa (0, 0))), (1, .int (nI a1)), (2, .int (nI a2)), (3, .ref (pa (18, a9)))] → W pr l en (rmF 11 25 48054 548) s m args below meth cd H locs (0) (0) (vx_MQ below (zc_Q Post A) (vc_X XPost A) args s 25 48054 A) (F0 m 29 ls [.int yS0_29]) := by
    intro yS0_29 eyS0_29 H locs hM hS ls hl
    subst eyS0_29
    refine kX_checkState hfl S hKX hM hg hS (fun q h => hA q (Nat.le_trans hS.1 h)) ((hasG g a1 (g 16 a9)) && ((hasG g a2 (g 17 a9))))  (Nat.le_of_ble_eq_true rfl) (Nat.le_of_ble_eq_true rfl) hl.1 (Nat.le_of_ble_eq_true rfl) dX1_change_29 (Nat.le_of_ble_eq_true rfl) (Nat.le_of_ble_eq_true rfl) hno hlk (Nat.le_of_ble_eq_true rfl) (Nat.le_of_ble_eq_true rfl) (fun c_5 H1 hM1 => hXP (by first | (simp [c_5]; done) | grind | (simp_all; done)) H1 hM1) (fun c_5 H locs hM hg hS => ?_)
    have hCH : hasG g a1 (g 16 a9) = true ∧ hasG g a2 (g 17 a9) = true := by have q := c_5; simp only [Bool.and_eq_true, decide_eq_true_eq, Bool.not_eq_true', decide_eq_false_iff_not] at q; exact q
    refine lv_aload_n hx hb dX1_change_32 rfl (lv_at hl 0 rfl) ?_
    refine lv_iload_n hx hb dX1_change_33 rfl (lv_at hl 1 rfl) ?_
    refine lv_iload_n hx hb dX1_change_34 rfl (lv_at hl 2 rfl) ?_
    refine lv_aload_n hx hb dX1_change_35 rfl (lv_at hl 3 rfl) ?_
    refine gN_ctr_give S hK hM hN a9 (by omega) hkn (g 16 a9) rfl dX1_change_36 ?_
    have hb_6 : g 16 a9 < 1048576 := by first | exact hg 16 a9 | exact hg0 _ _ | (have := hg 16 a9; omega) | omega
    refine kX_give S hKX hM hg hS (fun q h => hA q (Nat.le_trans hS.1 h)) a1 a2 (g 16 a9) (by first | omega | assumption | grind) (by first | omega | assumption | grind) (by first | omega | assumption | grind) (by exact hasG_le hCH.1) (by exact fun j hj => Nat.le_trans (hb4 j hj) (by decide)) (by first | omega | assumption | grind) (Nat.le_of_ble_eq_true rfl) (Nat.le_of_ble_eq_true rfl) hl.1 (Nat.le_of_ble_eq_true rfl) dX1_change_39 (Nat.le_of_ble_eq_true rfl) (Nat.le_of_ble_eq_true rfl) (fun H locs hM hg hS => ?_)
    refine lv_aload_n hx hb dX1_change_42 rfl (lv_at hl 0 rfl) ?_
    refine lv_iload_n hx hb dX1_change_43 rfl (lv_at hl 2 rfl) ?_
    refine lv_iload_n hx hb dX1_change_44 rfl (lv_at hl 1 rfl) ?_
    refine lv_aload_n hx hb dX1_change_45 rfl (lv_at hl 3 rfl) ?_
    refine gN_ctr_want S hK hM hN a9 (by omega) (by first | exact hkn | (rw [giveX_nf _ _ _ _ (by decide) (by decide) (by decide)]; exact hkn)) (g 17 a9) (by first | rfl | (simp [giveX_nf, mvX_nf, gs]; done)) dX1_change_46 ?_
    have hb_7 : g 17 a9 < 1048576 := by first | exact hg 17 a9 | exact hg0 _ _ | (have := hg 17 a9; omega) | omega
    refine kX_give S hKX hM hg hS (fun q h => hA q (Nat.le_trans hS.1 h)) a2 a1 (g 17 a9) (by first | omega | assumption | grind) (by first | omega | assumption | grind) (by first | omega | assumption | grind) (by exact fun k hk => Nat.le_trans (hasG_le hCH.2 k hk) (by rw [giveX_4]; exact giveN_keep (Ne.symm hne) 5 (by omega) k hk)) (by exact fun j hj => by rw [giveX_4]; exact Nat.le_trans (giveN_le hb4 5 (by omega) j hj) (by decide)) (by exact Nat.le_trans (giveX_81 _ _ _ _ 5) (by omega)) (Nat.le_of_ble_eq_true rfl) (Nat.le_of_ble_eq_true rfl) hl.1 (Nat.le_of_ble_eq_true rfl) dX1_change_49 (Nat.le_of_ble_eq_true rfl) (Nat.le_of_ble_eq_true rfl) (fun H locs hM hg hS => ?_)
    refine lv_aload_n hx hb dX1_change_52 rfl (lv_at hl 0 rfl) ?_
    refine kX_forgetOffers S hKX hM hg hS (fun q h => hA q (Nat.le_trans hS.1 h))   (Nat.le_of_ble_eq_true rfl) (Nat.le_of_ble_eq_true rfl) hl.1 (Nat.le_of_ble_eq_true rfl) dX1_change_53 (Nat.le_of_ble_eq_true rfl) (Nat.le_of_ble_eq_true rfl) (fun H locs hM hg hS => ?_)
    exact vx_ret (zc_vret (hPost (by first | rfl | (simp only [c_5, Bool.true_and, Bool.and_true, reduceIte]; done) | (simp [c_5]; done) | grind | (simp_all; done)) H hM hg) hS hx hb hr hlk (Nat.le_of_ble_eq_true rfl) (Nat.le_of_ble_eq_true rfl) dX1_change_56)
  refine zr_if_eqB (b := hasG g a1 (g 16 a9)) (tgt := 28) hx hb dX1_change_9 (by decide) (fun c_8 => ?_) (fun c_8 => ?_)
  · refine lv_iconst (v := nI 0) hx hb dX1_change_28 zi_0 ?_
    exact J_29 _ (congrArg (fun z : Bool => nI z.toNat) (show (false : Bool) = ((hasG g a1 (g 16 a9)) && ((hasG g a2 (g 17 a9)))) from by first | with_reducible rfl | (simp [c_8]; done) | (simp only [c_8] <;> simp []; done) | (simp [c_8, Bool.and_assoc]; done) | (simp [c_8, Bool.and_assoc, Bool.or_assoc]; done) | rfl | (simp [c_8]; omega) | (simp_all []; done))) H0 locs hM hS ls (lv_sub hl [0, 1, 2, 3] rfl)
  · refine lv_aload_n hx hb dX1_change_12 rfl (lv_at hl 0 rfl) ?_
    refine lv_iload_n hx hb dX1_change_13 rfl (lv_at hl 2 rfl) ?_
    refine lv_aload_n hx hb dX1_change_14 rfl (lv_at hl 3 rfl) ?_
    refine gN_ctr_want S hK hM hN a9 (by omega) hkn (g 17 a9) rfl dX1_change_15 ?_
    have hb_9 : g 17 a9 < 1048576 := by first | exact hg 17 a9 | exact hg0 _ _ | (have := hg 17 a9; omega) | omega
    refine kX_hasGoods S hKX hM hg hS a2 (g 17 a9) (by first | omega | assumption | grind) (by first | omega | assumption | grind) (Nat.le_of_ble_eq_true rfl) (Nat.le_of_ble_eq_true rfl) hl.1 (Nat.le_of_ble_eq_true rfl) dX1_change_18 (Nat.le_of_ble_eq_true rfl) (Nat.le_of_ble_eq_true rfl) (fun locs hS => ?_)
    refine zr_if_eqB (b := hasG g a2 (g 17 a9)) (tgt := 28) hx hb dX1_change_21 (by decide) (fun c_10 => ?_) (fun c_10 => ?_)
    · refine lv_iconst (v := nI 0) hx hb dX1_change_28 zi_0 ?_
      exact J_29 _ (congrArg (fun z : Bool => nI z.toNat) (show (false : Bool) = ((hasG g a1 (g 16 a9)) && ((hasG g a2 (g 17 a9)))) from by first | with_reducible rfl | (simp [c_8, c_10]; done) | (simp only [c_8, c_10] <;> simp []; done) | (simp [c_8, c_10, Bool.and_assoc]; done) | (simp [c_8, c_10, Bool.and_assoc, Bool.or_assoc]; done) | rfl | (simp [c_8, c_10]; omega) | (simp_all []; done))) H0 locs hM hS ls (lv_sub hl [0, 1, 2, 3] rfl)
    · refine lv_iconst (v := nI 1) hx hb dX1_change_24 zi_1 ?_
      refine lv_goto (tgt := 29) hx hb dX1_change_25 (by decide) ?_
      exact J_29 _ (congrArg (fun z : Bool => nI z.toNat) (show (true : Bool) = ((hasG g a1 (g 16 a9)) && ((hasG g a2 (g 17 a9)))) from by first | with_reducible rfl | (simp [c_8, c_10]; done) | (simp only [c_8, c_10] <;> simp []; done) | (simp [c_8, c_10, Bool.and_assoc]; done) | (simp [c_8, c_10, Bool.and_assoc, Bool.or_assoc]; done) | rfl | (simp [c_8, c_10]; omega) | (simp_all []; done))) H0 locs hM hS ls (lv_sub hl [0, 1, 2, 3] rfl)
theorem kX_changeC {pr : Program} {l : Launch} {en : Env} {R : Room} {s : State} {m : MethodId} {args : Array Value} {below : List Frame} {meth : Method} {cd : Code} {H : Heap} {locs : List Loc} {cells slots : Nat} {cc : ByteArray} {pc nL : Nat} {ls : Array Slot} {rest : List Value} {D : va_G} {dA : Nat → ClassId} {cn : Nat → Nat} {A : Nat → Prop} {pa : NM → Nat} {g : G} {T : va_W} {mc ms : Nat} {Post : Option Value → Heap → Prop} {XPost : String → Heap → Prop} (hfl : l.stackTraces = false) (S : CallFix pr m cd cc nL s args lw_all RX1) (hKX : KX D dA cn A s) (hM : XS D dA cn A pa g T H) (hg : Sm g) (hS : va_S A s.heap H locs) (hA : ∀ q, H.size ≤ q → A q) (a1 : Nat) (a2 : Nat) (a9 : Nat) (h9 : a9 < 3) (h1 : a1 < 3) (h2 : a2 < 3) (hne : a1 ≠ a2) (hkn : decide (g 16 a9 ≠ 0) = true) (hb4 : ∀ j, j < 20 → g 4 j ≤ 100) (hv : g 8 1 ≤ 1880) (hf : 11 + 1 ≤ R.frames) (hlo : 8 + (4 + 11) + 548 ≤ R.locals) (hsz : ls.size = nL) (hcat : (rest.map fun v => v.category).sum ≤ 8) (hdg : decode cc pc = .ok (.invokevirtual 349, 3)) (hq1 : cells + 25 ≤ R.cells) (hq2 : slots + 48054 ≤ R.slots) (hno : ∀ x ∈ cd.exceptionTable.toList, False) (hlk : meth.locks = false) (hmc : cells + 25 ≤ mc) (hms : slots + 48054 ≤ ms) (hX : ¬ (hasG g a1 (g 16 a9) && hasG g a2 (g 17 a9)) = true → ∀ H1 : Heap, XS D dA cn A pa g T H1 → XPost (exS 3) H1) (kk : (hasG g a1 (g 16 a9) && hasG g a2 (g 17 a9)) = true → ∀ (H1 : Heap) (locs1 : List Loc), XS D dA cn A pa (eoN (giveX (giveX g a1 a2 (g 16 a9) 5) a2 a1 (g 17 a9) 5) 3) T H1 → Sm (eoN (giveX (giveX g a1 a2 (g 16 a9) 5) a2 a1 (g 17 a9) 5) 3) → va_S A s.heap H1 locs1 → W pr l en R s m args below meth cd H1 locs1 (cells + 25) (slots + 48054) (vx_MQ below (zc_Q Post A) (vc_X XPost A) args s mc ms A) (F0 m (pc + 3) ls (rest))) : W pr l en R s m args below meth cd H locs cells slots (vx_MQ below (zc_Q Post A) (vc_X XPost A) args s mc ms A) (F0 m pc ls (.ref (pa (18, a9)) :: .int (nI a2) :: .int (nI a1) :: .ref (pa (0, 0)) :: rest)) :=
  vc_callV (n := 3) (As := [.int (nI a1), .int (nI a2), .ref (pa (18, a9))]) (rest := rest) S (cX_changeC l hfl hg a1 a2 a9 h9 h1 h2 hne hkn hb4 hv H hM hA (Post := (fun v H1 => v = none ∧ (hasG g a1 (g 16 a9) && hasG g a2 (g 17 a9)) = true ∧ XS D dA cn A pa (eoN (giveX (giveX g a1 a2 (g 16 a9) 5) a2 a1 (g 17 a9) 5) 3) T H1 ∧ Sm (eoN (giveX (giveX g a1 a2 (g 16 a9) 5) a2 a1 (g 17 a9) 5) 3))) (XPost := fun E H1 => E = exS 3 ∧ ¬ (hasG g a1 (g 16 a9) && hasG g a2 (g 17 a9)) = true ∧ XS D dA cn A pa g T H1) (fun h0 H1 h h2 => ⟨rfl, h0, h, h2⟩) (fun h0 H1 h => ⟨rfl, h0, h⟩)) (lw_V q918 q920 qs33 q71 q921) (by decide +kernel) ⟨hf, hlo⟩ ⟨hq1, hq2⟩ (zx_recv hKX.1 hM) KX_mv (zc_K KX_mv hKX hS) hS (fun _ h => h) rfl hsz rfl hcat hdg hno hlk (fun E H1 h => by obtain ⟨rfl, h0, hM1⟩ := h; exact hX h0 H1 hM1) hmc hms (fun v H1 locs1 hp _ _ hS1 => by obtain ⟨rfl, h0, hM1, hg1⟩ := hp; exact kk h0 H1 locs1 hM1 hg1 hS1)
def cdAccept (g : G) (a1 : Int32) : Nat := (if (inB a1 3) = true then (if (decide (g 7 1 = 2) && (decide (g 26 0 ≠ 0) && !decide (tn a1 = g 7 4))) = true then (if (hasG g (g 7 4) (g 26 0) && hasG g (tn a1) (g 26 1)) = true then 0 else 3) else 3) else 1)
set_option maxHeartbeats 1000000 in
set_option maxRecDepth 100000 in
theorem cX_accept (l : Launch) (hfl : l.stackTraces = false) {D : va_G} {dA : Nat → ClassId} {cn : Nat → Nat} {A : Nat → Prop} {pa : NM → Nat} {g : G} {T : va_W} (hg : Sm g) (a1 : Int32) (ht : g 7 4 < 3) (hb4 : ∀ j, j < 20 → g 4 j ≤ 100) (hv : g 8 1 ≤ 1880) (H0 : Heap) (hM : XS D dA cn A pa g T H0) (hA : ∀ q, H0.size ≤ q → A q) {Post : Option Value → Heap → Prop} {XPost : String → Heap → Prop} (hPost : (cdAccept g a1) = 0 → ∀ H : Heap, XS D dA cn A pa (eoN (giveX (giveX g (g 7 4) (tn a1) (g 26 0) 5) (tn a1) (g 7 4) (g 26 1) 5) 3) T H → Sm (eoN (giveX (giveX g (g 7 4) (tn a1) (g 26 0) 5) (tn a1) (g 7 4) (g 26 1) 5) 3) → Post (some (.int (nI (handN (eoN (giveX (giveX g (g 7 4) (tn a1) (g 26 0) 5) (tn a1) (g 7 4) (g 26 1) 5) 3) (tn a1) 5)))) H) (hXP : ∀ n : Nat, (cdAccept g a1) = n → n ≠ 0 → ∀ H : Heap, XS D dA cn A pa g T H → XPost (exS n) H) : vCt l yX1_accept (ws_ yX1_accept cX1_accept 2 (some .int)) (rmF 12 27 48066 571) A (KX D dA cn A) [.ref (pa (0, 0)), .int a1] H0 Post XPost := by
  refine vc_of RX1 rfl (by decide) (Nat.le_of_ble_eq_true rfl) ?_
  intro pr en s m args below meth cd S hr hlk hnm hno hh hKX ls hl
  have hS : va_S A s.heap H0 [] := zc_start hh
  have hA : ∀ q, s.heap.size ≤ q → A q := fun q h => hA q (by rw [← hh]; exact h)
  have hg0 := hg
  have hx := S.1
  have hb := S.2.1
  have hown := S.2.2.2.1
  have hts := S.2.2.2.2
  have hK := hKX.1
  have hN := hKX.2.1.1
  have hl : lv_has ls 2 [(0, .ref (pa (0, 0))), (1, .int a1)] := hl
  refine lv_iload_n hx hb dX1_accept_0 rfl (lv_at hl 1 rfl) ?_
  refine lv_iconst (v := nI 3) hx hb dX1_accept_1 zi_3 ?_
  refine kX_check hfl S hKX hM hg hS (fun q h => hA q (Nat.le_trans hS.1 h)) a1 3 (by first | omega | assumption | grind) (Nat.le_of_ble_eq_true rfl) (Nat.le_of_ble_eq_true rfl) hl.1 (Nat.le_of_ble_eq_true rfl) dX1_accept_2 (Nat.le_of_ble_eq_true rfl) (Nat.le_of_ble_eq_true rfl) hno hlk (Nat.le_of_ble_eq_true rfl) (Nat.le_of_ble_eq_true rfl) (fun c_1 H1 hM1 => hXP 1 (by first | (simp only [c_1, cdAccept, Bool.true_and, Bool.and_true, Bool.false_and, Bool.and_false, reduceIte, Bool.false_eq_true]; done) | (simp [c_1, cdAccept]; done) | grind | (simp_all; done)) (by decide) H1 hM1) (fun c_1 H locs hM hg hS => ?_)
  obtain ⟨hj1, ea1⟩ := inB_tn (by decide) c_1
  rw [ea1] at hl
  refine lv_aload_n hx hb dX1_accept_5 rfl (lv_at hl 0 rfl) ?_
  refine gX_phase S hK hM (g 7 1) rfl dX1_accept_6 ?_
  have hb_2 : g 7 1 < 1048576 := by first | exact hg 7 1 | exact hg0 _ _ | (have := hg 7 1; omega) | omega
  refine lv_iconst (v := nI 2) hx hb dX1_accept_9 zi_2 ?_
  have J_33 : ∀ yS0_33 : Int32, yS0_33 = nI (decide ((g 7 1) = 2) && ((decide (g 26 0 ≠ 0)) && (!decide ((tn a1) = (g 7 4))))).toNat → ∀ (H : Heap) (locs : List Loc), XS D dA cn A pa g T H → va_S A s.heap H locs → ∀ ls : Array Slot, lv_has ls 2 [(0, .ref (pa (0, 0))), (1, .int (nI (tn a1)))] → W pr l en (rmF 12 27 48066 571) s m args below meth cd H locs (1) (6) (vx_MQ below (zc_Q Post A) (vc_X XPost A) args s 27 48066 A) (F0 m 33 ls [.int yS0_33]) := by
    intro yS0_33 eyS0_33 H locs hM hS ls hl
    subst eyS0_33
    refine kX_checkState hfl S hKX hM hg hS (fun q h => hA q (Nat.le_trans hS.1 h)) (decide ((g 7 1) = 2) && ((decide (g 26 0 ≠ 0)) && (!decide ((tn a1) = (g 7 4)))))  (Nat.le_of_ble_eq_true rfl) (Nat.le_of_ble_eq_true rfl) hl.1 (Nat.le_of_ble_eq_true rfl) dX1_accept_33 (Nat.le_of_ble_eq_true rfl) (Nat.le_of_ble_eq_true rfl) hno hlk (Nat.le_of_ble_eq_true rfl) (Nat.le_of_ble_eq_true rfl) (fun c_7 H1 hM1 => hXP 3 (by first | (simp only [c_1, c_7, cdAccept, Bool.true_and, Bool.and_true, Bool.false_and, Bool.and_false, reduceIte, Bool.false_eq_true]; done) | (simp [c_1, c_7, cdAccept]; done) | grind | (simp_all; done)) (by decide) H1 hM1) (fun c_7 H locs hM hg hS => ?_)
    have hAC : ¬ g 26 0 = 0 ∧ ¬ tn a1 = g 7 4 := by have q := c_7; simp only [Bool.and_eq_true, decide_eq_true_eq, Bool.not_eq_true', decide_eq_false_iff_not] at q; exact q.2
    have hkn : decide (g 26 0 ≠ 0) = true := decide_eq_true hAC.1
    refine lv_aload_n hx hb dX1_accept_36 rfl (lv_at hl 0 rfl) ?_
    refine lv_aload_n hx hb dX1_accept_37 rfl (lv_at hl 0 rfl) ?_
    refine gX_turn S hK hM (g 7 4) rfl dX1_accept_38 ?_
    have hb_8 : g 7 4 < 1048576 := by first | exact hg 7 4 | exact hg0 _ _ | (have := hg 7 4; omega) | omega
    refine lv_iload_n hx hb dX1_accept_41 rfl (lv_at hl 1 rfl) ?_
    refine lv_aload_n hx hb dX1_accept_42 rfl (lv_at hl 0 rfl) ?_
    refine gX_offerY S hK hM hkn dX1_accept_43 ?_
    refine kX_changeO hfl S hKX hM hg hS (fun q h => hA q (Nat.le_trans hS.1 h)) (g 7 4) (tn a1) (by first | omega | assumption | grind) (by first | omega | assumption | grind) (by exact fun q => hAC.2 q.symm) (by first | omega | assumption | grind) (by first | omega | assumption | grind) (by first | omega | assumption | grind) (Nat.le_of_ble_eq_true rfl) (Nat.le_of_ble_eq_true rfl) hl.1 (Nat.le_of_ble_eq_true rfl) dX1_accept_46 (Nat.le_of_ble_eq_true rfl) (Nat.le_of_ble_eq_true rfl) hno hlk (Nat.le_of_ble_eq_true rfl) (Nat.le_of_ble_eq_true rfl) (fun c_9 H1 hM1 => hXP 3 (by first | (simp only [c_1, c_7, c_9, cdAccept, Bool.true_and, Bool.and_true, Bool.false_and, Bool.and_false, reduceIte, Bool.false_eq_true]; done) | (simp [c_1, c_7, c_9, cdAccept]; done) | grind | (simp_all; done)) (by decide) H1 hM1) (fun c_9 H locs hM hg hS => ?_)
    refine lv_aload_n hx hb dX1_accept_49 rfl (lv_at hl 0 rfl) ?_
    refine lv_iload_n hx hb dX1_accept_50 rfl (lv_at hl 1 rfl) ?_
    refine kX_total S hKX hM hg hS (tn a1) (by first | omega | assumption | grind) (Nat.le_of_ble_eq_true rfl) (Nat.le_of_ble_eq_true rfl) hl.1 (Nat.le_of_ble_eq_true rfl) dX1_accept_51 (Nat.le_of_ble_eq_true rfl) (Nat.le_of_ble_eq_true rfl) (fun locs hS => ?_)
    have f51_0 : handN (eoN (giveX (giveX g (g 7 4) (tn a1) (g 26 0) 5) (tn a1) (g 7 4) (g 26 1) 5) 3) (tn a1) 5 < 5242880 := handN_lt hg _
    exact vx_ret (zc_nret (nI (handN (eoN (giveX (giveX g (g 7 4) (tn a1) (g 26 0) 5) (tn a1) (g 7 4) (g 26 1) 5) 3) (tn a1) 5)) rfl (hPost (by first | rfl | (simp only [c_1, c_7, c_9, cdAccept, Bool.true_and, Bool.and_true, reduceIte]; done) | (simp [c_1, c_7, c_9, cdAccept]; done) | grind | (simp_all; done)) H hM hg) hS hx hb hr hlk (Nat.le_of_ble_eq_true rfl) (Nat.le_of_ble_eq_true rfl) dX1_accept_54)
  refine zr_icmp_neN (a := (g 7 1)) (b := 2) (tgt := 32) hx hb (by omega) (by omega) dX1_accept_10 (by decide) (fun c_10 => ?_) (fun c_10 => ?_)
  · refine lv_iconst (v := nI 0) hx hb dX1_accept_32 zi_0 ?_
    exact J_33 _ (congrArg (fun z : Bool => nI z.toNat) (show (false : Bool) = (decide ((g 7 1) = 2) && ((decide (g 26 0 ≠ 0)) && (!decide ((tn a1) = (g 7 4))))) from by first | with_reducible rfl | (simp [c_1, c_10, cdAccept]; done) | (simp only [c_1, c_10] <;> simp [cdAccept]; done) | (simp only [cdAccept, c_1, c_10] <;> simp [cdAccept]; done) | (simp [c_1, c_10, cdAccept, Bool.and_assoc]; done) | (simp [c_1, c_10, cdAccept, Bool.and_assoc, Bool.or_assoc]; done) | rfl | (simp [c_1, c_10, cdAccept]; omega) | (simp_all [cdAccept]; done))) H locs hM hS ls (lv_sub hl [0, 1] rfl)
  · refine lv_aload_n hx hb dX1_accept_13 rfl (lv_at hl 0 rfl) ?_
    refine gX_offer S hK hM dX1_accept_14 ?_
    refine zr_ifnullB (b := decide (g 26 0 ≠ 0)) (tgt := 32) hx hb dX1_accept_17 (by decide) (fun c_11 => ?_) (fun c_11 => ?_)
    · refine lv_iconst (v := nI 0) hx hb dX1_accept_32 zi_0 ?_
      exact J_33 _ (congrArg (fun z : Bool => nI z.toNat) (show (false : Bool) = (decide ((g 7 1) = 2) && ((decide (g 26 0 ≠ 0)) && (!decide ((tn a1) = (g 7 4))))) from by first | with_reducible rfl | (simp [c_1, c_10, c_11, cdAccept]; done) | (simp only [c_1, c_10, c_11] <;> simp [cdAccept]; done) | (simp only [cdAccept, c_1, c_10, c_11] <;> simp [cdAccept]; done) | (simp [c_1, c_10, c_11, cdAccept, Bool.and_assoc]; done) | (simp [c_1, c_10, c_11, cdAccept, Bool.and_assoc, Bool.or_assoc]; done) | rfl | (simp [c_1, c_10, c_11, cdAccept]; omega) | (simp_all [cdAccept]; done))) H locs hM hS ls (lv_sub hl [0, 1] rfl)
    · refine lv_iload_n hx hb dX1_accept_20 rfl (lv_at hl 1 rfl) ?_
      refine lv_aload_n hx hb dX1_accept_21 rfl (lv_at hl 0 rfl) ?_
      refine gX_turn S hK hM (g 7 4) rfl dX1_accept_22 ?_
      have hb_12 : g 7 4 < 1048576 := by first | exact hg 7 4 | exact hg0 _ _ | (have := hg 7 4; omega) | omega
      refine zr_icmp_eqN (a := (tn a1)) (b := (g 7 4)) (tgt := 32) hx hb (by omega) (by omega) dX1_accept_25 (by decide) (fun c_13 => ?_) (fun c_13 => ?_)
      · refine lv_iconst (v := nI 0) hx hb dX1_accept_32 zi_0 ?_
        exact J_33 _ (congrArg (fun z : Bool => nI z.toNat) (show (false : Bool) = (decide ((g 7 1) = 2) && ((decide (g 26 0 ≠ 0)) && (!decide ((tn a1) = (g 7 4))))) from by first | with_reducible rfl | (simp [c_1, c_10, c_11, c_13, cdAccept]; done) | (simp only [c_1, c_10, c_11, c_13] <;> simp [cdAccept]; done) | (simp only [cdAccept, c_1, c_10, c_11, c_13] <;> simp [cdAccept]; done) | (simp [c_1, c_10, c_11, c_13, cdAccept, Bool.and_assoc]; done) | (simp [c_1, c_10, c_11, c_13, cdAccept, Bool.and_assoc, Bool.or_assoc]; done) | rfl | (simp [c_1, c_10, c_11, c_13, cdAccept]; omega) | (simp_all [cdAccept]; done))) H locs hM hS ls (lv_sub hl [0, 1] rfl)
      · refine lv_iconst (v := nI 1) hx hb dX1_accept_28 zi_1 ?_
        refine lv_goto (tgt := 33) hx hb dX1_accept_29 (by decide) ?_
        exact J_33 _ (congrArg (fun z : Bool => nI z.toNat) (show (true : Bool) = (decide ((g 7 1) = 2) && ((decide (g 26 0 ≠ 0)) && (!decide ((tn a1) = (g 7 4))))) from by first | with_reducible rfl | (simp [c_1, c_10, c_11, c_13, cdAccept]; done) | (simp only [c_1, c_10, c_11, c_13] <;> simp [cdAccept]; done) | (simp only [cdAccept, c_1, c_10, c_11, c_13] <;> simp [cdAccept]; done) | (simp [c_1, c_10, c_11, c_13, cdAccept, Bool.and_assoc]; done) | (simp [c_1, c_10, c_11, c_13, cdAccept, Bool.and_assoc, Bool.or_assoc]; done) | rfl | (simp [c_1, c_10, c_11, c_13, cdAccept]; omega) | (simp_all [cdAccept]; done))) H locs hM hS ls (lv_sub hl [0, 1] rfl)
def cdAgree (g : G) (a1 : Int32) : Nat := (if (inB a1 3) = true then (if (decide (g 7 1 = 2) && decide (g 16 (tn a1) ≠ 0)) = true then (if (hasG g (tn a1) (g 16 (tn a1)) && hasG g (g 7 4) (g 17 (tn a1))) = true then 0 else 3) else 3) else 1)
set_option maxHeartbeats 1000000 in
set_option maxRecDepth 100000 in
theorem cX_agree (l : Launch) (hfl : l.stackTraces = false) {D : va_G} {dA : Nat → ClassId} {cn : Nat → Nat} {A : Nat → Prop} {pa : NM → Nat} {g : G} {T : va_W} (hg : Sm g) (a1 : Int32) (ht : g 7 4 < 3) (hb4 : ∀ j, j < 20 → g 4 j ≤ 100) (hv : g 8 1 ≤ 1880) (hne : ∀ p, p < 3 → ¬ g 16 p = 0 → p ≠ g 7 4) (H0 : Heap) (hM : XS D dA cn A pa g T H0) (hA : ∀ q, H0.size ≤ q → A q) {Post : Option Value → Heap → Prop} {XPost : String → Heap → Prop} (hPost : (cdAgree g a1) = 0 → ∀ H : Heap, XS D dA cn A pa (eoN (giveX (giveX g (tn a1) (g 7 4) (g 16 (tn a1)) 5) (g 7 4) (tn a1) (g 17 (tn a1)) 5) 3) T H → Sm (eoN (giveX (giveX g (tn a1) (g 7 4) (g 16 (tn a1)) 5) (g 7 4) (tn a1) (g 17 (tn a1)) 5) 3) → Post (some (.int (nI (handN (eoN (giveX (giveX g (tn a1) (g 7 4) (g 16 (tn a1)) 5) (g 7 4) (tn a1) (g 17 (tn a1)) 5) 3) (g 7 4) 5)))) H) (hXP : ∀ n : Nat, (cdAgree g a1) = n → n ≠ 0 → ∀ H : Heap, XS D dA cn A pa g T H → XPost (exS n) H) : vCt l yX1_agree (ws_ yX1_agree cX1_agree 2 (some .int)) (rmF 12 27 48066 571) A (KX D dA cn A) [.ref (pa (0, 0)), .int a1] H0 Post XPost := by
  refine vc_of RX1 rfl (by decide) (Nat.le_of_ble_eq_true rfl) ?_
  intro pr en s m args below meth cd S hr hlk hnm hno hh hKX ls hl
  have hS : va_S A s.heap H0 [] := zc_start hh
  have hA : ∀ q, s.heap.size ≤ q → A q := fun q h => hA q (by rw [← hh]; exact h)
  have hg0 := hg
  have hx := S.1
  have hb := S.2.1
  have hown := S.2.2.2.1
  have hts := S.2.2.2.2
  have hK := hKX.1
  have hN := hKX.2.1.1
  have hl : lv_has ls 2 [(0, .ref (pa (0, 0))), (1, .int a1)] := hl
  refine lv_iload_n hx hb dX1_agree_0 rfl (lv_at hl 1 rfl) ?_
  refine lv_iconst (v := nI 3) hx hb dX1_agree_1 zi_3 ?_
  refine kX_check hfl S hKX hM hg hS (fun q h => hA q (Nat.le_trans hS.1 h)) a1 3 (by first | omega | assumption | grind) (Nat.le_of_ble_eq_true rfl) (Nat.le_of_ble_eq_true rfl) hl.1 (Nat.le_of_ble_eq_true rfl) dX1_agree_2 (Nat.le_of_ble_eq_true rfl) (Nat.le_of_ble_eq_true rfl) hno hlk (Nat.le_of_ble_eq_true rfl) (Nat.le_of_ble_eq_true rfl) (fun c_1 H1 hM1 => hXP 1 (by first | (simp only [c_1, cdAgree, Bool.true_and, Bool.and_true, Bool.false_and, Bool.and_false, reduceIte, Bool.false_eq_true]; done) | (simp [c_1, cdAgree]; done) | grind | (simp_all; done)) (by decide) H1 hM1) (fun c_1 H locs hM hg hS => ?_)
  obtain ⟨hj1, ea1⟩ := inB_tn (by decide) c_1
  rw [ea1] at hl
  refine lv_aload_n hx hb dX1_agree_5 rfl (lv_at hl 0 rfl) ?_
  refine gX_phase S hK hM (g 7 1) rfl dX1_agree_6 ?_
  have hb_2 : g 7 1 < 1048576 := by first | exact hg 7 1 | exact hg0 _ _ | (have := hg 7 1; omega) | omega
  refine lv_iconst (v := nI 2) hx hb dX1_agree_9 zi_2 ?_
  have J_27 : ∀ yS0_27 : Int32, yS0_27 = nI (decide ((g 7 1) = 2) && ((decide (g 16 (tn a1) ≠ 0)))).toNat → ∀ (H : Heap) (locs : List Loc), XS D dA cn A pa g T H → va_S A s.heap H locs → ∀ ls : Array Slot, lv_has ls 2 [(0, .ref (pa (0, 0))), (1, .int (nI (tn a1)))] → W pr l en (rmF 12 27 48066 571) s m args below meth cd H locs (1) (6) (vx_MQ below (zc_Q Post A) (vc_X XPost A) args s 27 48066 A) (F0 m 27 ls [.int yS0_27]) := by
    intro yS0_27 eyS0_27 H locs hM hS ls hl
    subst eyS0_27
    refine kX_checkState hfl S hKX hM hg hS (fun q h => hA q (Nat.le_trans hS.1 h)) (decide ((g 7 1) = 2) && ((decide (g 16 (tn a1) ≠ 0))))  (Nat.le_of_ble_eq_true rfl) (Nat.le_of_ble_eq_true rfl) hl.1 (Nat.le_of_ble_eq_true rfl) dX1_agree_27 (Nat.le_of_ble_eq_true rfl) (Nat.le_of_ble_eq_true rfl) hno hlk (Nat.le_of_ble_eq_true rfl) (Nat.le_of_ble_eq_true rfl) (fun c_5 H1 hM1 => hXP 3 (by first | (simp only [c_1, c_5, cdAgree, Bool.true_and, Bool.and_true, Bool.false_and, Bool.and_false, reduceIte, Bool.false_eq_true]; done) | (simp [c_1, c_5, cdAgree]; done) | grind | (simp_all; done)) (by decide) H1 hM1) (fun c_5 H locs hM hg hS => ?_)
    have hAC : ¬ g 16 (tn a1) = 0 := by have q := c_5; simp only [Bool.and_eq_true, decide_eq_true_eq, Bool.not_eq_true', decide_eq_false_iff_not] at q; exact q.2
    have hkn : decide (g 16 (tn a1) ≠ 0) = true := decide_eq_true hAC
    have hne9 : tn a1 ≠ g 7 4 := hne (tn a1) (by omega) hAC
    refine lv_aload_n hx hb dX1_agree_30 rfl (lv_at hl 0 rfl) ?_
    refine lv_iload_n hx hb dX1_agree_31 rfl (lv_at hl 1 rfl) ?_
    refine lv_aload_n hx hb dX1_agree_32 rfl (lv_at hl 0 rfl) ?_
    refine gX_turn S hK hM (g 7 4) rfl dX1_agree_33 ?_
    have hb_6 : g 7 4 < 1048576 := by first | exact hg 7 4 | exact hg0 _ _ | (have := hg 7 4; omega) | omega
    refine lv_aload_n hx hb dX1_agree_36 rfl (lv_at hl 0 rfl) ?_
    refine gX_counters S hK hM dX1_agree_37 ?_
    refine lv_iload_n hx hb dX1_agree_40 rfl (lv_at hl 1 rfl) ?_
    refine lX_ctrY S hK hM (tn a1) (by omega) hkn dX1_agree_41 ?_
    refine kX_changeC hfl S hKX hM hg hS (fun q h => hA q (Nat.le_trans hS.1 h)) (tn a1) (g 7 4) (tn a1) (by first | omega | assumption | grind) (by first | omega | assumption | grind) (by first | omega | assumption | grind) (by exact hne9) (by first | omega | assumption | grind) (by first | omega | assumption | grind) (by first | omega | assumption | grind) (Nat.le_of_ble_eq_true rfl) (Nat.le_of_ble_eq_true rfl) hl.1 (Nat.le_of_ble_eq_true rfl) dX1_agree_42 (Nat.le_of_ble_eq_true rfl) (Nat.le_of_ble_eq_true rfl) hno hlk (Nat.le_of_ble_eq_true rfl) (Nat.le_of_ble_eq_true rfl) (fun c_7 H1 hM1 => hXP 3 (by first | (simp only [c_1, c_5, c_7, cdAgree, Bool.true_and, Bool.and_true, Bool.false_and, Bool.and_false, reduceIte, Bool.false_eq_true]; done) | (simp [c_1, c_5, c_7, cdAgree]; done) | grind | (simp_all; done)) (by decide) H1 hM1) (fun c_7 H locs hM hg hS => ?_)
    refine lv_aload_n hx hb dX1_agree_45 rfl (lv_at hl 0 rfl) ?_
    refine lv_aload_n hx hb dX1_agree_46 rfl (lv_at hl 0 rfl) ?_
    refine gX_turn S hK hM (g 7 4) (by first | rfl | (rw [eoN_nf _ (by decide) (by decide) (by decide), giveX_nf _ _ _ _ (by decide) (by decide) (by decide), giveX_nf _ _ _ _ (by decide) (by decide) (by decide)]; done)) dX1_agree_47 ?_
    have hb_8 : g 7 4 < 1048576 := by first | exact hg 7 4 | exact hg0 _ _ | (have := hg 7 4; omega) | omega
    refine kX_total S hKX hM hg hS (g 7 4) (by first | omega | assumption | grind) (Nat.le_of_ble_eq_true rfl) (Nat.le_of_ble_eq_true rfl) hl.1 (Nat.le_of_ble_eq_true rfl) dX1_agree_50 (Nat.le_of_ble_eq_true rfl) (Nat.le_of_ble_eq_true rfl) (fun locs hS => ?_)
    have f50_0 : handN (eoN (giveX (giveX g (tn a1) (g 7 4) (g 16 (tn a1)) 5) (g 7 4) (tn a1) (g 17 (tn a1)) 5) 3) (g 7 4) 5 < 5242880 := handN_lt hg _
    exact vx_ret (zc_nret (nI (handN (eoN (giveX (giveX g (tn a1) (g 7 4) (g 16 (tn a1)) 5) (g 7 4) (tn a1) (g 17 (tn a1)) 5) 3) (g 7 4) 5)) rfl (hPost (by first | rfl | (simp only [c_1, c_5, c_7, cdAgree, Bool.true_and, Bool.and_true, reduceIte]; done) | (simp [c_1, c_5, c_7, cdAgree]; done) | grind | (simp_all; done)) H hM hg) hS hx hb hr hlk (Nat.le_of_ble_eq_true rfl) (Nat.le_of_ble_eq_true rfl) dX1_agree_53)
  refine zr_icmp_neN (a := (g 7 1)) (b := 2) (tgt := 26) hx hb (by omega) (by omega) dX1_agree_10 (by decide) (fun c_9 => ?_) (fun c_9 => ?_)
  · refine lv_iconst (v := nI 0) hx hb dX1_agree_26 zi_0 ?_
    exact J_27 _ (congrArg (fun z : Bool => nI z.toNat) (show (false : Bool) = (decide ((g 7 1) = 2) && ((decide (g 16 (tn a1) ≠ 0)))) from by first | with_reducible rfl | (simp [c_1, c_9, cdAgree]; done) | (simp only [c_1, c_9] <;> simp [cdAgree]; done) | (simp only [cdAgree, c_1, c_9] <;> simp [cdAgree]; done) | (simp [c_1, c_9, cdAgree, Bool.and_assoc]; done) | (simp [c_1, c_9, cdAgree, Bool.and_assoc, Bool.or_assoc]; done) | rfl | (simp [c_1, c_9, cdAgree]; omega) | (simp_all [cdAgree]; done))) H locs hM hS ls (lv_sub hl [0, 1] rfl)
  · refine lv_aload_n hx hb dX1_agree_13 rfl (lv_at hl 0 rfl) ?_
    refine gX_counters S hK hM dX1_agree_14 ?_
    refine lv_iload_n hx hb dX1_agree_17 rfl (lv_at hl 1 rfl) ?_
    refine lX_ctr S hK hM (tn a1) (by omega) dX1_agree_18 ?_
    refine zr_ifnullB (b := decide (g 16 (tn a1) ≠ 0)) (tgt := 26) hx hb dX1_agree_19 (by decide) (fun c_10 => ?_) (fun c_10 => ?_)
    · refine lv_iconst (v := nI 0) hx hb dX1_agree_26 zi_0 ?_
      exact J_27 _ (congrArg (fun z : Bool => nI z.toNat) (show (false : Bool) = (decide ((g 7 1) = 2) && ((decide (g 16 (tn a1) ≠ 0)))) from by first | with_reducible rfl | (simp [c_1, c_9, c_10, cdAgree]; done) | (simp only [c_1, c_9, c_10] <;> simp [cdAgree]; done) | (simp only [cdAgree, c_1, c_9, c_10] <;> simp [cdAgree]; done) | (simp [c_1, c_9, c_10, cdAgree, Bool.and_assoc]; done) | (simp [c_1, c_9, c_10, cdAgree, Bool.and_assoc, Bool.or_assoc]; done) | rfl | (simp [c_1, c_9, c_10, cdAgree]; omega) | (simp_all [cdAgree]; done))) H locs hM hS ls (lv_sub hl [0, 1] rfl)
    · refine lv_iconst (v := nI 1) hx hb dX1_agree_22 zi_1 ?_
      refine lv_goto (tgt := 27) hx hb dX1_agree_23 (by decide) ?_
      exact J_27 _ (congrArg (fun z : Bool => nI z.toNat) (show (true : Bool) = (decide ((g 7 1) = 2) && ((decide (g 16 (tn a1) ≠ 0)))) from by first | with_reducible rfl | (simp [c_1, c_9, c_10, cdAgree]; done) | (simp only [c_1, c_9, c_10] <;> simp [cdAgree]; done) | (simp only [cdAgree, c_1, c_9, c_10] <;> simp [cdAgree]; done) | (simp [c_1, c_9, c_10, cdAgree, Bool.and_assoc]; done) | (simp [c_1, c_9, c_10, cdAgree, Bool.and_assoc, Bool.or_assoc]; done) | rfl | (simp [c_1, c_9, c_10, cdAgree]; omega) | (simp_all [cdAgree]; done))) H locs hM hS ls (lv_sub hl [0, 1] rfl)
