/-! THE CLASS: what is checked, the robber's deed (printed by gen/x4.py) -/
def okN (x : Int32) (n : Nat) : Bool := decide (x = mI 0) || inB x n
theorem okN_3 (x : Int32) : okN x 3 = okV x := rfl
theorem okN_30 (x : Int32) : okN x 30 = okE x := rfl
theorem okN_eq {x : Int32} {n : Nat} (hn : n < 1048576) : inB (x + nI 1) (n + 1) = okN x n := by
  have key : okN x n = true → inB (x + nI 1) (n + 1) = true := by
    intro h
    unfold okN at h
    rw [Bool.or_eq_true, decide_eq_true_eq] at h
    rcases h with rfl | h
    · rw [show mI 0 + nI 1 = nI 0 from mI_p1 0, inB_nI (by omega) (by omega)]
      simp
    · obtain ⟨j, hj, rfl⟩ := inB_of (by omega) h
      rw [nI_add, inB_nI (by omega) (by omega)]
      simp; omega
  rw [Bool.eq_iff_iff]
  refine ⟨fun h => ?_, key⟩
  obtain ⟨j, hj, e⟩ := inB_of (by omega) h
  unfold okN
  rw [Bool.or_eq_true, decide_eq_true_eq]
  rcases Nat.eq_zero_or_pos j with rfl | hp
  · left
    have e2 : x = x + nI 1 - nI 1 := (Int32.add_sub_cancel x (nI 1)).symm
    rw [e2, e]; decide
  · right
    have e2 : x = x + nI 1 - nI 1 := (Int32.add_sub_cancel x (nI 1)).symm
    rw [e2, e, pk_sub (by omega), inB_nI (by omega) (by omega)]
    simp; omega
theorem okN_tv {x : Int32} {n : Nat} (hn : n < 1048576) (h : okN x n = true) : tv x ≤ n ∧ x = mI (tv x) := by
  unfold okN at h
  rw [Bool.or_eq_true, decide_eq_true_eq] at h
  rcases h with rfl | h
  · rw [tv_mI (by decide)]; exact ⟨Nat.zero_le _, rfl⟩
  · obtain ⟨j, hj, rfl⟩ := inB_of (by omega) h
    rw [← mI_succ, tv_mI (by omega)]
    exact ⟨by omega, rfl⟩
theorem inR_01 (c : Prop) [Decidable c] : inR (nI (if c then 0 else 1)) 0 0 = decide c := by
  by_cases h : c
  · rw [if_pos h]; simp [h]; decide
  · rw [if_neg h]; simp [h]; decide
theorem inR_10 (c : Prop) [Decidable c] : inR (nI (if c then 1 else 0)) 0 0 = !decide c := by
  by_cases h : c
  · rw [if_pos h]; simp [h]; decide
  · rw [if_neg h]; simp [h]; decide
theorem inR_B {x : Int32} {n : Nat} (hn : n + 1 < 2 ^ 31) : inR x 0 n = inB x (n + 1) := by
  rw [Bool.eq_iff_iff]
  constructor
  · intro h
    obtain ⟨j, _, hj, rfl⟩ := inR_of (by decide) (by omega) h
    rw [inB_nI (by omega) (by omega)]; simp; omega
  · intro h
    obtain ⟨j, hj, rfl⟩ := inB_of (by omega) h
    unfold inR
    have h1 := mt (nI_ltI (a := j) (b := 0) (by omega) (by omega)).mp (by omega)
    have h2 := mt (nI_ltI (a := n) (b := j) (by omega) (by omega)).mp (by omega)
    simp [h1, h2]
theorem inR_bt (b : Bool) : inR (nI (!b).toNat) 0 0 = b := by cases b <;> decide
theorem inR_bf (b : Bool) : inR (nI b.toNat) 0 0 = !b := by cases b <;> decide
theorem mI_add (a b : Nat) : mI a + nI b = mI (a + b) := by
  show nI a - 1 + nI b = nI (a + b) - 1
  rw [← nI_add]; grind
set_option maxHeartbeats 1000000 in
set_option maxRecDepth 100000 in
theorem cX_doRob (l : Launch) {D : va_G} {dA : Nat → ClassId} {cn : Nat → Nat} {A : Nat → Prop} {pa : NM → Nat} {g : G} {T : va_W} (hg : Sm g) (a1 : Nat) (a2 : Nat) (a3 : Nat) (h1 : a1 < 7) (h2 : a2 ≤ 3) (h3 : a3 < 1000) (ht : g 7 4 < 3) (hb4 : ∀ j, j < 20 → g 4 j ≤ 1000) (hv : g 8 1 ≤ 1900) (h4 : 0 < a2 → 0 < handN g (a2 - 1) 5) (H0 : Heap) (hM : XS D dA cn A pa g T H0) (hA : ∀ q, H0.size ≤ q → A q) {Post : Option Value → Heap → Prop} (hPost : ∀ H : Heap, XS D dA cn A pa (gRobX g a1 a2 a3) T H → Sm (gRobX g a1 a2 a3) → Post (some (.int (mI (if a2 = 0 then 0 else robK g (a2 - 1) (rX g a2 a3) + 1)))) H) : Ct l yX1_doRob (ws_ yX1_doRob cX1_doRob 6 (some .int)) (rmF 10 2 4004 524) A (KX D dA cn A) [.ref (pa (0, 0)), .int (nI a1), .int (mI a2), .int (nI a3)] H0 Post := by
  refine zc_of RX1 rfl (by decide) (Nat.le_of_ble_eq_true rfl) ?_
  intro pr en s m args below meth cd S hr hlk hnm hh hKX ls hl
  have hS : va_S A s.heap H0 [] := zc_start hh
  have hA : ∀ q, s.heap.size ≤ q → A q := fun q h => hA q (by rw [← hh]; exact h)
  have hg0 := hg
  have hx := S.1
  have hb := S.2.1
  have hown := S.2.2.2.1
  have hts := S.2.2.2.2
  have hK := hKX.1
  have hN := hKX.2.1.1
  have hl : lv_has ls 6 [(0, .ref (pa (0, 0))), (1, .int (nI a1)), (2, .int (mI a2)), (3, .int (nI a3))] := hl
  refine lv_aload_n hx hb dX1_doRob_0 rfl (lv_at hl 0 rfl) ?_
  refine lv_iload_n hx hb dX1_doRob_1 rfl (lv_at hl 1 rfl) ?_
  refine pX_robber S hK hM hS a1 dX1_doRob_2 (fun H locs hM hS => ?_)
  have hg : Sm (gs g 7 0 a1) := Sm_gs hg (by first | omega | exact Nat.lt_of_le_of_lt (Bool.toNat_le _) (by decide) | ((repeat' split) <;> omega))
  refine lv_iload_n hx hb dX1_doRob_5 rfl (lv_at hl 2 rfl) ?_
  refine lv_iconst (v := mI 0) hx hb dX1_doRob_6 zi_m1 ?_
  refine zr_icmp_neM (a := a2) (b := 0) (tgt := 12) hx hb (by omega) (by omega) dX1_doRob_7 (by decide) (fun c_1 => ?_) (fun c_1 => ?_)
  · refine lv_iload_n hx hb dX1_doRob_12 rfl (lv_at hl 3 rfl) ?_
    refine lv_aload_n hx hb dX1_doRob_13 rfl (lv_at hl 0 rfl) ?_
    refine lv_iload_n hx hb dX1_doRob_14 rfl (lv_at hl 2 rfl) ?_
    rw [mI_pred (show 0 < a2 from by omega)]
    refine kX_total S hKX hM hg hS (a2 - 1) (by first | omega | assumption | grind) (Nat.le_of_ble_eq_true rfl) (Nat.le_of_ble_eq_true rfl) hl.1 (Nat.le_of_ble_eq_true rfl) dX1_doRob_15 (Nat.le_of_ble_eq_true rfl) (Nat.le_of_ble_eq_true rfl) (fun locs hS => ?_)
    have f15_0 : handN (gs g 7 0 a1) (a2 - 1) 5 < 5242880 := handN_lt hg _
    rw [show handN (gs g 7 0 a1) (a2 - 1) 5 = handN g (a2 - 1) 5 from rfl]
    have hh4 := h4 (by omega)
    have hhl := handN_lt hg0 (a2 - 1)
    refine zr_remN (a := a3) (b := (handN g (a2 - 1) 5)) hx hb (by omega) (by omega) (by omega) dX1_doRob_18 ?_
    refine lv_istore (lv' := [(4, .int (nI (a3 % (handN g (a2 - 1) 5)))), (0, .ref (pa (0, 0))), (1, .int (nI a1)), (2, .int (mI a2)), (3, .int (nI a3))]) hx hb dX1_doRob_19 hl (by decide) rfl (fun ls hl => ?_)
    refine lv_iconst (v := nI 0) hx hb dX1_doRob_21 zi_0 ?_
    refine lv_istore (lv' := [(5, .int (nI 0)), (4, .int (nI (a3 % (handN g (a2 - 1) 5)))), (0, .ref (pa (0, 0))), (1, .int (nI a1)), (2, .int (mI a2)), (3, .int (nI a3))]) hx hb dX1_doRob_22 hl (by decide) rfl (fun ls hl => ?_)
    have L_24 : ∀ (n_24 : Nat) (x : Nat) (k : Nat), x + handN g (a2 - 1) k = rX g a2 a3 → k < 5 → 5 - k < n_24 → ∀ gLv : G, gLv = gs g 7 0 a1 → Sm gLv → ∀ (H : Heap) (locs : List Loc), XS D dA cn A pa gLv T H → va_S A s.heap H locs → ∀ ls : Array Slot, lv_has ls 6 [(0, .ref (pa (0, 0))), (2, .int (mI a2)), (4, .int (nI x)), (5, .int (nI k))] → W pr l en (rmF 10 2 4004 524) s m args below meth cd H locs (0) (0) (MQ below (zc_Q Post A) args s 2 4004 A) (F0 m 24 ls []) := by
      intro n_24
      induction n_24 with
      | zero => intro x k hxk hk5 hm_24; exact absurd hm_24 (Nat.not_lt_zero _)
      | succ n_24 ih_24 =>
        intro x k hxk hk5 hm_24 gLv egL hg H locs hM hS ls hl
        subst egL
        have hmh : rX g a2 a3 < handN g (a2 - 1) 5 := Nat.mod_lt a3 (h4 (by omega))
        have hhl2 := handN_lt hg0 (a2 - 1)
        have hbk := hb4 (5 * (a2 - 1) + k) (by omega)
        refine lv_iload hx hb dX1_doRob_24 (lv_at hl 2 rfl) ?_
        refine lv_aload_n hx hb dX1_doRob_26 rfl (lv_at hl 0 rfl) ?_
        refine gX_hands S hK hM dX1_doRob_27 ?_
        refine lv_iload_n hx hb dX1_doRob_30 rfl (lv_at hl 1 rfl) ?_
        rw [mI_pred (show 0 < a2 from by omega)]
        refine lX_hands S hK hM (a2 - 1) (by omega) dX1_doRob_31 ?_
        refine lv_iload hx hb dX1_doRob_32 (lv_at hl 3 rfl) ?_
        refine lX_hand S hK hM (a2 - 1) (by omega) k (by omega) (g 4 (5 * (a2 - 1) + k)) (by first | rfl | simp [gs]) dX1_doRob_34 ?_
        have hb_2 : g 4 (5 * (a2 - 1) + k) < 1048576 := by first | exact hg 4 (5 * (a2 - 1) + k) | exact hg0 _ _ | (have := hg 4 (5 * (a2 - 1) + k); omega) | omega
        refine zr_icmp_ltN (a := x) (b := (g 4 (5 * (a2 - 1) + k))) (tgt := 58) hx hb (by omega) (by omega) dX1_doRob_35 (by decide) (fun c_3 => ?_) (fun c_3 => ?_)
        · have hsk : handN g (a2 - 1) (k + 1) = handN g (a2 - 1) k + g 4 (5 * (a2 - 1) + k) := rfl
          have hKr := robK_is (g := g) (p := a2 - 1) (x := rX g a2 a3) hk5 (by omega) (by omega)
          have hbt := hb4 (5 * g 7 4 + k) (by omega)
          have hm4 : 1 ≤ gs g 7 0 a1 4 (5 * (a2 - 1) + k) := by show 1 ≤ g 4 (5 * (a2 - 1) + k); omega
          have hv8 : gs g 7 0 a1 8 1 ≤ 2000 := by show g 8 1 ≤ 2000; omega
          refine lv_aload_n hx hb dX1_doRob_58 rfl (lv_at hl 0 rfl) ?_
          refine lv_iload_n hx hb dX1_doRob_59 rfl (lv_at hl 1 rfl) ?_
          refine lv_aload_n hx hb dX1_doRob_60 rfl (lv_at hl 0 rfl) ?_
          refine gX_turn S hK hM (g 7 4) (by first | rfl | simp [gs]) dX1_doRob_61 ?_
          have hb_4 : g 7 4 < 1048576 := by first | exact hg 7 4 | exact hg0 _ _ | (have := hg 7 4; omega) | omega
          refine lv_iload hx hb dX1_doRob_64 (lv_at hl 3 rfl) ?_
          refine lv_iconst (v := nI 1) hx hb dX1_doRob_66 zi_1 ?_
          rw [mI_pred (show 0 < a2 from by omega)]
          refine kX_move S hKX hM hg hS (fun q h => hA q (Nat.le_trans hS.1 h)) (a2 - 1) (g 7 4) k 1 (by first | omega | assumption | grind) (by first | omega | assumption | grind) (by first | omega | assumption | grind) (by first | omega | assumption | grind) (by first | omega | assumption | grind) (by first | omega | assumption | grind) (by first | omega | assumption | grind) (Nat.le_of_ble_eq_true rfl) (Nat.le_of_ble_eq_true rfl) hl.1 (Nat.le_of_ble_eq_true rfl) dX1_doRob_67 (Nat.le_of_ble_eq_true rfl) (Nat.le_of_ble_eq_true rfl) (fun H locs hM hg hS => ?_)
          refine lv_iload hx hb dX1_doRob_70 (lv_at hl 3 rfl) ?_
          rw [show (mvX (gs g 7 0 a1) (a2 - 1) (g 7 4) k 1 : G) = gRobX g a1 a2 a3 from by first | (simp [gRobX, c_1, c_3, hKr]; done) | (rw [gRobX, if_neg (by omega), hKr]; rfl)] at hM hg
          exact zc_nret (mI (if a2 = 0 then 0 else robK g (a2 - 1) (rX g a2 a3) + 1)) ((mI_succ k).symm.trans (congrArg mI (show (k + 1 : Nat) = (if a2 = 0 then 0 else robK g (a2 - 1) (rX g a2 a3) + 1) from by first | with_reducible rfl | (simp [c_1, c_3, hKr, gRobX]; done) | (simp only [c_1, c_3, hKr] <;> simp [gRobX]; done) | (simp only [gRobX, c_1, c_3, hKr] <;> simp [gRobX]; done) | (simp [c_1, c_3, hKr, gRobX, Bool.and_assoc]; done) | (simp [c_1, c_3, hKr, gRobX, Bool.and_assoc, Bool.or_assoc]; done) | rfl | (simp [c_1, c_3, hKr, gRobX]; omega) | (simp_all [gRobX]; done)))) (hPost H hM hg) hS hx hb hr hlk (Nat.le_of_ble_eq_true rfl) (Nat.le_of_ble_eq_true rfl) dX1_doRob_72
        · have hsk : handN g (a2 - 1) (k + 1) = handN g (a2 - 1) k + g 4 (5 * (a2 - 1) + k) := rfl
          have hk1 : k + 1 < 5 := by
            rcases Nat.lt_or_ge (k + 1) 5 with q | q
            · exact q
            · exfalso; have := handN_mono (g := g) (p := a2 - 1) 5 (k + 1) q; omega
          refine lv_iload hx hb dX1_doRob_38 (lv_at hl 2 rfl) ?_
          refine lv_aload_n hx hb dX1_doRob_40 rfl (lv_at hl 0 rfl) ?_
          refine gX_hands S hK hM dX1_doRob_41 ?_
          refine lv_iload_n hx hb dX1_doRob_44 rfl (lv_at hl 1 rfl) ?_
          rw [mI_pred (show 0 < a2 from by omega)]
          refine lX_hands S hK hM (a2 - 1) (by omega) dX1_doRob_45 ?_
          refine lv_iload hx hb dX1_doRob_46 (lv_at hl 3 rfl) ?_
          refine lX_hand S hK hM (a2 - 1) (by omega) k (by omega) (g 4 (5 * (a2 - 1) + k)) (by first | rfl | simp [gs]) dX1_doRob_48 ?_
          have hb_5 : g 4 (5 * (a2 - 1) + k) < 1048576 := by first | exact hg 4 (5 * (a2 - 1) + k) | exact hg0 _ _ | (have := hg 4 (5 * (a2 - 1) + k); omega) | omega
          refine zr_subN (a := x) (b := (g 4 (5 * (a2 - 1) + k))) hx hb (by omega) dX1_doRob_49 ?_
          refine lv_istore (lv' := [(4, .int (nI (x - (g 4 (5 * (a2 - 1) + k))))), (0, .ref (pa (0, 0))), (2, .int (mI a2)), (5, .int (nI k))]) hx hb dX1_doRob_50 hl (by decide) rfl (fun ls hl => ?_)
          refine lv_iinc (v := nI (k + 1)) (lv' := [(5, .int (nI (k + 1))), (4, .int (nI (x - (g 4 (5 * (a2 - 1) + k))))), (0, .ref (pa (0, 0))), (2, .int (mI a2))]) hx hb dX1_doRob_52 hl (k := 3) rfl (zk_inc _) (by decide) rfl (fun ls hl => ?_)
          refine lv_goto (tgt := 24) hx hb dX1_doRob_55 (by decide) ?_
          exact ih_24 (x - (g 4 (5 * (a2 - 1) + k))) (k + 1) (by omega) (by omega) (by omega) (gs g 7 0 a1) (rfl) hg H locs hM hS ls (lv_sub hl [2, 3, 1, 0] rfl)
    exact L_24 _ (a3 % (handN g (a2 - 1) 5)) 0 (by rfl) (by first | omega | assumption | (simp; done) | grind) (Nat.lt_succ_self _) (gs g 7 0 a1) (rfl) hg H locs hM hS ls (lv_sub hl [2, 4, 1, 0] rfl)
  · refine lv_iconst (v := mI 0) hx hb dX1_doRob_10 zi_m1 ?_
    rw [show (gs g 7 0 a1 : G) = gRobX g a1 a2 a3 from by first | (simp [gRobX, c_1]; done) | (rw [gRobX, if_neg (by omega), hKr]; rfl)] at hM hg
    exact zc_nret (mI (if a2 = 0 then 0 else robK g (a2 - 1) (rX g a2 a3) + 1)) (congrArg mI (show (0 : Nat) = (if a2 = 0 then 0 else robK g (a2 - 1) (rX g a2 a3) + 1) from by first | with_reducible rfl | (simp [c_1, gRobX]; done) | (simp only [c_1] <;> simp [gRobX]; done) | (simp only [gRobX, c_1] <;> simp [gRobX]; done) | (simp [c_1, gRobX, Bool.and_assoc]; done) | (simp [c_1, gRobX, Bool.and_assoc, Bool.or_assoc]; done) | rfl | (simp [c_1, gRobX]; omega) | (simp_all [gRobX]; done))) (hPost H hM hg) hS hx hb hr hlk (Nat.le_of_ble_eq_true rfl) (Nat.le_of_ble_eq_true rfl) dX1_doRob_11
theorem kX_doRob {pr : Program} {l : Launch} {en : Env} {R : Room} {s : State} {m : MethodId} {args : Array Value} {below : List Frame} {meth : Method} {cd : Code} {H : Heap} {locs : List Loc} {cells slots : Nat} {cc : ByteArray} {pc nL : Nat} {ls : Array Slot} {rest : List Value} {D : va_G} {dA : Nat → ClassId} {cn : Nat → Nat} {A : Nat → Prop} {pa : NM → Nat} {g : G} {T : va_W} {Q : State → Prop} (S : CallFix pr m cd cc nL s args lw_all RX1) (hKX : KX D dA cn A s) (hM : XS D dA cn A pa g T H) (hg : Sm g) (hS : va_S A s.heap H locs) (hA : ∀ q, H.size ≤ q → A q) (a1 : Nat) (a2 : Nat) (a3 : Nat) (h1 : a1 < 7) (h2 : a2 ≤ 3) (h3 : a3 < 1000) (ht : g 7 4 < 3) (hb4 : ∀ j, j < 20 → g 4 j ≤ 1000) (hv : g 8 1 ≤ 1900) (h4 : 0 < a2 → 0 < handN g (a2 - 1) 5) (hf : 10 + 1 ≤ R.frames) (hlo : 8 + (6 + 11) + 524 ≤ R.locals) (hsz : ls.size = nL) (hcat : (rest.map fun v => v.category).sum ≤ 8) (hdg : decode cc pc = .ok (.invokevirtual 275, 3)) (hq1 : cells + 2 ≤ R.cells) (hq2 : slots + 4004 ≤ R.slots) (kk : ∀ (H1 : Heap) (locs1 : List Loc), XS D dA cn A pa (gRobX g a1 a2 a3) T H1 → Sm (gRobX g a1 a2 a3) → va_S A s.heap H1 locs1 → W pr l en R s m args below meth cd H1 locs1 (cells + 2) (slots + 4004) Q (F0 m (pc + 3) ls (.int (mI (if a2 = 0 then 0 else robK g (a2 - 1) (rX g a2 a3) + 1)) :: rest))) : W pr l en R s m args below meth cd H locs cells slots Q (F0 m pc ls (.int (nI a3) :: .int (mI a2) :: .int (nI a1) :: .ref (pa (0, 0)) :: rest)) :=
  zc_callV (n := 3) (As := [.int (nI a1), .int (mI a2), .int (nI a3)]) (rest := rest) S (cX_doRob l hg a1 a2 a3 h1 h2 h3 ht hb4 hv h4 H hM hA (Post := (fun v H1 => v = some (.int (mI (if a2 = 0 then 0 else robK g (a2 - 1) (rX g a2 a3) + 1))) ∧ XS D dA cn A pa (gRobX g a1 a2 a3) T H1 ∧ Sm (gRobX g a1 a2 a3))) (fun H1 h h2 => ⟨rfl, h, h2⟩)) (lw_V q712 q714 qs21 q71 q715) (by decide +kernel) ⟨hf, hlo⟩ ⟨hq1, hq2⟩ (zx_recv hKX.1 hM) KX_mv (zc_K KX_mv hKX hS) hS (fun _ h => h) rfl hsz rfl hcat hdg (fun v H1 locs1 hp _ _ hS1 => by obtain ⟨rfl, hM1, hg1⟩ := hp; exact kk H1 locs1 hM1 hg1 hS1)
set_option maxHeartbeats 1000000 in
set_option maxRecDepth 100000 in
theorem cX_check (l : Launch) (hfl : l.stackTraces = false) {D : va_G} {dA : Nat → ClassId} {cn : Nat → Nat} {A : Nat → Prop} {pa : NM → Nat} {g : G} {T : va_W} (hg : Sm g) (a1 : Int32) (a2 : Nat) (h2 : a2 < 1048576) (H0 : Heap) (hM : XS D dA cn A pa g T H0) (hA : ∀ q, H0.size ≤ q → A q) {Post : Option Value → Heap → Prop} {XPost : String → Heap → Prop} (hPost : (inB a1 a2) = true → ∀ H : Heap, XS D dA cn A pa g T H → Sm g → Post (none) H) (hXP : ¬ (inB a1 a2) = true → ∀ H : Heap, XS D dA cn A pa g T H → XPost (exS 1) H) : vCt l yX1_check (ws_ yX1_check cX1_check 2 none) (rmF 6 1 6 100) A (KX D dA cn A) [.int a1, .int (nI a2)] H0 Post XPost := by
  refine vc_of RX1 rfl (by decide) (Nat.le_of_ble_eq_true rfl) ?_
  intro pr en s m args below meth cd S hr hlk hnm hno hh hKX ls hl
  have hS : va_S A s.heap H0 [] := zc_start hh
  have hA : ∀ q, s.heap.size ≤ q → A q := fun q h => hA q (by rw [← hh]; exact h)
  have hg0 := hg
  have hx := S.1
  have hb := S.2.1
  have hown := S.2.2.2.1
  have hts := S.2.2.2.2
  have hK := hKX.1
  have hN := hKX.2.1.1
  have hl : lv_has ls 2 [(0, .int a1), (1, .int (nI a2))] := hl
  refine lv_iload_n hx hb dX1_check_0 rfl (lv_at hl 0 rfl) ?_
  refine lv_if_lt (tgt := 9) hx hb dX1_check_1 (by decide) (fun c_1 => ?_) (fun c_1 => ?_)
  · exact vc_throw_IOOBE S hfl hKX.2.1 hKX.2.2 hS hl.1 dX1_check_9 dX1_check_12 dX1_check_13 dX1_check_16 hno hlk (Nat.le_of_ble_eq_true rfl) (Nat.le_of_ble_eq_true rfl) (Nat.le_of_ble_eq_true rfl) (Nat.le_of_ble_eq_true rfl) (Nat.le_of_ble_eq_true rfl) (Nat.le_of_ble_eq_true rfl) (fun H1 h1 h2 => hXP (by first | (simp [c_1, inB]; done) | grind | (simp_all; done)) H1 (hM.old h2))
  · refine lv_iload_n hx hb dX1_check_4 rfl (lv_at hl 0 rfl) ?_
    refine lv_iload_n hx hb dX1_check_5 rfl (lv_at hl 1 rfl) ?_
    refine lv_icmp_lt (tgt := 17) hx hb dX1_check_6 (by decide) (fun c_2 => ?_) (fun c_2 => ?_)
    · exact vx_ret (zc_vret (hPost (by first | rfl | (simp only [c_1, c_2, inB, Bool.true_and, Bool.and_true, reduceIte]; done) | (simp [c_1, c_2, inB]; done) | grind | (simp_all; done)) H0 hM hg) hS hx hb hr hlk (Nat.le_of_ble_eq_true rfl) (Nat.le_of_ble_eq_true rfl) dX1_check_17)
    · exact vc_throw_IOOBE S hfl hKX.2.1 hKX.2.2 hS hl.1 dX1_check_9 dX1_check_12 dX1_check_13 dX1_check_16 hno hlk (Nat.le_of_ble_eq_true rfl) (Nat.le_of_ble_eq_true rfl) (Nat.le_of_ble_eq_true rfl) (Nat.le_of_ble_eq_true rfl) (Nat.le_of_ble_eq_true rfl) (Nat.le_of_ble_eq_true rfl) (fun H1 h1 h2 => hXP (by first | (simp [c_1, c_2, inB]; done) | grind | (simp_all; done)) H1 (hM.old h2))
theorem kX_check {pr : Program} {l : Launch} {en : Env} {R : Room} {s : State} {m : MethodId} {args : Array Value} {below : List Frame} {meth : Method} {cd : Code} {H : Heap} {locs : List Loc} {cells slots : Nat} {cc : ByteArray} {pc nL : Nat} {ls : Array Slot} {rest : List Value} {D : va_G} {dA : Nat → ClassId} {cn : Nat → Nat} {A : Nat → Prop} {pa : NM → Nat} {g : G} {T : va_W} {mc ms : Nat} {Post : Option Value → Heap → Prop} {XPost : String → Heap → Prop} (hfl : l.stackTraces = false) (S : CallFix pr m cd cc nL s args lw_all RX1) (hKX : KX D dA cn A s) (hM : XS D dA cn A pa g T H) (hg : Sm g) (hS : va_S A s.heap H locs) (hA : ∀ q, H.size ≤ q → A q) (a1 : Int32) (a2 : Nat) (h2 : a2 < 1048576) (hf : 6 + 1 ≤ R.frames) (hlo : 8 + (2 + 11) + 100 ≤ R.locals) (hsz : ls.size = nL) (hcat : (rest.map fun v => v.category).sum ≤ 8) (hdg : decode cc pc = .ok (.invokestatic 204, 3)) (hq1 : cells + 1 ≤ R.cells) (hq2 : slots + 6 ≤ R.slots) (hno : ∀ x ∈ cd.exceptionTable.toList, False) (hlk : meth.locks = false) (hmc : cells + 1 ≤ mc) (hms : slots + 6 ≤ ms) (hX : ¬ (inB a1 a2) = true → ∀ H1 : Heap, XS D dA cn A pa g T H1 → XPost (exS 1) H1) (kk : (inB a1 a2) = true → ∀ (H1 : Heap) (locs1 : List Loc), XS D dA cn A pa g T H1 → Sm g → va_S A s.heap H1 locs1 → W pr l en R s m args below meth cd H1 locs1 (cells + 1) (slots + 6) (vx_MQ below (zc_Q Post A) (vc_X XPost A) args s mc ms A) (F0 m (pc + 3) ls (rest))) : W pr l en R s m args below meth cd H locs cells slots (vx_MQ below (zc_Q Post A) (vc_X XPost A) args s mc ms A) (F0 m pc ls (.int (nI a2) :: .int a1 :: rest)) :=
  vc_callS (n := 2) (As := [.int a1, .int (nI a2)]) (rest := rest) S (cX_check l hfl hg a1 a2 h2 H hM hA (Post := (fun v H1 => v = none ∧ (inB a1 a2) = true ∧ XS D dA cn A pa g T H1 ∧ Sm g)) (XPost := fun E H1 => E = exS 1 ∧ ¬ (inB a1 a2) = true ∧ XS D dA cn A pa g T H1) (fun h0 H1 h h2 => ⟨rfl, h0, h, h2⟩) (fun h0 H1 h => ⟨rfl, h0, h⟩)) (lw_S q322 q323 q71 q324) (by decide +kernel) ⟨hf, hlo⟩ ⟨hq1, hq2⟩ KX_mv (zc_K KX_mv hKX hS) hS (fun _ h => h) rfl hsz rfl hcat hdg hno hlk (fun E H1 h => by obtain ⟨rfl, h0, hM1⟩ := h; exact hX h0 H1 hM1) hmc hms (fun v H1 locs1 hp _ _ hS1 => by obtain ⟨rfl, h0, hM1, hg1⟩ := hp; exact kk h0 H1 locs1 hM1 hg1 hS1)
set_option maxHeartbeats 1000000 in
set_option maxRecDepth 100000 in
theorem cX_checkOrNone (l : Launch) (hfl : l.stackTraces = false) {D : va_G} {dA : Nat → ClassId} {cn : Nat → Nat} {A : Nat → Prop} {pa : NM → Nat} {g : G} {T : va_W} (hg : Sm g) (a1 : Int32) (a2 : Nat) (h2 : a2 < 1000000) (H0 : Heap) (hM : XS D dA cn A pa g T H0) (hA : ∀ q, H0.size ≤ q → A q) {Post : Option Value → Heap → Prop} {XPost : String → Heap → Prop} (hPost : (okN a1 a2) = true → ∀ H : Heap, XS D dA cn A pa g T H → Sm g → Post (none) H) (hXP : ¬ (okN a1 a2) = true → ∀ H : Heap, XS D dA cn A pa g T H → XPost (exS 1) H) : vCt l yX1_checkOrNone (ws_ yX1_checkOrNone cX1_checkOrNone 2 none) (rmF 7 1 6 121) A (KX D dA cn A) [.int a1, .int (nI a2)] H0 Post XPost := by
  refine vc_of RX1 rfl (by decide) (Nat.le_of_ble_eq_true rfl) ?_
  intro pr en s m args below meth cd S hr hlk hnm hno hh hKX ls hl
  have hS : va_S A s.heap H0 [] := zc_start hh
  have hA : ∀ q, s.heap.size ≤ q → A q := fun q h => hA q (by rw [← hh]; exact h)
  have hg0 := hg
  have hx := S.1
  have hb := S.2.1
  have hown := S.2.2.2.1
  have hts := S.2.2.2.2
  have hK := hKX.1
  have hN := hKX.2.1.1
  have hl : lv_has ls 2 [(0, .int a1), (1, .int (nI a2))] := hl
  refine lv_iload_n hx hb dX1_checkOrNone_0 rfl (lv_at hl 0 rfl) ?_
  refine lv_iconst (v := nI 1) hx hb dX1_checkOrNone_1 zi_1 ?_
  refine lv_iadd hx hb dX1_checkOrNone_2 ?_
  refine lv_iload_n hx hb dX1_checkOrNone_3 rfl (lv_at hl 1 rfl) ?_
  refine lv_iconst (v := nI 1) hx hb dX1_checkOrNone_4 zi_1 ?_
  refine zr_addN (a := a2) (b := 1) hx hb dX1_checkOrNone_5 ?_
  refine kX_check hfl S hKX hM hg hS (fun q h => hA q (Nat.le_trans hS.1 h)) (a1 + (nI 1)) (a2 + 1) (by first | omega | assumption | grind) (Nat.le_of_ble_eq_true rfl) (Nat.le_of_ble_eq_true rfl) hl.1 (Nat.le_of_ble_eq_true rfl) dX1_checkOrNone_6 (Nat.le_of_ble_eq_true rfl) (Nat.le_of_ble_eq_true rfl) hno hlk (Nat.le_of_ble_eq_true rfl) (Nat.le_of_ble_eq_true rfl) (fun c_1 H1 hM1 => hXP (by first | (exact fun q => c_1 ((okN_eq (by omega)).trans q)) | (simp [c_1, okN_eq]; done) | grind | (simp_all; done)) H1 hM1) (fun c_1 H locs hM hg hS => ?_)
  exact vx_ret (zc_vret (hPost (by first | rfl | (exact (okN_eq (by omega)).symm.trans c_1) | (simp only [c_1, okN_eq, Bool.true_and, Bool.and_true, reduceIte]; done) | (simp [c_1, okN_eq]; done) | grind | (simp_all; done)) H hM hg) hS hx hb hr hlk (Nat.le_of_ble_eq_true rfl) (Nat.le_of_ble_eq_true rfl) dX1_checkOrNone_9)
theorem kX_checkOrNone {pr : Program} {l : Launch} {en : Env} {R : Room} {s : State} {m : MethodId} {args : Array Value} {below : List Frame} {meth : Method} {cd : Code} {H : Heap} {locs : List Loc} {cells slots : Nat} {cc : ByteArray} {pc nL : Nat} {ls : Array Slot} {rest : List Value} {D : va_G} {dA : Nat → ClassId} {cn : Nat → Nat} {A : Nat → Prop} {pa : NM → Nat} {g : G} {T : va_W} {mc ms : Nat} {Post : Option Value → Heap → Prop} {XPost : String → Heap → Prop} (hfl : l.stackTraces = false) (S : CallFix pr m cd cc nL s args lw_all RX1) (hKX : KX D dA cn A s) (hM : XS D dA cn A pa g T H) (hg : Sm g) (hS : va_S A s.heap H locs) (hA : ∀ q, H.size ≤ q → A q) (a1 : Int32) (a2 : Nat) (h2 : a2 < 1000000) (hf : 7 + 1 ≤ R.frames) (hlo : 8 + (2 + 11) + 121 ≤ R.locals) (hsz : ls.size = nL) (hcat : (rest.map fun v => v.category).sum ≤ 8) (hdg : decode cc pc = .ok (.invokestatic 269, 3)) (hq1 : cells + 1 ≤ R.cells) (hq2 : slots + 6 ≤ R.slots) (hno : ∀ x ∈ cd.exceptionTable.toList, False) (hlk : meth.locks = false) (hmc : cells + 1 ≤ mc) (hms : slots + 6 ≤ ms) (hX : ¬ (okN a1 a2) = true → ∀ H1 : Heap, XS D dA cn A pa g T H1 → XPost (exS 1) H1) (kk : (okN a1 a2) = true → ∀ (H1 : Heap) (locs1 : List Loc), XS D dA cn A pa g T H1 → Sm g → va_S A s.heap H1 locs1 → W pr l en R s m args below meth cd H1 locs1 (cells + 1) (slots + 6) (vx_MQ below (zc_Q Post A) (vc_X XPost A) args s mc ms A) (F0 m (pc + 3) ls (rest))) : W pr l en R s m args below meth cd H locs cells slots (vx_MQ below (zc_Q Post A) (vc_X XPost A) args s mc ms A) (F0 m pc ls (.int (nI a2) :: .int a1 :: rest)) :=
  vc_callS (n := 2) (As := [.int a1, .int (nI a2)]) (rest := rest) S (cX_checkOrNone l hfl hg a1 a2 h2 H hM hA (Post := (fun v H1 => v = none ∧ (okN a1 a2) = true ∧ XS D dA cn A pa g T H1 ∧ Sm g)) (XPost := fun E H1 => E = exS 1 ∧ ¬ (okN a1 a2) = true ∧ XS D dA cn A pa g T H1) (fun h0 H1 h h2 => ⟨rfl, h0, h, h2⟩) (fun h0 H1 h => ⟨rfl, h0, h⟩)) (lw_S q697 q698 q71 q699) (by decide +kernel) ⟨hf, hlo⟩ ⟨hq1, hq2⟩ KX_mv (zc_K KX_mv hKX hS) hS (fun _ h => h) rfl hsz rfl hcat hdg hno hlk (fun E H1 h => by obtain ⟨rfl, h0, hM1⟩ := h; exact hX h0 H1 hM1) hmc hms (fun v H1 locs1 hp _ _ hS1 => by obtain ⟨rfl, h0, hM1, hg1⟩ := hp; exact kk h0 H1 locs1 hM1 hg1 hS1)
set_option maxHeartbeats 1000000 in
set_option maxRecDepth 100000 in
theorem cX_checkRange (l : Launch) (hfl : l.stackTraces = false) {D : va_G} {dA : Nat → ClassId} {cn : Nat → Nat} {A : Nat → Prop} {pa : NM → Nat} {g : G} {T : va_W} (hg : Sm g) (a1 : Int32) (a2 : Nat) (a3 : Nat) (h2 : a2 < 1048576) (h3 : a3 < 1048576) (H0 : Heap) (hM : XS D dA cn A pa g T H0) (hA : ∀ q, H0.size ≤ q → A q) {Post : Option Value → Heap → Prop} {XPost : String → Heap → Prop} (hPost : (inR a1 a2 a3) = true → ∀ H : Heap, XS D dA cn A pa g T H → Sm g → Post (none) H) (hXP : ¬ (inR a1 a2 a3) = true → ∀ H : Heap, XS D dA cn A pa g T H → XPost (exS 2) H) : vCt l yX1_checkRange (ws_ yX1_checkRange cX1_checkRange 3 none) (rmF 6 1 6 100) A (KX D dA cn A) [.int a1, .int (nI a2), .int (nI a3)] H0 Post XPost := by
  refine vc_of RX1 rfl (by decide) (Nat.le_of_ble_eq_true rfl) ?_
  intro pr en s m args below meth cd S hr hlk hnm hno hh hKX ls hl
  have hS : va_S A s.heap H0 [] := zc_start hh
  have hA : ∀ q, s.heap.size ≤ q → A q := fun q h => hA q (by rw [← hh]; exact h)
  have hg0 := hg
  have hx := S.1
  have hb := S.2.1
  have hown := S.2.2.2.1
  have hts := S.2.2.2.2
  have hK := hKX.1
  have hN := hKX.2.1.1
  have hl : lv_has ls 3 [(0, .int a1), (1, .int (nI a2)), (2, .int (nI a3))] := hl
  refine lv_iload_n hx hb dX1_checkRange_0 rfl (lv_at hl 0 rfl) ?_
  refine lv_iload_n hx hb dX1_checkRange_1 rfl (lv_at hl 1 rfl) ?_
  refine lv_icmp_lt (tgt := 10) hx hb dX1_checkRange_2 (by decide) (fun c_1 => ?_) (fun c_1 => ?_)
  · exact vc_throw_IAE S hfl hKX.2.1 hKX.2.2 hS hl.1 dX1_checkRange_10 dX1_checkRange_13 dX1_checkRange_14 dX1_checkRange_17 hno hlk (Nat.le_of_ble_eq_true rfl) (Nat.le_of_ble_eq_true rfl) (Nat.le_of_ble_eq_true rfl) (Nat.le_of_ble_eq_true rfl) (Nat.le_of_ble_eq_true rfl) (Nat.le_of_ble_eq_true rfl) (fun H1 h1 h2 => hXP (by first | (simp [c_1, inR]; done) | grind | (simp_all; done)) H1 (hM.old h2))
  · refine lv_iload_n hx hb dX1_checkRange_5 rfl (lv_at hl 0 rfl) ?_
    refine lv_iload_n hx hb dX1_checkRange_6 rfl (lv_at hl 2 rfl) ?_
    refine lv_icmp_le (tgt := 18) hx hb dX1_checkRange_7 (by decide) (fun c_2 => ?_) (fun c_2 => ?_)
    · exact vx_ret (zc_vret (hPost (by first | rfl | (simp only [c_1, c_2, inR, Bool.true_and, Bool.and_true, reduceIte]; done) | (simp [c_1, c_2, inR]; done) | grind | (simp_all; done)) H0 hM hg) hS hx hb hr hlk (Nat.le_of_ble_eq_true rfl) (Nat.le_of_ble_eq_true rfl) dX1_checkRange_18)
    · exact vc_throw_IAE S hfl hKX.2.1 hKX.2.2 hS hl.1 dX1_checkRange_10 dX1_checkRange_13 dX1_checkRange_14 dX1_checkRange_17 hno hlk (Nat.le_of_ble_eq_true rfl) (Nat.le_of_ble_eq_true rfl) (Nat.le_of_ble_eq_true rfl) (Nat.le_of_ble_eq_true rfl) (Nat.le_of_ble_eq_true rfl) (Nat.le_of_ble_eq_true rfl) (fun H1 h1 h2 => hXP (by first | (simp [c_1, c_2, inR]; done) | grind | (simp_all; done)) H1 (hM.old h2))
theorem kX_checkRange {pr : Program} {l : Launch} {en : Env} {R : Room} {s : State} {m : MethodId} {args : Array Value} {below : List Frame} {meth : Method} {cd : Code} {H : Heap} {locs : List Loc} {cells slots : Nat} {cc : ByteArray} {pc nL : Nat} {ls : Array Slot} {rest : List Value} {D : va_G} {dA : Nat → ClassId} {cn : Nat → Nat} {A : Nat → Prop} {pa : NM → Nat} {g : G} {T : va_W} {mc ms : Nat} {Post : Option Value → Heap → Prop} {XPost : String → Heap → Prop} (hfl : l.stackTraces = false) (S : CallFix pr m cd cc nL s args lw_all RX1) (hKX : KX D dA cn A s) (hM : XS D dA cn A pa g T H) (hg : Sm g) (hS : va_S A s.heap H locs) (hA : ∀ q, H.size ≤ q → A q) (a1 : Int32) (a2 : Nat) (a3 : Nat) (h2 : a2 < 1048576) (h3 : a3 < 1048576) (hf : 6 + 1 ≤ R.frames) (hlo : 8 + (3 + 11) + 100 ≤ R.locals) (hsz : ls.size = nL) (hcat : (rest.map fun v => v.category).sum ≤ 8) (hdg : decode cc pc = .ok (.invokestatic 215, 3)) (hq1 : cells + 1 ≤ R.cells) (hq2 : slots + 6 ≤ R.slots) (hno : ∀ x ∈ cd.exceptionTable.toList, False) (hlk : meth.locks = false) (hmc : cells + 1 ≤ mc) (hms : slots + 6 ≤ ms) (hX : ¬ (inR a1 a2 a3) = true → ∀ H1 : Heap, XS D dA cn A pa g T H1 → XPost (exS 2) H1) (kk : (inR a1 a2 a3) = true → ∀ (H1 : Heap) (locs1 : List Loc), XS D dA cn A pa g T H1 → Sm g → va_S A s.heap H1 locs1 → W pr l en R s m args below meth cd H1 locs1 (cells + 1) (slots + 6) (vx_MQ below (zc_Q Post A) (vc_X XPost A) args s mc ms A) (F0 m (pc + 3) ls (rest))) : W pr l en R s m args below meth cd H locs cells slots (vx_MQ below (zc_Q Post A) (vc_X XPost A) args s mc ms A) (F0 m pc ls (.int (nI a3) :: .int (nI a2) :: .int a1 :: rest)) :=
  vc_callS (n := 3) (As := [.int a1, .int (nI a2), .int (nI a3)]) (rest := rest) S (cX_checkRange l hfl hg a1 a2 a3 h2 h3 H hM hA (Post := (fun v H1 => v = none ∧ (inR a1 a2 a3) = true ∧ XS D dA cn A pa g T H1 ∧ Sm g)) (XPost := fun E H1 => E = exS 2 ∧ ¬ (inR a1 a2 a3) = true ∧ XS D dA cn A pa g T H1) (fun h0 H1 h h2 => ⟨rfl, h0, h, h2⟩) (fun h0 H1 h => ⟨rfl, h0, h⟩)) (lw_S q346 q347 q71 q348) (by decide +kernel) ⟨hf, hlo⟩ ⟨hq1, hq2⟩ KX_mv (zc_K KX_mv hKX hS) hS (fun _ h => h) rfl hsz rfl hcat hdg hno hlk (fun E H1 h => by obtain ⟨rfl, h0, hM1⟩ := h; exact hX h0 H1 hM1) hmc hms (fun v H1 locs1 hp _ _ hS1 => by obtain ⟨rfl, h0, hM1, hg1⟩ := hp; exact kk h0 H1 locs1 hM1 hg1 hS1)
set_option maxHeartbeats 1000000 in
set_option maxRecDepth 100000 in
theorem cX_checkState (l : Launch) (hfl : l.stackTraces = false) {D : va_G} {dA : Nat → ClassId} {cn : Nat → Nat} {A : Nat → Prop} {pa : NM → Nat} {g : G} {T : va_W} (hg : Sm g) (a1 : Bool) (H0 : Heap) (hM : XS D dA cn A pa g T H0) (hA : ∀ q, H0.size ≤ q → A q) {Post : Option Value → Heap → Prop} {XPost : String → Heap → Prop} (hPost : a1 = true → ∀ H : Heap, XS D dA cn A pa g T H → Sm g → Post (none) H) (hXP : ¬ a1 = true → ∀ H : Heap, XS D dA cn A pa g T H → XPost (exS 3) H) : vCt l yX1_checkState (ws_ yX1_checkState cX1_checkState 1 none) (rmF 6 1 6 100) A (KX D dA cn A) [.int (nI (a1).toNat)] H0 Post XPost := by
  refine vc_of RX1 rfl (by decide) (Nat.le_of_ble_eq_true rfl) ?_
  intro pr en s m args below meth cd S hr hlk hnm hno hh hKX ls hl
  have hS : va_S A s.heap H0 [] := zc_start hh
  have hA : ∀ q, s.heap.size ≤ q → A q := fun q h => hA q (by rw [← hh]; exact h)
  have hg0 := hg
  have hx := S.1
  have hb := S.2.1
  have hown := S.2.2.2.1
  have hts := S.2.2.2.2
  have hK := hKX.1
  have hN := hKX.2.1.1
  have hl : lv_has ls 1 [(0, .int (nI (a1).toNat))] := hl
  refine lv_iload_n hx hb dX1_checkState_0 rfl (lv_at hl 0 rfl) ?_
  refine zr_if_neB (b := a1) (tgt := 12) hx hb dX1_checkState_1 (by decide) (fun c_1 => ?_) (fun c_1 => ?_)
  · exact vx_ret (zc_vret (hPost (by first | rfl | (simp only [c_1, Bool.true_and, Bool.and_true, reduceIte]; done) | (simp [c_1]; done) | grind | (simp_all; done)) H0 hM hg) hS hx hb hr hlk (Nat.le_of_ble_eq_true rfl) (Nat.le_of_ble_eq_true rfl) dX1_checkState_12)
  · exact vc_throw_ISE S hfl hKX.2.1 hKX.2.2 hS hl.1 dX1_checkState_4 dX1_checkState_7 dX1_checkState_8 dX1_checkState_11 hno hlk (Nat.le_of_ble_eq_true rfl) (Nat.le_of_ble_eq_true rfl) (Nat.le_of_ble_eq_true rfl) (Nat.le_of_ble_eq_true rfl) (Nat.le_of_ble_eq_true rfl) (Nat.le_of_ble_eq_true rfl) (fun H1 h1 h2 => hXP (by first | (simp [c_1]; done) | grind | (simp_all; done)) H1 (hM.old h2))
theorem kX_checkState {pr : Program} {l : Launch} {en : Env} {R : Room} {s : State} {m : MethodId} {args : Array Value} {below : List Frame} {meth : Method} {cd : Code} {H : Heap} {locs : List Loc} {cells slots : Nat} {cc : ByteArray} {pc nL : Nat} {ls : Array Slot} {rest : List Value} {D : va_G} {dA : Nat → ClassId} {cn : Nat → Nat} {A : Nat → Prop} {pa : NM → Nat} {g : G} {T : va_W} {mc ms : Nat} {Post : Option Value → Heap → Prop} {XPost : String → Heap → Prop} (hfl : l.stackTraces = false) (S : CallFix pr m cd cc nL s args lw_all RX1) (hKX : KX D dA cn A s) (hM : XS D dA cn A pa g T H) (hg : Sm g) (hS : va_S A s.heap H locs) (hA : ∀ q, H.size ≤ q → A q) (a1 : Bool) (hf : 6 + 1 ≤ R.frames) (hlo : 8 + (1 + 11) + 100 ≤ R.locals) (hsz : ls.size = nL) (hcat : (rest.map fun v => v.category).sum ≤ 8) (hdg : decode cc pc = .ok (.invokestatic 230, 3)) (hq1 : cells + 1 ≤ R.cells) (hq2 : slots + 6 ≤ R.slots) (hno : ∀ x ∈ cd.exceptionTable.toList, False) (hlk : meth.locks = false) (hmc : cells + 1 ≤ mc) (hms : slots + 6 ≤ ms) (hX : ¬ a1 = true → ∀ H1 : Heap, XS D dA cn A pa g T H1 → XPost (exS 3) H1) (kk : a1 = true → ∀ (H1 : Heap) (locs1 : List Loc), XS D dA cn A pa g T H1 → Sm g → va_S A s.heap H1 locs1 → W pr l en R s m args below meth cd H1 locs1 (cells + 1) (slots + 6) (vx_MQ below (zc_Q Post A) (vc_X XPost A) args s mc ms A) (F0 m (pc + 3) ls (rest))) : W pr l en R s m args below meth cd H locs cells slots (vx_MQ below (zc_Q Post A) (vc_X XPost A) args s mc ms A) (F0 m pc ls (.int (nI (a1).toNat) :: rest)) :=
  vc_callS (n := 1) (As := [.int (nI (a1).toNat)]) (rest := rest) S (cX_checkState l hfl hg a1 H hM hA (Post := (fun v H1 => v = none ∧ a1 = true ∧ XS D dA cn A pa g T H1 ∧ Sm g)) (XPost := fun E H1 => E = exS 3 ∧ ¬ a1 = true ∧ XS D dA cn A pa g T H1) (fun h0 H1 h h2 => ⟨rfl, h0, h, h2⟩) (fun h0 H1 h => ⟨rfl, h0, h⟩)) (lw_S q364 q365 q71 q366) (by decide +kernel) ⟨hf, hlo⟩ ⟨hq1, hq2⟩ KX_mv (zc_K KX_mv hKX hS) hS (fun _ h => h) rfl hsz rfl hcat hdg hno hlk (fun E H1 h => by obtain ⟨rfl, h0, hM1⟩ := h; exact hX h0 H1 hM1) hmc hms (fun v H1 locs1 hp _ _ hS1 => by obtain ⟨rfl, h0, hM1, hg1⟩ := hp; exact kk h0 H1 locs1 hM1 hg1 hS1)
set_option maxHeartbeats 1000000 in
set_option maxRecDepth 100000 in
theorem cX_checkGood (l : Launch) (hfl : l.stackTraces = false) {D : va_G} {dA : Nat → ClassId} {cn : Nat → Nat} {A : Nat → Prop} {pa : NM → Nat} {g : G} {T : va_W} (hg : Sm g) (a1 : Int32) (H0 : Heap) (hM : XS D dA cn A pa g T H0) (hA : ∀ q, H0.size ≤ q → A q) {Post : Option Value → Heap → Prop} {XPost : String → Heap → Prop} (hPost : (inB a1 5) = true → ∀ H : Heap, XS D dA cn A pa g T H → Sm g → Post (none) H) (hXP : ¬ (inB a1 5) = true → ∀ H : Heap, XS D dA cn A pa g T H → XPost (exS 2) H) : vCt l yX1_checkGood (ws_ yX1_checkGood cX1_checkGood 1 none) (rmF 7 1 6 122) A (KX D dA cn A) [.int a1] H0 Post XPost := by
  refine vc_of RX1 rfl (by decide) (Nat.le_of_ble_eq_true rfl) ?_
  intro pr en s m args below meth cd S hr hlk hnm hno hh hKX ls hl
  have hS : va_S A s.heap H0 [] := zc_start hh
  have hA : ∀ q, s.heap.size ≤ q → A q := fun q h => hA q (by rw [← hh]; exact h)
  have hg0 := hg
  have hx := S.1
  have hb := S.2.1
  have hown := S.2.2.2.1
  have hts := S.2.2.2.2
  have hK := hKX.1
  have hN := hKX.2.1.1
  have hl : lv_has ls 1 [(0, .int a1)] := hl
  refine lv_iload_n hx hb dX1_checkGood_0 rfl (lv_at hl 0 rfl) ?_
  refine lv_iconst (v := nI 0) hx hb dX1_checkGood_1 zi_0 ?_
  refine lv_iconst (v := nI 4) hx hb dX1_checkGood_2 zi_4 ?_
  refine kX_checkRange hfl S hKX hM hg hS (fun q h => hA q (Nat.le_trans hS.1 h)) a1 0 4 (by first | omega | assumption | grind) (by first | omega | assumption | grind) (Nat.le_of_ble_eq_true rfl) (Nat.le_of_ble_eq_true rfl) hl.1 (Nat.le_of_ble_eq_true rfl) dX1_checkGood_3 (Nat.le_of_ble_eq_true rfl) (Nat.le_of_ble_eq_true rfl) hno hlk (Nat.le_of_ble_eq_true rfl) (Nat.le_of_ble_eq_true rfl) (fun c_1 H1 hM1 => hXP (by first | (exact fun q => c_1 ((inR_B (n := 4) (by decide)).trans q)) | (simp [c_1, inR_B]; done) | grind | (simp_all; done)) H1 hM1) (fun c_1 H locs hM hg hS => ?_)
  obtain ⟨lj1, hj1, ea1⟩ := inR_tn (by decide) (by decide) c_1
  rw [ea1] at hl
  exact vx_ret (zc_vret (hPost (by first | rfl | (exact (inR_B (n := 4) (by decide)).symm.trans c_1) | (simp only [c_1, inR_B, Bool.true_and, Bool.and_true, reduceIte]; done) | (simp [c_1, inR_B]; done) | grind | (simp_all; done)) H hM hg) hS hx hb hr hlk (Nat.le_of_ble_eq_true rfl) (Nat.le_of_ble_eq_true rfl) dX1_checkGood_6)
theorem kX_checkGood {pr : Program} {l : Launch} {en : Env} {R : Room} {s : State} {m : MethodId} {args : Array Value} {below : List Frame} {meth : Method} {cd : Code} {H : Heap} {locs : List Loc} {cells slots : Nat} {cc : ByteArray} {pc nL : Nat} {ls : Array Slot} {rest : List Value} {D : va_G} {dA : Nat → ClassId} {cn : Nat → Nat} {A : Nat → Prop} {pa : NM → Nat} {g : G} {T : va_W} {mc ms : Nat} {Post : Option Value → Heap → Prop} {XPost : String → Heap → Prop} (hfl : l.stackTraces = false) (S : CallFix pr m cd cc nL s args lw_all RX1) (hKX : KX D dA cn A s) (hM : XS D dA cn A pa g T H) (hg : Sm g) (hS : va_S A s.heap H locs) (hA : ∀ q, H.size ≤ q → A q) (a1 : Int32) (hf : 7 + 1 ≤ R.frames) (hlo : 8 + (1 + 11) + 122 ≤ R.locals) (hsz : ls.size = nL) (hcat : (rest.map fun v => v.category).sum ≤ 8) (hdg : decode cc pc = .ok (.invokestatic 320, 3)) (hq1 : cells + 1 ≤ R.cells) (hq2 : slots + 6 ≤ R.slots) (hno : ∀ x ∈ cd.exceptionTable.toList, False) (hlk : meth.locks = false) (hmc : cells + 1 ≤ mc) (hms : slots + 6 ≤ ms) (hX : ¬ (inB a1 5) = true → ∀ H1 : Heap, XS D dA cn A pa g T H1 → XPost (exS 2) H1) (kk : (inB a1 5) = true → ∀ (H1 : Heap) (locs1 : List Loc), XS D dA cn A pa g T H1 → Sm g → va_S A s.heap H1 locs1 → W pr l en R s m args below meth cd H1 locs1 (cells + 1) (slots + 6) (vx_MQ below (zc_Q Post A) (vc_X XPost A) args s mc ms A) (F0 m (pc + 3) ls (rest))) : W pr l en R s m args below meth cd H locs cells slots (vx_MQ below (zc_Q Post A) (vc_X XPost A) args s mc ms A) (F0 m pc ls (.int a1 :: rest)) :=
  vc_callS (n := 1) (As := [.int a1]) (rest := rest) S (cX_checkGood l hfl hg a1 H hM hA (Post := (fun v H1 => v = none ∧ (inB a1 5) = true ∧ XS D dA cn A pa g T H1 ∧ Sm g)) (XPost := fun E H1 => E = exS 2 ∧ ¬ (inB a1 5) = true ∧ XS D dA cn A pa g T H1) (fun h0 H1 h h2 => ⟨rfl, h0, h, h2⟩) (fun h0 H1 h => ⟨rfl, h0, h⟩)) (lw_S q850 q851 q71 q852) (by decide +kernel) ⟨hf, hlo⟩ ⟨hq1, hq2⟩ KX_mv (zc_K KX_mv hKX hS) hS (fun _ h => h) rfl hsz rfl hcat hdg hno hlk (fun E H1 h => by obtain ⟨rfl, h0, hM1⟩ := h; exact hX h0 H1 hM1) hmc hms (fun v H1 locs1 hp _ _ hS1 => by obtain ⟨rfl, h0, hM1, hg1⟩ := hp; exact kk h0 H1 locs1 hM1 hg1 hS1)
set_option maxHeartbeats 1000000 in
set_option maxRecDepth 100000 in
theorem cX_checkBuilding (l : Launch) (hfl : l.stackTraces = false) {D : va_G} {dA : Nat → ClassId} {cn : Nat → Nat} {A : Nat → Prop} {pa : NM → Nat} {g : G} {T : va_W} (hg : Sm g) (a1 : Bool) (a2 : Nat) (ht : g 7 4 < 3) (h2 : a2 < 1048576) (H0 : Heap) (hM : XS D dA cn A pa g T H0) (hA : ∀ q, H0.size ≤ q → A q) {Post : Option Value → Heap → Prop} {XPost : String → Heap → Prop} (hPost : (decide (g 7 1 = 2) && (a1 && hasG g (g 7 4) a2)) = true → ∀ H : Heap, XS D dA cn A pa g T H → Sm g → Post (none) H) (hXP : ¬ (decide (g 7 1 = 2) && (a1 && hasG g (g 7 4) a2)) = true → ∀ H : Heap, XS D dA cn A pa g T H → XPost (exS 3) H) : vCt l yX1_checkBuilding (ws_ yX1_checkBuilding cX1_checkBuilding 3 none) (rmF 7 1 6 120) A (KX D dA cn A) [.ref (pa (0, 0)), .int (nI (a1).toNat), .int (nI a2)] H0 Post XPost := by
  refine vc_of RX1 rfl (by decide) (Nat.le_of_ble_eq_true rfl) ?_
  intro pr en s m args below meth cd S hr hlk hnm hno hh hKX ls hl
  have hS : va_S A s.heap H0 [] := zc_start hh
  have hA : ∀ q, s.heap.size ≤ q → A q := fun q h => hA q (by rw [← hh]; exact h)
  have hg0 := hg
  have hx := S.1
  have hb := S.2.1
  have hown := S.2.2.2.1
  have hts := S.2.2.2.2
  have hK := hKX.1
  have hN := hKX.2.1.1
  have hl : lv_has ls 3 [(0, .ref (pa (0, 0))), (1, .int (nI (a1).toNat)), (2, .int (nI a2))] := hl
  refine lv_aload_n hx hb dX1_checkBuilding_0 rfl (lv_at hl 0 rfl) ?_
  refine gX_phase S hK hM (g 7 1) rfl dX1_checkBuilding_1 ?_
  have hb_1 : g 7 1 < 1048576 := by first | exact hg 7 1 | exact hg0 _ _ | (have := hg 7 1; omega) | omega
  refine lv_iconst (v := nI 2) hx hb dX1_checkBuilding_4 zi_2 ?_
  have J_29 : ∀ yS0_29 : Int32, yS0_29 = nI (decide ((g 7 1) = 2) && (a1 && ((hasG g (g 7 4) a2)))).toNat → ∀ (H : Heap) (locs : List Loc), XS D dA cn A pa g T H → va_S A s.heap H locs → ∀ ls : Array Slot, lv_has ls 3 [] → W pr l en (rmF 7 1 6 120) s m args below meth cd H locs (0) (0) (vx_MQ below (zc_Q Post A) (vc_X XPost A) args s 1 6 A) (F0 m 29 ls [.int yS0_29]) := by
    intro yS0_29 eyS0_29 H locs hM hS ls hl
    subst eyS0_29
    refine kX_checkState hfl S hKX hM hg hS (fun q h => hA q (Nat.le_trans hS.1 h)) (decide ((g 7 1) = 2) && (a1 && ((hasG g (g 7 4) a2))))  (Nat.le_of_ble_eq_true rfl) (Nat.le_of_ble_eq_true rfl) hl.1 (Nat.le_of_ble_eq_true rfl) dX1_checkBuilding_29 (Nat.le_of_ble_eq_true rfl) (Nat.le_of_ble_eq_true rfl) hno hlk (Nat.le_of_ble_eq_true rfl) (Nat.le_of_ble_eq_true rfl) (fun c_6 H1 hM1 => hXP (by first | (simp [c_6]; done) | grind | (simp_all; done)) H1 hM1) (fun c_6 H locs hM hg hS => ?_)
    exact vx_ret (zc_vret (hPost (by first | rfl | (simp only [c_6, Bool.true_and, Bool.and_true, reduceIte]; done) | (simp [c_6]; done) | grind | (simp_all; done)) H hM hg) hS hx hb hr hlk (Nat.le_of_ble_eq_true rfl) (Nat.le_of_ble_eq_true rfl) dX1_checkBuilding_32)
  refine zr_icmp_neN (a := (g 7 1)) (b := 2) (tgt := 28) hx hb (by omega) (by omega) dX1_checkBuilding_5 (by decide) (fun c_7 => ?_) (fun c_7 => ?_)
  · refine lv_iconst (v := nI 0) hx hb dX1_checkBuilding_28 zi_0 ?_
    exact J_29 _ (congrArg (fun z : Bool => nI z.toNat) (show (false : Bool) = (decide ((g 7 1) = 2) && (a1 && ((hasG g (g 7 4) a2)))) from by first | with_reducible rfl | (simp [c_7]; done) | (simp only [c_7] <;> simp []; done) | (simp [c_7, Bool.and_assoc]; done) | (simp [c_7, Bool.and_assoc, Bool.or_assoc]; done) | rfl | (simp [c_7]; omega) | (simp_all []; done))) H0 [] hM hS ls (lv_sub hl [] rfl)
  · refine lv_iload_n hx hb dX1_checkBuilding_8 rfl (lv_at hl 1 rfl) ?_
    refine zr_if_eqB (b := a1) (tgt := 28) hx hb dX1_checkBuilding_9 (by decide) (fun c_8 => ?_) (fun c_8 => ?_)
    · refine lv_iconst (v := nI 0) hx hb dX1_checkBuilding_28 zi_0 ?_
      exact J_29 _ (congrArg (fun z : Bool => nI z.toNat) (show (false : Bool) = (decide ((g 7 1) = 2) && (a1 && ((hasG g (g 7 4) a2)))) from by first | with_reducible rfl | (simp [c_7, c_8]; done) | (simp only [c_7, c_8] <;> simp []; done) | (simp [c_7, c_8, Bool.and_assoc]; done) | (simp [c_7, c_8, Bool.and_assoc, Bool.or_assoc]; done) | rfl | (simp [c_7, c_8]; omega) | (simp_all []; done))) H0 [] hM hS ls (lv_sub hl [] rfl)
    · refine lv_aload_n hx hb dX1_checkBuilding_12 rfl (lv_at hl 0 rfl) ?_
      refine lv_aload_n hx hb dX1_checkBuilding_13 rfl (lv_at hl 0 rfl) ?_
      refine gX_turn S hK hM (g 7 4) rfl dX1_checkBuilding_14 ?_
      have hb_9 : g 7 4 < 1048576 := by first | exact hg 7 4 | exact hg0 _ _ | (have := hg 7 4; omega) | omega
      refine lv_iload_n hx hb dX1_checkBuilding_17 rfl (lv_at hl 2 rfl) ?_
      refine kX_hasGoods S hKX hM hg hS (g 7 4) a2 (by first | omega | assumption | grind) (by first | omega | assumption | grind) (Nat.le_of_ble_eq_true rfl) (Nat.le_of_ble_eq_true rfl) hl.1 (Nat.le_of_ble_eq_true rfl) dX1_checkBuilding_18 (Nat.le_of_ble_eq_true rfl) (Nat.le_of_ble_eq_true rfl) (fun locs hS => ?_)
      refine zr_if_eqB (b := hasG g (g 7 4) a2) (tgt := 28) hx hb dX1_checkBuilding_21 (by decide) (fun c_10 => ?_) (fun c_10 => ?_)
      · refine lv_iconst (v := nI 0) hx hb dX1_checkBuilding_28 zi_0 ?_
        exact J_29 _ (congrArg (fun z : Bool => nI z.toNat) (show (false : Bool) = (decide ((g 7 1) = 2) && (a1 && ((hasG g (g 7 4) a2)))) from by first | with_reducible rfl | (simp [c_7, c_8, c_10]; done) | (simp only [c_7, c_8, c_10] <;> simp []; done) | (simp [c_7, c_8, c_10, Bool.and_assoc]; done) | (simp [c_7, c_8, c_10, Bool.and_assoc, Bool.or_assoc]; done) | rfl | (simp [c_7, c_8, c_10]; omega) | (simp_all []; done))) H0 locs hM hS ls (lv_sub hl [] rfl)
      · refine lv_iconst (v := nI 1) hx hb dX1_checkBuilding_24 zi_1 ?_
        refine lv_goto (tgt := 29) hx hb dX1_checkBuilding_25 (by decide) ?_
        exact J_29 _ (congrArg (fun z : Bool => nI z.toNat) (show (true : Bool) = (decide ((g 7 1) = 2) && (a1 && ((hasG g (g 7 4) a2)))) from by first | with_reducible rfl | (simp [c_7, c_8, c_10]; done) | (simp only [c_7, c_8, c_10] <;> simp []; done) | (simp [c_7, c_8, c_10, Bool.and_assoc]; done) | (simp [c_7, c_8, c_10, Bool.and_assoc, Bool.or_assoc]; done) | rfl | (simp [c_7, c_8, c_10]; omega) | (simp_all []; done))) H0 locs hM hS ls (lv_sub hl [] rfl)
theorem kX_checkBuilding {pr : Program} {l : Launch} {en : Env} {R : Room} {s : State} {m : MethodId} {args : Array Value} {below : List Frame} {meth : Method} {cd : Code} {H : Heap} {locs : List Loc} {cells slots : Nat} {cc : ByteArray} {pc nL : Nat} {ls : Array Slot} {rest : List Value} {D : va_G} {dA : Nat → ClassId} {cn : Nat → Nat} {A : Nat → Prop} {pa : NM → Nat} {g : G} {T : va_W} {mc ms : Nat} {Post : Option Value → Heap → Prop} {XPost : String → Heap → Prop} (hfl : l.stackTraces = false) (S : CallFix pr m cd cc nL s args lw_all RX1) (hKX : KX D dA cn A s) (hM : XS D dA cn A pa g T H) (hg : Sm g) (hS : va_S A s.heap H locs) (hA : ∀ q, H.size ≤ q → A q) (a1 : Bool) (a2 : Nat) (ht : g 7 4 < 3) (h2 : a2 < 1048576) (hf : 7 + 1 ≤ R.frames) (hlo : 8 + (3 + 11) + 120 ≤ R.locals) (hsz : ls.size = nL) (hcat : (rest.map fun v => v.category).sum ≤ 8) (hdg : decode cc pc = .ok (.invokevirtual 281, 3)) (hq1 : cells + 1 ≤ R.cells) (hq2 : slots + 6 ≤ R.slots) (hno : ∀ x ∈ cd.exceptionTable.toList, False) (hlk : meth.locks = false) (hmc : cells + 1 ≤ mc) (hms : slots + 6 ≤ ms) (hX : ¬ (decide (g 7 1 = 2) && (a1 && hasG g (g 7 4) a2)) = true → ∀ H1 : Heap, XS D dA cn A pa g T H1 → XPost (exS 3) H1) (kk : (decide (g 7 1 = 2) && (a1 && hasG g (g 7 4) a2)) = true → ∀ (H1 : Heap) (locs1 : List Loc), XS D dA cn A pa g T H1 → Sm g → va_S A s.heap H1 locs1 → W pr l en R s m args below meth cd H1 locs1 (cells + 1) (slots + 6) (vx_MQ below (zc_Q Post A) (vc_X XPost A) args s mc ms A) (F0 m (pc + 3) ls (rest))) : W pr l en R s m args below meth cd H locs cells slots (vx_MQ below (zc_Q Post A) (vc_X XPost A) args s mc ms A) (F0 m pc ls (.int (nI a2) :: .int (nI (a1).toNat) :: .ref (pa (0, 0)) :: rest)) :=
  vc_callV (n := 2) (As := [.int (nI (a1).toNat), .int (nI a2)]) (rest := rest) S (cX_checkBuilding l hfl hg a1 a2 ht h2 H hM hA (Post := (fun v H1 => v = none ∧ (decide (g 7 1 = 2) && (a1 && hasG g (g 7 4) a2)) = true ∧ XS D dA cn A pa g T H1 ∧ Sm g)) (XPost := fun E H1 => E = exS 3 ∧ ¬ (decide (g 7 1 = 2) && (a1 && hasG g (g 7 4) a2)) = true ∧ XS D dA cn A pa g T H1) (fun h0 H1 h h2 => ⟨rfl, h0, h, h2⟩) (fun h0 H1 h => ⟨rfl, h0, h⟩)) (lw_V q735 q737 qs25 q71 q738) (by decide +kernel) ⟨hf, hlo⟩ ⟨hq1, hq2⟩ (zx_recv hKX.1 hM) KX_mv (zc_K KX_mv hKX hS) hS (fun _ h => h) rfl hsz rfl hcat hdg hno hlk (fun E H1 h => by obtain ⟨rfl, h0, hM1⟩ := h; exact hX h0 H1 hM1) hmc hms (fun v H1 locs1 hp _ _ hS1 => by obtain ⟨rfl, h0, hM1, hg1⟩ := hp; exact kk h0 H1 locs1 hM1 hg1 hS1)
