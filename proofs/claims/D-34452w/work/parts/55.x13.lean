/-! Hex.has (printed by gen/x13.py) -/
set_option maxHeartbeats 1000000 in
set_option maxRecDepth 100000 in
theorem c_X2_has (l : Launch) {D : va_G} {dA : Nat → ClassId} {cn : Nat → Nat} {A : Nat → Prop} {a b h c : Nat} {v1 v2 : Int32} (hh9 : h < 7) (hc : c < 24) (H0 : Heap) (hM : va_P D clA [(a, .inr (1, [.ref b, .int v1, .int v2])), (b, xI dA 6 (fun k => nI (cornA h k)))] H0) {Post : Option Value → Heap → Prop} (hPost : Post (some (.int (nI (anyN 6 (fun k => decide (cornA h k = c))).toNat))) H0) : Ct l yX2_has (ws_ yX2_has cX2_has 7 (some .boolean)) (rmF 1 0 0 18) A (KX D dA cn A) [.ref a, .int (nI c)] H0 Post := by
  refine zc_of RX2 rfl (by decide) (Nat.le_of_ble_eq_true rfl) ?_
  intro pr en s m args below meth cd S hr hlk hnm hh hKX ls hl
  have hS : va_S A s.heap H0 [] := zc_start hh
  have hx := S.1
  have hb := S.2.1
  have hown := S.2.2.2.1
  have hts := S.2.2.2.2
  have hK := hKX.1
  have hl : lv_has ls 7 [(0, .ref a), (1, .int (nI c))] := hl
  refine lv_iconst (v := nI 0) hx hb dX2_has_0 zi_0 ?_
  refine lv_istore_n (lv' := [(2, .int (nI 0)), (0, .ref a), (1, .int (nI c))]) hx hb dX2_has_1 rfl hl (by decide) rfl (fun ls hl => ?_)
  refine lv_aload_n hx hb dX2_has_2 rfl (lv_at hl 1 rfl) ?_
  refine va_get (D := D) (ci := 1) (C := RX2) (T := TX2) (N := 3) hx hb hts in_X2 hown hK hM 0 rfl rfl 0 (by decide) (hts _ q149) (fun _ h9 => h9) rfl dX2_has_3 ?_
  refine lv_astore_n (lv' := [(3, .ref b), (2, .int (nI 0)), (0, .ref a), (1, .int (nI c))]) hx hb dX2_has_6 rfl hl (by decide) rfl (fun ls hl => ?_)
  refine lv_aload_n hx hb dX2_has_7 rfl (lv_at hl 0 rfl) ?_
  refine va_alen (D := D) hx hb hK hM 1 0 rfl rfl (v := nI 6) rfl dX2_has_8 ?_
  refine lv_istore (lv' := [(4, .int (nI 6)), (3, .ref b), (2, .int (nI 0)), (0, .ref a), (1, .int (nI c))]) hx hb dX2_has_9 hl (by decide) rfl (fun ls hl => ?_)
  refine lv_iconst (v := nI 0) hx hb dX2_has_11 zi_0 ?_
  refine lv_istore (lv' := [(5, .int (nI 0)), (4, .int (nI 6)), (3, .ref b), (2, .int (nI 0)), (0, .ref a), (1, .int (nI c))]) hx hb dX2_has_12 hl (by decide) rfl (fun ls hl => ?_)
  have L_14 : ∀ (n_14 : Nat) (i : Nat), i ≤ 6 → 6 - i < n_14 → ∀ x2_14 : Int32, x2_14 = nI (anyN i (fun k => decide (cornA h k = c))).toNat → ∀ (locs : List Loc), va_S A s.heap H0 locs → ∀ ls : Array Slot, lv_has ls 7 [(1, .int (nI c)), (2, .int x2_14), (3, .ref b), (4, .int (nI 6)), (5, .int (nI i))] → W pr l en (rmF 1 0 0 18) s m args below meth cd H0 locs (0) (0) (MQ below (zc_Q Post A) args s 0 0 A) (F0 m 14 ls []) := by
    intro n_14
    induction n_14 with
    | zero => intro i hi_14 hm_14; exact absurd hm_14 (Nat.not_lt_zero _)
    | succ n_14 ih_14 =>
      intro i hi_14 hm_14 x2_14 ex2_14 locs hS ls hl
      subst ex2_14
      refine lv_iload hx hb dX2_has_14 (lv_at hl 4 rfl) ?_
      refine lv_iload hx hb dX2_has_16 (lv_at hl 3 rfl) ?_
      refine zr_icmp_geN (a := i) (b := 6) (tgt := 47) hx hb (by omega) (by omega) dX2_has_18 (by decide) (fun c_1 => ?_) (fun c_1 => ?_)
      · have e_i : 6 = i := by omega
        subst e_i
        refine lv_iload_n hx hb dX2_has_47 rfl (lv_at hl 1 rfl) ?_
        exact zc_bret (anyN 6 (fun k => decide (cornA h k = c))) rfl hPost hS hx hb hr hlk (Nat.le_of_ble_eq_true rfl) (Nat.le_of_ble_eq_true rfl) dX2_has_48
      · refine lv_aload_n hx hb dX2_has_21 rfl (lv_at hl 2 rfl) ?_
        refine lv_iload hx hb dX2_has_22 (lv_at hl 4 rfl) ?_
        refine va_iald (D := D) hx hb hK hM 1 0 rfl rfl (vp_in_nI (show i < 6 by omega) (by decide)) dX2_has_24 ?_
        rw [nI_clamp (show i < 2 ^ 31 by omega)]
        have hb_2 : cornA h i < 24 := cornA_lt hh9 (by omega)
        refine lv_istore (lv' := [(6, .int (nI (cornA h i))), (1, .int (nI c)), (2, .int (nI (anyN i (fun k => decide (cornA h k = c))).toNat)), (3, .ref b), (4, .int (nI 6)), (5, .int (nI i))]) hx hb dX2_has_25 hl (by decide) rfl (fun ls hl => ?_)
        refine lv_iload_n hx hb dX2_has_27 rfl (lv_at hl 2 rfl) ?_
        refine lv_iload hx hb dX2_has_28 (lv_at hl 0 rfl) ?_
        refine lv_iload_n hx hb dX2_has_30 rfl (lv_at hl 1 rfl) ?_
        have J_39 : ∀ yS0_39 : Int32, yS0_39 = nI (decide ((cornA h i) = c)).toNat → ∀ (locs : List Loc), va_S A s.heap H0 locs → ∀ ls : Array Slot, lv_has ls 7 [(1, .int (nI c)), (3, .ref b), (4, .int (nI 6)), (5, .int (nI i))] → W pr l en (rmF 1 0 0 18) s m args below meth cd H0 locs (0) (0) (MQ below (zc_Q Post A) args s 0 0 A) (F0 m 39 ls [.int yS0_39, .int (nI (anyN i (fun k => decide (cornA h k = c))).toNat)]) := by
          intro yS0_39 eyS0_39 locs hS ls hl
          subst eyS0_39
          refine zr_orB (a := anyN i (fun k => decide (cornA h k = c))) (b := decide ((cornA h i) = c)) hx hb dX2_has_39 ?_
          refine lv_istore_n (lv' := [(2, .int (nI ((anyN i (fun k => decide (cornA h k = c))) || (decide ((cornA h i) = c))).toNat)), (1, .int (nI c)), (3, .ref b), (4, .int (nI 6)), (5, .int (nI i))]) hx hb dX2_has_40 rfl hl (by decide) rfl (fun ls hl => ?_)
          refine lv_iinc (v := nI (i + 1)) (lv' := [(5, .int (nI (i + 1))), (2, .int (nI ((anyN i (fun k => decide (cornA h k = c))) || (decide ((cornA h i) = c))).toNat)), (1, .int (nI c)), (3, .ref b), (4, .int (nI 6))]) hx hb dX2_has_41 hl (k := 4) rfl (zk_inc _) (by decide) rfl (fun ls hl => ?_)
          refine lv_goto (tgt := 14) hx hb dX2_has_44 (by decide) ?_
          exact ih_14 (i + 1) (by first | omega | assumption | (simp; done) | grind) (by omega) _ (congrArg (fun z : Bool => nI z.toNat) (show ((anyN i (fun k => decide (cornA h k = c))) || (decide ((cornA h i) = c)) : Bool) = (anyN (i + 1) (fun k => decide (cornA h k = c))) from by first | with_reducible rfl | (simp [c_1, anyN, anyN]; done) | (simp only [c_1] <;> simp [anyN, anyN]; done) | (simp only [anyN, anyN, c_1] <;> simp [anyN, anyN]; done) | (simp [c_1, anyN, anyN, Bool.and_assoc]; done) | (simp [c_1, anyN, anyN, Bool.and_assoc, Bool.or_assoc]; done) | rfl | (simp [c_1, anyN, anyN]; omega) | (simp_all [anyN, anyN]; done))) locs hS ls (lv_sub hl [2, 1, 3, 4, 0] rfl)
        refine zr_icmp_neN (a := (cornA h i)) (b := c) (tgt := 38) hx hb (by omega) (by omega) dX2_has_31 (by decide) (fun c_4 => ?_) (fun c_4 => ?_)
        · refine lv_iconst (v := nI 0) hx hb dX2_has_38 zi_0 ?_
          exact J_39 _ (congrArg (fun z : Bool => nI z.toNat) (show (false : Bool) = (decide ((cornA h i) = c)) from by first | with_reducible rfl | (simp [c_1, c_4, anyN]; done) | (simp only [c_1, c_4] <;> simp [anyN]; done) | (simp only [anyN, c_1, c_4] <;> simp [anyN]; done) | (simp [c_1, c_4, anyN, Bool.and_assoc]; done) | (simp [c_1, c_4, anyN, Bool.and_assoc, Bool.or_assoc]; done) | rfl | (simp [c_1, c_4, anyN]; omega) | (simp_all [anyN]; done))) locs hS ls (lv_sub hl [1, 3, 4, 5] rfl)
        · refine lv_iconst (v := nI 1) hx hb dX2_has_34 zi_1 ?_
          refine lv_goto (tgt := 39) hx hb dX2_has_35 (by decide) ?_
          exact J_39 _ (congrArg (fun z : Bool => nI z.toNat) (show (true : Bool) = (decide ((cornA h i) = c)) from by first | with_reducible rfl | (simp [c_1, c_4, anyN]; done) | (simp only [c_1, c_4] <;> simp [anyN]; done) | (simp only [anyN, c_1, c_4] <;> simp [anyN]; done) | (simp [c_1, c_4, anyN, Bool.and_assoc]; done) | (simp [c_1, c_4, anyN, Bool.and_assoc, Bool.or_assoc]; done) | rfl | (simp [c_1, c_4, anyN]; omega) | (simp_all [anyN]; done))) locs hS ls (lv_sub hl [1, 3, 4, 5] rfl)
  exact L_14 _ 0 (by first | omega | assumption | (simp; done) | grind) (Nat.lt_succ_self _) _ (congrArg (fun z : Bool => nI z.toNat) (show (false : Bool) = (anyN 0 (fun k => decide (cornA h k = c))) from by first | with_reducible rfl | (simp [anyN, anyN]; done) | (simp [anyN, anyN, Bool.and_assoc]; done) | (simp [anyN, anyN, Bool.and_assoc, Bool.or_assoc]; done) | rfl | (simp [anyN, anyN]; omega) | (simp_all [anyN, anyN]; done))) [] hS ls (lv_sub hl [5, 3, 2, 1, 0] rfl)
section ZH
variable {D : va_G} {dA : Nat → ClassId} {cn : Nat → Nat} {A : Nat → Prop} {pa : NM → Nat} {g : G} {T : va_W} {H : Heap}
variable {p : Program} {l : Launch} {e : Env} {R : Room} {s : State} {m : MethodId} {args : Array Value} {below : List Frame} {meth : Method} {c : Code} {locs : List Loc} {cells slots : Nat} {Q : State → Prop}
variable {cc : ByteArray} {pc nL : Nat} {ls : Array Slot} {rest : List Value}
theorem xs_two (h : XS D dA cn A pa g T H) {i : Nat} (hi : i < 7) : va_P D clA [(pa (2, i), .inr (1, [.ref (pa (3, i)), .int (nI (g 0 i)), .int (nI (g 1 i))])), (pa (3, i), xI dA 6 (fun k => nI (cornA i k)))] H := by
  have h2 : va_P D clA [(pa (2, i), .inr (1, [.ref (pa (3, i)), .int (nI (g 0 i)), .int (nI (g 1 i))]))] H := h.one (2, i) rfl (by simp [xL, hi]) rfl (by simp) (by simp) (by simp)
  have h3 : va_P D clA [(pa (3, i), xI dA 6 (fun k => nI (cornA i k)))] H := h.one (3, i) rfl (by simp [xL, hi]) rfl (by simp) (by simp) (by simp)
  refine va_P.ofm (fun q hq => ?_)
  rcases List.mem_cons.mp hq with rfl | hq
  · exact h2.mem (List.mem_singleton.mpr rfl)
  · exact h3.mem hq
theorem kI_has (S : CallFix p m c cc nL s args lw_all RX1) (hKX : KX D dA cn A s) (hM : XS D dA cn A pa g T H) (hS : va_S A s.heap H locs) (i x : Nat) (hi : i < 7) (hx : x < 24) (hf : 1 + 1 ≤ R.frames) (hlo : 8 + (7 + 11) + 18 ≤ R.locals) (hsz : ls.size = nL) (hcat : (rest.map fun v => v.category).sum ≤ 8) (hq1 : cells ≤ R.cells) (hq2 : slots ≤ R.slots) (hdg : decode cc pc = .ok (.invokevirtual 243, 3))
    (kk : ∀ locs1 : List Loc, va_S A s.heap H locs1 → W p l e R s m args below meth c H locs1 cells slots Q (F0 m (pc + 3) ls (.int (nI (mOf i x).toNat) :: rest))) : W p l e R s m args below meth c H locs cells slots Q (F0 m pc ls (.int (nI x) :: .ref (pa (2, i)) :: rest)) := by
  rw [corn_of i hi x hx] at kk
  exact zc_callV (n := 1) (As := [.int (nI x)]) (rest := rest) S (c_X2_has l hi hx H (xs_two hM hi) (Post := fun v H1 => v = some (.int (nI (anyN 6 (fun k => decide (cornA i k = x))).toNat)) ∧ H = H1) ⟨rfl, rfl⟩) (lw_V q412 q413 q414 q75 q415) (by decide +kernel) ⟨hf, hlo⟩ ⟨hq1, hq2⟩ (va_recv hKX.1 (xs_two hM hi) (ci := 1) (q0 := 0) rfl rfl) KX_mv (zc_K KX_mv hKX hS) hS (fun _ h => h) rfl hsz rfl hcat hdg (fun v H1 locs1 hp _ _ hS1 => by obtain ⟨rfl, rfl⟩ := hp; exact kk locs1 hS1)
end ZH
