/-! ArrayList: contracts over any world that holds the list's cells (printed by gen/mklist.py) -/
theorem va_RA_unO {U : State} {a b : ClassId} {C : String} (h1 : va_RA U a (.object C)) (h2 : va_RA U b (.object C)) : a = b := by
  obtain ⟨_, _, _, _, _, h3⟩ := h1
  obtain ⟨_, _, _, _, _, h4⟩ := h2
  exact Option.some.inj (h3.symm.trans h4)
theorem va_cpy_all {f : Nat → Option Nat} {n : Nat} (h : ∀ i, n ≤ i → f i = none) : va_cpy f (fun _ => none) 0 0 n = f := by
  funext k
  unfold va_cpy
  by_cases hk : k < n
  · rw [if_pos ⟨Nat.zero_le _, by omega⟩]; congr 1; omega
  · rw [if_neg (by omega), h k (by omega)]
theorem xw_len {ws : va_W} {q0 : Nat} {x : Nat × va_E} (h : ws[q0]? = some x) : q0 < ws.length := (List.getElem?_eq_some_iff.mp h).1
theorem xw_set {ws : va_W} {q0 : Nat} {x u : Nat × va_E} (h : ws[q0]? = some x) : (ws.set q0 u)[q0]? = some u := List.getElem?_set_self (xw_len h)
theorem xw_ne {ws : va_W} {q0 q1 : Nat} {x u : Nat × va_E} (h : ws[q1]? = some x) (hne : q0 ≠ q1) : (ws.set q0 u)[q1]? = some x := by rw [List.getElem?_set_ne hne]; exact h
theorem xw_app {ws ys : va_W} {q0 : Nat} {x : Nat × va_E} (h : ws[q0]? = some x) : (ws ++ ys)[q0]? = some x := by rw [List.getElem?_append_left (xw_len h)]; exact h
theorem xw_end {ws : va_W} {x : Nat × va_E} : (ws ++ [x])[ws.length]? = some x := by simp
theorem xw_setapp {ws ys : va_W} {q0 : Nat} {x u : Nat × va_E} (h : ws[q0]? = some x) : (ws ++ ys).set q0 u = ws.set q0 u ++ ys := List.set_append_left _ _ (xw_len h)
theorem xw_L1 {ws : va_W} {q0 q1 : Nat} {u v w : Nat × va_E} (h : q1 ≠ q0) : ((ws.set q0 u).set q1 v).set q0 w = (ws.set q1 v).set q0 w := by
  rw [List.set_comm _ _ h.symm, List.set_set]
theorem xw_setend {ws : va_W} {q0 : Nat} {u v w : Nat × va_E} : (ws.set q0 u ++ [v]).set ws.length w = ws.set q0 u ++ [w] := by
  rw [List.set_append_right _ _ (by simp), List.length_set, Nat.sub_self]; rfl
set_option maxHeartbeats 2000000 in
set_option maxRecDepth 100000 in
theorem cL_newLength (l : Launch) {D : va_G} {dA : Nat → ClassId} {cn : Nat → Nat} {A : Nat → Prop} {n : Nat} (hn : 10 ≤ n) (hn2 : n < 1048576) (H0 : Heap) {Post : Option Value → Heap → Prop} (hPost : Post (some (.int (nI (capG n)))) H0) : Ct l yJ12_newLength (ws_ yJ12_newLength cJ12_newLength 4 (some .int)) (rmF 2 0 0 60) A (KX D dA cn A) [.int (nI n), .int (nI 1), .int (nI (n / 2))] H0 Post := by
  refine zc_of RJ12 rfl (by decide) (Nat.le_of_ble_eq_true rfl) ?_
  intro pr en s m args below meth cd S hr hlk hnm hh hKX ls hl
  have hS : va_S A s.heap H0 [] := zc_start hh
  have hx := S.1
  have hb := S.2.1
  have hown := S.2.2.2.1
  have hts := S.2.2.2.2
  have hK := hKX.1
  have hl : lv_has ls 4 [(0, .int (nI n)), (1, .int (nI 1)), (2, .int (nI (n / 2)))] := hl
  refine lv_iload_n hx hb dJ12_newLength_0 rfl (lv_at hl 0 rfl) ?_
  refine lv_iload_n hx hb dJ12_newLength_1 rfl (lv_at hl 1 rfl) ?_
  refine lv_iload_n hx hb dJ12_newLength_2 rfl (lv_at hl 2 rfl) ?_
  refine va_mmax hx hb (S.2.2.1.trans hl.1.symm) hown (hts _ q467) (hts _ q468) (hts _ q86) (hts _ q469) (Nat.le_of_ble_eq_true rfl) (Nat.le_of_ble_eq_true rfl) (Nat.le_of_ble_eq_true rfl) (Nat.le_of_ble_eq_true rfl) dJ12_newLength_3 ?_
  rw [if_pos ((nI_ltI (by decide) (by omega)).mpr (show 1 < n / 2 by omega))]
  refine zr_addN (a := n) (b := n / 2) hx hb dJ12_newLength_6 ?_
  refine lv_istore_n (lv' := [(3, .int (nI (n + n / 2))), (0, .int (nI n)), (1, .int (nI 1)), (2, .int (nI (n / 2)))]) hx hb dJ12_newLength_7 rfl hl (by decide) rfl (fun ls hl => ?_)
  refine lv_iconst (v := nI 0) hx hb dJ12_newLength_8 zi_0 ?_
  refine lv_iload_n hx hb dJ12_newLength_9 rfl (lv_at hl 0 rfl) ?_
  refine zr_icmp_geN (a := 0) (b := n + n / 2) (tgt := 21) hx hb (by decide) (by omega) dJ12_newLength_10 (by decide) (fun c => absurd (show 0 < n + n / 2 by omega) c) (fun _ => ?_)
  refine lv_iload_n hx hb dJ12_newLength_13 rfl (lv_at hl 0 rfl) ?_
  refine lv_ldc (v := nI 2147483639) hx hb hown (hts _ q470) dJ12_newLength_14 ?_
  refine zr_icmp_gtN (a := n + n / 2) (b := 2147483639) (tgt := 21) hx hb (by omega) (by decide) dJ12_newLength_16 (by decide) (fun c => absurd c (by omega)) (fun _ => ?_)
  refine lv_iload_n hx hb dJ12_newLength_19 rfl (lv_at hl 0 rfl) ?_
  have e : capG n = n + n / 2 := if_neg (by omega)
  rw [e] at hPost
  exact zc_iret hPost hS hx hb hr hlk (Nat.le_of_ble_eq_true rfl) (Nat.le_of_ble_eq_true rfl) dJ12_newLength_20
set_option maxHeartbeats 2000000 in
set_option maxRecDepth 100000 in
theorem cL_copyOf2 (l : Launch) {D : va_G} {dA : Nat → ClassId} {cn : Nat → Nat} {A : Nat → Prop} {ws : va_W} {q1 b n cap ci : Nat} {r : vw_C} {f : Nat → Option Nat} (H0 : Heap) (hA : ∀ q, H0.size ≤ q → A q) (hP : va_P D clA ws H0) (hD : va_D A ws) (h1 : ws[q1]? = some (b, xR (dA 5) n f)) (hn : n ≤ cap) (hcap : cap ≤ 4000) (hf : ∀ i, n ≤ i → f i = none) (hEl : ∀ i, i < n → ∀ y, f i = some y → ∃ (k : Nat) (fs : List Value), ws[k]? = some (y, .inr (ci, fs))) (hc : clA[ci]? = some r) (hca : ∀ U : State, KW U → va_Nw (.castable r.1 "java/lang/Object") U) {Post : Option Value → Heap → Prop} (hPost : ∀ (q : Nat) (H : Heap), va_P D clA (ws ++ [(q, xR (dA 5) cap f)]) H → va_D A (ws ++ [(q, xR (dA 5) cap f)]) → Post (some (.ref q)) H) : Ct l yJ13_copyOf_2 (ws_ yJ13_copyOf_2 cJ13_copyOf_2 4 (some (.array (.object "java/lang/Object")))) (rmF 3 1 4000 120) A (KX D dA cn A) [.ref b, .int (nI cap), .ref (cn 1)] H0 Post := by
  refine zc_of RJ13 rfl (by decide) (Nat.le_of_ble_eq_true rfl) ?_
  intro pr en s m args below meth cd S hr hlk hnm hh hKX ls hl
  have hS : va_S A s.heap H0 [] := zc_start hh
  have hx := S.1
  have hb := S.2.1
  have hown := S.2.2.2.1
  have hts := S.2.2.2.2
  have hK := hKX.1
  have hA : ∀ q, s.heap.size ≤ q → A q := fun q h => hA q (by rw [← hh]; exact h)
  have hl : lv_has ls 4 [(0, .ref b), (1, .int (nI cap)), (2, .ref (cn 1))] := hl
  refine lv_aload_n hx hb dJ13_copyOf_2_0 rfl (lv_at hl 2 rfl) ?_
  refine va_ldcM hx hb hown (hts _ q500) hKX.2.2.2.2.1 dJ13_copyOf_2_1 ?_
  refine lv_acmp_ne (rx := some (cn 1)) (ry := some (cn 1)) (tgt := 13) hx hb dJ13_copyOf_2_3 (by decide) (fun c => absurd rfl c) (fun _ => ?_)
  refine lv_iload_n hx hb dJ13_copyOf_2_6 rfl (lv_at hl 1 rfl) ?_
  refine va_newq (D := D) (N' := cap) hx hb hown (hts _ q502) (hKX.2.1.2.2.2 _ (List.mem_of_getElem? (i := 3) rfl)) hK hP hD hS hA (nI_pos (by omega)) (nI_clamp (by omega)) (by omega) (Nat.le_of_ble_eq_true rfl) (show 0 + cap ≤ 4000 from by omega) dJ13_copyOf_2_7 ?_
  intro q cA H hK9 hP hD hS
  obtain rfl := va_RA_unO (hK.2 5 _ rfl).2 (hK9.2 7 _ rfl).2
  have h1 := xw_app (ys := [(q, xR (dA 5) cap (fun _ => none))]) h1
  refine W.widen (k := 1) (n := 4000) (Nat.le_of_ble_eq_true rfl) (by omega) ?_
  refine lv_goto (tgt := 24) hx hb dJ13_copyOf_2_10 (by decide) ?_
  refine lv_astore_n (lv' := [(3, .ref q), (0, .ref b), (1, .int (nI cap)), (2, .ref (cn 1))]) hx hb dJ13_copyOf_2_24 rfl hl (by decide) rfl (fun ls hl => ?_)
  refine lv_aload_n hx hb dJ13_copyOf_2_25 rfl (lv_at hl 1 rfl) ?_
  refine lv_iconst (v := nI 0) hx hb dJ13_copyOf_2_26 zi_0 ?_
  refine lv_aload_n hx hb dJ13_copyOf_2_27 rfl (lv_at hl 0 rfl) ?_
  refine lv_iconst (v := nI 0) hx hb dJ13_copyOf_2_28 zi_0 ?_
  refine lv_aload_n hx hb dJ13_copyOf_2_29 rfl (lv_at hl 1 rfl) ?_
  refine va_alen (D := D) hx hb hK hP q1 5 h1 rfl (v := nI n) rfl dJ13_copyOf_2_30 ?_
  refine lv_iload_n hx hb dJ13_copyOf_2_31 rfl (lv_at hl 2 rfl) ?_
  refine va_mmin hx hb (S.2.2.1.trans hl.1.symm) hown (hts _ q503) (hts _ q417) (hts _ q86) (hts _ q418) (Nat.le_of_ble_eq_true rfl) (Nat.le_of_ble_eq_true rfl) (Nat.le_of_ble_eq_true rfl) (Nat.le_of_ble_eq_true rfl) dJ13_copyOf_2_32 ?_
  rw [if_neg (mt (nI_ltI (by omega) (by omega)).mp (show ¬ cap < n by omega))]
  refine va_copyq (D := D) (C := r.1) (sp := nI 0) (dp := nI 0) (n := nI n) hx hb (S.2.2.1.trans hl.1.symm) hown (hts _ q504) (hts _ q506) (hts _ q505) (hts _ q90) hK hP hD hS q1 ws.length 5 5 h1 xw_end rfl rfl (nI_pos (by decide)) (nI_pos (by decide)) (nI_pos (by omega)) (by rw [nI_clamp (by decide), nI_clamp (by omega)]; omega) (by rw [nI_clamp (by decide), nI_clamp (by omega)]; omega) ?_ ?_ (Nat.le_of_ble_eq_true rfl) (Nat.le_of_ble_eq_true rfl) dJ13_copyOf_2_35 ?_
  · intro i hi y hy
    rw [nI_clamp (by omega)] at hi
    rw [nI_clamp (by decide), Nat.zero_add] at hy
    obtain ⟨k, fs, hk⟩ := hEl i hi y hy
    exact va_recv hK hP hc (xw_app hk)
  · intro comp c0 e1 e2
    obtain ⟨c1, t1, f1, f2, f3⟩ := Cond.castable_spec (va_Nw.use (A := args) rfl (hca s hKX.2.1))
    cases e2.symm.trans f1
    cases e1.symm.trans f2
    exact f3
  intro H locs hP hD hS
  rw [nI_clamp (by decide), nI_clamp (by omega), va_cpy_all hf, List.set_append_right _ _ (Nat.le_refl _), Nat.sub_self] at hP hD
  refine lv_aload_n hx hb dJ13_copyOf_2_38 rfl (lv_at hl 0 rfl) ?_
  exact zc_aret (Or.inr ⟨_, rfl⟩) (Or.inr ⟨_, rfl⟩) (hPost q H hP hD) hS hx hb hr hlk (Nat.le_of_ble_eq_true rfl) (Nat.le_of_ble_eq_true rfl) dJ13_copyOf_2_39
set_option maxHeartbeats 2000000 in
set_option maxRecDepth 100000 in
theorem cL_copyOf (l : Launch) {D : va_G} {dA : Nat → ClassId} {cn : Nat → Nat} {A : Nat → Prop} {ws : va_W} {q1 b n cap ci : Nat} {r : vw_C} {f : Nat → Option Nat} (H0 : Heap) (hA : ∀ q, H0.size ≤ q → A q) (hP : va_P D clA ws H0) (hD : va_D A ws) (h1 : ws[q1]? = some (b, xR (dA 5) n f)) (hn : n ≤ cap) (hcap : cap ≤ 4000) (hf : ∀ i, n ≤ i → f i = none) (hEl : ∀ i, i < n → ∀ y, f i = some y → ∃ (k : Nat) (fs : List Value), ws[k]? = some (y, .inr (ci, fs))) (hc : clA[ci]? = some r) (hca : ∀ U : State, KW U → va_Nw (.castable r.1 "java/lang/Object") U) {Post : Option Value → Heap → Prop} (hPost : ∀ (q : Nat) (H : Heap), va_P D clA (ws ++ [(q, xR (dA 5) cap f)]) H → va_D A (ws ++ [(q, xR (dA 5) cap f)]) → Post (some (.ref q)) H) : Ct l yJ13_copyOf (ws_ yJ13_copyOf cJ13_copyOf 2 (some (.array (.object "java/lang/Object")))) (rmF 4 1 4000 180) A (KX D dA cn A) [.ref b, .int (nI cap)] H0 Post := by
  refine zc_of RJ13 rfl (by decide) (Nat.le_of_ble_eq_true rfl) ?_
  intro pr en s m args below meth cd S hr hlk hnm hh hKX ls hl
  have hS : va_S A s.heap H0 [] := zc_start hh
  have hx := S.1
  have hb := S.2.1
  have hown := S.2.2.2.1
  have hts := S.2.2.2.2
  have hK := hKX.1
  have hA : ∀ q, s.heap.size ≤ q → A q := fun q h => hA q (by rw [← hh]; exact h)
  have hl : lv_has ls 2 [(0, .ref b), (1, .int (nI cap))] := hl
  refine lv_aload_n hx hb dJ13_copyOf_0 rfl (lv_at hl 0 rfl) ?_
  refine lv_iload_n hx hb dJ13_copyOf_1 rfl (lv_at hl 1 rfl) ?_
  refine lv_aload_n hx hb dJ13_copyOf_2 rfl (lv_at hl 0 rfl) ?_
  refine va_getC (C := "[Ljava/lang/Object;") hx hb (S.2.2.1.trans hl.1.symm) hown (hts _ q477) (va_Dc.use hKX.2.2.2.2.2.1) (hts _ q1484) (hts _ q478) (hts _ q496) hKX.2.2.2.2.1 ⟨_, hP q1 _ h1, rfl, va_nmO (hK.2 5 _ rfl).2 rfl⟩ (Nat.le_of_ble_eq_true rfl) (Nat.le_of_ble_eq_true rfl) dJ13_copyOf_3 ?_
  refine zc_callS (n := 3) (As := [.ref b, .int (nI cap), .ref (cn 1)]) (rest := []) S (cL_copyOf2 l H0 (fun q h => hA q (by rw [hh]; exact h)) hP hD h1 hn hcap hf hEl hc hca (Post := fun v H1 => ∃ q : Nat, v = some (.ref q) ∧ va_P D clA (ws ++ [(q, xR (dA 5) cap f)]) H1 ∧ va_D A (ws ++ [(q, xR (dA 5) cap f)])) (fun q H1 g1 g2 => ⟨q, rfl, g1, g2⟩)) (lw_S q497 q498 q89 q499) (by decide +kernel) ⟨(Nat.le_of_ble_eq_true rfl), (Nat.le_of_ble_eq_true rfl)⟩ ⟨(Nat.le_of_ble_eq_true rfl), (Nat.le_of_ble_eq_true rfl)⟩ KX_mv (zc_K KX_mv hKX hS) hS (fun _ h => h) rfl hl.1 rfl (by decide) dJ13_copyOf_6 (fun v H1 locs hp _ _ hS1 => ?_)
  obtain ⟨q, rfl, g1, g2⟩ := hp
  exact zc_aret (Or.inr ⟨_, rfl⟩) (Or.inr ⟨_, rfl⟩) (hPost q H1 g1 g2) hS1 hx hb hr hlk (Nat.le_of_ble_eq_true rfl) (Nat.le_of_ble_eq_true rfl) dJ13_copyOf_9
set_option maxHeartbeats 2000000 in
set_option maxRecDepth 100000 in
theorem cL_grow2 (l : Launch) {D : va_G} {dA : Nat → ClassId} {cn : Nat → Nat} {A : Nat → Prop} {ws : va_W} {q0 a x n ci : Nat} {mc : Int32} {r : vw_C} {f : Nat → Option Nat} (H0 : Heap) (hA : ∀ q, H0.size ≤ q → A q) (hP : va_P D clA ws H0) (hD : va_D A ws) (h0 : ws[q0]? = some (a, .inr (8, [.int (mc), .ref x, .int (nI n)]))) (hz : (n = 0 ∧ x = cn 0 ∧ f = fun _ => none) ∨ (10 ≤ n ∧ ∃ q1 : Nat, q1 ≠ q0 ∧ ws[q1]? = some (x, xR (dA 5) n f))) (hn2 : n ≤ 2000) (hf : ∀ i, n ≤ i → f i = none) (hEl : ∀ i, i < n → ∀ y, f i = some y → ∃ (k : Nat) (fs : List Value), ws[k]? = some (y, .inr (ci, fs))) (hc : clA[ci]? = some r) (hca : ∀ U : State, KW U → va_Nw (.castable r.1 "java/lang/Object") U) {Post : Option Value → Heap → Prop} (hPost : ∀ (q : Nat) (H : Heap), va_P D clA (ws.set q0 (a, .inr (8, [.int (mc), .ref q, .int (nI n)])) ++ [(q, xR (dA 5) (capG n) f)]) H → va_D A (ws.set q0 (a, .inr (8, [.int (mc), .ref q, .int (nI n)])) ++ [(q, xR (dA 5) (capG n) f)]) → Post (some (.ref q)) H) : Ct l yJ2_grow_2 (ws_ yJ2_grow_2 cJ2_grow_2 4 (some (.array (.object "java/lang/Object")))) (rmF 5 1 4000 260) A (KX D dA cn A) [.ref a, .int (nI (n + 1))] H0 Post := by
  refine zc_of RJ2 rfl (by decide) (Nat.le_of_ble_eq_true rfl) ?_
  intro pr en s m args below meth cd S hr hlk hnm hh hKX ls hl
  have hS : va_S A s.heap H0 [] := zc_start hh
  have hx := S.1
  have hb := S.2.1
  have hown := S.2.2.2.1
  have hts := S.2.2.2.2
  have hK := hKX.1
  have hA : ∀ q, s.heap.size ≤ q → A q := fun q h => hA q (by rw [← hh]; exact h)
  have hw0 := xw_len h0
  have hl : lv_has ls 4 [(0, .ref a), (1, .int (nI (n + 1)))] := hl
  refine lv_aload_n hx hb dJ2_grow_2_0 rfl (lv_at hl 0 rfl) ?_
  refine va_get (D := D) (ci := 8) (C := RJ2) (T := TJ2) (N := 3) hx hb hts in_J2 hown hK hP q0 h0 rfl 1 (by decide) (hts _ q126) (fun _ h9 => h9) rfl dJ2_grow_2_1 ?_
  rcases hz with ⟨rfl, rfl, rfl⟩ | ⟨hn, q1, hq, h1⟩
  · refine va_tlen hx hb hKX.2.2.2.1 hS (v := nI 0) rfl dJ2_grow_2_4 ?_
    refine lv_istore_n (lv' := [(2, .int (nI 0)), (0, .ref a), (1, .int (nI (0 + 1)))]) hx hb dJ2_grow_2_5 rfl hl (by decide) rfl (fun ls hl => ?_)
    refine lv_iload_n hx hb dJ2_grow_2_6 rfl (lv_at hl 0 rfl) ?_
    refine zr_if_gtN (a := 0) (tgt := 20) hx hb (by decide) dJ2_grow_2_7 (by decide) (fun c => absurd c (by decide)) (fun _ => ?_)
    refine lv_aload_n hx hb dJ2_grow_2_10 rfl (lv_at hl 1 rfl) ?_
    refine va_get (D := D) (ci := 8) (C := RJ2) (T := TJ2) (N := 3) hx hb hts in_J2 hown hK hP q0 h0 rfl 1 (by decide) (hts _ q126) (fun _ h9 => h9) rfl dJ2_grow_2_11 ?_
    refine va_gets hx hb hKX.2.2.1 hS hown (hts _ q124) (fun _ h9 => h9) dJ2_grow_2_14 ?_
    refine lv_acmp_eq (rx := some (cn 0)) (ry := some (cn 0)) (tgt := 45) hx hb dJ2_grow_2_17 (by decide) (fun _ => ?_) (fun c => absurd rfl c)
    refine lv_aload_n hx hb dJ2_grow_2_45 rfl (lv_at hl 1 rfl) ?_
    refine lv_bipush (v := nI 10) hx hb dJ2_grow_2_46 (by decide) ?_
    refine lv_iload_n hx hb dJ2_grow_2_48 rfl (lv_at hl 2 rfl) ?_
    refine va_mmax hx hb (S.2.2.1.trans hl.1.symm) hown (hts _ q507) (hts _ q468) (hts _ q86) (hts _ q469) (Nat.le_of_ble_eq_true rfl) (Nat.le_of_ble_eq_true rfl) (Nat.le_of_ble_eq_true rfl) (Nat.le_of_ble_eq_true rfl) dJ2_grow_2_49 ?_
    rw [if_neg (show ¬ nI 10 < nI (0 + 1) by decide)]
    refine va_newq (D := D) (N' := 10) hx hb hown (hts _ q508) (hKX.2.1.2.2.2 _ (List.mem_of_getElem? (i := 3) rfl)) hK hP hD hS hA (by decide) (by decide) (by decide) (Nat.le_of_ble_eq_true rfl) (Nat.le_of_ble_eq_true rfl) dJ2_grow_2_52 ?_
    intro q cA H hK9 hP hD hS
    obtain rfl := va_RA_unO (hK.2 5 _ rfl).2 (hK9.2 7 _ rfl).2
    refine lv_dup_x1 hx hb dJ2_grow_2_55 rfl rfl ?_
    have h0 := xw_app (ys := [(q, xR (dA 5) 10 (fun _ => none))]) h0
    refine va_put (D := D) (ci := 8) (C := RJ2) (T := TJ2) (N := 3) (v := .ref q) hx hb hts in_J2 tyJ2 tyJ2_ok nmJ2 hown hK hP hD hS q0 h0 rfl 1 (by decide) (hts _ q126) (fun _ h9 => h9) rfl (ty := .array (.object "java/lang/Object")) (by decide +kernel) rfl rfl (Nat.le_of_ble_eq_true rfl) dJ2_grow_2_56 (fun H locs hP hD hS => ?_)
    rw [List.set_append_left _ _ hw0] at hP hD
    exact zc_aret (Or.inr ⟨_, rfl⟩) (Or.inr ⟨_, rfl⟩) (hPost q H hP hD) hS hx hb hr hlk (Nat.le_of_ble_eq_true rfl) (Nat.le_of_ble_eq_true rfl) dJ2_grow_2_59
  · have hcg : capG n = n + n / 2 := if_neg (by omega)
    refine va_alen (D := D) hx hb hK hP q1 5 h1 rfl (v := nI n) rfl dJ2_grow_2_4 ?_
    refine lv_istore_n (lv' := [(2, .int (nI n)), (0, .ref a), (1, .int (nI (n + 1)))]) hx hb dJ2_grow_2_5 rfl hl (by decide) rfl (fun ls hl => ?_)
    refine lv_iload_n hx hb dJ2_grow_2_6 rfl (lv_at hl 0 rfl) ?_
    refine zr_if_gtN (a := n) (tgt := 20) hx hb (by omega) dJ2_grow_2_7 (by decide) (fun _ => ?_) (fun c => absurd (show 0 < n by omega) c)
    refine lv_iload_n hx hb dJ2_grow_2_20 rfl (lv_at hl 0 rfl) ?_
    refine lv_iload_n hx hb dJ2_grow_2_21 rfl (lv_at hl 2 rfl) ?_
    refine lv_iload_n hx hb dJ2_grow_2_22 rfl (lv_at hl 0 rfl) ?_
    refine zr_subN (a := n + 1) (b := n) hx hb (by omega) dJ2_grow_2_23 ?_
    rw [show n + 1 - n = 1 by omega]
    refine lv_iload_n hx hb dJ2_grow_2_24 rfl (lv_at hl 0 rfl) ?_
    refine lv_iconst (v := nI 1) hx hb dJ2_grow_2_25 zi_1 ?_
    refine zr_shrN (a := n) (b := 1) hx hb (by omega) (by omega) dJ2_grow_2_26 ?_
    refine zc_callS (n := 3) (As := [.int (nI n), .int (nI 1), .int (nI (n / 2 ^ 1))]) (rest := []) S (cL_newLength l hn (by omega) H0 (Post := fun v H1 => v = some (.int (nI (capG n))) ∧ H0 = H1) ⟨rfl, rfl⟩) (lw_S q464 q465 q88 q466) (by decide +kernel) ⟨(Nat.le_of_ble_eq_true rfl), (Nat.le_of_ble_eq_true rfl)⟩ ⟨(Nat.le_of_ble_eq_true rfl), (Nat.le_of_ble_eq_true rfl)⟩ KX_mv (zc_K KX_mv hKX hS) hS (fun _ h => h) rfl hl.1 rfl (by decide) dJ2_grow_2_27 (fun v H1 locs hp _ _ hS => ?_)
    obtain ⟨rfl, rfl⟩ := hp
    refine lv_istore_n (lv' := [(3, .int (nI (capG n))), (2, .int (nI n)), (0, .ref a), (1, .int (nI (n + 1)))]) hx hb dJ2_grow_2_30 rfl hl (by decide) rfl (fun ls hl => ?_)
    refine lv_aload_n hx hb dJ2_grow_2_31 rfl (lv_at hl 2 rfl) ?_
    refine lv_aload_n hx hb dJ2_grow_2_32 rfl (lv_at hl 2 rfl) ?_
    refine va_get (D := D) (ci := 8) (C := RJ2) (T := TJ2) (N := 3) hx hb hts in_J2 hown hK hP q0 h0 rfl 1 (by decide) (hts _ q126) (fun _ h9 => h9) rfl dJ2_grow_2_33 ?_
    refine lv_iload_n hx hb dJ2_grow_2_36 rfl (lv_at hl 0 rfl) ?_
    refine zc_callS (n := 2) (As := [.ref x, .int (nI (capG n))]) (rest := [.ref a]) S (cL_copyOf l H0 (fun q h => hA q (Nat.le_trans hS.1 h)) hP hD h1 (cap := capG n) (by omega) (by omega) hf hEl hc hca (Post := fun v H2 => ∃ q : Nat, v = some (.ref q) ∧ va_P D clA (ws ++ [(q, xR (dA 5) (capG n) f)]) H2 ∧ va_D A (ws ++ [(q, xR (dA 5) (capG n) f)])) (fun q H2 g1 g2 => ⟨q, rfl, g1, g2⟩)) (lw_S q474 q475 q89 q476) (by decide +kernel) ⟨(Nat.le_of_ble_eq_true rfl), (Nat.le_of_ble_eq_true rfl)⟩ ⟨(Nat.le_of_ble_eq_true rfl), (Nat.le_of_ble_eq_true rfl)⟩ KX_mv (zc_K KX_mv hKX hS) hS (fun _ h => h) rfl hl.1 rfl (Nat.le_of_ble_eq_true rfl) dJ2_grow_2_37 (fun v H2 locs hp _ _ hS => ?_)
    obtain ⟨q, rfl, hP, hD⟩ := hp
    refine lv_dup_x1 hx hb dJ2_grow_2_40 rfl rfl ?_
    have h0 := xw_app (ys := [(q, xR (dA 5) (capG n) f)]) h0
    refine va_put (D := D) (ci := 8) (C := RJ2) (T := TJ2) (N := 3) (v := .ref q) hx hb hts in_J2 tyJ2 tyJ2_ok nmJ2 hown hK hP hD hS q0 h0 rfl 1 (by decide) (hts _ q126) (fun _ h9 => h9) rfl (ty := .array (.object "java/lang/Object")) (by decide +kernel) rfl rfl (Nat.le_of_ble_eq_true rfl) dJ2_grow_2_41 (fun H locs hP hD hS => ?_)
    rw [List.set_append_left _ _ hw0] at hP hD
    exact zc_aret (Or.inr ⟨_, rfl⟩) (Or.inr ⟨_, rfl⟩) (hPost q H hP hD) hS hx hb hr hlk (Nat.le_of_ble_eq_true rfl) (Nat.le_of_ble_eq_true rfl) dJ2_grow_2_44
set_option maxHeartbeats 2000000 in
set_option maxRecDepth 100000 in
theorem cL_grow (l : Launch) {D : va_G} {dA : Nat → ClassId} {cn : Nat → Nat} {A : Nat → Prop} {ws : va_W} {q0 a x n ci : Nat} {mc : Int32} {r : vw_C} {f : Nat → Option Nat} (H0 : Heap) (hA : ∀ q, H0.size ≤ q → A q) (hP : va_P D clA ws H0) (hD : va_D A ws) (h0 : ws[q0]? = some (a, .inr (8, [.int (mc), .ref x, .int (nI n)]))) (hz : (n = 0 ∧ x = cn 0 ∧ f = fun _ => none) ∨ (10 ≤ n ∧ ∃ q1 : Nat, q1 ≠ q0 ∧ ws[q1]? = some (x, xR (dA 5) n f))) (hn2 : n ≤ 2000) (hf : ∀ i, n ≤ i → f i = none) (hEl : ∀ i, i < n → ∀ y, f i = some y → ∃ (k : Nat) (fs : List Value), ws[k]? = some (y, .inr (ci, fs))) (hc : clA[ci]? = some r) (hca : ∀ U : State, KW U → va_Nw (.castable r.1 "java/lang/Object") U) {Post : Option Value → Heap → Prop} (hPost : ∀ (q : Nat) (H : Heap), va_P D clA (ws.set q0 (a, .inr (8, [.int (mc), .ref q, .int (nI n)])) ++ [(q, xR (dA 5) (capG n) f)]) H → va_D A (ws.set q0 (a, .inr (8, [.int (mc), .ref q, .int (nI n)])) ++ [(q, xR (dA 5) (capG n) f)]) → Post (some (.ref q)) H) : Ct l yJ2_grow (ws_ yJ2_grow cJ2_grow 1 (some (.array (.object "java/lang/Object")))) (rmF 6 1 4000 300) A (KX D dA cn A) [.ref a] H0 Post := by
  refine zc_of RJ2 rfl (by decide) (Nat.le_of_ble_eq_true rfl) ?_
  intro pr en s m args below meth cd S hr hlk hnm hh hKX ls hl
  have hS : va_S A s.heap H0 [] := zc_start hh
  have hx := S.1
  have hb := S.2.1
  have hown := S.2.2.2.1
  have hts := S.2.2.2.2
  have hK := hKX.1
  have hA : ∀ q, s.heap.size ≤ q → A q := fun q h => hA q (by rw [← hh]; exact h)
  have hl : lv_has ls 1 [(0, .ref a)] := hl
  refine lv_aload_n hx hb dJ2_grow_0 rfl (lv_at hl 0 rfl) ?_
  refine lv_aload_n hx hb dJ2_grow_1 rfl (lv_at hl 0 rfl) ?_
  refine va_get (D := D) (ci := 8) (C := RJ2) (T := TJ2) (N := 3) hx hb hts in_J2 hown hK hP q0 h0 rfl 2 (by decide) (hts _ q129) (fun _ h9 => h9) rfl dJ2_grow_2 ?_
  refine lv_iconst (v := nI 1) hx hb dJ2_grow_5 zi_1 ?_
  refine zr_addN (a := n) (b := 1) hx hb dJ2_grow_6 ?_
  refine zc_callV (n := 1) (As := [.int (nI (n + 1))]) (rest := []) S (cL_grow2 l H0 (fun q h => hA q (by rw [hh]; exact h)) hP hD h0 hz hn2 hf hEl hc hca (Post := fun v H2 => ∃ q : Nat, v = some (.ref q) ∧ va_P D clA (ws.set q0 (a, .inr (8, [.int (mc), .ref q, .int (nI n)])) ++ [(q, xR (dA 5) (capG n) f)]) H2 ∧ va_D A (ws.set q0 (a, .inr (8, [.int (mc), .ref q, .int (nI n)])) ++ [(q, xR (dA 5) (capG n) f)])) (fun q H2 g1 g2 => ⟨q, rfl, g1, g2⟩)) (lw_V q460 q462 qs5 q74 q463) (by decide +kernel) ⟨(Nat.le_of_ble_eq_true rfl), (Nat.le_of_ble_eq_true rfl)⟩ ⟨(Nat.le_of_ble_eq_true rfl), (Nat.le_of_ble_eq_true rfl)⟩ (va_recv hK hP (ci := 8) (q0 := q0) rfl h0) KX_mv (zc_K KX_mv hKX hS) hS (fun _ h => h) rfl hl.1 rfl (by decide) dJ2_grow_7 (fun v H1 locs hp _ _ hS1 => ?_)
  obtain ⟨q, rfl, g1, g2⟩ := hp
  exact zc_aret (Or.inr ⟨_, rfl⟩) (Or.inr ⟨_, rfl⟩) (hPost q H1 g1 g2) hS1 hx hb hr hlk (Nat.le_of_ble_eq_true rfl) (Nat.le_of_ble_eq_true rfl) dJ2_grow_10
set_option maxHeartbeats 2000000 in
set_option maxRecDepth 100000 in
theorem cL_add2 (l : Launch) {D : va_G} {dA : Nat → ClassId} {cn : Nat → Nat} {A : Nat → Prop} {ws : va_W} {q0 q1 qe a x n ci ee : Nat} {mc : Int32} {r : vw_C} {fe : List Value} {f : Nat → Option Nat} (H0 : Heap) (hA : ∀ q, H0.size ≤ q → A q) (hP : va_P D clA ws H0) (hD : va_D A ws) (h0 : ws[q0]? = some (a, .inr (8, [.int (mc), .ref x, .int (nI n)]))) (hz : (n = 0 ∧ x = cn 0 ∧ f = fun _ => none) ∨ (10 ≤ capN n ∧ q1 ≠ q0 ∧ ws[q1]? = some (x, xR (dA 5) (capN n) f))) (hn2 : n ≤ 2000) (hf : ∀ i, n ≤ i → f i = none) (he : ws[qe]? = some (ee, .inr (ci, fe))) (hqe : qe ≠ q0) (hEl : ∀ i, i < n → ∀ y, f i = some y → ∃ (k : Nat) (fs : List Value), ws[k]? = some (y, .inr (ci, fs))) (hc : clA[ci]? = some r) (hca : ∀ U : State, KW U → va_Nw (.castable r.1 "java/lang/Object") U) {Post : Option Value → Heap → Prop} (hP1 : n < capN n → ∀ H : Heap, va_P D clA ((ws.set q1 (x, xR (dA 5) (capN n) (va_up f n (some ee)))).set q0 (a, .inr (8, [.int (mc), .ref x, .int (nI (n + 1))]))) H → va_D A ((ws.set q1 (x, xR (dA 5) (capN n) (va_up f n (some ee)))).set q0 (a, .inr (8, [.int (mc), .ref x, .int (nI (n + 1))]))) → Post (none) H) (hP2 : ¬ n < capN n → ∀ (q : Nat) (H : Heap), va_P D clA (ws.set q0 (a, .inr (8, [.int (mc), .ref q, .int (nI (n + 1))])) ++ [(q, xR (dA 5) (capG n) (va_up f n (some ee)))]) H → va_D A (ws.set q0 (a, .inr (8, [.int (mc), .ref q, .int (nI (n + 1))])) ++ [(q, xR (dA 5) (capG n) (va_up f n (some ee)))]) → Post (none) H) : Ct l yJ2_add_2 (ws_ yJ2_add_2 cJ2_add_2 4 none) (rmF 7 1 4000 360) A (KX D dA cn A) [.ref a, .ref ee, .ref x, .int (nI n)] H0 Post := by
  refine zc_of RJ2 rfl (by decide) (Nat.le_of_ble_eq_true rfl) ?_
  intro pr en s m args below meth cd S hr hlk hnm hh hKX ls hl
  have hS : va_S A s.heap H0 [] := zc_start hh
  have hx := S.1
  have hb := S.2.1
  have hown := S.2.2.2.1
  have hts := S.2.2.2.2
  have hK := hKX.1
  have hA : ∀ q, s.heap.size ≤ q → A q := fun q h => hA q (by rw [← hh]; exact h)
  have hl : lv_has ls 4 [(0, .ref a), (1, .ref ee), (2, .ref x), (3, .int (nI n))] := hl
  refine lv_iload_n hx hb dJ2_add_2_0 rfl (lv_at hl 3 rfl) ?_
  refine lv_aload_n hx hb dJ2_add_2_1 rfl (lv_at hl 2 rfl) ?_
  have hw0 := xw_len h0
  have hcl := capN_le n
  have hcg := capN_ge n
  have key : W pr l en (rmF 7 1 4000 360) s m args below meth cd H0 [] 0 0 (MQ below (zc_Q Post A) args s 1 4000 A) (F0 m 3 ls [.int (nI (capN n)), .int (nI n)]) := by
    refine zr_icmp_neN (a := n) (b := capN n) (tgt := 11) hx hb (by omega) (by omega) dJ2_add_2_3 (by decide) (fun c => ?_) (fun c => ?_)
    · have hlt : n < capN n := by omega
      obtain ⟨hc10, hq, h1⟩ : 10 ≤ capN n ∧ q1 ≠ q0 ∧ ws[q1]? = some (x, xR (dA 5) (capN n) f) := by
        rcases hz with ⟨rfl, -, -⟩ | h
        · exact absurd hlt (by decide)
        · exact h
      refine lv_aload_n hx hb dJ2_add_2_11 rfl (lv_at hl 2 rfl) ?_
      refine lv_iload_n hx hb dJ2_add_2_12 rfl (lv_at hl 3 rfl) ?_
      refine lv_aload_n hx hb dJ2_add_2_13 rfl (lv_at hl 1 rfl) ?_
      refine va_astqO (D := D) (E := "java/lang/Object") (f := f) hx hb hK hP hD hS q1 5 qe ci h1 rfl (hca s hKX.2.1) he hc (vp_in_nI hlt (by omega)) dJ2_add_2_14 (fun H locs hP hD hS => ?_)
      rw [nI_clamp (by omega)] at hP hD
      have h0 := xw_ne (u := (x, xR (dA 5) (capN n) (va_up f n (some ee)))) h0 hq
      refine lv_aload_n hx hb dJ2_add_2_15 rfl (lv_at hl 0 rfl) ?_
      refine lv_iload_n hx hb dJ2_add_2_16 rfl (lv_at hl 3 rfl) ?_
      refine lv_iconst (v := nI 1) hx hb dJ2_add_2_17 zi_1 ?_
      refine zr_addN (a := n) (b := 1) hx hb dJ2_add_2_18 ?_
      refine va_put (D := D) (ci := 8) (C := RJ2) (T := TJ2) (N := 3) (v := .int (nI (n + 1))) hx hb hts in_J2 tyJ2 tyJ2_ok nmJ2 hown hK hP hD hS q0 h0 rfl 2 (by decide) (hts _ q129) (fun _ h9 => h9) rfl (ty := .int) (by decide +kernel) rfl rfl (Nat.le_of_ble_eq_true rfl) dJ2_add_2_19 (fun H locs hP hD hS => ?_)
      exact zc_vret (hP1 hlt H hP hD) hS hx hb hr hlk (Nat.le_of_ble_eq_true rfl) (Nat.le_of_ble_eq_true rfl) dJ2_add_2_22
    · have hnl : ¬ n < capN n := by omega
      have hcn := (capN_no hnl).2
      have hz' : (n = 0 ∧ x = cn 0 ∧ f = fun _ => none) ∨ (10 ≤ n ∧ ∃ q1 : Nat, q1 ≠ q0 ∧ ws[q1]? = some (x, xR (dA 5) n f)) := by
        rcases hz with h | ⟨g1, g2, g3⟩
        · exact Or.inl h
        · rw [hcn] at g1 g3
          exact Or.inr ⟨g1, q1, g2, g3⟩
      refine lv_aload_n hx hb dJ2_add_2_6 rfl (lv_at hl 0 rfl) ?_
      refine zc_callV (n := 0) (As := []) (rest := []) S (cL_grow l H0 (fun q h => hA q (by rw [hh]; exact h)) hP hD h0 hz' hn2 hf hEl hc hca (Post := fun v H2 => ∃ q : Nat, v = some (.ref q) ∧ va_P D clA (ws.set q0 (a, .inr (8, [.int (mc), .ref q, .int (nI n)])) ++ [(q, xR (dA 5) (capG n) f)]) H2 ∧ va_D A (ws.set q0 (a, .inr (8, [.int (mc), .ref q, .int (nI n)])) ++ [(q, xR (dA 5) (capG n) f)])) (fun q H2 g1 g2 => ⟨q, rfl, g1, g2⟩)) (lw_V q456 q458 qs4 q74 q459) (by decide +kernel) ⟨(Nat.le_of_ble_eq_true rfl), (Nat.le_of_ble_eq_true rfl)⟩ ⟨(Nat.le_of_ble_eq_true rfl), (Nat.le_of_ble_eq_true rfl)⟩ (va_recv hK hP (ci := 8) (q0 := q0) rfl h0) KX_mv (zc_K KX_mv hKX hS) hS (fun _ h => h) rfl hl.1 rfl (by decide) dJ2_add_2_7 (fun v H1 locs hp _ _ hS => ?_)
      obtain ⟨q, rfl, hP, hD⟩ := hp
      refine lv_astore_n (lv' := [(2, .ref q), (0, .ref a), (1, .ref ee), (3, .int (nI n))]) hx hb dJ2_add_2_10 rfl hl (by decide) rfl (fun ls hl => ?_)
      have he := xw_app (ys := [(q, xR (dA 5) (capG n) f)]) (xw_ne (u := (a, .inr (8, [.int (mc), .ref q, .int (nI n)]))) he hqe.symm)
      have h0 := xw_app (ys := [(q, xR (dA 5) (capG n) (va_up f n (some ee)))]) (xw_set (u := (a, .inr (8, [.int (mc), .ref q, .int (nI n)]))) h0)
      have hcG : n < capG n := by unfold capG; split <;> omega
      have hcG2 : capG n ≤ 4000 := by unfold capG; split <;> omega
      refine lv_aload_n hx hb dJ2_add_2_11 rfl (lv_at hl 0 rfl) ?_
      refine lv_iload_n hx hb dJ2_add_2_12 rfl (lv_at hl 3 rfl) ?_
      refine lv_aload_n hx hb dJ2_add_2_13 rfl (lv_at hl 2 rfl) ?_
      refine va_astqO (D := D) (E := "java/lang/Object") (f := f) hx hb hK hP hD hS ws.length 5 qe ci (by rw [List.getElem?_append_right (by simp)]; simp) rfl (hca s hKX.2.1) he hc (vp_in_nI hcG (by omega)) dJ2_add_2_14 (fun H locs hP hD hS => ?_)
      rw [nI_clamp (by omega), xw_setend] at hP hD
      refine lv_aload_n hx hb dJ2_add_2_15 rfl (lv_at hl 1 rfl) ?_
      refine lv_iload_n hx hb dJ2_add_2_16 rfl (lv_at hl 3 rfl) ?_
      refine lv_iconst (v := nI 1) hx hb dJ2_add_2_17 zi_1 ?_
      refine zr_addN (a := n) (b := 1) hx hb dJ2_add_2_18 ?_
      refine va_put (D := D) (ci := 8) (C := RJ2) (T := TJ2) (N := 3) (v := .int (nI (n + 1))) hx hb hts in_J2 tyJ2 tyJ2_ok nmJ2 hown hK hP hD hS q0 h0 rfl 2 (by decide) (hts _ q129) (fun _ h9 => h9) rfl (ty := .int) (by decide +kernel) rfl rfl (Nat.le_of_ble_eq_true rfl) dJ2_add_2_19 (fun H locs hP hD hS => ?_)
      rw [List.set_append_left _ _ (by rw [List.length_set]; exact hw0), List.set_set] at hP hD
      exact zc_vret (hP2 hnl q H hP hD) hS hx hb hr hlk (Nat.le_of_ble_eq_true rfl) (Nat.le_of_ble_eq_true rfl) dJ2_add_2_22
  rcases hz with ⟨rfl, rfl, rfl⟩ | ⟨hc10, hq, h1⟩
  · exact va_tlen hx hb hKX.2.2.2.1 hS (v := nI 0) rfl dJ2_add_2_2 key
  · exact va_alen (D := D) hx hb hK hP q1 5 h1 rfl (v := nI (capN n)) rfl dJ2_add_2_2 key
set_option maxHeartbeats 2000000 in
set_option maxRecDepth 100000 in
theorem cL_add (l : Launch) {D : va_G} {dA : Nat → ClassId} {cn : Nat → Nat} {A : Nat → Prop} {ws : va_W} {q0 q1 qe a x n ci ee : Nat} {r : vw_C} {fe : List Value} {f : Nat → Option Nat} (H0 : Heap) (hA : ∀ q, H0.size ≤ q → A q) (hP : va_P D clA ws H0) (hD : va_D A ws) (h0 : ws[q0]? = some (a, .inr (8, [.int (nI n), .ref x, .int (nI n)]))) (hz : (n = 0 ∧ x = cn 0 ∧ f = fun _ => none) ∨ (10 ≤ capN n ∧ q1 ≠ q0 ∧ ws[q1]? = some (x, xR (dA 5) (capN n) f))) (hn2 : n ≤ 2000) (hf : ∀ i, n ≤ i → f i = none) (he : ws[qe]? = some (ee, .inr (ci, fe))) (hqe : qe ≠ q0) (hEl : ∀ i, i < n → ∀ y, f i = some y → ∃ (k : Nat) (fs : List Value), ws[k]? = some (y, .inr (ci, fs))) (hc : clA[ci]? = some r) (hca : ∀ U : State, KW U → va_Nw (.castable r.1 "java/lang/Object") U) {Post : Option Value → Heap → Prop} (hP1 : n < capN n → ∀ H : Heap, va_P D clA ((ws.set q1 (x, xR (dA 5) (capN n) (va_up f n (some ee)))).set q0 (a, .inr (8, [.int (nI (n + 1)), .ref x, .int (nI (n + 1))]))) H → va_D A ((ws.set q1 (x, xR (dA 5) (capN n) (va_up f n (some ee)))).set q0 (a, .inr (8, [.int (nI (n + 1)), .ref x, .int (nI (n + 1))]))) → Post (some (.int (nI 1))) H) (hP2 : ¬ n < capN n → ∀ (q : Nat) (H : Heap), va_P D clA (ws.set q0 (a, .inr (8, [.int (nI (n + 1)), .ref q, .int (nI (n + 1))])) ++ [(q, xR (dA 5) (capG n) (va_up f n (some ee)))]) H → va_D A (ws.set q0 (a, .inr (8, [.int (nI (n + 1)), .ref q, .int (nI (n + 1))])) ++ [(q, xR (dA 5) (capG n) (va_up f n (some ee)))]) → Post (some (.int (nI 1))) H) : Ct l yJ2_add (ws_ yJ2_add cJ2_add 2 (some .boolean)) (rmF 8 1 4000 420) A (KX D dA cn A) [.ref a, .ref ee] H0 Post := by
  refine zc_of RJ2 rfl (by decide) (Nat.le_of_ble_eq_true rfl) ?_
  intro pr en s m args below meth cd S hr hlk hnm hh hKX ls hl
  have hS : va_S A s.heap H0 [] := zc_start hh
  have hx := S.1
  have hb := S.2.1
  have hown := S.2.2.2.1
  have hts := S.2.2.2.2
  have hK := hKX.1
  have hA : ∀ q, s.heap.size ≤ q → A q := fun q h => hA q (by rw [← hh]; exact h)
  have hl : lv_has ls 2 [(0, .ref a), (1, .ref ee)] := hl
  refine lv_aload_n hx hb dJ2_add_0 rfl (lv_at hl 0 rfl) ?_
  refine lv_dup hx hb dJ2_add_1 rfl ?_
  refine va_get (D := D) (ci := 8) (C := RJ2) (T := TJ2) (N := 3) hx hb hts in_J2 hown hK hP q0 h0 rfl 0 (by decide) (hts _ q133) (u_same (hts _ q132)) rfl dJ2_add_2 ?_
  refine lv_iconst (v := nI 1) hx hb dJ2_add_5 zi_1 ?_
  refine zr_addN (a := n) (b := 1) hx hb dJ2_add_6 ?_
  refine va_put (D := D) (ci := 8) (C := RJ2) (T := TJ2) (N := 3) (v := .int (nI (n + 1))) hx hb hts in_J2 tyJ2 tyJ2_ok nmJ2 hown hK hP hD hS q0 h0 rfl 0 (by decide) (hts _ q133) (u_same (hts _ q132)) rfl (ty := .int) (by decide +kernel) rfl rfl (Nat.le_of_ble_eq_true rfl) dJ2_add_7 (fun H locs hP hD hS => ?_)
  have hEl : ∀ i, i < n → ∀ y, f i = some y → ∃ (k : Nat) (fs : List Value), (ws.set q0 (a, .inr (8, [.int (nI (n + 1)), .ref x, .int (nI n)])))[k]? = some (y, .inr (ci, fs)) := by
    intro i hi y hy
    obtain ⟨k, fs, hk⟩ := hEl i hi y hy
    by_cases hq : q0 = k
    · subst hq
      have e9 := Option.some.inj (h0.symm.trans hk)
      obtain ⟨rfl, e8⟩ := Prod.mk.inj e9
      obtain ⟨rfl, -⟩ := Prod.mk.inj (Sum.inr.inj e8)
      exact ⟨q0, _, xw_set h0⟩
    · exact ⟨k, fs, xw_ne hk hq⟩
  have he := xw_ne (u := (a, .inr (8, [.int (nI (n + 1)), .ref x, .int (nI n)]))) he hqe.symm
  have hz : (n = 0 ∧ x = cn 0 ∧ f = fun _ => none) ∨ (10 ≤ capN n ∧ q1 ≠ q0 ∧ (ws.set q0 (a, .inr (8, [.int (nI (n + 1)), .ref x, .int (nI n)])))[q1]? = some (x, xR (dA 5) (capN n) f)) := by
    rcases hz with h | ⟨g1, g2, g3⟩
    · exact Or.inl h
    · exact Or.inr ⟨g1, g2, xw_ne g3 g2.symm⟩
  have h0 := xw_set (u := (a, .inr (8, [.int (nI (n + 1)), .ref x, .int (nI n)]))) h0
  refine lv_aload_n hx hb dJ2_add_10 rfl (lv_at hl 0 rfl) ?_
  refine lv_aload_n hx hb dJ2_add_11 rfl (lv_at hl 1 rfl) ?_
  refine lv_aload_n hx hb dJ2_add_12 rfl (lv_at hl 0 rfl) ?_
  refine va_get (D := D) (ci := 8) (C := RJ2) (T := TJ2) (N := 3) hx hb hts in_J2 hown hK hP q0 h0 rfl 1 (by decide) (hts _ q126) (fun _ h9 => h9) rfl dJ2_add_13 ?_
  refine lv_aload_n hx hb dJ2_add_16 rfl (lv_at hl 0 rfl) ?_
  refine va_get (D := D) (ci := 8) (C := RJ2) (T := TJ2) (N := 3) hx hb hts in_J2 hown hK hP q0 h0 rfl 2 (by decide) (hts _ q129) (fun _ h9 => h9) rfl dJ2_add_17 ?_
  refine zc_callV (n := 3) (As := [.ref ee, .ref x, .int (nI n)]) (rest := []) S (cL_add2 l H (fun q h => hA q (Nat.le_trans hS.1 h)) hP hD h0 hz hn2 hf he hqe hEl hc hca (Post := fun v H2 => v = none ∧ ((n < capN n ∧ va_P D clA ((ws.set q1 (x, xR (dA 5) (capN n) (va_up f n (some ee)))).set q0 (a, .inr (8, [.int (nI (n + 1)), .ref x, .int (nI (n + 1))]))) H2 ∧ va_D A ((ws.set q1 (x, xR (dA 5) (capN n) (va_up f n (some ee)))).set q0 (a, .inr (8, [.int (nI (n + 1)), .ref x, .int (nI (n + 1))])))) ∨ (¬ n < capN n ∧ ∃ q : Nat, va_P D clA (ws.set q0 (a, .inr (8, [.int (nI (n + 1)), .ref q, .int (nI (n + 1))])) ++ [(q, xR (dA 5) (capG n) (va_up f n (some ee)))]) H2 ∧ va_D A (ws.set q0 (a, .inr (8, [.int (nI (n + 1)), .ref q, .int (nI (n + 1))])) ++ [(q, xR (dA 5) (capG n) (va_up f n (some ee)))])))) (fun hlt H2 g1 g2 => ⟨rfl, Or.inl ⟨hlt, by rw [xw_L1 (by rcases hz with ⟨rfl, -, -⟩ | ⟨-, h, -⟩; exact absurd hlt (by decide); exact h)] at g1; exact g1, by rw [xw_L1 (by rcases hz with ⟨rfl, -, -⟩ | ⟨-, h, -⟩; exact absurd hlt (by decide); exact h)] at g2; exact g2⟩⟩) (fun hlt q H2 g1 g2 => ⟨rfl, Or.inr ⟨hlt, q, by rw [List.set_set] at g1; exact g1, by rw [List.set_set] at g2; exact g2⟩⟩)) (lw_V q452 q454 qs3 q74 q455) (by decide +kernel) ⟨(Nat.le_of_ble_eq_true rfl), (Nat.le_of_ble_eq_true rfl)⟩ ⟨(Nat.le_of_ble_eq_true rfl), (Nat.le_of_ble_eq_true rfl)⟩ (va_recv hK hP (ci := 8) (q0 := q0) rfl h0) KX_mv (zc_K KX_mv hKX hS) hS (fun _ h => h) rfl hl.1 rfl (by decide) dJ2_add_20 (fun v H1 locs hp _ _ hS => ?_)
  obtain ⟨rfl, hp⟩ := hp
  refine lv_iconst (v := nI 1) hx hb dJ2_add_23 zi_1 ?_
  refine zc_zret ?_ hS hx hb hr rfl hlk (Nat.le_of_ble_eq_true rfl) (Nat.le_of_ble_eq_true rfl) dJ2_add_24
  rcases hp with ⟨hlt, g1, g2⟩ | ⟨hlt, q, g1, g2⟩
  · exact hP1 hlt H1 g1 g2
  · exact hP2 hlt q H1 g1 g2
