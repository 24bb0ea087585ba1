/-! THE MODEL: questions, goods, the robber (printed by gen/m4.py) -/
def tn (x : Int32) : Nat := x.toNatClampNeg
theorem mI_pred {v : Nat} (h : 0 < v) : mI v = nI (v - 1) := by
  obtain ⟨w, rfl⟩ : ∃ w, v = w + 1 := ⟨v - 1, by omega⟩
  exact mI_succ w
/-- a player or none, as raw -/
def okV (x : Int32) : Bool := decide (x = mI 0) || inB x 3
def tv (x : Int32) : Nat := tn (x + 1)
theorem tv_mI {v : Nat} (h : v < 2 ^ 31) : tv (mI v) = v := by
  unfold tv tn
  rw [mI_p1]; exact nI_clamp h
theorem okV_of {x : Int32} (h : okV x = true) : ∃ v : Nat, v ≤ 3 ∧ x = mI v := by
  unfold okV at h
  rw [Bool.or_eq_true, decide_eq_true_eq] at h
  rcases h with h | h
  · exact ⟨0, by decide, h⟩
  · obtain ⟨j, hj, rfl⟩ := inB_of (by decide) h
    exact ⟨j + 1, by omega, (mI_succ j).symm⟩
theorem mPts_22 (g : G) (v p : Nat) : mPts (gs g 22 0 v) p = mPts g p := by
  unfold mPts mBuilds own1 mCity
  simp [gs]
theorem trailN_22 (g : G) (v p : Nat) : trailN (gs g 22 0 v) p = trailN g p := trailN_cg ⟨fun j => by simp [gs], fun j => by simp [gs]⟩ p
theorem inB_tn {x : Int32} {n : Nat} (hn : n < 2 ^ 31) (h : inB x n = true) : tn x < n ∧ x = nI (tn x) := by
  obtain ⟨j, hj, rfl⟩ := inB_of hn h
  have e : tn (nI j) = j := nI_clamp (by omega)
  rw [e]; exact ⟨hj, rfl⟩
theorem inR_tn {x : Int32} {lo hi : Nat} (hl : lo < 2 ^ 31) (hh : hi < 2 ^ 31) (h : inR x lo hi = true) : lo ≤ tn x ∧ tn x ≤ hi ∧ x = nI (tn x) := by
  obtain ⟨j, h1, h2, rfl⟩ := inR_of hl hh h
  have e : tn (nI j) = j := nI_clamp (by omega)
  rw [e]; exact ⟨h1, h2, rfl⟩
theorem goodsB_tn {x : Int32} (h : goodsB x = true) : tn x < 100000 ∧ x = nI (tn x) := by
  obtain ⟨j, hj, rfl⟩ := goodsB_of h
  have e : tn (nI j) = j := nI_clamp (by omega)
  rw [e]; exact ⟨hj, rfl⟩
theorem someB_tn {x : Int32} (h : someB x = true) : 0 < tn x ∧ tn x < 100000 ∧ x = nI (tn x) := by
  obtain ⟨j, h1, h2, rfl⟩ := someB_of h
  have e : tn (nI j) = j := nI_clamp (by omega)
  rw [e]; exact ⟨h1, h2, rfl⟩
theorem okV_tv {x : Int32} (h : okV x = true) : tv x ≤ 3 ∧ x = mI (tv x) := by
  obtain ⟨v, hv, rfl⟩ := okV_of h
  have e : tv (mI v) = v := tv_mI (by omega)
  rw [e]; exact ⟨hv, rfl⟩
def rtS (g : G) (p gd k : Nat) : Nat := if (decide (own1 g (7 + 3 * k) = p + 1) || decide (own1 g (8 + 3 * k) = p + 1)) = true then (if k = 5 then 3 else if k = gd then 2 else 4) else 4
theorem rtS_le (g : G) (p gd k : Nat) : rtS g p gd k ≤ 4 := by unfold rtS; (repeat' split) <;> omega
def rateN (g : G) (p gd : Nat) : Nat → Nat
  | 0 => 4
  | k + 1 => if rtS g p gd k < rateN g p gd k then rtS g p gd k else rateN g p gd k
theorem rateN_le (g : G) (p gd : Nat) : ∀ i, rateN g p gd i ≤ 4 := by
  intro i
  induction i with
  | zero => exact Nat.le_refl _
  | succ i ih =>
    show (if rtS g p gd i < rateN g p gd i then rtS g p gd i else rateN g p gd i) ≤ 4
    split <;> omega
/-- no offers -/
def eoN (g : G) : Nat → G
  | 0 => gs (gs g 26 0 0) 26 1 0
  | i + 1 => gs (gs (eoN g i) 16 i 0) 17 i 0
def mUse (g : G) (k : Nat) : Bool := (decide (g 7 1 = 1) || decide (g 7 1 = 2)) && (decide (g 7 6 = 0) && decide (g 25 k < g 24 (5 * g 7 4 + k)))
def gUse (g : G) (k : Nat) : G := gs (gs g 7 6 1) 24 (5 * g 7 4 + k) (g 24 (5 * g 7 4 + k) - 1)
def moveN (g : G) (a b k n : Nat) : G := gs (gs g 4 (5 * a + k) (g 4 (5 * a + k) - n)) 4 (5 * b + k) (gs g 4 (5 * a + k) (g 4 (5 * a + k) - n) 4 (5 * b + k) + n)
def giveN (g : G) (a b x : Nat) : Nat → G
  | 0 => g
  | i + 1 => moveN (giveN g a b x i) a b i (digN x i)
theorem giveN_nf (g : G) (a b x : Nat) {f : Nat} (hf : f ≠ 4) : ∀ i j, giveN g a b x i f j = g f j := by
  intro i
  induction i with
  | zero => intro j; rfl
  | succ i ih => intro j; show moveN _ a b i _ f j = _; unfold moveN; rw [gs_nf _ hf, gs_nf _ hf]; exact ih j
theorem giveN_ge (g : G) (a b x : Nat) : ∀ i j, i ≤ 5 → i ≤ j % 5 → giveN g a b x i 4 j = g 4 j := by
  intro i
  induction i with
  | zero => intro j _ _; rfl
  | succ i ih =>
    intro j h5 hj
    show moveN _ a b i _ 4 j = _
    unfold moveN
    rw [gs_ni _ (by omega), gs_ni _ (by omega)]
    exact ih j (by omega) (by omega)
def mVic (g : G) (p h : Nat) : Bool := anyN 24 (fun c => mOf h c && decide (own1 g c = p + 1)) && (!decide (p = g 7 4) && decide (0 < handN g p 5))
def mMayRob (g : G) (h v : Nat) : Bool := !decide (h = g 7 0) && (if v = 0 then !(mVic g 0 h || (mVic g 1 h || mVic g 2 h)) else mVic g (v - 1) h)
def rbCode (a1 a2 a3 : Int32) : Nat := if inB a1 7 = true then (if okV a2 = true then (if inR a3 0 999 = true then 0 else 2) else 1) else 1
def deckN (k : Nat) : Nat := if k = 1 then 4 else if k = 7 then 4 else if k = 14 then 4 else if k = 2 then 1 else if k = 9 then 1 else if k = 4 then 2 else if k = 10 then 2 else if k = 5 then 3 else if k = 12 then 3 else 0
theorem handN_mono {g : G} {p : Nat} : ∀ i j, i ≤ j → handN g p i ≤ handN g p j := by
  intro i j h
  obtain ⟨d, rfl⟩ : ∃ d, j = i + d := ⟨j - i, by omega⟩
  induction d with
  | zero => exact Nat.le_refl _
  | succ d ih => exact Nat.le_trans (ih (by omega)) (Nat.le_add_right _ _)
/-- the good that holds the place x of a hand -/
def robK (g : G) (p x : Nat) : Nat := eu_sm 5 (fun i => (decide (handN g p (i + 1) ≤ x)).toNat)
theorem robK_is {g : G} {p x k : Nat} (hk : k < 5) (h1 : handN g p k ≤ x) (h2 : x < handN g p (k + 1)) : robK g p x = k := by
  have key : ∀ i, i < 5 → (decide (handN g p (i + 1) ≤ x)).toNat = if i < k then 1 else 0 := by
    intro i hi
    by_cases q : i < k
    · have := handN_mono (g := g) (p := p) (i + 1) k (by omega)
      rw [if_pos q]; simp; omega
    · have := handN_mono (g := g) (p := p) (k + 1) (i + 1) (by omega)
      rw [if_neg q]; simp; omega
  unfold robK
  rw [eu_sm_congr key]
  rcases (show k = 0 ∨ k = 1 ∨ k = 2 ∨ k = 3 ∨ k = 4 by omega) with rfl | rfl | rfl | rfl | rfl <;> rfl
def rX (g : G) (v d : Nat) : Nat := d % handN g (v - 1) 5
def gRob (g : G) (h v d : Nat) : G := if v = 0 then gs g 7 0 h else moveN (gs g 7 0 h) (v - 1) (g 7 4) (robK g (v - 1) (rX g v d)) 1
set_option maxHeartbeats 1000000 in
set_option maxRecDepth 100000 in
theorem cM_thrown (l : Launch) {D : va_G} {dA : Nat → ClassId} {A : Nat → Prop} {ad : Nat → Nat} {g : G} (hg : Sm g) (H0 : Heap) (hM : MS D dA A ad g H0) {Post : Option Value → Heap → Prop} (hPost : Post (some (.int (nI (g 22 0)))) H0) : Ct l yX3_thrown (ws_ yX3_thrown cX3_thrown 1 (some .int)) (rmF 1 0 0 12) A (KT D dA) [.ref (ad 0)] H0 Post := by
  refine zc_of RX3 rfl (by decide) (Nat.le_of_ble_eq_true rfl) ?_
  intro pr en s m args below meth cd S hr hlk hnm hh hK ls hl
  have hS : va_S A s.heap H0 [] := zc_start hh
  have hg0 := hg
  have hx := S.1
  have hb := S.2.1
  have hown := S.2.2.2.1
  have hts := S.2.2.2.2
  have hl : lv_has ls 1 [(0, .ref (ad 0))] := hl
  refine lv_aload_n hx hb dX3_thrown_0 rfl (lv_at hl 0 rfl) ?_
  refine gM_thrown S hK hM (g 22 0) rfl dX3_thrown_1 ?_
  have hb_1 : g 22 0 < 1048576 := by first | exact hg 22 0 | exact hg0 _ _ | (have := hg 22 0; omega) | omega
  exact zc_nret (nI (g 22 0)) rfl hPost hS hx hb hr hlk (Nat.zero_le _) (Nat.zero_le _) dX3_thrown_4
set_option maxHeartbeats 1000000 in
set_option maxRecDepth 100000 in
theorem cM_phase (l : Launch) {D : va_G} {dA : Nat → ClassId} {A : Nat → Prop} {ad : Nat → Nat} {g : G} (hg : Sm g) (H0 : Heap) (hM : MS D dA A ad g H0) {Post : Option Value → Heap → Prop} (hPost : ∀ H : Heap, MS D dA A ad (gs g 22 0 0) H → Sm (gs g 22 0 0) → Post (some (.int (nI (g 7 1)))) H) : Ct l yX3_phase (ws_ yX3_phase cX3_phase 1 (some .int)) (rmF 1 0 0 12) A (KT D dA) [.ref (ad 0)] H0 Post := by
  refine zc_of RX3 rfl (by decide) (Nat.le_of_ble_eq_true rfl) ?_
  intro pr en s m args below meth cd S hr hlk hnm hh hK ls hl
  have hS : va_S A s.heap H0 [] := zc_start hh
  have hg0 := hg
  have hx := S.1
  have hb := S.2.1
  have hown := S.2.2.2.1
  have hts := S.2.2.2.2
  have hl : lv_has ls 1 [(0, .ref (ad 0))] := hl
  refine lv_aload_n hx hb dX3_phase_0 rfl (lv_at hl 0 rfl) ?_
  refine lv_iconst (v := nI 0) hx hb dX3_phase_1 zi_0 ?_
  refine pM_thrown S hK hM hS 0 dX3_phase_2 (fun H locs hM hS => ?_)
  have hg : Sm (gs g 22 0 0) := Sm_gs hg (by first | omega | exact Nat.lt_of_le_of_lt (Bool.toNat_le _) (by decide) | ((repeat' split) <;> omega))
  refine lv_aload_n hx hb dX3_phase_5 rfl (lv_at hl 0 rfl) ?_
  refine gM_phase S hK hM (g 7 1) (by first | rfl | simp [gs]) dX3_phase_6 ?_
  have hb_1 : g 7 1 < 1048576 := by first | exact hg 7 1 | exact hg0 _ _ | (have := hg 7 1; omega) | omega
  exact zc_nret (nI (g 7 1)) rfl (hPost H hM hg) hS hx hb hr hlk (Nat.zero_le _) (Nat.zero_le _) dX3_phase_9
set_option maxHeartbeats 1000000 in
set_option maxRecDepth 100000 in
theorem cM_turn (l : Launch) {D : va_G} {dA : Nat → ClassId} {A : Nat → Prop} {ad : Nat → Nat} {g : G} (hg : Sm g) (H0 : Heap) (hM : MS D dA A ad g H0) {Post : Option Value → Heap → Prop} (hPost : ∀ H : Heap, MS D dA A ad (gs g 22 0 0) H → Sm (gs g 22 0 0) → Post (some (.int (nI (g 7 4)))) H) : Ct l yX3_turn (ws_ yX3_turn cX3_turn 1 (some .int)) (rmF 1 0 0 12) A (KT D dA) [.ref (ad 0)] H0 Post := by
  refine zc_of RX3 rfl (by decide) (Nat.le_of_ble_eq_true rfl) ?_
  intro pr en s m args below meth cd S hr hlk hnm hh hK ls hl
  have hS : va_S A s.heap H0 [] := zc_start hh
  have hg0 := hg
  have hx := S.1
  have hb := S.2.1
  have hown := S.2.2.2.1
  have hts := S.2.2.2.2
  have hl : lv_has ls 1 [(0, .ref (ad 0))] := hl
  refine lv_aload_n hx hb dX3_turn_0 rfl (lv_at hl 0 rfl) ?_
  refine lv_iconst (v := nI 0) hx hb dX3_turn_1 zi_0 ?_
  refine pM_thrown S hK hM hS 0 dX3_turn_2 (fun H locs hM hS => ?_)
  have hg : Sm (gs g 22 0 0) := Sm_gs hg (by first | omega | exact Nat.lt_of_le_of_lt (Bool.toNat_le _) (by decide) | ((repeat' split) <;> omega))
  refine lv_aload_n hx hb dX3_turn_5 rfl (lv_at hl 0 rfl) ?_
  refine gM_turn S hK hM (g 7 4) (by first | rfl | simp [gs]) dX3_turn_6 ?_
  have hb_1 : g 7 4 < 1048576 := by first | exact hg 7 4 | exact hg0 _ _ | (have := hg 7 4; omega) | omega
  exact zc_nret (nI (g 7 4)) rfl (hPost H hM hg) hS hx hb hr hlk (Nat.zero_le _) (Nat.zero_le _) dX3_turn_9
set_option maxHeartbeats 1000000 in
set_option maxRecDepth 100000 in
theorem cM_robber (l : Launch) {D : va_G} {dA : Nat → ClassId} {A : Nat → Prop} {ad : Nat → Nat} {g : G} (hg : Sm g) (H0 : Heap) (hM : MS D dA A ad g H0) {Post : Option Value → Heap → Prop} (hPost : ∀ H : Heap, MS D dA A ad (gs g 22 0 0) H → Sm (gs g 22 0 0) → Post (some (.int (nI (g 7 0)))) H) : Ct l yX3_robber (ws_ yX3_robber cX3_robber 1 (some .int)) (rmF 1 0 0 12) A (KT D dA) [.ref (ad 0)] H0 Post := by
  refine zc_of RX3 rfl (by decide) (Nat.le_of_ble_eq_true rfl) ?_
  intro pr en s m args below meth cd S hr hlk hnm hh hK ls hl
  have hS : va_S A s.heap H0 [] := zc_start hh
  have hg0 := hg
  have hx := S.1
  have hb := S.2.1
  have hown := S.2.2.2.1
  have hts := S.2.2.2.2
  have hl : lv_has ls 1 [(0, .ref (ad 0))] := hl
  refine lv_aload_n hx hb dX3_robber_0 rfl (lv_at hl 0 rfl) ?_
  refine lv_iconst (v := nI 0) hx hb dX3_robber_1 zi_0 ?_
  refine pM_thrown S hK hM hS 0 dX3_robber_2 (fun H locs hM hS => ?_)
  have hg : Sm (gs g 22 0 0) := Sm_gs hg (by first | omega | exact Nat.lt_of_le_of_lt (Bool.toNat_le _) (by decide) | ((repeat' split) <;> omega))
  refine lv_aload_n hx hb dX3_robber_5 rfl (lv_at hl 0 rfl) ?_
  refine gM_robber S hK hM (g 7 0) (by first | rfl | simp [gs]) dX3_robber_6 ?_
  have hb_1 : g 7 0 < 1048576 := by first | exact hg 7 0 | exact hg0 _ _ | (have := hg 7 0; omega) | omega
  exact zc_nret (nI (g 7 0)) rfl (hPost H hM hg) hS hx hb hr hlk (Nat.zero_le _) (Nat.zero_le _) dX3_robber_9
set_option maxHeartbeats 1000000 in
set_option maxRecDepth 100000 in
theorem cM_holder (l : Launch) {D : va_G} {dA : Nat → ClassId} {A : Nat → Prop} {ad : Nat → Nat} {g : G} (hg : Sm g) (a1 : Bool) (H0 : Heap) (hM : MS D dA A ad g H0) {Post : Option Value → Heap → Prop} (hPost : ∀ H : Heap, MS D dA A ad (gs g 22 0 0) H → Sm (gs g 22 0 0) → Post (some (.int (mI (if a1 = true then g 7 8 else g 7 7)))) H) : Ct l yX3_holder (ws_ yX3_holder cX3_holder 2 (some .int)) (rmF 1 0 0 13) A (KT D dA) [.ref (ad 0), .int (nI (a1).toNat)] H0 Post := by
  refine zc_of RX3 rfl (by decide) (Nat.le_of_ble_eq_true rfl) ?_
  intro pr en s m args below meth cd S hr hlk hnm hh hK ls hl
  have hS : va_S A s.heap H0 [] := zc_start hh
  have hg0 := hg
  have hx := S.1
  have hb := S.2.1
  have hown := S.2.2.2.1
  have hts := S.2.2.2.2
  have hl : lv_has ls 2 [(0, .ref (ad 0)), (1, .int (nI (a1).toNat))] := hl
  refine lv_aload_n hx hb dX3_holder_0 rfl (lv_at hl 0 rfl) ?_
  refine lv_iconst (v := nI 0) hx hb dX3_holder_1 zi_0 ?_
  refine pM_thrown S hK hM hS 0 dX3_holder_2 (fun H locs hM hS => ?_)
  have hg : Sm (gs g 22 0 0) := Sm_gs hg (by first | omega | exact Nat.lt_of_le_of_lt (Bool.toNat_le _) (by decide) | ((repeat' split) <;> omega))
  refine lv_iload_n hx hb dX3_holder_5 rfl (lv_at hl 1 rfl) ?_
  refine zr_if_eqB (b := a1) (tgt := 16) hx hb dX3_holder_6 (by decide) (fun c_1 => ?_) (fun c_1 => ?_)
  · refine lv_aload_n hx hb dX3_holder_16 rfl (lv_at hl 0 rfl) ?_
    refine gM_longest S hK hM (g 7 7) (by first | rfl | simp [gs]) dX3_holder_17 ?_
    have hb_2 : g 7 7 < 1048576 := by first | exact hg 7 7 | exact hg0 _ _ | (have := hg 7 7; omega) | omega
    exact zc_nret (mI (if a1 = true then g 7 8 else g 7 7)) (congrArg mI (show (g 7 7 : Nat) = (if a1 = true then g 7 8 else g 7 7) from by first | with_reducible rfl | (simp [c_1]; done) | (simp only [c_1] <;> simp []; done) | (simp [c_1, Bool.and_assoc]; done) | (simp [c_1, Bool.and_assoc, Bool.or_assoc]; done) | rfl | (simp [c_1]; omega))) (hPost H hM hg) hS hx hb hr hlk (Nat.zero_le _) (Nat.zero_le _) dX3_holder_20
  · refine lv_aload_n hx hb dX3_holder_9 rfl (lv_at hl 0 rfl) ?_
    refine gM_army S hK hM (g 7 8) (by first | rfl | simp [gs]) dX3_holder_10 ?_
    have hb_3 : g 7 8 < 1048576 := by first | exact hg 7 8 | exact hg0 _ _ | (have := hg 7 8; omega) | omega
    refine lv_goto (tgt := 20) hx hb dX3_holder_13 (by decide) ?_
    exact zc_nret (mI (if a1 = true then g 7 8 else g 7 7)) (congrArg mI (show (g 7 8 : Nat) = (if a1 = true then g 7 8 else g 7 7) from by first | with_reducible rfl | (simp [c_1]; done) | (simp only [c_1] <;> simp []; done) | (simp [c_1, Bool.and_assoc]; done) | (simp [c_1, Bool.and_assoc, Bool.or_assoc]; done) | rfl | (simp [c_1]; omega))) (hPost H hM hg) hS hx hb hr hlk (Nat.zero_le _) (Nat.zero_le _) dX3_holder_20
set_option maxHeartbeats 1000000 in
set_option maxRecDepth 100000 in
theorem cM_due (l : Launch) {D : va_G} {dA : Nat → ClassId} {A : Nat → Prop} {ad : Nat → Nat} {g : G} (hg : Sm g) (a1 : Int32) (H0 : Heap) (hM : MS D dA A ad g H0) {Post : Option Value → Heap → Prop} (hPost : ∀ H : Heap, MS D dA A ad (gs g 22 0 (!(inB a1 3)).toNat) H → Sm (gs g 22 0 (!(inB a1 3)).toNat) → Post (some (.int (nI (if inB a1 3 = true then g 5 (tn a1) else 0)))) H) : Ct l yX3_due (ws_ yX3_due cX3_due 2 (some .int)) (rmF 2 0 0 34) A (KT D dA) [.ref (ad 0), .int a1] H0 Post := by
  refine zc_of RX3 rfl (by decide) (Nat.le_of_ble_eq_true rfl) ?_
  intro pr en s m args below meth cd S hr hlk hnm hh hK ls hl
  have hS : va_S A s.heap H0 [] := zc_start hh
  have hg0 := hg
  have hx := S.1
  have hb := S.2.1
  have hown := S.2.2.2.1
  have hts := S.2.2.2.2
  have hl : lv_has ls 2 [(0, .ref (ad 0)), (1, .int a1)] := hl
  refine lv_aload_n hx hb dX3_due_0 rfl (lv_at hl 0 rfl) ?_
  refine lv_iload_n hx hb dX3_due_1 rfl (lv_at hl 1 rfl) ?_
  refine kM_isPlayer S hK hM hg hS a1  (Nat.le_of_ble_eq_true rfl) (Nat.le_of_ble_eq_true rfl) hl.1 (Nat.le_of_ble_eq_true rfl) dX3_due_2 (Nat.zero_le _) (Nat.zero_le _) (fun locs hS => ?_)
  refine kM_asks S hK hM hg hS (inB a1 3)  (Nat.le_of_ble_eq_true rfl) (Nat.le_of_ble_eq_true rfl) hl.1 (Nat.le_of_ble_eq_true rfl) dX3_due_5 (Nat.zero_le _) (Nat.zero_le _) (fun H locs hM hg hS => ?_)
  refine zr_if_eqB (b := (inB a1 3)) (tgt := 20) hx hb dX3_due_8 (by decide) (fun c_1 => ?_) (fun c_1 => ?_)
  · rw [show (!(inB a1 3)).toNat = 1 from by rw [c_1]; rfl] at hM hg
    refine lv_iconst (v := nI 0) hx hb dX3_due_20 zi_0 ?_
    rw [show (gs g 22 0 1 : G) = gs g 22 0 (!(inB a1 3)).toNat from by first | with_reducible rfl | (simp [c_1]; done) | (simp only [c_1] <;> simp []; done) | (simp [c_1, Bool.and_assoc]; done) | (simp [c_1, Bool.and_assoc, Bool.or_assoc]; done) | rfl | (simp [c_1]; omega)] at hM hg
    exact zc_nret (nI (if inB a1 3 = true then g 5 (tn a1) else 0)) (congrArg nI (show (0 : Nat) = (if inB a1 3 = true then g 5 (tn a1) else 0) from by first | with_reducible rfl | (simp [c_1]; done) | (simp only [c_1] <;> simp []; done) | (simp [c_1, Bool.and_assoc]; done) | (simp [c_1, Bool.and_assoc, Bool.or_assoc]; done) | rfl | (simp [c_1]; omega))) (hPost H hM hg) hS hx hb hr hlk (Nat.zero_le _) (Nat.zero_le _) dX3_due_21
  · rw [show (!(inB a1 3)).toNat = 0 from by rw [c_1]; rfl] at hM hg
    obtain ⟨hj1, ea1⟩ := inB_tn (by decide) c_1
    rw [ea1] at hl
    refine lv_aload_n hx hb dX3_due_11 rfl (lv_at hl 0 rfl) ?_
    refine gM_due S hK hM dX3_due_12 ?_
    refine lv_iload_n hx hb dX3_due_15 rfl (lv_at hl 1 rfl) ?_
    refine lM_due S hK hM (tn a1) (by omega) (g 5 (tn a1)) (by first | rfl | simp [gs]) dX3_due_16 ?_
    have hb_2 : g 5 (tn a1) < 1048576 := by first | exact hg 5 (tn a1) | exact hg0 _ _ | (have := hg 5 (tn a1); omega) | omega
    refine lv_goto (tgt := 21) hx hb dX3_due_17 (by decide) ?_
    rw [show (gs g 22 0 0 : G) = gs g 22 0 (!(inB a1 3)).toNat from by first | with_reducible rfl | (simp [c_1]; done) | (simp only [c_1] <;> simp []; done) | (simp [c_1, Bool.and_assoc]; done) | (simp [c_1, Bool.and_assoc, Bool.or_assoc]; done) | rfl | (simp [c_1]; omega)] at hM hg
    exact zc_nret (nI (if inB a1 3 = true then g 5 (tn a1) else 0)) (congrArg nI (show (g 5 (tn a1) : Nat) = (if inB a1 3 = true then g 5 (tn a1) else 0) from by first | with_reducible rfl | (simp [c_1]; done) | (simp only [c_1] <;> simp []; done) | (simp [c_1, Bool.and_assoc]; done) | (simp [c_1, Bool.and_assoc, Bool.or_assoc]; done) | rfl | (simp [c_1]; omega))) (hPost H hM hg) hS hx hb hr hlk (Nat.zero_le _) (Nat.zero_le _) dX3_due_21
set_option maxHeartbeats 1000000 in
set_option maxRecDepth 100000 in
theorem cM_knights (l : Launch) {D : va_G} {dA : Nat → ClassId} {A : Nat → Prop} {ad : Nat → Nat} {g : G} (hg : Sm g) (a1 : Int32) (H0 : Heap) (hM : MS D dA A ad g H0) {Post : Option Value → Heap → Prop} (hPost : ∀ H : Heap, MS D dA A ad (gs g 22 0 (!(inB a1 3)).toNat) H → Sm (gs g 22 0 (!(inB a1 3)).toNat) → Post (some (.int (nI (if inB a1 3 = true then g 6 (tn a1) else 0)))) H) : Ct l yX3_knights (ws_ yX3_knights cX3_knights 2 (some .int)) (rmF 2 0 0 34) A (KT D dA) [.ref (ad 0), .int a1] H0 Post := by
  refine zc_of RX3 rfl (by decide) (Nat.le_of_ble_eq_true rfl) ?_
  intro pr en s m args below meth cd S hr hlk hnm hh hK ls hl
  have hS : va_S A s.heap H0 [] := zc_start hh
  have hg0 := hg
  have hx := S.1
  have hb := S.2.1
  have hown := S.2.2.2.1
  have hts := S.2.2.2.2
  have hl : lv_has ls 2 [(0, .ref (ad 0)), (1, .int a1)] := hl
  refine lv_aload_n hx hb dX3_knights_0 rfl (lv_at hl 0 rfl) ?_
  refine lv_iload_n hx hb dX3_knights_1 rfl (lv_at hl 1 rfl) ?_
  refine kM_isPlayer S hK hM hg hS a1  (Nat.le_of_ble_eq_true rfl) (Nat.le_of_ble_eq_true rfl) hl.1 (Nat.le_of_ble_eq_true rfl) dX3_knights_2 (Nat.zero_le _) (Nat.zero_le _) (fun locs hS => ?_)
  refine kM_asks S hK hM hg hS (inB a1 3)  (Nat.le_of_ble_eq_true rfl) (Nat.le_of_ble_eq_true rfl) hl.1 (Nat.le_of_ble_eq_true rfl) dX3_knights_5 (Nat.zero_le _) (Nat.zero_le _) (fun H locs hM hg hS => ?_)
  refine zr_if_eqB (b := (inB a1 3)) (tgt := 20) hx hb dX3_knights_8 (by decide) (fun c_1 => ?_) (fun c_1 => ?_)
  · rw [show (!(inB a1 3)).toNat = 1 from by rw [c_1]; rfl] at hM hg
    refine lv_iconst (v := nI 0) hx hb dX3_knights_20 zi_0 ?_
    rw [show (gs g 22 0 1 : G) = gs g 22 0 (!(inB a1 3)).toNat from by first | with_reducible rfl | (simp [c_1]; done) | (simp only [c_1] <;> simp []; done) | (simp [c_1, Bool.and_assoc]; done) | (simp [c_1, Bool.and_assoc, Bool.or_assoc]; done) | rfl | (simp [c_1]; omega)] at hM hg
    exact zc_nret (nI (if inB a1 3 = true then g 6 (tn a1) else 0)) (congrArg nI (show (0 : Nat) = (if inB a1 3 = true then g 6 (tn a1) else 0) from by first | with_reducible rfl | (simp [c_1]; done) | (simp only [c_1] <;> simp []; done) | (simp [c_1, Bool.and_assoc]; done) | (simp [c_1, Bool.and_assoc, Bool.or_assoc]; done) | rfl | (simp [c_1]; omega))) (hPost H hM hg) hS hx hb hr hlk (Nat.zero_le _) (Nat.zero_le _) dX3_knights_21
  · rw [show (!(inB a1 3)).toNat = 0 from by rw [c_1]; rfl] at hM hg
    obtain ⟨hj1, ea1⟩ := inB_tn (by decide) c_1
    rw [ea1] at hl
    refine lv_aload_n hx hb dX3_knights_11 rfl (lv_at hl 0 rfl) ?_
    refine gM_knights S hK hM dX3_knights_12 ?_
    refine lv_iload_n hx hb dX3_knights_15 rfl (lv_at hl 1 rfl) ?_
    refine lM_knights S hK hM (tn a1) (by omega) (g 6 (tn a1)) (by first | rfl | simp [gs]) dX3_knights_16 ?_
    have hb_2 : g 6 (tn a1) < 1048576 := by first | exact hg 6 (tn a1) | exact hg0 _ _ | (have := hg 6 (tn a1); omega) | omega
    refine lv_goto (tgt := 21) hx hb dX3_knights_17 (by decide) ?_
    rw [show (gs g 22 0 0 : G) = gs g 22 0 (!(inB a1 3)).toNat from by first | with_reducible rfl | (simp [c_1]; done) | (simp only [c_1] <;> simp []; done) | (simp [c_1, Bool.and_assoc]; done) | (simp [c_1, Bool.and_assoc, Bool.or_assoc]; done) | rfl | (simp [c_1]; omega)] at hM hg
    exact zc_nret (nI (if inB a1 3 = true then g 6 (tn a1) else 0)) (congrArg nI (show (g 6 (tn a1) : Nat) = (if inB a1 3 = true then g 6 (tn a1) else 0) from by first | with_reducible rfl | (simp [c_1]; done) | (simp only [c_1] <;> simp []; done) | (simp [c_1, Bool.and_assoc]; done) | (simp [c_1, Bool.and_assoc, Bool.or_assoc]; done) | rfl | (simp [c_1]; omega))) (hPost H hM hg) hS hx hb hr hlk (Nat.zero_le _) (Nat.zero_le _) dX3_knights_21
set_option maxHeartbeats 1000000 in
set_option maxRecDepth 100000 in
theorem cM_points (l : Launch) {D : va_G} {dA : Nat → ClassId} {A : Nat → Prop} {ad : Nat → Nat} {g : G} (hg : Sm g) (a1 : Int32) (H0 : Heap) (hM : MS D dA A ad g H0) {Post : Option Value → Heap → Prop} (hPost : ∀ H : Heap, MS D dA A ad (gs g 22 0 (!(inB a1 3)).toNat) H → Sm (gs g 22 0 (!(inB a1 3)).toNat) → Post (some (.int (nI (if inB a1 3 = true then mPts g (tn a1) else 0)))) H) : Ct l yX3_points (ws_ yX3_points cX3_points 2 (some .int)) (rmF 4 0 0 79) A (KT D dA) [.ref (ad 0), .int a1] H0 Post := by
  refine zc_of RX3 rfl (by decide) (Nat.le_of_ble_eq_true rfl) ?_
  intro pr en s m args below meth cd S hr hlk hnm hh hK ls hl
  have hS : va_S A s.heap H0 [] := zc_start hh
  have hg0 := hg
  have hx := S.1
  have hb := S.2.1
  have hown := S.2.2.2.1
  have hts := S.2.2.2.2
  have hl : lv_has ls 2 [(0, .ref (ad 0)), (1, .int a1)] := hl
  refine lv_aload_n hx hb dX3_points_0 rfl (lv_at hl 0 rfl) ?_
  refine lv_iload_n hx hb dX3_points_1 rfl (lv_at hl 1 rfl) ?_
  refine kM_isPlayer S hK hM hg hS a1  (Nat.le_of_ble_eq_true rfl) (Nat.le_of_ble_eq_true rfl) hl.1 (Nat.le_of_ble_eq_true rfl) dX3_points_2 (Nat.zero_le _) (Nat.zero_le _) (fun locs hS => ?_)
  refine kM_asks S hK hM hg hS (inB a1 3)  (Nat.le_of_ble_eq_true rfl) (Nat.le_of_ble_eq_true rfl) hl.1 (Nat.le_of_ble_eq_true rfl) dX3_points_5 (Nat.zero_le _) (Nat.zero_le _) (fun H locs hM hg hS => ?_)
  refine zr_if_eqB (b := (inB a1 3)) (tgt := 19) hx hb dX3_points_8 (by decide) (fun c_1 => ?_) (fun c_1 => ?_)
  · rw [show (!(inB a1 3)).toNat = 1 from by rw [c_1]; rfl] at hM hg
    refine lv_iconst (v := nI 0) hx hb dX3_points_19 zi_0 ?_
    rw [show (gs g 22 0 1 : G) = gs g 22 0 (!(inB a1 3)).toNat from by first | with_reducible rfl | (simp [c_1, mPts_22]; done) | (simp only [c_1] <;> simp [mPts_22]; done) | (simp only [mPts_22, c_1] <;> simp [mPts_22]; done) | (simp [c_1, mPts_22, Bool.and_assoc]; done) | (simp [c_1, mPts_22, Bool.and_assoc, Bool.or_assoc]; done) | rfl | (simp [c_1, mPts_22]; omega)] at hM hg
    exact zc_nret (nI (if inB a1 3 = true then mPts g (tn a1) else 0)) (congrArg nI (show (0 : Nat) = (if inB a1 3 = true then mPts g (tn a1) else 0) from by first | with_reducible rfl | (simp [c_1, mPts_22]; done) | (simp only [c_1] <;> simp [mPts_22]; done) | (simp only [mPts_22, c_1] <;> simp [mPts_22]; done) | (simp [c_1, mPts_22, Bool.and_assoc]; done) | (simp [c_1, mPts_22, Bool.and_assoc, Bool.or_assoc]; done) | rfl | (simp [c_1, mPts_22]; omega))) (hPost H hM hg) hS hx hb hr hlk (Nat.zero_le _) (Nat.zero_le _) dX3_points_20
  · rw [show (!(inB a1 3)).toNat = 0 from by rw [c_1]; rfl] at hM hg
    obtain ⟨hj1, ea1⟩ := inB_tn (by decide) c_1
    rw [ea1] at hl
    refine lv_aload_n hx hb dX3_points_11 rfl (lv_at hl 0 rfl) ?_
    refine lv_iload_n hx hb dX3_points_12 rfl (lv_at hl 1 rfl) ?_
    refine kM_pointsOf S hK hM hg hS (tn a1) (by first | omega | assumption | grind) (Nat.le_of_ble_eq_true rfl) (Nat.le_of_ble_eq_true rfl) hl.1 (Nat.le_of_ble_eq_true rfl) dX3_points_13 (Nat.zero_le _) (Nat.zero_le _) (fun locs hS => ?_)
    have f13_0 : mPts (gs g 22 0 0) (tn a1) < 1048700 := mPts_lt hg _
    refine lv_goto (tgt := 20) hx hb dX3_points_16 (by decide) ?_
    rw [show (gs g 22 0 0 : G) = gs g 22 0 (!(inB a1 3)).toNat from by first | with_reducible rfl | (simp [c_1, mPts_22]; done) | (simp only [c_1] <;> simp [mPts_22]; done) | (simp only [mPts_22, c_1] <;> simp [mPts_22]; done) | (simp [c_1, mPts_22, Bool.and_assoc]; done) | (simp [c_1, mPts_22, Bool.and_assoc, Bool.or_assoc]; done) | rfl | (simp [c_1, mPts_22]; omega)] at hM hg
    exact zc_nret (nI (if inB a1 3 = true then mPts g (tn a1) else 0)) (congrArg nI (show (mPts (gs g 22 0 0) (tn a1) : Nat) = (if inB a1 3 = true then mPts g (tn a1) else 0) from by first | with_reducible rfl | (simp [c_1, mPts_22]; done) | (simp only [c_1] <;> simp [mPts_22]; done) | (simp only [mPts_22, c_1] <;> simp [mPts_22]; done) | (simp [c_1, mPts_22, Bool.and_assoc]; done) | (simp [c_1, mPts_22, Bool.and_assoc, Bool.or_assoc]; done) | rfl | (simp [c_1, mPts_22]; omega))) (hPost H hM hg) hS hx hb hr hlk (Nat.zero_le _) (Nat.zero_le _) dX3_points_20
set_option maxHeartbeats 1000000 in
set_option maxRecDepth 100000 in
theorem cM_trail (l : Launch) {D : va_G} {dA : Nat → ClassId} {A : Nat → Prop} {ad : Nat → Nat} {g : G} (hg : Sm g) (a1 : Int32) (hr8 : ∀ p, p < 3 → roadsN g p 30 ≤ 8) (H0 : Heap) (hM : MS D dA A ad g H0) {Post : Option Value → Heap → Prop} (hPost : ∀ H : Heap, MS D dA A ad (if inB a1 3 = true then gO (gs g 22 0 (!(inB a1 3)).toNat) (tn a1) 30 else gs g 22 0 (!(inB a1 3)).toNat) H → Sm (if inB a1 3 = true then gO (gs g 22 0 (!(inB a1 3)).toNat) (tn a1) 30 else gs g 22 0 (!(inB a1 3)).toNat) → Post (some (.int (nI (if inB a1 3 = true then trailN g (tn a1) else 0)))) H) : Ct l yX3_trail (ws_ yX3_trail cX3_trail 2 (some .int)) (rmF 6 0 0 130) A (KT D dA) [.ref (ad 0), .int a1] H0 Post := by
  refine zc_of RX3 rfl (by decide) (Nat.le_of_ble_eq_true rfl) ?_
  intro pr en s m args below meth cd S hr hlk hnm hh hK ls hl
  have hS : va_S A s.heap H0 [] := zc_start hh
  have hg0 := hg
  have hx := S.1
  have hb := S.2.1
  have hown := S.2.2.2.1
  have hts := S.2.2.2.2
  have hl : lv_has ls 2 [(0, .ref (ad 0)), (1, .int a1)] := hl
  refine lv_aload_n hx hb dX3_trail_0 rfl (lv_at hl 0 rfl) ?_
  refine lv_iload_n hx hb dX3_trail_1 rfl (lv_at hl 1 rfl) ?_
  refine kM_isPlayer S hK hM hg hS a1  (Nat.le_of_ble_eq_true rfl) (Nat.le_of_ble_eq_true rfl) hl.1 (Nat.le_of_ble_eq_true rfl) dX3_trail_2 (Nat.zero_le _) (Nat.zero_le _) (fun locs hS => ?_)
  refine kM_asks S hK hM hg hS (inB a1 3)  (Nat.le_of_ble_eq_true rfl) (Nat.le_of_ble_eq_true rfl) hl.1 (Nat.le_of_ble_eq_true rfl) dX3_trail_5 (Nat.zero_le _) (Nat.zero_le _) (fun H locs hM hg hS => ?_)
  refine zr_if_eqB (b := (inB a1 3)) (tgt := 19) hx hb dX3_trail_8 (by decide) (fun c_1 => ?_) (fun c_1 => ?_)
  · rw [show (!(inB a1 3)).toNat = 1 from by rw [c_1]; rfl] at hM hg
    refine lv_iconst (v := nI 0) hx hb dX3_trail_19 zi_0 ?_
    rw [show (gs g 22 0 1 : G) = if inB a1 3 = true then gO (gs g 22 0 (!(inB a1 3)).toNat) (tn a1) 30 else gs g 22 0 (!(inB a1 3)).toNat from by first | with_reducible rfl | (simp [c_1, trailN_22]; done) | (simp only [c_1] <;> simp [trailN_22]; done) | (simp only [trailN_22, c_1] <;> simp [trailN_22]; done) | (simp [c_1, trailN_22, Bool.and_assoc]; done) | (simp [c_1, trailN_22, Bool.and_assoc, Bool.or_assoc]; done) | rfl | (simp [c_1, trailN_22]; omega)] at hM hg
    exact zc_nret (nI (if inB a1 3 = true then trailN g (tn a1) else 0)) (congrArg nI (show (0 : Nat) = (if inB a1 3 = true then trailN g (tn a1) else 0) from by first | with_reducible rfl | (simp [c_1, trailN_22]; done) | (simp only [c_1] <;> simp [trailN_22]; done) | (simp only [trailN_22, c_1] <;> simp [trailN_22]; done) | (simp [c_1, trailN_22, Bool.and_assoc]; done) | (simp [c_1, trailN_22, Bool.and_assoc, Bool.or_assoc]; done) | rfl | (simp [c_1, trailN_22]; omega))) (hPost H hM hg) hS hx hb hr hlk (Nat.zero_le _) (Nat.zero_le _) dX3_trail_20
  · rw [show (!(inB a1 3)).toNat = 0 from by rw [c_1]; rfl] at hM hg
    obtain ⟨hj1, ea1⟩ := inB_tn (by decide) c_1
    rw [ea1] at hl
    refine lv_aload_n hx hb dX3_trail_11 rfl (lv_at hl 0 rfl) ?_
    refine lv_iload_n hx hb dX3_trail_12 rfl (lv_at hl 1 rfl) ?_
    refine kM_trailOf S hK hM hg hS (tn a1) (by first | omega | assumption | grind) (by exact hr8 _ (by omega)) (Nat.le_of_ble_eq_true rfl) (Nat.le_of_ble_eq_true rfl) hl.1 (Nat.le_of_ble_eq_true rfl) dX3_trail_13 (Nat.zero_le _) (Nat.zero_le _) (fun H locs hM hg hS => ?_)
    have f13_0 : trailN (gs g 22 0 0) (tn a1) ≤ 8 := trailN_le _ _
    refine lv_goto (tgt := 20) hx hb dX3_trail_16 (by decide) ?_
    rw [show (gO (gs g 22 0 0) (tn a1) 30 : G) = if inB a1 3 = true then gO (gs g 22 0 (!(inB a1 3)).toNat) (tn a1) 30 else gs g 22 0 (!(inB a1 3)).toNat from by first | with_reducible rfl | (simp [c_1, trailN_22]; done) | (simp only [c_1] <;> simp [trailN_22]; done) | (simp only [trailN_22, c_1] <;> simp [trailN_22]; done) | (simp [c_1, trailN_22, Bool.and_assoc]; done) | (simp [c_1, trailN_22, Bool.and_assoc, Bool.or_assoc]; done) | rfl | (simp [c_1, trailN_22]; omega)] at hM hg
    exact zc_nret (nI (if inB a1 3 = true then trailN g (tn a1) else 0)) (congrArg nI (show (trailN (gs g 22 0 0) (tn a1) : Nat) = (if inB a1 3 = true then trailN g (tn a1) else 0) from by first | with_reducible rfl | (simp [c_1, trailN_22]; done) | (simp only [c_1] <;> simp [trailN_22]; done) | (simp only [trailN_22, c_1] <;> simp [trailN_22]; done) | (simp [c_1, trailN_22, Bool.and_assoc]; done) | (simp [c_1, trailN_22, Bool.and_assoc, Bool.or_assoc]; done) | rfl | (simp [c_1, trailN_22]; omega))) (hPost H hM hg) hS hx hb hr hlk (Nat.zero_le _) (Nat.zero_le _) dX3_trail_20
set_option maxHeartbeats 1000000 in
set_option maxRecDepth 100000 in
theorem cM_trailBySets (l : Launch) {D : va_G} {dA : Nat → ClassId} {A : Nat → Prop} {ad : Nat → Nat} {g : G} (hg : Sm g) (a1 : Int32) (hr8 : ∀ p, p < 3 → roadsN g p 30 ≤ 8) (H0 : Heap) (hM : MS D dA A ad g H0) {Post : Option Value → Heap → Prop} (hPost : ∀ H : Heap, MS D dA A ad (if inB a1 3 = true then gO (gs g 22 0 (!(inB a1 3)).toNat) (tn a1) 30 else gs g 22 0 (!(inB a1 3)).toNat) H → Sm (if inB a1 3 = true then gO (gs g 22 0 (!(inB a1 3)).toNat) (tn a1) 30 else gs g 22 0 (!(inB a1 3)).toNat) → Post (some (.int (nI (if inB a1 3 = true then trailN g (tn a1) else 0)))) H) : Ct l yX3_trailBySets (ws_ yX3_trailBySets cX3_trailBySets 2 (some .int)) (rmF 6 0 0 130) A (KT D dA) [.ref (ad 0), .int a1] H0 Post := by
  refine zc_of RX3 rfl (by decide) (Nat.le_of_ble_eq_true rfl) ?_
  intro pr en s m args below meth cd S hr hlk hnm hh hK ls hl
  have hS : va_S A s.heap H0 [] := zc_start hh
  have hg0 := hg
  have hx := S.1
  have hb := S.2.1
  have hown := S.2.2.2.1
  have hts := S.2.2.2.2
  have hl : lv_has ls 2 [(0, .ref (ad 0)), (1, .int a1)] := hl
  refine lv_aload_n hx hb dX3_trailBySets_0 rfl (lv_at hl 0 rfl) ?_
  refine lv_iload_n hx hb dX3_trailBySets_1 rfl (lv_at hl 1 rfl) ?_
  refine kM_isPlayer S hK hM hg hS a1  (Nat.le_of_ble_eq_true rfl) (Nat.le_of_ble_eq_true rfl) hl.1 (Nat.le_of_ble_eq_true rfl) dX3_trailBySets_2 (Nat.zero_le _) (Nat.zero_le _) (fun locs hS => ?_)
  refine kM_asks S hK hM hg hS (inB a1 3)  (Nat.le_of_ble_eq_true rfl) (Nat.le_of_ble_eq_true rfl) hl.1 (Nat.le_of_ble_eq_true rfl) dX3_trailBySets_5 (Nat.zero_le _) (Nat.zero_le _) (fun H locs hM hg hS => ?_)
  refine zr_if_eqB (b := (inB a1 3)) (tgt := 19) hx hb dX3_trailBySets_8 (by decide) (fun c_1 => ?_) (fun c_1 => ?_)
  · rw [show (!(inB a1 3)).toNat = 1 from by rw [c_1]; rfl] at hM hg
    refine lv_iconst (v := nI 0) hx hb dX3_trailBySets_19 zi_0 ?_
    rw [show (gs g 22 0 1 : G) = if inB a1 3 = true then gO (gs g 22 0 (!(inB a1 3)).toNat) (tn a1) 30 else gs g 22 0 (!(inB a1 3)).toNat from by first | with_reducible rfl | (simp [c_1, trailN_22]; done) | (simp only [c_1] <;> simp [trailN_22]; done) | (simp only [trailN_22, c_1] <;> simp [trailN_22]; done) | (simp [c_1, trailN_22, Bool.and_assoc]; done) | (simp [c_1, trailN_22, Bool.and_assoc, Bool.or_assoc]; done) | rfl | (simp [c_1, trailN_22]; omega)] at hM hg
    exact zc_nret (nI (if inB a1 3 = true then trailN g (tn a1) else 0)) (congrArg nI (show (0 : Nat) = (if inB a1 3 = true then trailN g (tn a1) else 0) from by first | with_reducible rfl | (simp [c_1, trailN_22]; done) | (simp only [c_1] <;> simp [trailN_22]; done) | (simp only [trailN_22, c_1] <;> simp [trailN_22]; done) | (simp [c_1, trailN_22, Bool.and_assoc]; done) | (simp [c_1, trailN_22, Bool.and_assoc, Bool.or_assoc]; done) | rfl | (simp [c_1, trailN_22]; omega))) (hPost H hM hg) hS hx hb hr hlk (Nat.zero_le _) (Nat.zero_le _) dX3_trailBySets_20
  · rw [show (!(inB a1 3)).toNat = 0 from by rw [c_1]; rfl] at hM hg
    obtain ⟨hj1, ea1⟩ := inB_tn (by decide) c_1
    rw [ea1] at hl
    refine lv_aload_n hx hb dX3_trailBySets_11 rfl (lv_at hl 0 rfl) ?_
    refine lv_iload_n hx hb dX3_trailBySets_12 rfl (lv_at hl 1 rfl) ?_
    refine kM_trailOf S hK hM hg hS (tn a1) (by first | omega | assumption | grind) (by exact hr8 _ (by omega)) (Nat.le_of_ble_eq_true rfl) (Nat.le_of_ble_eq_true rfl) hl.1 (Nat.le_of_ble_eq_true rfl) dX3_trailBySets_13 (Nat.zero_le _) (Nat.zero_le _) (fun H locs hM hg hS => ?_)
    have f13_0 : trailN (gs g 22 0 0) (tn a1) ≤ 8 := trailN_le _ _
    refine lv_goto (tgt := 20) hx hb dX3_trailBySets_16 (by decide) ?_
    rw [show (gO (gs g 22 0 0) (tn a1) 30 : G) = if inB a1 3 = true then gO (gs g 22 0 (!(inB a1 3)).toNat) (tn a1) 30 else gs g 22 0 (!(inB a1 3)).toNat from by first | with_reducible rfl | (simp [c_1, trailN_22]; done) | (simp only [c_1] <;> simp [trailN_22]; done) | (simp only [trailN_22, c_1] <;> simp [trailN_22]; done) | (simp [c_1, trailN_22, Bool.and_assoc]; done) | (simp [c_1, trailN_22, Bool.and_assoc, Bool.or_assoc]; done) | rfl | (simp [c_1, trailN_22]; omega)] at hM hg
    exact zc_nret (nI (if inB a1 3 = true then trailN g (tn a1) else 0)) (congrArg nI (show (trailN (gs g 22 0 0) (tn a1) : Nat) = (if inB a1 3 = true then trailN g (tn a1) else 0) from by first | with_reducible rfl | (simp [c_1, trailN_22]; done) | (simp only [c_1] <;> simp [trailN_22]; done) | (simp only [trailN_22, c_1] <;> simp [trailN_22]; done) | (simp [c_1, trailN_22, Bool.and_assoc]; done) | (simp [c_1, trailN_22, Bool.and_assoc, Bool.or_assoc]; done) | rfl | (simp [c_1, trailN_22]; omega))) (hPost H hM hg) hS hx hb hr hlk (Nat.zero_le _) (Nat.zero_le _) dX3_trailBySets_20
set_option maxHeartbeats 1000000 in
set_option maxRecDepth 100000 in
theorem cM_buildingAt (l : Launch) {D : va_G} {dA : Nat → ClassId} {A : Nat → Prop} {ad : Nat → Nat} {g : G} (hg : Sm g) (a1 : Int32) (H0 : Heap) (hM : MS D dA A ad g H0) {Post : Option Value → Heap → Prop} (hPost : ∀ H : Heap, MS D dA A ad (gs g 22 0 (!(inB a1 24)).toNat) H → Sm (gs g 22 0 (!(inB a1 24)).toNat) → Post (some (.int (mI (if inB a1 24 = true then g 2 (tn a1) else 1)))) H) : Ct l yX3_buildingAt (ws_ yX3_buildingAt cX3_buildingAt 2 (some .int)) (rmF 2 0 0 34) A (KT D dA) [.ref (ad 0), .int a1] H0 Post := by
  refine zc_of RX3 rfl (by decide) (Nat.le_of_ble_eq_true rfl) ?_
  intro pr en s m args below meth cd S hr hlk hnm hh hK ls hl
  have hS : va_S A s.heap H0 [] := zc_start hh
  have hg0 := hg
  have hx := S.1
  have hb := S.2.1
  have hown := S.2.2.2.1
  have hts := S.2.2.2.2
  have hl : lv_has ls 2 [(0, .ref (ad 0)), (1, .int a1)] := hl
  refine lv_aload_n hx hb dX3_buildingAt_0 rfl (lv_at hl 0 rfl) ?_
  refine lv_iload_n hx hb dX3_buildingAt_1 rfl (lv_at hl 1 rfl) ?_
  refine kM_isCorner S hK hM hg hS a1  (Nat.le_of_ble_eq_true rfl) (Nat.le_of_ble_eq_true rfl) hl.1 (Nat.le_of_ble_eq_true rfl) dX3_buildingAt_2 (Nat.zero_le _) (Nat.zero_le _) (fun locs hS => ?_)
  refine kM_asks S hK hM hg hS (inB a1 24)  (Nat.le_of_ble_eq_true rfl) (Nat.le_of_ble_eq_true rfl) hl.1 (Nat.le_of_ble_eq_true rfl) dX3_buildingAt_5 (Nat.zero_le _) (Nat.zero_le _) (fun H locs hM hg hS => ?_)
  refine zr_if_eqB (b := (inB a1 24)) (tgt := 22) hx hb dX3_buildingAt_8 (by decide) (fun c_1 => ?_) (fun c_1 => ?_)
  · rw [show (!(inB a1 24)).toNat = 1 from by rw [c_1]; rfl] at hM hg
    refine lv_iconst (v := nI 0) hx hb dX3_buildingAt_22 zi_0 ?_
    rw [show (gs g 22 0 1 : G) = gs g 22 0 (!(inB a1 24)).toNat from by first | with_reducible rfl | (simp [c_1]; done) | (simp only [c_1] <;> simp []; done) | (simp [c_1, Bool.and_assoc]; done) | (simp [c_1, Bool.and_assoc, Bool.or_assoc]; done) | rfl | (simp [c_1]; omega)] at hM hg
    exact zc_nret (mI (if inB a1 24 = true then g 2 (tn a1) else 1)) ((mI_succ 0).symm.trans (congrArg mI (show (1 : Nat) = (if inB a1 24 = true then g 2 (tn a1) else 1) from by first | with_reducible rfl | (simp [c_1]; done) | (simp only [c_1] <;> simp []; done) | (simp [c_1, Bool.and_assoc]; done) | (simp [c_1, Bool.and_assoc, Bool.or_assoc]; done) | rfl | (simp [c_1]; omega)))) (hPost H hM hg) hS hx hb hr hlk (Nat.zero_le _) (Nat.zero_le _) dX3_buildingAt_23
  · rw [show (!(inB a1 24)).toNat = 0 from by rw [c_1]; rfl] at hM hg
    obtain ⟨hj1, ea1⟩ := inB_tn (by decide) c_1
    rw [ea1] at hl
    refine lv_aload_n hx hb dX3_buildingAt_11 rfl (lv_at hl 0 rfl) ?_
    refine gM_building S hK hM dX3_buildingAt_12 ?_
    refine lv_iload_n hx hb dX3_buildingAt_15 rfl (lv_at hl 1 rfl) ?_
    refine lM_building S hK hM (tn a1) (by omega) (g 2 (tn a1)) (by first | rfl | simp [gs]) dX3_buildingAt_16 ?_
    have hb_2 : g 2 (tn a1) < 1048576 := by first | exact hg 2 (tn a1) | exact hg0 _ _ | (have := hg 2 (tn a1); omega) | omega
    refine lv_iconst (v := nI 1) hx hb dX3_buildingAt_17 zi_1 ?_
    refine lv_isub hx hb dX3_buildingAt_18 ?_
    rw [show nI (g 2 (tn a1)) - nI 1 = mI (g 2 (tn a1)) from rfl]
    refine lv_goto (tgt := 23) hx hb dX3_buildingAt_19 (by decide) ?_
    rw [show (gs g 22 0 0 : G) = gs g 22 0 (!(inB a1 24)).toNat from by first | with_reducible rfl | (simp [c_1]; done) | (simp only [c_1] <;> simp []; done) | (simp [c_1, Bool.and_assoc]; done) | (simp [c_1, Bool.and_assoc, Bool.or_assoc]; done) | rfl | (simp [c_1]; omega)] at hM hg
    exact zc_nret (mI (if inB a1 24 = true then g 2 (tn a1) else 1)) (congrArg mI (show ((g 2 (tn a1)) : Nat) = (if inB a1 24 = true then g 2 (tn a1) else 1) from by first | with_reducible rfl | (simp [c_1]; done) | (simp only [c_1] <;> simp []; done) | (simp [c_1, Bool.and_assoc]; done) | (simp [c_1, Bool.and_assoc, Bool.or_assoc]; done) | rfl | (simp [c_1]; omega))) (hPost H hM hg) hS hx hb hr hlk (Nat.zero_le _) (Nat.zero_le _) dX3_buildingAt_23
set_option maxHeartbeats 1000000 in
set_option maxRecDepth 100000 in
theorem cM_roadAt (l : Launch) {D : va_G} {dA : Nat → ClassId} {A : Nat → Prop} {ad : Nat → Nat} {g : G} (hg : Sm g) (a1 : Int32) (H0 : Heap) (hM : MS D dA A ad g H0) {Post : Option Value → Heap → Prop} (hPost : ∀ H : Heap, MS D dA A ad (gs g 22 0 (!(inB a1 30)).toNat) H → Sm (gs g 22 0 (!(inB a1 30)).toNat) → Post (some (.int (mI (if inB a1 30 = true then g 3 (tn a1) else 1)))) H) : Ct l yX3_roadAt (ws_ yX3_roadAt cX3_roadAt 2 (some .int)) (rmF 2 0 0 34) A (KT D dA) [.ref (ad 0), .int a1] H0 Post := by
  refine zc_of RX3 rfl (by decide) (Nat.le_of_ble_eq_true rfl) ?_
  intro pr en s m args below meth cd S hr hlk hnm hh hK ls hl
  have hS : va_S A s.heap H0 [] := zc_start hh
  have hg0 := hg
  have hx := S.1
  have hb := S.2.1
  have hown := S.2.2.2.1
  have hts := S.2.2.2.2
  have hl : lv_has ls 2 [(0, .ref (ad 0)), (1, .int a1)] := hl
  refine lv_aload_n hx hb dX3_roadAt_0 rfl (lv_at hl 0 rfl) ?_
  refine lv_iload_n hx hb dX3_roadAt_1 rfl (lv_at hl 1 rfl) ?_
  refine kM_isEdge S hK hM hg hS a1  (Nat.le_of_ble_eq_true rfl) (Nat.le_of_ble_eq_true rfl) hl.1 (Nat.le_of_ble_eq_true rfl) dX3_roadAt_2 (Nat.zero_le _) (Nat.zero_le _) (fun locs hS => ?_)
  refine kM_asks S hK hM hg hS (inB a1 30)  (Nat.le_of_ble_eq_true rfl) (Nat.le_of_ble_eq_true rfl) hl.1 (Nat.le_of_ble_eq_true rfl) dX3_roadAt_5 (Nat.zero_le _) (Nat.zero_le _) (fun H locs hM hg hS => ?_)
  refine zr_if_eqB (b := (inB a1 30)) (tgt := 22) hx hb dX3_roadAt_8 (by decide) (fun c_1 => ?_) (fun c_1 => ?_)
  · rw [show (!(inB a1 30)).toNat = 1 from by rw [c_1]; rfl] at hM hg
    refine lv_iconst (v := nI 0) hx hb dX3_roadAt_22 zi_0 ?_
    rw [show (gs g 22 0 1 : G) = gs g 22 0 (!(inB a1 30)).toNat from by first | with_reducible rfl | (simp [c_1]; done) | (simp only [c_1] <;> simp []; done) | (simp [c_1, Bool.and_assoc]; done) | (simp [c_1, Bool.and_assoc, Bool.or_assoc]; done) | rfl | (simp [c_1]; omega)] at hM hg
    exact zc_nret (mI (if inB a1 30 = true then g 3 (tn a1) else 1)) ((mI_succ 0).symm.trans (congrArg mI (show (1 : Nat) = (if inB a1 30 = true then g 3 (tn a1) else 1) from by first | with_reducible rfl | (simp [c_1]; done) | (simp only [c_1] <;> simp []; done) | (simp [c_1, Bool.and_assoc]; done) | (simp [c_1, Bool.and_assoc, Bool.or_assoc]; done) | rfl | (simp [c_1]; omega)))) (hPost H hM hg) hS hx hb hr hlk (Nat.zero_le _) (Nat.zero_le _) dX3_roadAt_23
  · rw [show (!(inB a1 30)).toNat = 0 from by rw [c_1]; rfl] at hM hg
    obtain ⟨hj1, ea1⟩ := inB_tn (by decide) c_1
    rw [ea1] at hl
    refine lv_aload_n hx hb dX3_roadAt_11 rfl (lv_at hl 0 rfl) ?_
    refine gM_road S hK hM dX3_roadAt_12 ?_
    refine lv_iload_n hx hb dX3_roadAt_15 rfl (lv_at hl 1 rfl) ?_
    refine lM_road S hK hM (tn a1) (by omega) (g 3 (tn a1)) (by first | rfl | simp [gs]) dX3_roadAt_16 ?_
    have hb_2 : g 3 (tn a1) < 1048576 := by first | exact hg 3 (tn a1) | exact hg0 _ _ | (have := hg 3 (tn a1); omega) | omega
    refine lv_iconst (v := nI 1) hx hb dX3_roadAt_17 zi_1 ?_
    refine lv_isub hx hb dX3_roadAt_18 ?_
    rw [show nI (g 3 (tn a1)) - nI 1 = mI (g 3 (tn a1)) from rfl]
    refine lv_goto (tgt := 23) hx hb dX3_roadAt_19 (by decide) ?_
    rw [show (gs g 22 0 0 : G) = gs g 22 0 (!(inB a1 30)).toNat from by first | with_reducible rfl | (simp [c_1]; done) | (simp only [c_1] <;> simp []; done) | (simp [c_1, Bool.and_assoc]; done) | (simp [c_1, Bool.and_assoc, Bool.or_assoc]; done) | rfl | (simp [c_1]; omega)] at hM hg
    exact zc_nret (mI (if inB a1 30 = true then g 3 (tn a1) else 1)) (congrArg mI (show ((g 3 (tn a1)) : Nat) = (if inB a1 30 = true then g 3 (tn a1) else 1) from by first | with_reducible rfl | (simp [c_1]; done) | (simp only [c_1] <;> simp []; done) | (simp [c_1, Bool.and_assoc]; done) | (simp [c_1, Bool.and_assoc, Bool.or_assoc]; done) | rfl | (simp [c_1]; omega))) (hPost H hM hg) hS hx hb hr hlk (Nat.zero_le _) (Nat.zero_le _) dX3_roadAt_23
set_option maxHeartbeats 1000000 in
set_option maxRecDepth 100000 in
theorem cM_cards (l : Launch) {D : va_G} {dA : Nat → ClassId} {A : Nat → Prop} {ad : Nat → Nat} {g : G} (hg : Sm g) (a1 : Int32) (a2 : Int32) (H0 : Heap) (hM : MS D dA A ad g H0) {Post : Option Value → Heap → Prop} (hPost : ∀ H : Heap, MS D dA A ad (if inB a1 3 = true then (if inR a2 0 4 = true then gs g 22 0 (!(inB a1 3)).toNat else gs (gs g 22 0 (!(inB a1 3)).toNat) 22 0 2) else gs g 22 0 (!(inB a1 3)).toNat) H → Sm (if inB a1 3 = true then (if inR a2 0 4 = true then gs g 22 0 (!(inB a1 3)).toNat else gs (gs g 22 0 (!(inB a1 3)).toNat) 22 0 2) else gs g 22 0 (!(inB a1 3)).toNat) → Post (some (.int (nI (if inB a1 3 = true then (if inR a2 0 4 = true then g 24 (5 * tn a1 + tn a2) else 0) else 0)))) H) : Ct l yX3_cards (ws_ yX3_cards cX3_cards 3 (some .int)) (rmF 2 0 0 36) A (KT D dA) [.ref (ad 0), .int a1, .int a2] H0 Post := by
  refine zc_of RX3 rfl (by decide) (Nat.le_of_ble_eq_true rfl) ?_
  intro pr en s m args below meth cd S hr hlk hnm hh hK ls hl
  have hS : va_S A s.heap H0 [] := zc_start hh
  have hg0 := hg
  have hx := S.1
  have hb := S.2.1
  have hown := S.2.2.2.1
  have hts := S.2.2.2.2
  have hl : lv_has ls 3 [(0, .ref (ad 0)), (1, .int a1), (2, .int a2)] := hl
  refine lv_aload_n hx hb dX3_cards_0 rfl (lv_at hl 0 rfl) ?_
  refine lv_iload_n hx hb dX3_cards_1 rfl (lv_at hl 1 rfl) ?_
  refine kM_isPlayer S hK hM hg hS a1  (Nat.le_of_ble_eq_true rfl) (Nat.le_of_ble_eq_true rfl) hl.1 (Nat.le_of_ble_eq_true rfl) dX3_cards_2 (Nat.zero_le _) (Nat.zero_le _) (fun locs hS => ?_)
  refine kM_asks S hK hM hg hS (inB a1 3)  (Nat.le_of_ble_eq_true rfl) (Nat.le_of_ble_eq_true rfl) hl.1 (Nat.le_of_ble_eq_true rfl) dX3_cards_5 (Nat.zero_le _) (Nat.zero_le _) (fun H locs hM hg hS => ?_)
  refine zr_if_neB (b := (inB a1 3)) (tgt := 13) hx hb dX3_cards_8 (by decide) (fun c_1 => ?_) (fun c_1 => ?_)
  · rw [show (!(inB a1 3)).toNat = 0 from by rw [c_1]; rfl] at hM hg
    obtain ⟨hj1, ea1⟩ := inB_tn (by decide) c_1
    rw [ea1] at hl
    refine lv_iload_n hx hb dX3_cards_13 rfl (lv_at hl 2 rfl) ?_
    refine lv_iconst (v := nI 0) hx hb dX3_cards_14 zi_0 ?_
    refine lv_iconst (v := nI 4) hx hb dX3_cards_15 zi_4 ?_
    refine kM_in S hK hM hg hS a2 0 4  (Nat.le_of_ble_eq_true rfl) (Nat.le_of_ble_eq_true rfl) hl.1 (Nat.le_of_ble_eq_true rfl) dX3_cards_16 (Nat.zero_le _) (Nat.zero_le _) (fun locs hS => ?_)
    refine zr_if_eqB (b := inR a2 0 4) (tgt := 35) hx hb dX3_cards_19 (by decide) (fun c_2 => ?_) (fun c_2 => ?_)
    · refine lv_aload_n hx hb dX3_cards_35 rfl (lv_at hl 0 rfl) ?_
      refine lv_iconst (v := nI 2) hx hb dX3_cards_36 zi_2 ?_
      refine kM_fails S hK hM hg hS 2 (by first | omega | assumption | grind) (Nat.le_of_ble_eq_true rfl) (Nat.le_of_ble_eq_true rfl) hl.1 (Nat.le_of_ble_eq_true rfl) dX3_cards_37 (Nat.zero_le _) (Nat.zero_le _) (fun H locs hM hg hS => ?_)
      rw [show (gs (gs g 22 0 0) 22 0 2 : G) = if inB a1 3 = true then (if inR a2 0 4 = true then gs g 22 0 (!(inB a1 3)).toNat else gs (gs g 22 0 (!(inB a1 3)).toNat) 22 0 2) else gs g 22 0 (!(inB a1 3)).toNat from by first | with_reducible rfl | (simp [c_1, c_2]; done) | (simp only [c_1, c_2] <;> simp []; done) | (simp [c_1, c_2, Bool.and_assoc]; done) | (simp [c_1, c_2, Bool.and_assoc, Bool.or_assoc]; done) | rfl | (simp [c_1, c_2]; omega)] at hM hg
      exact zc_nret (nI (if inB a1 3 = true then (if inR a2 0 4 = true then g 24 (5 * tn a1 + tn a2) else 0) else 0)) (congrArg nI (show (0 : Nat) = (if inB a1 3 = true then (if inR a2 0 4 = true then g 24 (5 * tn a1 + tn a2) else 0) else 0) from by first | with_reducible rfl | (simp [c_1, c_2]; done) | (simp only [c_1, c_2] <;> simp []; done) | (simp [c_1, c_2, Bool.and_assoc]; done) | (simp [c_1, c_2, Bool.and_assoc, Bool.or_assoc]; done) | rfl | (simp [c_1, c_2]; omega))) (hPost H hM hg) hS hx hb hr hlk (Nat.zero_le _) (Nat.zero_le _) dX3_cards_40
    · obtain ⟨lj2, hj2, ea2⟩ := inR_tn (by decide) (by decide) c_2
      rw [ea2] at hl
      refine lv_aload_n hx hb dX3_cards_22 rfl (lv_at hl 0 rfl) ?_
      refine gM_cards S hK hM dX3_cards_23 ?_
      refine lv_iconst (v := nI 5) hx hb dX3_cards_26 zi_5 ?_
      refine lv_iload_n hx hb dX3_cards_27 rfl (lv_at hl 1 rfl) ?_
      refine zr_mulN (a := 5) (b := (tn a1)) hx hb dX3_cards_28 ?_
      refine lv_iload_n hx hb dX3_cards_29 rfl (lv_at hl 2 rfl) ?_
      refine zr_addN (a := (5 * (tn a1))) (b := (tn a2)) hx hb dX3_cards_30 ?_
      refine lM_cards S hK hM ((5 * (tn a1)) + (tn a2)) (by omega) (g 24 ((5 * (tn a1)) + (tn a2))) (by first | rfl | simp [gs]) dX3_cards_31 ?_
      have hb_3 : g 24 ((5 * (tn a1)) + (tn a2)) < 1048576 := by first | exact hg 24 ((5 * (tn a1)) + (tn a2)) | exact hg0 _ _ | (have := hg 24 ((5 * (tn a1)) + (tn a2)); omega) | omega
      refine lv_goto (tgt := 40) hx hb dX3_cards_32 (by decide) ?_
      rw [show (gs g 22 0 0 : G) = if inB a1 3 = true then (if inR a2 0 4 = true then gs g 22 0 (!(inB a1 3)).toNat else gs (gs g 22 0 (!(inB a1 3)).toNat) 22 0 2) else gs g 22 0 (!(inB a1 3)).toNat from by first | with_reducible rfl | (simp [c_1, c_2]; done) | (simp only [c_1, c_2] <;> simp []; done) | (simp [c_1, c_2, Bool.and_assoc]; done) | (simp [c_1, c_2, Bool.and_assoc, Bool.or_assoc]; done) | rfl | (simp [c_1, c_2]; omega)] at hM hg
      exact zc_nret (nI (if inB a1 3 = true then (if inR a2 0 4 = true then g 24 (5 * tn a1 + tn a2) else 0) else 0)) (congrArg nI (show (g 24 ((5 * (tn a1)) + (tn a2)) : Nat) = (if inB a1 3 = true then (if inR a2 0 4 = true then g 24 (5 * tn a1 + tn a2) else 0) else 0) from by first | with_reducible rfl | (simp [c_1, c_2]; done) | (simp only [c_1, c_2] <;> simp []; done) | (simp [c_1, c_2, Bool.and_assoc]; done) | (simp [c_1, c_2, Bool.and_assoc, Bool.or_assoc]; done) | rfl | (simp [c_1, c_2]; omega))) (hPost H hM hg) hS hx hb hr hlk (Nat.zero_le _) (Nat.zero_le _) dX3_cards_40
  · rw [show (!(inB a1 3)).toNat = 1 from by rw [c_1]; rfl] at hM hg
    refine lv_iconst (v := nI 0) hx hb dX3_cards_11 zi_0 ?_
    rw [show (gs g 22 0 1 : G) = if inB a1 3 = true then (if inR a2 0 4 = true then gs g 22 0 (!(inB a1 3)).toNat else gs (gs g 22 0 (!(inB a1 3)).toNat) 22 0 2) else gs g 22 0 (!(inB a1 3)).toNat from by first | with_reducible rfl | (simp [c_1]; done) | (simp only [c_1] <;> simp []; done) | (simp [c_1, Bool.and_assoc]; done) | (simp [c_1, Bool.and_assoc, Bool.or_assoc]; done) | rfl | (simp [c_1]; omega)] at hM hg
    exact zc_nret (nI (if inB a1 3 = true then (if inR a2 0 4 = true then g 24 (5 * tn a1 + tn a2) else 0) else 0)) (congrArg nI (show (0 : Nat) = (if inB a1 3 = true then (if inR a2 0 4 = true then g 24 (5 * tn a1 + tn a2) else 0) else 0) from by first | with_reducible rfl | (simp [c_1]; done) | (simp only [c_1] <;> simp []; done) | (simp [c_1, Bool.and_assoc]; done) | (simp [c_1, Bool.and_assoc, Bool.or_assoc]; done) | rfl | (simp [c_1]; omega))) (hPost H hM hg) hS hx hb hr hlk (Nat.zero_le _) (Nat.zero_le _) dX3_cards_12
set_option maxHeartbeats 1000000 in
set_option maxRecDepth 100000 in
theorem cM_handNow (l : Launch) {D : va_G} {dA : Nat → ClassId} {A : Nat → Prop} {ad : Nat → Nat} {g : G} (hg : Sm g) (a1 : Int32) (a2 : Int32) (H0 : Heap) (hM : MS D dA A ad g H0) {Post : Option Value → Heap → Prop} (hPost : ∀ H : Heap, MS D dA A ad (if inR a1 0 3 = true then (if inB a2 5 = true then gs g 22 0 (!(inR a1 0 3)).toNat else gs (gs g 22 0 (!(inR a1 0 3)).toNat) 22 0 2) else gs g 22 0 (!(inR a1 0 3)).toNat) H → Sm (if inR a1 0 3 = true then (if inB a2 5 = true then gs g 22 0 (!(inR a1 0 3)).toNat else gs (gs g 22 0 (!(inR a1 0 3)).toNat) 22 0 2) else gs g 22 0 (!(inR a1 0 3)).toNat) → Post (some (.int (nI (if inR a1 0 3 = true then (if inB a2 5 = true then g 4 (5 * tn a1 + tn a2) else 0) else 0)))) H) : Ct l yX3_handNow (ws_ yX3_handNow cX3_handNow 3 (some .int)) (rmF 2 0 0 36) A (KT D dA) [.ref (ad 0), .int a1, .int a2] H0 Post := by
  refine zc_of RX3 rfl (by decide) (Nat.le_of_ble_eq_true rfl) ?_
  intro pr en s m args below meth cd S hr hlk hnm hh hK ls hl
  have hS : va_S A s.heap H0 [] := zc_start hh
  have hg0 := hg
  have hx := S.1
  have hb := S.2.1
  have hown := S.2.2.2.1
  have hts := S.2.2.2.2
  have hl : lv_has ls 3 [(0, .ref (ad 0)), (1, .int a1), (2, .int a2)] := hl
  refine lv_aload_n hx hb dX3_handNow_0 rfl (lv_at hl 0 rfl) ?_
  refine lv_iload_n hx hb dX3_handNow_1 rfl (lv_at hl 1 rfl) ?_
  refine lv_iconst (v := nI 0) hx hb dX3_handNow_2 zi_0 ?_
  refine lv_iconst (v := nI 3) hx hb dX3_handNow_3 zi_3 ?_
  refine kM_in S hK hM hg hS a1 0 3  (Nat.le_of_ble_eq_true rfl) (Nat.le_of_ble_eq_true rfl) hl.1 (Nat.le_of_ble_eq_true rfl) dX3_handNow_4 (Nat.zero_le _) (Nat.zero_le _) (fun locs hS => ?_)
  refine kM_asks S hK hM hg hS (inR a1 0 3)  (Nat.le_of_ble_eq_true rfl) (Nat.le_of_ble_eq_true rfl) hl.1 (Nat.le_of_ble_eq_true rfl) dX3_handNow_7 (Nat.zero_le _) (Nat.zero_le _) (fun H locs hM hg hS => ?_)
  refine zr_if_neB (b := (inR a1 0 3)) (tgt := 15) hx hb dX3_handNow_10 (by decide) (fun c_1 => ?_) (fun c_1 => ?_)
  · rw [show (!(inR a1 0 3)).toNat = 0 from by rw [c_1]; rfl] at hM hg
    obtain ⟨lj1, hj1, ea1⟩ := inR_tn (by decide) (by decide) c_1
    rw [ea1] at hl
    refine lv_iload_n hx hb dX3_handNow_15 rfl (lv_at hl 2 rfl) ?_
    refine kM_isGood S hK hM hg hS a2  (Nat.le_of_ble_eq_true rfl) (Nat.le_of_ble_eq_true rfl) hl.1 (Nat.le_of_ble_eq_true rfl) dX3_handNow_16 (Nat.zero_le _) (Nat.zero_le _) (fun locs hS => ?_)
    refine zr_if_eqB (b := inB a2 5) (tgt := 35) hx hb dX3_handNow_19 (by decide) (fun c_2 => ?_) (fun c_2 => ?_)
    · refine lv_aload_n hx hb dX3_handNow_35 rfl (lv_at hl 0 rfl) ?_
      refine lv_iconst (v := nI 2) hx hb dX3_handNow_36 zi_2 ?_
      refine kM_fails S hK hM hg hS 2 (by first | omega | assumption | grind) (Nat.le_of_ble_eq_true rfl) (Nat.le_of_ble_eq_true rfl) hl.1 (Nat.le_of_ble_eq_true rfl) dX3_handNow_37 (Nat.zero_le _) (Nat.zero_le _) (fun H locs hM hg hS => ?_)
      rw [show (gs (gs g 22 0 0) 22 0 2 : G) = if inR a1 0 3 = true then (if inB a2 5 = true then gs g 22 0 (!(inR a1 0 3)).toNat else gs (gs g 22 0 (!(inR a1 0 3)).toNat) 22 0 2) else gs g 22 0 (!(inR a1 0 3)).toNat from by first | with_reducible rfl | (simp [c_1, c_2]; done) | (simp only [c_1, c_2] <;> simp []; done) | (simp [c_1, c_2, Bool.and_assoc]; done) | (simp [c_1, c_2, Bool.and_assoc, Bool.or_assoc]; done) | rfl | (simp [c_1, c_2]; omega)] at hM hg
      exact zc_nret (nI (if inR a1 0 3 = true then (if inB a2 5 = true then g 4 (5 * tn a1 + tn a2) else 0) else 0)) (congrArg nI (show (0 : Nat) = (if inR a1 0 3 = true then (if inB a2 5 = true then g 4 (5 * tn a1 + tn a2) else 0) else 0) from by first | with_reducible rfl | (simp [c_1, c_2]; done) | (simp only [c_1, c_2] <;> simp []; done) | (simp [c_1, c_2, Bool.and_assoc]; done) | (simp [c_1, c_2, Bool.and_assoc, Bool.or_assoc]; done) | rfl | (simp [c_1, c_2]; omega))) (hPost H hM hg) hS hx hb hr hlk (Nat.zero_le _) (Nat.zero_le _) dX3_handNow_40
    · obtain ⟨hj2, ea2⟩ := inB_tn (by decide) c_2
      rw [ea2] at hl
      refine lv_aload_n hx hb dX3_handNow_22 rfl (lv_at hl 0 rfl) ?_
      refine gM_hand S hK hM dX3_handNow_23 ?_
      refine lv_iconst (v := nI 5) hx hb dX3_handNow_26 zi_5 ?_
      refine lv_iload_n hx hb dX3_handNow_27 rfl (lv_at hl 1 rfl) ?_
      refine zr_mulN (a := 5) (b := (tn a1)) hx hb dX3_handNow_28 ?_
      refine lv_iload_n hx hb dX3_handNow_29 rfl (lv_at hl 2 rfl) ?_
      refine zr_addN (a := (5 * (tn a1))) (b := (tn a2)) hx hb dX3_handNow_30 ?_
      refine lM_hand S hK hM ((5 * (tn a1)) + (tn a2)) (by omega) (g 4 ((5 * (tn a1)) + (tn a2))) (by first | rfl | simp [gs]) dX3_handNow_31 ?_
      have hb_3 : g 4 ((5 * (tn a1)) + (tn a2)) < 1048576 := by first | exact hg 4 ((5 * (tn a1)) + (tn a2)) | exact hg0 _ _ | (have := hg 4 ((5 * (tn a1)) + (tn a2)); omega) | omega
      refine lv_goto (tgt := 40) hx hb dX3_handNow_32 (by decide) ?_
      rw [show (gs g 22 0 0 : G) = if inR a1 0 3 = true then (if inB a2 5 = true then gs g 22 0 (!(inR a1 0 3)).toNat else gs (gs g 22 0 (!(inR a1 0 3)).toNat) 22 0 2) else gs g 22 0 (!(inR a1 0 3)).toNat from by first | with_reducible rfl | (simp [c_1, c_2]; done) | (simp only [c_1, c_2] <;> simp []; done) | (simp [c_1, c_2, Bool.and_assoc]; done) | (simp [c_1, c_2, Bool.and_assoc, Bool.or_assoc]; done) | rfl | (simp [c_1, c_2]; omega)] at hM hg
      exact zc_nret (nI (if inR a1 0 3 = true then (if inB a2 5 = true then g 4 (5 * tn a1 + tn a2) else 0) else 0)) (congrArg nI (show (g 4 ((5 * (tn a1)) + (tn a2)) : Nat) = (if inR a1 0 3 = true then (if inB a2 5 = true then g 4 (5 * tn a1 + tn a2) else 0) else 0) from by first | with_reducible rfl | (simp [c_1, c_2]; done) | (simp only [c_1, c_2] <;> simp []; done) | (simp [c_1, c_2, Bool.and_assoc]; done) | (simp [c_1, c_2, Bool.and_assoc, Bool.or_assoc]; done) | rfl | (simp [c_1, c_2]; omega))) (hPost H hM hg) hS hx hb hr hlk (Nat.zero_le _) (Nat.zero_le _) dX3_handNow_40
  · rw [show (!(inR a1 0 3)).toNat = 1 from by rw [c_1]; rfl] at hM hg
    refine lv_iconst (v := nI 0) hx hb dX3_handNow_13 zi_0 ?_
    rw [show (gs g 22 0 1 : G) = if inR a1 0 3 = true then (if inB a2 5 = true then gs g 22 0 (!(inR a1 0 3)).toNat else gs (gs g 22 0 (!(inR a1 0 3)).toNat) 22 0 2) else gs g 22 0 (!(inR a1 0 3)).toNat from by first | with_reducible rfl | (simp [c_1]; done) | (simp only [c_1] <;> simp []; done) | (simp [c_1, Bool.and_assoc]; done) | (simp [c_1, Bool.and_assoc, Bool.or_assoc]; done) | rfl | (simp [c_1]; omega)] at hM hg
    exact zc_nret (nI (if inR a1 0 3 = true then (if inB a2 5 = true then g 4 (5 * tn a1 + tn a2) else 0) else 0)) (congrArg nI (show (0 : Nat) = (if inR a1 0 3 = true then (if inB a2 5 = true then g 4 (5 * tn a1 + tn a2) else 0) else 0) from by first | with_reducible rfl | (simp [c_1]; done) | (simp only [c_1] <;> simp []; done) | (simp [c_1, Bool.and_assoc]; done) | (simp [c_1, Bool.and_assoc, Bool.or_assoc]; done) | rfl | (simp [c_1]; omega))) (hPost H hM hg) hS hx hb hr hlk (Nat.zero_le _) (Nat.zero_le _) dX3_handNow_14
theorem kM_handNow {pr : Program} {l : Launch} {en : Env} {R : Room} {s : State} {m : MethodId} {args : Array Value} {below : List Frame} {meth : Method} {cd : Code} {H : Heap} {locs : List Loc} {cells slots : Nat} {Q : State → Prop} {cc : ByteArray} {pc nL : Nat} {ls : Array Slot} {rest : List Value} {D : va_G} {dA : Nat → ClassId} {A : Nat → Prop} {ad : Nat → Nat} {g : G} (S : CallFix pr m cd cc nL s args lw_all RX3) (hK : KT D dA s) (hM : MS D dA A ad g H) (hg : Sm g) (hS : va_S A s.heap H locs) (a1 : Int32) (a2 : Int32) (hf : 2 + 1 ≤ R.frames) (hlo : 8 + (3 + 11) + 36 ≤ R.locals) (hsz : ls.size = nL) (hcat : (rest.map fun v => v.category).sum ≤ 8) (hdg : decode cc pc = .ok (.invokevirtual 249, 3)) (hq1 : cells ≤ R.cells) (hq2 : slots ≤ R.slots) (kk : ∀ (H1 : Heap) (locs1 : List Loc), MS D dA A ad (if inR a1 0 3 = true then (if inB a2 5 = true then gs g 22 0 (!(inR a1 0 3)).toNat else gs (gs g 22 0 (!(inR a1 0 3)).toNat) 22 0 2) else gs g 22 0 (!(inR a1 0 3)).toNat) H1 → Sm (if inR a1 0 3 = true then (if inB a2 5 = true then gs g 22 0 (!(inR a1 0 3)).toNat else gs (gs g 22 0 (!(inR a1 0 3)).toNat) 22 0 2) else gs g 22 0 (!(inR a1 0 3)).toNat) → va_S A s.heap H1 locs1 → W pr l en R s m args below meth cd H1 locs1 cells slots Q (F0 m (pc + 3) ls (.int (nI (if inR a1 0 3 = true then (if inB a2 5 = true then g 4 (5 * tn a1 + tn a2) else 0) else 0)) :: rest))) : W pr l en R s m args below meth cd H locs cells slots Q (F0 m pc ls (.int a2 :: .int a1 :: .ref (ad 0) :: rest)) :=
  zc_callV (n := 2) (As := [.int a1, .int a2]) (rest := rest) S (cM_handNow l hg a1 a2  H hM (Post := (fun v H1 => v = some (.int (nI (if inR a1 0 3 = true then (if inB a2 5 = true then g 4 (5 * tn a1 + tn a2) else 0) else 0))) ∧ MS D dA A ad (if inR a1 0 3 = true then (if inB a2 5 = true then gs g 22 0 (!(inR a1 0 3)).toNat else gs (gs g 22 0 (!(inR a1 0 3)).toNat) 22 0 2) else gs g 22 0 (!(inR a1 0 3)).toNat) H1 ∧ Sm (if inR a1 0 3 = true then (if inB a2 5 = true then gs g 22 0 (!(inR a1 0 3)).toNat else gs (gs g 22 0 (!(inR a1 0 3)).toNat) 22 0 2) else gs g 22 0 (!(inR a1 0 3)).toNat))) (fun H1 h h2 => ⟨rfl, h, h2⟩)) (lw_V q1403 q1405 qs69 q76 q1406) (by decide +kernel) ⟨hf, hlo⟩ ⟨hq1, hq2⟩ (zm_recv hK hM) KT_mv (zc_K KT_mv hK hS) hS (fun _ h => h) rfl hsz rfl hcat hdg (fun v H1 locs1 hp _ _ hS1 => by obtain ⟨rfl, hM1, hg1⟩ := hp; exact kk H1 locs1 hM1 hg1 hS1)
set_option maxHeartbeats 1000000 in
set_option maxRecDepth 100000 in
theorem cM_hand (l : Launch) {D : va_G} {dA : Nat → ClassId} {A : Nat → Prop} {ad : Nat → Nat} {g : G} (hg : Sm g) (a1 : Int32) (a2 : Int32) (H0 : Heap) (hM : MS D dA A ad g H0) {Post : Option Value → Heap → Prop} (hPost : ∀ H : Heap, MS D dA A ad (if inR a1 0 3 = true then (if inB a2 5 = true then gs g 22 0 (!(inR a1 0 3)).toNat else gs (gs g 22 0 (!(inR a1 0 3)).toNat) 22 0 2) else gs g 22 0 (!(inR a1 0 3)).toNat) H → Sm (if inR a1 0 3 = true then (if inB a2 5 = true then gs g 22 0 (!(inR a1 0 3)).toNat else gs (gs g 22 0 (!(inR a1 0 3)).toNat) 22 0 2) else gs g 22 0 (!(inR a1 0 3)).toNat) → Post (some (.int (nI (if inR a1 0 3 = true then (if inB a2 5 = true then g 4 (5 * tn a1 + tn a2) else 0) else 0)))) H) : Ct l yX3_hand (ws_ yX3_hand cX3_hand 3 (some .int)) (rmF 3 0 0 58) A (KT D dA) [.ref (ad 0), .int a1, .int a2] H0 Post := by
  refine zc_of RX3 rfl (by decide) (Nat.le_of_ble_eq_true rfl) ?_
  intro pr en s m args below meth cd S hr hlk hnm hh hK ls hl
  have hS : va_S A s.heap H0 [] := zc_start hh
  have hg0 := hg
  have hx := S.1
  have hb := S.2.1
  have hown := S.2.2.2.1
  have hts := S.2.2.2.2
  have hl : lv_has ls 3 [(0, .ref (ad 0)), (1, .int a1), (2, .int a2)] := hl
  refine lv_aload_n hx hb dX3_hand_0 rfl (lv_at hl 0 rfl) ?_
  refine lv_iload_n hx hb dX3_hand_1 rfl (lv_at hl 1 rfl) ?_
  refine lv_iload_n hx hb dX3_hand_2 rfl (lv_at hl 2 rfl) ?_
  refine kM_handNow S hK hM hg hS a1 a2  (Nat.le_of_ble_eq_true rfl) (Nat.le_of_ble_eq_true rfl) hl.1 (Nat.le_of_ble_eq_true rfl) dX3_hand_3 (Nat.zero_le _) (Nat.zero_le _) (fun H locs hM hg hS => ?_)
  exact zc_nret (nI (if inR a1 0 3 = true then (if inB a2 5 = true then g 4 (5 * tn a1 + tn a2) else 0) else 0)) rfl (hPost H hM hg) hS hx hb hr hlk (Nat.zero_le _) (Nat.zero_le _) dX3_hand_6
set_option maxHeartbeats 1000000 in
set_option maxRecDepth 100000 in
theorem cM_handByMoves (l : Launch) {D : va_G} {dA : Nat → ClassId} {A : Nat → Prop} {ad : Nat → Nat} {g : G} (hg : Sm g) (a1 : Int32) (a2 : Int32) (H0 : Heap) (hM : MS D dA A ad g H0) {Post : Option Value → Heap → Prop} (hPost : ∀ H : Heap, MS D dA A ad (if inR a1 0 3 = true then (if inB a2 5 = true then gs g 22 0 (!(inR a1 0 3)).toNat else gs (gs g 22 0 (!(inR a1 0 3)).toNat) 22 0 2) else gs g 22 0 (!(inR a1 0 3)).toNat) H → Sm (if inR a1 0 3 = true then (if inB a2 5 = true then gs g 22 0 (!(inR a1 0 3)).toNat else gs (gs g 22 0 (!(inR a1 0 3)).toNat) 22 0 2) else gs g 22 0 (!(inR a1 0 3)).toNat) → Post (some (.int (nI (if inR a1 0 3 = true then (if inB a2 5 = true then g 4 (5 * tn a1 + tn a2) else 0) else 0)))) H) : Ct l yX3_handByMoves (ws_ yX3_handByMoves cX3_handByMoves 3 (some .int)) (rmF 3 0 0 58) A (KT D dA) [.ref (ad 0), .int a1, .int a2] H0 Post := by
  refine zc_of RX3 rfl (by decide) (Nat.le_of_ble_eq_true rfl) ?_
  intro pr en s m args below meth cd S hr hlk hnm hh hK ls hl
  have hS : va_S A s.heap H0 [] := zc_start hh
  have hg0 := hg
  have hx := S.1
  have hb := S.2.1
  have hown := S.2.2.2.1
  have hts := S.2.2.2.2
  have hl : lv_has ls 3 [(0, .ref (ad 0)), (1, .int a1), (2, .int a2)] := hl
  refine lv_aload_n hx hb dX3_handByMoves_0 rfl (lv_at hl 0 rfl) ?_
  refine lv_iload_n hx hb dX3_handByMoves_1 rfl (lv_at hl 1 rfl) ?_
  refine lv_iload_n hx hb dX3_handByMoves_2 rfl (lv_at hl 2 rfl) ?_
  refine kM_handNow S hK hM hg hS a1 a2  (Nat.le_of_ble_eq_true rfl) (Nat.le_of_ble_eq_true rfl) hl.1 (Nat.le_of_ble_eq_true rfl) dX3_handByMoves_3 (Nat.zero_le _) (Nat.zero_le _) (fun H locs hM hg hS => ?_)
  exact zc_nret (nI (if inR a1 0 3 = true then (if inB a2 5 = true then g 4 (5 * tn a1 + tn a2) else 0) else 0)) rfl (hPost H hM hg) hS hx hb hr hlk (Nat.zero_le _) (Nat.zero_le _) dX3_handByMoves_6
set_option maxHeartbeats 1000000 in
set_option maxRecDepth 100000 in
theorem cM_rateOf (l : Launch) {D : va_G} {dA : Nat → ClassId} {A : Nat → Prop} {ad : Nat → Nat} {g : G} (hg : Sm g) (a1 : Nat) (a2 : Nat) (h1 : a1 < 3) (h2 : a2 < 5) (H0 : Heap) (hM : MS D dA A ad g H0) {Post : Option Value → Heap → Prop} (hPost : Post (some (.int (nI (rateN g a1 a2 6)))) H0) : Ct l yX3_rateOf (ws_ yX3_rateOf cX3_rateOf 7 (some .int)) (rmF 2 0 0 34) A (KT D dA) [.ref (ad 0), .int (nI a1), .int (nI a2)] H0 Post := by
  refine zc_of RX3 rfl (by decide) (Nat.le_of_ble_eq_true rfl) ?_
  intro pr en s m args below meth cd S hr hlk hnm hh hK ls hl
  have hS : va_S A s.heap H0 [] := zc_start hh
  have hg0 := hg
  have hx := S.1
  have hb := S.2.1
  have hown := S.2.2.2.1
  have hts := S.2.2.2.2
  have hl : lv_has ls 7 [(0, .ref (ad 0)), (1, .int (nI a1)), (2, .int (nI a2))] := hl
  refine lv_iconst (v := nI 4) hx hb dX3_rateOf_0 zi_4 ?_
  refine lv_istore_n (lv' := [(3, .int (nI 4)), (0, .ref (ad 0)), (1, .int (nI a1)), (2, .int (nI a2))]) hx hb dX3_rateOf_1 rfl hl (by decide) rfl (fun ls hl => ?_)
  refine lv_iconst (v := nI 0) hx hb dX3_rateOf_2 zi_0 ?_
  refine lv_istore (lv' := [(4, .int (nI 0)), (3, .int (nI 4)), (0, .ref (ad 0)), (1, .int (nI a1)), (2, .int (nI a2))]) hx hb dX3_rateOf_3 hl (by decide) rfl (fun ls hl => ?_)
  have L_5 : ∀ (n_5 : Nat) (i : Nat), i ≤ 6 → 6 - i < n_5 → ∀ x3_5 : Int32, x3_5 = nI (rateN g a1 a2 i) → ∀ (locs : List Loc), va_S A s.heap H0 locs → ∀ ls : Array Slot, lv_has ls 7 [(0, .ref (ad 0)), (1, .int (nI a1)), (2, .int (nI a2)), (3, .int x3_5), (4, .int (nI i))] → W pr l en (rmF 2 0 0 34) s m args below meth cd H0 locs 0 0 (MQ below (zc_Q Post A) args s 0 0 A) (F0 m 5 ls []) := by
    intro n_5
    induction n_5 with
    | zero => intro i hi_5 hm_5; exact absurd hm_5 (Nat.not_lt_zero _)
    | succ n_5 ih_5 =>
      intro i hi_5 hm_5 x3_5 ex3_5 locs hS ls hl
      subst ex3_5
      have hrn := rateN_le g a1 a2 i
      have hrs := rtS_le g a1 a2 i
      refine lv_iload hx hb dX3_rateOf_5 (lv_at hl 4 rfl) ?_
      refine lv_bipush (v := nI 6) hx hb dX3_rateOf_7 zb_6 ?_
      refine zr_icmp_geN (a := i) (b := 6) (tgt := 100) hx hb (by omega) (by omega) dX3_rateOf_9 (by decide) (fun c_1 => ?_) (fun c_1 => ?_)
      · have e_i : 6 = i := by omega
        subst e_i
        refine lv_iload_n hx hb dX3_rateOf_100 rfl (lv_at hl 3 rfl) ?_
        exact zc_nret (nI (rateN g a1 a2 6)) rfl hPost hS hx hb hr hlk (Nat.zero_le _) (Nat.zero_le _) dX3_rateOf_101
      · refine lv_aload_n hx hb dX3_rateOf_12 rfl (lv_at hl 0 rfl) ?_
        refine lv_bipush (v := nI 7) hx hb dX3_rateOf_13 zb_7 ?_
        refine lv_iconst (v := nI 3) hx hb dX3_rateOf_15 zi_3 ?_
        refine lv_iload hx hb dX3_rateOf_16 (lv_at hl 4 rfl) ?_
        refine zr_mulN (a := 3) (b := i) hx hb dX3_rateOf_18 ?_
        refine zr_addN (a := 7) (b := (3 * i)) hx hb dX3_rateOf_19 ?_
        refine kM_ownerAt S hK hM hg hS (7 + (3 * i)) (by first | omega | assumption | grind) (Nat.le_of_ble_eq_true rfl) (Nat.le_of_ble_eq_true rfl) hl.1 (Nat.le_of_ble_eq_true rfl) dX3_rateOf_20 (Nat.zero_le _) (Nat.zero_le _) (fun locs hS => ?_)
        have f20_0 : own1 g (7 + (3 * i)) < 4 := own1_lt _ _
        refine lv_iload_n hx hb dX3_rateOf_23 rfl (lv_at hl 1 rfl) ?_
        have J_47 : ∀ yS0_47 : Int32, yS0_47 = nI (decide ((own1 g (7 + (3 * i))) = (a1 + 1)) || (decide ((own1 g (8 + (3 * i))) = (a1 + 1)))).toNat → ∀ (locs : List Loc), va_S A s.heap H0 locs → ∀ ls : Array Slot, lv_has ls 7 [(0, .ref (ad 0)), (1, .int (nI a1)), (2, .int (nI a2)), (3, .int (nI (rateN g a1 a2 i))), (4, .int (nI i))] → W pr l en (rmF 2 0 0 34) s m args below meth cd H0 locs 0 0 (MQ below (zc_Q Post A) args s 0 0 A) (F0 m 47 ls [.int yS0_47]) := by
          intro yS0_47 eyS0_47 locs hS ls hl
          subst eyS0_47
          refine lv_istore (lv' := [(5, .int (nI (decide ((own1 g (7 + (3 * i))) = (a1 + 1)) || (decide ((own1 g (8 + (3 * i))) = (a1 + 1)))).toNat)), (0, .ref (ad 0)), (1, .int (nI a1)), (2, .int (nI a2)), (3, .int (nI (rateN g a1 a2 i))), (4, .int (nI i))]) hx hb dX3_rateOf_47 hl (by decide) rfl (fun ls hl => ?_)
          refine lv_iload hx hb dX3_rateOf_49 (lv_at hl 0 rfl) ?_
          have J_79 : ∀ yS0_79 : Int32, yS0_79 = nI (rtS g a1 a2 i) → ∀ (locs : List Loc), va_S A s.heap H0 locs → ∀ ls : Array Slot, lv_has ls 7 [(0, .ref (ad 0)), (1, .int (nI a1)), (2, .int (nI a2)), (3, .int (nI (rateN g a1 a2 i))), (4, .int (nI i))] → W pr l en (rmF 2 0 0 34) s m args below meth cd H0 locs 0 0 (MQ below (zc_Q Post A) args s 0 0 A) (F0 m 79 ls [.int yS0_79]) := by
            intro yS0_79 eyS0_79 locs hS ls hl
            subst eyS0_79
            refine lv_istore (lv' := [(6, .int (nI (rtS g a1 a2 i))), (0, .ref (ad 0)), (1, .int (nI a1)), (2, .int (nI a2)), (3, .int (nI (rateN g a1 a2 i))), (4, .int (nI i))]) hx hb dX3_rateOf_79 hl (by decide) rfl (fun ls hl => ?_)
            refine lv_iload hx hb dX3_rateOf_81 (lv_at hl 0 rfl) ?_
            refine lv_iload_n hx hb dX3_rateOf_83 rfl (lv_at hl 4 rfl) ?_
            have J_93 : ∀ yS0_93 : Int32, yS0_93 = nI ((if (rtS g a1 a2 i) < (rateN g a1 a2 i) then rtS g a1 a2 i else rateN g a1 a2 i)) → ∀ (locs : List Loc), va_S A s.heap H0 locs → ∀ ls : Array Slot, lv_has ls 7 [(0, .ref (ad 0)), (1, .int (nI a1)), (2, .int (nI a2)), (4, .int (nI i))] → W pr l en (rmF 2 0 0 34) s m args below meth cd H0 locs 0 0 (MQ below (zc_Q Post A) args s 0 0 A) (F0 m 93 ls [.int yS0_93]) := by
              intro yS0_93 eyS0_93 locs hS ls hl
              subst eyS0_93
              refine lv_istore_n (lv' := [(3, .int (nI ((if (rtS g a1 a2 i) < (rateN g a1 a2 i) then rtS g a1 a2 i else rateN g a1 a2 i)))), (0, .ref (ad 0)), (1, .int (nI a1)), (2, .int (nI a2)), (4, .int (nI i))]) hx hb dX3_rateOf_93 rfl hl (by decide) rfl (fun ls hl => ?_)
              refine lv_iinc (v := nI (i + 1)) (lv' := [(4, .int (nI (i + 1))), (3, .int (nI ((if (rtS g a1 a2 i) < (rateN g a1 a2 i) then rtS g a1 a2 i else rateN g a1 a2 i)))), (0, .ref (ad 0)), (1, .int (nI a1)), (2, .int (nI a2))]) hx hb dX3_rateOf_94 hl (k := 4) rfl (zk_inc _) (by decide) rfl (fun ls hl => ?_)
              refine lv_goto (tgt := 5) hx hb dX3_rateOf_97 (by decide) ?_
              exact ih_5 (i + 1) (by first | omega | assumption | (simp; done) | grind) (by omega) _ rfl locs hS ls (lv_sub hl [2, 3, 4, 1, 0] rfl)
            refine zr_icmp_geN (a := (rtS g a1 a2 i)) (b := (rateN g a1 a2 i)) (tgt := 92) hx hb (by omega) (by omega) dX3_rateOf_84 (by decide) (fun c_8 => ?_) (fun c_8 => ?_)
            · refine lv_iload_n hx hb dX3_rateOf_92 rfl (lv_at hl 4 rfl) ?_
              exact J_93 _ (congrArg nI (show (rateN g a1 a2 i : Nat) = ((if (rtS g a1 a2 i) < (rateN g a1 a2 i) then rtS g a1 a2 i else rateN g a1 a2 i)) from by first | with_reducible rfl | (simp [c_1, c_8, rtS]; done) | (simp only [c_1, c_8] <;> simp [rtS]; done) | (simp only [rtS, c_1, c_8] <;> simp [rtS]; done) | (simp [c_1, c_8, rtS, Bool.and_assoc]; done) | (simp [c_1, c_8, rtS, Bool.and_assoc, Bool.or_assoc]; done) | rfl | (simp [c_1, c_8, rtS]; omega) | grind [rtS])) locs hS ls (lv_sub hl [1, 2, 3, 5] rfl)
            · refine lv_iload hx hb dX3_rateOf_87 (lv_at hl 0 rfl) ?_
              refine lv_goto (tgt := 93) hx hb dX3_rateOf_89 (by decide) ?_
              exact J_93 _ (congrArg nI (show (rtS g a1 a2 i : Nat) = ((if (rtS g a1 a2 i) < (rateN g a1 a2 i) then rtS g a1 a2 i else rateN g a1 a2 i)) from by first | with_reducible rfl | (simp [c_1, c_8, rtS]; done) | (simp only [c_1, c_8] <;> simp [rtS]; done) | (simp only [rtS, c_1, c_8] <;> simp [rtS]; done) | (simp [c_1, c_8, rtS, Bool.and_assoc]; done) | (simp [c_1, c_8, rtS, Bool.and_assoc, Bool.or_assoc]; done) | rfl | (simp [c_1, c_8, rtS]; omega) | grind [rtS])) locs hS ls (lv_sub hl [1, 2, 3, 5] rfl)
          refine zr_if_neB (b := decide ((own1 g (7 + (3 * i))) = (a1 + 1)) || (decide ((own1 g (8 + (3 * i))) = (a1 + 1)))) (tgt := 58) hx hb dX3_rateOf_51 (by decide) (fun c_9 => ?_) (fun c_9 => ?_)
          · refine lv_iload hx hb dX3_rateOf_58 (lv_at hl 5 rfl) ?_
            refine lv_iconst (v := nI 5) hx hb dX3_rateOf_60 zi_5 ?_
            refine zr_icmp_neN (a := i) (b := 5) (tgt := 68) hx hb (by omega) (by omega) dX3_rateOf_61 (by decide) (fun c_10 => ?_) (fun c_10 => ?_)
            · refine lv_iload hx hb dX3_rateOf_68 (lv_at hl 5 rfl) ?_
              refine lv_iload_n hx hb dX3_rateOf_70 rfl (lv_at hl 3 rfl) ?_
              refine zr_icmp_neN (a := i) (b := a2) (tgt := 78) hx hb (by omega) (by omega) dX3_rateOf_71 (by decide) (fun c_11 => ?_) (fun c_11 => ?_)
              · refine lv_iconst (v := nI 4) hx hb dX3_rateOf_78 zi_4 ?_
                exact J_79 _ (congrArg nI (show (4 : Nat) = (rtS g a1 a2 i) from by first | with_reducible rfl | (simp [c_1, c_9, c_10, c_11, rtS]; done) | (simp only [c_1, c_9, c_10, c_11] <;> simp [rtS]; done) | (simp only [rtS, c_1, c_9, c_10, c_11] <;> simp [rtS]; done) | (simp [c_1, c_9, c_10, c_11, rtS, Bool.and_assoc]; done) | (simp [c_1, c_9, c_10, c_11, rtS, Bool.and_assoc, Bool.or_assoc]; done) | rfl | (simp [c_1, c_9, c_10, c_11, rtS]; omega) | grind [rtS])) locs hS ls (lv_sub hl [1, 2, 3, 4, 5] rfl)
              · refine lv_iconst (v := nI 2) hx hb dX3_rateOf_74 zi_2 ?_
                refine lv_goto (tgt := 79) hx hb dX3_rateOf_75 (by decide) ?_
                exact J_79 _ (congrArg nI (show (2 : Nat) = (rtS g a1 a2 i) from by first | with_reducible rfl | (simp [c_1, c_9, c_10, c_11, rtS]; done) | (simp only [c_1, c_9, c_10, c_11] <;> simp [rtS]; done) | (simp only [rtS, c_1, c_9, c_10, c_11] <;> simp [rtS]; done) | (simp [c_1, c_9, c_10, c_11, rtS, Bool.and_assoc]; done) | (simp [c_1, c_9, c_10, c_11, rtS, Bool.and_assoc, Bool.or_assoc]; done) | rfl | (simp [c_1, c_9, c_10, c_11, rtS]; omega) | grind [rtS])) locs hS ls (lv_sub hl [1, 2, 3, 4, 5] rfl)
            · refine lv_iconst (v := nI 3) hx hb dX3_rateOf_64 zi_3 ?_
              refine lv_goto (tgt := 79) hx hb dX3_rateOf_65 (by decide) ?_
              exact J_79 _ (congrArg nI (show (3 : Nat) = (rtS g a1 a2 i) from by first | with_reducible rfl | (simp [c_1, c_9, c_10, rtS]; done) | (simp only [c_1, c_9, c_10] <;> simp [rtS]; done) | (simp only [rtS, c_1, c_9, c_10] <;> simp [rtS]; done) | (simp [c_1, c_9, c_10, rtS, Bool.and_assoc]; done) | (simp [c_1, c_9, c_10, rtS, Bool.and_assoc, Bool.or_assoc]; done) | rfl | (simp [c_1, c_9, c_10, rtS]; omega) | grind [rtS])) locs hS ls (lv_sub hl [1, 2, 3, 4, 5] rfl)
          · refine lv_iconst (v := nI 4) hx hb dX3_rateOf_54 zi_4 ?_
            refine lv_goto (tgt := 79) hx hb dX3_rateOf_55 (by decide) ?_
            exact J_79 _ (congrArg nI (show (4 : Nat) = (rtS g a1 a2 i) from by first | with_reducible rfl | (simp [c_1, c_9, rtS]; done) | (simp only [c_1, c_9] <;> simp [rtS]; done) | (simp only [rtS, c_1, c_9] <;> simp [rtS]; done) | (simp [c_1, c_9, rtS, Bool.and_assoc]; done) | (simp [c_1, c_9, rtS, Bool.and_assoc, Bool.or_assoc]; done) | rfl | (simp [c_1, c_9, rtS]; omega) | grind [rtS])) locs hS ls (lv_sub hl [1, 2, 3, 4, 5] rfl)
        rw [← mI_succ a1]
        refine zr_icmp_eqM (a := (own1 g (7 + (3 * i)))) (b := (a1 + 1)) (tgt := 42) hx hb (by omega) (by omega) dX3_rateOf_24 (by decide) (fun c_12 => ?_) (fun c_12 => ?_)
        · refine lv_iconst (v := nI 1) hx hb dX3_rateOf_42 zi_1 ?_
          refine lv_goto (tgt := 47) hx hb dX3_rateOf_43 (by decide) ?_
          exact J_47 _ (congrArg (fun z : Bool => nI z.toNat) (show (true : Bool) = (decide ((own1 g (7 + (3 * i))) = (a1 + 1)) || (decide ((own1 g (8 + (3 * i))) = (a1 + 1)))) from by first | with_reducible rfl | (simp [c_1, c_12, rtS]; done) | (simp only [c_1, c_12] <;> simp [rtS]; done) | (simp only [rtS, c_1, c_12] <;> simp [rtS]; done) | (simp [c_1, c_12, rtS, Bool.and_assoc]; done) | (simp [c_1, c_12, rtS, Bool.and_assoc, Bool.or_assoc]; done) | rfl | (simp [c_1, c_12, rtS]; omega) | grind [rtS])) locs hS ls (lv_sub hl [0, 1, 2, 3, 4] rfl)
        · refine lv_aload_n hx hb dX3_rateOf_27 rfl (lv_at hl 0 rfl) ?_
          refine lv_bipush (v := nI 8) hx hb dX3_rateOf_28 zb_8 ?_
          refine lv_iconst (v := nI 3) hx hb dX3_rateOf_30 zi_3 ?_
          refine lv_iload hx hb dX3_rateOf_31 (lv_at hl 4 rfl) ?_
          refine zr_mulN (a := 3) (b := i) hx hb dX3_rateOf_33 ?_
          refine zr_addN (a := 8) (b := (3 * i)) hx hb dX3_rateOf_34 ?_
          refine kM_ownerAt S hK hM hg hS (8 + (3 * i)) (by first | omega | assumption | grind) (Nat.le_of_ble_eq_true rfl) (Nat.le_of_ble_eq_true rfl) hl.1 (Nat.le_of_ble_eq_true rfl) dX3_rateOf_35 (Nat.zero_le _) (Nat.zero_le _) (fun locs hS => ?_)
          have f35_0 : own1 g (8 + (3 * i)) < 4 := own1_lt _ _
          refine lv_iload_n hx hb dX3_rateOf_38 rfl (lv_at hl 1 rfl) ?_
          rw [← mI_succ a1]
          refine zr_icmp_neM (a := (own1 g (8 + (3 * i)))) (b := (a1 + 1)) (tgt := 46) hx hb (by omega) (by omega) dX3_rateOf_39 (by decide) (fun c_13 => ?_) (fun c_13 => ?_)
          · refine lv_iconst (v := nI 0) hx hb dX3_rateOf_46 zi_0 ?_
            exact J_47 _ (congrArg (fun z : Bool => nI z.toNat) (show (false : Bool) = (decide ((own1 g (7 + (3 * i))) = (a1 + 1)) || (decide ((own1 g (8 + (3 * i))) = (a1 + 1)))) from by first | with_reducible rfl | (simp [c_1, c_12, c_13, rtS]; done) | (simp only [c_1, c_12, c_13] <;> simp [rtS]; done) | (simp only [rtS, c_1, c_12, c_13] <;> simp [rtS]; done) | (simp [c_1, c_12, c_13, rtS, Bool.and_assoc]; done) | (simp [c_1, c_12, c_13, rtS, Bool.and_assoc, Bool.or_assoc]; done) | rfl | (simp [c_1, c_12, c_13, rtS]; omega) | grind [rtS])) locs hS ls (lv_sub hl [0, 1, 2, 3, 4] rfl)
          · refine lv_iconst (v := nI 1) hx hb dX3_rateOf_42 zi_1 ?_
            refine lv_goto (tgt := 47) hx hb dX3_rateOf_43 (by decide) ?_
            exact J_47 _ (congrArg (fun z : Bool => nI z.toNat) (show (true : Bool) = (decide ((own1 g (7 + (3 * i))) = (a1 + 1)) || (decide ((own1 g (8 + (3 * i))) = (a1 + 1)))) from by first | with_reducible rfl | (simp [c_1, c_12, c_13, rtS]; done) | (simp only [c_1, c_12, c_13] <;> simp [rtS]; done) | (simp only [rtS, c_1, c_12, c_13] <;> simp [rtS]; done) | (simp [c_1, c_12, c_13, rtS, Bool.and_assoc]; done) | (simp [c_1, c_12, c_13, rtS, Bool.and_assoc, Bool.or_assoc]; done) | rfl | (simp [c_1, c_12, c_13, rtS]; omega) | grind [rtS])) locs hS ls (lv_sub hl [0, 1, 2, 3, 4] rfl)
  exact L_5 _ 0 (by first | omega | assumption | (simp; done) | grind) (Nat.lt_succ_self _) _ rfl [] hS ls (lv_sub hl [2, 3, 4, 1, 0] rfl)
theorem kM_rateOf {pr : Program} {l : Launch} {en : Env} {R : Room} {s : State} {m : MethodId} {args : Array Value} {below : List Frame} {meth : Method} {cd : Code} {H : Heap} {locs : List Loc} {cells slots : Nat} {Q : State → Prop} {cc : ByteArray} {pc nL : Nat} {ls : Array Slot} {rest : List Value} {D : va_G} {dA : Nat → ClassId} {A : Nat → Prop} {ad : Nat → Nat} {g : G} (S : CallFix pr m cd cc nL s args lw_all RX3) (hK : KT D dA s) (hM : MS D dA A ad g H) (hg : Sm g) (hS : va_S A s.heap H locs) (a1 : Nat) (a2 : Nat) (h1 : a1 < 3) (h2 : a2 < 5) (hf : 2 + 1 ≤ R.frames) (hlo : 8 + (7 + 11) + 34 ≤ R.locals) (hsz : ls.size = nL) (hcat : (rest.map fun v => v.category).sum ≤ 8) (hdg : decode cc pc = .ok (.invokevirtual 234, 3)) (hq1 : cells ≤ R.cells) (hq2 : slots ≤ R.slots) (kk : ∀ locs1 : List Loc, va_S A s.heap H locs1 → W pr l en R s m args below meth cd H locs1 cells slots Q (F0 m (pc + 3) ls (.int (nI (rateN g a1 a2 6)) :: rest))) : W pr l en R s m args below meth cd H locs cells slots Q (F0 m pc ls (.int (nI a2) :: .int (nI a1) :: .ref (ad 0) :: rest)) :=
  zc_callV (n := 2) (As := [.int (nI a1), .int (nI a2)]) (rest := rest) S (cM_rateOf l hg a1 a2 h1 h2  H hM (Post := (fun v H1 => v = some (.int (nI (rateN g a1 a2 6))) ∧ H1 = H)) ⟨rfl, rfl⟩) (lw_V q1360 q1362 qs67 q76 q1363) (by decide +kernel) ⟨hf, hlo⟩ ⟨hq1, hq2⟩ (zm_recv hK hM) KT_mv (zc_K KT_mv hK hS) hS (fun _ h => h) rfl hsz rfl hcat hdg (fun v H1 locs1 hp _ _ hS1 => by obtain ⟨rfl, rfl⟩ := hp; exact kk locs1 hS1)
set_option maxHeartbeats 1000000 in
set_option maxRecDepth 100000 in
theorem cM_rate (l : Launch) {D : va_G} {dA : Nat → ClassId} {A : Nat → Prop} {ad : Nat → Nat} {g : G} (hg : Sm g) (a1 : Int32) (a2 : Int32) (H0 : Heap) (hM : MS D dA A ad g H0) {Post : Option Value → Heap → Prop} (hPost : ∀ H : Heap, MS D dA A ad (if inB a1 3 = true then (if inB a2 5 = true then gs g 22 0 (!(inB a1 3)).toNat else gs (gs g 22 0 (!(inB a1 3)).toNat) 22 0 2) else gs g 22 0 (!(inB a1 3)).toNat) H → Sm (if inB a1 3 = true then (if inB a2 5 = true then gs g 22 0 (!(inB a1 3)).toNat else gs (gs g 22 0 (!(inB a1 3)).toNat) 22 0 2) else gs g 22 0 (!(inB a1 3)).toNat) → Post (some (.int (nI (if inB a1 3 = true then (if inB a2 5 = true then rateN (gs g 22 0 (!(inB a1 3)).toNat) (tn a1) (tn a2) 6 else 0) else 0)))) H) : Ct l yX3_rate (ws_ yX3_rate cX3_rate 3 (some .int)) (rmF 3 0 0 60) A (KT D dA) [.ref (ad 0), .int a1, .int a2] H0 Post := by
  refine zc_of RX3 rfl (by decide) (Nat.le_of_ble_eq_true rfl) ?_
  intro pr en s m args below meth cd S hr hlk hnm hh hK ls hl
  have hS : va_S A s.heap H0 [] := zc_start hh
  have hg0 := hg
  have hx := S.1
  have hb := S.2.1
  have hown := S.2.2.2.1
  have hts := S.2.2.2.2
  have hl : lv_has ls 3 [(0, .ref (ad 0)), (1, .int a1), (2, .int a2)] := hl
  refine lv_aload_n hx hb dX3_rate_0 rfl (lv_at hl 0 rfl) ?_
  refine lv_iload_n hx hb dX3_rate_1 rfl (lv_at hl 1 rfl) ?_
  refine kM_isPlayer S hK hM hg hS a1  (Nat.le_of_ble_eq_true rfl) (Nat.le_of_ble_eq_true rfl) hl.1 (Nat.le_of_ble_eq_true rfl) dX3_rate_2 (Nat.zero_le _) (Nat.zero_le _) (fun locs hS => ?_)
  refine kM_asks S hK hM hg hS (inB a1 3)  (Nat.le_of_ble_eq_true rfl) (Nat.le_of_ble_eq_true rfl) hl.1 (Nat.le_of_ble_eq_true rfl) dX3_rate_5 (Nat.zero_le _) (Nat.zero_le _) (fun H locs hM hg hS => ?_)
  refine zr_if_neB (b := (inB a1 3)) (tgt := 13) hx hb dX3_rate_8 (by decide) (fun c_1 => ?_) (fun c_1 => ?_)
  · rw [show (!(inB a1 3)).toNat = 0 from by rw [c_1]; rfl] at hM hg
    obtain ⟨hj1, ea1⟩ := inB_tn (by decide) c_1
    rw [ea1] at hl
    refine lv_iload_n hx hb dX3_rate_13 rfl (lv_at hl 2 rfl) ?_
    refine kM_isGood S hK hM hg hS a2  (Nat.le_of_ble_eq_true rfl) (Nat.le_of_ble_eq_true rfl) hl.1 (Nat.le_of_ble_eq_true rfl) dX3_rate_14 (Nat.zero_le _) (Nat.zero_le _) (fun locs hS => ?_)
    refine zr_if_eqB (b := inB a2 5) (tgt := 29) hx hb dX3_rate_17 (by decide) (fun c_2 => ?_) (fun c_2 => ?_)
    · refine lv_aload_n hx hb dX3_rate_29 rfl (lv_at hl 0 rfl) ?_
      refine lv_iconst (v := nI 2) hx hb dX3_rate_30 zi_2 ?_
      refine kM_fails S hK hM hg hS 2 (by first | omega | assumption | grind) (Nat.le_of_ble_eq_true rfl) (Nat.le_of_ble_eq_true rfl) hl.1 (Nat.le_of_ble_eq_true rfl) dX3_rate_31 (Nat.zero_le _) (Nat.zero_le _) (fun H locs hM hg hS => ?_)
      rw [show (gs (gs g 22 0 0) 22 0 2 : G) = if inB a1 3 = true then (if inB a2 5 = true then gs g 22 0 (!(inB a1 3)).toNat else gs (gs g 22 0 (!(inB a1 3)).toNat) 22 0 2) else gs g 22 0 (!(inB a1 3)).toNat from by first | with_reducible rfl | (simp [c_1, c_2]; done) | (simp only [c_1, c_2] <;> simp []; done) | (simp [c_1, c_2, Bool.and_assoc]; done) | (simp [c_1, c_2, Bool.and_assoc, Bool.or_assoc]; done) | rfl | (simp [c_1, c_2]; omega)] at hM hg
      exact zc_nret (nI (if inB a1 3 = true then (if inB a2 5 = true then rateN (gs g 22 0 (!(inB a1 3)).toNat) (tn a1) (tn a2) 6 else 0) else 0)) (congrArg nI (show (0 : Nat) = (if inB a1 3 = true then (if inB a2 5 = true then rateN (gs g 22 0 (!(inB a1 3)).toNat) (tn a1) (tn a2) 6 else 0) else 0) from by first | with_reducible rfl | (simp [c_1, c_2]; done) | (simp only [c_1, c_2] <;> simp []; done) | (simp [c_1, c_2, Bool.and_assoc]; done) | (simp [c_1, c_2, Bool.and_assoc, Bool.or_assoc]; done) | rfl | (simp [c_1, c_2]; omega))) (hPost H hM hg) hS hx hb hr hlk (Nat.zero_le _) (Nat.zero_le _) dX3_rate_34
    · obtain ⟨hj2, ea2⟩ := inB_tn (by decide) c_2
      rw [ea2] at hl
      refine lv_aload_n hx hb dX3_rate_20 rfl (lv_at hl 0 rfl) ?_
      refine lv_iload_n hx hb dX3_rate_21 rfl (lv_at hl 1 rfl) ?_
      refine lv_iload_n hx hb dX3_rate_22 rfl (lv_at hl 2 rfl) ?_
      refine kM_rateOf S hK hM hg hS (tn a1) (tn a2) (by first | omega | assumption | grind) (by first | omega | assumption | grind) (Nat.le_of_ble_eq_true rfl) (Nat.le_of_ble_eq_true rfl) hl.1 (Nat.le_of_ble_eq_true rfl) dX3_rate_23 (Nat.zero_le _) (Nat.zero_le _) (fun locs hS => ?_)
      have f23_0 : rateN (gs g 22 0 0) (tn a1) (tn a2) 6 ≤ 4 := rateN_le _ _ _ _
      refine lv_goto (tgt := 34) hx hb dX3_rate_26 (by decide) ?_
      rw [show (gs g 22 0 0 : G) = if inB a1 3 = true then (if inB a2 5 = true then gs g 22 0 (!(inB a1 3)).toNat else gs (gs g 22 0 (!(inB a1 3)).toNat) 22 0 2) else gs g 22 0 (!(inB a1 3)).toNat from by first | with_reducible rfl | (simp [c_1, c_2]; done) | (simp only [c_1, c_2] <;> simp []; done) | (simp [c_1, c_2, Bool.and_assoc]; done) | (simp [c_1, c_2, Bool.and_assoc, Bool.or_assoc]; done) | rfl | (simp [c_1, c_2]; omega)] at hM hg
      exact zc_nret (nI (if inB a1 3 = true then (if inB a2 5 = true then rateN (gs g 22 0 (!(inB a1 3)).toNat) (tn a1) (tn a2) 6 else 0) else 0)) (congrArg nI (show (rateN (gs g 22 0 0) (tn a1) (tn a2) 6 : Nat) = (if inB a1 3 = true then (if inB a2 5 = true then rateN (gs g 22 0 (!(inB a1 3)).toNat) (tn a1) (tn a2) 6 else 0) else 0) from by first | with_reducible rfl | (simp [c_1, c_2]; done) | (simp only [c_1, c_2] <;> simp []; done) | (simp [c_1, c_2, Bool.and_assoc]; done) | (simp [c_1, c_2, Bool.and_assoc, Bool.or_assoc]; done) | rfl | (simp [c_1, c_2]; omega))) (hPost H hM hg) hS hx hb hr hlk (Nat.zero_le _) (Nat.zero_le _) dX3_rate_34
  · rw [show (!(inB a1 3)).toNat = 1 from by rw [c_1]; rfl] at hM hg
    refine lv_iconst (v := nI 0) hx hb dX3_rate_11 zi_0 ?_
    rw [show (gs g 22 0 1 : G) = if inB a1 3 = true then (if inB a2 5 = true then gs g 22 0 (!(inB a1 3)).toNat else gs (gs g 22 0 (!(inB a1 3)).toNat) 22 0 2) else gs g 22 0 (!(inB a1 3)).toNat from by first | with_reducible rfl | (simp [c_1]; done) | (simp only [c_1] <;> simp []; done) | (simp [c_1, Bool.and_assoc]; done) | (simp [c_1, Bool.and_assoc, Bool.or_assoc]; done) | rfl | (simp [c_1]; omega)] at hM hg
    exact zc_nret (nI (if inB a1 3 = true then (if inB a2 5 = true then rateN (gs g 22 0 (!(inB a1 3)).toNat) (tn a1) (tn a2) 6 else 0) else 0)) (congrArg nI (show (0 : Nat) = (if inB a1 3 = true then (if inB a2 5 = true then rateN (gs g 22 0 (!(inB a1 3)).toNat) (tn a1) (tn a2) 6 else 0) else 0) from by first | with_reducible rfl | (simp [c_1]; done) | (simp only [c_1] <;> simp []; done) | (simp [c_1, Bool.and_assoc]; done) | (simp [c_1, Bool.and_assoc, Bool.or_assoc]; done) | rfl | (simp [c_1]; omega))) (hPost H hM hg) hS hx hb hr hlk (Nat.zero_le _) (Nat.zero_le _) dX3_rate_12
set_option maxHeartbeats 1000000 in
set_option maxRecDepth 100000 in
theorem cM_endsOffers (l : Launch) {D : va_G} {dA : Nat → ClassId} {A : Nat → Prop} {ad : Nat → Nat} {g : G} (hg : Sm g) (H0 : Heap) (hM : MS D dA A ad g H0) {Post : Option Value → Heap → Prop} (hPost : ∀ H : Heap, MS D dA A ad (eoN g 3) H → Sm (eoN g 3) → Post (none) H) : Ct l yX3_endsOffers (ws_ yX3_endsOffers cX3_endsOffers 2 none) (rmF 1 0 0 13) A (KT D dA) [.ref (ad 0)] H0 Post := by
  refine zc_of RX3 rfl (by decide) (Nat.le_of_ble_eq_true rfl) ?_
  intro pr en s m args below meth cd S hr hlk hnm hh hK ls hl
  have hS : va_S A s.heap H0 [] := zc_start hh
  have hg0 := hg
  have hx := S.1
  have hb := S.2.1
  have hown := S.2.2.2.1
  have hts := S.2.2.2.2
  have hl : lv_has ls 2 [(0, .ref (ad 0))] := hl
  refine lv_aload_n hx hb dX3_endsOffers_0 rfl (lv_at hl 0 rfl) ?_
  refine lv_iconst (v := nI 0) hx hb dX3_endsOffers_1 zi_0 ?_
  refine pM_give S hK hM hS 0 dX3_endsOffers_2 (fun H locs hM hS => ?_)
  have hg : Sm (gs g 26 0 0) := Sm_gs hg (by first | omega | exact Nat.lt_of_le_of_lt (Bool.toNat_le _) (by decide) | ((repeat' split) <;> omega))
  refine lv_aload_n hx hb dX3_endsOffers_5 rfl (lv_at hl 0 rfl) ?_
  refine lv_iconst (v := nI 0) hx hb dX3_endsOffers_6 zi_0 ?_
  refine pM_want S hK hM hS 0 dX3_endsOffers_7 (fun H locs hM hS => ?_)
  have hg : Sm (gs (gs g 26 0 0) 26 1 0) := Sm_gs hg (by first | omega | exact Nat.lt_of_le_of_lt (Bool.toNat_le _) (by decide) | ((repeat' split) <;> omega))
  refine lv_iconst (v := nI 0) hx hb dX3_endsOffers_10 zi_0 ?_
  refine lv_istore_n (lv' := [(1, .int (nI 0)), (0, .ref (ad 0))]) hx hb dX3_endsOffers_11 rfl hl (by decide) rfl (fun ls hl => ?_)
  have L_12 : ∀ (n_12 : Nat) (i : Nat), i ≤ 3 → 3 - i < n_12 → ∀ gLv : G, gLv = eoN g i → Sm gLv → ∀ (H : Heap) (locs : List Loc), MS D dA A ad gLv H → va_S A s.heap H locs → ∀ ls : Array Slot, lv_has ls 2 [(0, .ref (ad 0)), (1, .int (nI i))] → W pr l en (rmF 1 0 0 13) s m args below meth cd H locs 0 0 (MQ below (zc_Q Post A) args s 0 0 A) (F0 m 12 ls []) := by
    intro n_12
    induction n_12 with
    | zero => intro i hi_12 hm_12; exact absurd hm_12 (Nat.not_lt_zero _)
    | succ n_12 ih_12 =>
      intro i hi_12 hm_12 gLv egL hg H locs hM hS ls hl
      subst egL
      refine lv_iload_n hx hb dX3_endsOffers_12 rfl (lv_at hl 1 rfl) ?_
      refine lv_iconst (v := nI 3) hx hb dX3_endsOffers_13 zi_3 ?_
      refine zr_icmp_geN (a := i) (b := 3) (tgt := 37) hx hb (by omega) (by omega) dX3_endsOffers_14 (by decide) (fun c_1 => ?_) (fun c_1 => ?_)
      · have e_i : 3 = i := by omega
        subst e_i
        exact zc_vret (hPost H hM hg) hS hx hb hr hlk (Nat.zero_le _) (Nat.zero_le _) dX3_endsOffers_37
      · refine lv_aload_n hx hb dX3_endsOffers_17 rfl (lv_at hl 0 rfl) ?_
        refine gM_gives S hK hM dX3_endsOffers_18 ?_
        refine lv_iload_n hx hb dX3_endsOffers_21 rfl (lv_at hl 1 rfl) ?_
        refine lv_iconst (v := nI 0) hx hb dX3_endsOffers_22 zi_0 ?_
        refine sM_gives S hK hM hS i (by omega) 0 dX3_endsOffers_23 (fun H locs hM hS => ?_)
        have hg : Sm (gs (eoN g i) 16 i 0) := Sm_gs hg (by first | omega | exact Nat.lt_of_le_of_lt (Bool.toNat_le _) (by decide) | ((repeat' split) <;> omega))
        refine lv_aload_n hx hb dX3_endsOffers_24 rfl (lv_at hl 0 rfl) ?_
        refine gM_wants S hK hM dX3_endsOffers_25 ?_
        refine lv_iload_n hx hb dX3_endsOffers_28 rfl (lv_at hl 1 rfl) ?_
        refine lv_iconst (v := nI 0) hx hb dX3_endsOffers_29 zi_0 ?_
        refine sM_wants S hK hM hS i (by omega) 0 dX3_endsOffers_30 (fun H locs hM hS => ?_)
        have hg : Sm (gs (gs (eoN g i) 16 i 0) 17 i 0) := Sm_gs hg (by first | omega | exact Nat.lt_of_le_of_lt (Bool.toNat_le _) (by decide) | ((repeat' split) <;> omega))
        refine lv_iinc (v := nI (i + 1)) (lv' := [(1, .int (nI (i + 1))), (0, .ref (ad 0))]) hx hb dX3_endsOffers_31 hl (k := 1) rfl (zk_inc _) (by decide) rfl (fun ls hl => ?_)
        refine lv_goto (tgt := 12) hx hb dX3_endsOffers_34 (by decide) ?_
        exact ih_12 (i + 1) (by first | omega | assumption | (simp; done) | grind) (by omega) (gs (gs (eoN g i) 16 i 0) 17 i 0) (rfl) hg H locs hM hS ls (lv_sub hl [1, 0] rfl)
  exact L_12 _ 0 (by first | omega | assumption | (simp; done) | grind) (Nat.lt_succ_self _) (gs (gs g 26 0 0) 26 1 0) (rfl) hg H locs hM hS ls (lv_sub hl [1, 0] rfl)
theorem kM_endsOffers {pr : Program} {l : Launch} {en : Env} {R : Room} {s : State} {m : MethodId} {args : Array Value} {below : List Frame} {meth : Method} {cd : Code} {H : Heap} {locs : List Loc} {cells slots : Nat} {Q : State → Prop} {cc : ByteArray} {pc nL : Nat} {ls : Array Slot} {rest : List Value} {D : va_G} {dA : Nat → ClassId} {A : Nat → Prop} {ad : Nat → Nat} {g : G} (S : CallFix pr m cd cc nL s args lw_all RX3) (hK : KT D dA s) (hM : MS D dA A ad g H) (hg : Sm g) (hS : va_S A s.heap H locs) (hf : 1 + 1 ≤ R.frames) (hlo : 8 + (2 + 11) + 13 ≤ R.locals) (hsz : ls.size = nL) (hcat : (rest.map fun v => v.category).sum ≤ 8) (hdg : decode cc pc = .ok (.invokevirtual 246, 3)) (hq1 : cells ≤ R.cells) (hq2 : slots ≤ R.slots) (kk : ∀ (H1 : Heap) (locs1 : List Loc), MS D dA A ad (eoN g 3) H1 → Sm (eoN g 3) → va_S A s.heap H1 locs1 → W pr l en R s m args below meth cd H1 locs1 cells slots Q (F0 m (pc + 3) ls (rest))) : W pr l en R s m args below meth cd H locs cells slots Q (F0 m pc ls (.ref (ad 0) :: rest)) :=
  zc_callV (n := 0) (As := []) (rest := rest) S (cM_endsOffers l hg   H hM (Post := (fun v H1 => v = none ∧ MS D dA A ad (eoN g 3) H1 ∧ Sm (eoN g 3))) (fun H1 h h2 => ⟨rfl, h, h2⟩)) (lw_V q1371 q1373 qs68 q76 q1374) (by decide +kernel) ⟨hf, hlo⟩ ⟨hq1, hq2⟩ (zm_recv hK hM) KT_mv (zc_K KT_mv hK hS) hS (fun _ h => h) rfl hsz rfl hcat hdg (fun v H1 locs1 hp _ _ hS1 => by obtain ⟨rfl, hM1, hg1⟩ := hp; exact kk H1 locs1 hM1 hg1 hS1)
set_option maxHeartbeats 1000000 in
set_option maxRecDepth 100000 in
theorem cM_mayUse (l : Launch) {D : va_G} {dA : Nat → ClassId} {A : Nat → Prop} {ad : Nat → Nat} {g : G} (hg : Sm g) (a1 : Nat) (h1 : a1 < 5) (ht : g 7 4 < 3) (H0 : Heap) (hM : MS D dA A ad g H0) {Post : Option Value → Heap → Prop} (hPost : Post (some (.int (nI (mUse g a1).toNat))) H0) : Ct l yX3_mayUse (ws_ yX3_mayUse cX3_mayUse 2 (some .boolean)) (rmF 1 0 0 13) A (KT D dA) [.ref (ad 0), .int (nI a1)] H0 Post := by
  refine zc_of RX3 rfl (by decide) (Nat.le_of_ble_eq_true rfl) ?_
  intro pr en s m args below meth cd S hr hlk hnm hh hK ls hl
  have hS : va_S A s.heap H0 [] := zc_start hh
  have hg0 := hg
  have hx := S.1
  have hb := S.2.1
  have hown := S.2.2.2.1
  have hts := S.2.2.2.2
  have hl : lv_has ls 2 [(0, .ref (ad 0)), (1, .int (nI a1))] := hl
  refine lv_aload_n hx hb dX3_mayUse_0 rfl (lv_at hl 0 rfl) ?_
  refine gM_phase S hK hM (g 7 1) rfl dX3_mayUse_1 ?_
  have hb_1 : g 7 1 < 1048576 := by first | exact hg 7 1 | exact hg0 _ _ | (have := hg 7 1; omega) | omega
  refine lv_iconst (v := nI 1) hx hb dX3_mayUse_4 zi_1 ?_
  have J_16 : (((g 7 1) = 1) ∨ ((g 7 1) = 2)) → ∀ (locs : List Loc), va_S A s.heap H0 locs → ∀ ls : Array Slot, lv_has ls 2 [(0, .ref (ad 0)), (1, .int (nI a1))] → W pr l en (rmF 1 0 0 13) s m args below meth cd H0 locs 0 0 (MQ below (zc_Q Post A) args s 0 0 A) (F0 m 16 ls []) := by
    intro cJ_16 locs hS ls hl
    refine lv_aload_n hx hb dX3_mayUse_16 rfl (lv_at hl 0 rfl) ?_
    refine gM_isUsed S hK hM (g 7 6) rfl dX3_mayUse_17 ?_
    have hb_5 : g 7 6 < 1048576 := by first | exact hg 7 6 | exact hg0 _ _ | (have := hg 7 6; omega) | omega
    refine zr_if_neN (a := (g 7 6)) (tgt := 49) hx hb (by omega) dX3_mayUse_20 (by decide) (fun c_6 => ?_) (fun c_6 => ?_)
    · refine lv_iconst (v := nI 0) hx hb dX3_mayUse_49 zi_0 ?_
      exact zc_bret (mUse g a1) (congrArg (fun z : Bool => nI z.toNat) (show (false : Bool) = (mUse g a1) from by first | with_reducible rfl | (simp [cJ_16, c_6, mUse]; done) | (simp only [cJ_16, c_6] <;> simp [mUse]; done) | (simp only [mUse, cJ_16, c_6] <;> simp [mUse]; done) | (simp [cJ_16, c_6, mUse, Bool.and_assoc]; done) | (simp [cJ_16, c_6, mUse, Bool.and_assoc, Bool.or_assoc]; done) | rfl | (simp [cJ_16, c_6, mUse]; omega))) hPost hS hx hb hr hlk (Nat.zero_le _) (Nat.zero_le _) dX3_mayUse_50
    · refine lv_aload_n hx hb dX3_mayUse_23 rfl (lv_at hl 0 rfl) ?_
      refine gM_cards S hK hM dX3_mayUse_24 ?_
      refine lv_iconst (v := nI 5) hx hb dX3_mayUse_27 zi_5 ?_
      refine lv_aload_n hx hb dX3_mayUse_28 rfl (lv_at hl 0 rfl) ?_
      refine gM_turn S hK hM (g 7 4) rfl dX3_mayUse_29 ?_
      have hb_7 : g 7 4 < 1048576 := by first | exact hg 7 4 | exact hg0 _ _ | (have := hg 7 4; omega) | omega
      refine zr_mulN (a := 5) (b := (g 7 4)) hx hb dX3_mayUse_32 ?_
      refine lv_iload_n hx hb dX3_mayUse_33 rfl (lv_at hl 1 rfl) ?_
      refine zr_addN (a := (5 * (g 7 4))) (b := a1) hx hb dX3_mayUse_34 ?_
      refine lM_cards S hK hM ((5 * (g 7 4)) + a1) (by omega) (g 24 ((5 * (g 7 4)) + a1)) rfl dX3_mayUse_35 ?_
      have hb_8 : g 24 ((5 * (g 7 4)) + a1) < 1048576 := by first | exact hg 24 ((5 * (g 7 4)) + a1) | exact hg0 _ _ | (have := hg 24 ((5 * (g 7 4)) + a1); omega) | omega
      refine lv_aload_n hx hb dX3_mayUse_36 rfl (lv_at hl 0 rfl) ?_
      refine gM_fresh S hK hM dX3_mayUse_37 ?_
      refine lv_iload_n hx hb dX3_mayUse_40 rfl (lv_at hl 1 rfl) ?_
      refine lM_fresh S hK hM a1 (by omega) (g 25 a1) rfl dX3_mayUse_41 ?_
      have hb_9 : g 25 a1 < 1048576 := by first | exact hg 25 a1 | exact hg0 _ _ | (have := hg 25 a1; omega) | omega
      refine zr_icmp_leN (a := (g 24 ((5 * (g 7 4)) + a1))) (b := (g 25 a1)) (tgt := 49) hx hb (by omega) (by omega) dX3_mayUse_42 (by decide) (fun c_10 => ?_) (fun c_10 => ?_)
      · refine lv_iconst (v := nI 0) hx hb dX3_mayUse_49 zi_0 ?_
        exact zc_bret (mUse g a1) (congrArg (fun z : Bool => nI z.toNat) (show (false : Bool) = (mUse g a1) from by first | with_reducible rfl | (simp [cJ_16, c_6, c_10, mUse]; done) | (simp only [cJ_16, c_6, c_10] <;> simp [mUse]; done) | (simp only [mUse, cJ_16, c_6, c_10] <;> simp [mUse]; done) | (simp [cJ_16, c_6, c_10, mUse, Bool.and_assoc]; done) | (simp [cJ_16, c_6, c_10, mUse, Bool.and_assoc, Bool.or_assoc]; done) | rfl | (simp [cJ_16, c_6, c_10, mUse]; omega))) hPost hS hx hb hr hlk (Nat.zero_le _) (Nat.zero_le _) dX3_mayUse_50
      · refine lv_iconst (v := nI 1) hx hb dX3_mayUse_45 zi_1 ?_
        refine lv_goto (tgt := 50) hx hb dX3_mayUse_46 (by decide) ?_
        exact zc_bret (mUse g a1) (congrArg (fun z : Bool => nI z.toNat) (show (true : Bool) = (mUse g a1) from by first | with_reducible rfl | (simp [cJ_16, c_6, c_10, mUse]; done) | (simp only [cJ_16, c_6, c_10] <;> simp [mUse]; done) | (simp only [mUse, cJ_16, c_6, c_10] <;> simp [mUse]; done) | (simp [cJ_16, c_6, c_10, mUse, Bool.and_assoc]; done) | (simp [cJ_16, c_6, c_10, mUse, Bool.and_assoc, Bool.or_assoc]; done) | rfl | (simp [cJ_16, c_6, c_10, mUse]; omega))) hPost hS hx hb hr hlk (Nat.zero_le _) (Nat.zero_le _) dX3_mayUse_50
  refine zr_icmp_eqN (a := (g 7 1)) (b := 1) (tgt := 16) hx hb (by omega) (by omega) dX3_mayUse_5 (by decide) (fun c_11 => ?_) (fun c_11 => ?_)
  · exact J_16 (by first | assumption | omega | (simp [c_11, mUse]; done) | (simp [c_11, mUse]; omega) | grind) [] hS ls (lv_sub hl [0, 1] rfl)
  · refine lv_aload_n hx hb dX3_mayUse_8 rfl (lv_at hl 0 rfl) ?_
    refine gM_phase S hK hM (g 7 1) rfl dX3_mayUse_9 ?_
    have hb_12 : g 7 1 < 1048576 := by first | exact hg 7 1 | exact hg0 _ _ | (have := hg 7 1; omega) | omega
    refine lv_iconst (v := nI 2) hx hb dX3_mayUse_12 zi_2 ?_
    refine zr_icmp_neN (a := (g 7 1)) (b := 2) (tgt := 49) hx hb (by omega) (by omega) dX3_mayUse_13 (by decide) (fun c_13 => ?_) (fun c_13 => ?_)
    · refine lv_iconst (v := nI 0) hx hb dX3_mayUse_49 zi_0 ?_
      exact zc_bret (mUse g a1) (congrArg (fun z : Bool => nI z.toNat) (show (false : Bool) = (mUse g a1) from by first | with_reducible rfl | (simp [c_11, c_13, mUse]; done) | (simp only [c_11, c_13] <;> simp [mUse]; done) | (simp only [mUse, c_11, c_13] <;> simp [mUse]; done) | (simp [c_11, c_13, mUse, Bool.and_assoc]; done) | (simp [c_11, c_13, mUse, Bool.and_assoc, Bool.or_assoc]; done) | rfl | (simp [c_11, c_13, mUse]; omega))) hPost hS hx hb hr hlk (Nat.zero_le _) (Nat.zero_le _) dX3_mayUse_50
    · exact J_16 (by first | assumption | omega | (simp [c_11, c_13, mUse]; done) | (simp [c_11, c_13, mUse]; omega) | grind) [] hS ls (lv_sub hl [0, 1] rfl)
theorem kM_mayUse {pr : Program} {l : Launch} {en : Env} {R : Room} {s : State} {m : MethodId} {args : Array Value} {below : List Frame} {meth : Method} {cd : Code} {H : Heap} {locs : List Loc} {cells slots : Nat} {Q : State → Prop} {cc : ByteArray} {pc nL : Nat} {ls : Array Slot} {rest : List Value} {D : va_G} {dA : Nat → ClassId} {A : Nat → Prop} {ad : Nat → Nat} {g : G} (S : CallFix pr m cd cc nL s args lw_all RX3) (hK : KT D dA s) (hM : MS D dA A ad g H) (hg : Sm g) (hS : va_S A s.heap H locs) (a1 : Nat) (h1 : a1 < 5) (ht : g 7 4 < 3) (hf : 1 + 1 ≤ R.frames) (hlo : 8 + (2 + 11) + 13 ≤ R.locals) (hsz : ls.size = nL) (hcat : (rest.map fun v => v.category).sum ≤ 8) (hdg : decode cc pc = .ok (.invokevirtual 221, 3)) (hq1 : cells ≤ R.cells) (hq2 : slots ≤ R.slots) (kk : ∀ locs1 : List Loc, va_S A s.heap H locs1 → W pr l en R s m args below meth cd H locs1 cells slots Q (F0 m (pc + 3) ls (.int (nI (mUse g a1).toNat) :: rest))) : W pr l en R s m args below meth cd H locs cells slots Q (F0 m pc ls (.int (nI a1) :: .ref (ad 0) :: rest)) :=
  zc_callV (n := 1) (As := [.int (nI a1)]) (rest := rest) S (cM_mayUse l hg a1 h1 ht  H hM (Post := (fun v H1 => v = some (.int (nI (mUse g a1).toNat)) ∧ H1 = H)) ⟨rfl, rfl⟩) (lw_V q1329 q1331 qs64 q76 q1332) (by decide +kernel) ⟨hf, hlo⟩ ⟨hq1, hq2⟩ (zm_recv hK hM) KT_mv (zc_K KT_mv hK hS) hS (fun _ h => h) rfl hsz rfl hcat hdg (fun v H1 locs1 hp _ _ hS1 => by obtain ⟨rfl, rfl⟩ := hp; exact kk locs1 hS1)
set_option maxHeartbeats 1000000 in
set_option maxRecDepth 100000 in
theorem cM_uses (l : Launch) {D : va_G} {dA : Nat → ClassId} {A : Nat → Prop} {ad : Nat → Nat} {g : G} (hg : Sm g) (a1 : Nat) (h1 : a1 < 5) (ht : g 7 4 < 3) (h2 : 0 < g 24 (5 * g 7 4 + a1)) (H0 : Heap) (hM : MS D dA A ad g H0) {Post : Option Value → Heap → Prop} (hPost : ∀ H : Heap, MS D dA A ad (gUse g a1) H → Sm (gUse g a1) → Post (none) H) : Ct l yX3_uses (ws_ yX3_uses cX3_uses 2 none) (rmF 1 0 0 13) A (KT D dA) [.ref (ad 0), .int (nI a1)] H0 Post := by
  refine zc_of RX3 rfl (by decide) (Nat.le_of_ble_eq_true rfl) ?_
  intro pr en s m args below meth cd S hr hlk hnm hh hK ls hl
  have hS : va_S A s.heap H0 [] := zc_start hh
  have hg0 := hg
  have hx := S.1
  have hb := S.2.1
  have hown := S.2.2.2.1
  have hts := S.2.2.2.2
  have hl : lv_has ls 2 [(0, .ref (ad 0)), (1, .int (nI a1))] := hl
  have hb24 := hg 24 (5 * g 7 4 + a1)
  refine lv_aload_n hx hb dX3_uses_0 rfl (lv_at hl 0 rfl) ?_
  refine lv_iconst (v := nI 1) hx hb dX3_uses_1 zi_1 ?_
  refine pM_isUsed S hK hM hS 1 (by omega) dX3_uses_2 (fun H locs hM hS => ?_)
  have hg : Sm (gs g 7 6 1) := Sm_gs hg (by first | omega | exact Nat.lt_of_le_of_lt (Bool.toNat_le _) (by decide) | ((repeat' split) <;> omega))
  refine lv_aload_n hx hb dX3_uses_5 rfl (lv_at hl 0 rfl) ?_
  refine gM_cards S hK hM dX3_uses_6 ?_
  refine lv_iconst (v := nI 5) hx hb dX3_uses_9 zi_5 ?_
  refine lv_aload_n hx hb dX3_uses_10 rfl (lv_at hl 0 rfl) ?_
  refine gM_turn S hK hM (g 7 4) (by first | rfl | simp [gs]) dX3_uses_11 ?_
  have hb_1 : g 7 4 < 1048576 := by first | exact hg 7 4 | exact hg0 _ _ | (have := hg 7 4; omega) | omega
  refine zr_mulN (a := 5) (b := (g 7 4)) hx hb dX3_uses_14 ?_
  refine lv_iload_n hx hb dX3_uses_15 rfl (lv_at hl 1 rfl) ?_
  refine zr_addN (a := (5 * (g 7 4))) (b := a1) hx hb dX3_uses_16 ?_
  refine lv_dup2_11 hx hb dX3_uses_17 rfl rfl ?_
  refine lM_cards S hK hM ((5 * (g 7 4)) + a1) (by omega) (g 24 ((5 * (g 7 4)) + a1)) (by first | rfl | simp [gs]) dX3_uses_18 ?_
  have hb_2 : g 24 ((5 * (g 7 4)) + a1) < 1048576 := by first | exact hg 24 ((5 * (g 7 4)) + a1) | exact hg0 _ _ | (have := hg 24 ((5 * (g 7 4)) + a1); omega) | omega
  refine lv_iconst (v := nI 1) hx hb dX3_uses_19 zi_1 ?_
  refine zr_subN (a := (g 24 ((5 * (g 7 4)) + a1))) (b := 1) hx hb (by omega) dX3_uses_20 ?_
  refine sM_cards S hK hM hS ((5 * (g 7 4)) + a1) (by omega) ((g 24 ((5 * (g 7 4)) + a1)) - 1) dX3_uses_21 (fun H locs hM hS => ?_)
  have hg : Sm (gs (gs g 7 6 1) 24 ((5 * (g 7 4)) + a1) ((g 24 ((5 * (g 7 4)) + a1)) - 1)) := Sm_gs hg (by first | omega | exact Nat.lt_of_le_of_lt (Bool.toNat_le _) (by decide) | ((repeat' split) <;> omega))
  rw [show (gs (gs g 7 6 1) 24 ((5 * (g 7 4)) + a1) ((g 24 ((5 * (g 7 4)) + a1)) - 1) : G) = gUse g a1 from by first | with_reducible rfl | (simp [gUse]; done) | (simp [gUse, Bool.and_assoc]; done) | (simp [gUse, Bool.and_assoc, Bool.or_assoc]; done) | rfl | (simp [gUse]; omega)] at hM hg
  exact zc_vret (hPost H hM hg) hS hx hb hr hlk (Nat.zero_le _) (Nat.zero_le _) dX3_uses_22
theorem kM_uses {pr : Program} {l : Launch} {en : Env} {R : Room} {s : State} {m : MethodId} {args : Array Value} {below : List Frame} {meth : Method} {cd : Code} {H : Heap} {locs : List Loc} {cells slots : Nat} {Q : State → Prop} {cc : ByteArray} {pc nL : Nat} {ls : Array Slot} {rest : List Value} {D : va_G} {dA : Nat → ClassId} {A : Nat → Prop} {ad : Nat → Nat} {g : G} (S : CallFix pr m cd cc nL s args lw_all RX3) (hK : KT D dA s) (hM : MS D dA A ad g H) (hg : Sm g) (hS : va_S A s.heap H locs) (a1 : Nat) (h1 : a1 < 5) (ht : g 7 4 < 3) (h2 : 0 < g 24 (5 * g 7 4 + a1)) (hf : 1 + 1 ≤ R.frames) (hlo : 8 + (2 + 11) + 13 ≤ R.locals) (hsz : ls.size = nL) (hcat : (rest.map fun v => v.category).sum ≤ 8) (hdg : decode cc pc = .ok (.invokevirtual 224, 3)) (hq1 : cells ≤ R.cells) (hq2 : slots ≤ R.slots) (kk : ∀ (H1 : Heap) (locs1 : List Loc), MS D dA A ad (gUse g a1) H1 → Sm (gUse g a1) → va_S A s.heap H1 locs1 → W pr l en R s m args below meth cd H1 locs1 cells slots Q (F0 m (pc + 3) ls (rest))) : W pr l en R s m args below meth cd H locs cells slots Q (F0 m pc ls (.int (nI a1) :: .ref (ad 0) :: rest)) :=
  zc_callV (n := 1) (As := [.int (nI a1)]) (rest := rest) S (cM_uses l hg a1 h1 ht h2  H hM (Post := (fun v H1 => v = none ∧ MS D dA A ad (gUse g a1) H1 ∧ Sm (gUse g a1))) (fun H1 h h2 => ⟨rfl, h, h2⟩)) (lw_V q1333 q1335 qs65 q76 q1336) (by decide +kernel) ⟨hf, hlo⟩ ⟨hq1, hq2⟩ (zm_recv hK hM) KT_mv (zc_K KT_mv hK hS) hS (fun _ h => h) rfl hsz rfl hcat hdg (fun v H1 locs1 hp _ _ hS1 => by obtain ⟨rfl, hM1, hg1⟩ := hp; exact kk H1 locs1 hM1 hg1 hS1)
set_option maxHeartbeats 1000000 in
set_option maxRecDepth 100000 in
theorem cM_moves (l : Launch) {D : va_G} {dA : Nat → ClassId} {A : Nat → Prop} {ad : Nat → Nat} {g : G} (hg : Sm g) (a1 : Nat) (a2 : Nat) (a3 : Nat) (a4 : Nat) (h1 : a1 < 4) (h2 : a2 < 4) (h3 : a3 < 5) (h4 : a4 ≤ g 4 (5 * a1 + a3)) (h5 : ∀ j, j < 20 → g 4 j ≤ 1000) (H0 : Heap) (hM : MS D dA A ad g H0) {Post : Option Value → Heap → Prop} (hPost : ∀ H : Heap, MS D dA A ad (moveN g a1 a2 a3 a4) H → Sm (moveN g a1 a2 a3 a4) → Post (none) H) : Ct l yX3_moves (ws_ yX3_moves cX3_moves 5 none) (rmF 1 0 0 16) A (KT D dA) [.ref (ad 0), .int (nI a1), .int (nI a2), .int (nI a3), .int (nI a4)] H0 Post := by
  refine zc_of RX3 rfl (by decide) (Nat.le_of_ble_eq_true rfl) ?_
  intro pr en s m args below meth cd S hr hlk hnm hh hK ls hl
  have hS : va_S A s.heap H0 [] := zc_start hh
  have hg0 := hg
  have hx := S.1
  have hb := S.2.1
  have hown := S.2.2.2.1
  have hts := S.2.2.2.2
  have hl : lv_has ls 5 [(0, .ref (ad 0)), (1, .int (nI a1)), (2, .int (nI a2)), (3, .int (nI a3)), (4, .int (nI a4))] := hl
  have hm1 := h5 (5 * a1 + a3) (by omega)
  have hm2 := h5 (5 * a2 + a3) (by omega)
  have hm3 : gs g 4 (5 * a1 + a3) (g 4 (5 * a1 + a3) - a4) 4 (5 * a2 + a3) ≤ 1000 := by by_cases q : 5 * a2 + a3 = 5 * a1 + a3; (rw [q, gs_eq]; omega); (rw [gs_ni _ q]; omega)
  refine lv_aload_n hx hb dX3_moves_0 rfl (lv_at hl 0 rfl) ?_
  refine gM_hand S hK hM dX3_moves_1 ?_
  refine lv_iconst (v := nI 5) hx hb dX3_moves_4 zi_5 ?_
  refine lv_iload_n hx hb dX3_moves_5 rfl (lv_at hl 1 rfl) ?_
  refine zr_mulN (a := 5) (b := a1) hx hb dX3_moves_6 ?_
  refine lv_iload_n hx hb dX3_moves_7 rfl (lv_at hl 3 rfl) ?_
  refine zr_addN (a := (5 * a1)) (b := a3) hx hb dX3_moves_8 ?_
  refine lv_dup2_11 hx hb dX3_moves_9 rfl rfl ?_
  refine lM_hand S hK hM ((5 * a1) + a3) (by omega) (g 4 ((5 * a1) + a3)) rfl dX3_moves_10 ?_
  have hb_1 : g 4 ((5 * a1) + a3) < 1048576 := by first | exact hg 4 ((5 * a1) + a3) | exact hg0 _ _ | (have := hg 4 ((5 * a1) + a3); omega) | omega
  refine lv_iload hx hb dX3_moves_11 (lv_at hl 4 rfl) ?_
  refine zr_subN (a := (g 4 ((5 * a1) + a3))) (b := a4) hx hb (by omega) dX3_moves_13 ?_
  refine sM_hand S hK hM hS ((5 * a1) + a3) (by omega) ((g 4 ((5 * a1) + a3)) - a4) dX3_moves_14 (fun H locs hM hS => ?_)
  have hg : Sm (gs g 4 ((5 * a1) + a3) ((g 4 ((5 * a1) + a3)) - a4)) := Sm_gs hg (by first | omega | exact Nat.lt_of_le_of_lt (Bool.toNat_le _) (by decide) | ((repeat' split) <;> omega))
  refine lv_aload_n hx hb dX3_moves_15 rfl (lv_at hl 0 rfl) ?_
  refine gM_hand S hK hM dX3_moves_16 ?_
  refine lv_iconst (v := nI 5) hx hb dX3_moves_19 zi_5 ?_
  refine lv_iload_n hx hb dX3_moves_20 rfl (lv_at hl 2 rfl) ?_
  refine zr_mulN (a := 5) (b := a2) hx hb dX3_moves_21 ?_
  refine lv_iload_n hx hb dX3_moves_22 rfl (lv_at hl 3 rfl) ?_
  refine zr_addN (a := (5 * a2)) (b := a3) hx hb dX3_moves_23 ?_
  refine lv_dup2_11 hx hb dX3_moves_24 rfl rfl ?_
  refine lM_hand S hK hM ((5 * a2) + a3) (by omega) ((gs g 4 ((5 * a1) + a3) ((g 4 ((5 * a1) + a3)) - a4)) 4 ((5 * a2) + a3)) (by first | rfl | simp [gs]) dX3_moves_25 ?_
  have hb_2 : (gs g 4 ((5 * a1) + a3) ((g 4 ((5 * a1) + a3)) - a4)) 4 ((5 * a2) + a3) < 1048576 := by first | exact hg 4 ((5 * a2) + a3) | exact hg0 _ _ | (have := hg 4 ((5 * a2) + a3); omega) | omega
  refine lv_iload hx hb dX3_moves_26 (lv_at hl 4 rfl) ?_
  refine zr_addN (a := ((gs g 4 ((5 * a1) + a3) ((g 4 ((5 * a1) + a3)) - a4)) 4 ((5 * a2) + a3))) (b := a4) hx hb dX3_moves_28 ?_
  refine sM_hand S hK hM hS ((5 * a2) + a3) (by omega) (((gs g 4 ((5 * a1) + a3) ((g 4 ((5 * a1) + a3)) - a4)) 4 ((5 * a2) + a3)) + a4) dX3_moves_29 (fun H locs hM hS => ?_)
  have hg : Sm (gs (gs g 4 ((5 * a1) + a3) ((g 4 ((5 * a1) + a3)) - a4)) 4 ((5 * a2) + a3) (((gs g 4 ((5 * a1) + a3) ((g 4 ((5 * a1) + a3)) - a4)) 4 ((5 * a2) + a3)) + a4)) := Sm_gs hg (by first | omega | exact Nat.lt_of_le_of_lt (Bool.toNat_le _) (by decide) | ((repeat' split) <;> omega))
  rw [show (gs (gs g 4 ((5 * a1) + a3) ((g 4 ((5 * a1) + a3)) - a4)) 4 ((5 * a2) + a3) (((gs g 4 ((5 * a1) + a3) ((g 4 ((5 * a1) + a3)) - a4)) 4 ((5 * a2) + a3)) + a4) : G) = moveN g a1 a2 a3 a4 from by first | with_reducible rfl | (simp [moveN]; done) | (simp [moveN, Bool.and_assoc]; done) | (simp [moveN, Bool.and_assoc, Bool.or_assoc]; done) | rfl | (simp [moveN]; omega)] at hM hg
  exact zc_vret (hPost H hM hg) hS hx hb hr hlk (Nat.zero_le _) (Nat.zero_le _) dX3_moves_30
theorem kM_moves {pr : Program} {l : Launch} {en : Env} {R : Room} {s : State} {m : MethodId} {args : Array Value} {below : List Frame} {meth : Method} {cd : Code} {H : Heap} {locs : List Loc} {cells slots : Nat} {Q : State → Prop} {cc : ByteArray} {pc nL : Nat} {ls : Array Slot} {rest : List Value} {D : va_G} {dA : Nat → ClassId} {A : Nat → Prop} {ad : Nat → Nat} {g : G} (S : CallFix pr m cd cc nL s args lw_all RX3) (hK : KT D dA s) (hM : MS D dA A ad g H) (hg : Sm g) (hS : va_S A s.heap H locs) (a1 : Nat) (a2 : Nat) (a3 : Nat) (a4 : Nat) (h1 : a1 < 4) (h2 : a2 < 4) (h3 : a3 < 5) (h4 : a4 ≤ g 4 (5 * a1 + a3)) (h5 : ∀ j, j < 20 → g 4 j ≤ 1000) (hf : 1 + 1 ≤ R.frames) (hlo : 8 + (5 + 11) + 16 ≤ R.locals) (hsz : ls.size = nL) (hcat : (rest.map fun v => v.category).sum ≤ 8) (hdg : decode cc pc = .ok (.invokevirtual 230, 3)) (hq1 : cells ≤ R.cells) (hq2 : slots ≤ R.slots) (kk : ∀ (H1 : Heap) (locs1 : List Loc), MS D dA A ad (moveN g a1 a2 a3 a4) H1 → Sm (moveN g a1 a2 a3 a4) → va_S A s.heap H1 locs1 → W pr l en R s m args below meth cd H1 locs1 cells slots Q (F0 m (pc + 3) ls (rest))) : W pr l en R s m args below meth cd H locs cells slots Q (F0 m pc ls (.int (nI a4) :: .int (nI a3) :: .int (nI a2) :: .int (nI a1) :: .ref (ad 0) :: rest)) :=
  zc_callV (n := 4) (As := [.int (nI a1), .int (nI a2), .int (nI a3), .int (nI a4)]) (rest := rest) S (cM_moves l hg a1 a2 a3 a4 h1 h2 h3 h4 h5  H hM (Post := (fun v H1 => v = none ∧ MS D dA A ad (moveN g a1 a2 a3 a4) H1 ∧ Sm (moveN g a1 a2 a3 a4))) (fun H1 h h2 => ⟨rfl, h, h2⟩)) (lw_V q1348 q1350 qs66 q76 q1351) (by decide +kernel) ⟨hf, hlo⟩ ⟨hq1, hq2⟩ (zm_recv hK hM) KT_mv (zc_K KT_mv hK hS) hS (fun _ h => h) rfl hsz rfl hcat hdg (fun v H1 locs1 hp _ _ hS1 => by obtain ⟨rfl, hM1, hg1⟩ := hp; exact kk H1 locs1 hM1 hg1 hS1)
set_option maxHeartbeats 1000000 in
set_option maxRecDepth 100000 in
theorem cM_gives (l : Launch) {D : va_G} {dA : Nat → ClassId} {A : Nat → Prop} {ad : Nat → Nat} {g : G} (hg : Sm g) (a1 : Nat) (a2 : Nat) (a3 : Nat) (h1 : a1 < 4) (h2 : a2 < 4) (h3 : a3 < 1048576) (h4 : ∀ k, k < 5 → digN a3 k ≤ g 4 (5 * a1 + k)) (h5 : ∀ j, j < 20 → g 4 j ≤ 1000) (H0 : Heap) (hM : MS D dA A ad g H0) {Post : Option Value → Heap → Prop} (hPost : ∀ H : Heap, MS D dA A ad (giveN g a1 a2 a3 5) H → Sm (giveN g a1 a2 a3 5) → Post (none) H) : Ct l yX3_gives (ws_ yX3_gives cX3_gives 5 none) (rmF 2 0 0 38) A (KT D dA) [.ref (ad 0), .int (nI a1), .int (nI a2), .int (nI a3)] H0 Post := by
  refine zc_of RX3 rfl (by decide) (Nat.le_of_ble_eq_true rfl) ?_
  intro pr en s m args below meth cd S hr hlk hnm hh hK ls hl
  have hS : va_S A s.heap H0 [] := zc_start hh
  have hg0 := hg
  have hx := S.1
  have hb := S.2.1
  have hown := S.2.2.2.1
  have hts := S.2.2.2.2
  have hl : lv_has ls 5 [(0, .ref (ad 0)), (1, .int (nI a1)), (2, .int (nI a2)), (3, .int (nI a3))] := hl
  refine lv_iconst (v := nI 0) hx hb dX3_gives_0 zi_0 ?_
  refine lv_istore (lv' := [(4, .int (nI 0)), (0, .ref (ad 0)), (1, .int (nI a1)), (2, .int (nI a2)), (3, .int (nI a3))]) hx hb dX3_gives_1 hl (by decide) rfl (fun ls hl => ?_)
  have L_3 : ∀ (n_3 : Nat) (i : Nat), i ≤ 5 → 5 - i < n_3 → ∀ gLv : G, gLv = giveN g a1 a2 a3 i → Sm gLv → ∀ (H : Heap) (locs : List Loc), MS D dA A ad gLv H → va_S A s.heap H locs → ∀ ls : Array Slot, lv_has ls 5 [(0, .ref (ad 0)), (1, .int (nI a1)), (2, .int (nI a2)), (3, .int (nI a3)), (4, .int (nI i))] → W pr l en (rmF 2 0 0 38) s m args below meth cd H locs 0 0 (MQ below (zc_Q Post A) args s 0 0 A) (F0 m 3 ls []) := by
    intro n_3
    induction n_3 with
    | zero => intro i hi_3 hm_3; exact absurd hm_3 (Nat.not_lt_zero _)
    | succ n_3 ih_3 =>
      intro i hi_3 hm_3 gLv egL hg H locs hM hS ls hl
      subst egL
      refine lv_iload hx hb dX3_gives_3 (lv_at hl 4 rfl) ?_
      refine lv_iconst (v := nI 5) hx hb dX3_gives_5 zi_5 ?_
      refine zr_icmp_geN (a := i) (b := 5) (tgt := 55) hx hb (by omega) (by omega) dX3_gives_6 (by decide) (fun c_1 => ?_) (fun c_1 => ?_)
      · have e_i : 5 = i := by omega
        subst e_i
        exact zc_vret (hPost H hM hg) hS hx hb hr hlk (Nat.zero_le _) (Nat.zero_le _) dX3_gives_55
      · have hm1 := h5 (5 * a1 + i) (by omega)
        have hm2 := h5 (5 * a2 + i) (by omega)
        have hd9 := digN_lt a3 i
        have hm4 := h4 i (by omega)
        have hm5 := giveN_ge g a1 a2 a3 i (5 * a1 + i) (by omega) (by omega)
        have hm6 := giveN_ge g a1 a2 a3 i (5 * a2 + i) (by omega) (by omega)
        have hm3 : gs (giveN g a1 a2 a3 i) 4 (5 * a1 + i) (giveN g a1 a2 a3 i 4 (5 * a1 + i) - digN a3 i) 4 (5 * a2 + i) ≤ 1000 := by by_cases q : 5 * a2 + i = 5 * a1 + i; (rw [q, gs_eq]; omega); (rw [gs_ni _ q]; omega)
        refine lv_aload_n hx hb dX3_gives_9 rfl (lv_at hl 0 rfl) ?_
        refine gM_hand S hK hM dX3_gives_10 ?_
        refine lv_iconst (v := nI 5) hx hb dX3_gives_13 zi_5 ?_
        refine lv_iload_n hx hb dX3_gives_14 rfl (lv_at hl 1 rfl) ?_
        refine zr_mulN (a := 5) (b := a1) hx hb dX3_gives_15 ?_
        refine lv_iload hx hb dX3_gives_16 (lv_at hl 4 rfl) ?_
        refine zr_addN (a := (5 * a1)) (b := i) hx hb dX3_gives_18 ?_
        refine lv_dup2_11 hx hb dX3_gives_19 rfl rfl ?_
        refine lM_hand S hK hM ((5 * a1) + i) (by omega) ((giveN g a1 a2 a3 i) 4 ((5 * a1) + i)) rfl dX3_gives_20 ?_
        have hb_2 : (giveN g a1 a2 a3 i) 4 ((5 * a1) + i) < 1048576 := by first | exact hg 4 ((5 * a1) + i) | exact hg0 _ _ | (have := hg 4 ((5 * a1) + i); omega) | omega
        refine lv_iload_n hx hb dX3_gives_21 rfl (lv_at hl 3 rfl) ?_
        refine lv_iload hx hb dX3_gives_22 (lv_at hl 4 rfl) ?_
        refine kM_digit S hK hM hg hS a3 i (by first | omega | assumption | grind) (by first | omega | assumption | grind) (Nat.le_of_ble_eq_true rfl) (Nat.le_of_ble_eq_true rfl) hl.1 (Nat.le_of_ble_eq_true rfl) dX3_gives_24 (Nat.zero_le _) (Nat.zero_le _) (fun locs hS => ?_)
        have f24_0 : digN a3 i < 10 := digN_lt _ _
        refine zr_subN (a := ((giveN g a1 a2 a3 i) 4 ((5 * a1) + i))) (b := (digN a3 i)) hx hb (by omega) dX3_gives_27 ?_
        refine sM_hand S hK hM hS ((5 * a1) + i) (by omega) (((giveN g a1 a2 a3 i) 4 ((5 * a1) + i)) - (digN a3 i)) dX3_gives_28 (fun H locs hM hS => ?_)
        have hg : Sm (gs (giveN g a1 a2 a3 i) 4 ((5 * a1) + i) (((giveN g a1 a2 a3 i) 4 ((5 * a1) + i)) - (digN a3 i))) := Sm_gs hg (by first | omega | exact Nat.lt_of_le_of_lt (Bool.toNat_le _) (by decide) | ((repeat' split) <;> omega))
        refine lv_aload_n hx hb dX3_gives_29 rfl (lv_at hl 0 rfl) ?_
        refine gM_hand S hK hM dX3_gives_30 ?_
        refine lv_iconst (v := nI 5) hx hb dX3_gives_33 zi_5 ?_
        refine lv_iload_n hx hb dX3_gives_34 rfl (lv_at hl 2 rfl) ?_
        refine zr_mulN (a := 5) (b := a2) hx hb dX3_gives_35 ?_
        refine lv_iload hx hb dX3_gives_36 (lv_at hl 4 rfl) ?_
        refine zr_addN (a := (5 * a2)) (b := i) hx hb dX3_gives_38 ?_
        refine lv_dup2_11 hx hb dX3_gives_39 rfl rfl ?_
        refine lM_hand S hK hM ((5 * a2) + i) (by omega) ((gs (giveN g a1 a2 a3 i) 4 ((5 * a1) + i) (((giveN g a1 a2 a3 i) 4 ((5 * a1) + i)) - (digN a3 i))) 4 ((5 * a2) + i)) (by first | rfl | simp [gs]) dX3_gives_40 ?_
        have hb_3 : (gs (giveN g a1 a2 a3 i) 4 ((5 * a1) + i) (((giveN g a1 a2 a3 i) 4 ((5 * a1) + i)) - (digN a3 i))) 4 ((5 * a2) + i) < 1048576 := by first | exact hg 4 ((5 * a2) + i) | exact hg0 _ _ | (have := hg 4 ((5 * a2) + i); omega) | omega
        refine lv_iload_n hx hb dX3_gives_41 rfl (lv_at hl 3 rfl) ?_
        refine lv_iload hx hb dX3_gives_42 (lv_at hl 4 rfl) ?_
        refine kM_digit S hK hM hg hS a3 i (by first | omega | assumption | grind) (by first | omega | assumption | grind) (Nat.le_of_ble_eq_true rfl) (Nat.le_of_ble_eq_true rfl) hl.1 (Nat.le_of_ble_eq_true rfl) dX3_gives_44 (Nat.zero_le _) (Nat.zero_le _) (fun locs hS => ?_)
        have f44_0 : digN a3 i < 10 := digN_lt _ _
        refine zr_addN (a := ((gs (giveN g a1 a2 a3 i) 4 ((5 * a1) + i) (((giveN g a1 a2 a3 i) 4 ((5 * a1) + i)) - (digN a3 i))) 4 ((5 * a2) + i))) (b := (digN a3 i)) hx hb dX3_gives_47 ?_
        refine sM_hand S hK hM hS ((5 * a2) + i) (by omega) (((gs (giveN g a1 a2 a3 i) 4 ((5 * a1) + i) (((giveN g a1 a2 a3 i) 4 ((5 * a1) + i)) - (digN a3 i))) 4 ((5 * a2) + i)) + (digN a3 i)) dX3_gives_48 (fun H locs hM hS => ?_)
        have hg : Sm (gs (gs (giveN g a1 a2 a3 i) 4 ((5 * a1) + i) (((giveN g a1 a2 a3 i) 4 ((5 * a1) + i)) - (digN a3 i))) 4 ((5 * a2) + i) (((gs (giveN g a1 a2 a3 i) 4 ((5 * a1) + i) (((giveN g a1 a2 a3 i) 4 ((5 * a1) + i)) - (digN a3 i))) 4 ((5 * a2) + i)) + (digN a3 i))) := Sm_gs hg (by first | omega | exact Nat.lt_of_le_of_lt (Bool.toNat_le _) (by decide) | ((repeat' split) <;> omega))
        refine lv_iinc (v := nI (i + 1)) (lv' := [(4, .int (nI (i + 1))), (0, .ref (ad 0)), (1, .int (nI a1)), (2, .int (nI a2)), (3, .int (nI a3))]) hx hb dX3_gives_49 hl (k := 4) rfl (zk_inc _) (by decide) rfl (fun ls hl => ?_)
        refine lv_goto (tgt := 3) hx hb dX3_gives_52 (by decide) ?_
        exact ih_3 (i + 1) (by first | omega | assumption | (simp; done) | grind) (by omega) (gs (gs (giveN g a1 a2 a3 i) 4 ((5 * a1) + i) (((giveN g a1 a2 a3 i) 4 ((5 * a1) + i)) - (digN a3 i))) 4 ((5 * a2) + i) (((gs (giveN g a1 a2 a3 i) 4 ((5 * a1) + i) (((giveN g a1 a2 a3 i) 4 ((5 * a1) + i)) - (digN a3 i))) 4 ((5 * a2) + i)) + (digN a3 i))) (rfl) hg H locs hM hS ls (lv_sub hl [1, 2, 3, 4, 0] rfl)
  exact L_3 _ 0 (by first | omega | assumption | (simp; done) | grind) (Nat.lt_succ_self _) (g) (rfl) hg H0 [] hM hS ls (lv_sub hl [1, 2, 3, 4, 0] rfl)
theorem kM_gives {pr : Program} {l : Launch} {en : Env} {R : Room} {s : State} {m : MethodId} {args : Array Value} {below : List Frame} {meth : Method} {cd : Code} {H : Heap} {locs : List Loc} {cells slots : Nat} {Q : State → Prop} {cc : ByteArray} {pc nL : Nat} {ls : Array Slot} {rest : List Value} {D : va_G} {dA : Nat → ClassId} {A : Nat → Prop} {ad : Nat → Nat} {g : G} (S : CallFix pr m cd cc nL s args lw_all RX3) (hK : KT D dA s) (hM : MS D dA A ad g H) (hg : Sm g) (hS : va_S A s.heap H locs) (a1 : Nat) (a2 : Nat) (a3 : Nat) (h1 : a1 < 4) (h2 : a2 < 4) (h3 : a3 < 1048576) (h4 : ∀ k, k < 5 → digN a3 k ≤ g 4 (5 * a1 + k)) (h5 : ∀ j, j < 20 → g 4 j ≤ 1000) (hf : 2 + 1 ≤ R.frames) (hlo : 8 + (5 + 11) + 38 ≤ R.locals) (hsz : ls.size = nL) (hcat : (rest.map fun v => v.category).sum ≤ 8) (hdg : decode cc pc = .ok (.invokevirtual 172, 3)) (hq1 : cells ≤ R.cells) (hq2 : slots ≤ R.slots) (kk : ∀ (H1 : Heap) (locs1 : List Loc), MS D dA A ad (giveN g a1 a2 a3 5) H1 → Sm (giveN g a1 a2 a3 5) → va_S A s.heap H1 locs1 → W pr l en R s m args below meth cd H1 locs1 cells slots Q (F0 m (pc + 3) ls (rest))) : W pr l en R s m args below meth cd H locs cells slots Q (F0 m pc ls (.int (nI a3) :: .int (nI a2) :: .int (nI a1) :: .ref (ad 0) :: rest)) :=
  zc_callV (n := 3) (As := [.int (nI a1), .int (nI a2), .int (nI a3)]) (rest := rest) S (cM_gives l hg a1 a2 a3 h1 h2 h3 h4 h5  H hM (Post := (fun v H1 => v = none ∧ MS D dA A ad (giveN g a1 a2 a3 5) H1 ∧ Sm (giveN g a1 a2 a3 5))) (fun H1 h h2 => ⟨rfl, h, h2⟩)) (lw_V q1223 q1225 qs47 q76 q1226) (by decide +kernel) ⟨hf, hlo⟩ ⟨hq1, hq2⟩ (zm_recv hK hM) KT_mv (zc_K KT_mv hK hS) hS (fun _ h => h) rfl hsz rfl hcat hdg (fun v H1 locs1 hp _ _ hS1 => by obtain ⟨rfl, hM1, hg1⟩ := hp; exact kk H1 locs1 hM1 hg1 hS1)
set_option maxHeartbeats 1000000 in
set_option maxRecDepth 100000 in
theorem cM_isVictim (l : Launch) {D : va_G} {dA : Nat → ClassId} {A : Nat → Prop} {ad : Nat → Nat} {g : G} (hg : Sm g) (a1 : Nat) (a2 : Nat) (h1 : a1 < 3) (h2 : a2 < 7) (H0 : Heap) (hM : MS D dA A ad g H0) {Post : Option Value → Heap → Prop} (hPost : Post (some (.int (nI (mVic g a1 a2).toNat))) H0) : Ct l yX3_isVictim (ws_ yX3_isVictim cX3_isVictim 5 (some .boolean)) (rmF 2 0 0 38) A (KT D dA) [.ref (ad 0), .int (nI a1), .int (nI a2)] H0 Post := by
  refine zc_of RX3 rfl (by decide) (Nat.le_of_ble_eq_true rfl) ?_
  intro pr en s m args below meth cd S hr hlk hnm hh hK ls hl
  have hS : va_S A s.heap H0 [] := zc_start hh
  have hg0 := hg
  have hx := S.1
  have hb := S.2.1
  have hown := S.2.2.2.1
  have hts := S.2.2.2.2
  have hl : lv_has ls 5 [(0, .ref (ad 0)), (1, .int (nI a1)), (2, .int (nI a2))] := hl
  refine lv_iconst (v := nI 0) hx hb dX3_isVictim_0 zi_0 ?_
  refine lv_istore_n (lv' := [(3, .int (nI 0)), (0, .ref (ad 0)), (1, .int (nI a1)), (2, .int (nI a2))]) hx hb dX3_isVictim_1 rfl hl (by decide) rfl (fun ls hl => ?_)
  refine lv_iconst (v := nI 0) hx hb dX3_isVictim_2 zi_0 ?_
  refine lv_istore (lv' := [(4, .int (nI 0)), (3, .int (nI 0)), (0, .ref (ad 0)), (1, .int (nI a1)), (2, .int (nI a2))]) hx hb dX3_isVictim_3 hl (by decide) rfl (fun ls hl => ?_)
  have L_5 : ∀ (n_5 : Nat) (i : Nat), i ≤ 24 → 24 - i < n_5 → ∀ x3_5 : Int32, x3_5 = nI (anyN i (fun c => mOf a2 c && decide (own1 g c = a1 + 1))).toNat → ∀ (locs : List Loc), va_S A s.heap H0 locs → ∀ ls : Array Slot, lv_has ls 5 [(0, .ref (ad 0)), (1, .int (nI a1)), (2, .int (nI a2)), (3, .int x3_5), (4, .int (nI i))] → W pr l en (rmF 2 0 0 38) s m args below meth cd H0 locs 0 0 (MQ below (zc_Q Post A) args s 0 0 A) (F0 m 5 ls []) := by
    intro n_5
    induction n_5 with
    | zero => intro i hi_5 hm_5; exact absurd hm_5 (Nat.not_lt_zero _)
    | succ n_5 ih_5 =>
      intro i hi_5 hm_5 x3_5 ex3_5 locs hS ls hl
      subst ex3_5
      refine lv_iload hx hb dX3_isVictim_5 (lv_at hl 4 rfl) ?_
      refine lv_bipush (v := nI 24) hx hb dX3_isVictim_7 zb_24 ?_
      refine zr_icmp_geN (a := i) (b := 24) (tgt := 47) hx hb (by omega) (by omega) dX3_isVictim_9 (by decide) (fun c_1 => ?_) (fun c_1 => ?_)
      · have e_i : 24 = i := by omega
        subst e_i
        refine lv_iload_n hx hb dX3_isVictim_47 rfl (lv_at hl 3 rfl) ?_
        refine zr_if_eqB (b := anyN 24 (fun c => mOf a2 c && decide (own1 g c = a1 + 1))) (tgt := 71) hx hb dX3_isVictim_48 (by decide) (fun c_2 => ?_) (fun c_2 => ?_)
        · refine lv_iconst (v := nI 0) hx hb dX3_isVictim_71 zi_0 ?_
          exact zc_bret (mVic g a1 a2) (congrArg (fun z : Bool => nI z.toNat) (show (false : Bool) = (mVic g a1 a2) from by first | with_reducible rfl | (simp [c_1, c_2, mVic]; done) | (simp only [c_1, c_2] <;> simp [mVic]; done) | (simp only [mVic, c_1, c_2] <;> simp [mVic]; done) | (simp [c_1, c_2, mVic, Bool.and_assoc]; done) | (simp [c_1, c_2, mVic, Bool.and_assoc, Bool.or_assoc]; done) | rfl | (simp [c_1, c_2, mVic]; omega))) hPost hS hx hb hr hlk (Nat.zero_le _) (Nat.zero_le _) dX3_isVictim_72
        · refine lv_iload_n hx hb dX3_isVictim_51 rfl (lv_at hl 1 rfl) ?_
          refine lv_aload_n hx hb dX3_isVictim_52 rfl (lv_at hl 0 rfl) ?_
          refine gM_turn S hK hM (g 7 4) rfl dX3_isVictim_53 ?_
          have hb_3 : g 7 4 < 1048576 := by first | exact hg 7 4 | exact hg0 _ _ | (have := hg 7 4; omega) | omega
          refine zr_icmp_eqN (a := a1) (b := (g 7 4)) (tgt := 71) hx hb (by omega) (by omega) dX3_isVictim_56 (by decide) (fun c_4 => ?_) (fun c_4 => ?_)
          · refine lv_iconst (v := nI 0) hx hb dX3_isVictim_71 zi_0 ?_
            exact zc_bret (mVic g a1 a2) (congrArg (fun z : Bool => nI z.toNat) (show (false : Bool) = (mVic g a1 a2) from by first | with_reducible rfl | (simp [c_1, c_2, c_4, mVic]; done) | (simp only [c_1, c_2, c_4] <;> simp [mVic]; done) | (simp only [mVic, c_1, c_2, c_4] <;> simp [mVic]; done) | (simp [c_1, c_2, c_4, mVic, Bool.and_assoc]; done) | (simp [c_1, c_2, c_4, mVic, Bool.and_assoc, Bool.or_assoc]; done) | rfl | (simp [c_1, c_2, c_4, mVic]; omega))) hPost hS hx hb hr hlk (Nat.zero_le _) (Nat.zero_le _) dX3_isVictim_72
          · refine lv_aload_n hx hb dX3_isVictim_59 rfl (lv_at hl 0 rfl) ?_
            refine lv_iload_n hx hb dX3_isVictim_60 rfl (lv_at hl 1 rfl) ?_
            refine kM_handOf S hK hM hg hS a1 (by first | omega | assumption | grind) (Nat.le_of_ble_eq_true rfl) (Nat.le_of_ble_eq_true rfl) hl.1 (Nat.le_of_ble_eq_true rfl) dX3_isVictim_61 (Nat.zero_le _) (Nat.zero_le _) (fun locs hS => ?_)
            have f61_0 : handN g a1 5 < 5242880 := handN_lt hg _
            refine zr_if_leN (a := (handN g a1 5)) (tgt := 71) hx hb (by omega) dX3_isVictim_64 (by decide) (fun c_5 => ?_) (fun c_5 => ?_)
            · refine lv_iconst (v := nI 0) hx hb dX3_isVictim_71 zi_0 ?_
              exact zc_bret (mVic g a1 a2) (congrArg (fun z : Bool => nI z.toNat) (show (false : Bool) = (mVic g a1 a2) from by first | with_reducible rfl | (simp [c_1, c_2, c_4, c_5, mVic]; done) | (simp only [c_1, c_2, c_4, c_5] <;> simp [mVic]; done) | (simp only [mVic, c_1, c_2, c_4, c_5] <;> simp [mVic]; done) | (simp [c_1, c_2, c_4, c_5, mVic, Bool.and_assoc]; done) | (simp [c_1, c_2, c_4, c_5, mVic, Bool.and_assoc, Bool.or_assoc]; done) | rfl | (simp [c_1, c_2, c_4, c_5, mVic]; omega))) hPost hS hx hb hr hlk (Nat.zero_le _) (Nat.zero_le _) dX3_isVictim_72
            · refine lv_iconst (v := nI 1) hx hb dX3_isVictim_67 zi_1 ?_
              refine lv_goto (tgt := 72) hx hb dX3_isVictim_68 (by decide) ?_
              exact zc_bret (mVic g a1 a2) (congrArg (fun z : Bool => nI z.toNat) (show (true : Bool) = (mVic g a1 a2) from by first | with_reducible rfl | (simp [c_1, c_2, c_4, c_5, mVic]; done) | (simp only [c_1, c_2, c_4, c_5] <;> simp [mVic]; done) | (simp only [mVic, c_1, c_2, c_4, c_5] <;> simp [mVic]; done) | (simp [c_1, c_2, c_4, c_5, mVic, Bool.and_assoc]; done) | (simp [c_1, c_2, c_4, c_5, mVic, Bool.and_assoc, Bool.or_assoc]; done) | rfl | (simp [c_1, c_2, c_4, c_5, mVic]; omega))) hPost hS hx hb hr hlk (Nat.zero_le _) (Nat.zero_le _) dX3_isVictim_72
      · refine lv_iload_n hx hb dX3_isVictim_12 rfl (lv_at hl 3 rfl) ?_
        have J_40 : ∀ yS0_40 : Int32, yS0_40 = nI ((anyN i (fun c => mOf a2 c && decide (own1 g c = a1 + 1))) || ((mOf a2 i) && (decide ((own1 g i) = (a1 + 1))))).toNat → ∀ (locs : List Loc), va_S A s.heap H0 locs → ∀ ls : Array Slot, lv_has ls 5 [(0, .ref (ad 0)), (1, .int (nI a1)), (2, .int (nI a2)), (4, .int (nI i))] → W pr l en (rmF 2 0 0 38) s m args below meth cd H0 locs 0 0 (MQ below (zc_Q Post A) args s 0 0 A) (F0 m 40 ls [.int yS0_40]) := by
          intro yS0_40 eyS0_40 locs hS ls hl
          subst eyS0_40
          refine lv_istore_n (lv' := [(3, .int (nI ((anyN i (fun c => mOf a2 c && decide (own1 g c = a1 + 1))) || ((mOf a2 i) && (decide ((own1 g i) = (a1 + 1))))).toNat)), (0, .ref (ad 0)), (1, .int (nI a1)), (2, .int (nI a2)), (4, .int (nI i))]) hx hb dX3_isVictim_40 rfl hl (by decide) rfl (fun ls hl => ?_)
          refine lv_iinc (v := nI (i + 1)) (lv' := [(4, .int (nI (i + 1))), (3, .int (nI ((anyN i (fun c => mOf a2 c && decide (own1 g c = a1 + 1))) || ((mOf a2 i) && (decide ((own1 g i) = (a1 + 1))))).toNat)), (0, .ref (ad 0)), (1, .int (nI a1)), (2, .int (nI a2))]) hx hb dX3_isVictim_41 hl (k := 4) rfl (zk_inc _) (by decide) rfl (fun ls hl => ?_)
          refine lv_goto (tgt := 5) hx hb dX3_isVictim_44 (by decide) ?_
          exact ih_5 (i + 1) (by first | omega | assumption | (simp; done) | grind) (by omega) _ (congrArg (fun z : Bool => nI z.toNat) (show ((anyN i (fun c => mOf a2 c && decide (own1 g c = a1 + 1))) || ((mOf a2 i) && (decide ((own1 g i) = (a1 + 1)))) : Bool) = (anyN (i + 1) (fun c => mOf a2 c && decide (own1 g c = a1 + 1))) from by first | with_reducible rfl | (simp [c_1, mVic, anyN]; done) | (simp only [c_1] <;> simp [mVic, anyN]; done) | (simp only [mVic, anyN, c_1] <;> simp [mVic, anyN]; done) | (simp [c_1, mVic, anyN, Bool.and_assoc]; done) | (simp [c_1, mVic, anyN, Bool.and_assoc, Bool.or_assoc]; done) | rfl | (simp [c_1, mVic, anyN]; omega))) locs hS ls (lv_sub hl [2, 3, 4, 1, 0] rfl)
        refine zr_if_neB (b := anyN i (fun c => mOf a2 c && decide (own1 g c = a1 + 1))) (tgt := 35) hx hb dX3_isVictim_13 (by decide) (fun c_9 => ?_) (fun c_9 => ?_)
        · refine lv_iconst (v := nI 1) hx hb dX3_isVictim_35 zi_1 ?_
          refine lv_goto (tgt := 40) hx hb dX3_isVictim_36 (by decide) ?_
          exact J_40 _ (congrArg (fun z : Bool => nI z.toNat) (show (true : Bool) = ((anyN i (fun c => mOf a2 c && decide (own1 g c = a1 + 1))) || ((mOf a2 i) && (decide ((own1 g i) = (a1 + 1))))) from by first | with_reducible rfl | (simp [c_1, c_9, mVic]; done) | (simp only [c_1, c_9] <;> simp [mVic]; done) | (simp only [mVic, c_1, c_9] <;> simp [mVic]; done) | (simp [c_1, c_9, mVic, Bool.and_assoc]; done) | (simp [c_1, c_9, mVic, Bool.and_assoc, Bool.or_assoc]; done) | rfl | (simp [c_1, c_9, mVic]; omega))) locs hS ls (lv_sub hl [0, 1, 2, 4] rfl)
        · refine lv_iload_n hx hb dX3_isVictim_16 rfl (lv_at hl 2 rfl) ?_
          refine lv_iload hx hb dX3_isVictim_17 (lv_at hl 4 rfl) ?_
          refine kM_isOf S hK hM hg hS a2 i (by first | omega | assumption | grind) (by first | omega | assumption | grind) (Nat.le_of_ble_eq_true rfl) (Nat.le_of_ble_eq_true rfl) hl.1 (Nat.le_of_ble_eq_true rfl) dX3_isVictim_19 (Nat.zero_le _) (Nat.zero_le _) (fun locs hS => ?_)
          refine zr_if_eqB (b := mOf a2 i) (tgt := 39) hx hb dX3_isVictim_22 (by decide) (fun c_10 => ?_) (fun c_10 => ?_)
          · refine lv_iconst (v := nI 0) hx hb dX3_isVictim_39 zi_0 ?_
            exact J_40 _ (congrArg (fun z : Bool => nI z.toNat) (show (false : Bool) = ((anyN i (fun c => mOf a2 c && decide (own1 g c = a1 + 1))) || ((mOf a2 i) && (decide ((own1 g i) = (a1 + 1))))) from by first | with_reducible rfl | (simp [c_1, c_9, c_10, mVic]; done) | (simp only [c_1, c_9, c_10] <;> simp [mVic]; done) | (simp only [mVic, c_1, c_9, c_10] <;> simp [mVic]; done) | (simp [c_1, c_9, c_10, mVic, Bool.and_assoc]; done) | (simp [c_1, c_9, c_10, mVic, Bool.and_assoc, Bool.or_assoc]; done) | rfl | (simp [c_1, c_9, c_10, mVic]; omega))) locs hS ls (lv_sub hl [0, 1, 2, 4] rfl)
          · refine lv_aload_n hx hb dX3_isVictim_25 rfl (lv_at hl 0 rfl) ?_
            refine lv_iload hx hb dX3_isVictim_26 (lv_at hl 4 rfl) ?_
            refine kM_ownerAt S hK hM hg hS i (by first | omega | assumption | grind) (Nat.le_of_ble_eq_true rfl) (Nat.le_of_ble_eq_true rfl) hl.1 (Nat.le_of_ble_eq_true rfl) dX3_isVictim_28 (Nat.zero_le _) (Nat.zero_le _) (fun locs hS => ?_)
            have f28_0 : own1 g i < 4 := own1_lt _ _
            refine lv_iload_n hx hb dX3_isVictim_31 rfl (lv_at hl 1 rfl) ?_
            rw [← mI_succ a1]
            refine zr_icmp_neM (a := (own1 g i)) (b := (a1 + 1)) (tgt := 39) hx hb (by omega) (by omega) dX3_isVictim_32 (by decide) (fun c_11 => ?_) (fun c_11 => ?_)
            · refine lv_iconst (v := nI 0) hx hb dX3_isVictim_39 zi_0 ?_
              exact J_40 _ (congrArg (fun z : Bool => nI z.toNat) (show (false : Bool) = ((anyN i (fun c => mOf a2 c && decide (own1 g c = a1 + 1))) || ((mOf a2 i) && (decide ((own1 g i) = (a1 + 1))))) from by first | with_reducible rfl | (simp [c_1, c_9, c_10, c_11, mVic]; done) | (simp only [c_1, c_9, c_10, c_11] <;> simp [mVic]; done) | (simp only [mVic, c_1, c_9, c_10, c_11] <;> simp [mVic]; done) | (simp [c_1, c_9, c_10, c_11, mVic, Bool.and_assoc]; done) | (simp [c_1, c_9, c_10, c_11, mVic, Bool.and_assoc, Bool.or_assoc]; done) | rfl | (simp [c_1, c_9, c_10, c_11, mVic]; omega))) locs hS ls (lv_sub hl [0, 1, 2, 4] rfl)
            · refine lv_iconst (v := nI 1) hx hb dX3_isVictim_35 zi_1 ?_
              refine lv_goto (tgt := 40) hx hb dX3_isVictim_36 (by decide) ?_
              exact J_40 _ (congrArg (fun z : Bool => nI z.toNat) (show (true : Bool) = ((anyN i (fun c => mOf a2 c && decide (own1 g c = a1 + 1))) || ((mOf a2 i) && (decide ((own1 g i) = (a1 + 1))))) from by first | with_reducible rfl | (simp [c_1, c_9, c_10, c_11, mVic]; done) | (simp only [c_1, c_9, c_10, c_11] <;> simp [mVic]; done) | (simp only [mVic, c_1, c_9, c_10, c_11] <;> simp [mVic]; done) | (simp [c_1, c_9, c_10, c_11, mVic, Bool.and_assoc]; done) | (simp [c_1, c_9, c_10, c_11, mVic, Bool.and_assoc, Bool.or_assoc]; done) | rfl | (simp [c_1, c_9, c_10, c_11, mVic]; omega))) locs hS ls (lv_sub hl [0, 1, 2, 4] rfl)
  exact L_5 _ 0 (by first | omega | assumption | (simp; done) | grind) (Nat.lt_succ_self _) _ (congrArg (fun z : Bool => nI z.toNat) (show (false : Bool) = (anyN 0 (fun c => mOf a2 c && decide (own1 g c = a1 + 1))) from by first | with_reducible rfl | (simp [mVic, anyN]; done) | (simp [mVic, anyN, Bool.and_assoc]; done) | (simp [mVic, anyN, Bool.and_assoc, Bool.or_assoc]; done) | rfl | (simp [mVic, anyN]; omega))) [] hS ls (lv_sub hl [2, 3, 4, 1, 0] rfl)
theorem kM_isVictim {pr : Program} {l : Launch} {en : Env} {R : Room} {s : State} {m : MethodId} {args : Array Value} {below : List Frame} {meth : Method} {cd : Code} {H : Heap} {locs : List Loc} {cells slots : Nat} {Q : State → Prop} {cc : ByteArray} {pc nL : Nat} {ls : Array Slot} {rest : List Value} {D : va_G} {dA : Nat → ClassId} {A : Nat → Prop} {ad : Nat → Nat} {g : G} (S : CallFix pr m cd cc nL s args lw_all RX3) (hK : KT D dA s) (hM : MS D dA A ad g H) (hg : Sm g) (hS : va_S A s.heap H locs) (a1 : Nat) (a2 : Nat) (h1 : a1 < 3) (h2 : a2 < 7) (hf : 2 + 1 ≤ R.frames) (hlo : 8 + (5 + 11) + 38 ≤ R.locals) (hsz : ls.size = nL) (hcat : (rest.map fun v => v.category).sum ≤ 8) (hdg : decode cc pc = .ok (.invokevirtual 188, 3)) (hq1 : cells ≤ R.cells) (hq2 : slots ≤ R.slots) (kk : ∀ locs1 : List Loc, va_S A s.heap H locs1 → W pr l en R s m args below meth cd H locs1 cells slots Q (F0 m (pc + 3) ls (.int (nI (mVic g a1 a2).toNat) :: rest))) : W pr l en R s m args below meth cd H locs cells slots Q (F0 m pc ls (.int (nI a2) :: .int (nI a1) :: .ref (ad 0) :: rest)) :=
  zc_callV (n := 2) (As := [.int (nI a1), .int (nI a2)]) (rest := rest) S (cM_isVictim l hg a1 a2 h1 h2  H hM (Post := (fun v H1 => v = some (.int (nI (mVic g a1 a2).toNat)) ∧ H1 = H)) ⟨rfl, rfl⟩) (lw_V q1262 q1264 qs53 q76 q1265) (by decide +kernel) ⟨hf, hlo⟩ ⟨hq1, hq2⟩ (zm_recv hK hM) KT_mv (zc_K KT_mv hK hS) hS (fun _ h => h) rfl hsz rfl hcat hdg (fun v H1 locs1 hp _ _ hS1 => by obtain ⟨rfl, rfl⟩ := hp; exact kk locs1 hS1)
set_option maxHeartbeats 1000000 in
set_option maxRecDepth 100000 in
theorem cM_mayRob (l : Launch) {D : va_G} {dA : Nat → ClassId} {A : Nat → Prop} {ad : Nat → Nat} {g : G} (hg : Sm g) (a1 : Nat) (a2 : Nat) (h1 : a1 < 7) (h2 : a2 ≤ 3) (H0 : Heap) (hM : MS D dA A ad g H0) {Post : Option Value → Heap → Prop} (hPost : Post (some (.int (nI (mMayRob g a1 a2).toNat))) H0) : Ct l yX3_mayRob (ws_ yX3_mayRob cX3_mayRob 4 (some .boolean)) (rmF 3 0 0 62) A (KT D dA) [.ref (ad 0), .int (nI a1), .int (mI a2)] H0 Post := by
  refine zc_of RX3 rfl (by decide) (Nat.le_of_ble_eq_true rfl) ?_
  intro pr en s m args below meth cd S hr hlk hnm hh hK ls hl
  have hS : va_S A s.heap H0 [] := zc_start hh
  have hg0 := hg
  have hx := S.1
  have hb := S.2.1
  have hown := S.2.2.2.1
  have hts := S.2.2.2.2
  have hl : lv_has ls 4 [(0, .ref (ad 0)), (1, .int (nI a1)), (2, .int (mI a2))] := hl
  refine lv_aload_n hx hb dX3_mayRob_0 rfl (lv_at hl 0 rfl) ?_
  refine lv_iconst (v := nI 0) hx hb dX3_mayRob_1 zi_0 ?_
  refine lv_iload_n hx hb dX3_mayRob_2 rfl (lv_at hl 1 rfl) ?_
  refine kM_isVictim S hK hM hg hS 0 a1 (by first | omega | assumption | grind) (by first | omega | assumption | grind) (Nat.le_of_ble_eq_true rfl) (Nat.le_of_ble_eq_true rfl) hl.1 (Nat.le_of_ble_eq_true rfl) dX3_mayRob_3 (Nat.zero_le _) (Nat.zero_le _) (fun locs hS => ?_)
  have J_32 : ∀ yS0_32 : Int32, yS0_32 = nI ((mVic g 0 a1) || ((mVic g 1 a1) || ((mVic g 2 a1)))).toNat → ∀ (locs : List Loc), va_S A s.heap H0 locs → ∀ ls : Array Slot, lv_has ls 4 [(0, .ref (ad 0)), (1, .int (nI a1)), (2, .int (mI a2))] → W pr l en (rmF 3 0 0 62) s m args below meth cd H0 locs 0 0 (MQ below (zc_Q Post A) args s 0 0 A) (F0 m 32 ls [.int yS0_32]) := by
    intro yS0_32 eyS0_32 locs hS ls hl
    subst eyS0_32
    refine lv_istore_n (lv' := [(3, .int (nI ((mVic g 0 a1) || ((mVic g 1 a1) || ((mVic g 2 a1)))).toNat)), (0, .ref (ad 0)), (1, .int (nI a1)), (2, .int (mI a2))]) hx hb dX3_mayRob_32 rfl hl (by decide) rfl (fun ls hl => ?_)
    refine lv_iload_n hx hb dX3_mayRob_33 rfl (lv_at hl 2 rfl) ?_
    refine lv_aload_n hx hb dX3_mayRob_34 rfl (lv_at hl 1 rfl) ?_
    refine gM_robber S hK hM (g 7 0) rfl dX3_mayRob_35 ?_
    have hb_4 : g 7 0 < 1048576 := by first | exact hg 7 0 | exact hg0 _ _ | (have := hg 7 0; omega) | omega
    refine zr_icmp_eqN (a := a1) (b := (g 7 0)) (tgt := 66) hx hb (by omega) (by omega) dX3_mayRob_38 (by decide) (fun c_5 => ?_) (fun c_5 => ?_)
    · refine lv_iconst (v := nI 0) hx hb dX3_mayRob_66 zi_0 ?_
      exact zc_bret (mMayRob g a1 a2) (congrArg (fun z : Bool => nI z.toNat) (show (false : Bool) = (mMayRob g a1 a2) from by first | with_reducible rfl | (simp [c_5, mMayRob]; done) | (simp only [c_5] <;> simp [mMayRob]; done) | (simp only [mMayRob, c_5] <;> simp [mMayRob]; done) | (simp [c_5, mMayRob, Bool.and_assoc]; done) | (simp [c_5, mMayRob, Bool.and_assoc, Bool.or_assoc]; done) | rfl | (simp [c_5, mMayRob]; omega))) hPost hS hx hb hr hlk (Nat.zero_le _) (Nat.zero_le _) dX3_mayRob_67
    · refine lv_iload_n hx hb dX3_mayRob_41 rfl (lv_at hl 3 rfl) ?_
      refine lv_iconst (v := mI 0) hx hb dX3_mayRob_42 zi_m1 ?_
      refine zr_icmp_neM (a := a2) (b := 0) (tgt := 53) hx hb (by omega) (by omega) dX3_mayRob_43 (by decide) (fun c_6 => ?_) (fun c_6 => ?_)
      · refine lv_aload_n hx hb dX3_mayRob_53 rfl (lv_at hl 1 rfl) ?_
        refine lv_iload_n hx hb dX3_mayRob_54 rfl (lv_at hl 3 rfl) ?_
        refine lv_iload_n hx hb dX3_mayRob_55 rfl (lv_at hl 2 rfl) ?_
        rw [mI_pred (show 0 < a2 from by omega)]
        refine kM_isVictim S hK hM hg hS (a2 - 1) a1 (by first | omega | assumption | grind) (by first | omega | assumption | grind) (Nat.le_of_ble_eq_true rfl) (Nat.le_of_ble_eq_true rfl) hl.1 (Nat.le_of_ble_eq_true rfl) dX3_mayRob_56 (Nat.zero_le _) (Nat.zero_le _) (fun locs hS => ?_)
        refine zr_if_eqB (b := mVic g (a2 - 1) a1) (tgt := 66) hx hb dX3_mayRob_59 (by decide) (fun c_7 => ?_) (fun c_7 => ?_)
        · refine lv_iconst (v := nI 0) hx hb dX3_mayRob_66 zi_0 ?_
          exact zc_bret (mMayRob g a1 a2) (congrArg (fun z : Bool => nI z.toNat) (show (false : Bool) = (mMayRob g a1 a2) from by first | with_reducible rfl | (simp [c_5, c_6, c_7, mMayRob]; done) | (simp only [c_5, c_6, c_7] <;> simp [mMayRob]; done) | (simp only [mMayRob, c_5, c_6, c_7] <;> simp [mMayRob]; done) | (simp [c_5, c_6, c_7, mMayRob, Bool.and_assoc]; done) | (simp [c_5, c_6, c_7, mMayRob, Bool.and_assoc, Bool.or_assoc]; done) | rfl | (simp [c_5, c_6, c_7, mMayRob]; omega))) hPost hS hx hb hr hlk (Nat.zero_le _) (Nat.zero_le _) dX3_mayRob_67
        · refine lv_iconst (v := nI 1) hx hb dX3_mayRob_62 zi_1 ?_
          refine lv_goto (tgt := 67) hx hb dX3_mayRob_63 (by decide) ?_
          exact zc_bret (mMayRob g a1 a2) (congrArg (fun z : Bool => nI z.toNat) (show (true : Bool) = (mMayRob g a1 a2) from by first | with_reducible rfl | (simp [c_5, c_6, c_7, mMayRob]; done) | (simp only [c_5, c_6, c_7] <;> simp [mMayRob]; done) | (simp only [mMayRob, c_5, c_6, c_7] <;> simp [mMayRob]; done) | (simp [c_5, c_6, c_7, mMayRob, Bool.and_assoc]; done) | (simp [c_5, c_6, c_7, mMayRob, Bool.and_assoc, Bool.or_assoc]; done) | rfl | (simp [c_5, c_6, c_7, mMayRob]; omega))) hPost hS hx hb hr hlk (Nat.zero_le _) (Nat.zero_le _) dX3_mayRob_67
      · refine lv_iload_n hx hb dX3_mayRob_46 rfl (lv_at hl 0 rfl) ?_
        refine zr_if_neB (b := (mVic g 0 a1) || ((mVic g 1 a1) || ((mVic g 2 a1)))) (tgt := 66) hx hb dX3_mayRob_47 (by decide) (fun c_8 => ?_) (fun c_8 => ?_)
        · refine lv_iconst (v := nI 0) hx hb dX3_mayRob_66 zi_0 ?_
          exact zc_bret (mMayRob g a1 a2) (congrArg (fun z : Bool => nI z.toNat) (show (false : Bool) = (mMayRob g a1 a2) from by first | with_reducible rfl | (simp [c_5, c_6, c_8, mMayRob]; done) | (simp only [c_5, c_6, c_8] <;> simp [mMayRob]; done) | (simp only [mMayRob, c_5, c_6, c_8] <;> simp [mMayRob]; done) | (simp [c_5, c_6, c_8, mMayRob, Bool.and_assoc]; done) | (simp [c_5, c_6, c_8, mMayRob, Bool.and_assoc, Bool.or_assoc]; done) | rfl | (simp [c_5, c_6, c_8, mMayRob]; omega))) hPost hS hx hb hr hlk (Nat.zero_le _) (Nat.zero_le _) dX3_mayRob_67
        · refine lv_goto (tgt := 62) hx hb dX3_mayRob_50 (by decide) ?_
          refine lv_iconst (v := nI 1) hx hb dX3_mayRob_62 zi_1 ?_
          refine lv_goto (tgt := 67) hx hb dX3_mayRob_63 (by decide) ?_
          exact zc_bret (mMayRob g a1 a2) (congrArg (fun z : Bool => nI z.toNat) (show (true : Bool) = (mMayRob g a1 a2) from by first | with_reducible rfl | (simp [c_5, c_6, c_8, mMayRob]; done) | (simp only [c_5, c_6, c_8] <;> simp [mMayRob]; done) | (simp only [mMayRob, c_5, c_6, c_8] <;> simp [mMayRob]; done) | (simp [c_5, c_6, c_8, mMayRob, Bool.and_assoc]; done) | (simp [c_5, c_6, c_8, mMayRob, Bool.and_assoc, Bool.or_assoc]; done) | rfl | (simp [c_5, c_6, c_8, mMayRob]; omega))) hPost hS hx hb hr hlk (Nat.zero_le _) (Nat.zero_le _) dX3_mayRob_67
  refine zr_if_neB (b := mVic g 0 a1) (tgt := 27) hx hb dX3_mayRob_6 (by decide) (fun c_9 => ?_) (fun c_9 => ?_)
  · refine lv_iconst (v := nI 1) hx hb dX3_mayRob_27 zi_1 ?_
    refine lv_goto (tgt := 32) hx hb dX3_mayRob_28 (by decide) ?_
    exact J_32 _ (congrArg (fun z : Bool => nI z.toNat) (show (true : Bool) = ((mVic g 0 a1) || ((mVic g 1 a1) || ((mVic g 2 a1)))) from by first | with_reducible rfl | (simp [c_9, mMayRob]; done) | (simp only [c_9] <;> simp [mMayRob]; done) | (simp only [mMayRob, c_9] <;> simp [mMayRob]; done) | (simp [c_9, mMayRob, Bool.and_assoc]; done) | (simp [c_9, mMayRob, Bool.and_assoc, Bool.or_assoc]; done) | rfl | (simp [c_9, mMayRob]; omega))) locs hS ls (lv_sub hl [0, 1, 2] rfl)
  · refine lv_aload_n hx hb dX3_mayRob_9 rfl (lv_at hl 0 rfl) ?_
    refine lv_iconst (v := nI 1) hx hb dX3_mayRob_10 zi_1 ?_
    refine lv_iload_n hx hb dX3_mayRob_11 rfl (lv_at hl 1 rfl) ?_
    refine kM_isVictim S hK hM hg hS 1 a1 (by first | omega | assumption | grind) (by first | omega | assumption | grind) (Nat.le_of_ble_eq_true rfl) (Nat.le_of_ble_eq_true rfl) hl.1 (Nat.le_of_ble_eq_true rfl) dX3_mayRob_12 (Nat.zero_le _) (Nat.zero_le _) (fun locs hS => ?_)
    refine zr_if_neB (b := mVic g 1 a1) (tgt := 27) hx hb dX3_mayRob_15 (by decide) (fun c_10 => ?_) (fun c_10 => ?_)
    · refine lv_iconst (v := nI 1) hx hb dX3_mayRob_27 zi_1 ?_
      refine lv_goto (tgt := 32) hx hb dX3_mayRob_28 (by decide) ?_
      exact J_32 _ (congrArg (fun z : Bool => nI z.toNat) (show (true : Bool) = ((mVic g 0 a1) || ((mVic g 1 a1) || ((mVic g 2 a1)))) from by first | with_reducible rfl | (simp [c_9, c_10, mMayRob]; done) | (simp only [c_9, c_10] <;> simp [mMayRob]; done) | (simp only [mMayRob, c_9, c_10] <;> simp [mMayRob]; done) | (simp [c_9, c_10, mMayRob, Bool.and_assoc]; done) | (simp [c_9, c_10, mMayRob, Bool.and_assoc, Bool.or_assoc]; done) | rfl | (simp [c_9, c_10, mMayRob]; omega))) locs hS ls (lv_sub hl [0, 1, 2] rfl)
    · refine lv_aload_n hx hb dX3_mayRob_18 rfl (lv_at hl 0 rfl) ?_
      refine lv_iconst (v := nI 2) hx hb dX3_mayRob_19 zi_2 ?_
      refine lv_iload_n hx hb dX3_mayRob_20 rfl (lv_at hl 1 rfl) ?_
      refine kM_isVictim S hK hM hg hS 2 a1 (by first | omega | assumption | grind) (by first | omega | assumption | grind) (Nat.le_of_ble_eq_true rfl) (Nat.le_of_ble_eq_true rfl) hl.1 (Nat.le_of_ble_eq_true rfl) dX3_mayRob_21 (Nat.zero_le _) (Nat.zero_le _) (fun locs hS => ?_)
      refine zr_if_eqB (b := mVic g 2 a1) (tgt := 31) hx hb dX3_mayRob_24 (by decide) (fun c_11 => ?_) (fun c_11 => ?_)
      · refine lv_iconst (v := nI 0) hx hb dX3_mayRob_31 zi_0 ?_
        exact J_32 _ (congrArg (fun z : Bool => nI z.toNat) (show (false : Bool) = ((mVic g 0 a1) || ((mVic g 1 a1) || ((mVic g 2 a1)))) from by first | with_reducible rfl | (simp [c_9, c_10, c_11, mMayRob]; done) | (simp only [c_9, c_10, c_11] <;> simp [mMayRob]; done) | (simp only [mMayRob, c_9, c_10, c_11] <;> simp [mMayRob]; done) | (simp [c_9, c_10, c_11, mMayRob, Bool.and_assoc]; done) | (simp [c_9, c_10, c_11, mMayRob, Bool.and_assoc, Bool.or_assoc]; done) | rfl | (simp [c_9, c_10, c_11, mMayRob]; omega))) locs hS ls (lv_sub hl [0, 1, 2] rfl)
      · refine lv_iconst (v := nI 1) hx hb dX3_mayRob_27 zi_1 ?_
        refine lv_goto (tgt := 32) hx hb dX3_mayRob_28 (by decide) ?_
        exact J_32 _ (congrArg (fun z : Bool => nI z.toNat) (show (true : Bool) = ((mVic g 0 a1) || ((mVic g 1 a1) || ((mVic g 2 a1)))) from by first | with_reducible rfl | (simp [c_9, c_10, c_11, mMayRob]; done) | (simp only [c_9, c_10, c_11] <;> simp [mMayRob]; done) | (simp only [mMayRob, c_9, c_10, c_11] <;> simp [mMayRob]; done) | (simp [c_9, c_10, c_11, mMayRob, Bool.and_assoc]; done) | (simp [c_9, c_10, c_11, mMayRob, Bool.and_assoc, Bool.or_assoc]; done) | rfl | (simp [c_9, c_10, c_11, mMayRob]; omega))) locs hS ls (lv_sub hl [0, 1, 2] rfl)
theorem kM_mayRob {pr : Program} {l : Launch} {en : Env} {R : Room} {s : State} {m : MethodId} {args : Array Value} {below : List Frame} {meth : Method} {cd : Code} {H : Heap} {locs : List Loc} {cells slots : Nat} {Q : State → Prop} {cc : ByteArray} {pc nL : Nat} {ls : Array Slot} {rest : List Value} {D : va_G} {dA : Nat → ClassId} {A : Nat → Prop} {ad : Nat → Nat} {g : G} (S : CallFix pr m cd cc nL s args lw_all RX3) (hK : KT D dA s) (hM : MS D dA A ad g H) (hg : Sm g) (hS : va_S A s.heap H locs) (a1 : Nat) (a2 : Nat) (h1 : a1 < 7) (h2 : a2 ≤ 3) (hf : 3 + 1 ≤ R.frames) (hlo : 8 + (4 + 11) + 62 ≤ R.locals) (hsz : ls.size = nL) (hcat : (rest.map fun v => v.category).sum ≤ 8) (hdg : decode cc pc = .ok (.invokevirtual 194, 3)) (hq1 : cells ≤ R.cells) (hq2 : slots ≤ R.slots) (kk : ∀ locs1 : List Loc, va_S A s.heap H locs1 → W pr l en R s m args below meth cd H locs1 cells slots Q (F0 m (pc + 3) ls (.int (nI (mMayRob g a1 a2).toNat) :: rest))) : W pr l en R s m args below meth cd H locs cells slots Q (F0 m pc ls (.int (mI a2) :: .int (nI a1) :: .ref (ad 0) :: rest)) :=
  zc_callV (n := 2) (As := [.int (nI a1), .int (mI a2)]) (rest := rest) S (cM_mayRob l hg a1 a2 h1 h2  H hM (Post := (fun v H1 => v = some (.int (nI (mMayRob g a1 a2).toNat)) ∧ H1 = H)) ⟨rfl, rfl⟩) (lw_V q1258 q1260 qs52 q76 q1261) (by decide +kernel) ⟨hf, hlo⟩ ⟨hq1, hq2⟩ (zm_recv hK hM) KT_mv (zc_K KT_mv hK hS) hS (fun _ h => h) rfl hsz rfl hcat hdg (fun v H1 locs1 hp _ _ hS1 => by obtain ⟨rfl, rfl⟩ := hp; exact kk locs1 hS1)
set_option maxHeartbeats 1000000 in
set_option maxRecDepth 100000 in
theorem cM_asksRob (l : Launch) {D : va_G} {dA : Nat → ClassId} {A : Nat → Prop} {ad : Nat → Nat} {g : G} (hg : Sm g) (a1 : Int32) (a2 : Int32) (a3 : Int32) (H0 : Heap) (hM : MS D dA A ad g H0) {Post : Option Value → Heap → Prop} (hPost : ∀ H : Heap, MS D dA A ad (gs g 22 0 (rbCode a1 a2 a3)) H → Sm (gs g 22 0 (rbCode a1 a2 a3)) → Post (some (.int (nI (inB a1 7 && (okV a2 && inR a3 0 999)).toNat))) H) : Ct l yX3_asksRob (ws_ yX3_asksRob cX3_asksRob 4 (some .boolean)) (rmF 2 0 0 36) A (KT D dA) [.ref (ad 0), .int a1, .int a2, .int a3] H0 Post := by
  refine zc_of RX3 rfl (by decide) (Nat.le_of_ble_eq_true rfl) ?_
  intro pr en s m args below meth cd S hr hlk hnm hh hK ls hl
  have hS : va_S A s.heap H0 [] := zc_start hh
  have hg0 := hg
  have hx := S.1
  have hb := S.2.1
  have hown := S.2.2.2.1
  have hts := S.2.2.2.2
  have hl : lv_has ls 4 [(0, .ref (ad 0)), (1, .int a1), (2, .int a2), (3, .int a3)] := hl
  refine lv_aload_n hx hb dX3_asksRob_0 rfl (lv_at hl 0 rfl) ?_
  refine lv_iload_n hx hb dX3_asksRob_1 rfl (lv_at hl 1 rfl) ?_
  refine kM_isHex S hK hM hg hS a1  (Nat.le_of_ble_eq_true rfl) (Nat.le_of_ble_eq_true rfl) hl.1 (Nat.le_of_ble_eq_true rfl) dX3_asksRob_2 (Nat.zero_le _) (Nat.zero_le _) (fun locs hS => ?_)
  have J_40 : ∀ yS0_40 : Int32, yS0_40 = nI ((if (inB a1 7) = true then (if a2 = (mI 0) then (if (inR a3 0 999) = true then 0 else 2) else (if (inB a2 3) = true then (if (inR a3 0 999) = true then 0 else 2) else 1)) else 1)) → ∀ (H : Heap) (locs : List Loc), MS D dA A ad g H → va_S A s.heap H locs → ∀ ls : Array Slot, lv_has ls 4 [(0, .ref (ad 0))] → W pr l en (rmF 2 0 0 36) s m args below meth cd H locs 0 0 (MQ below (zc_Q Post A) args s 0 0 A) (F0 m 40 ls [.int yS0_40, .ref (ad 0)]) := by
    intro yS0_40 eyS0_40 H locs hM hS ls hl
    subst eyS0_40
    refine pM_thrown S hK hM hS ((if (inB a1 7) = true then (if a2 = (mI 0) then (if (inR a3 0 999) = true then 0 else 2) else (if (inB a2 3) = true then (if (inR a3 0 999) = true then 0 else 2) else 1)) else 1)) dX3_asksRob_40 (fun H locs hM hS => ?_)
    have hg : Sm (gs g 22 0 ((if (inB a1 7) = true then (if a2 = (mI 0) then (if (inR a3 0 999) = true then 0 else 2) else (if (inB a2 3) = true then (if (inR a3 0 999) = true then 0 else 2) else 1)) else 1))) := Sm_gs hg (by first | omega | exact Nat.lt_of_le_of_lt (Bool.toNat_le _) (by decide) | ((repeat' split) <;> omega))
    refine lv_aload_n hx hb dX3_asksRob_43 rfl (lv_at hl 0 rfl) ?_
    refine gM_thrown S hK hM ((if (inB a1 7) = true then (if a2 = (mI 0) then (if (inR a3 0 999) = true then 0 else 2) else (if (inB a2 3) = true then (if (inR a3 0 999) = true then 0 else 2) else 1)) else 1)) (by first | rfl | simp [gs]) dX3_asksRob_44 ?_
    have hb_6 : (if (inB a1 7) = true then (if a2 = (mI 0) then (if (inR a3 0 999) = true then 0 else 2) else (if (inB a2 3) = true then (if (inR a3 0 999) = true then 0 else 2) else 1)) else 1) < 1048576 := by first | exact hg 22 0 | exact hg0 _ _ | (have := hg 22 0; omega) | omega
    refine zr_if_neN (a := ((if (inB a1 7) = true then (if a2 = (mI 0) then (if (inR a3 0 999) = true then 0 else 2) else (if (inB a2 3) = true then (if (inR a3 0 999) = true then 0 else 2) else 1)) else 1))) (tgt := 54) hx hb (by omega) dX3_asksRob_47 (by decide) (fun c_7 => ?_) (fun c_7 => ?_)
    · refine lv_iconst (v := nI 0) hx hb dX3_asksRob_54 zi_0 ?_
      rw [show (gs g 22 0 ((if (inB a1 7) = true then (if a2 = (mI 0) then (if (inR a3 0 999) = true then 0 else 2) else (if (inB a2 3) = true then (if (inR a3 0 999) = true then 0 else 2) else 1)) else 1)) : G) = gs g 22 0 (rbCode a1 a2 a3) from by (congr 1; simp only [rbCode, okV, Bool.or_eq_true, decide_eq_true_eq]; by_cases q1 : inB a1 7 = true <;> by_cases q2 : a2 = mI 0 <;> by_cases q3 : inB a2 3 = true <;> by_cases q4 : inR a3 0 999 = true <;> simp [q1, q2, q3, q4])] at hM hg
      exact zc_bret (inB a1 7 && (okV a2 && inR a3 0 999)) (congrArg (fun z : Bool => nI z.toNat) (show (false : Bool) = (inB a1 7 && (okV a2 && inR a3 0 999)) from by (simp only [okV]; by_cases q1 : inB a1 7 = true <;> by_cases q2 : a2 = mI 0 <;> by_cases q3 : inB a2 3 = true <;> by_cases q4 : inR a3 0 999 = true <;> simp_all))) (hPost H hM hg) hS hx hb hr hlk (Nat.zero_le _) (Nat.zero_le _) dX3_asksRob_55
    · refine lv_iconst (v := nI 1) hx hb dX3_asksRob_50 zi_1 ?_
      refine lv_goto (tgt := 55) hx hb dX3_asksRob_51 (by decide) ?_
      rw [show (gs g 22 0 ((if (inB a1 7) = true then (if a2 = (mI 0) then (if (inR a3 0 999) = true then 0 else 2) else (if (inB a2 3) = true then (if (inR a3 0 999) = true then 0 else 2) else 1)) else 1)) : G) = gs g 22 0 (rbCode a1 a2 a3) from by (congr 1; simp only [rbCode, okV, Bool.or_eq_true, decide_eq_true_eq]; by_cases q1 : inB a1 7 = true <;> by_cases q2 : a2 = mI 0 <;> by_cases q3 : inB a2 3 = true <;> by_cases q4 : inR a3 0 999 = true <;> simp [q1, q2, q3, q4])] at hM hg
      exact zc_bret (inB a1 7 && (okV a2 && inR a3 0 999)) (congrArg (fun z : Bool => nI z.toNat) (show (true : Bool) = (inB a1 7 && (okV a2 && inR a3 0 999)) from by (simp only [okV]; by_cases q1 : inB a1 7 = true <;> by_cases q2 : a2 = mI 0 <;> by_cases q3 : inB a2 3 = true <;> by_cases q4 : inR a3 0 999 = true <;> simp_all))) (hPost H hM hg) hS hx hb hr hlk (Nat.zero_le _) (Nat.zero_le _) dX3_asksRob_55
  refine zr_if_eqB (b := inB a1 7) (tgt := 20) hx hb dX3_asksRob_5 (by decide) (fun c_8 => ?_) (fun c_8 => ?_)
  · refine lv_iconst (v := nI 1) hx hb dX3_asksRob_20 zi_1 ?_
    refine lv_goto (tgt := 40) hx hb dX3_asksRob_21 (by decide) ?_
    exact J_40 _ (congrArg nI (show (1 : Nat) = ((if (inB a1 7) = true then (if a2 = (mI 0) then (if (inR a3 0 999) = true then 0 else 2) else (if (inB a2 3) = true then (if (inR a3 0 999) = true then 0 else 2) else 1)) else 1)) from by first | with_reducible rfl | (simp [c_8, rbCode, okV]; done) | (simp only [c_8] <;> simp [rbCode, okV]; done) | (simp only [rbCode, okV, c_8] <;> simp [rbCode, okV]; done) | (simp [c_8, rbCode, okV, Bool.and_assoc]; done) | (simp [c_8, rbCode, okV, Bool.and_assoc, Bool.or_assoc]; done) | rfl | (simp [c_8, rbCode, okV]; omega) | grind [rbCode, okV])) H0 locs hM hS ls (lv_sub hl [0] rfl)
  · obtain ⟨hj1, ea1⟩ := inB_tn (by decide) c_8
    rw [ea1] at hl
    refine lv_iload_n hx hb dX3_asksRob_8 rfl (lv_at hl 2 rfl) ?_
    refine lv_iconst (v := mI 0) hx hb dX3_asksRob_9 zi_m1 ?_
    have J_24 : ((a2 = (mI 0)) ∨ ((inB a2 3) = true)) → ∀ (H : Heap) (locs : List Loc), MS D dA A ad g H → va_S A s.heap H locs → ∀ ls : Array Slot, lv_has ls 4 [(0, .ref (ad 0)), (3, .int a3)] → W pr l en (rmF 2 0 0 36) s m args below meth cd H locs 0 0 (MQ below (zc_Q Post A) args s 0 0 A) (F0 m 24 ls [.ref (ad 0)]) := by
      intro cJ_24 H locs hM hS ls hl
      refine lv_iload_n hx hb dX3_asksRob_24 rfl (lv_at hl 1 rfl) ?_
      refine lv_iconst (v := nI 0) hx hb dX3_asksRob_25 zi_0 ?_
      refine lv_sipush (v := nI 999) hx hb dX3_asksRob_26 zs_999 ?_
      refine kM_in S hK hM hg hS a3 0 999  (Nat.le_of_ble_eq_true rfl) (Nat.le_of_ble_eq_true rfl) hl.1 (Nat.le_of_ble_eq_true rfl) dX3_asksRob_29 (Nat.zero_le _) (Nat.zero_le _) (fun locs hS => ?_)
      refine zr_if_neB (b := inR a3 0 999) (tgt := 39) hx hb dX3_asksRob_32 (by decide) (fun c_13 => ?_) (fun c_13 => ?_)
      · obtain ⟨lj3, hj3, ea3⟩ := inR_tn (by decide) (by decide) c_13
        rw [ea3] at hl
        refine lv_iconst (v := nI 0) hx hb dX3_asksRob_39 zi_0 ?_
        rw [← ea3] at hl
        exact J_40 _ (congrArg nI (show (0 : Nat) = ((if (inB a1 7) = true then (if a2 = (mI 0) then (if (inR a3 0 999) = true then 0 else 2) else (if (inB a2 3) = true then (if (inR a3 0 999) = true then 0 else 2) else 1)) else 1)) from by first | with_reducible rfl | (simp [c_8, cJ_24, c_13, rbCode, okV]; done) | (simp only [c_8, cJ_24, c_13] <;> simp [rbCode, okV]; done) | (simp only [rbCode, okV, c_8, cJ_24, c_13] <;> simp [rbCode, okV]; done) | (simp [c_8, cJ_24, c_13, rbCode, okV, Bool.and_assoc]; done) | (simp [c_8, cJ_24, c_13, rbCode, okV, Bool.and_assoc, Bool.or_assoc]; done) | rfl | (simp [c_8, cJ_24, c_13, rbCode, okV]; omega) | grind [rbCode, okV])) H locs hM hS ls (lv_sub hl [0] rfl)
      · refine lv_iconst (v := nI 2) hx hb dX3_asksRob_35 zi_2 ?_
        refine lv_goto (tgt := 40) hx hb dX3_asksRob_36 (by decide) ?_
        exact J_40 _ (congrArg nI (show (2 : Nat) = ((if (inB a1 7) = true then (if a2 = (mI 0) then (if (inR a3 0 999) = true then 0 else 2) else (if (inB a2 3) = true then (if (inR a3 0 999) = true then 0 else 2) else 1)) else 1)) from by first | with_reducible rfl | (simp [c_8, cJ_24, c_13, rbCode, okV]; done) | (simp only [c_8, cJ_24, c_13] <;> simp [rbCode, okV]; done) | (simp only [rbCode, okV, c_8, cJ_24, c_13] <;> simp [rbCode, okV]; done) | (simp [c_8, cJ_24, c_13, rbCode, okV, Bool.and_assoc]; done) | (simp [c_8, cJ_24, c_13, rbCode, okV, Bool.and_assoc, Bool.or_assoc]; done) | rfl | (simp [c_8, cJ_24, c_13, rbCode, okV]; omega) | grind [rbCode, okV])) H locs hM hS ls (lv_sub hl [0] rfl)
    refine lv_icmp_eq (tgt := 24) hx hb dX3_asksRob_10 (by decide) (fun c_14 => ?_) (fun c_14 => ?_)
    · exact J_24 (by first | assumption | omega | (simp [c_8, c_14, rbCode, okV]; done) | (simp [c_8, c_14, rbCode, okV]; omega) | grind) H0 locs hM hS ls (lv_sub hl [0, 3] rfl)
    · refine lv_iload_n hx hb dX3_asksRob_13 rfl (lv_at hl 2 rfl) ?_
      refine kM_isPlayer S hK hM hg hS a2  (Nat.le_of_ble_eq_true rfl) (Nat.le_of_ble_eq_true rfl) hl.1 (Nat.le_of_ble_eq_true rfl) dX3_asksRob_14 (Nat.zero_le _) (Nat.zero_le _) (fun locs hS => ?_)
      refine zr_if_neB (b := inB a2 3) (tgt := 24) hx hb dX3_asksRob_17 (by decide) (fun c_15 => ?_) (fun c_15 => ?_)
      · obtain ⟨hj2, ea2⟩ := inB_tn (by decide) c_15
        rw [ea2] at hl
        rw [← ea2] at hl
        exact J_24 (by first | assumption | omega | (simp [c_8, c_14, c_15, rbCode, okV]; done) | (simp [c_8, c_14, c_15, rbCode, okV]; omega) | grind) H0 locs hM hS ls (lv_sub hl [0, 3] rfl)
      · refine lv_iconst (v := nI 1) hx hb dX3_asksRob_20 zi_1 ?_
        refine lv_goto (tgt := 40) hx hb dX3_asksRob_21 (by decide) ?_
        rw [← ea1] at hl
        exact J_40 _ (congrArg nI (show (1 : Nat) = ((if (inB a1 7) = true then (if a2 = (mI 0) then (if (inR a3 0 999) = true then 0 else 2) else (if (inB a2 3) = true then (if (inR a3 0 999) = true then 0 else 2) else 1)) else 1)) from by first | with_reducible rfl | (simp [c_8, c_14, c_15, rbCode, okV]; done) | (simp only [c_8, c_14, c_15] <;> simp [rbCode, okV]; done) | (simp only [rbCode, okV, c_8, c_14, c_15] <;> simp [rbCode, okV]; done) | (simp [c_8, c_14, c_15, rbCode, okV, Bool.and_assoc]; done) | (simp [c_8, c_14, c_15, rbCode, okV, Bool.and_assoc, Bool.or_assoc]; done) | rfl | (simp [c_8, c_14, c_15, rbCode, okV]; omega) | grind [rbCode, okV])) H0 locs hM hS ls (lv_sub hl [0] rfl)
theorem kM_asksRob {pr : Program} {l : Launch} {en : Env} {R : Room} {s : State} {m : MethodId} {args : Array Value} {below : List Frame} {meth : Method} {cd : Code} {H : Heap} {locs : List Loc} {cells slots : Nat} {Q : State → Prop} {cc : ByteArray} {pc nL : Nat} {ls : Array Slot} {rest : List Value} {D : va_G} {dA : Nat → ClassId} {A : Nat → Prop} {ad : Nat → Nat} {g : G} (S : CallFix pr m cd cc nL s args lw_all RX3) (hK : KT D dA s) (hM : MS D dA A ad g H) (hg : Sm g) (hS : va_S A s.heap H locs) (a1 : Int32) (a2 : Int32) (a3 : Int32) (hf : 2 + 1 ≤ R.frames) (hlo : 8 + (4 + 11) + 36 ≤ R.locals) (hsz : ls.size = nL) (hcat : (rest.map fun v => v.category).sum ≤ 8) (hdg : decode cc pc = .ok (.invokevirtual 191, 3)) (hq1 : cells ≤ R.cells) (hq2 : slots ≤ R.slots) (kk : ∀ (H1 : Heap) (locs1 : List Loc), MS D dA A ad (gs g 22 0 (rbCode a1 a2 a3)) H1 → Sm (gs g 22 0 (rbCode a1 a2 a3)) → va_S A s.heap H1 locs1 → W pr l en R s m args below meth cd H1 locs1 cells slots Q (F0 m (pc + 3) ls (.int (nI (inB a1 7 && (okV a2 && inR a3 0 999)).toNat) :: rest))) : W pr l en R s m args below meth cd H locs cells slots Q (F0 m pc ls (.int a3 :: .int a2 :: .int a1 :: .ref (ad 0) :: rest)) :=
  zc_callV (n := 3) (As := [.int a1, .int a2, .int a3]) (rest := rest) S (cM_asksRob l hg a1 a2 a3  H hM (Post := (fun v H1 => v = some (.int (nI (inB a1 7 && (okV a2 && inR a3 0 999)).toNat)) ∧ MS D dA A ad (gs g 22 0 (rbCode a1 a2 a3)) H1 ∧ Sm (gs g 22 0 (rbCode a1 a2 a3)))) (fun H1 h h2 => ⟨rfl, h, h2⟩)) (lw_V q1254 q1256 qs51 q76 q1257) (by decide +kernel) ⟨hf, hlo⟩ ⟨hq1, hq2⟩ (zm_recv hK hM) KT_mv (zc_K KT_mv hK hS) hS (fun _ h => h) rfl hsz rfl hcat hdg (fun v H1 locs1 hp _ _ hS1 => by obtain ⟨rfl, hM1, hg1⟩ := hp; exact kk H1 locs1 hM1 hg1 hS1)
