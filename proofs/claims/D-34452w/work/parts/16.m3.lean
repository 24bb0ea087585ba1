/-! THE MODEL: the best trail, holders, points (printed by gen/m3.py) -/
theorem anyN_congr {n : Nat} {f h : Nat → Bool} (e : ∀ i, i < n → f i = h i) : anyN n f = anyN n h := by
  induction n with
  | zero => rfl
  | succ n ih =>
    show (anyN n f || f n) = (anyN n h || h n)
    rw [ih (fun i hi => e i (Nat.lt_succ_of_lt hi)), e n (Nat.lt_succ_self n)]
theorem allN_congr {n : Nat} {f h : Nat → Bool} (e : ∀ i, i < n → f i = h i) : allN n f = allN n h := by
  induction n with
  | zero => rfl
  | succ n ih =>
    show (allN n f && f n) = (allN n h && h n)
    rw [ih (fun i hi => e i (Nat.lt_succ_of_lt hi)), e n (Nat.lt_succ_self n)]
theorem itN_congr {α : Type} {n : Nat} {f h : Nat → α → α} {a b : α} (hab : a = b) (e : ∀ i x, i < n → f i x = h i x) : itN n f a = itN n h b := by
  subst hab
  induction n with
  | zero => rfl
  | succ n ih =>
    show f n (itN n f a) = h n (itN n h a)
    rw [ih (fun i x hi => e i x (Nat.lt_succ_of_lt hi)), e n _ (Nat.lt_succ_self n)]
/-- two states with the same board, and the same roads written down -/
def sameB (g g' : G) : Prop := (∀ j, g' 2 j = g 2 j) ∧ ∀ j, g' 3 j = g 3 j
theorem own1_cg {g g' : G} (h : sameB g g') (c : Nat) : own1 g' c = own1 g c := by unfold own1; rw [h.1]
theorem goes_cg {g g' : G} (h : sameB g g') (p c : Nat) : goes g' p c = goes g p c := by unfold goes; rw [own1_cg h]
theorem mMeet_cg {g g' : G} (h : sameB g g') (p e f : Nat) : mMeet g' p e f = mMeet g p e f := by unfold mMeet; rw [goes_cg h, goes_cg h]
theorem barN_cg {g g' : G} (h : sameB g g') (p c : Nat) : barN g' p c = barN g p c := by unfold barN; rw [own1_cg h]
theorem roadsN_cg {g g' : G} (h : sameB g g') (p i : Nat) : roadsN g' p i = roadsN g p i := by
  refine eu_sm_congr (fun e _ => ?_)
  rw [h.2]
theorem gO_eq {g g' : G} (h : sameB g g') (p : Nat) : ∀ i k, k < roadsN g p i → gO g' p i 20 k = gO g p i 20 k := by
  intro i
  induction i with
  | zero => intro k hk; exact absurd hk (Nat.not_lt_zero _)
  | succ i ih =>
    intro k hk
    rw [roadsN_succ] at hk
    show (if g' 3 i = p + 1 then gs (gO g' p i) 20 (roadsN g' p i) i else gO g' p i) 20 k = (if g 3 i = p + 1 then gs (gO g p i) 20 (roadsN g p i) i else gO g p i) 20 k
    rw [h.2, roadsN_cg h]
    split
    · rename_i q
      by_cases hkk : k = roadsN g p i
      · subst hkk; rw [gs_eq, gs_eq]
      · rw [gs_ni _ hkk, gs_ni _ hkk]
        refine ih k ?_
        simp [q] at hk; omega
    · rename_i q
      refine ih k ?_
      simp [q] at hk; exact hk
theorem sameB_gO {g : G} {p i : Nat} : sameB g (gO g p i) := ⟨fun j => gO_nf g p (by decide) i j, fun j => gO_nf g p (by decide) i j⟩
theorem sameB.trans {a b c : G} (h1 : sameB a b) (h2 : sameB b c) : sameB a c := ⟨fun j => (h2.1 j).trans (h1.1 j), fun j => (h2.2 j).trans (h1.2 j)⟩
theorem sameB.symm {a b : G} (h : sameB a b) : sameB b a := ⟨fun j => (h.1 j).symm, fun j => (h.2 j).symm⟩
theorem rdsN_cg {g g' : G} {m : Nat} (ho : ∀ k, k < m → g' 20 k = g 20 k) (set c : Nat) : rdsN g' set m c = rdsN g set m c := by
  refine eu_sm_congr (fun k hk => ?_)
  rw [ho k hk]
theorem endsN_cg {g g' : G} (h : sameB g g') {m : Nat} (ho : ∀ k, k < m → g' 20 k = g 20 k) (p set i : Nat) : endsN g' p set m i = endsN g p set m i := by
  refine eu_sm_congr (fun c _ => ?_)
  rw [barN_cg h, rdsN_cg ho]
theorem sprN_cg {g g' : G} (h : sameB g g') {m : Nat} (ho : ∀ k, k < m → g' 20 k = g 20 k) (p set : Nat) : sprN g' p set m = sprN g p set m := by
  refine itN_congr rfl (fun i r _ => ?_)
  refine itN_congr rfl (fun k r hk => ?_)
  have hm : 0 < m := by
    rcases Nat.eq_zero_or_pos m with q | q
    · subst q; omega
    · exact q
  unfold stpN
  rw [ho _ (Nat.div_lt_of_lt_mul hk), ho _ (Nat.mod_lt _ hm), mMeet_cg h]
theorem bestN_cg {g g' : G} (h : sameB g g') {m : Nat} (ho : ∀ k, k < m → g' 20 k = g 20 k) (p : Nat) : ∀ s, bestN g' p m s = bestN g p m s := by
  intro s
  induction s with
  | zero => rfl
  | succ s ih =>
    show (if (decide (bestN g' p m s < onesN s 8) && (!decide (2 < endsN g' p s m 24) && decide (sprN g' p s m = s))) = true then onesN s 8 else bestN g' p m s) = (if (decide (bestN g p m s < onesN s 8) && (!decide (2 < endsN g p s m 24) && decide (sprN g p s m = s))) = true then onesN s 8 else bestN g p m s)
    rw [ih, endsN_cg h ho, sprN_cg h ho]
theorem trailN_cg {g g' : G} (h : sameB g g') (p : Nat) : trailN g' p = trailN g p := by
  unfold trailN
  rw [roadsN_cg h]
  exact bestN_cg (sameB_gO.symm.trans (h.trans sameB_gO)) (fun k hk => gO_eq h p 30 k hk) p _
/-- the states behind calls of trailOf for the players one by one -/
def gL (g : G) (i : Nat) : G := itN i (fun z y => gO y z 30) g
theorem sameB_gL (g : G) : ∀ i, sameB g (gL g i) := by
  intro i
  induction i with
  | zero => exact ⟨fun _ => rfl, fun _ => rfl⟩
  | succ i ih => exact ih.trans sameB_gO
theorem gL_nf (g : G) {f : Nat} (hf : f ≠ 20) : ∀ i j, gL g i f j = g f j := by
  intro i
  induction i with
  | zero => intro j; rfl
  | succ i ih => intro j; exact (gO_nf _ _ hf _ _).trans (ih j)
theorem trailN_gL (g : G) (i p : Nat) : trailN (gL g i) p = trailN g p := trailN_cg (sameB_gL g i) p
theorem trailN_gL2 (g : G) (i k p : Nat) : trailN (gL (gL g k) i) p = trailN g p := (trailN_gL _ _ _).trans (trailN_gL _ _ _)
theorem roadsN_gL (g : G) (i p j : Nat) : roadsN (gL g i) p j = roadsN g p j := roadsN_cg (sameB_gL g i) p j
theorem gO_yes {g : G} {p i : Nat} (h : g 3 i = p + 1) : gs (gO g p i) 20 (roadsN g p i) i = gO g p (i + 1) := by
  show _ = (if g 3 i = p + 1 then gs (gO g p i) 20 (roadsN g p i) i else gO g p i)
  rw [if_pos h]
theorem gO_no {g : G} {p i : Nat} (h : ¬ g 3 i = p + 1) : gO g p i = gO g p (i + 1) := by
  show _ = (if g 3 i = p + 1 then gs (gO g p i) 20 (roadsN g p i) i else gO g p i)
  rw [if_neg h]
theorem roads_yes {g : G} {p i : Nat} (h : g 3 i = p + 1) : roadsN g p i + 1 = roadsN g p (i + 1) := by rw [roadsN_succ, h]; simp
theorem roads_no {g : G} {p i : Nat} (h : ¬ g 3 i = p + 1) : roadsN g p i = roadsN g p (i + 1) := by rw [roadsN_succ]; simp [h]
theorem best_succ (g : G) (p m s : Nat) : bestN g p m (s + 1) = if (decide (bestN g p m s < onesN s 8) && (!decide (2 < endsN g p s m 24) && decide (sprN g p s m = s))) = true then onesN s 8 else bestN g p m s := rfl
/-- the longest trail's length among the first players -/
def mxN (g : G) : Nat → Nat
  | 0 => 0
  | i + 1 => if mxN g i < trailN g i then trailN g i else mxN g i
theorem mxN_le (g : G) : ∀ i, mxN g i ≤ 8 := by
  intro i
  induction i with
  | zero => exact Nat.zero_le _
  | succ i ih =>
    show (if _ then _ else _) ≤ 8
    split
    · exact trailN_le _ _
    · exact ih
def isMx (g : G) (i : Nat) : Bool := decide (trailN g i = mxN g 3)
def cntMx (g : G) (i : Nat) : Nat := eu_sm i (fun p => (isMx g p).toNat)
theorem cntMx_le (g : G) (i : Nat) : cntMx g i ≤ i := sm_b _ _
def lastMx (g : G) : Nat → Nat
  | 0 => 0
  | i + 1 => if isMx g i = true then i + 1 else lastMx g i
theorem lastMx_le (g : G) : ∀ i, lastMx g i ≤ i := by
  intro i
  induction i with
  | zero => exact Nat.zero_le _
  | succ i ih =>
    show (if isMx g i = true then i + 1 else lastMx g i) ≤ i + 1
    split
    · exact Nat.le_refl _
    · exact Nat.le_succ_of_le ih
def stayMx (g : G) (i : Nat) : Bool := anyN i (fun p => isMx g p && decide (p + 1 = g 7 7))
def holdN (g : G) : Nat := if mxN g 3 < 5 then 0 else if stayMx g 3 = true then g 7 7 else if cntMx g 3 = 1 then lastMx g 3 else 0
def gTr (g : G) : G := gs (gL (gL g 3) 3) 7 7 (holdN g)
def mPts (g : G) (p : Nat) : Nat := mBuilds g p false 24 + 2 * mBuilds g p true 24 + g 24 (5 * p + 4) + (if g 7 7 = p + 1 then 2 else 0) + (if g 7 8 = p + 1 then 2 else 0)
theorem mPts_lt {g : G} (hg : Sm g) (p : Nat) : mPts g p < 1048700 := by
  have h1 : mBuilds g p false 24 ≤ 24 := sm_b _ _
  have h2 : mBuilds g p true 24 ≤ 24 := sm_b _ _
  have h3 := hg 24 (5 * p + 4)
  unfold mPts
  split <;> split <;> omega
def gWin (g : G) : G := gs g 7 1 (if g 7 1 = 0 then g 7 1 else if mPts g (g 7 4) < 8 then g 7 1 else 5)
set_option maxHeartbeats 1000000 in
set_option maxRecDepth 100000 in
theorem cM_fails (l : Launch) {D : va_G} {dA : Nat → ClassId} {A : Nat → Prop} {ad : Nat → Nat} {g : G} (hg : Sm g) (a1 : Nat) (h1 : a1 < 1048576) (H0 : Heap) (hM : MS D dA A ad g H0) {Post : Option Value → Heap → Prop} (hPost : ∀ H : Heap, MS D dA A ad (gs g 22 0 a1) H → Sm (gs g 22 0 a1) → Post (some (.int (nI 0))) H) : Ct l yX3_fails (ws_ yX3_fails cX3_fails 2 (some .int)) (rmF 1 0 0 13) A (KT D dA) [.ref (ad 0), .int (nI a1)] H0 Post := by
  refine zc_of RX3 rfl (by decide) (Nat.le_of_ble_eq_true rfl) ?_
  intro pr en s m args below meth cd S hr hlk hnm hh hK ls hl
  have hS : va_S A s.heap H0 [] := zc_start hh
  have hg0 := hg
  have hx := S.1
  have hb := S.2.1
  have hown := S.2.2.2.1
  have hts := S.2.2.2.2
  have hl : lv_has ls 2 [(0, .ref (ad 0)), (1, .int (nI a1))] := hl
  refine lv_aload_n hx hb dX3_fails_0 rfl (lv_at hl 0 rfl) ?_
  refine lv_iload_n hx hb dX3_fails_1 rfl (lv_at hl 1 rfl) ?_
  refine pM_thrown S hK hM hS a1 dX3_fails_2 (fun H locs hM hS => ?_)
  have hg : Sm (gs g 22 0 a1) := Sm_gs hg (by first | omega | exact Nat.lt_of_le_of_lt (Bool.toNat_le _) (by decide) | ((repeat' split) <;> omega))
  refine lv_iconst (v := nI 0) hx hb dX3_fails_5 zi_0 ?_
  exact zc_nret (nI 0) rfl (hPost H hM hg) hS hx hb hr hlk (Nat.zero_le _) (Nat.zero_le _) dX3_fails_6
theorem kM_fails {pr : Program} {l : Launch} {en : Env} {R : Room} {s : State} {m : MethodId} {args : Array Value} {below : List Frame} {meth : Method} {cd : Code} {H : Heap} {locs : List Loc} {cells slots : Nat} {Q : State → Prop} {cc : ByteArray} {pc nL : Nat} {ls : Array Slot} {rest : List Value} {D : va_G} {dA : Nat → ClassId} {A : Nat → Prop} {ad : Nat → Nat} {g : G} (S : CallFix pr m cd cc nL s args lw_all RX3) (hK : KT D dA s) (hM : MS D dA A ad g H) (hg : Sm g) (hS : va_S A s.heap H locs) (a1 : Nat) (h1 : a1 < 1048576) (hf : 1 + 1 ≤ R.frames) (hlo : 8 + (2 + 11) + 13 ≤ R.locals) (hsz : ls.size = nL) (hcat : (rest.map fun v => v.category).sum ≤ 8) (hdg : decode cc pc = .ok (.invokevirtual 149, 3)) (hq1 : cells ≤ R.cells) (hq2 : slots ≤ R.slots) (kk : ∀ (H1 : Heap) (locs1 : List Loc), MS D dA A ad (gs g 22 0 a1) H1 → Sm (gs g 22 0 a1) → va_S A s.heap H1 locs1 → W pr l en R s m args below meth cd H1 locs1 cells slots Q (F0 m (pc + 3) ls (.int (nI 0) :: rest))) : W pr l en R s m args below meth cd H locs cells slots Q (F0 m pc ls (.int (nI a1) :: .ref (ad 0) :: rest)) :=
  zc_callV (n := 1) (As := [.int (nI a1)]) (rest := rest) S (cM_fails l hg a1 h1  H hM (Post := (fun v H1 => v = some (.int (nI 0)) ∧ MS D dA A ad (gs g 22 0 a1) H1 ∧ Sm (gs g 22 0 a1))) (fun H1 h h2 => ⟨rfl, h, h2⟩)) (lw_V q1167 q1169 qs38 q76 q1170) (by decide +kernel) ⟨hf, hlo⟩ ⟨hq1, hq2⟩ (zm_recv hK hM) KT_mv (zc_K KT_mv hK hS) hS (fun _ h => h) rfl hsz rfl hcat hdg (fun v H1 locs1 hp _ _ hS1 => by obtain ⟨rfl, hM1, hg1⟩ := hp; exact kk H1 locs1 hM1 hg1 hS1)
set_option maxHeartbeats 1000000 in
set_option maxRecDepth 100000 in
theorem cM_asks (l : Launch) {D : va_G} {dA : Nat → ClassId} {A : Nat → Prop} {ad : Nat → Nat} {g : G} (hg : Sm g) (a1 : Bool) (H0 : Heap) (hM : MS D dA A ad g H0) {Post : Option Value → Heap → Prop} (hPost : ∀ H : Heap, MS D dA A ad (gs g 22 0 (!a1).toNat) H → Sm (gs g 22 0 (!a1).toNat) → Post (some (.int (nI (a1).toNat))) H) : Ct l yX3_asks (ws_ yX3_asks cX3_asks 2 (some .boolean)) (rmF 1 0 0 13) A (KT D dA) [.ref (ad 0), .int (nI (a1).toNat)] H0 Post := by
  refine zc_of RX3 rfl (by decide) (Nat.le_of_ble_eq_true rfl) ?_
  intro pr en s m args below meth cd S hr hlk hnm hh hK ls hl
  have hS : va_S A s.heap H0 [] := zc_start hh
  have hg0 := hg
  have hx := S.1
  have hb := S.2.1
  have hown := S.2.2.2.1
  have hts := S.2.2.2.2
  have hl : lv_has ls 2 [(0, .ref (ad 0)), (1, .int (nI (a1).toNat))] := hl
  refine lv_aload_n hx hb dX3_asks_0 rfl (lv_at hl 0 rfl) ?_
  refine lv_iload_n hx hb dX3_asks_1 rfl (lv_at hl 1 rfl) ?_
  refine zr_if_eqB (b := a1) (tgt := 9) hx hb dX3_asks_2 (by decide) (fun c_1 => ?_) (fun c_1 => ?_)
  · refine lv_iconst (v := nI 1) hx hb dX3_asks_9 zi_1 ?_
    refine pM_thrown S hK hM hS 1 dX3_asks_10 (fun H locs hM hS => ?_)
    have hg : Sm (gs g 22 0 1) := Sm_gs hg (by first | omega | exact Nat.lt_of_le_of_lt (Bool.toNat_le _) (by decide) | ((repeat' split) <;> omega))
    refine lv_iload_n hx hb dX3_asks_13 rfl (lv_at hl 1 rfl) ?_
    rw [show (gs g 22 0 1 : G) = gs g 22 0 (!a1).toNat from by first | with_reducible rfl | (simp [c_1]; done) | (simp only [c_1] <;> simp []; done) | (simp [c_1, Bool.and_assoc]; done) | (simp [c_1, Bool.and_assoc, Bool.or_assoc]; done) | rfl | (simp [c_1]; omega)] at hM hg
    exact zc_bret (a1) rfl (hPost H hM hg) hS hx hb hr hlk (Nat.zero_le _) (Nat.zero_le _) dX3_asks_14
  · refine lv_iconst (v := nI 0) hx hb dX3_asks_5 zi_0 ?_
    refine lv_goto (tgt := 10) hx hb dX3_asks_6 (by decide) ?_
    refine pM_thrown S hK hM hS 0 dX3_asks_10 (fun H locs hM hS => ?_)
    have hg : Sm (gs g 22 0 0) := Sm_gs hg (by first | omega | exact Nat.lt_of_le_of_lt (Bool.toNat_le _) (by decide) | ((repeat' split) <;> omega))
    refine lv_iload_n hx hb dX3_asks_13 rfl (lv_at hl 1 rfl) ?_
    rw [show (gs g 22 0 0 : G) = gs g 22 0 (!a1).toNat from by first | with_reducible rfl | (simp [c_1]; done) | (simp only [c_1] <;> simp []; done) | (simp [c_1, Bool.and_assoc]; done) | (simp [c_1, Bool.and_assoc, Bool.or_assoc]; done) | rfl | (simp [c_1]; omega)] at hM hg
    exact zc_bret (a1) rfl (hPost H hM hg) hS hx hb hr hlk (Nat.zero_le _) (Nat.zero_le _) dX3_asks_14
theorem kM_asks {pr : Program} {l : Launch} {en : Env} {R : Room} {s : State} {m : MethodId} {args : Array Value} {below : List Frame} {meth : Method} {cd : Code} {H : Heap} {locs : List Loc} {cells slots : Nat} {Q : State → Prop} {cc : ByteArray} {pc nL : Nat} {ls : Array Slot} {rest : List Value} {D : va_G} {dA : Nat → ClassId} {A : Nat → Prop} {ad : Nat → Nat} {g : G} (S : CallFix pr m cd cc nL s args lw_all RX3) (hK : KT D dA s) (hM : MS D dA A ad g H) (hg : Sm g) (hS : va_S A s.heap H locs) (a1 : Bool) (hf : 1 + 1 ≤ R.frames) (hlo : 8 + (2 + 11) + 13 ≤ R.locals) (hsz : ls.size = nL) (hcat : (rest.map fun v => v.category).sum ≤ 8) (hdg : decode cc pc = .ok (.invokevirtual 127, 3)) (hq1 : cells ≤ R.cells) (hq2 : slots ≤ R.slots) (kk : ∀ (H1 : Heap) (locs1 : List Loc), MS D dA A ad (gs g 22 0 (!a1).toNat) H1 → Sm (gs g 22 0 (!a1).toNat) → va_S A s.heap H1 locs1 → W pr l en R s m args below meth cd H1 locs1 cells slots Q (F0 m (pc + 3) ls (.int (nI (a1).toNat) :: rest))) : W pr l en R s m args below meth cd H locs cells slots Q (F0 m pc ls (.int (nI (a1).toNat) :: .ref (ad 0) :: rest)) :=
  zc_callV (n := 1) (As := [.int (nI (a1).toNat)]) (rest := rest) S (cM_asks l hg a1  H hM (Post := (fun v H1 => v = some (.int (nI (a1).toNat)) ∧ MS D dA A ad (gs g 22 0 (!a1).toNat) H1 ∧ Sm (gs g 22 0 (!a1).toNat))) (fun H1 h h2 => ⟨rfl, h, h2⟩)) (lw_V q1137 q1139 qs36 q76 q1140) (by decide +kernel) ⟨hf, hlo⟩ ⟨hq1, hq2⟩ (zm_recv hK hM) KT_mv (zc_K KT_mv hK hS) hS (fun _ h => h) rfl hsz rfl hcat hdg (fun v H1 locs1 hp _ _ hS1 => by obtain ⟨rfl, hM1, hg1⟩ := hp; exact kk H1 locs1 hM1 hg1 hS1)
set_option maxHeartbeats 1000000 in
set_option maxRecDepth 100000 in
theorem cM_trailOf (l : Launch) {D : va_G} {dA : Nat → ClassId} {A : Nat → Prop} {ad : Nat → Nat} {g : G} (hg : Sm g) (a1 : Nat) (h1 : a1 < 3) (h2 : roadsN g a1 30 ≤ 8) (H0 : Heap) (hM : MS D dA A ad g H0) {Post : Option Value → Heap → Prop} (hPost : ∀ H : Heap, MS D dA A ad (gO g a1 30) H → Sm (gO g a1 30) → Post (some (.int (nI (trailN g a1)))) H) : Ct l yX3_trailOf (ws_ yX3_trailOf cX3_trailOf 5 (some .int)) (rmF 5 0 0 106) A (KT D dA) [.ref (ad 0), .int (nI a1)] H0 Post := by
  refine zc_of RX3 rfl (by decide) (Nat.le_of_ble_eq_true rfl) ?_
  intro pr en s m args below meth cd S hr hlk hnm hh hK ls hl
  have hS : va_S A s.heap H0 [] := zc_start hh
  have hg0 := hg
  have hx := S.1
  have hb := S.2.1
  have hown := S.2.2.2.1
  have hts := S.2.2.2.2
  have hl : lv_has ls 5 [(0, .ref (ad 0)), (1, .int (nI a1))] := hl
  refine lv_iconst (v := nI 0) hx hb dX3_trailOf_0 zi_0 ?_
  refine lv_istore_n (lv' := [(2, .int (nI 0)), (0, .ref (ad 0)), (1, .int (nI a1))]) hx hb dX3_trailOf_1 rfl hl (by decide) rfl (fun ls hl => ?_)
  refine lv_iconst (v := nI 0) hx hb dX3_trailOf_2 zi_0 ?_
  refine lv_istore_n (lv' := [(3, .int (nI 0)), (2, .int (nI 0)), (0, .ref (ad 0)), (1, .int (nI a1))]) hx hb dX3_trailOf_3 rfl hl (by decide) rfl (fun ls hl => ?_)
  have L_4 : ∀ (n_4 : Nat) (i : Nat), i ≤ 30 → 30 - i < n_4 → ∀ x2_4 : Int32, x2_4 = nI (roadsN g a1 i) → ∀ gLv : G, gLv = gO g a1 i → Sm gLv → ∀ (H : Heap) (locs : List Loc), MS D dA A ad gLv H → va_S A s.heap H locs → ∀ ls : Array Slot, lv_has ls 5 [(0, .ref (ad 0)), (1, .int (nI a1)), (2, .int x2_4), (3, .int (nI i))] → W pr l en (rmF 5 0 0 106) s m args below meth cd H locs 0 0 (MQ below (zc_Q Post A) args s 0 0 A) (F0 m 4 ls []) := by
    intro n_4
    induction n_4 with
    | zero => intro i hi_4 hm_4; exact absurd hm_4 (Nat.not_lt_zero _)
    | succ n_4 ih_4 =>
      intro i hi_4 hm_4 x2_4 ex2_4 gLv egL hg H locs hM hS ls hl
      subst ex2_4
      subst egL
      have hrm := roadsN_mono (g := g) (p := a1) (show i ≤ 30 from hi_4)
      refine lv_iload_n hx hb dX3_trailOf_4 rfl (lv_at hl 3 rfl) ?_
      refine lv_bipush (v := nI 30) hx hb dX3_trailOf_5 zb_30 ?_
      refine zr_icmp_geN (a := i) (b := 30) (tgt := 38) hx hb (by omega) (by omega) dX3_trailOf_7 (by decide) (fun c_1 => ?_) (fun c_1 => ?_)
      · have e_i : 30 = i := by omega
        subst e_i
        have hp8 : 2 ^ roadsN g a1 30 ≤ 256 := Nat.le_trans (Nat.pow_le_pow_right (by decide) h2) (by decide)
        have hp1 : 0 < 2 ^ roadsN g a1 30 := Nat.pow_pos (by decide)
        refine lv_iconst (v := nI 0) hx hb dX3_trailOf_38 zi_0 ?_
        refine lv_istore_n (lv' := [(3, .int (nI 0)), (0, .ref (ad 0)), (1, .int (nI a1)), (2, .int (nI (roadsN g a1 30)))]) hx hb dX3_trailOf_39 rfl hl (by decide) rfl (fun ls hl => ?_)
        refine lv_iconst (v := nI 1) hx hb dX3_trailOf_40 zi_1 ?_
        refine lv_istore (lv' := [(4, .int (nI 1)), (3, .int (nI 0)), (0, .ref (ad 0)), (1, .int (nI a1)), (2, .int (nI (roadsN g a1 30)))]) hx hb dX3_trailOf_41 hl (by decide) rfl (fun ls hl => ?_)
        have L_43 : ∀ (n_43 : Nat) (z : Nat), 1 ≤ z → z ≤ 2 ^ roadsN g a1 30 → 2 ^ roadsN g a1 30 - z < n_43 → ∀ x3_43 : Int32, x3_43 = nI (bestN (gO g a1 30) a1 (roadsN g a1 30) z) → ∀ gLv : G, gLv = gO g a1 30 → Sm gLv → ∀ (H : Heap) (locs : List Loc), MS D dA A ad gLv H → va_S A s.heap H locs → ∀ ls : Array Slot, lv_has ls 5 [(0, .ref (ad 0)), (1, .int (nI a1)), (2, .int (nI (roadsN g a1 30))), (3, .int x3_43), (4, .int (nI z))] → W pr l en (rmF 5 0 0 106) s m args below meth cd H locs 0 0 (MQ below (zc_Q Post A) args s 0 0 A) (F0 m 43 ls []) := by
          intro n_43
          induction n_43 with
          | zero => intro z hs1 hs2 hm_43; exact absurd hm_43 (Nat.not_lt_zero _)
          | succ n_43 ih_43 =>
            intro z hs1 hs2 hm_43 x3_43 ex3_43 gLv egL hg H locs hM hS ls hl
            subst ex3_43
            subst egL
            have hbl := bestN_le (gO g a1 30) a1 (roadsN g a1 30) z
            refine lv_iload hx hb dX3_trailOf_43 (lv_at hl 4 rfl) ?_
            refine lv_iconst (v := nI 1) hx hb dX3_trailOf_45 zi_1 ?_
            refine lv_iload_n hx hb dX3_trailOf_46 rfl (lv_at hl 2 rfl) ?_
            refine zr_shlN (a := 1) (b := (roadsN g a1 30)) hx hb (by omega) (by omega) dX3_trailOf_47 ?_
            refine zr_icmp_geN (a := z) (b := (1 * 2 ^ (roadsN g a1 30))) (tgt := 97) hx hb (by omega) (by omega) dX3_trailOf_48 (by decide) (fun c_2 => ?_) (fun c_2 => ?_)
            · have e_s : 2 ^ roadsN g a1 30 = z := by omega
              subst e_s
              refine lv_iload_n hx hb dX3_trailOf_97 rfl (lv_at hl 3 rfl) ?_
              exact zc_nret (nI (trailN g a1)) rfl (hPost H hM hg) hS hx hb hr hlk (Nat.zero_le _) (Nat.zero_le _) dX3_trailOf_98
            · refine lv_iload hx hb dX3_trailOf_51 (lv_at hl 4 rfl) ?_
              refine kM_ones S hK hM hg hS z (by first | omega | assumption | grind) (Nat.le_of_ble_eq_true rfl) (Nat.le_of_ble_eq_true rfl) hl.1 (Nat.le_of_ble_eq_true rfl) dX3_trailOf_53 (Nat.zero_le _) (Nat.zero_le _) (fun locs hS => ?_)
              have f53_0 : onesN z 8 ≤ 8 := onesN_le _ _
              refine lv_iload_n hx hb dX3_trailOf_56 rfl (lv_at hl 3 rfl) ?_
              refine zr_icmp_leN (a := (onesN z 8)) (b := (bestN (gO g a1 30) a1 (roadsN g a1 30) z)) (tgt := 91) hx hb (by omega) (by omega) dX3_trailOf_57 (by decide) (fun c_3 => ?_) (fun c_3 => ?_)
              · refine lv_iinc (v := nI (z + 1)) (lv' := [(4, .int (nI (z + 1))), (0, .ref (ad 0)), (1, .int (nI a1)), (2, .int (nI (roadsN g a1 30))), (3, .int (nI (bestN (gO g a1 30) a1 (roadsN g a1 30) z)))]) hx hb dX3_trailOf_91 hl (k := 4) rfl (zk_inc _) (by decide) rfl (fun ls hl => ?_)
                refine lv_goto (tgt := 43) hx hb dX3_trailOf_94 (by decide) ?_
                exact ih_43 (z + 1) (by omega) (by omega) (by omega) _ (congrArg nI (by rw [best_succ]; simp [c_1, c_2, c_3])) _ rfl hg H locs hM hS ls (lv_sub hl [1, 2, 3, 4, 0] rfl)
              · refine lv_aload_n hx hb dX3_trailOf_60 rfl (lv_at hl 0 rfl) ?_
                refine lv_iload_n hx hb dX3_trailOf_61 rfl (lv_at hl 1 rfl) ?_
                refine lv_iload hx hb dX3_trailOf_62 (lv_at hl 4 rfl) ?_
                refine lv_iload_n hx hb dX3_trailOf_64 rfl (lv_at hl 2 rfl) ?_
                refine kM_ends S hK hM hg hS a1 z (roadsN g a1 30) (by first | omega | assumption | grind) (by omega) (by first | omega | assumption | grind) (by exact fun k hk => gO_own g a1 30 (Nat.le_refl _) k hk) (Nat.le_of_ble_eq_true rfl) (Nat.le_of_ble_eq_true rfl) hl.1 (Nat.le_of_ble_eq_true rfl) dX3_trailOf_65 (Nat.zero_le _) (Nat.zero_le _) (fun locs hS => ?_)
                have f65_0 : endsN (gO g a1 30) a1 z (roadsN g a1 30) 24 ≤ 24 * (roadsN g a1 30) := endsN_le _ _ _ _ _
                refine lv_iconst (v := nI 2) hx hb dX3_trailOf_68 zi_2 ?_
                refine zr_icmp_gtN (a := (endsN (gO g a1 30) a1 z (roadsN g a1 30) 24)) (b := 2) (tgt := 91) hx hb (by omega) (by omega) dX3_trailOf_69 (by decide) (fun c_4 => ?_) (fun c_4 => ?_)
                · refine lv_iinc (v := nI (z + 1)) (lv' := [(4, .int (nI (z + 1))), (0, .ref (ad 0)), (1, .int (nI a1)), (2, .int (nI (roadsN g a1 30))), (3, .int (nI (bestN (gO g a1 30) a1 (roadsN g a1 30) z)))]) hx hb dX3_trailOf_91 hl (k := 4) rfl (zk_inc _) (by decide) rfl (fun ls hl => ?_)
                  refine lv_goto (tgt := 43) hx hb dX3_trailOf_94 (by decide) ?_
                  exact ih_43 (z + 1) (by omega) (by omega) (by omega) _ (congrArg nI (by rw [best_succ]; simp [c_1, c_2, c_3, c_4])) _ rfl hg H locs hM hS ls (lv_sub hl [1, 2, 3, 4, 0] rfl)
                · refine lv_aload_n hx hb dX3_trailOf_72 rfl (lv_at hl 0 rfl) ?_
                  refine lv_iload_n hx hb dX3_trailOf_73 rfl (lv_at hl 1 rfl) ?_
                  refine lv_iload hx hb dX3_trailOf_74 (lv_at hl 4 rfl) ?_
                  refine lv_iload_n hx hb dX3_trailOf_76 rfl (lv_at hl 2 rfl) ?_
                  refine kM_spread S hK hM hg hS a1 z (roadsN g a1 30) (by first | omega | assumption | grind) (by omega) (by first | omega | assumption | grind) (by exact fun k hk => gO_own g a1 30 (Nat.le_refl _) k hk) (by omega) (Nat.le_of_ble_eq_true rfl) (Nat.le_of_ble_eq_true rfl) hl.1 (Nat.le_of_ble_eq_true rfl) dX3_trailOf_77 (Nat.zero_le _) (Nat.zero_le _) (fun locs hS => ?_)
                  have f77_0 : sprN (gO g a1 30) a1 z (roadsN g a1 30) < 2 ^ (roadsN g a1 30) := sprN_lt (by omega) (by omega)
                  refine lv_iload hx hb dX3_trailOf_80 (lv_at hl 4 rfl) ?_
                  refine zr_icmp_neN (a := (sprN (gO g a1 30) a1 z (roadsN g a1 30))) (b := z) (tgt := 91) hx hb (by omega) (by omega) dX3_trailOf_82 (by decide) (fun c_5 => ?_) (fun c_5 => ?_)
                  · refine lv_iinc (v := nI (z + 1)) (lv' := [(4, .int (nI (z + 1))), (0, .ref (ad 0)), (1, .int (nI a1)), (2, .int (nI (roadsN g a1 30))), (3, .int (nI (bestN (gO g a1 30) a1 (roadsN g a1 30) z)))]) hx hb dX3_trailOf_91 hl (k := 4) rfl (zk_inc _) (by decide) rfl (fun ls hl => ?_)
                    refine lv_goto (tgt := 43) hx hb dX3_trailOf_94 (by decide) ?_
                    exact ih_43 (z + 1) (by omega) (by omega) (by omega) _ (congrArg nI (by rw [best_succ]; simp [c_1, c_2, c_3, c_4, c_5])) _ rfl hg H locs hM hS ls (lv_sub hl [1, 2, 3, 4, 0] rfl)
                  · refine lv_iload hx hb dX3_trailOf_85 (lv_at hl 4 rfl) ?_
                    refine kM_ones S hK hM hg hS z (by first | omega | assumption | grind) (Nat.le_of_ble_eq_true rfl) (Nat.le_of_ble_eq_true rfl) hl.1 (Nat.le_of_ble_eq_true rfl) dX3_trailOf_87 (Nat.zero_le _) (Nat.zero_le _) (fun locs hS => ?_)
                    have f87_0 : onesN z 8 ≤ 8 := onesN_le _ _
                    refine lv_istore_n (lv' := [(3, .int (nI (onesN z 8))), (0, .ref (ad 0)), (1, .int (nI a1)), (2, .int (nI (roadsN g a1 30))), (4, .int (nI z))]) hx hb dX3_trailOf_90 rfl hl (by decide) rfl (fun ls hl => ?_)
                    refine lv_iinc (v := nI (z + 1)) (lv' := [(4, .int (nI (z + 1))), (3, .int (nI (onesN z 8))), (0, .ref (ad 0)), (1, .int (nI a1)), (2, .int (nI (roadsN g a1 30)))]) hx hb dX3_trailOf_91 hl (k := 4) rfl (zk_inc _) (by decide) rfl (fun ls hl => ?_)
                    refine lv_goto (tgt := 43) hx hb dX3_trailOf_94 (by decide) ?_
                    exact ih_43 (z + 1) (by omega) (by omega) (by omega) _ (congrArg nI (by rw [best_succ]; simp [c_1, c_2, c_3, c_4, c_5])) _ rfl hg H locs hM hS ls (lv_sub hl [2, 3, 4, 1, 0] rfl)
        exact L_43 _ 1 (by omega) (by omega) (Nat.lt_succ_self _) _ (congrArg nI (show 0 = bestN (gO g a1 30) a1 (roadsN g a1 30) 1 from (by rw [best_succ, if_neg (by simp [onesN, eu_sm, bestN])]; rfl))) _ rfl hg H locs hM hS ls (lv_sub hl [2, 3, 4, 1, 0] rfl)
      · refine lv_aload_n hx hb dX3_trailOf_10 rfl (lv_at hl 0 rfl) ?_
        refine gM_road S hK hM dX3_trailOf_11 ?_
        refine lv_iload_n hx hb dX3_trailOf_14 rfl (lv_at hl 3 rfl) ?_
        refine lM_road S hK hM i (by omega) (g 3 i) (gO_nf _ _ (by decide) _ _) dX3_trailOf_15 ?_
        have hb_6 : g 3 i < 1048576 := by first | exact hg 3 i | exact hg0 _ _ | (have := hg 3 i; omega) | omega
        refine lv_iload_n hx hb dX3_trailOf_16 rfl (lv_at hl 1 rfl) ?_
        refine lv_iconst (v := nI 1) hx hb dX3_trailOf_17 zi_1 ?_
        refine zr_addN (a := a1) (b := 1) hx hb dX3_trailOf_18 ?_
        refine zr_icmp_neN (a := (g 3 i)) (b := (a1 + 1)) (tgt := 32) hx hb (by omega) (by omega) dX3_trailOf_19 (by decide) (fun c_7 => ?_) (fun c_7 => ?_)
        · refine lv_iinc (v := nI (i + 1)) (lv' := [(3, .int (nI (i + 1))), (0, .ref (ad 0)), (1, .int (nI a1)), (2, .int (nI (roadsN g a1 i)))]) hx hb dX3_trailOf_32 hl (k := 3) rfl (zk_inc _) (by decide) rfl (fun ls hl => ?_)
          refine lv_goto (tgt := 4) hx hb dX3_trailOf_35 (by decide) ?_
          exact ih_4 (i + 1) (by first | omega | assumption | (simp; done) | grind) (by omega) _ (congrArg nI (by first | exact roads_yes c_7 | exact roads_no c_7)) (gO g a1 i) (by first | exact gO_yes c_7 | exact gO_no c_7) hg H locs hM hS ls (lv_sub hl [1, 2, 3, 0] rfl)
        · have hrl := roadsN_lt c_7 (by omega)
          refine lv_aload_n hx hb dX3_trailOf_22 rfl (lv_at hl 0 rfl) ?_
          refine gM_own S hK hM dX3_trailOf_23 ?_
          refine lv_iload_n hx hb dX3_trailOf_26 rfl (lv_at hl 2 rfl) ?_
          refine lv_iload_n hx hb dX3_trailOf_27 rfl (lv_at hl 3 rfl) ?_
          refine sM_own S hK hM hS (roadsN g a1 i) (by omega) i dX3_trailOf_28 (fun H locs hM hS => ?_)
          have hg : Sm (gs (gO g a1 i) 20 (roadsN g a1 i) i) := Sm_gs hg (by first | omega | exact Nat.lt_of_le_of_lt (Bool.toNat_le _) (by decide) | ((repeat' split) <;> omega))
          refine lv_iinc (v := nI ((roadsN g a1 i) + 1)) (lv' := [(2, .int (nI ((roadsN g a1 i) + 1))), (0, .ref (ad 0)), (1, .int (nI a1)), (3, .int (nI i))]) hx hb dX3_trailOf_29 hl (k := 2) rfl (zk_inc _) (by decide) rfl (fun ls hl => ?_)
          refine lv_iinc (v := nI (i + 1)) (lv' := [(3, .int (nI (i + 1))), (2, .int (nI ((roadsN g a1 i) + 1))), (0, .ref (ad 0)), (1, .int (nI a1))]) hx hb dX3_trailOf_32 hl (k := 3) rfl (zk_inc _) (by decide) rfl (fun ls hl => ?_)
          refine lv_goto (tgt := 4) hx hb dX3_trailOf_35 (by decide) ?_
          exact ih_4 (i + 1) (by first | omega | assumption | (simp; done) | grind) (by omega) _ (congrArg nI (by first | exact roads_yes c_7 | exact roads_no c_7)) (gs (gO g a1 i) 20 (roadsN g a1 i) i) (by first | exact gO_yes c_7 | exact gO_no c_7) hg H locs hM hS ls (lv_sub hl [2, 3, 1, 0] rfl)
  exact L_4 _ 0 (by first | omega | assumption | (simp; done) | grind) (Nat.lt_succ_self _) _ (rfl) (g) (rfl) hg H0 [] hM hS ls (lv_sub hl [2, 3, 1, 0] rfl)
theorem kM_trailOf {pr : Program} {l : Launch} {en : Env} {R : Room} {s : State} {m : MethodId} {args : Array Value} {below : List Frame} {meth : Method} {cd : Code} {H : Heap} {locs : List Loc} {cells slots : Nat} {Q : State → Prop} {cc : ByteArray} {pc nL : Nat} {ls : Array Slot} {rest : List Value} {D : va_G} {dA : Nat → ClassId} {A : Nat → Prop} {ad : Nat → Nat} {g : G} (S : CallFix pr m cd cc nL s args lw_all RX3) (hK : KT D dA s) (hM : MS D dA A ad g H) (hg : Sm g) (hS : va_S A s.heap H locs) (a1 : Nat) (h1 : a1 < 3) (h2 : roadsN g a1 30 ≤ 8) (hf : 5 + 1 ≤ R.frames) (hlo : 8 + (5 + 11) + 106 ≤ R.locals) (hsz : ls.size = nL) (hcat : (rest.map fun v => v.category).sum ≤ 8) (hdg : decode cc pc = .ok (.invokevirtual 104, 3)) (hq1 : cells ≤ R.cells) (hq2 : slots ≤ R.slots) (kk : ∀ (H1 : Heap) (locs1 : List Loc), MS D dA A ad (gO g a1 30) H1 → Sm (gO g a1 30) → va_S A s.heap H1 locs1 → W pr l en R s m args below meth cd H1 locs1 cells slots Q (F0 m (pc + 3) ls (.int (nI (trailN g a1)) :: rest))) : W pr l en R s m args below meth cd H locs cells slots Q (F0 m pc ls (.int (nI a1) :: .ref (ad 0) :: rest)) :=
  zc_callV (n := 1) (As := [.int (nI a1)]) (rest := rest) S (cM_trailOf l hg a1 h1 h2  H hM (Post := (fun v H1 => v = some (.int (nI (trailN g a1))) ∧ MS D dA A ad (gO g a1 30) H1 ∧ Sm (gO g a1 30))) (fun H1 h h2 => ⟨rfl, h, h2⟩)) (lw_V q1182 q1184 qs41 q76 q1185) (by decide +kernel) ⟨hf, hlo⟩ ⟨hq1, hq2⟩ (zm_recv hK hM) KT_mv (zc_K KT_mv hK hS) hS (fun _ h => h) rfl hsz rfl hcat hdg (fun v H1 locs1 hp _ _ hS1 => by obtain ⟨rfl, hM1, hg1⟩ := hp; exact kk H1 locs1 hM1 hg1 hS1)
set_option maxHeartbeats 1000000 in
set_option maxRecDepth 100000 in
theorem cM_looksAtTrails (l : Launch) {D : va_G} {dA : Nat → ClassId} {A : Nat → Prop} {ad : Nat → Nat} {g : G} (hg : Sm g) (h1 : ∀ p, p < 3 → roadsN g p 30 ≤ 8) (H0 : Heap) (hM : MS D dA A ad g H0) {Post : Option Value → Heap → Prop} (hPost : ∀ H : Heap, MS D dA A ad (gTr g) H → Sm (gTr g) → Post (none) H) : Ct l yX3_looksAtTrails (ws_ yX3_looksAtTrails cX3_looksAtTrails 7 none) (rmF 6 0 0 130) A (KT D dA) [.ref (ad 0)] H0 Post := by
  refine zc_of RX3 rfl (by decide) (Nat.le_of_ble_eq_true rfl) ?_
  intro pr en s m args below meth cd S hr hlk hnm hh hK ls hl
  have hS : va_S A s.heap H0 [] := zc_start hh
  have hg0 := hg
  have hx := S.1
  have hb := S.2.1
  have hown := S.2.2.2.1
  have hts := S.2.2.2.2
  have hl : lv_has ls 7 [(0, .ref (ad 0))] := hl
  refine lv_iconst (v := nI 0) hx hb dX3_looksAtTrails_0 zi_0 ?_
  refine lv_istore_n (lv' := [(1, .int (nI 0)), (0, .ref (ad 0))]) hx hb dX3_looksAtTrails_1 rfl hl (by decide) rfl (fun ls hl => ?_)
  refine lv_iconst (v := nI 0) hx hb dX3_looksAtTrails_2 zi_0 ?_
  refine lv_istore_n (lv' := [(2, .int (nI 0)), (1, .int (nI 0)), (0, .ref (ad 0))]) hx hb dX3_looksAtTrails_3 rfl hl (by decide) rfl (fun ls hl => ?_)
  have L_4 : ∀ (n_4 : Nat) (i : Nat), i ≤ 3 → 3 - i < n_4 → ∀ x1_4 : Int32, x1_4 = nI (mxN g i) → ∀ gLv : G, gLv = gL g i → Sm gLv → ∀ (H : Heap) (locs : List Loc), MS D dA A ad gLv H → va_S A s.heap H locs → ∀ ls : Array Slot, lv_has ls 7 [(0, .ref (ad 0)), (1, .int x1_4), (2, .int (nI i))] → W pr l en (rmF 6 0 0 130) s m args below meth cd H locs 0 0 (MQ below (zc_Q Post A) args s 0 0 A) (F0 m 4 ls []) := by
    intro n_4
    induction n_4 with
    | zero => intro i hi_4 hm_4; exact absurd hm_4 (Nat.not_lt_zero _)
    | succ n_4 ih_4 =>
      intro i hi_4 hm_4 x1_4 ex1_4 gLv egL hg H locs hM hS ls hl
      subst ex1_4
      subst egL
      have hmx := mxN_le g i
      refine lv_iload_n hx hb dX3_looksAtTrails_4 rfl (lv_at hl 2 rfl) ?_
      refine lv_iconst (v := nI 3) hx hb dX3_looksAtTrails_5 zi_3 ?_
      refine zr_icmp_geN (a := i) (b := 3) (tgt := 32) hx hb (by omega) (by omega) dX3_looksAtTrails_6 (by decide) (fun c_1 => ?_) (fun c_1 => ?_)
      · have e_i : 3 = i := by omega
        subst e_i
        have hmx3 := mxN_le g 3
        refine lv_iconst (v := nI 0) hx hb dX3_looksAtTrails_32 zi_0 ?_
        refine lv_istore_n (lv' := [(2, .int (nI 0)), (0, .ref (ad 0)), (1, .int (nI (mxN g 3)))]) hx hb dX3_looksAtTrails_33 rfl hl (by decide) rfl (fun ls hl => ?_)
        refine lv_iconst (v := mI 0) hx hb dX3_looksAtTrails_34 zi_m1 ?_
        refine lv_istore_n (lv' := [(3, .int (mI 0)), (2, .int (nI 0)), (0, .ref (ad 0)), (1, .int (nI (mxN g 3)))]) hx hb dX3_looksAtTrails_35 rfl hl (by decide) rfl (fun ls hl => ?_)
        refine lv_iconst (v := nI 0) hx hb dX3_looksAtTrails_36 zi_0 ?_
        refine lv_istore (lv' := [(4, .int (nI 0)), (3, .int (mI 0)), (2, .int (nI 0)), (0, .ref (ad 0)), (1, .int (nI (mxN g 3)))]) hx hb dX3_looksAtTrails_37 hl (by decide) rfl (fun ls hl => ?_)
        refine lv_iconst (v := nI 0) hx hb dX3_looksAtTrails_39 zi_0 ?_
        refine lv_istore (lv' := [(5, .int (nI 0)), (4, .int (nI 0)), (3, .int (mI 0)), (2, .int (nI 0)), (0, .ref (ad 0)), (1, .int (nI (mxN g 3)))]) hx hb dX3_looksAtTrails_40 hl (by decide) rfl (fun ls hl => ?_)
        have L_42 : ∀ (n_42 : Nat) (k : Nat), k ≤ 3 → 3 - k < n_42 → ∀ x2_42 : Int32, x2_42 = nI (cntMx g k) → ∀ x3_42 : Int32, x3_42 = mI (lastMx g k) → ∀ x4_42 : Int32, x4_42 = nI (stayMx g k).toNat → ∀ gLv : G, gLv = gL (gL g 3) k → Sm gLv → ∀ (H : Heap) (locs : List Loc), MS D dA A ad gLv H → va_S A s.heap H locs → ∀ ls : Array Slot, lv_has ls 7 [(0, .ref (ad 0)), (1, .int (nI (mxN g 3))), (2, .int x2_42), (3, .int x3_42), (4, .int x4_42), (5, .int (nI k))] → W pr l en (rmF 6 0 0 130) s m args below meth cd H locs 0 0 (MQ below (zc_Q Post A) args s 0 0 A) (F0 m 42 ls []) := by
          intro n_42
          induction n_42 with
          | zero => intro k hi_42 hm_42; exact absurd hm_42 (Nat.not_lt_zero _)
          | succ n_42 ih_42 =>
            intro k hi_42 hm_42 x2_42 ex2_42 x3_42 ex3_42 x4_42 ex4_42 gLv egL hg H locs hM hS ls hl
            subst ex2_42
            subst ex3_42
            subst ex4_42
            subst egL
            have hcm := cntMx_le g k
            have hlm := lastMx_le g k
            refine lv_iload hx hb dX3_looksAtTrails_42 (lv_at hl 5 rfl) ?_
            refine lv_iconst (v := nI 3) hx hb dX3_looksAtTrails_44 zi_3 ?_
            refine zr_icmp_geN (a := k) (b := 3) (tgt := 122) hx hb (by omega) (by omega) dX3_looksAtTrails_45 (by decide) (fun c_2 => ?_) (fun c_2 => ?_)
            · have e_k : 3 = k := by omega
              subst e_k
              have h77 := hg0 7 7
              refine lv_aload_n hx hb dX3_looksAtTrails_122 rfl (lv_at hl 0 rfl) ?_
              refine lv_iload_n hx hb dX3_looksAtTrails_123 rfl (lv_at hl 1 rfl) ?_
              refine lv_iconst (v := nI 5) hx hb dX3_looksAtTrails_124 zi_5 ?_
              refine zr_icmp_geN (a := (mxN g 3)) (b := 5) (tgt := 132) hx hb (by omega) (by omega) dX3_looksAtTrails_125 (by decide) (fun c_3 => ?_) (fun c_3 => ?_)
              · refine lv_iload hx hb dX3_looksAtTrails_132 (lv_at hl 4 rfl) ?_
                refine zr_if_eqB (b := stayMx g 3) (tgt := 144) hx hb dX3_looksAtTrails_134 (by decide) (fun c_4 => ?_) (fun c_4 => ?_)
                · refine lv_iload_n hx hb dX3_looksAtTrails_144 rfl (lv_at hl 2 rfl) ?_
                  refine lv_iconst (v := nI 1) hx hb dX3_looksAtTrails_145 zi_1 ?_
                  refine zr_icmp_neN (a := (cntMx g 3)) (b := 1) (tgt := 153) hx hb (by omega) (by omega) dX3_looksAtTrails_146 (by decide) (fun c_5 => ?_) (fun c_5 => ?_)
                  · refine lv_iconst (v := mI 0) hx hb dX3_looksAtTrails_153 zi_m1 ?_
                    refine pM_longest S hK hM hS 0 dX3_looksAtTrails_154 (fun H locs hM hS => ?_)
                    have hg : Sm (gs (gL (gL g 3) 3) 7 7 0) := Sm_gs hg (by first | omega | exact Nat.lt_of_le_of_lt (Bool.toNat_le _) (by decide) | ((repeat' split) <;> omega))
                    rw [show (gs (gL (gL g 3) 3) 7 7 0 : G) = gTr g from by first | with_reducible rfl | (simp [c_1, c_2, c_3, c_4, c_5, gTr, holdN]; done) | (simp only [c_1, c_2, c_3, c_4, c_5] <;> simp [gTr, holdN]; done) | (simp only [gTr, holdN, c_1, c_2, c_3, c_4, c_5] <;> simp [gTr, holdN]; done) | (simp [c_1, c_2, c_3, c_4, c_5, gTr, holdN, Bool.and_assoc]; done) | (simp [c_1, c_2, c_3, c_4, c_5, gTr, holdN, Bool.and_assoc, Bool.or_assoc]; done) | rfl | (simp [c_1, c_2, c_3, c_4, c_5, gTr, holdN]; omega)] at hM hg
                    exact zc_vret (hPost H hM hg) hS hx hb hr hlk (Nat.zero_le _) (Nat.zero_le _) dX3_looksAtTrails_157
                  · refine lv_iload_n hx hb dX3_looksAtTrails_149 rfl (lv_at hl 3 rfl) ?_
                    refine lv_goto (tgt := 154) hx hb dX3_looksAtTrails_150 (by decide) ?_
                    refine pM_longest S hK hM hS (lastMx g 3) dX3_looksAtTrails_154 (fun H locs hM hS => ?_)
                    have hg : Sm (gs (gL (gL g 3) 3) 7 7 (lastMx g 3)) := Sm_gs hg (by first | omega | exact Nat.lt_of_le_of_lt (Bool.toNat_le _) (by decide) | ((repeat' split) <;> omega))
                    rw [show (gs (gL (gL g 3) 3) 7 7 (lastMx g 3) : G) = gTr g from by first | with_reducible rfl | (simp [c_1, c_2, c_3, c_4, c_5, gTr, holdN]; done) | (simp only [c_1, c_2, c_3, c_4, c_5] <;> simp [gTr, holdN]; done) | (simp only [gTr, holdN, c_1, c_2, c_3, c_4, c_5] <;> simp [gTr, holdN]; done) | (simp [c_1, c_2, c_3, c_4, c_5, gTr, holdN, Bool.and_assoc]; done) | (simp [c_1, c_2, c_3, c_4, c_5, gTr, holdN, Bool.and_assoc, Bool.or_assoc]; done) | rfl | (simp [c_1, c_2, c_3, c_4, c_5, gTr, holdN]; omega)] at hM hg
                    exact zc_vret (hPost H hM hg) hS hx hb hr hlk (Nat.zero_le _) (Nat.zero_le _) dX3_looksAtTrails_157
                · refine lv_aload_n hx hb dX3_looksAtTrails_137 rfl (lv_at hl 0 rfl) ?_
                  refine gM_longest S hK hM (g 7 7) (by simp only [gO_nf _ _ (show (7 : Nat) ≠ 20 from by decide), gL_nf _ (show (7 : Nat) ≠ 20 from by decide)]) dX3_looksAtTrails_138 ?_
                  have hb_6 : g 7 7 < 1048576 := by first | exact hg 7 7 | exact hg0 _ _ | (have := hg 7 7; omega) | omega
                  refine lv_goto (tgt := 154) hx hb dX3_looksAtTrails_141 (by decide) ?_
                  refine pM_longest S hK hM hS (g 7 7) dX3_looksAtTrails_154 (fun H locs hM hS => ?_)
                  have hg : Sm (gs (gL (gL g 3) 3) 7 7 (g 7 7)) := Sm_gs hg (by first | omega | exact Nat.lt_of_le_of_lt (Bool.toNat_le _) (by decide) | ((repeat' split) <;> omega))
                  rw [show (gs (gL (gL g 3) 3) 7 7 (g 7 7) : G) = gTr g from by first | with_reducible rfl | (simp [c_1, c_2, c_3, c_4, gTr, holdN]; done) | (simp only [c_1, c_2, c_3, c_4] <;> simp [gTr, holdN]; done) | (simp only [gTr, holdN, c_1, c_2, c_3, c_4] <;> simp [gTr, holdN]; done) | (simp [c_1, c_2, c_3, c_4, gTr, holdN, Bool.and_assoc]; done) | (simp [c_1, c_2, c_3, c_4, gTr, holdN, Bool.and_assoc, Bool.or_assoc]; done) | rfl | (simp [c_1, c_2, c_3, c_4, gTr, holdN]; omega)] at hM hg
                  exact zc_vret (hPost H hM hg) hS hx hb hr hlk (Nat.zero_le _) (Nat.zero_le _) dX3_looksAtTrails_157
              · refine lv_iconst (v := mI 0) hx hb dX3_looksAtTrails_128 zi_m1 ?_
                refine lv_goto (tgt := 154) hx hb dX3_looksAtTrails_129 (by decide) ?_
                refine pM_longest S hK hM hS 0 dX3_looksAtTrails_154 (fun H locs hM hS => ?_)
                have hg : Sm (gs (gL (gL g 3) 3) 7 7 0) := Sm_gs hg (by first | omega | exact Nat.lt_of_le_of_lt (Bool.toNat_le _) (by decide) | ((repeat' split) <;> omega))
                rw [show (gs (gL (gL g 3) 3) 7 7 0 : G) = gTr g from by first | with_reducible rfl | (simp [c_1, c_2, c_3, gTr, holdN]; done) | (simp only [c_1, c_2, c_3] <;> simp [gTr, holdN]; done) | (simp only [gTr, holdN, c_1, c_2, c_3] <;> simp [gTr, holdN]; done) | (simp [c_1, c_2, c_3, gTr, holdN, Bool.and_assoc]; done) | (simp [c_1, c_2, c_3, gTr, holdN, Bool.and_assoc, Bool.or_assoc]; done) | rfl | (simp [c_1, c_2, c_3, gTr, holdN]; omega)] at hM hg
                exact zc_vret (hPost H hM hg) hS hx hb hr hlk (Nat.zero_le _) (Nat.zero_le _) dX3_looksAtTrails_157
            · refine lv_aload_n hx hb dX3_looksAtTrails_48 rfl (lv_at hl 0 rfl) ?_
              refine lv_iload hx hb dX3_looksAtTrails_49 (lv_at hl 5 rfl) ?_
              refine kM_trailOf S hK hM hg hS k (by first | omega | assumption | grind) (by (try rw [roadsN_gL]); (try rw [roadsN_gL]); exact h1 _ (by omega)) (Nat.le_of_ble_eq_true rfl) (Nat.le_of_ble_eq_true rfl) hl.1 (Nat.le_of_ble_eq_true rfl) dX3_looksAtTrails_51 (Nat.zero_le _) (Nat.zero_le _) (fun H locs hM hg hS => ?_)
              have f51_0 : trailN (gL (gL g 3) k) k ≤ 8 := trailN_le _ _
              rw [trailN_gL2]
              have htl := trailN_le g k
              refine lv_iload_n hx hb dX3_looksAtTrails_54 rfl (lv_at hl 1 rfl) ?_
              have J_63 : ∀ yS0_63 : Int32, yS0_63 = nI (decide ((trailN g k) = (mxN g 3))).toNat → ∀ (H : Heap) (locs : List Loc), MS D dA A ad (gO (gL (gL g 3) k) k 30) H → va_S A s.heap H locs → ∀ ls : Array Slot, lv_has ls 7 [(0, .ref (ad 0)), (1, .int (nI (mxN g 3))), (2, .int (nI (cntMx g k))), (3, .int (mI (lastMx g k))), (4, .int (nI (stayMx g k).toNat)), (5, .int (nI k))] → W pr l en (rmF 6 0 0 130) s m args below meth cd H locs 0 0 (MQ below (zc_Q Post A) args s 0 0 A) (F0 m 63 ls [.int yS0_63]) := by
                intro yS0_63 eyS0_63 H locs hM hS ls hl
                subst eyS0_63
                refine lv_istore (lv' := [(6, .int (nI (decide ((trailN g k) = (mxN g 3))).toNat)), (0, .ref (ad 0)), (1, .int (nI (mxN g 3))), (2, .int (nI (cntMx g k))), (3, .int (mI (lastMx g k))), (4, .int (nI (stayMx g k).toNat)), (5, .int (nI k))]) hx hb dX3_looksAtTrails_63 hl (by decide) rfl (fun ls hl => ?_)
                refine lv_iload_n hx hb dX3_looksAtTrails_65 rfl (lv_at hl 3 rfl) ?_
                refine lv_iload hx hb dX3_looksAtTrails_66 (lv_at hl 0 rfl) ?_
                have J_76 : ∀ yS0_76 : Int32, yS0_76 = nI ((decide ((trailN g k) = (mxN g 3)))).toNat → ∀ (H : Heap) (locs : List Loc), MS D dA A ad (gO (gL (gL g 3) k) k 30) H → va_S A s.heap H locs → ∀ ls : Array Slot, lv_has ls 7 [(0, .ref (ad 0)), (1, .int (nI (mxN g 3))), (3, .int (mI (lastMx g k))), (4, .int (nI (stayMx g k).toNat)), (5, .int (nI k)), (6, .int (nI (decide ((trailN g k) = (mxN g 3))).toNat))] → W pr l en (rmF 6 0 0 130) s m args below meth cd H locs 0 0 (MQ below (zc_Q Post A) args s 0 0 A) (F0 m 76 ls [.int yS0_76, .int (nI (cntMx g k))]) := by
                  intro yS0_76 eyS0_76 H locs hM hS ls hl
                  subst eyS0_76
                  refine zr_addN (a := (cntMx g k)) (b := (((decide ((trailN g k) = (mxN g 3)))).toNat)) hx hb dX3_looksAtTrails_76 ?_
                  refine lv_istore_n (lv' := [(2, .int (nI ((cntMx g k) + (((decide ((trailN g k) = (mxN g 3)))).toNat)))), (0, .ref (ad 0)), (1, .int (nI (mxN g 3))), (3, .int (mI (lastMx g k))), (4, .int (nI (stayMx g k).toNat)), (5, .int (nI k)), (6, .int (nI (decide ((trailN g k) = (mxN g 3))).toNat))]) hx hb dX3_looksAtTrails_77 rfl hl (by decide) rfl (fun ls hl => ?_)
                  refine lv_iload hx hb dX3_looksAtTrails_78 (lv_at hl 6 rfl) ?_
                  have J_89 : ∀ yS0_89 : Int32, yS0_89 = mI ((if (decide ((trailN g k) = (mxN g 3))) = true then k + 1 else lastMx g k)) → ∀ (H : Heap) (locs : List Loc), MS D dA A ad (gO (gL (gL g 3) k) k 30) H → va_S A s.heap H locs → ∀ ls : Array Slot, lv_has ls 7 [(0, .ref (ad 0)), (1, .int (nI (mxN g 3))), (2, .int (nI ((cntMx g k) + (((decide ((trailN g k) = (mxN g 3)))).toNat)))), (4, .int (nI (stayMx g k).toNat)), (5, .int (nI k)), (6, .int (nI (decide ((trailN g k) = (mxN g 3))).toNat))] → W pr l en (rmF 6 0 0 130) s m args below meth cd H locs 0 0 (MQ below (zc_Q Post A) args s 0 0 A) (F0 m 89 ls [.int yS0_89]) := by
                    intro yS0_89 eyS0_89 H locs hM hS ls hl
                    subst eyS0_89
                    refine lv_istore_n (lv' := [(3, .int (mI ((if (decide ((trailN g k) = (mxN g 3))) = true then k + 1 else lastMx g k)))), (0, .ref (ad 0)), (1, .int (nI (mxN g 3))), (2, .int (nI ((cntMx g k) + (((decide ((trailN g k) = (mxN g 3)))).toNat)))), (4, .int (nI (stayMx g k).toNat)), (5, .int (nI k)), (6, .int (nI (decide ((trailN g k) = (mxN g 3))).toNat))]) hx hb dX3_looksAtTrails_89 rfl hl (by decide) rfl (fun ls hl => ?_)
                    refine lv_iload hx hb dX3_looksAtTrails_90 (lv_at hl 4 rfl) ?_
                    have J_114 : ∀ yS0_114 : Int32, yS0_114 = nI ((stayMx g k) || ((decide ((trailN g k) = (mxN g 3))) && (decide ((k + 1) = (g 7 7))))).toNat → ∀ (H : Heap) (locs : List Loc), MS D dA A ad (gO (gL (gL g 3) k) k 30) H → va_S A s.heap H locs → ∀ ls : Array Slot, lv_has ls 7 [(0, .ref (ad 0)), (1, .int (nI (mxN g 3))), (2, .int (nI ((cntMx g k) + (((decide ((trailN g k) = (mxN g 3)))).toNat)))), (3, .int (mI ((if (decide ((trailN g k) = (mxN g 3))) = true then k + 1 else lastMx g k)))), (5, .int (nI k))] → W pr l en (rmF 6 0 0 130) s m args below meth cd H locs 0 0 (MQ below (zc_Q Post A) args s 0 0 A) (F0 m 114 ls [.int yS0_114]) := by
                      intro yS0_114 eyS0_114 H locs hM hS ls hl
                      subst eyS0_114
                      refine lv_istore (lv' := [(4, .int (nI ((stayMx g k) || ((decide ((trailN g k) = (mxN g 3))) && (decide ((k + 1) = (g 7 7))))).toNat)), (0, .ref (ad 0)), (1, .int (nI (mxN g 3))), (2, .int (nI ((cntMx g k) + (((decide ((trailN g k) = (mxN g 3)))).toNat)))), (3, .int (mI ((if (decide ((trailN g k) = (mxN g 3))) = true then k + 1 else lastMx g k)))), (5, .int (nI k))]) hx hb dX3_looksAtTrails_114 hl (by decide) rfl (fun ls hl => ?_)
                      refine lv_iinc (v := nI (k + 1)) (lv' := [(5, .int (nI (k + 1))), (4, .int (nI ((stayMx g k) || ((decide ((trailN g k) = (mxN g 3))) && (decide ((k + 1) = (g 7 7))))).toNat)), (0, .ref (ad 0)), (1, .int (nI (mxN g 3))), (2, .int (nI ((cntMx g k) + (((decide ((trailN g k) = (mxN g 3)))).toNat)))), (3, .int (mI ((if (decide ((trailN g k) = (mxN g 3))) = true then k + 1 else lastMx g k))))]) hx hb dX3_looksAtTrails_116 hl (k := 5) rfl (zk_inc _) (by decide) rfl (fun ls hl => ?_)
                      refine lv_goto (tgt := 42) hx hb dX3_looksAtTrails_119 (by decide) ?_
                      exact ih_42 (k + 1) (by first | omega | assumption | (simp; done) | grind) (by omega) _ (rfl) _ (rfl) _ (rfl) (gO (gL (gL g 3) k) k 30) (rfl) hg H locs hM hS ls (lv_sub hl [2, 3, 4, 5, 1, 0] rfl)
                    refine zr_if_neB (b := stayMx g k) (tgt := 109) hx hb dX3_looksAtTrails_92 (by decide) (fun c_14 => ?_) (fun c_14 => ?_)
                    · refine lv_iconst (v := nI 1) hx hb dX3_looksAtTrails_109 zi_1 ?_
                      refine lv_goto (tgt := 114) hx hb dX3_looksAtTrails_110 (by decide) ?_
                      exact J_114 _ (congrArg (fun z : Bool => nI z.toNat) (show (true : Bool) = ((stayMx g k) || ((decide ((trailN g k) = (mxN g 3))) && (decide ((k + 1) = (g 7 7))))) from by first | with_reducible rfl | (simp [c_1, c_2, c_14, gTr, holdN]; done) | (simp only [c_1, c_2, c_14] <;> simp [gTr, holdN]; done) | (simp only [gTr, holdN, c_1, c_2, c_14] <;> simp [gTr, holdN]; done) | (simp [c_1, c_2, c_14, gTr, holdN, Bool.and_assoc]; done) | (simp [c_1, c_2, c_14, gTr, holdN, Bool.and_assoc, Bool.or_assoc]; done) | rfl | (simp [c_1, c_2, c_14, gTr, holdN]; omega))) H locs hM hS ls (lv_sub hl [1, 2, 3, 0, 5] rfl)
                    · refine lv_iload hx hb dX3_looksAtTrails_95 (lv_at hl 6 rfl) ?_
                      refine zr_if_eqB (b := decide ((trailN g k) = (mxN g 3))) (tgt := 113) hx hb dX3_looksAtTrails_97 (by decide) (fun c_15 => ?_) (fun c_15 => ?_)
                      · refine lv_iconst (v := nI 0) hx hb dX3_looksAtTrails_113 zi_0 ?_
                        exact J_114 _ (congrArg (fun z : Bool => nI z.toNat) (show (false : Bool) = ((stayMx g k) || ((decide ((trailN g k) = (mxN g 3))) && (decide ((k + 1) = (g 7 7))))) from by first | with_reducible rfl | (simp [c_1, c_2, c_14, c_15, gTr, holdN]; done) | (simp only [c_1, c_2, c_14, c_15] <;> simp [gTr, holdN]; done) | (simp only [gTr, holdN, c_1, c_2, c_14, c_15] <;> simp [gTr, holdN]; done) | (simp [c_1, c_2, c_14, c_15, gTr, holdN, Bool.and_assoc]; done) | (simp [c_1, c_2, c_14, c_15, gTr, holdN, Bool.and_assoc, Bool.or_assoc]; done) | rfl | (simp [c_1, c_2, c_14, c_15, gTr, holdN]; omega))) H locs hM hS ls (lv_sub hl [1, 2, 3, 0, 5] rfl)
                      · refine lv_iload hx hb dX3_looksAtTrails_100 (lv_at hl 5 rfl) ?_
                        refine lv_aload_n hx hb dX3_looksAtTrails_102 rfl (lv_at hl 1 rfl) ?_
                        refine gM_longest S hK hM (g 7 7) (by simp only [gO_nf _ _ (show (7 : Nat) ≠ 20 from by decide), gL_nf _ (show (7 : Nat) ≠ 20 from by decide)]) dX3_looksAtTrails_103 ?_
                        have hb_16 : g 7 7 < 1048576 := by first | exact hg 7 7 | exact hg0 _ _ | (have := hg 7 7; omega) | omega
                        rw [← mI_succ k]
                        refine zr_icmp_neM (a := (k + 1)) (b := (g 7 7)) (tgt := 113) hx hb (by omega) (by omega) dX3_looksAtTrails_106 (by decide) (fun c_17 => ?_) (fun c_17 => ?_)
                        · refine lv_iconst (v := nI 0) hx hb dX3_looksAtTrails_113 zi_0 ?_
                          exact J_114 _ (congrArg (fun z : Bool => nI z.toNat) (show (false : Bool) = ((stayMx g k) || ((decide ((trailN g k) = (mxN g 3))) && (decide ((k + 1) = (g 7 7))))) from by first | with_reducible rfl | (simp [c_1, c_2, c_14, c_15, c_17, gTr, holdN]; done) | (simp only [c_1, c_2, c_14, c_15, c_17] <;> simp [gTr, holdN]; done) | (simp only [gTr, holdN, c_1, c_2, c_14, c_15, c_17] <;> simp [gTr, holdN]; done) | (simp [c_1, c_2, c_14, c_15, c_17, gTr, holdN, Bool.and_assoc]; done) | (simp [c_1, c_2, c_14, c_15, c_17, gTr, holdN, Bool.and_assoc, Bool.or_assoc]; done) | rfl | (simp [c_1, c_2, c_14, c_15, c_17, gTr, holdN]; omega))) H locs hM hS ls (lv_sub hl [1, 2, 3, 0, 5] rfl)
                        · refine lv_iconst (v := nI 1) hx hb dX3_looksAtTrails_109 zi_1 ?_
                          refine lv_goto (tgt := 114) hx hb dX3_looksAtTrails_110 (by decide) ?_
                          exact J_114 _ (congrArg (fun z : Bool => nI z.toNat) (show (true : Bool) = ((stayMx g k) || ((decide ((trailN g k) = (mxN g 3))) && (decide ((k + 1) = (g 7 7))))) from by first | with_reducible rfl | (simp [c_1, c_2, c_14, c_15, c_17, gTr, holdN]; done) | (simp only [c_1, c_2, c_14, c_15, c_17] <;> simp [gTr, holdN]; done) | (simp only [gTr, holdN, c_1, c_2, c_14, c_15, c_17] <;> simp [gTr, holdN]; done) | (simp [c_1, c_2, c_14, c_15, c_17, gTr, holdN, Bool.and_assoc]; done) | (simp [c_1, c_2, c_14, c_15, c_17, gTr, holdN, Bool.and_assoc, Bool.or_assoc]; done) | rfl | (simp [c_1, c_2, c_14, c_15, c_17, gTr, holdN]; omega))) H locs hM hS ls (lv_sub hl [1, 2, 3, 0, 5] rfl)
                  refine zr_if_eqB (b := decide ((trailN g k) = (mxN g 3))) (tgt := 88) hx hb dX3_looksAtTrails_80 (by decide) (fun c_18 => ?_) (fun c_18 => ?_)
                  · refine lv_iload_n hx hb dX3_looksAtTrails_88 rfl (lv_at hl 3 rfl) ?_
                    exact J_89 _ (congrArg mI (show (lastMx g k : Nat) = ((if (decide ((trailN g k) = (mxN g 3))) = true then k + 1 else lastMx g k)) from by first | with_reducible rfl | (simp [c_1, c_2, c_18, gTr, holdN]; done) | (simp only [c_1, c_2, c_18] <;> simp [gTr, holdN]; done) | (simp only [gTr, holdN, c_1, c_2, c_18] <;> simp [gTr, holdN]; done) | (simp [c_1, c_2, c_18, gTr, holdN, Bool.and_assoc]; done) | (simp [c_1, c_2, c_18, gTr, holdN, Bool.and_assoc, Bool.or_assoc]; done) | rfl | (simp [c_1, c_2, c_18, gTr, holdN]; omega))) H locs hM hS ls (lv_sub hl [1, 2, 0, 4, 5, 6] rfl)
                  · refine lv_iload hx hb dX3_looksAtTrails_83 (lv_at hl 5 rfl) ?_
                    refine lv_goto (tgt := 89) hx hb dX3_looksAtTrails_85 (by decide) ?_
                    exact J_89 _ ((mI_succ k).symm.trans (congrArg mI (show (k + 1 : Nat) = ((if (decide ((trailN g k) = (mxN g 3))) = true then k + 1 else lastMx g k)) from by first | with_reducible rfl | (simp [c_1, c_2, c_18, gTr, holdN]; done) | (simp only [c_1, c_2, c_18] <;> simp [gTr, holdN]; done) | (simp only [gTr, holdN, c_1, c_2, c_18] <;> simp [gTr, holdN]; done) | (simp [c_1, c_2, c_18, gTr, holdN, Bool.and_assoc]; done) | (simp [c_1, c_2, c_18, gTr, holdN, Bool.and_assoc, Bool.or_assoc]; done) | rfl | (simp [c_1, c_2, c_18, gTr, holdN]; omega)))) H locs hM hS ls (lv_sub hl [1, 2, 0, 4, 5, 6] rfl)
                refine zr_if_eqB (b := decide ((trailN g k) = (mxN g 3))) (tgt := 75) hx hb dX3_looksAtTrails_68 (by decide) (fun c_19 => ?_) (fun c_19 => ?_)
                · refine lv_iconst (v := nI 0) hx hb dX3_looksAtTrails_75 zi_0 ?_
                  exact J_76 _ (congrArg (fun z : Bool => nI z.toNat) (show (false : Bool) = ((decide ((trailN g k) = (mxN g 3)))) from by first | with_reducible rfl | (simp [c_1, c_2, c_19, gTr, holdN]; done) | (simp only [c_1, c_2, c_19] <;> simp [gTr, holdN]; done) | (simp only [gTr, holdN, c_1, c_2, c_19] <;> simp [gTr, holdN]; done) | (simp [c_1, c_2, c_19, gTr, holdN, Bool.and_assoc]; done) | (simp [c_1, c_2, c_19, gTr, holdN, Bool.and_assoc, Bool.or_assoc]; done) | rfl | (simp [c_1, c_2, c_19, gTr, holdN]; omega))) H locs hM hS ls (lv_sub hl [1, 2, 4, 5, 6, 0] rfl)
                · refine lv_iconst (v := nI 1) hx hb dX3_looksAtTrails_71 zi_1 ?_
                  refine lv_goto (tgt := 76) hx hb dX3_looksAtTrails_72 (by decide) ?_
                  exact J_76 _ (congrArg (fun z : Bool => nI z.toNat) (show (true : Bool) = ((decide ((trailN g k) = (mxN g 3)))) from by first | with_reducible rfl | (simp [c_1, c_2, c_19, gTr, holdN]; done) | (simp only [c_1, c_2, c_19] <;> simp [gTr, holdN]; done) | (simp only [gTr, holdN, c_1, c_2, c_19] <;> simp [gTr, holdN]; done) | (simp [c_1, c_2, c_19, gTr, holdN, Bool.and_assoc]; done) | (simp [c_1, c_2, c_19, gTr, holdN, Bool.and_assoc, Bool.or_assoc]; done) | rfl | (simp [c_1, c_2, c_19, gTr, holdN]; omega))) H locs hM hS ls (lv_sub hl [1, 2, 4, 5, 6, 0] rfl)
              refine zr_icmp_neN (a := (trailN g k)) (b := (mxN g 3)) (tgt := 62) hx hb (by omega) (by omega) dX3_looksAtTrails_55 (by decide) (fun c_20 => ?_) (fun c_20 => ?_)
              · refine lv_iconst (v := nI 0) hx hb dX3_looksAtTrails_62 zi_0 ?_
                exact J_63 _ (congrArg (fun z : Bool => nI z.toNat) (show (false : Bool) = (decide ((trailN g k) = (mxN g 3))) from by first | with_reducible rfl | (simp [c_1, c_2, c_20, gTr, holdN]; done) | (simp only [c_1, c_2, c_20] <;> simp [gTr, holdN]; done) | (simp only [gTr, holdN, c_1, c_2, c_20] <;> simp [gTr, holdN]; done) | (simp [c_1, c_2, c_20, gTr, holdN, Bool.and_assoc]; done) | (simp [c_1, c_2, c_20, gTr, holdN, Bool.and_assoc, Bool.or_assoc]; done) | rfl | (simp [c_1, c_2, c_20, gTr, holdN]; omega))) H locs hM hS ls (lv_sub hl [0, 1, 2, 3, 4, 5] rfl)
              · refine lv_iconst (v := nI 1) hx hb dX3_looksAtTrails_58 zi_1 ?_
                refine lv_goto (tgt := 63) hx hb dX3_looksAtTrails_59 (by decide) ?_
                exact J_63 _ (congrArg (fun z : Bool => nI z.toNat) (show (true : Bool) = (decide ((trailN g k) = (mxN g 3))) from by first | with_reducible rfl | (simp [c_1, c_2, c_20, gTr, holdN]; done) | (simp only [c_1, c_2, c_20] <;> simp [gTr, holdN]; done) | (simp only [gTr, holdN, c_1, c_2, c_20] <;> simp [gTr, holdN]; done) | (simp [c_1, c_2, c_20, gTr, holdN, Bool.and_assoc]; done) | (simp [c_1, c_2, c_20, gTr, holdN, Bool.and_assoc, Bool.or_assoc]; done) | rfl | (simp [c_1, c_2, c_20, gTr, holdN]; omega))) H locs hM hS ls (lv_sub hl [0, 1, 2, 3, 4, 5] rfl)
        exact L_42 _ 0 (by first | omega | assumption | (simp; done) | grind) (Nat.lt_succ_self _) _ (rfl) _ (rfl) _ (rfl) (gL g 3) (rfl) hg H locs hM hS ls (lv_sub hl [4, 5, 3, 2, 1, 0] rfl)
      · refine lv_aload_n hx hb dX3_looksAtTrails_9 rfl (lv_at hl 0 rfl) ?_
        refine lv_iload_n hx hb dX3_looksAtTrails_10 rfl (lv_at hl 2 rfl) ?_
        refine kM_trailOf S hK hM hg hS i (by first | omega | assumption | grind) (by (try rw [roadsN_gL]); (try rw [roadsN_gL]); exact h1 _ (by omega)) (Nat.le_of_ble_eq_true rfl) (Nat.le_of_ble_eq_true rfl) hl.1 (Nat.le_of_ble_eq_true rfl) dX3_looksAtTrails_11 (Nat.zero_le _) (Nat.zero_le _) (fun H locs hM hg hS => ?_)
        have f11_0 : trailN (gL g i) i ≤ 8 := trailN_le _ _
        rw [trailN_gL]
        have htl := trailN_le g i
        refine lv_istore_n (lv' := [(3, .int (nI (trailN g i))), (0, .ref (ad 0)), (1, .int (nI (mxN g i))), (2, .int (nI i))]) hx hb dX3_looksAtTrails_14 rfl hl (by decide) rfl (fun ls hl => ?_)
        refine lv_iload_n hx hb dX3_looksAtTrails_15 rfl (lv_at hl 0 rfl) ?_
        refine lv_iload_n hx hb dX3_looksAtTrails_16 rfl (lv_at hl 2 rfl) ?_
        have J_25 : ∀ yS0_25 : Int32, yS0_25 = nI ((if (mxN g i) < (trailN g i) then trailN g i else mxN g i)) → ∀ (H : Heap) (locs : List Loc), MS D dA A ad (gO (gL g i) i 30) H → va_S A s.heap H locs → ∀ ls : Array Slot, lv_has ls 7 [(0, .ref (ad 0)), (2, .int (nI i))] → W pr l en (rmF 6 0 0 130) s m args below meth cd H locs 0 0 (MQ below (zc_Q Post A) args s 0 0 A) (F0 m 25 ls [.int yS0_25]) := by
          intro yS0_25 eyS0_25 H locs hM hS ls hl
          subst eyS0_25
          refine lv_istore_n (lv' := [(1, .int (nI ((if (mxN g i) < (trailN g i) then trailN g i else mxN g i)))), (0, .ref (ad 0)), (2, .int (nI i))]) hx hb dX3_looksAtTrails_25 rfl hl (by decide) rfl (fun ls hl => ?_)
          refine lv_iinc (v := nI (i + 1)) (lv' := [(2, .int (nI (i + 1))), (1, .int (nI ((if (mxN g i) < (trailN g i) then trailN g i else mxN g i)))), (0, .ref (ad 0))]) hx hb dX3_looksAtTrails_26 hl (k := 2) rfl (zk_inc _) (by decide) rfl (fun ls hl => ?_)
          refine lv_goto (tgt := 4) hx hb dX3_looksAtTrails_29 (by decide) ?_
          exact ih_4 (i + 1) (by first | omega | assumption | (simp; done) | grind) (by omega) _ rfl (gO (gL g i) i 30) (rfl) hg H locs hM hS ls (lv_sub hl [2, 1, 0] rfl)
        refine zr_icmp_leN (a := (trailN g i)) (b := (mxN g i)) (tgt := 24) hx hb (by omega) (by omega) dX3_looksAtTrails_17 (by decide) (fun c_22 => ?_) (fun c_22 => ?_)
        · refine lv_iload_n hx hb dX3_looksAtTrails_24 rfl (lv_at hl 2 rfl) ?_
          exact J_25 _ (congrArg nI (show (mxN g i : Nat) = ((if (mxN g i) < (trailN g i) then trailN g i else mxN g i)) from by first | with_reducible rfl | (simp [c_1, c_22, gTr, holdN]; done) | (simp only [c_1, c_22] <;> simp [gTr, holdN]; done) | (simp only [gTr, holdN, c_1, c_22] <;> simp [gTr, holdN]; done) | (simp [c_1, c_22, gTr, holdN, Bool.and_assoc]; done) | (simp [c_1, c_22, gTr, holdN, Bool.and_assoc, Bool.or_assoc]; done) | rfl | (simp [c_1, c_22, gTr, holdN]; omega))) H locs hM hS ls (lv_sub hl [1, 3] rfl)
        · refine lv_iload_n hx hb dX3_looksAtTrails_20 rfl (lv_at hl 0 rfl) ?_
          refine lv_goto (tgt := 25) hx hb dX3_looksAtTrails_21 (by decide) ?_
          exact J_25 _ (congrArg nI (show (trailN g i : Nat) = ((if (mxN g i) < (trailN g i) then trailN g i else mxN g i)) from by first | with_reducible rfl | (simp [c_1, c_22, gTr, holdN]; done) | (simp only [c_1, c_22] <;> simp [gTr, holdN]; done) | (simp only [gTr, holdN, c_1, c_22] <;> simp [gTr, holdN]; done) | (simp [c_1, c_22, gTr, holdN, Bool.and_assoc]; done) | (simp [c_1, c_22, gTr, holdN, Bool.and_assoc, Bool.or_assoc]; done) | rfl | (simp [c_1, c_22, gTr, holdN]; omega))) H locs hM hS ls (lv_sub hl [1, 3] rfl)
  exact L_4 _ 0 (by first | omega | assumption | (simp; done) | grind) (Nat.lt_succ_self _) _ rfl (g) (rfl) hg H0 [] hM hS ls (lv_sub hl [2, 1, 0] rfl)
theorem kM_looksAtTrails {pr : Program} {l : Launch} {en : Env} {R : Room} {s : State} {m : MethodId} {args : Array Value} {below : List Frame} {meth : Method} {cd : Code} {H : Heap} {locs : List Loc} {cells slots : Nat} {Q : State → Prop} {cc : ByteArray} {pc nL : Nat} {ls : Array Slot} {rest : List Value} {D : va_G} {dA : Nat → ClassId} {A : Nat → Prop} {ad : Nat → Nat} {g : G} (S : CallFix pr m cd cc nL s args lw_all RX3) (hK : KT D dA s) (hM : MS D dA A ad g H) (hg : Sm g) (hS : va_S A s.heap H locs) (h1 : ∀ p, p < 3 → roadsN g p 30 ≤ 8) (hf : 6 + 1 ≤ R.frames) (hlo : 8 + (7 + 11) + 130 ≤ R.locals) (hsz : ls.size = nL) (hcat : (rest.map fun v => v.category).sum ≤ 8) (hdg : decode cc pc = .ok (.invokevirtual 156, 3)) (hq1 : cells ≤ R.cells) (hq2 : slots ≤ R.slots) (kk : ∀ (H1 : Heap) (locs1 : List Loc), MS D dA A ad (gTr g) H1 → Sm (gTr g) → va_S A s.heap H1 locs1 → W pr l en R s m args below meth cd H1 locs1 cells slots Q (F0 m (pc + 3) ls (rest))) : W pr l en R s m args below meth cd H locs cells slots Q (F0 m pc ls (.ref (ad 0) :: rest)) :=
  zc_callV (n := 0) (As := []) (rest := rest) S (cM_looksAtTrails l hg h1  H hM (Post := (fun v H1 => v = none ∧ MS D dA A ad (gTr g) H1 ∧ Sm (gTr g))) (fun H1 h h2 => ⟨rfl, h, h2⟩)) (lw_V q1178 q1180 qs40 q76 q1181) (by decide +kernel) ⟨hf, hlo⟩ ⟨hq1, hq2⟩ (zm_recv hK hM) KT_mv (zc_K KT_mv hK hS) hS (fun _ h => h) rfl hsz rfl hcat hdg (fun v H1 locs1 hp _ _ hS1 => by obtain ⟨rfl, hM1, hg1⟩ := hp; exact kk H1 locs1 hM1 hg1 hS1)
set_option maxHeartbeats 1000000 in
set_option maxRecDepth 100000 in
theorem cM_pointsOf (l : Launch) {D : va_G} {dA : Nat → ClassId} {A : Nat → Prop} {ad : Nat → Nat} {g : G} (hg : Sm g) (a1 : Nat) (h1 : a1 < 3) (H0 : Heap) (hM : MS D dA A ad g H0) {Post : Option Value → Heap → Prop} (hPost : Post (some (.int (nI (mPts g a1)))) H0) : Ct l yX3_pointsOf (ws_ yX3_pointsOf cX3_pointsOf 2 (some .int)) (rmF 3 0 0 58) A (KT D dA) [.ref (ad 0), .int (nI a1)] H0 Post := by
  refine zc_of RX3 rfl (by decide) (Nat.le_of_ble_eq_true rfl) ?_
  intro pr en s m args below meth cd S hr hlk hnm hh hK ls hl
  have hS : va_S A s.heap H0 [] := zc_start hh
  have hg0 := hg
  have hx := S.1
  have hb := S.2.1
  have hown := S.2.2.2.1
  have hts := S.2.2.2.2
  have hl : lv_has ls 2 [(0, .ref (ad 0)), (1, .int (nI a1))] := hl
  refine lv_aload_n hx hb dX3_pointsOf_0 rfl (lv_at hl 0 rfl) ?_
  refine lv_iload_n hx hb dX3_pointsOf_1 rfl (lv_at hl 1 rfl) ?_
  refine lv_iconst (v := nI 0) hx hb dX3_pointsOf_2 zi_0 ?_
  refine kM_buildings S hK hM hg hS a1 false (by first | omega | assumption | grind) (Nat.le_of_ble_eq_true rfl) (Nat.le_of_ble_eq_true rfl) hl.1 (Nat.le_of_ble_eq_true rfl) dX3_pointsOf_3 (Nat.zero_le _) (Nat.zero_le _) (fun locs hS => ?_)
  have f3_0 : mBuilds g a1 false 24 ≤ 24 := sm_b _ _
  refine lv_iconst (v := nI 2) hx hb dX3_pointsOf_6 zi_2 ?_
  refine lv_aload_n hx hb dX3_pointsOf_7 rfl (lv_at hl 0 rfl) ?_
  refine lv_iload_n hx hb dX3_pointsOf_8 rfl (lv_at hl 1 rfl) ?_
  refine lv_iconst (v := nI 1) hx hb dX3_pointsOf_9 zi_1 ?_
  refine kM_buildings S hK hM hg hS a1 true (by first | omega | assumption | grind) (Nat.le_of_ble_eq_true rfl) (Nat.le_of_ble_eq_true rfl) hl.1 (Nat.le_of_ble_eq_true rfl) dX3_pointsOf_10 (Nat.zero_le _) (Nat.zero_le _) (fun locs hS => ?_)
  have f10_0 : mBuilds g a1 true 24 ≤ 24 := sm_b _ _
  refine zr_mulN (a := 2) (b := (mBuilds g a1 true 24)) hx hb dX3_pointsOf_13 ?_
  refine zr_addN (a := (mBuilds g a1 false 24)) (b := (2 * (mBuilds g a1 true 24))) hx hb dX3_pointsOf_14 ?_
  refine lv_aload_n hx hb dX3_pointsOf_15 rfl (lv_at hl 0 rfl) ?_
  refine gM_cards S hK hM dX3_pointsOf_16 ?_
  refine lv_iconst (v := nI 5) hx hb dX3_pointsOf_19 zi_5 ?_
  refine lv_iload_n hx hb dX3_pointsOf_20 rfl (lv_at hl 1 rfl) ?_
  refine zr_mulN (a := 5) (b := a1) hx hb dX3_pointsOf_21 ?_
  refine lv_iconst (v := nI 4) hx hb dX3_pointsOf_22 zi_4 ?_
  refine zr_addN (a := (5 * a1)) (b := 4) hx hb dX3_pointsOf_23 ?_
  refine lM_cards S hK hM ((5 * a1) + 4) (by omega) (g 24 ((5 * a1) + 4)) rfl dX3_pointsOf_24 ?_
  have hb_1 : g 24 ((5 * a1) + 4) < 1048576 := by first | exact hg 24 ((5 * a1) + 4) | exact hg0 _ _ | (have := hg 24 ((5 * a1) + 4); omega) | omega
  refine zr_addN (a := ((mBuilds g a1 false 24) + (2 * (mBuilds g a1 true 24)))) (b := (g 24 ((5 * a1) + 4))) hx hb dX3_pointsOf_25 ?_
  refine lv_aload_n hx hb dX3_pointsOf_26 rfl (lv_at hl 0 rfl) ?_
  refine gM_longest S hK hM (g 7 7) rfl dX3_pointsOf_27 ?_
  have hb_2 : g 7 7 < 1048576 := by first | exact hg 7 7 | exact hg0 _ _ | (have := hg 7 7; omega) | omega
  refine lv_iload_n hx hb dX3_pointsOf_30 rfl (lv_at hl 1 rfl) ?_
  have J_39 : ∀ yS0_39 : Int32, yS0_39 = nI ((if (g 7 7) = (a1 + 1) then 2 else 0)) → ∀ (locs : List Loc), va_S A s.heap H0 locs → ∀ ls : Array Slot, lv_has ls 2 [(0, .ref (ad 0)), (1, .int (nI a1))] → W pr l en (rmF 3 0 0 58) s m args below meth cd H0 locs 0 0 (MQ below (zc_Q Post A) args s 0 0 A) (F0 m 39 ls [.int yS0_39, .int (nI (((mBuilds g a1 false 24) + (2 * (mBuilds g a1 true 24))) + (g 24 ((5 * a1) + 4))))]) := by
    intro yS0_39 eyS0_39 locs hS ls hl
    subst eyS0_39
    refine zr_addN (a := (((mBuilds g a1 false 24) + (2 * (mBuilds g a1 true 24))) + (g 24 ((5 * a1) + 4)))) (b := ((if (g 7 7) = (a1 + 1) then 2 else 0))) hx hb dX3_pointsOf_39 ?_
    refine lv_aload_n hx hb dX3_pointsOf_40 rfl (lv_at hl 0 rfl) ?_
    refine gM_army S hK hM (g 7 8) rfl dX3_pointsOf_41 ?_
    have hb_4 : g 7 8 < 1048576 := by first | exact hg 7 8 | exact hg0 _ _ | (have := hg 7 8; omega) | omega
    refine lv_iload_n hx hb dX3_pointsOf_44 rfl (lv_at hl 1 rfl) ?_
    rw [← mI_succ a1]
    refine zr_icmp_neM (a := (g 7 8)) (b := (a1 + 1)) (tgt := 52) hx hb (by omega) (by omega) dX3_pointsOf_45 (by decide) (fun c_5 => ?_) (fun c_5 => ?_)
    · refine lv_iconst (v := nI 0) hx hb dX3_pointsOf_52 zi_0 ?_
      refine zr_addN (a := ((((mBuilds g a1 false 24) + (2 * (mBuilds g a1 true 24))) + (g 24 ((5 * a1) + 4))) + ((if (g 7 7) = (a1 + 1) then 2 else 0)))) (b := 0) hx hb dX3_pointsOf_53 ?_
      exact zc_nret (nI (mPts g a1)) (congrArg nI (show (((((mBuilds g a1 false 24) + (2 * (mBuilds g a1 true 24))) + (g 24 ((5 * a1) + 4))) + ((if (g 7 7) = (a1 + 1) then 2 else 0))) + 0 : Nat) = (mPts g a1) from by first | with_reducible rfl | (simp [c_5, mPts]; done) | (simp only [c_5] <;> simp [mPts]; done) | (simp only [mPts, c_5] <;> simp [mPts]; done) | (simp [c_5, mPts, Bool.and_assoc]; done) | (simp [c_5, mPts, Bool.and_assoc, Bool.or_assoc]; done) | rfl | (simp [c_5, mPts]; omega))) hPost hS hx hb hr hlk (Nat.zero_le _) (Nat.zero_le _) dX3_pointsOf_54
    · refine lv_iconst (v := nI 2) hx hb dX3_pointsOf_48 zi_2 ?_
      refine lv_goto (tgt := 53) hx hb dX3_pointsOf_49 (by decide) ?_
      refine zr_addN (a := ((((mBuilds g a1 false 24) + (2 * (mBuilds g a1 true 24))) + (g 24 ((5 * a1) + 4))) + ((if (g 7 7) = (a1 + 1) then 2 else 0)))) (b := 2) hx hb dX3_pointsOf_53 ?_
      exact zc_nret (nI (mPts g a1)) (congrArg nI (show (((((mBuilds g a1 false 24) + (2 * (mBuilds g a1 true 24))) + (g 24 ((5 * a1) + 4))) + ((if (g 7 7) = (a1 + 1) then 2 else 0))) + 2 : Nat) = (mPts g a1) from by first | with_reducible rfl | (simp [c_5, mPts]; done) | (simp only [c_5] <;> simp [mPts]; done) | (simp only [mPts, c_5] <;> simp [mPts]; done) | (simp [c_5, mPts, Bool.and_assoc]; done) | (simp [c_5, mPts, Bool.and_assoc, Bool.or_assoc]; done) | rfl | (simp [c_5, mPts]; omega))) hPost hS hx hb hr hlk (Nat.zero_le _) (Nat.zero_le _) dX3_pointsOf_54
  rw [← mI_succ a1]
  refine zr_icmp_neM (a := (g 7 7)) (b := (a1 + 1)) (tgt := 38) hx hb (by omega) (by omega) dX3_pointsOf_31 (by decide) (fun c_6 => ?_) (fun c_6 => ?_)
  · refine lv_iconst (v := nI 0) hx hb dX3_pointsOf_38 zi_0 ?_
    exact J_39 _ (congrArg nI (show (0 : Nat) = ((if (g 7 7) = (a1 + 1) then 2 else 0)) from by first | with_reducible rfl | (simp [c_6, mPts]; done) | (simp only [c_6] <;> simp [mPts]; done) | (simp only [mPts, c_6] <;> simp [mPts]; done) | (simp [c_6, mPts, Bool.and_assoc]; done) | (simp [c_6, mPts, Bool.and_assoc, Bool.or_assoc]; done) | rfl | (simp [c_6, mPts]; omega))) locs hS ls (lv_sub hl [0, 1] rfl)
  · refine lv_iconst (v := nI 2) hx hb dX3_pointsOf_34 zi_2 ?_
    refine lv_goto (tgt := 39) hx hb dX3_pointsOf_35 (by decide) ?_
    exact J_39 _ (congrArg nI (show (2 : Nat) = ((if (g 7 7) = (a1 + 1) then 2 else 0)) from by first | with_reducible rfl | (simp [c_6, mPts]; done) | (simp only [c_6] <;> simp [mPts]; done) | (simp only [mPts, c_6] <;> simp [mPts]; done) | (simp [c_6, mPts, Bool.and_assoc]; done) | (simp [c_6, mPts, Bool.and_assoc, Bool.or_assoc]; done) | rfl | (simp [c_6, mPts]; omega))) locs hS ls (lv_sub hl [0, 1] rfl)
theorem kM_pointsOf {pr : Program} {l : Launch} {en : Env} {R : Room} {s : State} {m : MethodId} {args : Array Value} {below : List Frame} {meth : Method} {cd : Code} {H : Heap} {locs : List Loc} {cells slots : Nat} {Q : State → Prop} {cc : ByteArray} {pc nL : Nat} {ls : Array Slot} {rest : List Value} {D : va_G} {dA : Nat → ClassId} {A : Nat → Prop} {ad : Nat → Nat} {g : G} (S : CallFix pr m cd cc nL s args lw_all RX3) (hK : KT D dA s) (hM : MS D dA A ad g H) (hg : Sm g) (hS : va_S A s.heap H locs) (a1 : Nat) (h1 : a1 < 3) (hf : 3 + 1 ≤ R.frames) (hlo : 8 + (2 + 11) + 58 ≤ R.locals) (hsz : ls.size = nL) (hcat : (rest.map fun v => v.category).sum ≤ 8) (hdg : decode cc pc = .ok (.invokevirtual 121, 3)) (hq1 : cells ≤ R.cells) (hq2 : slots ≤ R.slots) (kk : ∀ locs1 : List Loc, va_S A s.heap H locs1 → W pr l en R s m args below meth cd H locs1 cells slots Q (F0 m (pc + 3) ls (.int (nI (mPts g a1)) :: rest))) : W pr l en R s m args below meth cd H locs cells slots Q (F0 m pc ls (.int (nI a1) :: .ref (ad 0) :: rest)) :=
  zc_callV (n := 1) (As := [.int (nI a1)]) (rest := rest) S (cM_pointsOf l hg a1 h1  H hM (Post := (fun v H1 => v = some (.int (nI (mPts g a1))) ∧ H1 = H)) ⟨rfl, rfl⟩) (lw_V q1302 q1304 qs62 q76 q1305) (by decide +kernel) ⟨hf, hlo⟩ ⟨hq1, hq2⟩ (zm_recv hK hM) KT_mv (zc_K KT_mv hK hS) hS (fun _ h => h) rfl hsz rfl hcat hdg (fun v H1 locs1 hp _ _ hS1 => by obtain ⟨rfl, rfl⟩ := hp; exact kk locs1 hS1)
set_option maxHeartbeats 1000000 in
set_option maxRecDepth 100000 in
theorem cM_looksAtWinner (l : Launch) {D : va_G} {dA : Nat → ClassId} {A : Nat → Prop} {ad : Nat → Nat} {g : G} (hg : Sm g) (h1 : g 7 4 < 3) (H0 : Heap) (hM : MS D dA A ad g H0) {Post : Option Value → Heap → Prop} (hPost : ∀ H : Heap, MS D dA A ad (gWin g) H → Sm (gWin g) → Post (none) H) : Ct l yX3_looksAtWinner (ws_ yX3_looksAtWinner cX3_looksAtWinner 1 none) (rmF 4 0 0 79) A (KT D dA) [.ref (ad 0)] H0 Post := by
  refine zc_of RX3 rfl (by decide) (Nat.le_of_ble_eq_true rfl) ?_
  intro pr en s m args below meth cd S hr hlk hnm hh hK ls hl
  have hS : va_S A s.heap H0 [] := zc_start hh
  have hg0 := hg
  have hx := S.1
  have hb := S.2.1
  have hown := S.2.2.2.1
  have hts := S.2.2.2.2
  have hl : lv_has ls 1 [(0, .ref (ad 0))] := hl
  refine lv_aload_n hx hb dX3_looksAtWinner_0 rfl (lv_at hl 0 rfl) ?_
  refine lv_aload_n hx hb dX3_looksAtWinner_1 rfl (lv_at hl 0 rfl) ?_
  refine gM_phase S hK hM (g 7 1) rfl dX3_looksAtWinner_2 ?_
  have hb_1 : g 7 1 < 1048576 := by first | exact hg 7 1 | exact hg0 _ _ | (have := hg 7 1; omega) | omega
  refine zr_if_eqN (a := (g 7 1)) (tgt := 25) hx hb (by omega) dX3_looksAtWinner_5 (by decide) (fun c_2 => ?_) (fun c_2 => ?_)
  · refine lv_aload_n hx hb dX3_looksAtWinner_25 rfl (lv_at hl 0 rfl) ?_
    refine gM_phase S hK hM (g 7 1) rfl dX3_looksAtWinner_26 ?_
    have hb_3 : g 7 1 < 1048576 := by first | exact hg 7 1 | exact hg0 _ _ | (have := hg 7 1; omega) | omega
    refine pM_phase S hK hM hS (g 7 1) dX3_looksAtWinner_29 (fun H locs hM hS => ?_)
    have hg : Sm (gs g 7 1 (g 7 1)) := Sm_gs hg (by first | omega | exact Nat.lt_of_le_of_lt (Bool.toNat_le _) (by decide) | ((repeat' split) <;> omega))
    rw [show (gs g 7 1 (g 7 1) : G) = gWin g from by first | with_reducible rfl | (simp [c_2, gWin]; done) | (simp only [c_2] <;> simp [gWin]; done) | (simp only [gWin, c_2] <;> simp [gWin]; done) | (simp [c_2, gWin, Bool.and_assoc]; done) | (simp [c_2, gWin, Bool.and_assoc, Bool.or_assoc]; done) | rfl | (simp [c_2, gWin]; omega)] at hM hg
    exact zc_vret (hPost H hM hg) hS hx hb hr hlk (Nat.zero_le _) (Nat.zero_le _) dX3_looksAtWinner_32
  · refine lv_aload_n hx hb dX3_looksAtWinner_8 rfl (lv_at hl 0 rfl) ?_
    refine lv_aload_n hx hb dX3_looksAtWinner_9 rfl (lv_at hl 0 rfl) ?_
    refine gM_turn S hK hM (g 7 4) rfl dX3_looksAtWinner_10 ?_
    have hb_4 : g 7 4 < 1048576 := by first | exact hg 7 4 | exact hg0 _ _ | (have := hg 7 4; omega) | omega
    refine kM_pointsOf S hK hM hg hS (g 7 4) (by first | omega | assumption | grind) (Nat.le_of_ble_eq_true rfl) (Nat.le_of_ble_eq_true rfl) hl.1 (Nat.le_of_ble_eq_true rfl) dX3_looksAtWinner_13 (Nat.zero_le _) (Nat.zero_le _) (fun locs hS => ?_)
    have f13_0 : mPts g (g 7 4) < 1048700 := mPts_lt hg _
    refine lv_bipush (v := nI 8) hx hb dX3_looksAtWinner_16 zb_8 ?_
    refine zr_icmp_ltN (a := (mPts g (g 7 4))) (b := 8) (tgt := 25) hx hb (by omega) (by omega) dX3_looksAtWinner_18 (by decide) (fun c_5 => ?_) (fun c_5 => ?_)
    · refine lv_aload_n hx hb dX3_looksAtWinner_25 rfl (lv_at hl 0 rfl) ?_
      refine gM_phase S hK hM (g 7 1) rfl dX3_looksAtWinner_26 ?_
      have hb_6 : g 7 1 < 1048576 := by first | exact hg 7 1 | exact hg0 _ _ | (have := hg 7 1; omega) | omega
      refine pM_phase S hK hM hS (g 7 1) dX3_looksAtWinner_29 (fun H locs hM hS => ?_)
      have hg : Sm (gs g 7 1 (g 7 1)) := Sm_gs hg (by first | omega | exact Nat.lt_of_le_of_lt (Bool.toNat_le _) (by decide) | ((repeat' split) <;> omega))
      rw [show (gs g 7 1 (g 7 1) : G) = gWin g from by first | with_reducible rfl | (simp [c_2, c_5, gWin]; done) | (simp only [c_2, c_5] <;> simp [gWin]; done) | (simp only [gWin, c_2, c_5] <;> simp [gWin]; done) | (simp [c_2, c_5, gWin, Bool.and_assoc]; done) | (simp [c_2, c_5, gWin, Bool.and_assoc, Bool.or_assoc]; done) | rfl | (simp [c_2, c_5, gWin]; omega)] at hM hg
      exact zc_vret (hPost H hM hg) hS hx hb hr hlk (Nat.zero_le _) (Nat.zero_le _) dX3_looksAtWinner_32
    · refine lv_iconst (v := nI 5) hx hb dX3_looksAtWinner_21 zi_5 ?_
      refine lv_goto (tgt := 29) hx hb dX3_looksAtWinner_22 (by decide) ?_
      refine pM_phase S hK hM hS 5 dX3_looksAtWinner_29 (fun H locs hM hS => ?_)
      have hg : Sm (gs g 7 1 5) := Sm_gs hg (by first | omega | exact Nat.lt_of_le_of_lt (Bool.toNat_le _) (by decide) | ((repeat' split) <;> omega))
      rw [show (gs g 7 1 5 : G) = gWin g from by first | with_reducible rfl | (simp [c_2, c_5, gWin]; done) | (simp only [c_2, c_5] <;> simp [gWin]; done) | (simp only [gWin, c_2, c_5] <;> simp [gWin]; done) | (simp [c_2, c_5, gWin, Bool.and_assoc]; done) | (simp [c_2, c_5, gWin, Bool.and_assoc, Bool.or_assoc]; done) | rfl | (simp [c_2, c_5, gWin]; omega)] at hM hg
      exact zc_vret (hPost H hM hg) hS hx hb hr hlk (Nat.zero_le _) (Nat.zero_le _) dX3_looksAtWinner_32
theorem kM_looksAtWinner {pr : Program} {l : Launch} {en : Env} {R : Room} {s : State} {m : MethodId} {args : Array Value} {below : List Frame} {meth : Method} {cd : Code} {H : Heap} {locs : List Loc} {cells slots : Nat} {Q : State → Prop} {cc : ByteArray} {pc nL : Nat} {ls : Array Slot} {rest : List Value} {D : va_G} {dA : Nat → ClassId} {A : Nat → Prop} {ad : Nat → Nat} {g : G} (S : CallFix pr m cd cc nL s args lw_all RX3) (hK : KT D dA s) (hM : MS D dA A ad g H) (hg : Sm g) (hS : va_S A s.heap H locs) (h1 : g 7 4 < 3) (hf : 4 + 1 ≤ R.frames) (hlo : 8 + (1 + 11) + 79 ≤ R.locals) (hsz : ls.size = nL) (hcat : (rest.map fun v => v.category).sum ≤ 8) (hdg : decode cc pc = .ok (.invokevirtual 209, 3)) (hq1 : cells ≤ R.cells) (hq2 : slots ≤ R.slots) (kk : ∀ (H1 : Heap) (locs1 : List Loc), MS D dA A ad (gWin g) H1 → Sm (gWin g) → va_S A s.heap H1 locs1 → W pr l en R s m args below meth cd H1 locs1 cells slots Q (F0 m (pc + 3) ls (rest))) : W pr l en R s m args below meth cd H locs cells slots Q (F0 m pc ls (.ref (ad 0) :: rest)) :=
  zc_callV (n := 0) (As := []) (rest := rest) S (cM_looksAtWinner l hg h1  H hM (Post := (fun v H1 => v = none ∧ MS D dA A ad (gWin g) H1 ∧ Sm (gWin g))) (fun H1 h h2 => ⟨rfl, h, h2⟩)) (lw_V q1298 q1300 qs61 q76 q1301) (by decide +kernel) ⟨hf, hlo⟩ ⟨hq1, hq2⟩ (zm_recv hK hM) KT_mv (zc_K KT_mv hK hS) hS (fun _ h => h) rfl hsz rfl hcat hdg (fun v H1 locs1 hp _ _ hS1 => by obtain ⟨rfl, hM1, hg1⟩ := hp; exact kk H1 locs1 hM1 hg1 hS1)
