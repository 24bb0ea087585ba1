/-! THE MODEL: tests, board, counts (printed by gen/m1.py) -/
def inB (x : Int32) (n : Nat) : Bool := !decide (x < 0) && !decide (nI n ≤ x)
def inR (x : Int32) (lo hi : Nat) : Bool := !decide (x < nI lo) && !decide (nI hi < x)
def goodsB (x : Int32) : Bool := !decide (x < 0) && !decide (nI 99999 < x)
def someB (x : Int32) : Bool := !decide (x ≤ 0) && !decide (nI 99999 < x)
theorem inB_of {x : Int32} {n : Nat} (hn : n < 2 ^ 31) (h : inB x n = true) : ∃ j : Nat, j < n ∧ x = nI j := by
  simp only [inB, Bool.and_eq_true, Bool.not_eq_true', decide_eq_false_iff_not] at h
  obtain ⟨j, hj, rfl⟩ := nI_of h.1
  exact ⟨j, by have := mt (nI_leI hn hj).mpr h.2; omega, rfl⟩
theorem inB_nI {j n : Nat} (hj : j < 2 ^ 31) (hn : n < 2 ^ 31) : inB (nI j) n = decide (j < n) := by
  have h1 := nI_pos hj
  by_cases h : j < n
  · have h2 : ¬ nI n ≤ nI j := mt (nI_leI hn hj).mp (by omega)
    simp [inB, h1, h2, h]
  · have h2 : nI n ≤ nI j := (nI_leI hn hj).mpr (by omega)
    simp [inB, h2, h]
theorem inR_of {x : Int32} {lo hi : Nat} (hl : lo < 2 ^ 31) (hh : hi < 2 ^ 31) (h : inR x lo hi = true) : ∃ j : Nat, lo ≤ j ∧ j ≤ hi ∧ x = nI j := by
  simp only [inR, Bool.and_eq_true, Bool.not_eq_true', decide_eq_false_iff_not] at h
  have h0 : ¬ x < 0 := by
    intro q
    have h3 := h.1
    have h4 : (0 : Int32) ≤ nI lo := nI_pos' hl
    simp only [Int32.le_iff_toInt_le, Int32.lt_iff_toInt_lt] at *
    omega
  obtain ⟨j, hj, rfl⟩ := nI_of h0
  exact ⟨j, by have := mt (nI_ltI hj hl).mpr h.1; omega, by have := mt (nI_ltI hh hj).mpr h.2; omega, rfl⟩
theorem goodsB_of {x : Int32} (h : goodsB x = true) : ∃ j : Nat, j < 100000 ∧ x = nI j := by
  simp only [goodsB, Bool.and_eq_true, Bool.not_eq_true', decide_eq_false_iff_not] at h
  obtain ⟨j, hj, rfl⟩ := nI_of h.1
  exact ⟨j, by have := mt (nI_ltI (by decide : 99999 < 2 ^ 31) hj).mpr h.2; omega, rfl⟩
theorem someB_of {x : Int32} (h : someB x = true) : ∃ j : Nat, 0 < j ∧ j < 100000 ∧ x = nI j := by
  simp only [someB, Bool.and_eq_true, Bool.not_eq_true', decide_eq_false_iff_not] at h
  have h0 : ¬ x < 0 := by
    intro q
    have h3 := h.1
    simp only [Int32.lt_iff_toInt_lt, Int32.le_iff_toInt_le] at *
    omega
  obtain ⟨j, hj, rfl⟩ := nI_of h0
  refine ⟨j, ?_, by have := mt (nI_ltI (by decide : 99999 < 2 ^ 31) hj).mpr h.2; omega, rfl⟩
  have h1 := h.1
  rw [← nI_0] at h1
  have := mt (nI_leI hj (by decide : 0 < 2 ^ 31)).mpr h1
  omega
def bA (e : Nat) : Nat := if e < 6 then e else e - 6
def bB (e : Nat) : Nat := if e < 6 then (e + 1) % 6 else if e < 12 then 6 + 3 * (e - 6) else if e = 29 then 6 else e - 5
theorem bA_lt {e : Nat} (h : e < 30) : bA e < 24 := by unfold bA; split <;> omega
theorem bB_lt {e : Nat} (h : e < 30) : bB e < 24 := by unfold bB; split <;> (try split) <;> (try split) <;> omega
def atE (e c : Nat) : Bool := decide (bA e = c) || decide (bB e = c)
def mOf (h c : Nat) : Bool := if h = 0 then decide (c < 6) else decide (c = h - 1) || (decide (c = h % 6) || (((!decide (c < 6 + 3 * (h - 1))) && decide (c < 6 + 3 * (h - 1) + 4)) || (decide (h = 6) && decide (c = 6))))
/-- the owner of what stands on a corner, plus one -/
def own1 (g : G) (c : Nat) : Nat := if g 2 c = 0 then 0 else (g 2 c - 1) % 3 + 1
theorem own1_lt (g : G) (c : Nat) : own1 g c < 4 := by unfold own1; split <;> omega
def mFree (g : G) (c : Nat) : Bool := decide (g 2 c = 0) && allN 30 (fun e => !(atE e c && (decide (0 < g 2 (bA e)) || decide (0 < g 2 (bB e)))))
def mRoadAt (g : G) (p c but : Nat) : Bool := anyN 30 (fun e => !decide (e + 1 = but) && (decide (g 3 e = p + 1) && atE e c))
def mLeads (g : G) (p e c : Nat) : Bool := decide (own1 g c = p + 1) || (decide (own1 g c = 0) && mRoadAt g p c (e + 1))
def roadsN (g : G) (p i : Nat) : Nat := eu_sm i (fun e => (decide (g 3 e = p + 1)).toNat)
theorem sm_b (n : Nat) (f : Nat → Bool) : eu_sm n (fun i => (f i).toNat) ≤ n := by
  have h : eu_sm n (fun i => (f i).toNat) ≤ eu_sm n (fun _ => 1) := eu_sm_le (fun i _ => by cases f i <;> decide)
  rw [eu_sm_const] at h; omega
def mMayRoad (g : G) (p e : Nat) : Bool := decide (g 3 e = 0) && (decide (roadsN g p 30 < 8) && (mLeads g p e (bA e) || mLeads g p e (bB e)))
def mCity (g : G) (c : Nat) : Bool := decide (3 < g 2 c)
def mBuilds (g : G) (p : Nat) (b : Bool) (i : Nat) : Nat := eu_sm i (fun c => (decide (own1 g c = p + 1) && decide (mCity g c = b)).toNat)
def goes (g : G) (p c : Nat) : Bool := decide (own1 g c = 0) || decide (own1 g c = p + 1)
def mMeet (g : G) (p e f : Nat) : Bool := if atE f (bA e) = true then goes g p (bA e) else if atE f (bB e) = true then goes g p (bB e) else false
def digN (x k : Nat) : Nat := x / 10 ^ k % 10
theorem digN_lt (x k : Nat) : digN x k < 10 := Nat.mod_lt _ (by decide)
def hasG (g : G) (who x : Nat) : Bool := allN 5 (fun k => !decide (g 4 (5 * who + k) < digN x k))
def handN (g : G) (p i : Nat) : Nat := eu_sm i (fun k => g 4 (5 * p + k))
theorem handN_lt {g : G} (hg : Sm g) (p : Nat) : handN g p 5 < 5242880 := by
  have h := fun k => hg 4 (5 * p + k)
  have h0 := h 0
  have h1 := h 1
  have h2 := h 2
  have h3 := h 3
  have h4 := h 4
  show 0 + g 4 (5 * p + 0) + g 4 (5 * p + 1) + g 4 (5 * p + 2) + g 4 (5 * p + 3) + g 4 (5 * p + 4) < _
  omega
def sizeN (x i : Nat) : Nat := eu_sm i (fun k => digN x k)
theorem sizeN_lt (x : Nat) : sizeN x 5 < 50 := by
  have h := fun k => digN_lt x k
  have h0 := h 0
  have h1 := h 1
  have h2 := h 2
  have h3 := h 3
  have h4 := h 4
  show 0 + digN x 0 + digN x 1 + digN x 2 + digN x 3 + digN x 4 < _
  omega
def onesN (x i : Nat) : Nat := eu_sm i (fun k => x / 2 ^ k &&& 1)
theorem onesN_le (x i : Nat) : onesN x i ≤ i := by
  have h : onesN x i ≤ eu_sm i (fun _ => 1) := eu_sm_le (fun k _ => Nat.and_le_right)
  rw [eu_sm_const] at h; omega
set_option maxHeartbeats 1000000 in
set_option maxRecDepth 100000 in
theorem cM_isPlayer (l : Launch) {D : va_G} {dA : Nat → ClassId} {A : Nat → Prop} {ad : Nat → Nat} {g : G} (hg : Sm g) (a1 : Int32) (H0 : Heap) (hM : MS D dA A ad g H0) {Post : Option Value → Heap → Prop} (hPost : Post (some (.int (nI (inB a1 3).toNat))) H0) : Ct l yX3_isPlayer (ws_ yX3_isPlayer cX3_isPlayer 1 (some .boolean)) (rmF 1 0 0 12) A (KT D dA) [.int a1] H0 Post := by
  refine zc_of RX3 rfl (by decide) (Nat.le_of_ble_eq_true rfl) ?_
  intro pr en s m args below meth cd S hr hlk hnm hh hK ls hl
  have hS : va_S A s.heap H0 [] := zc_start hh
  have hg0 := hg
  have hx := S.1
  have hb := S.2.1
  have hown := S.2.2.2.1
  have hts := S.2.2.2.2
  have hl : lv_has ls 1 [(0, .int a1)] := hl
  refine lv_iload_n hx hb dX3_isPlayer_0 rfl (lv_at hl 0 rfl) ?_
  refine lv_if_lt (tgt := 13) hx hb dX3_isPlayer_1 (by decide) (fun c_1 => ?_) (fun c_1 => ?_)
  · refine lv_iconst (v := nI 0) hx hb dX3_isPlayer_13 zi_0 ?_
    exact zc_bret (inB a1 3) (congrArg (fun z : Bool => nI z.toNat) (show (false : Bool) = (inB a1 3) from by first | with_reducible rfl | (simp [c_1, inB]; done) | (simp only [c_1] <;> simp [inB]; done) | (simp only [inB, c_1] <;> simp [inB]; done) | (simp [c_1, inB, Bool.and_assoc]; done) | (simp [c_1, inB, Bool.and_assoc, Bool.or_assoc]; done) | rfl | (simp [c_1, inB]; omega))) hPost hS hx hb hr hlk (Nat.zero_le _) (Nat.zero_le _) dX3_isPlayer_14
  · refine lv_iload_n hx hb dX3_isPlayer_4 rfl (lv_at hl 0 rfl) ?_
    refine lv_iconst (v := nI 3) hx hb dX3_isPlayer_5 zi_3 ?_
    refine lv_icmp_ge (tgt := 13) hx hb dX3_isPlayer_6 (by decide) (fun c_2 => ?_) (fun c_2 => ?_)
    · refine lv_iconst (v := nI 0) hx hb dX3_isPlayer_13 zi_0 ?_
      exact zc_bret (inB a1 3) (congrArg (fun z : Bool => nI z.toNat) (show (false : Bool) = (inB a1 3) from by first | with_reducible rfl | (simp [c_1, c_2, inB]; done) | (simp only [c_1, c_2] <;> simp [inB]; done) | (simp only [inB, c_1, c_2] <;> simp [inB]; done) | (simp [c_1, c_2, inB, Bool.and_assoc]; done) | (simp [c_1, c_2, inB, Bool.and_assoc, Bool.or_assoc]; done) | rfl | (simp [c_1, c_2, inB]; omega))) hPost hS hx hb hr hlk (Nat.zero_le _) (Nat.zero_le _) dX3_isPlayer_14
    · refine lv_iconst (v := nI 1) hx hb dX3_isPlayer_9 zi_1 ?_
      refine lv_goto (tgt := 14) hx hb dX3_isPlayer_10 (by decide) ?_
      exact zc_bret (inB a1 3) (congrArg (fun z : Bool => nI z.toNat) (show (true : Bool) = (inB a1 3) from by first | with_reducible rfl | (simp [c_1, c_2, inB]; done) | (simp only [c_1, c_2] <;> simp [inB]; done) | (simp only [inB, c_1, c_2] <;> simp [inB]; done) | (simp [c_1, c_2, inB, Bool.and_assoc]; done) | (simp [c_1, c_2, inB, Bool.and_assoc, Bool.or_assoc]; done) | rfl | (simp [c_1, c_2, inB]; omega))) hPost hS hx hb hr hlk (Nat.zero_le _) (Nat.zero_le _) dX3_isPlayer_14
theorem kM_isPlayer {pr : Program} {l : Launch} {en : Env} {R : Room} {s : State} {m : MethodId} {args : Array Value} {below : List Frame} {meth : Method} {cd : Code} {H : Heap} {locs : List Loc} {cells slots : Nat} {Q : State → Prop} {cc : ByteArray} {pc nL : Nat} {ls : Array Slot} {rest : List Value} {D : va_G} {dA : Nat → ClassId} {A : Nat → Prop} {ad : Nat → Nat} {g : G} (S : CallFix pr m cd cc nL s args lw_all RX3) (hK : KT D dA s) (hM : MS D dA A ad g H) (hg : Sm g) (hS : va_S A s.heap H locs) (a1 : Int32) (hf : 1 + 1 ≤ R.frames) (hlo : 8 + (1 + 11) + 12 ≤ R.locals) (hsz : ls.size = nL) (hcat : (rest.map fun v => v.category).sum ≤ 8) (hdg : decode cc pc = .ok (.invokestatic 159, 3)) (hq1 : cells ≤ R.cells) (hq2 : slots ≤ R.slots) (kk : ∀ locs1 : List Loc, va_S A s.heap H locs1 → W pr l en R s m args below meth cd H locs1 cells slots Q (F0 m (pc + 3) ls (.int (nI (inB a1 3).toNat) :: rest))) : W pr l en R s m args below meth cd H locs cells slots Q (F0 m pc ls (.int a1 :: rest)) :=
  zc_callS (n := 1) (As := [.int a1]) (rest := rest) S (cM_isPlayer l hg a1  H hM (Post := (fun v H1 => v = some (.int (nI (inB a1 3).toNat)) ∧ H1 = H)) ⟨rfl, rfl⟩) (lw_S q1209 q1210 q76 q1211) (by decide +kernel) ⟨hf, hlo⟩ ⟨hq1, hq2⟩ KT_mv (zc_K KT_mv hK hS) hS (fun _ h => h) rfl hsz rfl hcat hdg (fun v H1 locs1 hp _ _ hS1 => by obtain ⟨rfl, rfl⟩ := hp; exact kk locs1 hS1)
set_option maxHeartbeats 1000000 in
set_option maxRecDepth 100000 in
theorem cM_isCorner (l : Launch) {D : va_G} {dA : Nat → ClassId} {A : Nat → Prop} {ad : Nat → Nat} {g : G} (hg : Sm g) (a1 : Int32) (H0 : Heap) (hM : MS D dA A ad g H0) {Post : Option Value → Heap → Prop} (hPost : Post (some (.int (nI (inB a1 24).toNat))) H0) : Ct l yX3_isCorner (ws_ yX3_isCorner cX3_isCorner 1 (some .boolean)) (rmF 1 0 0 12) A (KT D dA) [.int a1] H0 Post := by
  refine zc_of RX3 rfl (by decide) (Nat.le_of_ble_eq_true rfl) ?_
  intro pr en s m args below meth cd S hr hlk hnm hh hK ls hl
  have hS : va_S A s.heap H0 [] := zc_start hh
  have hg0 := hg
  have hx := S.1
  have hb := S.2.1
  have hown := S.2.2.2.1
  have hts := S.2.2.2.2
  have hl : lv_has ls 1 [(0, .int a1)] := hl
  refine lv_iload_n hx hb dX3_isCorner_0 rfl (lv_at hl 0 rfl) ?_
  refine lv_if_lt (tgt := 14) hx hb dX3_isCorner_1 (by decide) (fun c_1 => ?_) (fun c_1 => ?_)
  · refine lv_iconst (v := nI 0) hx hb dX3_isCorner_14 zi_0 ?_
    exact zc_bret (inB a1 24) (congrArg (fun z : Bool => nI z.toNat) (show (false : Bool) = (inB a1 24) from by first | with_reducible rfl | (simp [c_1, inB]; done) | (simp only [c_1] <;> simp [inB]; done) | (simp only [inB, c_1] <;> simp [inB]; done) | (simp [c_1, inB, Bool.and_assoc]; done) | (simp [c_1, inB, Bool.and_assoc, Bool.or_assoc]; done) | rfl | (simp [c_1, inB]; omega))) hPost hS hx hb hr hlk (Nat.zero_le _) (Nat.zero_le _) dX3_isCorner_15
  · refine lv_iload_n hx hb dX3_isCorner_4 rfl (lv_at hl 0 rfl) ?_
    refine lv_bipush (v := nI 24) hx hb dX3_isCorner_5 zb_24 ?_
    refine lv_icmp_ge (tgt := 14) hx hb dX3_isCorner_7 (by decide) (fun c_2 => ?_) (fun c_2 => ?_)
    · refine lv_iconst (v := nI 0) hx hb dX3_isCorner_14 zi_0 ?_
      exact zc_bret (inB a1 24) (congrArg (fun z : Bool => nI z.toNat) (show (false : Bool) = (inB a1 24) from by first | with_reducible rfl | (simp [c_1, c_2, inB]; done) | (simp only [c_1, c_2] <;> simp [inB]; done) | (simp only [inB, c_1, c_2] <;> simp [inB]; done) | (simp [c_1, c_2, inB, Bool.and_assoc]; done) | (simp [c_1, c_2, inB, Bool.and_assoc, Bool.or_assoc]; done) | rfl | (simp [c_1, c_2, inB]; omega))) hPost hS hx hb hr hlk (Nat.zero_le _) (Nat.zero_le _) dX3_isCorner_15
    · refine lv_iconst (v := nI 1) hx hb dX3_isCorner_10 zi_1 ?_
      refine lv_goto (tgt := 15) hx hb dX3_isCorner_11 (by decide) ?_
      exact zc_bret (inB a1 24) (congrArg (fun z : Bool => nI z.toNat) (show (true : Bool) = (inB a1 24) from by first | with_reducible rfl | (simp [c_1, c_2, inB]; done) | (simp only [c_1, c_2] <;> simp [inB]; done) | (simp only [inB, c_1, c_2] <;> simp [inB]; done) | (simp [c_1, c_2, inB, Bool.and_assoc]; done) | (simp [c_1, c_2, inB, Bool.and_assoc, Bool.or_assoc]; done) | rfl | (simp [c_1, c_2, inB]; omega))) hPost hS hx hb hr hlk (Nat.zero_le _) (Nat.zero_le _) dX3_isCorner_15
theorem kM_isCorner {pr : Program} {l : Launch} {en : Env} {R : Room} {s : State} {m : MethodId} {args : Array Value} {below : List Frame} {meth : Method} {cd : Code} {H : Heap} {locs : List Loc} {cells slots : Nat} {Q : State → Prop} {cc : ByteArray} {pc nL : Nat} {ls : Array Slot} {rest : List Value} {D : va_G} {dA : Nat → ClassId} {A : Nat → Prop} {ad : Nat → Nat} {g : G} (S : CallFix pr m cd cc nL s args lw_all RX3) (hK : KT D dA s) (hM : MS D dA A ad g H) (hg : Sm g) (hS : va_S A s.heap H locs) (a1 : Int32) (hf : 1 + 1 ≤ R.frames) (hlo : 8 + (1 + 11) + 12 ≤ R.locals) (hsz : ls.size = nL) (hcat : (rest.map fun v => v.category).sum ≤ 8) (hdg : decode cc pc = .ok (.invokestatic 140, 3)) (hq1 : cells ≤ R.cells) (hq2 : slots ≤ R.slots) (kk : ∀ locs1 : List Loc, va_S A s.heap H locs1 → W pr l en R s m args below meth cd H locs1 cells slots Q (F0 m (pc + 3) ls (.int (nI (inB a1 24).toNat) :: rest))) : W pr l en R s m args below meth cd H locs cells slots Q (F0 m pc ls (.int a1 :: rest)) :=
  zc_callS (n := 1) (As := [.int a1]) (rest := rest) S (cM_isCorner l hg a1  H hM (Post := (fun v H1 => v = some (.int (nI (inB a1 24).toNat)) ∧ H1 = H)) ⟨rfl, rfl⟩) (lw_S q1148 q1149 q76 q1150) (by decide +kernel) ⟨hf, hlo⟩ ⟨hq1, hq2⟩ KT_mv (zc_K KT_mv hK hS) hS (fun _ h => h) rfl hsz rfl hcat hdg (fun v H1 locs1 hp _ _ hS1 => by obtain ⟨rfl, rfl⟩ := hp; exact kk locs1 hS1)
set_option maxHeartbeats 1000000 in
set_option maxRecDepth 100000 in
theorem cM_isEdge (l : Launch) {D : va_G} {dA : Nat → ClassId} {A : Nat → Prop} {ad : Nat → Nat} {g : G} (hg : Sm g) (a1 : Int32) (H0 : Heap) (hM : MS D dA A ad g H0) {Post : Option Value → Heap → Prop} (hPost : Post (some (.int (nI (inB a1 30).toNat))) H0) : Ct l yX3_isEdge (ws_ yX3_isEdge cX3_isEdge 1 (some .boolean)) (rmF 1 0 0 12) A (KT D dA) [.int a1] H0 Post := by
  refine zc_of RX3 rfl (by decide) (Nat.le_of_ble_eq_true rfl) ?_
  intro pr en s m args below meth cd S hr hlk hnm hh hK ls hl
  have hS : va_S A s.heap H0 [] := zc_start hh
  have hg0 := hg
  have hx := S.1
  have hb := S.2.1
  have hown := S.2.2.2.1
  have hts := S.2.2.2.2
  have hl : lv_has ls 1 [(0, .int a1)] := hl
  refine lv_iload_n hx hb dX3_isEdge_0 rfl (lv_at hl 0 rfl) ?_
  refine lv_if_lt (tgt := 14) hx hb dX3_isEdge_1 (by decide) (fun c_1 => ?_) (fun c_1 => ?_)
  · refine lv_iconst (v := nI 0) hx hb dX3_isEdge_14 zi_0 ?_
    exact zc_bret (inB a1 30) (congrArg (fun z : Bool => nI z.toNat) (show (false : Bool) = (inB a1 30) from by first | with_reducible rfl | (simp [c_1, inB]; done) | (simp only [c_1] <;> simp [inB]; done) | (simp only [inB, c_1] <;> simp [inB]; done) | (simp [c_1, inB, Bool.and_assoc]; done) | (simp [c_1, inB, Bool.and_assoc, Bool.or_assoc]; done) | rfl | (simp [c_1, inB]; omega))) hPost hS hx hb hr hlk (Nat.zero_le _) (Nat.zero_le _) dX3_isEdge_15
  · refine lv_iload_n hx hb dX3_isEdge_4 rfl (lv_at hl 0 rfl) ?_
    refine lv_bipush (v := nI 30) hx hb dX3_isEdge_5 zb_30 ?_
    refine lv_icmp_ge (tgt := 14) hx hb dX3_isEdge_7 (by decide) (fun c_2 => ?_) (fun c_2 => ?_)
    · refine lv_iconst (v := nI 0) hx hb dX3_isEdge_14 zi_0 ?_
      exact zc_bret (inB a1 30) (congrArg (fun z : Bool => nI z.toNat) (show (false : Bool) = (inB a1 30) from by first | with_reducible rfl | (simp [c_1, c_2, inB]; done) | (simp only [c_1, c_2] <;> simp [inB]; done) | (simp only [inB, c_1, c_2] <;> simp [inB]; done) | (simp [c_1, c_2, inB, Bool.and_assoc]; done) | (simp [c_1, c_2, inB, Bool.and_assoc, Bool.or_assoc]; done) | rfl | (simp [c_1, c_2, inB]; omega))) hPost hS hx hb hr hlk (Nat.zero_le _) (Nat.zero_le _) dX3_isEdge_15
    · refine lv_iconst (v := nI 1) hx hb dX3_isEdge_10 zi_1 ?_
      refine lv_goto (tgt := 15) hx hb dX3_isEdge_11 (by decide) ?_
      exact zc_bret (inB a1 30) (congrArg (fun z : Bool => nI z.toNat) (show (true : Bool) = (inB a1 30) from by first | with_reducible rfl | (simp [c_1, c_2, inB]; done) | (simp only [c_1, c_2] <;> simp [inB]; done) | (simp only [inB, c_1, c_2] <;> simp [inB]; done) | (simp [c_1, c_2, inB, Bool.and_assoc]; done) | (simp [c_1, c_2, inB, Bool.and_assoc, Bool.or_assoc]; done) | rfl | (simp [c_1, c_2, inB]; omega))) hPost hS hx hb hr hlk (Nat.zero_le _) (Nat.zero_le _) dX3_isEdge_15
theorem kM_isEdge {pr : Program} {l : Launch} {en : Env} {R : Room} {s : State} {m : MethodId} {args : Array Value} {below : List Frame} {meth : Method} {cd : Code} {H : Heap} {locs : List Loc} {cells slots : Nat} {Q : State → Prop} {cc : ByteArray} {pc nL : Nat} {ls : Array Slot} {rest : List Value} {D : va_G} {dA : Nat → ClassId} {A : Nat → Prop} {ad : Nat → Nat} {g : G} (S : CallFix pr m cd cc nL s args lw_all RX3) (hK : KT D dA s) (hM : MS D dA A ad g H) (hg : Sm g) (hS : va_S A s.heap H locs) (a1 : Int32) (hf : 1 + 1 ≤ R.frames) (hlo : 8 + (1 + 11) + 12 ≤ R.locals) (hsz : ls.size = nL) (hcat : (rest.map fun v => v.category).sum ≤ 8) (hdg : decode cc pc = .ok (.invokestatic 143, 3)) (hq1 : cells ≤ R.cells) (hq2 : slots ≤ R.slots) (kk : ∀ locs1 : List Loc, va_S A s.heap H locs1 → W pr l en R s m args below meth cd H locs1 cells slots Q (F0 m (pc + 3) ls (.int (nI (inB a1 30).toNat) :: rest))) : W pr l en R s m args below meth cd H locs cells slots Q (F0 m pc ls (.int a1 :: rest)) :=
  zc_callS (n := 1) (As := [.int a1]) (rest := rest) S (cM_isEdge l hg a1  H hM (Post := (fun v H1 => v = some (.int (nI (inB a1 30).toNat)) ∧ H1 = H)) ⟨rfl, rfl⟩) (lw_S q1151 q1152 q76 q1153) (by decide +kernel) ⟨hf, hlo⟩ ⟨hq1, hq2⟩ KT_mv (zc_K KT_mv hK hS) hS (fun _ h => h) rfl hsz rfl hcat hdg (fun v H1 locs1 hp _ _ hS1 => by obtain ⟨rfl, rfl⟩ := hp; exact kk locs1 hS1)
set_option maxHeartbeats 1000000 in
set_option maxRecDepth 100000 in
theorem cM_isHex (l : Launch) {D : va_G} {dA : Nat → ClassId} {A : Nat → Prop} {ad : Nat → Nat} {g : G} (hg : Sm g) (a1 : Int32) (H0 : Heap) (hM : MS D dA A ad g H0) {Post : Option Value → Heap → Prop} (hPost : Post (some (.int (nI (inB a1 7).toNat))) H0) : Ct l yX3_isHex (ws_ yX3_isHex cX3_isHex 1 (some .boolean)) (rmF 1 0 0 12) A (KT D dA) [.int a1] H0 Post := by
  refine zc_of RX3 rfl (by decide) (Nat.le_of_ble_eq_true rfl) ?_
  intro pr en s m args below meth cd S hr hlk hnm hh hK ls hl
  have hS : va_S A s.heap H0 [] := zc_start hh
  have hg0 := hg
  have hx := S.1
  have hb := S.2.1
  have hown := S.2.2.2.1
  have hts := S.2.2.2.2
  have hl : lv_has ls 1 [(0, .int a1)] := hl
  refine lv_iload_n hx hb dX3_isHex_0 rfl (lv_at hl 0 rfl) ?_
  refine lv_if_lt (tgt := 14) hx hb dX3_isHex_1 (by decide) (fun c_1 => ?_) (fun c_1 => ?_)
  · refine lv_iconst (v := nI 0) hx hb dX3_isHex_14 zi_0 ?_
    exact zc_bret (inB a1 7) (congrArg (fun z : Bool => nI z.toNat) (show (false : Bool) = (inB a1 7) from by first | with_reducible rfl | (simp [c_1, inB]; done) | (simp only [c_1] <;> simp [inB]; done) | (simp only [inB, c_1] <;> simp [inB]; done) | (simp [c_1, inB, Bool.and_assoc]; done) | (simp [c_1, inB, Bool.and_assoc, Bool.or_assoc]; done) | rfl | (simp [c_1, inB]; omega))) hPost hS hx hb hr hlk (Nat.zero_le _) (Nat.zero_le _) dX3_isHex_15
  · refine lv_iload_n hx hb dX3_isHex_4 rfl (lv_at hl 0 rfl) ?_
    refine lv_bipush (v := nI 7) hx hb dX3_isHex_5 zb_7 ?_
    refine lv_icmp_ge (tgt := 14) hx hb dX3_isHex_7 (by decide) (fun c_2 => ?_) (fun c_2 => ?_)
    · refine lv_iconst (v := nI 0) hx hb dX3_isHex_14 zi_0 ?_
      exact zc_bret (inB a1 7) (congrArg (fun z : Bool => nI z.toNat) (show (false : Bool) = (inB a1 7) from by first | with_reducible rfl | (simp [c_1, c_2, inB]; done) | (simp only [c_1, c_2] <;> simp [inB]; done) | (simp only [inB, c_1, c_2] <;> simp [inB]; done) | (simp [c_1, c_2, inB, Bool.and_assoc]; done) | (simp [c_1, c_2, inB, Bool.and_assoc, Bool.or_assoc]; done) | rfl | (simp [c_1, c_2, inB]; omega))) hPost hS hx hb hr hlk (Nat.zero_le _) (Nat.zero_le _) dX3_isHex_15
    · refine lv_iconst (v := nI 1) hx hb dX3_isHex_10 zi_1 ?_
      refine lv_goto (tgt := 15) hx hb dX3_isHex_11 (by decide) ?_
      exact zc_bret (inB a1 7) (congrArg (fun z : Bool => nI z.toNat) (show (true : Bool) = (inB a1 7) from by first | with_reducible rfl | (simp [c_1, c_2, inB]; done) | (simp only [c_1, c_2] <;> simp [inB]; done) | (simp only [inB, c_1, c_2] <;> simp [inB]; done) | (simp [c_1, c_2, inB, Bool.and_assoc]; done) | (simp [c_1, c_2, inB, Bool.and_assoc, Bool.or_assoc]; done) | rfl | (simp [c_1, c_2, inB]; omega))) hPost hS hx hb hr hlk (Nat.zero_le _) (Nat.zero_le _) dX3_isHex_15
theorem kM_isHex {pr : Program} {l : Launch} {en : Env} {R : Room} {s : State} {m : MethodId} {args : Array Value} {below : List Frame} {meth : Method} {cd : Code} {H : Heap} {locs : List Loc} {cells slots : Nat} {Q : State → Prop} {cc : ByteArray} {pc nL : Nat} {ls : Array Slot} {rest : List Value} {D : va_G} {dA : Nat → ClassId} {A : Nat → Prop} {ad : Nat → Nat} {g : G} (S : CallFix pr m cd cc nL s args lw_all RX3) (hK : KT D dA s) (hM : MS D dA A ad g H) (hg : Sm g) (hS : va_S A s.heap H locs) (a1 : Int32) (hf : 1 + 1 ≤ R.frames) (hlo : 8 + (1 + 11) + 12 ≤ R.locals) (hsz : ls.size = nL) (hcat : (rest.map fun v => v.category).sum ≤ 8) (hdg : decode cc pc = .ok (.invokestatic 124, 3)) (hq1 : cells ≤ R.cells) (hq2 : slots ≤ R.slots) (kk : ∀ locs1 : List Loc, va_S A s.heap H locs1 → W pr l en R s m args below meth cd H locs1 cells slots Q (F0 m (pc + 3) ls (.int (nI (inB a1 7).toNat) :: rest))) : W pr l en R s m args below meth cd H locs cells slots Q (F0 m pc ls (.int a1 :: rest)) :=
  zc_callS (n := 1) (As := [.int a1]) (rest := rest) S (cM_isHex l hg a1  H hM (Post := (fun v H1 => v = some (.int (nI (inB a1 7).toNat)) ∧ H1 = H)) ⟨rfl, rfl⟩) (lw_S q1134 q1135 q76 q1136) (by decide +kernel) ⟨hf, hlo⟩ ⟨hq1, hq2⟩ KT_mv (zc_K KT_mv hK hS) hS (fun _ h => h) rfl hsz rfl hcat hdg (fun v H1 locs1 hp _ _ hS1 => by obtain ⟨rfl, rfl⟩ := hp; exact kk locs1 hS1)
set_option maxHeartbeats 1000000 in
set_option maxRecDepth 100000 in
theorem cM_isGood (l : Launch) {D : va_G} {dA : Nat → ClassId} {A : Nat → Prop} {ad : Nat → Nat} {g : G} (hg : Sm g) (a1 : Int32) (H0 : Heap) (hM : MS D dA A ad g H0) {Post : Option Value → Heap → Prop} (hPost : Post (some (.int (nI (inB a1 5).toNat))) H0) : Ct l yX3_isGood (ws_ yX3_isGood cX3_isGood 1 (some .boolean)) (rmF 1 0 0 12) A (KT D dA) [.int a1] H0 Post := by
  refine zc_of RX3 rfl (by decide) (Nat.le_of_ble_eq_true rfl) ?_
  intro pr en s m args below meth cd S hr hlk hnm hh hK ls hl
  have hS : va_S A s.heap H0 [] := zc_start hh
  have hg0 := hg
  have hx := S.1
  have hb := S.2.1
  have hown := S.2.2.2.1
  have hts := S.2.2.2.2
  have hl : lv_has ls 1 [(0, .int a1)] := hl
  refine lv_iload_n hx hb dX3_isGood_0 rfl (lv_at hl 0 rfl) ?_
  refine lv_if_lt (tgt := 13) hx hb dX3_isGood_1 (by decide) (fun c_1 => ?_) (fun c_1 => ?_)
  · refine lv_iconst (v := nI 0) hx hb dX3_isGood_13 zi_0 ?_
    exact zc_bret (inB a1 5) (congrArg (fun z : Bool => nI z.toNat) (show (false : Bool) = (inB a1 5) from by first | with_reducible rfl | (simp [c_1, inB]; done) | (simp only [c_1] <;> simp [inB]; done) | (simp only [inB, c_1] <;> simp [inB]; done) | (simp [c_1, inB, Bool.and_assoc]; done) | (simp [c_1, inB, Bool.and_assoc, Bool.or_assoc]; done) | rfl | (simp [c_1, inB]; omega))) hPost hS hx hb hr hlk (Nat.zero_le _) (Nat.zero_le _) dX3_isGood_14
  · refine lv_iload_n hx hb dX3_isGood_4 rfl (lv_at hl 0 rfl) ?_
    refine lv_iconst (v := nI 5) hx hb dX3_isGood_5 zi_5 ?_
    refine lv_icmp_ge (tgt := 13) hx hb dX3_isGood_6 (by decide) (fun c_2 => ?_) (fun c_2 => ?_)
    · refine lv_iconst (v := nI 0) hx hb dX3_isGood_13 zi_0 ?_
      exact zc_bret (inB a1 5) (congrArg (fun z : Bool => nI z.toNat) (show (false : Bool) = (inB a1 5) from by first | with_reducible rfl | (simp [c_1, c_2, inB]; done) | (simp only [c_1, c_2] <;> simp [inB]; done) | (simp only [inB, c_1, c_2] <;> simp [inB]; done) | (simp [c_1, c_2, inB, Bool.and_assoc]; done) | (simp [c_1, c_2, inB, Bool.and_assoc, Bool.or_assoc]; done) | rfl | (simp [c_1, c_2, inB]; omega))) hPost hS hx hb hr hlk (Nat.zero_le _) (Nat.zero_le _) dX3_isGood_14
    · refine lv_iconst (v := nI 1) hx hb dX3_isGood_9 zi_1 ?_
      refine lv_goto (tgt := 14) hx hb dX3_isGood_10 (by decide) ?_
      exact zc_bret (inB a1 5) (congrArg (fun z : Bool => nI z.toNat) (show (true : Bool) = (inB a1 5) from by first | with_reducible rfl | (simp [c_1, c_2, inB]; done) | (simp only [c_1, c_2] <;> simp [inB]; done) | (simp only [inB, c_1, c_2] <;> simp [inB]; done) | (simp [c_1, c_2, inB, Bool.and_assoc]; done) | (simp [c_1, c_2, inB, Bool.and_assoc, Bool.or_assoc]; done) | rfl | (simp [c_1, c_2, inB]; omega))) hPost hS hx hb hr hlk (Nat.zero_le _) (Nat.zero_le _) dX3_isGood_14
theorem kM_isGood {pr : Program} {l : Launch} {en : Env} {R : Room} {s : State} {m : MethodId} {args : Array Value} {below : List Frame} {meth : Method} {cd : Code} {H : Heap} {locs : List Loc} {cells slots : Nat} {Q : State → Prop} {cc : ByteArray} {pc nL : Nat} {ls : Array Slot} {rest : List Value} {D : va_G} {dA : Nat → ClassId} {A : Nat → Prop} {ad : Nat → Nat} {g : G} (S : CallFix pr m cd cc nL s args lw_all RX3) (hK : KT D dA s) (hM : MS D dA A ad g H) (hg : Sm g) (hS : va_S A s.heap H locs) (a1 : Int32) (hf : 1 + 1 ≤ R.frames) (hlo : 8 + (1 + 11) + 12 ≤ R.locals) (hsz : ls.size = nL) (hcat : (rest.map fun v => v.category).sum ≤ 8) (hdg : decode cc pc = .ok (.invokestatic 227, 3)) (hq1 : cells ≤ R.cells) (hq2 : slots ≤ R.slots) (kk : ∀ locs1 : List Loc, va_S A s.heap H locs1 → W pr l en R s m args below meth cd H locs1 cells slots Q (F0 m (pc + 3) ls (.int (nI (inB a1 5).toNat) :: rest))) : W pr l en R s m args below meth cd H locs cells slots Q (F0 m pc ls (.int a1 :: rest)) :=
  zc_callS (n := 1) (As := [.int a1]) (rest := rest) S (cM_isGood l hg a1  H hM (Post := (fun v H1 => v = some (.int (nI (inB a1 5).toNat)) ∧ H1 = H)) ⟨rfl, rfl⟩) (lw_S q1345 q1346 q76 q1347) (by decide +kernel) ⟨hf, hlo⟩ ⟨hq1, hq2⟩ KT_mv (zc_K KT_mv hK hS) hS (fun _ h => h) rfl hsz rfl hcat hdg (fun v H1 locs1 hp _ _ hS1 => by obtain ⟨rfl, rfl⟩ := hp; exact kk locs1 hS1)
set_option maxHeartbeats 1000000 in
set_option maxRecDepth 100000 in
theorem cM_in (l : Launch) {D : va_G} {dA : Nat → ClassId} {A : Nat → Prop} {ad : Nat → Nat} {g : G} (hg : Sm g) (a1 : Int32) (a2 : Nat) (a3 : Nat) (H0 : Heap) (hM : MS D dA A ad g H0) {Post : Option Value → Heap → Prop} (hPost : Post (some (.int (nI (inR a1 a2 a3).toNat))) H0) : Ct l yX3_in (ws_ yX3_in cX3_in 3 (some .boolean)) (rmF 1 0 0 14) A (KT D dA) [.int a1, .int (nI a2), .int (nI a3)] H0 Post := by
  refine zc_of RX3 rfl (by decide) (Nat.le_of_ble_eq_true rfl) ?_
  intro pr en s m args below meth cd S hr hlk hnm hh hK ls hl
  have hS : va_S A s.heap H0 [] := zc_start hh
  have hg0 := hg
  have hx := S.1
  have hb := S.2.1
  have hown := S.2.2.2.1
  have hts := S.2.2.2.2
  have hl : lv_has ls 3 [(0, .int a1), (1, .int (nI a2)), (2, .int (nI a3))] := hl
  refine lv_iload_n hx hb dX3_in_0 rfl (lv_at hl 0 rfl) ?_
  refine lv_iload_n hx hb dX3_in_1 rfl (lv_at hl 1 rfl) ?_
  refine lv_icmp_lt (tgt := 14) hx hb dX3_in_2 (by decide) (fun c_1 => ?_) (fun c_1 => ?_)
  · refine lv_iconst (v := nI 0) hx hb dX3_in_14 zi_0 ?_
    exact zc_bret (inR a1 a2 a3) (congrArg (fun z : Bool => nI z.toNat) (show (false : Bool) = (inR a1 a2 a3) from by first | with_reducible rfl | (simp [c_1, inR]; done) | (simp only [c_1] <;> simp [inR]; done) | (simp only [inR, c_1] <;> simp [inR]; done) | (simp [c_1, inR, Bool.and_assoc]; done) | (simp [c_1, inR, Bool.and_assoc, Bool.or_assoc]; done) | rfl | (simp [c_1, inR]; omega))) hPost hS hx hb hr hlk (Nat.zero_le _) (Nat.zero_le _) dX3_in_15
  · refine lv_iload_n hx hb dX3_in_5 rfl (lv_at hl 0 rfl) ?_
    refine lv_iload_n hx hb dX3_in_6 rfl (lv_at hl 2 rfl) ?_
    refine lv_icmp_gt (tgt := 14) hx hb dX3_in_7 (by decide) (fun c_2 => ?_) (fun c_2 => ?_)
    · refine lv_iconst (v := nI 0) hx hb dX3_in_14 zi_0 ?_
      exact zc_bret (inR a1 a2 a3) (congrArg (fun z : Bool => nI z.toNat) (show (false : Bool) = (inR a1 a2 a3) from by first | with_reducible rfl | (simp [c_1, c_2, inR]; done) | (simp only [c_1, c_2] <;> simp [inR]; done) | (simp only [inR, c_1, c_2] <;> simp [inR]; done) | (simp [c_1, c_2, inR, Bool.and_assoc]; done) | (simp [c_1, c_2, inR, Bool.and_assoc, Bool.or_assoc]; done) | rfl | (simp [c_1, c_2, inR]; omega))) hPost hS hx hb hr hlk (Nat.zero_le _) (Nat.zero_le _) dX3_in_15
    · refine lv_iconst (v := nI 1) hx hb dX3_in_10 zi_1 ?_
      refine lv_goto (tgt := 15) hx hb dX3_in_11 (by decide) ?_
      exact zc_bret (inR a1 a2 a3) (congrArg (fun z : Bool => nI z.toNat) (show (true : Bool) = (inR a1 a2 a3) from by first | with_reducible rfl | (simp [c_1, c_2, inR]; done) | (simp only [c_1, c_2] <;> simp [inR]; done) | (simp only [inR, c_1, c_2] <;> simp [inR]; done) | (simp [c_1, c_2, inR, Bool.and_assoc]; done) | (simp [c_1, c_2, inR, Bool.and_assoc, Bool.or_assoc]; done) | rfl | (simp [c_1, c_2, inR]; omega))) hPost hS hx hb hr hlk (Nat.zero_le _) (Nat.zero_le _) dX3_in_15
theorem kM_in {pr : Program} {l : Launch} {en : Env} {R : Room} {s : State} {m : MethodId} {args : Array Value} {below : List Frame} {meth : Method} {cd : Code} {H : Heap} {locs : List Loc} {cells slots : Nat} {Q : State → Prop} {cc : ByteArray} {pc nL : Nat} {ls : Array Slot} {rest : List Value} {D : va_G} {dA : Nat → ClassId} {A : Nat → Prop} {ad : Nat → Nat} {g : G} (S : CallFix pr m cd cc nL s args lw_all RX3) (hK : KT D dA s) (hM : MS D dA A ad g H) (hg : Sm g) (hS : va_S A s.heap H locs) (a1 : Int32) (a2 : Nat) (a3 : Nat) (hf : 1 + 1 ≤ R.frames) (hlo : 8 + (3 + 11) + 14 ≤ R.locals) (hsz : ls.size = nL) (hcat : (rest.map fun v => v.category).sum ≤ 8) (hdg : decode cc pc = .ok (.invokestatic 131, 3)) (hq1 : cells ≤ R.cells) (hq2 : slots ≤ R.slots) (kk : ∀ locs1 : List Loc, va_S A s.heap H locs1 → W pr l en R s m args below meth cd H locs1 cells slots Q (F0 m (pc + 3) ls (.int (nI (inR a1 a2 a3).toNat) :: rest))) : W pr l en R s m args below meth cd H locs cells slots Q (F0 m pc ls (.int (nI a3) :: .int (nI a2) :: .int a1 :: rest)) :=
  zc_callS (n := 3) (As := [.int a1, .int (nI a2), .int (nI a3)]) (rest := rest) S (cM_in l hg a1 a2 a3  H hM (Post := (fun v H1 => v = some (.int (nI (inR a1 a2 a3).toNat)) ∧ H1 = H)) ⟨rfl, rfl⟩) (lw_S q1141 q1142 q76 q1143) (by decide +kernel) ⟨hf, hlo⟩ ⟨hq1, hq2⟩ KT_mv (zc_K KT_mv hK hS) hS (fun _ h => h) rfl hsz rfl hcat hdg (fun v H1 locs1 hp _ _ hS1 => by obtain ⟨rfl, rfl⟩ := hp; exact kk locs1 hS1)
set_option maxHeartbeats 1000000 in
set_option maxRecDepth 100000 in
theorem cM_areGoods (l : Launch) {D : va_G} {dA : Nat → ClassId} {A : Nat → Prop} {ad : Nat → Nat} {g : G} (hg : Sm g) (a1 : Int32) (H0 : Heap) (hM : MS D dA A ad g H0) {Post : Option Value → Heap → Prop} (hPost : Post (some (.int (nI (goodsB a1).toNat))) H0) : Ct l yX3_areGoods (ws_ yX3_areGoods cX3_areGoods 1 (some .boolean)) (rmF 1 0 0 12) A (KT D dA) [.int a1] H0 Post := by
  refine zc_of RX3 rfl (by decide) (Nat.le_of_ble_eq_true rfl) ?_
  intro pr en s m args below meth cd S hr hlk hnm hh hK ls hl
  have hS : va_S A s.heap H0 [] := zc_start hh
  have hg0 := hg
  have hx := S.1
  have hb := S.2.1
  have hown := S.2.2.2.1
  have hts := S.2.2.2.2
  have hl : lv_has ls 1 [(0, .int a1)] := hl
  refine lv_iload_n hx hb dX3_areGoods_0 rfl (lv_at hl 0 rfl) ?_
  refine lv_if_lt (tgt := 14) hx hb dX3_areGoods_1 (by decide) (fun c_1 => ?_) (fun c_1 => ?_)
  · refine lv_iconst (v := nI 0) hx hb dX3_areGoods_14 zi_0 ?_
    exact zc_bret (goodsB a1) (congrArg (fun z : Bool => nI z.toNat) (show (false : Bool) = (goodsB a1) from by first | with_reducible rfl | (simp [c_1, goodsB]; done) | (simp only [c_1] <;> simp [goodsB]; done) | (simp only [goodsB, c_1] <;> simp [goodsB]; done) | (simp [c_1, goodsB, Bool.and_assoc]; done) | (simp [c_1, goodsB, Bool.and_assoc, Bool.or_assoc]; done) | rfl | (simp [c_1, goodsB]; omega))) hPost hS hx hb hr hlk (Nat.zero_le _) (Nat.zero_le _) dX3_areGoods_15
  · refine lv_iload_n hx hb dX3_areGoods_4 rfl (lv_at hl 0 rfl) ?_
    refine lv_ldc (v := nI 99999) hx hb hown (hts _ q1215) dX3_areGoods_5 ?_
    refine lv_icmp_gt (tgt := 14) hx hb dX3_areGoods_7 (by decide) (fun c_2 => ?_) (fun c_2 => ?_)
    · refine lv_iconst (v := nI 0) hx hb dX3_areGoods_14 zi_0 ?_
      exact zc_bret (goodsB a1) (congrArg (fun z : Bool => nI z.toNat) (show (false : Bool) = (goodsB a1) from by first | with_reducible rfl | (simp [c_1, c_2, goodsB]; done) | (simp only [c_1, c_2] <;> simp [goodsB]; done) | (simp only [goodsB, c_1, c_2] <;> simp [goodsB]; done) | (simp [c_1, c_2, goodsB, Bool.and_assoc]; done) | (simp [c_1, c_2, goodsB, Bool.and_assoc, Bool.or_assoc]; done) | rfl | (simp [c_1, c_2, goodsB]; omega))) hPost hS hx hb hr hlk (Nat.zero_le _) (Nat.zero_le _) dX3_areGoods_15
    · refine lv_iconst (v := nI 1) hx hb dX3_areGoods_10 zi_1 ?_
      refine lv_goto (tgt := 15) hx hb dX3_areGoods_11 (by decide) ?_
      exact zc_bret (goodsB a1) (congrArg (fun z : Bool => nI z.toNat) (show (true : Bool) = (goodsB a1) from by first | with_reducible rfl | (simp [c_1, c_2, goodsB]; done) | (simp only [c_1, c_2] <;> simp [goodsB]; done) | (simp only [goodsB, c_1, c_2] <;> simp [goodsB]; done) | (simp [c_1, c_2, goodsB, Bool.and_assoc]; done) | (simp [c_1, c_2, goodsB, Bool.and_assoc, Bool.or_assoc]; done) | rfl | (simp [c_1, c_2, goodsB]; omega))) hPost hS hx hb hr hlk (Nat.zero_le _) (Nat.zero_le _) dX3_areGoods_15
theorem kM_areGoods {pr : Program} {l : Launch} {en : Env} {R : Room} {s : State} {m : MethodId} {args : Array Value} {below : List Frame} {meth : Method} {cd : Code} {H : Heap} {locs : List Loc} {cells slots : Nat} {Q : State → Prop} {cc : ByteArray} {pc nL : Nat} {ls : Array Slot} {rest : List Value} {D : va_G} {dA : Nat → ClassId} {A : Nat → Prop} {ad : Nat → Nat} {g : G} (S : CallFix pr m cd cc nL s args lw_all RX3) (hK : KT D dA s) (hM : MS D dA A ad g H) (hg : Sm g) (hS : va_S A s.heap H locs) (a1 : Int32) (hf : 1 + 1 ≤ R.frames) (hlo : 8 + (1 + 11) + 12 ≤ R.locals) (hsz : ls.size = nL) (hcat : (rest.map fun v => v.category).sum ≤ 8) (hdg : decode cc pc = .ok (.invokestatic 162, 3)) (hq1 : cells ≤ R.cells) (hq2 : slots ≤ R.slots) (kk : ∀ locs1 : List Loc, va_S A s.heap H locs1 → W pr l en R s m args below meth cd H locs1 cells slots Q (F0 m (pc + 3) ls (.int (nI (goodsB a1).toNat) :: rest))) : W pr l en R s m args below meth cd H locs cells slots Q (F0 m pc ls (.int a1 :: rest)) :=
  zc_callS (n := 1) (As := [.int a1]) (rest := rest) S (cM_areGoods l hg a1  H hM (Post := (fun v H1 => v = some (.int (nI (goodsB a1).toNat)) ∧ H1 = H)) ⟨rfl, rfl⟩) (lw_S q1212 q1213 q76 q1214) (by decide +kernel) ⟨hf, hlo⟩ ⟨hq1, hq2⟩ KT_mv (zc_K KT_mv hK hS) hS (fun _ h => h) rfl hsz rfl hcat hdg (fun v H1 locs1 hp _ _ hS1 => by obtain ⟨rfl, rfl⟩ := hp; exact kk locs1 hS1)
set_option maxHeartbeats 1000000 in
set_option maxRecDepth 100000 in
theorem cM_isSome (l : Launch) {D : va_G} {dA : Nat → ClassId} {A : Nat → Prop} {ad : Nat → Nat} {g : G} (hg : Sm g) (a1 : Int32) (H0 : Heap) (hM : MS D dA A ad g H0) {Post : Option Value → Heap → Prop} (hPost : Post (some (.int (nI (someB a1).toNat))) H0) : Ct l yX3_isSome (ws_ yX3_isSome cX3_isSome 1 (some .boolean)) (rmF 1 0 0 12) A (KT D dA) [.int a1] H0 Post := by
  refine zc_of RX3 rfl (by decide) (Nat.le_of_ble_eq_true rfl) ?_
  intro pr en s m args below meth cd S hr hlk hnm hh hK ls hl
  have hS : va_S A s.heap H0 [] := zc_start hh
  have hg0 := hg
  have hx := S.1
  have hb := S.2.1
  have hown := S.2.2.2.1
  have hts := S.2.2.2.2
  have hl : lv_has ls 1 [(0, .int a1)] := hl
  refine lv_iload_n hx hb dX3_isSome_0 rfl (lv_at hl 0 rfl) ?_
  refine lv_if_le (tgt := 14) hx hb dX3_isSome_1 (by decide) (fun c_1 => ?_) (fun c_1 => ?_)
  · refine lv_iconst (v := nI 0) hx hb dX3_isSome_14 zi_0 ?_
    exact zc_bret (someB a1) (congrArg (fun z : Bool => nI z.toNat) (show (false : Bool) = (someB a1) from by first | with_reducible rfl | (simp [c_1, someB]; done) | (simp only [c_1] <;> simp [someB]; done) | (simp only [someB, c_1] <;> simp [someB]; done) | (simp [c_1, someB, Bool.and_assoc]; done) | (simp [c_1, someB, Bool.and_assoc, Bool.or_assoc]; done) | rfl | (simp [c_1, someB]; omega))) hPost hS hx hb hr hlk (Nat.zero_le _) (Nat.zero_le _) dX3_isSome_15
  · refine lv_iload_n hx hb dX3_isSome_4 rfl (lv_at hl 0 rfl) ?_
    refine lv_ldc (v := nI 99999) hx hb hown (hts _ q1215) dX3_isSome_5 ?_
    refine lv_icmp_gt (tgt := 14) hx hb dX3_isSome_7 (by decide) (fun c_2 => ?_) (fun c_2 => ?_)
    · refine lv_iconst (v := nI 0) hx hb dX3_isSome_14 zi_0 ?_
      exact zc_bret (someB a1) (congrArg (fun z : Bool => nI z.toNat) (show (false : Bool) = (someB a1) from by first | with_reducible rfl | (simp [c_1, c_2, someB]; done) | (simp only [c_1, c_2] <;> simp [someB]; done) | (simp only [someB, c_1, c_2] <;> simp [someB]; done) | (simp [c_1, c_2, someB, Bool.and_assoc]; done) | (simp [c_1, c_2, someB, Bool.and_assoc, Bool.or_assoc]; done) | rfl | (simp [c_1, c_2, someB]; omega))) hPost hS hx hb hr hlk (Nat.zero_le _) (Nat.zero_le _) dX3_isSome_15
    · refine lv_iconst (v := nI 1) hx hb dX3_isSome_10 zi_1 ?_
      refine lv_goto (tgt := 15) hx hb dX3_isSome_11 (by decide) ?_
      exact zc_bret (someB a1) (congrArg (fun z : Bool => nI z.toNat) (show (true : Bool) = (someB a1) from by first | with_reducible rfl | (simp [c_1, c_2, someB]; done) | (simp only [c_1, c_2] <;> simp [someB]; done) | (simp only [someB, c_1, c_2] <;> simp [someB]; done) | (simp [c_1, c_2, someB, Bool.and_assoc]; done) | (simp [c_1, c_2, someB, Bool.and_assoc, Bool.or_assoc]; done) | rfl | (simp [c_1, c_2, someB]; omega))) hPost hS hx hb hr hlk (Nat.zero_le _) (Nat.zero_le _) dX3_isSome_15
theorem kM_isSome {pr : Program} {l : Launch} {en : Env} {R : Room} {s : State} {m : MethodId} {args : Array Value} {below : List Frame} {meth : Method} {cd : Code} {H : Heap} {locs : List Loc} {cells slots : Nat} {Q : State → Prop} {cc : ByteArray} {pc nL : Nat} {ls : Array Slot} {rest : List Value} {D : va_G} {dA : Nat → ClassId} {A : Nat → Prop} {ad : Nat → Nat} {g : G} (S : CallFix pr m cd cc nL s args lw_all RX3) (hK : KT D dA s) (hM : MS D dA A ad g H) (hg : Sm g) (hS : va_S A s.heap H locs) (a1 : Int32) (hf : 1 + 1 ≤ R.frames) (hlo : 8 + (1 + 11) + 12 ≤ R.locals) (hsz : ls.size = nL) (hcat : (rest.map fun v => v.category).sum ≤ 8) (hdg : decode cc pc = .ok (.invokestatic 243, 3)) (hq1 : cells ≤ R.cells) (hq2 : slots ≤ R.slots) (kk : ∀ locs1 : List Loc, va_S A s.heap H locs1 → W pr l en R s m args below meth cd H locs1 cells slots Q (F0 m (pc + 3) ls (.int (nI (someB a1).toNat) :: rest))) : W pr l en R s m args below meth cd H locs cells slots Q (F0 m pc ls (.int a1 :: rest)) :=
  zc_callS (n := 1) (As := [.int a1]) (rest := rest) S (cM_isSome l hg a1  H hM (Post := (fun v H1 => v = some (.int (nI (someB a1).toNat)) ∧ H1 = H)) ⟨rfl, rfl⟩) (lw_S q1368 q1369 q76 q1370) (by decide +kernel) ⟨hf, hlo⟩ ⟨hq1, hq2⟩ KT_mv (zc_K KT_mv hK hS) hS (fun _ h => h) rfl hsz rfl hcat hdg (fun v H1 locs1 hp _ _ hS1 => by obtain ⟨rfl, rfl⟩ := hp; exact kk locs1 hS1)
set_option maxHeartbeats 1000000 in
set_option maxRecDepth 100000 in
theorem cM_oneEnd (l : Launch) {D : va_G} {dA : Nat → ClassId} {A : Nat → Prop} {ad : Nat → Nat} {g : G} (hg : Sm g) (a1 : Nat) (h1 : a1 < 30) (H0 : Heap) (hM : MS D dA A ad g H0) {Post : Option Value → Heap → Prop} (hPost : Post (some (.int (nI (bA a1)))) H0) : Ct l yX3_oneEnd (ws_ yX3_oneEnd cX3_oneEnd 1 (some .int)) (rmF 1 0 0 12) A (KT D dA) [.int (nI a1)] H0 Post := by
  refine zc_of RX3 rfl (by decide) (Nat.le_of_ble_eq_true rfl) ?_
  intro pr en s m args below meth cd S hr hlk hnm hh hK ls hl
  have hS : va_S A s.heap H0 [] := zc_start hh
  have hg0 := hg
  have hx := S.1
  have hb := S.2.1
  have hown := S.2.2.2.1
  have hts := S.2.2.2.2
  have hl : lv_has ls 1 [(0, .int (nI a1))] := hl
  refine lv_iload_n hx hb dX3_oneEnd_0 rfl (lv_at hl 0 rfl) ?_
  refine lv_bipush (v := nI 6) hx hb dX3_oneEnd_1 zb_6 ?_
  refine zr_icmp_geN (a := a1) (b := 6) (tgt := 10) hx hb (by omega) (by omega) dX3_oneEnd_3 (by decide) (fun c_1 => ?_) (fun c_1 => ?_)
  · refine lv_iload_n hx hb dX3_oneEnd_10 rfl (lv_at hl 0 rfl) ?_
    refine lv_bipush (v := nI 12) hx hb dX3_oneEnd_11 zb_12 ?_
    refine zr_icmp_geN (a := a1) (b := 12) (tgt := 23) hx hb (by omega) (by omega) dX3_oneEnd_13 (by decide) (fun c_2 => ?_) (fun c_2 => ?_)
    · refine lv_iload_n hx hb dX3_oneEnd_23 rfl (lv_at hl 0 rfl) ?_
      refine lv_bipush (v := nI 6) hx hb dX3_oneEnd_24 zb_6 ?_
      refine zr_subN (a := a1) (b := 6) hx hb (by omega) dX3_oneEnd_26 ?_
      exact zc_nret (nI (bA a1)) (congrArg nI (show (a1 - 6 : Nat) = (bA a1) from by first | with_reducible rfl | (simp [c_1, c_2, bA]; done) | (simp only [c_1, c_2] <;> simp [bA]; done) | (simp only [bA, c_1, c_2] <;> simp [bA]; done) | (simp [c_1, c_2, bA, Bool.and_assoc]; done) | (simp [c_1, c_2, bA, Bool.and_assoc, Bool.or_assoc]; done) | rfl | (simp [c_1, c_2, bA]; omega))) hPost hS hx hb hr hlk (Nat.zero_le _) (Nat.zero_le _) dX3_oneEnd_27
    · refine lv_iload_n hx hb dX3_oneEnd_16 rfl (lv_at hl 0 rfl) ?_
      refine lv_bipush (v := nI 6) hx hb dX3_oneEnd_17 zb_6 ?_
      refine zr_subN (a := a1) (b := 6) hx hb (by omega) dX3_oneEnd_19 ?_
      refine lv_goto (tgt := 27) hx hb dX3_oneEnd_20 (by decide) ?_
      exact zc_nret (nI (bA a1)) (congrArg nI (show (a1 - 6 : Nat) = (bA a1) from by first | with_reducible rfl | (simp [c_1, c_2, bA]; done) | (simp only [c_1, c_2] <;> simp [bA]; done) | (simp only [bA, c_1, c_2] <;> simp [bA]; done) | (simp [c_1, c_2, bA, Bool.and_assoc]; done) | (simp [c_1, c_2, bA, Bool.and_assoc, Bool.or_assoc]; done) | rfl | (simp [c_1, c_2, bA]; omega))) hPost hS hx hb hr hlk (Nat.zero_le _) (Nat.zero_le _) dX3_oneEnd_27
  · refine lv_iload_n hx hb dX3_oneEnd_6 rfl (lv_at hl 0 rfl) ?_
    refine lv_goto (tgt := 27) hx hb dX3_oneEnd_7 (by decide) ?_
    exact zc_nret (nI (bA a1)) (congrArg nI (show (a1 : Nat) = (bA a1) from by first | with_reducible rfl | (simp [c_1, bA]; done) | (simp only [c_1] <;> simp [bA]; done) | (simp only [bA, c_1] <;> simp [bA]; done) | (simp [c_1, bA, Bool.and_assoc]; done) | (simp [c_1, bA, Bool.and_assoc, Bool.or_assoc]; done) | rfl | (simp [c_1, bA]; omega))) hPost hS hx hb hr hlk (Nat.zero_le _) (Nat.zero_le _) dX3_oneEnd_27
theorem kM_oneEnd {pr : Program} {l : Launch} {en : Env} {R : Room} {s : State} {m : MethodId} {args : Array Value} {below : List Frame} {meth : Method} {cd : Code} {H : Heap} {locs : List Loc} {cells slots : Nat} {Q : State → Prop} {cc : ByteArray} {pc nL : Nat} {ls : Array Slot} {rest : List Value} {D : va_G} {dA : Nat → ClassId} {A : Nat → Prop} {ad : Nat → Nat} {g : G} (S : CallFix pr m cd cc nL s args lw_all RX3) (hK : KT D dA s) (hM : MS D dA A ad g H) (hg : Sm g) (hS : va_S A s.heap H locs) (a1 : Nat) (h1 : a1 < 30) (hf : 1 + 1 ≤ R.frames) (hlo : 8 + (1 + 11) + 12 ≤ R.locals) (hsz : ls.size = nL) (hcat : (rest.map fun v => v.category).sum ≤ 8) (hdg : decode cc pc = .ok (.invokestatic 63, 3)) (hq1 : cells ≤ R.cells) (hq2 : slots ≤ R.slots) (kk : ∀ locs1 : List Loc, va_S A s.heap H locs1 → W pr l en R s m args below meth cd H locs1 cells slots Q (F0 m (pc + 3) ls (.int (nI (bA a1)) :: rest))) : W pr l en R s m args below meth cd H locs cells slots Q (F0 m pc ls (.int (nI a1) :: rest)) :=
  zc_callS (n := 1) (As := [.int (nI a1)]) (rest := rest) S (cM_oneEnd l hg a1 h1  H hM (Post := (fun v H1 => v = some (.int (nI (bA a1))) ∧ H1 = H)) ⟨rfl, rfl⟩) (lw_S q1161 q1162 q76 q1163) (by decide +kernel) ⟨hf, hlo⟩ ⟨hq1, hq2⟩ KT_mv (zc_K KT_mv hK hS) hS (fun _ h => h) rfl hsz rfl hcat hdg (fun v H1 locs1 hp _ _ hS1 => by obtain ⟨rfl, rfl⟩ := hp; exact kk locs1 hS1)
set_option maxHeartbeats 1000000 in
set_option maxRecDepth 100000 in
theorem cM_otherEnd (l : Launch) {D : va_G} {dA : Nat → ClassId} {A : Nat → Prop} {ad : Nat → Nat} {g : G} (hg : Sm g) (a1 : Nat) (h1 : a1 < 30) (H0 : Heap) (hM : MS D dA A ad g H0) {Post : Option Value → Heap → Prop} (hPost : Post (some (.int (nI (bB a1)))) H0) : Ct l yX3_otherEnd (ws_ yX3_otherEnd cX3_otherEnd 1 (some .int)) (rmF 1 0 0 12) A (KT D dA) [.int (nI a1)] H0 Post := by
  refine zc_of RX3 rfl (by decide) (Nat.le_of_ble_eq_true rfl) ?_
  intro pr en s m args below meth cd S hr hlk hnm hh hK ls hl
  have hS : va_S A s.heap H0 [] := zc_start hh
  have hg0 := hg
  have hx := S.1
  have hb := S.2.1
  have hown := S.2.2.2.1
  have hts := S.2.2.2.2
  have hl : lv_has ls 1 [(0, .int (nI a1))] := hl
  refine lv_iload_n hx hb dX3_otherEnd_0 rfl (lv_at hl 0 rfl) ?_
  refine lv_bipush (v := nI 6) hx hb dX3_otherEnd_1 zb_6 ?_
  refine zr_icmp_geN (a := a1) (b := 6) (tgt := 15) hx hb (by omega) (by omega) dX3_otherEnd_3 (by decide) (fun c_1 => ?_) (fun c_1 => ?_)
  · refine lv_iload_n hx hb dX3_otherEnd_15 rfl (lv_at hl 0 rfl) ?_
    refine lv_bipush (v := nI 12) hx hb dX3_otherEnd_16 zb_12 ?_
    refine zr_icmp_geN (a := a1) (b := 12) (tgt := 33) hx hb (by omega) (by omega) dX3_otherEnd_18 (by decide) (fun c_2 => ?_) (fun c_2 => ?_)
    · refine lv_iload_n hx hb dX3_otherEnd_33 rfl (lv_at hl 0 rfl) ?_
      refine lv_bipush (v := nI 29) hx hb dX3_otherEnd_34 zb_29 ?_
      refine zr_icmp_neN (a := a1) (b := 29) (tgt := 44) hx hb (by omega) (by omega) dX3_otherEnd_36 (by decide) (fun c_3 => ?_) (fun c_3 => ?_)
      · refine lv_iload_n hx hb dX3_otherEnd_44 rfl (lv_at hl 0 rfl) ?_
        refine lv_iconst (v := nI 5) hx hb dX3_otherEnd_45 zi_5 ?_
        refine zr_subN (a := a1) (b := 5) hx hb (by omega) dX3_otherEnd_46 ?_
        exact zc_nret (nI (bB a1)) (congrArg nI (show (a1 - 5 : Nat) = (bB a1) from by first | with_reducible rfl | (simp [c_1, c_2, c_3, bB]; done) | (simp only [c_1, c_2, c_3] <;> simp [bB]; done) | (simp only [bB, c_1, c_2, c_3] <;> simp [bB]; done) | (simp [c_1, c_2, c_3, bB, Bool.and_assoc]; done) | (simp [c_1, c_2, c_3, bB, Bool.and_assoc, Bool.or_assoc]; done) | rfl | (simp [c_1, c_2, c_3, bB]; omega))) hPost hS hx hb hr hlk (Nat.zero_le _) (Nat.zero_le _) dX3_otherEnd_47
      · refine lv_bipush (v := nI 6) hx hb dX3_otherEnd_39 zb_6 ?_
        refine lv_goto (tgt := 47) hx hb dX3_otherEnd_41 (by decide) ?_
        exact zc_nret (nI (bB a1)) (congrArg nI (show (6 : Nat) = (bB a1) from by first | with_reducible rfl | (simp [c_1, c_2, c_3, bB]; done) | (simp only [c_1, c_2, c_3] <;> simp [bB]; done) | (simp only [bB, c_1, c_2, c_3] <;> simp [bB]; done) | (simp [c_1, c_2, c_3, bB, Bool.and_assoc]; done) | (simp [c_1, c_2, c_3, bB, Bool.and_assoc, Bool.or_assoc]; done) | rfl | (simp [c_1, c_2, c_3, bB]; omega))) hPost hS hx hb hr hlk (Nat.zero_le _) (Nat.zero_le _) dX3_otherEnd_47
    · refine lv_bipush (v := nI 6) hx hb dX3_otherEnd_21 zb_6 ?_
      refine lv_iconst (v := nI 3) hx hb dX3_otherEnd_23 zi_3 ?_
      refine lv_iload_n hx hb dX3_otherEnd_24 rfl (lv_at hl 0 rfl) ?_
      refine lv_bipush (v := nI 6) hx hb dX3_otherEnd_25 zb_6 ?_
      refine zr_subN (a := a1) (b := 6) hx hb (by omega) dX3_otherEnd_27 ?_
      refine zr_mulN (a := 3) (b := (a1 - 6)) hx hb dX3_otherEnd_28 ?_
      refine zr_addN (a := 6) (b := (3 * (a1 - 6))) hx hb dX3_otherEnd_29 ?_
      refine lv_goto (tgt := 47) hx hb dX3_otherEnd_30 (by decide) ?_
      exact zc_nret (nI (bB a1)) (congrArg nI (show (6 + (3 * (a1 - 6)) : Nat) = (bB a1) from by first | with_reducible rfl | (simp [c_1, c_2, bB]; done) | (simp only [c_1, c_2] <;> simp [bB]; done) | (simp only [bB, c_1, c_2] <;> simp [bB]; done) | (simp [c_1, c_2, bB, Bool.and_assoc]; done) | (simp [c_1, c_2, bB, Bool.and_assoc, Bool.or_assoc]; done) | rfl | (simp [c_1, c_2, bB]; omega))) hPost hS hx hb hr hlk (Nat.zero_le _) (Nat.zero_le _) dX3_otherEnd_47
  · refine lv_iload_n hx hb dX3_otherEnd_6 rfl (lv_at hl 0 rfl) ?_
    refine lv_iconst (v := nI 1) hx hb dX3_otherEnd_7 zi_1 ?_
    refine zr_addN (a := a1) (b := 1) hx hb dX3_otherEnd_8 ?_
    refine lv_bipush (v := nI 6) hx hb dX3_otherEnd_9 zb_6 ?_
    refine zr_remN (a := (a1 + 1)) (b := 6) hx hb (by omega) (by omega) (by omega) dX3_otherEnd_11 ?_
    refine lv_goto (tgt := 47) hx hb dX3_otherEnd_12 (by decide) ?_
    exact zc_nret (nI (bB a1)) (congrArg nI (show ((a1 + 1) % 6 : Nat) = (bB a1) from by first | with_reducible rfl | (simp [c_1, bB]; done) | (simp only [c_1] <;> simp [bB]; done) | (simp only [bB, c_1] <;> simp [bB]; done) | (simp [c_1, bB, Bool.and_assoc]; done) | (simp [c_1, bB, Bool.and_assoc, Bool.or_assoc]; done) | rfl | (simp [c_1, bB]; omega))) hPost hS hx hb hr hlk (Nat.zero_le _) (Nat.zero_le _) dX3_otherEnd_47
theorem kM_otherEnd {pr : Program} {l : Launch} {en : Env} {R : Room} {s : State} {m : MethodId} {args : Array Value} {below : List Frame} {meth : Method} {cd : Code} {H : Heap} {locs : List Loc} {cells slots : Nat} {Q : State → Prop} {cc : ByteArray} {pc nL : Nat} {ls : Array Slot} {rest : List Value} {D : va_G} {dA : Nat → ClassId} {A : Nat → Prop} {ad : Nat → Nat} {g : G} (S : CallFix pr m cd cc nL s args lw_all RX3) (hK : KT D dA s) (hM : MS D dA A ad g H) (hg : Sm g) (hS : va_S A s.heap H locs) (a1 : Nat) (h1 : a1 < 30) (hf : 1 + 1 ≤ R.frames) (hlo : 8 + (1 + 11) + 12 ≤ R.locals) (hsz : ls.size = nL) (hcat : (rest.map fun v => v.category).sum ≤ 8) (hdg : decode cc pc = .ok (.invokestatic 67, 3)) (hq1 : cells ≤ R.cells) (hq2 : slots ≤ R.slots) (kk : ∀ locs1 : List Loc, va_S A s.heap H locs1 → W pr l en R s m args below meth cd H locs1 cells slots Q (F0 m (pc + 3) ls (.int (nI (bB a1)) :: rest))) : W pr l en R s m args below meth cd H locs cells slots Q (F0 m pc ls (.int (nI a1) :: rest)) :=
  zc_callS (n := 1) (As := [.int (nI a1)]) (rest := rest) S (cM_otherEnd l hg a1 h1  H hM (Post := (fun v H1 => v = some (.int (nI (bB a1))) ∧ H1 = H)) ⟨rfl, rfl⟩) (lw_S q1164 q1165 q76 q1166) (by decide +kernel) ⟨hf, hlo⟩ ⟨hq1, hq2⟩ KT_mv (zc_K KT_mv hK hS) hS (fun _ h => h) rfl hsz rfl hcat hdg (fun v H1 locs1 hp _ _ hS1 => by obtain ⟨rfl, rfl⟩ := hp; exact kk locs1 hS1)
set_option maxHeartbeats 1000000 in
set_option maxRecDepth 100000 in
theorem cM_hasCorner (l : Launch) {D : va_G} {dA : Nat → ClassId} {A : Nat → Prop} {ad : Nat → Nat} {g : G} (hg : Sm g) (a1 : Nat) (a2 : Nat) (h1 : a1 < 30) (h2 : a2 < 24) (H0 : Heap) (hM : MS D dA A ad g H0) {Post : Option Value → Heap → Prop} (hPost : Post (some (.int (nI (atE a1 a2).toNat))) H0) : Ct l yX3_hasCorner (ws_ yX3_hasCorner cX3_hasCorner 2 (some .boolean)) (rmF 2 0 0 32) A (KT D dA) [.int (nI a1), .int (nI a2)] H0 Post := by
  refine zc_of RX3 rfl (by decide) (Nat.le_of_ble_eq_true rfl) ?_
  intro pr en s m args below meth cd S hr hlk hnm hh hK ls hl
  have hS : va_S A s.heap H0 [] := zc_start hh
  have hg0 := hg
  have hx := S.1
  have hb := S.2.1
  have hown := S.2.2.2.1
  have hts := S.2.2.2.2
  have hl : lv_has ls 2 [(0, .int (nI a1)), (1, .int (nI a2))] := hl
  refine lv_iload_n hx hb dX3_hasCorner_0 rfl (lv_at hl 0 rfl) ?_
  refine kM_oneEnd S hK hM hg hS a1 (by first | omega | assumption | grind) (Nat.le_of_ble_eq_true rfl) (Nat.le_of_ble_eq_true rfl) hl.1 (Nat.le_of_ble_eq_true rfl) dX3_hasCorner_1 (Nat.zero_le _) (Nat.zero_le _) (fun locs hS => ?_)
  have f1_0 : bA a1 < 24 := bA_lt (by omega)
  refine lv_iload_n hx hb dX3_hasCorner_4 rfl (lv_at hl 1 rfl) ?_
  refine zr_icmp_eqN (a := (bA a1)) (b := a2) (tgt := 16) hx hb (by omega) (by omega) dX3_hasCorner_5 (by decide) (fun c_1 => ?_) (fun c_1 => ?_)
  · refine lv_iconst (v := nI 1) hx hb dX3_hasCorner_16 zi_1 ?_
    refine lv_goto (tgt := 21) hx hb dX3_hasCorner_17 (by decide) ?_
    exact zc_bret (atE a1 a2) (congrArg (fun z : Bool => nI z.toNat) (show (true : Bool) = (atE a1 a2) from by first | with_reducible rfl | (simp [c_1, atE]; done) | (simp only [c_1] <;> simp [atE]; done) | (simp only [atE, c_1] <;> simp [atE]; done) | (simp [c_1, atE, Bool.and_assoc]; done) | (simp [c_1, atE, Bool.and_assoc, Bool.or_assoc]; done) | rfl | (simp [c_1, atE]; omega))) hPost hS hx hb hr hlk (Nat.zero_le _) (Nat.zero_le _) dX3_hasCorner_21
  · refine lv_iload_n hx hb dX3_hasCorner_8 rfl (lv_at hl 0 rfl) ?_
    refine kM_otherEnd S hK hM hg hS a1 (by first | omega | assumption | grind) (Nat.le_of_ble_eq_true rfl) (Nat.le_of_ble_eq_true rfl) hl.1 (Nat.le_of_ble_eq_true rfl) dX3_hasCorner_9 (Nat.zero_le _) (Nat.zero_le _) (fun locs hS => ?_)
    have f9_0 : bB a1 < 24 := bB_lt (by omega)
    refine lv_iload_n hx hb dX3_hasCorner_12 rfl (lv_at hl 1 rfl) ?_
    refine zr_icmp_neN (a := (bB a1)) (b := a2) (tgt := 20) hx hb (by omega) (by omega) dX3_hasCorner_13 (by decide) (fun c_2 => ?_) (fun c_2 => ?_)
    · refine lv_iconst (v := nI 0) hx hb dX3_hasCorner_20 zi_0 ?_
      exact zc_bret (atE a1 a2) (congrArg (fun z : Bool => nI z.toNat) (show (false : Bool) = (atE a1 a2) from by first | with_reducible rfl | (simp [c_1, c_2, atE]; done) | (simp only [c_1, c_2] <;> simp [atE]; done) | (simp only [atE, c_1, c_2] <;> simp [atE]; done) | (simp [c_1, c_2, atE, Bool.and_assoc]; done) | (simp [c_1, c_2, atE, Bool.and_assoc, Bool.or_assoc]; done) | rfl | (simp [c_1, c_2, atE]; omega))) hPost hS hx hb hr hlk (Nat.zero_le _) (Nat.zero_le _) dX3_hasCorner_21
    · refine lv_iconst (v := nI 1) hx hb dX3_hasCorner_16 zi_1 ?_
      refine lv_goto (tgt := 21) hx hb dX3_hasCorner_17 (by decide) ?_
      exact zc_bret (atE a1 a2) (congrArg (fun z : Bool => nI z.toNat) (show (true : Bool) = (atE a1 a2) from by first | with_reducible rfl | (simp [c_1, c_2, atE]; done) | (simp only [c_1, c_2] <;> simp [atE]; done) | (simp only [atE, c_1, c_2] <;> simp [atE]; done) | (simp [c_1, c_2, atE, Bool.and_assoc]; done) | (simp [c_1, c_2, atE, Bool.and_assoc, Bool.or_assoc]; done) | rfl | (simp [c_1, c_2, atE]; omega))) hPost hS hx hb hr hlk (Nat.zero_le _) (Nat.zero_le _) dX3_hasCorner_21
theorem kM_hasCorner {pr : Program} {l : Launch} {en : Env} {R : Room} {s : State} {m : MethodId} {args : Array Value} {below : List Frame} {meth : Method} {cd : Code} {H : Heap} {locs : List Loc} {cells slots : Nat} {Q : State → Prop} {cc : ByteArray} {pc nL : Nat} {ls : Array Slot} {rest : List Value} {D : va_G} {dA : Nat → ClassId} {A : Nat → Prop} {ad : Nat → Nat} {g : G} (S : CallFix pr m cd cc nL s args lw_all RX3) (hK : KT D dA s) (hM : MS D dA A ad g H) (hg : Sm g) (hS : va_S A s.heap H locs) (a1 : Nat) (a2 : Nat) (h1 : a1 < 30) (h2 : a2 < 24) (hf : 2 + 1 ≤ R.frames) (hlo : 8 + (2 + 11) + 32 ≤ R.locals) (hsz : ls.size = nL) (hcat : (rest.map fun v => v.category).sum ≤ 8) (hdg : decode cc pc = .ok (.invokestatic 70, 3)) (hq1 : cells ≤ R.cells) (hq2 : slots ≤ R.slots) (kk : ∀ locs1 : List Loc, va_S A s.heap H locs1 → W pr l en R s m args below meth cd H locs1 cells slots Q (F0 m (pc + 3) ls (.int (nI (atE a1 a2).toNat) :: rest))) : W pr l en R s m args below meth cd H locs cells slots Q (F0 m pc ls (.int (nI a2) :: .int (nI a1) :: rest)) :=
  zc_callS (n := 2) (As := [.int (nI a1), .int (nI a2)]) (rest := rest) S (cM_hasCorner l hg a1 a2 h1 h2  H hM (Post := (fun v H1 => v = some (.int (nI (atE a1 a2).toNat)) ∧ H1 = H)) ⟨rfl, rfl⟩) (lw_S q1158 q1159 q76 q1160) (by decide +kernel) ⟨hf, hlo⟩ ⟨hq1, hq2⟩ KT_mv (zc_K KT_mv hK hS) hS (fun _ h => h) rfl hsz rfl hcat hdg (fun v H1 locs1 hp _ _ hS1 => by obtain ⟨rfl, rfl⟩ := hp; exact kk locs1 hS1)
set_option maxHeartbeats 1000000 in
set_option maxRecDepth 100000 in
theorem cM_isOf (l : Launch) {D : va_G} {dA : Nat → ClassId} {A : Nat → Prop} {ad : Nat → Nat} {g : G} (hg : Sm g) (a1 : Nat) (a2 : Nat) (h1 : a1 < 7) (h2 : a2 < 24) (H0 : Heap) (hM : MS D dA A ad g H0) {Post : Option Value → Heap → Prop} (hPost : Post (some (.int (nI (mOf a1 a2).toNat))) H0) : Ct l yX3_isOf (ws_ yX3_isOf cX3_isOf 3 (some .boolean)) (rmF 1 0 0 14) A (KT D dA) [.int (nI a1), .int (nI a2)] H0 Post := by
  refine zc_of RX3 rfl (by decide) (Nat.le_of_ble_eq_true rfl) ?_
  intro pr en s m args below meth cd S hr hlk hnm hh hK ls hl
  have hS : va_S A s.heap H0 [] := zc_start hh
  have hg0 := hg
  have hx := S.1
  have hb := S.2.1
  have hown := S.2.2.2.1
  have hts := S.2.2.2.2
  have hl : lv_has ls 3 [(0, .int (nI a1)), (1, .int (nI a2))] := hl
  refine lv_iload_n hx hb dX3_isOf_0 rfl (lv_at hl 0 rfl) ?_
  refine zr_if_neN (a := a1) (tgt := 16) hx hb (by omega) dX3_isOf_1 (by decide) (fun c_1 => ?_) (fun c_1 => ?_)
  · refine lv_bipush (v := nI 6) hx hb dX3_isOf_16 zb_6 ?_
    refine lv_iconst (v := nI 3) hx hb dX3_isOf_18 zi_3 ?_
    refine lv_iload_n hx hb dX3_isOf_19 rfl (lv_at hl 0 rfl) ?_
    refine lv_iconst (v := nI 1) hx hb dX3_isOf_20 zi_1 ?_
    refine zr_subN (a := a1) (b := 1) hx hb (by omega) dX3_isOf_21 ?_
    refine zr_mulN (a := 3) (b := (a1 - 1)) hx hb dX3_isOf_22 ?_
    refine zr_addN (a := 6) (b := (3 * (a1 - 1))) hx hb dX3_isOf_23 ?_
    refine lv_istore_n (lv' := [(2, .int (nI (6 + (3 * (a1 - 1))))), (0, .int (nI a1)), (1, .int (nI a2))]) hx hb dX3_isOf_24 rfl hl (by decide) rfl (fun ls hl => ?_)
    refine lv_iload_n hx hb dX3_isOf_25 rfl (lv_at hl 2 rfl) ?_
    refine lv_iload_n hx hb dX3_isOf_26 rfl (lv_at hl 1 rfl) ?_
    refine lv_iconst (v := nI 1) hx hb dX3_isOf_27 zi_1 ?_
    refine zr_subN (a := a1) (b := 1) hx hb (by omega) dX3_isOf_28 ?_
    refine zr_icmp_eqN (a := a2) (b := (a1 - 1)) (tgt := 64) hx hb (by omega) (by omega) dX3_isOf_29 (by decide) (fun c_2 => ?_) (fun c_2 => ?_)
    · refine lv_iconst (v := nI 1) hx hb dX3_isOf_64 zi_1 ?_
      refine lv_goto (tgt := 69) hx hb dX3_isOf_65 (by decide) ?_
      exact zc_bret (mOf a1 a2) (congrArg (fun z : Bool => nI z.toNat) (show (true : Bool) = (mOf a1 a2) from by first | with_reducible rfl | (simp [c_1, c_2, mOf]; done) | (simp only [c_1, c_2] <;> simp [mOf]; done) | (simp only [mOf, c_1, c_2] <;> simp [mOf]; done) | (simp [c_1, c_2, mOf, Bool.and_assoc]; done) | (simp [c_1, c_2, mOf, Bool.and_assoc, Bool.or_assoc]; done) | rfl | (simp [c_1, c_2, mOf]; omega))) hPost hS hx hb hr hlk (Nat.zero_le _) (Nat.zero_le _) dX3_isOf_69
    · refine lv_iload_n hx hb dX3_isOf_32 rfl (lv_at hl 2 rfl) ?_
      refine lv_iload_n hx hb dX3_isOf_33 rfl (lv_at hl 1 rfl) ?_
      refine lv_bipush (v := nI 6) hx hb dX3_isOf_34 zb_6 ?_
      refine zr_remN (a := a1) (b := 6) hx hb (by omega) (by omega) (by omega) dX3_isOf_36 ?_
      refine zr_icmp_eqN (a := a2) (b := (a1 % 6)) (tgt := 64) hx hb (by omega) (by omega) dX3_isOf_37 (by decide) (fun c_3 => ?_) (fun c_3 => ?_)
      · refine lv_iconst (v := nI 1) hx hb dX3_isOf_64 zi_1 ?_
        refine lv_goto (tgt := 69) hx hb dX3_isOf_65 (by decide) ?_
        exact zc_bret (mOf a1 a2) (congrArg (fun z : Bool => nI z.toNat) (show (true : Bool) = (mOf a1 a2) from by first | with_reducible rfl | (simp [c_1, c_2, c_3, mOf]; done) | (simp only [c_1, c_2, c_3] <;> simp [mOf]; done) | (simp only [mOf, c_1, c_2, c_3] <;> simp [mOf]; done) | (simp [c_1, c_2, c_3, mOf, Bool.and_assoc]; done) | (simp [c_1, c_2, c_3, mOf, Bool.and_assoc, Bool.or_assoc]; done) | rfl | (simp [c_1, c_2, c_3, mOf]; omega))) hPost hS hx hb hr hlk (Nat.zero_le _) (Nat.zero_le _) dX3_isOf_69
      · refine lv_iload_n hx hb dX3_isOf_40 rfl (lv_at hl 2 rfl) ?_
        refine lv_iload_n hx hb dX3_isOf_41 rfl (lv_at hl 0 rfl) ?_
        have J_52 : ((a2 < (6 + (3 * (a1 - 1)))) ∨ (¬ (a2 < ((6 + (3 * (a1 - 1))) + 4)))) → ∀ (locs : List Loc), va_S A s.heap H0 locs → ∀ ls : Array Slot, lv_has ls 3 [(0, .int (nI a1)), (1, .int (nI a2))] → W pr l en (rmF 1 0 0 14) s m args below meth cd H0 locs 0 0 (MQ below (zc_Q Post A) args s 0 0 A) (F0 m 52 ls []) := by
          intro cJ_52 locs hS ls hl
          refine lv_iload_n hx hb dX3_isOf_52 rfl (lv_at hl 0 rfl) ?_
          refine lv_bipush (v := nI 6) hx hb dX3_isOf_53 zb_6 ?_
          refine zr_icmp_neN (a := a1) (b := 6) (tgt := 68) hx hb (by omega) (by omega) dX3_isOf_55 (by decide) (fun c_6 => ?_) (fun c_6 => ?_)
          · refine lv_iconst (v := nI 0) hx hb dX3_isOf_68 zi_0 ?_
            exact zc_bret (mOf a1 a2) (congrArg (fun z : Bool => nI z.toNat) (show (false : Bool) = (mOf a1 a2) from by first | with_reducible rfl | (simp [c_1, c_2, c_3, cJ_52, c_6, mOf]; done) | (simp only [c_1, c_2, c_3, cJ_52, c_6] <;> simp [mOf]; done) | (simp only [mOf, c_1, c_2, c_3, cJ_52, c_6] <;> simp [mOf]; done) | (simp [c_1, c_2, c_3, cJ_52, c_6, mOf, Bool.and_assoc]; done) | (simp [c_1, c_2, c_3, cJ_52, c_6, mOf, Bool.and_assoc, Bool.or_assoc]; done) | rfl | (simp [c_1, c_2, c_3, cJ_52, c_6, mOf]; omega))) hPost hS hx hb hr hlk (Nat.zero_le _) (Nat.zero_le _) dX3_isOf_69
          · refine lv_iload_n hx hb dX3_isOf_58 rfl (lv_at hl 1 rfl) ?_
            refine lv_bipush (v := nI 6) hx hb dX3_isOf_59 zb_6 ?_
            refine zr_icmp_neN (a := a2) (b := 6) (tgt := 68) hx hb (by omega) (by omega) dX3_isOf_61 (by decide) (fun c_7 => ?_) (fun c_7 => ?_)
            · refine lv_iconst (v := nI 0) hx hb dX3_isOf_68 zi_0 ?_
              exact zc_bret (mOf a1 a2) (congrArg (fun z : Bool => nI z.toNat) (show (false : Bool) = (mOf a1 a2) from by first | with_reducible rfl | (simp [c_1, c_2, c_3, cJ_52, c_6, c_7, mOf]; done) | (simp only [c_1, c_2, c_3, cJ_52, c_6, c_7] <;> simp [mOf]; done) | (simp only [mOf, c_1, c_2, c_3, cJ_52, c_6, c_7] <;> simp [mOf]; done) | (simp [c_1, c_2, c_3, cJ_52, c_6, c_7, mOf, Bool.and_assoc]; done) | (simp [c_1, c_2, c_3, cJ_52, c_6, c_7, mOf, Bool.and_assoc, Bool.or_assoc]; done) | rfl | (simp [c_1, c_2, c_3, cJ_52, c_6, c_7, mOf]; omega))) hPost hS hx hb hr hlk (Nat.zero_le _) (Nat.zero_le _) dX3_isOf_69
            · refine lv_iconst (v := nI 1) hx hb dX3_isOf_64 zi_1 ?_
              refine lv_goto (tgt := 69) hx hb dX3_isOf_65 (by decide) ?_
              exact zc_bret (mOf a1 a2) (congrArg (fun z : Bool => nI z.toNat) (show (true : Bool) = (mOf a1 a2) from by first | with_reducible rfl | (simp [c_1, c_2, c_3, cJ_52, c_6, c_7, mOf]; done) | (simp only [c_1, c_2, c_3, cJ_52, c_6, c_7] <;> simp [mOf]; done) | (simp only [mOf, c_1, c_2, c_3, cJ_52, c_6, c_7] <;> simp [mOf]; done) | (simp [c_1, c_2, c_3, cJ_52, c_6, c_7, mOf, Bool.and_assoc]; done) | (simp [c_1, c_2, c_3, cJ_52, c_6, c_7, mOf, Bool.and_assoc, Bool.or_assoc]; done) | rfl | (simp [c_1, c_2, c_3, cJ_52, c_6, c_7, mOf]; omega))) hPost hS hx hb hr hlk (Nat.zero_le _) (Nat.zero_le _) dX3_isOf_69
        refine zr_icmp_ltN (a := a2) (b := (6 + (3 * (a1 - 1)))) (tgt := 52) hx hb (by omega) (by omega) dX3_isOf_42 (by decide) (fun c_8 => ?_) (fun c_8 => ?_)
        · exact J_52 (by first | assumption | omega | (simp [c_1, c_2, c_3, c_8, mOf]; done) | (simp [c_1, c_2, c_3, c_8, mOf]; omega) | grind) [] hS ls (lv_sub hl [1, 2] rfl)
        · refine lv_iload_n hx hb dX3_isOf_45 rfl (lv_at hl 2 rfl) ?_
          refine lv_iload_n hx hb dX3_isOf_46 rfl (lv_at hl 0 rfl) ?_
          refine lv_iconst (v := nI 4) hx hb dX3_isOf_47 zi_4 ?_
          refine zr_addN (a := (6 + (3 * (a1 - 1)))) (b := 4) hx hb dX3_isOf_48 ?_
          refine zr_icmp_ltN (a := a2) (b := ((6 + (3 * (a1 - 1))) + 4)) (tgt := 64) hx hb (by omega) (by omega) dX3_isOf_49 (by decide) (fun c_9 => ?_) (fun c_9 => ?_)
          · refine lv_iconst (v := nI 1) hx hb dX3_isOf_64 zi_1 ?_
            refine lv_goto (tgt := 69) hx hb dX3_isOf_65 (by decide) ?_
            exact zc_bret (mOf a1 a2) (congrArg (fun z : Bool => nI z.toNat) (show (true : Bool) = (mOf a1 a2) from by first | with_reducible rfl | (simp [c_1, c_2, c_3, c_8, c_9, mOf]; done) | (simp only [c_1, c_2, c_3, c_8, c_9] <;> simp [mOf]; done) | (simp only [mOf, c_1, c_2, c_3, c_8, c_9] <;> simp [mOf]; done) | (simp [c_1, c_2, c_3, c_8, c_9, mOf, Bool.and_assoc]; done) | (simp [c_1, c_2, c_3, c_8, c_9, mOf, Bool.and_assoc, Bool.or_assoc]; done) | rfl | (simp [c_1, c_2, c_3, c_8, c_9, mOf]; omega))) hPost hS hx hb hr hlk (Nat.zero_le _) (Nat.zero_le _) dX3_isOf_69
          · exact J_52 (by first | assumption | omega | (simp [c_1, c_2, c_3, c_8, c_9, mOf]; done) | (simp [c_1, c_2, c_3, c_8, c_9, mOf]; omega) | grind) [] hS ls (lv_sub hl [1, 2] rfl)
  · refine lv_iload_n hx hb dX3_isOf_4 rfl (lv_at hl 1 rfl) ?_
    refine lv_bipush (v := nI 6) hx hb dX3_isOf_5 zb_6 ?_
    refine zr_icmp_geN (a := a2) (b := 6) (tgt := 14) hx hb (by omega) (by omega) dX3_isOf_7 (by decide) (fun c_10 => ?_) (fun c_10 => ?_)
    · refine lv_iconst (v := nI 0) hx hb dX3_isOf_14 zi_0 ?_
      exact zc_bret (mOf a1 a2) (congrArg (fun z : Bool => nI z.toNat) (show (false : Bool) = (mOf a1 a2) from by first | with_reducible rfl | (simp [c_1, c_10, mOf]; done) | (simp only [c_1, c_10] <;> simp [mOf]; done) | (simp only [mOf, c_1, c_10] <;> simp [mOf]; done) | (simp [c_1, c_10, mOf, Bool.and_assoc]; done) | (simp [c_1, c_10, mOf, Bool.and_assoc, Bool.or_assoc]; done) | rfl | (simp [c_1, c_10, mOf]; omega))) hPost hS hx hb hr hlk (Nat.zero_le _) (Nat.zero_le _) dX3_isOf_15
    · refine lv_iconst (v := nI 1) hx hb dX3_isOf_10 zi_1 ?_
      refine lv_goto (tgt := 15) hx hb dX3_isOf_11 (by decide) ?_
      exact zc_bret (mOf a1 a2) (congrArg (fun z : Bool => nI z.toNat) (show (true : Bool) = (mOf a1 a2) from by first | with_reducible rfl | (simp [c_1, c_10, mOf]; done) | (simp only [c_1, c_10] <;> simp [mOf]; done) | (simp only [mOf, c_1, c_10] <;> simp [mOf]; done) | (simp [c_1, c_10, mOf, Bool.and_assoc]; done) | (simp [c_1, c_10, mOf, Bool.and_assoc, Bool.or_assoc]; done) | rfl | (simp [c_1, c_10, mOf]; omega))) hPost hS hx hb hr hlk (Nat.zero_le _) (Nat.zero_le _) dX3_isOf_15
theorem kM_isOf {pr : Program} {l : Launch} {en : Env} {R : Room} {s : State} {m : MethodId} {args : Array Value} {below : List Frame} {meth : Method} {cd : Code} {H : Heap} {locs : List Loc} {cells slots : Nat} {Q : State → Prop} {cc : ByteArray} {pc nL : Nat} {ls : Array Slot} {rest : List Value} {D : va_G} {dA : Nat → ClassId} {A : Nat → Prop} {ad : Nat → Nat} {g : G} (S : CallFix pr m cd cc nL s args lw_all RX3) (hK : KT D dA s) (hM : MS D dA A ad g H) (hg : Sm g) (hS : va_S A s.heap H locs) (a1 : Nat) (a2 : Nat) (h1 : a1 < 7) (h2 : a2 < 24) (hf : 1 + 1 ≤ R.frames) (hlo : 8 + (3 + 11) + 14 ≤ R.locals) (hsz : ls.size = nL) (hcat : (rest.map fun v => v.category).sum ≤ 8) (hdg : decode cc pc = .ok (.invokestatic 137, 3)) (hq1 : cells ≤ R.cells) (hq2 : slots ≤ R.slots) (kk : ∀ locs1 : List Loc, va_S A s.heap H locs1 → W pr l en R s m args below meth cd H locs1 cells slots Q (F0 m (pc + 3) ls (.int (nI (mOf a1 a2).toNat) :: rest))) : W pr l en R s m args below meth cd H locs cells slots Q (F0 m pc ls (.int (nI a2) :: .int (nI a1) :: rest)) :=
  zc_callS (n := 2) (As := [.int (nI a1), .int (nI a2)]) (rest := rest) S (cM_isOf l hg a1 a2 h1 h2  H hM (Post := (fun v H1 => v = some (.int (nI (mOf a1 a2).toNat)) ∧ H1 = H)) ⟨rfl, rfl⟩) (lw_S q1175 q1176 q76 q1177) (by decide +kernel) ⟨hf, hlo⟩ ⟨hq1, hq2⟩ KT_mv (zc_K KT_mv hK hS) hS (fun _ h => h) rfl hsz rfl hcat hdg (fun v H1 locs1 hp _ _ hS1 => by obtain ⟨rfl, rfl⟩ := hp; exact kk locs1 hS1)
set_option maxHeartbeats 1000000 in
set_option maxRecDepth 100000 in
theorem cM_ownerAt (l : Launch) {D : va_G} {dA : Nat → ClassId} {A : Nat → Prop} {ad : Nat → Nat} {g : G} (hg : Sm g) (a1 : Nat) (h1 : a1 < 24) (H0 : Heap) (hM : MS D dA A ad g H0) {Post : Option Value → Heap → Prop} (hPost : Post (some (.int (mI (own1 g a1)))) H0) : Ct l yX3_ownerAt (ws_ yX3_ownerAt cX3_ownerAt 2 (some .int)) (rmF 1 0 0 13) A (KT D dA) [.ref (ad 0), .int (nI a1)] H0 Post := by
  refine zc_of RX3 rfl (by decide) (Nat.le_of_ble_eq_true rfl) ?_
  intro pr en s m args below meth cd S hr hlk hnm hh hK ls hl
  have hS : va_S A s.heap H0 [] := zc_start hh
  have hg0 := hg
  have hx := S.1
  have hb := S.2.1
  have hown := S.2.2.2.1
  have hts := S.2.2.2.2
  have hl : lv_has ls 2 [(0, .ref (ad 0)), (1, .int (nI a1))] := hl
  refine lv_aload_n hx hb dX3_ownerAt_0 rfl (lv_at hl 0 rfl) ?_
  refine gM_building S hK hM dX3_ownerAt_1 ?_
  refine lv_iload_n hx hb dX3_ownerAt_4 rfl (lv_at hl 1 rfl) ?_
  refine lM_building S hK hM a1 (by omega) (g 2 a1) rfl dX3_ownerAt_5 ?_
  have hb_1 : g 2 a1 < 1048576 := by first | exact hg 2 a1 | exact hg0 _ _ | (have := hg 2 a1; omega) | omega
  refine zr_if_neN (a := (g 2 a1)) (tgt := 13) hx hb (by omega) dX3_ownerAt_6 (by decide) (fun c_2 => ?_) (fun c_2 => ?_)
  · refine lv_aload_n hx hb dX3_ownerAt_13 rfl (lv_at hl 0 rfl) ?_
    refine gM_building S hK hM dX3_ownerAt_14 ?_
    refine lv_iload_n hx hb dX3_ownerAt_17 rfl (lv_at hl 1 rfl) ?_
    refine lM_building S hK hM a1 (by omega) (g 2 a1) rfl dX3_ownerAt_18 ?_
    have hb_3 : g 2 a1 < 1048576 := by first | exact hg 2 a1 | exact hg0 _ _ | (have := hg 2 a1; omega) | omega
    refine lv_iconst (v := nI 1) hx hb dX3_ownerAt_19 zi_1 ?_
    refine zr_subN (a := (g 2 a1)) (b := 1) hx hb (by omega) dX3_ownerAt_20 ?_
    refine lv_iconst (v := nI 3) hx hb dX3_ownerAt_21 zi_3 ?_
    refine zr_remN (a := ((g 2 a1) - 1)) (b := 3) hx hb (by omega) (by omega) (by omega) dX3_ownerAt_22 ?_
    exact zc_nret (mI (own1 g a1)) ((mI_succ (((g 2 a1) - 1) % 3)).symm.trans (congrArg mI (show (((g 2 a1) - 1) % 3 + 1 : Nat) = (own1 g a1) from by first | with_reducible rfl | (simp [c_2, own1]; done) | (simp only [c_2] <;> simp [own1]; done) | (simp only [own1, c_2] <;> simp [own1]; done) | (simp [c_2, own1, Bool.and_assoc]; done) | (simp [c_2, own1, Bool.and_assoc, Bool.or_assoc]; done) | rfl | (simp [c_2, own1]; omega)))) hPost hS hx hb hr hlk (Nat.zero_le _) (Nat.zero_le _) dX3_ownerAt_23
  · refine lv_iconst (v := mI 0) hx hb dX3_ownerAt_9 zi_m1 ?_
    refine lv_goto (tgt := 23) hx hb dX3_ownerAt_10 (by decide) ?_
    exact zc_nret (mI (own1 g a1)) (congrArg mI (show (0 : Nat) = (own1 g a1) from by first | with_reducible rfl | (simp [c_2, own1]; done) | (simp only [c_2] <;> simp [own1]; done) | (simp only [own1, c_2] <;> simp [own1]; done) | (simp [c_2, own1, Bool.and_assoc]; done) | (simp [c_2, own1, Bool.and_assoc, Bool.or_assoc]; done) | rfl | (simp [c_2, own1]; omega))) hPost hS hx hb hr hlk (Nat.zero_le _) (Nat.zero_le _) dX3_ownerAt_23
theorem kM_ownerAt {pr : Program} {l : Launch} {en : Env} {R : Room} {s : State} {m : MethodId} {args : Array Value} {below : List Frame} {meth : Method} {cd : Code} {H : Heap} {locs : List Loc} {cells slots : Nat} {Q : State → Prop} {cc : ByteArray} {pc nL : Nat} {ls : Array Slot} {rest : List Value} {D : va_G} {dA : Nat → ClassId} {A : Nat → Prop} {ad : Nat → Nat} {g : G} (S : CallFix pr m cd cc nL s args lw_all RX3) (hK : KT D dA s) (hM : MS D dA A ad g H) (hg : Sm g) (hS : va_S A s.heap H locs) (a1 : Nat) (h1 : a1 < 24) (hf : 1 + 1 ≤ R.frames) (hlo : 8 + (2 + 11) + 13 ≤ R.locals) (hsz : ls.size = nL) (hcat : (rest.map fun v => v.category).sum ≤ 8) (hdg : decode cc pc = .ok (.invokevirtual 74, 3)) (hq1 : cells ≤ R.cells) (hq2 : slots ≤ R.slots) (kk : ∀ locs1 : List Loc, va_S A s.heap H locs1 → W pr l en R s m args below meth cd H locs1 cells slots Q (F0 m (pc + 3) ls (.int (mI (own1 g a1)) :: rest))) : W pr l en R s m args below meth cd H locs cells slots Q (F0 m pc ls (.int (nI a1) :: .ref (ad 0) :: rest)) :=
  zc_callV (n := 1) (As := [.int (nI a1)]) (rest := rest) S (cM_ownerAt l hg a1 h1  H hM (Post := (fun v H1 => v = some (.int (mI (own1 g a1))) ∧ H1 = H)) ⟨rfl, rfl⟩) (lw_V q1193 q1195 qs43 q76 q1196) (by decide +kernel) ⟨hf, hlo⟩ ⟨hq1, hq2⟩ (zm_recv hK hM) KT_mv (zc_K KT_mv hK hS) hS (fun _ h => h) rfl hsz rfl hcat hdg (fun v H1 locs1 hp _ _ hS1 => by obtain ⟨rfl, rfl⟩ := hp; exact kk locs1 hS1)
set_option maxHeartbeats 1000000 in
set_option maxRecDepth 100000 in
theorem cM_isCity (l : Launch) {D : va_G} {dA : Nat → ClassId} {A : Nat → Prop} {ad : Nat → Nat} {g : G} (hg : Sm g) (a1 : Nat) (h1 : a1 < 24) (H0 : Heap) (hM : MS D dA A ad g H0) {Post : Option Value → Heap → Prop} (hPost : Post (some (.int (nI (mCity g a1).toNat))) H0) : Ct l yX3_isCity (ws_ yX3_isCity cX3_isCity 2 (some .boolean)) (rmF 1 0 0 13) A (KT D dA) [.ref (ad 0), .int (nI a1)] H0 Post := by
  refine zc_of RX3 rfl (by decide) (Nat.le_of_ble_eq_true rfl) ?_
  intro pr en s m args below meth cd S hr hlk hnm hh hK ls hl
  have hS : va_S A s.heap H0 [] := zc_start hh
  have hg0 := hg
  have hx := S.1
  have hb := S.2.1
  have hown := S.2.2.2.1
  have hts := S.2.2.2.2
  have hl : lv_has ls 2 [(0, .ref (ad 0)), (1, .int (nI a1))] := hl
  refine lv_aload_n hx hb dX3_isCity_0 rfl (lv_at hl 0 rfl) ?_
  refine gM_building S hK hM dX3_isCity_1 ?_
  refine lv_iload_n hx hb dX3_isCity_4 rfl (lv_at hl 1 rfl) ?_
  refine lM_building S hK hM a1 (by omega) (g 2 a1) rfl dX3_isCity_5 ?_
  have hb_1 : g 2 a1 < 1048576 := by first | exact hg 2 a1 | exact hg0 _ _ | (have := hg 2 a1; omega) | omega
  refine lv_iconst (v := nI 3) hx hb dX3_isCity_6 zi_3 ?_
  refine zr_icmp_leN (a := (g 2 a1)) (b := 3) (tgt := 14) hx hb (by omega) (by omega) dX3_isCity_7 (by decide) (fun c_2 => ?_) (fun c_2 => ?_)
  · refine lv_iconst (v := nI 0) hx hb dX3_isCity_14 zi_0 ?_
    exact zc_bret (mCity g a1) (congrArg (fun z : Bool => nI z.toNat) (show (false : Bool) = (mCity g a1) from by first | with_reducible rfl | (simp [c_2, mCity]; done) | (simp only [c_2] <;> simp [mCity]; done) | (simp only [mCity, c_2] <;> simp [mCity]; done) | (simp [c_2, mCity, Bool.and_assoc]; done) | (simp [c_2, mCity, Bool.and_assoc, Bool.or_assoc]; done) | rfl | (simp [c_2, mCity]; omega))) hPost hS hx hb hr hlk (Nat.zero_le _) (Nat.zero_le _) dX3_isCity_15
  · refine lv_iconst (v := nI 1) hx hb dX3_isCity_10 zi_1 ?_
    refine lv_goto (tgt := 15) hx hb dX3_isCity_11 (by decide) ?_
    exact zc_bret (mCity g a1) (congrArg (fun z : Bool => nI z.toNat) (show (true : Bool) = (mCity g a1) from by first | with_reducible rfl | (simp [c_2, mCity]; done) | (simp only [c_2] <;> simp [mCity]; done) | (simp only [mCity, c_2] <;> simp [mCity]; done) | (simp [c_2, mCity, Bool.and_assoc]; done) | (simp [c_2, mCity, Bool.and_assoc, Bool.or_assoc]; done) | rfl | (simp [c_2, mCity]; omega))) hPost hS hx hb hr hlk (Nat.zero_le _) (Nat.zero_le _) dX3_isCity_15
theorem kM_isCity {pr : Program} {l : Launch} {en : Env} {R : Room} {s : State} {m : MethodId} {args : Array Value} {below : List Frame} {meth : Method} {cd : Code} {H : Heap} {locs : List Loc} {cells slots : Nat} {Q : State → Prop} {cc : ByteArray} {pc nL : Nat} {ls : Array Slot} {rest : List Value} {D : va_G} {dA : Nat → ClassId} {A : Nat → Prop} {ad : Nat → Nat} {g : G} (S : CallFix pr m cd cc nL s args lw_all RX3) (hK : KT D dA s) (hM : MS D dA A ad g H) (hg : Sm g) (hS : va_S A s.heap H locs) (a1 : Nat) (h1 : a1 < 24) (hf : 1 + 1 ≤ R.frames) (hlo : 8 + (2 + 11) + 13 ≤ R.locals) (hsz : ls.size = nL) (hcat : (rest.map fun v => v.category).sum ≤ 8) (hdg : decode cc pc = .ok (.invokevirtual 87, 3)) (hq1 : cells ≤ R.cells) (hq2 : slots ≤ R.slots) (kk : ∀ locs1 : List Loc, va_S A s.heap H locs1 → W pr l en R s m args below meth cd H locs1 cells slots Q (F0 m (pc + 3) ls (.int (nI (mCity g a1).toNat) :: rest))) : W pr l en R s m args below meth cd H locs cells slots Q (F0 m pc ls (.int (nI a1) :: .ref (ad 0) :: rest)) :=
  zc_callV (n := 1) (As := [.int (nI a1)]) (rest := rest) S (cM_isCity l hg a1 h1  H hM (Post := (fun v H1 => v = some (.int (nI (mCity g a1).toNat)) ∧ H1 = H)) ⟨rfl, rfl⟩) (lw_V q1239 q1241 qs50 q76 q1242) (by decide +kernel) ⟨hf, hlo⟩ ⟨hq1, hq2⟩ (zm_recv hK hM) KT_mv (zc_K KT_mv hK hS) hS (fun _ h => h) rfl hsz rfl hcat hdg (fun v H1 locs1 hp _ _ hS1 => by obtain ⟨rfl, rfl⟩ := hp; exact kk locs1 hS1)
set_option maxHeartbeats 1000000 in
set_option maxRecDepth 100000 in
theorem cM_isFree (l : Launch) {D : va_G} {dA : Nat → ClassId} {A : Nat → Prop} {ad : Nat → Nat} {g : G} (hg : Sm g) (a1 : Nat) (h1 : a1 < 24) (H0 : Heap) (hM : MS D dA A ad g H0) {Post : Option Value → Heap → Prop} (hPost : Post (some (.int (nI (mFree g a1).toNat))) H0) : Ct l yX3_isFree (ws_ yX3_isFree cX3_isFree 4 (some .boolean)) (rmF 3 0 0 53) A (KT D dA) [.ref (ad 0), .int (nI a1)] H0 Post := by
  refine zc_of RX3 rfl (by decide) (Nat.le_of_ble_eq_true rfl) ?_
  intro pr en s m args below meth cd S hr hlk hnm hh hK ls hl
  have hS : va_S A s.heap H0 [] := zc_start hh
  have hg0 := hg
  have hx := S.1
  have hb := S.2.1
  have hown := S.2.2.2.1
  have hts := S.2.2.2.2
  have hl : lv_has ls 4 [(0, .ref (ad 0)), (1, .int (nI a1))] := hl
  refine lv_aload_n hx hb dX3_isFree_0 rfl (lv_at hl 0 rfl) ?_
  refine gM_building S hK hM dX3_isFree_1 ?_
  refine lv_iload_n hx hb dX3_isFree_4 rfl (lv_at hl 1 rfl) ?_
  refine lM_building S hK hM a1 (by omega) (g 2 a1) rfl dX3_isFree_5 ?_
  have hb_1 : g 2 a1 < 1048576 := by first | exact hg 2 a1 | exact hg0 _ _ | (have := hg 2 a1; omega) | omega
  have J_14 : ∀ yS0_14 : Int32, yS0_14 = nI (decide ((g 2 a1) = 0)).toNat → ∀ (locs : List Loc), va_S A s.heap H0 locs → ∀ ls : Array Slot, lv_has ls 4 [(0, .ref (ad 0)), (1, .int (nI a1))] → W pr l en (rmF 3 0 0 53) s m args below meth cd H0 locs 0 0 (MQ below (zc_Q Post A) args s 0 0 A) (F0 m 14 ls [.int yS0_14]) := by
    intro yS0_14 eyS0_14 locs hS ls hl
    subst eyS0_14
    refine lv_istore_n (lv' := [(2, .int (nI (decide ((g 2 a1) = 0)).toNat)), (0, .ref (ad 0)), (1, .int (nI a1))]) hx hb dX3_isFree_14 rfl hl (by decide) rfl (fun ls hl => ?_)
    refine lv_iconst (v := nI 0) hx hb dX3_isFree_15 zi_0 ?_
    refine lv_istore_n (lv' := [(3, .int (nI 0)), (2, .int (nI (decide ((g 2 a1) = 0)).toNat)), (0, .ref (ad 0)), (1, .int (nI a1))]) hx hb dX3_isFree_16 rfl hl (by decide) rfl (fun ls hl => ?_)
    have L_17 : ∀ (n_17 : Nat) (i : Nat), i ≤ 30 → 30 - i < n_17 → ∀ x2_17 : Int32, x2_17 = nI (decide (g 2 a1 = 0) && allN i (fun e => !(atE e a1 && (decide (0 < g 2 (bA e)) || decide (0 < g 2 (bB e)))))).toNat → ∀ (locs : List Loc), va_S A s.heap H0 locs → ∀ ls : Array Slot, lv_has ls 4 [(0, .ref (ad 0)), (1, .int (nI a1)), (2, .int x2_17), (3, .int (nI i))] → W pr l en (rmF 3 0 0 53) s m args below meth cd H0 locs 0 0 (MQ below (zc_Q Post A) args s 0 0 A) (F0 m 17 ls []) := by
      intro n_17
      induction n_17 with
      | zero => intro i hi_17 hm_17; exact absurd hm_17 (Nat.not_lt_zero _)
      | succ n_17 ih_17 =>
        intro i hi_17 hm_17 x2_17 ex2_17 locs hS ls hl
        subst ex2_17
        refine lv_iload_n hx hb dX3_isFree_17 rfl (lv_at hl 3 rfl) ?_
        refine lv_bipush (v := nI 30) hx hb dX3_isFree_18 zb_30 ?_
        refine zr_icmp_geN (a := i) (b := 30) (tgt := 71) hx hb (by omega) (by omega) dX3_isFree_20 (by decide) (fun c_3 => ?_) (fun c_3 => ?_)
        · have e_i : 30 = i := by omega
          subst e_i
          refine lv_iload_n hx hb dX3_isFree_71 rfl (lv_at hl 2 rfl) ?_
          exact zc_bret (mFree g a1) (congrArg (fun z : Bool => nI z.toNat) (show (decide (g 2 a1 = 0) && allN 30 (fun e => !(atE e a1 && (decide (0 < g 2 (bA e)) || decide (0 < g 2 (bB e))))) : Bool) = (mFree g a1) from by first | with_reducible rfl | (simp [c_3, mFree, allN]; done) | (simp only [c_3] <;> simp [mFree, allN]; done) | (simp only [mFree, allN, c_3] <;> simp [mFree, allN]; done) | (simp [c_3, mFree, allN, Bool.and_assoc]; done) | (simp [c_3, mFree, allN, Bool.and_assoc, Bool.or_assoc]; done) | rfl | (simp [c_3, mFree, allN]; omega))) hPost hS hx hb hr hlk (Nat.zero_le _) (Nat.zero_le _) dX3_isFree_72
        · refine lv_iload_n hx hb dX3_isFree_23 rfl (lv_at hl 2 rfl) ?_
          have J_64 : ∀ yS0_64 : Int32, yS0_64 = nI ((decide (g 2 a1 = 0) && allN i (fun e => !(atE e a1 && (decide (0 < g 2 (bA e)) || decide (0 < g 2 (bB e)))))) && (!(atE i a1) || (!decide (0 < (g 2 (bA i))) && (!decide (0 < (g 2 (bB i))))))).toNat → ∀ (locs : List Loc), va_S A s.heap H0 locs → ∀ ls : Array Slot, lv_has ls 4 [(0, .ref (ad 0)), (1, .int (nI a1)), (3, .int (nI i))] → W pr l en (rmF 3 0 0 53) s m args below meth cd H0 locs 0 0 (MQ below (zc_Q Post A) args s 0 0 A) (F0 m 64 ls [.int yS0_64]) := by
            intro yS0_64 eyS0_64 locs hS ls hl
            subst eyS0_64
            refine lv_istore_n (lv' := [(2, .int (nI ((decide (g 2 a1 = 0) && allN i (fun e => !(atE e a1 && (decide (0 < g 2 (bA e)) || decide (0 < g 2 (bB e)))))) && (!(atE i a1) || (!decide (0 < (g 2 (bA i))) && (!decide (0 < (g 2 (bB i))))))).toNat)), (0, .ref (ad 0)), (1, .int (nI a1)), (3, .int (nI i))]) hx hb dX3_isFree_64 rfl hl (by decide) rfl (fun ls hl => ?_)
            refine lv_iinc (v := nI (i + 1)) (lv' := [(3, .int (nI (i + 1))), (2, .int (nI ((decide (g 2 a1 = 0) && allN i (fun e => !(atE e a1 && (decide (0 < g 2 (bA e)) || decide (0 < g 2 (bB e)))))) && (!(atE i a1) || (!decide (0 < (g 2 (bA i))) && (!decide (0 < (g 2 (bB i))))))).toNat)), (0, .ref (ad 0)), (1, .int (nI a1))]) hx hb dX3_isFree_65 hl (k := 3) rfl (zk_inc _) (by decide) rfl (fun ls hl => ?_)
            refine lv_goto (tgt := 17) hx hb dX3_isFree_68 (by decide) ?_
            exact ih_17 (i + 1) (by first | omega | assumption | (simp; done) | grind) (by omega) _ (congrArg (fun z : Bool => nI z.toNat) (show ((decide (g 2 a1 = 0) && allN i (fun e => !(atE e a1 && (decide (0 < g 2 (bA e)) || decide (0 < g 2 (bB e)))))) && (!(atE i a1) || (!decide (0 < (g 2 (bA i))) && (!decide (0 < (g 2 (bB i)))))) : Bool) = (decide (g 2 a1 = 0) && allN (i + 1) (fun e => !(atE e a1 && (decide (0 < g 2 (bA e)) || decide (0 < g 2 (bB e)))))) from by first | with_reducible rfl | (simp [c_3, mFree, allN]; done) | (simp only [c_3] <;> simp [mFree, allN]; done) | (simp only [mFree, allN, c_3] <;> simp [mFree, allN]; done) | (simp [c_3, mFree, allN, Bool.and_assoc]; done) | (simp [c_3, mFree, allN, Bool.and_assoc, Bool.or_assoc]; done) | rfl | (simp [c_3, mFree, allN]; omega))) locs hS ls (lv_sub hl [2, 3, 1, 0] rfl)
          refine zr_if_eqB (b := decide (g 2 a1 = 0) && allN i (fun e => !(atE e a1 && (decide (0 < g 2 (bA e)) || decide (0 < g 2 (bB e)))))) (tgt := 63) hx hb dX3_isFree_24 (by decide) (fun c_10 => ?_) (fun c_10 => ?_)
          · refine lv_iconst (v := nI 0) hx hb dX3_isFree_63 zi_0 ?_
            exact J_64 _ (congrArg (fun z : Bool => nI z.toNat) (show (false : Bool) = ((decide (g 2 a1 = 0) && allN i (fun e => !(atE e a1 && (decide (0 < g 2 (bA e)) || decide (0 < g 2 (bB e)))))) && (!(atE i a1) || (!decide (0 < (g 2 (bA i))) && (!decide (0 < (g 2 (bB i))))))) from by first | with_reducible rfl | (simp [c_3, c_10, mFree, allN]; done) | (simp only [c_3, c_10] <;> simp [mFree, allN]; done) | (simp only [mFree, allN, c_3, c_10] <;> simp [mFree, allN]; done) | (simp [c_3, c_10, mFree, allN, Bool.and_assoc]; done) | (simp [c_3, c_10, mFree, allN, Bool.and_assoc, Bool.or_assoc]; done) | rfl | (simp [c_3, c_10, mFree, allN]; omega))) locs hS ls (lv_sub hl [0, 1, 3] rfl)
          · refine lv_iload_n hx hb dX3_isFree_27 rfl (lv_at hl 3 rfl) ?_
            refine lv_iload_n hx hb dX3_isFree_28 rfl (lv_at hl 1 rfl) ?_
            refine kM_hasCorner S hK hM hg hS i a1 (by first | omega | assumption | grind) (by first | omega | assumption | grind) (Nat.le_of_ble_eq_true rfl) (Nat.le_of_ble_eq_true rfl) hl.1 (Nat.le_of_ble_eq_true rfl) dX3_isFree_29 (Nat.zero_le _) (Nat.zero_le _) (fun locs hS => ?_)
            refine zr_if_eqB (b := atE i a1) (tgt := 59) hx hb dX3_isFree_32 (by decide) (fun c_11 => ?_) (fun c_11 => ?_)
            · refine lv_iconst (v := nI 1) hx hb dX3_isFree_59 zi_1 ?_
              refine lv_goto (tgt := 64) hx hb dX3_isFree_60 (by decide) ?_
              exact J_64 _ (congrArg (fun z : Bool => nI z.toNat) (show (true : Bool) = ((decide (g 2 a1 = 0) && allN i (fun e => !(atE e a1 && (decide (0 < g 2 (bA e)) || decide (0 < g 2 (bB e)))))) && (!(atE i a1) || (!decide (0 < (g 2 (bA i))) && (!decide (0 < (g 2 (bB i))))))) from by first | with_reducible rfl | (simp [c_3, c_10, c_11, mFree, allN]; done) | (simp only [c_3, c_10, c_11] <;> simp [mFree, allN]; done) | (simp only [mFree, allN, c_3, c_10, c_11] <;> simp [mFree, allN]; done) | (simp [c_3, c_10, c_11, mFree, allN, Bool.and_assoc]; done) | (simp [c_3, c_10, c_11, mFree, allN, Bool.and_assoc, Bool.or_assoc]; done) | rfl | (simp [c_3, c_10, c_11, mFree, allN]; omega))) locs hS ls (lv_sub hl [0, 1, 3] rfl)
            · refine lv_aload_n hx hb dX3_isFree_35 rfl (lv_at hl 0 rfl) ?_
              refine gM_building S hK hM dX3_isFree_36 ?_
              refine lv_iload_n hx hb dX3_isFree_39 rfl (lv_at hl 3 rfl) ?_
              refine kM_oneEnd S hK hM hg hS i (by first | omega | assumption | grind) (Nat.le_of_ble_eq_true rfl) (Nat.le_of_ble_eq_true rfl) hl.1 (Nat.le_of_ble_eq_true rfl) dX3_isFree_40 (Nat.zero_le _) (Nat.zero_le _) (fun locs hS => ?_)
              have f40_0 : bA i < 24 := bA_lt (by omega)
              refine lM_building S hK hM (bA i) (by omega) (g 2 (bA i)) rfl dX3_isFree_43 ?_
              have hb_12 : g 2 (bA i) < 1048576 := by first | exact hg 2 (bA i) | exact hg0 _ _ | (have := hg 2 (bA i); omega) | omega
              refine zr_if_gtN (a := (g 2 (bA i))) (tgt := 63) hx hb (by omega) dX3_isFree_44 (by decide) (fun c_13 => ?_) (fun c_13 => ?_)
              · refine lv_iconst (v := nI 0) hx hb dX3_isFree_63 zi_0 ?_
                exact J_64 _ (congrArg (fun z : Bool => nI z.toNat) (show (false : Bool) = ((decide (g 2 a1 = 0) && allN i (fun e => !(atE e a1 && (decide (0 < g 2 (bA e)) || decide (0 < g 2 (bB e)))))) && (!(atE i a1) || (!decide (0 < (g 2 (bA i))) && (!decide (0 < (g 2 (bB i))))))) from by first | with_reducible rfl | (simp [c_3, c_10, c_11, c_13, mFree, allN]; done) | (simp only [c_3, c_10, c_11, c_13] <;> simp [mFree, allN]; done) | (simp only [mFree, allN, c_3, c_10, c_11, c_13] <;> simp [mFree, allN]; done) | (simp [c_3, c_10, c_11, c_13, mFree, allN, Bool.and_assoc]; done) | (simp [c_3, c_10, c_11, c_13, mFree, allN, Bool.and_assoc, Bool.or_assoc]; done) | rfl | (simp [c_3, c_10, c_11, c_13, mFree, allN]; omega))) locs hS ls (lv_sub hl [0, 1, 3] rfl)
              · refine lv_aload_n hx hb dX3_isFree_47 rfl (lv_at hl 0 rfl) ?_
                refine gM_building S hK hM dX3_isFree_48 ?_
                refine lv_iload_n hx hb dX3_isFree_51 rfl (lv_at hl 3 rfl) ?_
                refine kM_otherEnd S hK hM hg hS i (by first | omega | assumption | grind) (Nat.le_of_ble_eq_true rfl) (Nat.le_of_ble_eq_true rfl) hl.1 (Nat.le_of_ble_eq_true rfl) dX3_isFree_52 (Nat.zero_le _) (Nat.zero_le _) (fun locs hS => ?_)
                have f52_0 : bB i < 24 := bB_lt (by omega)
                refine lM_building S hK hM (bB i) (by omega) (g 2 (bB i)) rfl dX3_isFree_55 ?_
                have hb_14 : g 2 (bB i) < 1048576 := by first | exact hg 2 (bB i) | exact hg0 _ _ | (have := hg 2 (bB i); omega) | omega
                refine zr_if_gtN (a := (g 2 (bB i))) (tgt := 63) hx hb (by omega) dX3_isFree_56 (by decide) (fun c_15 => ?_) (fun c_15 => ?_)
                · refine lv_iconst (v := nI 0) hx hb dX3_isFree_63 zi_0 ?_
                  exact J_64 _ (congrArg (fun z : Bool => nI z.toNat) (show (false : Bool) = ((decide (g 2 a1 = 0) && allN i (fun e => !(atE e a1 && (decide (0 < g 2 (bA e)) || decide (0 < g 2 (bB e)))))) && (!(atE i a1) || (!decide (0 < (g 2 (bA i))) && (!decide (0 < (g 2 (bB i))))))) from by first | with_reducible rfl | (simp [c_3, c_10, c_11, c_13, c_15, mFree, allN]; done) | (simp only [c_3, c_10, c_11, c_13, c_15] <;> simp [mFree, allN]; done) | (simp only [mFree, allN, c_3, c_10, c_11, c_13, c_15] <;> simp [mFree, allN]; done) | (simp [c_3, c_10, c_11, c_13, c_15, mFree, allN, Bool.and_assoc]; done) | (simp [c_3, c_10, c_11, c_13, c_15, mFree, allN, Bool.and_assoc, Bool.or_assoc]; done) | rfl | (simp [c_3, c_10, c_11, c_13, c_15, mFree, allN]; omega))) locs hS ls (lv_sub hl [0, 1, 3] rfl)
                · refine lv_iconst (v := nI 1) hx hb dX3_isFree_59 zi_1 ?_
                  refine lv_goto (tgt := 64) hx hb dX3_isFree_60 (by decide) ?_
                  exact J_64 _ (congrArg (fun z : Bool => nI z.toNat) (show (true : Bool) = ((decide (g 2 a1 = 0) && allN i (fun e => !(atE e a1 && (decide (0 < g 2 (bA e)) || decide (0 < g 2 (bB e)))))) && (!(atE i a1) || (!decide (0 < (g 2 (bA i))) && (!decide (0 < (g 2 (bB i))))))) from by first | with_reducible rfl | (simp [c_3, c_10, c_11, c_13, c_15, mFree, allN]; done) | (simp only [c_3, c_10, c_11, c_13, c_15] <;> simp [mFree, allN]; done) | (simp only [mFree, allN, c_3, c_10, c_11, c_13, c_15] <;> simp [mFree, allN]; done) | (simp [c_3, c_10, c_11, c_13, c_15, mFree, allN, Bool.and_assoc]; done) | (simp [c_3, c_10, c_11, c_13, c_15, mFree, allN, Bool.and_assoc, Bool.or_assoc]; done) | rfl | (simp [c_3, c_10, c_11, c_13, c_15, mFree, allN]; omega))) locs hS ls (lv_sub hl [0, 1, 3] rfl)
    exact L_17 _ 0 (by first | omega | assumption | (simp; done) | grind) (Nat.lt_succ_self _) _ (congrArg (fun z : Bool => nI z.toNat) (show (decide ((g 2 a1) = 0) : Bool) = (decide (g 2 a1 = 0) && allN 0 (fun e => !(atE e a1 && (decide (0 < g 2 (bA e)) || decide (0 < g 2 (bB e)))))) from by first | with_reducible rfl | (simp [mFree, allN]; done) | (simp [mFree, allN, Bool.and_assoc]; done) | (simp [mFree, allN, Bool.and_assoc, Bool.or_assoc]; done) | rfl | (simp [mFree, allN]; omega))) locs hS ls (lv_sub hl [2, 3, 1, 0] rfl)
  refine zr_if_neN (a := (g 2 a1)) (tgt := 13) hx hb (by omega) dX3_isFree_6 (by decide) (fun c_16 => ?_) (fun c_16 => ?_)
  · refine lv_iconst (v := nI 0) hx hb dX3_isFree_13 zi_0 ?_
    exact J_14 _ (congrArg (fun z : Bool => nI z.toNat) (show (false : Bool) = (decide ((g 2 a1) = 0)) from by first | with_reducible rfl | (simp [c_16, mFree, allN]; done) | (simp only [c_16] <;> simp [mFree, allN]; done) | (simp only [mFree, allN, c_16] <;> simp [mFree, allN]; done) | (simp [c_16, mFree, allN, Bool.and_assoc]; done) | (simp [c_16, mFree, allN, Bool.and_assoc, Bool.or_assoc]; done) | rfl | (simp [c_16, mFree, allN]; omega))) [] hS ls (lv_sub hl [0, 1] rfl)
  · refine lv_iconst (v := nI 1) hx hb dX3_isFree_9 zi_1 ?_
    refine lv_goto (tgt := 14) hx hb dX3_isFree_10 (by decide) ?_
    exact J_14 _ (congrArg (fun z : Bool => nI z.toNat) (show (true : Bool) = (decide ((g 2 a1) = 0)) from by first | with_reducible rfl | (simp [c_16, mFree, allN]; done) | (simp only [c_16] <;> simp [mFree, allN]; done) | (simp only [mFree, allN, c_16] <;> simp [mFree, allN]; done) | (simp [c_16, mFree, allN, Bool.and_assoc]; done) | (simp [c_16, mFree, allN, Bool.and_assoc, Bool.or_assoc]; done) | rfl | (simp [c_16, mFree, allN]; omega))) [] hS ls (lv_sub hl [0, 1] rfl)
theorem kM_isFree {pr : Program} {l : Launch} {en : Env} {R : Room} {s : State} {m : MethodId} {args : Array Value} {below : List Frame} {meth : Method} {cd : Code} {H : Heap} {locs : List Loc} {cells slots : Nat} {Q : State → Prop} {cc : ByteArray} {pc nL : Nat} {ls : Array Slot} {rest : List Value} {D : va_G} {dA : Nat → ClassId} {A : Nat → Prop} {ad : Nat → Nat} {g : G} (S : CallFix pr m cd cc nL s args lw_all RX3) (hK : KT D dA s) (hM : MS D dA A ad g H) (hg : Sm g) (hS : va_S A s.heap H locs) (a1 : Nat) (h1 : a1 < 24) (hf : 3 + 1 ≤ R.frames) (hlo : 8 + (4 + 11) + 53 ≤ R.locals) (hsz : ls.size = nL) (hcat : (rest.map fun v => v.category).sum ≤ 8) (hdg : decode cc pc = .ok (.invokevirtual 146, 3)) (hq1 : cells ≤ R.cells) (hq2 : slots ≤ R.slots) (kk : ∀ locs1 : List Loc, va_S A s.heap H locs1 → W pr l en R s m args below meth cd H locs1 cells slots Q (F0 m (pc + 3) ls (.int (nI (mFree g a1).toNat) :: rest))) : W pr l en R s m args below meth cd H locs cells slots Q (F0 m pc ls (.int (nI a1) :: .ref (ad 0) :: rest)) :=
  zc_callV (n := 1) (As := [.int (nI a1)]) (rest := rest) S (cM_isFree l hg a1 h1  H hM (Post := (fun v H1 => v = some (.int (nI (mFree g a1).toNat)) ∧ H1 = H)) ⟨rfl, rfl⟩) (lw_V q1154 q1156 qs37 q76 q1157) (by decide +kernel) ⟨hf, hlo⟩ ⟨hq1, hq2⟩ (zm_recv hK hM) KT_mv (zc_K KT_mv hK hS) hS (fun _ h => h) rfl hsz rfl hcat hdg (fun v H1 locs1 hp _ _ hS1 => by obtain ⟨rfl, rfl⟩ := hp; exact kk locs1 hS1)
set_option maxHeartbeats 1000000 in
set_option maxRecDepth 100000 in
theorem cM_hasRoadAt (l : Launch) {D : va_G} {dA : Nat → ClassId} {A : Nat → Prop} {ad : Nat → Nat} {g : G} (hg : Sm g) (a1 : Nat) (a2 : Nat) (a3 : Nat) (h1 : a1 < 3) (h2 : a2 < 24) (h3 : a3 < 1048576) (H0 : Heap) (hM : MS D dA A ad g H0) {Post : Option Value → Heap → Prop} (hPost : Post (some (.int (nI (mRoadAt g a1 a2 a3).toNat))) H0) : Ct l yX3_hasRoadAt (ws_ yX3_hasRoadAt cX3_hasRoadAt 6 (some .boolean)) (rmF 3 0 0 53) A (KT D dA) [.ref (ad 0), .int (nI a1), .int (nI a2), .int (mI a3)] H0 Post := by
  refine zc_of RX3 rfl (by decide) (Nat.le_of_ble_eq_true rfl) ?_
  intro pr en s m args below meth cd S hr hlk hnm hh hK ls hl
  have hS : va_S A s.heap H0 [] := zc_start hh
  have hg0 := hg
  have hx := S.1
  have hb := S.2.1
  have hown := S.2.2.2.1
  have hts := S.2.2.2.2
  have hl : lv_has ls 6 [(0, .ref (ad 0)), (1, .int (nI a1)), (2, .int (nI a2)), (3, .int (mI a3))] := hl
  refine lv_iconst (v := nI 0) hx hb dX3_hasRoadAt_0 zi_0 ?_
  refine lv_istore (lv' := [(4, .int (nI 0)), (0, .ref (ad 0)), (1, .int (nI a1)), (2, .int (nI a2)), (3, .int (mI a3))]) hx hb dX3_hasRoadAt_1 hl (by decide) rfl (fun ls hl => ?_)
  refine lv_iconst (v := nI 0) hx hb dX3_hasRoadAt_3 zi_0 ?_
  refine lv_istore (lv' := [(5, .int (nI 0)), (4, .int (nI 0)), (0, .ref (ad 0)), (1, .int (nI a1)), (2, .int (nI a2)), (3, .int (mI a3))]) hx hb dX3_hasRoadAt_4 hl (by decide) rfl (fun ls hl => ?_)
  have L_6 : ∀ (n_6 : Nat) (i : Nat), i ≤ 30 → 30 - i < n_6 → ∀ x4_6 : Int32, x4_6 = nI (anyN i (fun e => !decide (e + 1 = a3) && (decide (g 3 e = a1 + 1) && atE e a2))).toNat → ∀ (locs : List Loc), va_S A s.heap H0 locs → ∀ ls : Array Slot, lv_has ls 6 [(0, .ref (ad 0)), (1, .int (nI a1)), (2, .int (nI a2)), (3, .int (mI a3)), (4, .int x4_6), (5, .int (nI i))] → W pr l en (rmF 3 0 0 53) s m args below meth cd H0 locs 0 0 (MQ below (zc_Q Post A) args s 0 0 A) (F0 m 6 ls []) := by
    intro n_6
    induction n_6 with
    | zero => intro i hi_6 hm_6; exact absurd hm_6 (Nat.not_lt_zero _)
    | succ n_6 ih_6 =>
      intro i hi_6 hm_6 x4_6 ex4_6 locs hS ls hl
      subst ex4_6
      refine lv_iload hx hb dX3_hasRoadAt_6 (lv_at hl 5 rfl) ?_
      refine lv_bipush (v := nI 30) hx hb dX3_hasRoadAt_8 zb_30 ?_
      refine zr_icmp_geN (a := i) (b := 30) (tgt := 59) hx hb (by omega) (by omega) dX3_hasRoadAt_10 (by decide) (fun c_1 => ?_) (fun c_1 => ?_)
      · have e_i : 30 = i := by omega
        subst e_i
        refine lv_iload hx hb dX3_hasRoadAt_59 (lv_at hl 4 rfl) ?_
        exact zc_bret (mRoadAt g a1 a2 a3) (congrArg (fun z : Bool => nI z.toNat) (show (anyN 30 (fun e => !decide (e + 1 = a3) && (decide (g 3 e = a1 + 1) && atE e a2)) : Bool) = (mRoadAt g a1 a2 a3) from by first | with_reducible rfl | (simp [c_1, mRoadAt, anyN]; done) | (simp only [c_1] <;> simp [mRoadAt, anyN]; done) | (simp only [mRoadAt, anyN, c_1] <;> simp [mRoadAt, anyN]; done) | (simp [c_1, mRoadAt, anyN, Bool.and_assoc]; done) | (simp [c_1, mRoadAt, anyN, Bool.and_assoc, Bool.or_assoc]; done) | rfl | (simp [c_1, mRoadAt, anyN]; omega))) hPost hS hx hb hr hlk (Nat.zero_le _) (Nat.zero_le _) dX3_hasRoadAt_61
      · refine lv_iload hx hb dX3_hasRoadAt_13 (lv_at hl 4 rfl) ?_
        have J_51 : ∀ yS0_51 : Int32, yS0_51 = nI ((anyN i (fun e => !decide (e + 1 = a3) && (decide (g 3 e = a1 + 1) && atE e a2))) || (!decide ((i + 1) = a3) && (decide ((g 3 i) = (a1 + 1)) && ((atE i a2))))).toNat → ∀ (locs : List Loc), va_S A s.heap H0 locs → ∀ ls : Array Slot, lv_has ls 6 [(0, .ref (ad 0)), (1, .int (nI a1)), (2, .int (nI a2)), (3, .int (mI a3)), (5, .int (nI i))] → W pr l en (rmF 3 0 0 53) s m args below meth cd H0 locs 0 0 (MQ below (zc_Q Post A) args s 0 0 A) (F0 m 51 ls [.int yS0_51]) := by
          intro yS0_51 eyS0_51 locs hS ls hl
          subst eyS0_51
          refine lv_istore (lv' := [(4, .int (nI ((anyN i (fun e => !decide (e + 1 = a3) && (decide (g 3 e = a1 + 1) && atE e a2))) || (!decide ((i + 1) = a3) && (decide ((g 3 i) = (a1 + 1)) && ((atE i a2))))).toNat)), (0, .ref (ad 0)), (1, .int (nI a1)), (2, .int (nI a2)), (3, .int (mI a3)), (5, .int (nI i))]) hx hb dX3_hasRoadAt_51 hl (by decide) rfl (fun ls hl => ?_)
          refine lv_iinc (v := nI (i + 1)) (lv' := [(5, .int (nI (i + 1))), (4, .int (nI ((anyN i (fun e => !decide (e + 1 = a3) && (decide (g 3 e = a1 + 1) && atE e a2))) || (!decide ((i + 1) = a3) && (decide ((g 3 i) = (a1 + 1)) && ((atE i a2))))).toNat)), (0, .ref (ad 0)), (1, .int (nI a1)), (2, .int (nI a2)), (3, .int (mI a3))]) hx hb dX3_hasRoadAt_53 hl (k := 5) rfl (zk_inc _) (by decide) rfl (fun ls hl => ?_)
          refine lv_goto (tgt := 6) hx hb dX3_hasRoadAt_56 (by decide) ?_
          exact ih_6 (i + 1) (by first | omega | assumption | (simp; done) | grind) (by omega) _ (congrArg (fun z : Bool => nI z.toNat) (show ((anyN i (fun e => !decide (e + 1 = a3) && (decide (g 3 e = a1 + 1) && atE e a2))) || (!decide ((i + 1) = a3) && (decide ((g 3 i) = (a1 + 1)) && ((atE i a2)))) : Bool) = (anyN (i + 1) (fun e => !decide (e + 1 = a3) && (decide (g 3 e = a1 + 1) && atE e a2))) from by first | with_reducible rfl | (simp [c_1, mRoadAt, anyN]; done) | (simp only [c_1] <;> simp [mRoadAt, anyN]; done) | (simp only [mRoadAt, anyN, c_1] <;> simp [mRoadAt, anyN]; done) | (simp [c_1, mRoadAt, anyN, Bool.and_assoc]; done) | (simp [c_1, mRoadAt, anyN, Bool.and_assoc, Bool.or_assoc]; done) | rfl | (simp [c_1, mRoadAt, anyN]; omega))) locs hS ls (lv_sub hl [2, 3, 4, 5, 1, 0] rfl)
        refine zr_if_neB (b := anyN i (fun e => !decide (e + 1 = a3) && (decide (g 3 e = a1 + 1) && atE e a2))) (tgt := 46) hx hb dX3_hasRoadAt_15 (by decide) (fun c_7 => ?_) (fun c_7 => ?_)
        · refine lv_iconst (v := nI 1) hx hb dX3_hasRoadAt_46 zi_1 ?_
          refine lv_goto (tgt := 51) hx hb dX3_hasRoadAt_47 (by decide) ?_
          exact J_51 _ (congrArg (fun z : Bool => nI z.toNat) (show (true : Bool) = ((anyN i (fun e => !decide (e + 1 = a3) && (decide (g 3 e = a1 + 1) && atE e a2))) || (!decide ((i + 1) = a3) && (decide ((g 3 i) = (a1 + 1)) && ((atE i a2))))) from by first | with_reducible rfl | (simp [c_1, c_7, mRoadAt, anyN]; done) | (simp only [c_1, c_7] <;> simp [mRoadAt, anyN]; done) | (simp only [mRoadAt, anyN, c_1, c_7] <;> simp [mRoadAt, anyN]; done) | (simp [c_1, c_7, mRoadAt, anyN, Bool.and_assoc]; done) | (simp [c_1, c_7, mRoadAt, anyN, Bool.and_assoc, Bool.or_assoc]; done) | rfl | (simp [c_1, c_7, mRoadAt, anyN]; omega))) locs hS ls (lv_sub hl [0, 1, 2, 3, 5] rfl)
        · refine lv_iload hx hb dX3_hasRoadAt_18 (lv_at hl 5 rfl) ?_
          refine lv_iload_n hx hb dX3_hasRoadAt_20 rfl (lv_at hl 3 rfl) ?_
          rw [← mI_succ i]
          refine zr_icmp_eqM (a := (i + 1)) (b := a3) (tgt := 50) hx hb (by omega) (by omega) dX3_hasRoadAt_21 (by decide) (fun c_8 => ?_) (fun c_8 => ?_)
          · refine lv_iconst (v := nI 0) hx hb dX3_hasRoadAt_50 zi_0 ?_
            exact J_51 _ (congrArg (fun z : Bool => nI z.toNat) (show (false : Bool) = ((anyN i (fun e => !decide (e + 1 = a3) && (decide (g 3 e = a1 + 1) && atE e a2))) || (!decide ((i + 1) = a3) && (decide ((g 3 i) = (a1 + 1)) && ((atE i a2))))) from by first | with_reducible rfl | (simp [c_1, c_7, c_8, mRoadAt, anyN]; done) | (simp only [c_1, c_7, c_8] <;> simp [mRoadAt, anyN]; done) | (simp only [mRoadAt, anyN, c_1, c_7, c_8] <;> simp [mRoadAt, anyN]; done) | (simp [c_1, c_7, c_8, mRoadAt, anyN, Bool.and_assoc]; done) | (simp [c_1, c_7, c_8, mRoadAt, anyN, Bool.and_assoc, Bool.or_assoc]; done) | rfl | (simp [c_1, c_7, c_8, mRoadAt, anyN]; omega))) locs hS ls (lv_sub hl [0, 1, 2, 3, 5] rfl)
          · refine lv_aload_n hx hb dX3_hasRoadAt_24 rfl (lv_at hl 0 rfl) ?_
            refine gM_road S hK hM dX3_hasRoadAt_25 ?_
            refine lv_iload hx hb dX3_hasRoadAt_28 (lv_at hl 5 rfl) ?_
            refine lM_road S hK hM i (by omega) (g 3 i) rfl dX3_hasRoadAt_30 ?_
            have hb_9 : g 3 i < 1048576 := by first | exact hg 3 i | exact hg0 _ _ | (have := hg 3 i; omega) | omega
            refine lv_iload_n hx hb dX3_hasRoadAt_31 rfl (lv_at hl 1 rfl) ?_
            refine lv_iconst (v := nI 1) hx hb dX3_hasRoadAt_32 zi_1 ?_
            refine zr_addN (a := a1) (b := 1) hx hb dX3_hasRoadAt_33 ?_
            refine zr_icmp_neN (a := (g 3 i)) (b := (a1 + 1)) (tgt := 50) hx hb (by omega) (by omega) dX3_hasRoadAt_34 (by decide) (fun c_10 => ?_) (fun c_10 => ?_)
            · refine lv_iconst (v := nI 0) hx hb dX3_hasRoadAt_50 zi_0 ?_
              exact J_51 _ (congrArg (fun z : Bool => nI z.toNat) (show (false : Bool) = ((anyN i (fun e => !decide (e + 1 = a3) && (decide (g 3 e = a1 + 1) && atE e a2))) || (!decide ((i + 1) = a3) && (decide ((g 3 i) = (a1 + 1)) && ((atE i a2))))) from by first | with_reducible rfl | (simp [c_1, c_7, c_8, c_10, mRoadAt, anyN]; done) | (simp only [c_1, c_7, c_8, c_10] <;> simp [mRoadAt, anyN]; done) | (simp only [mRoadAt, anyN, c_1, c_7, c_8, c_10] <;> simp [mRoadAt, anyN]; done) | (simp [c_1, c_7, c_8, c_10, mRoadAt, anyN, Bool.and_assoc]; done) | (simp [c_1, c_7, c_8, c_10, mRoadAt, anyN, Bool.and_assoc, Bool.or_assoc]; done) | rfl | (simp [c_1, c_7, c_8, c_10, mRoadAt, anyN]; omega))) locs hS ls (lv_sub hl [0, 1, 2, 3, 5] rfl)
            · refine lv_iload hx hb dX3_hasRoadAt_37 (lv_at hl 5 rfl) ?_
              refine lv_iload_n hx hb dX3_hasRoadAt_39 rfl (lv_at hl 2 rfl) ?_
              refine kM_hasCorner S hK hM hg hS i a2 (by first | omega | assumption | grind) (by first | omega | assumption | grind) (Nat.le_of_ble_eq_true rfl) (Nat.le_of_ble_eq_true rfl) hl.1 (Nat.le_of_ble_eq_true rfl) dX3_hasRoadAt_40 (Nat.zero_le _) (Nat.zero_le _) (fun locs hS => ?_)
              refine zr_if_eqB (b := atE i a2) (tgt := 50) hx hb dX3_hasRoadAt_43 (by decide) (fun c_11 => ?_) (fun c_11 => ?_)
              · refine lv_iconst (v := nI 0) hx hb dX3_hasRoadAt_50 zi_0 ?_
                exact J_51 _ (congrArg (fun z : Bool => nI z.toNat) (show (false : Bool) = ((anyN i (fun e => !decide (e + 1 = a3) && (decide (g 3 e = a1 + 1) && atE e a2))) || (!decide ((i + 1) = a3) && (decide ((g 3 i) = (a1 + 1)) && ((atE i a2))))) from by first | with_reducible rfl | (simp [c_1, c_7, c_8, c_10, c_11, mRoadAt, anyN]; done) | (simp only [c_1, c_7, c_8, c_10, c_11] <;> simp [mRoadAt, anyN]; done) | (simp only [mRoadAt, anyN, c_1, c_7, c_8, c_10, c_11] <;> simp [mRoadAt, anyN]; done) | (simp [c_1, c_7, c_8, c_10, c_11, mRoadAt, anyN, Bool.and_assoc]; done) | (simp [c_1, c_7, c_8, c_10, c_11, mRoadAt, anyN, Bool.and_assoc, Bool.or_assoc]; done) | rfl | (simp [c_1, c_7, c_8, c_10, c_11, mRoadAt, anyN]; omega))) locs hS ls (lv_sub hl [0, 1, 2, 3, 5] rfl)
              · refine lv_iconst (v := nI 1) hx hb dX3_hasRoadAt_46 zi_1 ?_
                refine lv_goto (tgt := 51) hx hb dX3_hasRoadAt_47 (by decide) ?_
                exact J_51 _ (congrArg (fun z : Bool => nI z.toNat) (show (true : Bool) = ((anyN i (fun e => !decide (e + 1 = a3) && (decide (g 3 e = a1 + 1) && atE e a2))) || (!decide ((i + 1) = a3) && (decide ((g 3 i) = (a1 + 1)) && ((atE i a2))))) from by first | with_reducible rfl | (simp [c_1, c_7, c_8, c_10, c_11, mRoadAt, anyN]; done) | (simp only [c_1, c_7, c_8, c_10, c_11] <;> simp [mRoadAt, anyN]; done) | (simp only [mRoadAt, anyN, c_1, c_7, c_8, c_10, c_11] <;> simp [mRoadAt, anyN]; done) | (simp [c_1, c_7, c_8, c_10, c_11, mRoadAt, anyN, Bool.and_assoc]; done) | (simp [c_1, c_7, c_8, c_10, c_11, mRoadAt, anyN, Bool.and_assoc, Bool.or_assoc]; done) | rfl | (simp [c_1, c_7, c_8, c_10, c_11, mRoadAt, anyN]; omega))) locs hS ls (lv_sub hl [0, 1, 2, 3, 5] rfl)
  exact L_6 _ 0 (by first | omega | assumption | (simp; done) | grind) (Nat.lt_succ_self _) _ (congrArg (fun z : Bool => nI z.toNat) (show (false : Bool) = (anyN 0 (fun e => !decide (e + 1 = a3) && (decide (g 3 e = a1 + 1) && atE e a2))) from by first | with_reducible rfl | (simp [mRoadAt, anyN]; done) | (simp [mRoadAt, anyN, Bool.and_assoc]; done) | (simp [mRoadAt, anyN, Bool.and_assoc, Bool.or_assoc]; done) | rfl | (simp [mRoadAt, anyN]; omega))) [] hS ls (lv_sub hl [2, 3, 4, 5, 1, 0] rfl)
theorem kM_hasRoadAt {pr : Program} {l : Launch} {en : Env} {R : Room} {s : State} {m : MethodId} {args : Array Value} {below : List Frame} {meth : Method} {cd : Code} {H : Heap} {locs : List Loc} {cells slots : Nat} {Q : State → Prop} {cc : ByteArray} {pc nL : Nat} {ls : Array Slot} {rest : List Value} {D : va_G} {dA : Nat → ClassId} {A : Nat → Prop} {ad : Nat → Nat} {g : G} (S : CallFix pr m cd cc nL s args lw_all RX3) (hK : KT D dA s) (hM : MS D dA A ad g H) (hg : Sm g) (hS : va_S A s.heap H locs) (a1 : Nat) (a2 : Nat) (a3 : Nat) (h1 : a1 < 3) (h2 : a2 < 24) (h3 : a3 < 1048576) (hf : 3 + 1 ≤ R.frames) (hlo : 8 + (6 + 11) + 53 ≤ R.locals) (hsz : ls.size = nL) (hcat : (rest.map fun v => v.category).sum ≤ 8) (hdg : decode cc pc = .ok (.invokevirtual 77, 3)) (hq1 : cells ≤ R.cells) (hq2 : slots ≤ R.slots) (kk : ∀ locs1 : List Loc, va_S A s.heap H locs1 → W pr l en R s m args below meth cd H locs1 cells slots Q (F0 m (pc + 3) ls (.int (nI (mRoadAt g a1 a2 a3).toNat) :: rest))) : W pr l en R s m args below meth cd H locs cells slots Q (F0 m pc ls (.int (mI a3) :: .int (nI a2) :: .int (nI a1) :: .ref (ad 0) :: rest)) :=
  zc_callV (n := 3) (As := [.int (nI a1), .int (nI a2), .int (mI a3)]) (rest := rest) S (cM_hasRoadAt l hg a1 a2 a3 h1 h2 h3  H hM (Post := (fun v H1 => v = some (.int (nI (mRoadAt g a1 a2 a3).toNat)) ∧ H1 = H)) ⟨rfl, rfl⟩) (lw_V q1286 q1288 qs58 q76 q1289) (by decide +kernel) ⟨hf, hlo⟩ ⟨hq1, hq2⟩ (zm_recv hK hM) KT_mv (zc_K KT_mv hK hS) hS (fun _ h => h) rfl hsz rfl hcat hdg (fun v H1 locs1 hp _ _ hS1 => by obtain ⟨rfl, rfl⟩ := hp; exact kk locs1 hS1)
set_option maxHeartbeats 1000000 in
set_option maxRecDepth 100000 in
theorem cM_leads (l : Launch) {D : va_G} {dA : Nat → ClassId} {A : Nat → Prop} {ad : Nat → Nat} {g : G} (hg : Sm g) (a1 : Nat) (a2 : Nat) (a3 : Nat) (h1 : a1 < 3) (h2 : a2 < 30) (h3 : a3 < 24) (H0 : Heap) (hM : MS D dA A ad g H0) {Post : Option Value → Heap → Prop} (hPost : Post (some (.int (nI (mLeads g a1 a2 a3).toNat))) H0) : Ct l yX3_leads (ws_ yX3_leads cX3_leads 4 (some .boolean)) (rmF 4 0 0 78) A (KT D dA) [.ref (ad 0), .int (nI a1), .int (nI a2), .int (nI a3)] H0 Post := by
  refine zc_of RX3 rfl (by decide) (Nat.le_of_ble_eq_true rfl) ?_
  intro pr en s m args below meth cd S hr hlk hnm hh hK ls hl
  have hS : va_S A s.heap H0 [] := zc_start hh
  have hg0 := hg
  have hx := S.1
  have hb := S.2.1
  have hown := S.2.2.2.1
  have hts := S.2.2.2.2
  have hl : lv_has ls 4 [(0, .ref (ad 0)), (1, .int (nI a1)), (2, .int (nI a2)), (3, .int (nI a3))] := hl
  refine lv_aload_n hx hb dX3_leads_0 rfl (lv_at hl 0 rfl) ?_
  refine lv_iload_n hx hb dX3_leads_1 rfl (lv_at hl 3 rfl) ?_
  refine kM_ownerAt S hK hM hg hS a3 (by first | omega | assumption | grind) (Nat.le_of_ble_eq_true rfl) (Nat.le_of_ble_eq_true rfl) hl.1 (Nat.le_of_ble_eq_true rfl) dX3_leads_2 (Nat.zero_le _) (Nat.zero_le _) (fun locs hS => ?_)
  have f2_0 : own1 g a3 < 4 := own1_lt _ _
  refine lv_iload_n hx hb dX3_leads_5 rfl (lv_at hl 1 rfl) ?_
  rw [← mI_succ a1]
  refine zr_icmp_eqM (a := (own1 g a3)) (b := (a1 + 1)) (tgt := 28) hx hb (by omega) (by omega) dX3_leads_6 (by decide) (fun c_1 => ?_) (fun c_1 => ?_)
  · refine lv_iconst (v := nI 1) hx hb dX3_leads_28 zi_1 ?_
    refine lv_goto (tgt := 33) hx hb dX3_leads_29 (by decide) ?_
    exact zc_bret (mLeads g a1 a2 a3) (congrArg (fun z : Bool => nI z.toNat) (show (true : Bool) = (mLeads g a1 a2 a3) from by first | with_reducible rfl | (simp [c_1, mLeads]; done) | (simp only [c_1] <;> simp [mLeads]; done) | (simp only [mLeads, c_1] <;> simp [mLeads]; done) | (simp [c_1, mLeads, Bool.and_assoc]; done) | (simp [c_1, mLeads, Bool.and_assoc, Bool.or_assoc]; done) | rfl | (simp [c_1, mLeads]; omega))) hPost hS hx hb hr hlk (Nat.zero_le _) (Nat.zero_le _) dX3_leads_33
  · refine lv_aload_n hx hb dX3_leads_9 rfl (lv_at hl 0 rfl) ?_
    refine lv_iload_n hx hb dX3_leads_10 rfl (lv_at hl 3 rfl) ?_
    refine kM_ownerAt S hK hM hg hS a3 (by first | omega | assumption | grind) (Nat.le_of_ble_eq_true rfl) (Nat.le_of_ble_eq_true rfl) hl.1 (Nat.le_of_ble_eq_true rfl) dX3_leads_11 (Nat.zero_le _) (Nat.zero_le _) (fun locs hS => ?_)
    have f11_0 : own1 g a3 < 4 := own1_lt _ _
    refine lv_iconst (v := mI 0) hx hb dX3_leads_14 zi_m1 ?_
    refine zr_icmp_neM (a := (own1 g a3)) (b := 0) (tgt := 32) hx hb (by omega) (by omega) dX3_leads_15 (by decide) (fun c_2 => ?_) (fun c_2 => ?_)
    · refine lv_iconst (v := nI 0) hx hb dX3_leads_32 zi_0 ?_
      exact zc_bret (mLeads g a1 a2 a3) (congrArg (fun z : Bool => nI z.toNat) (show (false : Bool) = (mLeads g a1 a2 a3) from by first | with_reducible rfl | (simp [c_1, c_2, mLeads]; done) | (simp only [c_1, c_2] <;> simp [mLeads]; done) | (simp only [mLeads, c_1, c_2] <;> simp [mLeads]; done) | (simp [c_1, c_2, mLeads, Bool.and_assoc]; done) | (simp [c_1, c_2, mLeads, Bool.and_assoc, Bool.or_assoc]; done) | rfl | (simp [c_1, c_2, mLeads]; omega))) hPost hS hx hb hr hlk (Nat.zero_le _) (Nat.zero_le _) dX3_leads_33
    · refine lv_aload_n hx hb dX3_leads_18 rfl (lv_at hl 0 rfl) ?_
      refine lv_iload_n hx hb dX3_leads_19 rfl (lv_at hl 1 rfl) ?_
      refine lv_iload_n hx hb dX3_leads_20 rfl (lv_at hl 3 rfl) ?_
      refine lv_iload_n hx hb dX3_leads_21 rfl (lv_at hl 2 rfl) ?_
      refine zr_nm ?_
      refine kM_hasRoadAt S hK hM hg hS a1 a3 (a2 + 1) (by first | omega | assumption | grind) (by first | omega | assumption | grind) (by first | omega | assumption | grind) (Nat.le_of_ble_eq_true rfl) (Nat.le_of_ble_eq_true rfl) hl.1 (Nat.le_of_ble_eq_true rfl) dX3_leads_22 (Nat.zero_le _) (Nat.zero_le _) (fun locs hS => ?_)
      refine zr_if_eqB (b := mRoadAt g a1 a3 (a2 + 1)) (tgt := 32) hx hb dX3_leads_25 (by decide) (fun c_3 => ?_) (fun c_3 => ?_)
      · refine lv_iconst (v := nI 0) hx hb dX3_leads_32 zi_0 ?_
        exact zc_bret (mLeads g a1 a2 a3) (congrArg (fun z : Bool => nI z.toNat) (show (false : Bool) = (mLeads g a1 a2 a3) from by first | with_reducible rfl | (simp [c_1, c_2, c_3, mLeads]; done) | (simp only [c_1, c_2, c_3] <;> simp [mLeads]; done) | (simp only [mLeads, c_1, c_2, c_3] <;> simp [mLeads]; done) | (simp [c_1, c_2, c_3, mLeads, Bool.and_assoc]; done) | (simp [c_1, c_2, c_3, mLeads, Bool.and_assoc, Bool.or_assoc]; done) | rfl | (simp [c_1, c_2, c_3, mLeads]; omega))) hPost hS hx hb hr hlk (Nat.zero_le _) (Nat.zero_le _) dX3_leads_33
      · refine lv_iconst (v := nI 1) hx hb dX3_leads_28 zi_1 ?_
        refine lv_goto (tgt := 33) hx hb dX3_leads_29 (by decide) ?_
        exact zc_bret (mLeads g a1 a2 a3) (congrArg (fun z : Bool => nI z.toNat) (show (true : Bool) = (mLeads g a1 a2 a3) from by first | with_reducible rfl | (simp [c_1, c_2, c_3, mLeads]; done) | (simp only [c_1, c_2, c_3] <;> simp [mLeads]; done) | (simp only [mLeads, c_1, c_2, c_3] <;> simp [mLeads]; done) | (simp [c_1, c_2, c_3, mLeads, Bool.and_assoc]; done) | (simp [c_1, c_2, c_3, mLeads, Bool.and_assoc, Bool.or_assoc]; done) | rfl | (simp [c_1, c_2, c_3, mLeads]; omega))) hPost hS hx hb hr hlk (Nat.zero_le _) (Nat.zero_le _) dX3_leads_33
theorem kM_leads {pr : Program} {l : Launch} {en : Env} {R : Room} {s : State} {m : MethodId} {args : Array Value} {below : List Frame} {meth : Method} {cd : Code} {H : Heap} {locs : List Loc} {cells slots : Nat} {Q : State → Prop} {cc : ByteArray} {pc nL : Nat} {ls : Array Slot} {rest : List Value} {D : va_G} {dA : Nat → ClassId} {A : Nat → Prop} {ad : Nat → Nat} {g : G} (S : CallFix pr m cd cc nL s args lw_all RX3) (hK : KT D dA s) (hM : MS D dA A ad g H) (hg : Sm g) (hS : va_S A s.heap H locs) (a1 : Nat) (a2 : Nat) (a3 : Nat) (h1 : a1 < 3) (h2 : a2 < 30) (h3 : a3 < 24) (hf : 4 + 1 ≤ R.frames) (hlo : 8 + (4 + 11) + 78 ≤ R.locals) (hsz : ls.size = nL) (hcat : (rest.map fun v => v.category).sum ≤ 8) (hdg : decode cc pc = .ok (.invokevirtual 84, 3)) (hq1 : cells ≤ R.cells) (hq2 : slots ≤ R.slots) (kk : ∀ locs1 : List Loc, va_S A s.heap H locs1 → W pr l en R s m args below meth cd H locs1 cells slots Q (F0 m (pc + 3) ls (.int (nI (mLeads g a1 a2 a3).toNat) :: rest))) : W pr l en R s m args below meth cd H locs cells slots Q (F0 m pc ls (.int (nI a3) :: .int (nI a2) :: .int (nI a1) :: .ref (ad 0) :: rest)) :=
  zc_callV (n := 3) (As := [.int (nI a1), .int (nI a2), .int (nI a3)]) (rest := rest) S (cM_leads l hg a1 a2 a3 h1 h2 h3  H hM (Post := (fun v H1 => v = some (.int (nI (mLeads g a1 a2 a3).toNat)) ∧ H1 = H)) ⟨rfl, rfl⟩) (lw_V q1282 q1284 qs57 q76 q1285) (by decide +kernel) ⟨hf, hlo⟩ ⟨hq1, hq2⟩ (zm_recv hK hM) KT_mv (zc_K KT_mv hK hS) hS (fun _ h => h) rfl hsz rfl hcat hdg (fun v H1 locs1 hp _ _ hS1 => by obtain ⟨rfl, rfl⟩ := hp; exact kk locs1 hS1)
set_option maxHeartbeats 1000000 in
set_option maxRecDepth 100000 in
theorem cM_roadsOf (l : Launch) {D : va_G} {dA : Nat → ClassId} {A : Nat → Prop} {ad : Nat → Nat} {g : G} (hg : Sm g) (a1 : Nat) (h1 : a1 < 3) (H0 : Heap) (hM : MS D dA A ad g H0) {Post : Option Value → Heap → Prop} (hPost : Post (some (.int (nI (roadsN g a1 30)))) H0) : Ct l yX3_roadsOf (ws_ yX3_roadsOf cX3_roadsOf 4 (some .int)) (rmF 1 0 0 15) A (KT D dA) [.ref (ad 0), .int (nI a1)] H0 Post := by
  refine zc_of RX3 rfl (by decide) (Nat.le_of_ble_eq_true rfl) ?_
  intro pr en s m args below meth cd S hr hlk hnm hh hK ls hl
  have hS : va_S A s.heap H0 [] := zc_start hh
  have hg0 := hg
  have hx := S.1
  have hb := S.2.1
  have hown := S.2.2.2.1
  have hts := S.2.2.2.2
  have hl : lv_has ls 4 [(0, .ref (ad 0)), (1, .int (nI a1))] := hl
  refine lv_iconst (v := nI 0) hx hb dX3_roadsOf_0 zi_0 ?_
  refine lv_istore_n (lv' := [(2, .int (nI 0)), (0, .ref (ad 0)), (1, .int (nI a1))]) hx hb dX3_roadsOf_1 rfl hl (by decide) rfl (fun ls hl => ?_)
  refine lv_iconst (v := nI 0) hx hb dX3_roadsOf_2 zi_0 ?_
  refine lv_istore_n (lv' := [(3, .int (nI 0)), (2, .int (nI 0)), (0, .ref (ad 0)), (1, .int (nI a1))]) hx hb dX3_roadsOf_3 rfl hl (by decide) rfl (fun ls hl => ?_)
  have L_4 : ∀ (n_4 : Nat) (i : Nat), i ≤ 30 → 30 - i < n_4 → ∀ x2_4 : Int32, x2_4 = nI (roadsN g a1 i) → ∀ (locs : List Loc), va_S A s.heap H0 locs → ∀ ls : Array Slot, lv_has ls 4 [(0, .ref (ad 0)), (1, .int (nI a1)), (2, .int x2_4), (3, .int (nI i))] → W pr l en (rmF 1 0 0 15) s m args below meth cd H0 locs 0 0 (MQ below (zc_Q Post A) args s 0 0 A) (F0 m 4 ls []) := by
    intro n_4
    induction n_4 with
    | zero => intro i hi_4 hm_4; exact absurd hm_4 (Nat.not_lt_zero _)
    | succ n_4 ih_4 =>
      intro i hi_4 hm_4 x2_4 ex2_4 locs hS ls hl
      subst ex2_4
      refine lv_iload_n hx hb dX3_roadsOf_4 rfl (lv_at hl 3 rfl) ?_
      refine lv_bipush (v := nI 30) hx hb dX3_roadsOf_5 zb_30 ?_
      refine zr_icmp_geN (a := i) (b := 30) (tgt := 36) hx hb (by omega) (by omega) dX3_roadsOf_7 (by decide) (fun c_1 => ?_) (fun c_1 => ?_)
      · have e_i : 30 = i := by omega
        subst e_i
        refine lv_iload_n hx hb dX3_roadsOf_36 rfl (lv_at hl 2 rfl) ?_
        exact zc_nret (nI (roadsN g a1 30)) rfl hPost hS hx hb hr hlk (Nat.zero_le _) (Nat.zero_le _) dX3_roadsOf_37
      · refine lv_iload_n hx hb dX3_roadsOf_10 rfl (lv_at hl 2 rfl) ?_
        refine lv_aload_n hx hb dX3_roadsOf_11 rfl (lv_at hl 0 rfl) ?_
        refine gM_road S hK hM dX3_roadsOf_12 ?_
        refine lv_iload_n hx hb dX3_roadsOf_15 rfl (lv_at hl 3 rfl) ?_
        refine lM_road S hK hM i (by omega) (g 3 i) rfl dX3_roadsOf_16 ?_
        have hb_2 : g 3 i < 1048576 := by first | exact hg 3 i | exact hg0 _ _ | (have := hg 3 i; omega) | omega
        refine lv_iload_n hx hb dX3_roadsOf_17 rfl (lv_at hl 1 rfl) ?_
        refine lv_iconst (v := nI 1) hx hb dX3_roadsOf_18 zi_1 ?_
        refine zr_addN (a := a1) (b := 1) hx hb dX3_roadsOf_19 ?_
        have J_28 : ∀ yS0_28 : Int32, yS0_28 = nI (decide ((g 3 i) = (a1 + 1))).toNat → ∀ (locs : List Loc), va_S A s.heap H0 locs → ∀ ls : Array Slot, lv_has ls 4 [(0, .ref (ad 0)), (1, .int (nI a1)), (3, .int (nI i))] → W pr l en (rmF 1 0 0 15) s m args below meth cd H0 locs 0 0 (MQ below (zc_Q Post A) args s 0 0 A) (F0 m 28 ls [.int yS0_28, .int (nI (roadsN g a1 i))]) := by
          intro yS0_28 eyS0_28 locs hS ls hl
          subst eyS0_28
          refine zr_addN (a := (roadsN g a1 i)) (b := ((decide ((g 3 i) = (a1 + 1))).toNat)) hx hb dX3_roadsOf_28 ?_
          refine lv_istore_n (lv' := [(2, .int (nI ((roadsN g a1 i) + ((decide ((g 3 i) = (a1 + 1))).toNat)))), (0, .ref (ad 0)), (1, .int (nI a1)), (3, .int (nI i))]) hx hb dX3_roadsOf_29 rfl hl (by decide) rfl (fun ls hl => ?_)
          refine lv_iinc (v := nI (i + 1)) (lv' := [(3, .int (nI (i + 1))), (2, .int (nI ((roadsN g a1 i) + ((decide ((g 3 i) = (a1 + 1))).toNat)))), (0, .ref (ad 0)), (1, .int (nI a1))]) hx hb dX3_roadsOf_30 hl (k := 3) rfl (zk_inc _) (by decide) rfl (fun ls hl => ?_)
          refine lv_goto (tgt := 4) hx hb dX3_roadsOf_33 (by decide) ?_
          exact ih_4 (i + 1) (by first | omega | assumption | (simp; done) | grind) (by omega) _ (congrArg nI (show ((roadsN g a1 i) + ((decide ((g 3 i) = (a1 + 1))).toNat) : Nat) = (roadsN g a1 (i + 1)) from by first | with_reducible rfl | (simp [c_1, roadsN, eu_sm]; done) | (simp only [c_1] <;> simp [roadsN, eu_sm]; done) | (simp only [roadsN, eu_sm, c_1] <;> simp [roadsN, eu_sm]; done) | (simp [c_1, roadsN, eu_sm, Bool.and_assoc]; done) | (simp [c_1, roadsN, eu_sm, Bool.and_assoc, Bool.or_assoc]; done) | rfl | (simp [c_1, roadsN, eu_sm]; omega))) locs hS ls (lv_sub hl [2, 3, 1, 0] rfl)
        refine zr_icmp_neN (a := (g 3 i)) (b := (a1 + 1)) (tgt := 27) hx hb (by omega) (by omega) dX3_roadsOf_20 (by decide) (fun c_4 => ?_) (fun c_4 => ?_)
        · refine lv_iconst (v := nI 0) hx hb dX3_roadsOf_27 zi_0 ?_
          exact J_28 _ (congrArg (fun z : Bool => nI z.toNat) (show (false : Bool) = (decide ((g 3 i) = (a1 + 1))) from by first | with_reducible rfl | (simp [c_1, c_4, roadsN, eu_sm]; done) | (simp only [c_1, c_4] <;> simp [roadsN, eu_sm]; done) | (simp only [roadsN, eu_sm, c_1, c_4] <;> simp [roadsN, eu_sm]; done) | (simp [c_1, c_4, roadsN, eu_sm, Bool.and_assoc]; done) | (simp [c_1, c_4, roadsN, eu_sm, Bool.and_assoc, Bool.or_assoc]; done) | rfl | (simp [c_1, c_4, roadsN, eu_sm]; omega))) locs hS ls (lv_sub hl [0, 1, 3] rfl)
        · refine lv_iconst (v := nI 1) hx hb dX3_roadsOf_23 zi_1 ?_
          refine lv_goto (tgt := 28) hx hb dX3_roadsOf_24 (by decide) ?_
          exact J_28 _ (congrArg (fun z : Bool => nI z.toNat) (show (true : Bool) = (decide ((g 3 i) = (a1 + 1))) from by first | with_reducible rfl | (simp [c_1, c_4, roadsN, eu_sm]; done) | (simp only [c_1, c_4] <;> simp [roadsN, eu_sm]; done) | (simp only [roadsN, eu_sm, c_1, c_4] <;> simp [roadsN, eu_sm]; done) | (simp [c_1, c_4, roadsN, eu_sm, Bool.and_assoc]; done) | (simp [c_1, c_4, roadsN, eu_sm, Bool.and_assoc, Bool.or_assoc]; done) | rfl | (simp [c_1, c_4, roadsN, eu_sm]; omega))) locs hS ls (lv_sub hl [0, 1, 3] rfl)
  exact L_4 _ 0 (by first | omega | assumption | (simp; done) | grind) (Nat.lt_succ_self _) _ (congrArg nI (show (0 : Nat) = (roadsN g a1 0) from by first | with_reducible rfl | (simp [roadsN, eu_sm]; done) | (simp [roadsN, eu_sm, Bool.and_assoc]; done) | (simp [roadsN, eu_sm, Bool.and_assoc, Bool.or_assoc]; done) | rfl | (simp [roadsN, eu_sm]; omega))) [] hS ls (lv_sub hl [2, 3, 1, 0] rfl)
theorem kM_roadsOf {pr : Program} {l : Launch} {en : Env} {R : Room} {s : State} {m : MethodId} {args : Array Value} {below : List Frame} {meth : Method} {cd : Code} {H : Heap} {locs : List Loc} {cells slots : Nat} {Q : State → Prop} {cc : ByteArray} {pc nL : Nat} {ls : Array Slot} {rest : List Value} {D : va_G} {dA : Nat → ClassId} {A : Nat → Prop} {ad : Nat → Nat} {g : G} (S : CallFix pr m cd cc nL s args lw_all RX3) (hK : KT D dA s) (hM : MS D dA A ad g H) (hg : Sm g) (hS : va_S A s.heap H locs) (a1 : Nat) (h1 : a1 < 3) (hf : 1 + 1 ≤ R.frames) (hlo : 8 + (4 + 11) + 15 ≤ R.locals) (hsz : ls.size = nL) (hcat : (rest.map fun v => v.category).sum ≤ 8) (hdg : decode cc pc = .ok (.invokevirtual 81, 3)) (hq1 : cells ≤ R.cells) (hq2 : slots ≤ R.slots) (kk : ∀ locs1 : List Loc, va_S A s.heap H locs1 → W pr l en R s m args below meth cd H locs1 cells slots Q (F0 m (pc + 3) ls (.int (nI (roadsN g a1 30)) :: rest))) : W pr l en R s m args below meth cd H locs cells slots Q (F0 m pc ls (.int (nI a1) :: .ref (ad 0) :: rest)) :=
  zc_callV (n := 1) (As := [.int (nI a1)]) (rest := rest) S (cM_roadsOf l hg a1 h1  H hM (Post := (fun v H1 => v = some (.int (nI (roadsN g a1 30))) ∧ H1 = H)) ⟨rfl, rfl⟩) (lw_V q1278 q1280 qs56 q76 q1281) (by decide +kernel) ⟨hf, hlo⟩ ⟨hq1, hq2⟩ (zm_recv hK hM) KT_mv (zc_K KT_mv hK hS) hS (fun _ h => h) rfl hsz rfl hcat hdg (fun v H1 locs1 hp _ _ hS1 => by obtain ⟨rfl, rfl⟩ := hp; exact kk locs1 hS1)
set_option maxHeartbeats 1000000 in
set_option maxRecDepth 100000 in
theorem cM_mayRoad (l : Launch) {D : va_G} {dA : Nat → ClassId} {A : Nat → Prop} {ad : Nat → Nat} {g : G} (hg : Sm g) (a1 : Nat) (a2 : Nat) (h1 : a1 < 3) (h2 : a2 < 30) (H0 : Heap) (hM : MS D dA A ad g H0) {Post : Option Value → Heap → Prop} (hPost : Post (some (.int (nI (mMayRoad g a1 a2).toNat))) H0) : Ct l yX3_mayRoad (ws_ yX3_mayRoad cX3_mayRoad 3 (some .boolean)) (rmF 5 0 0 101) A (KT D dA) [.ref (ad 0), .int (nI a1), .int (nI a2)] H0 Post := by
  refine zc_of RX3 rfl (by decide) (Nat.le_of_ble_eq_true rfl) ?_
  intro pr en s m args below meth cd S hr hlk hnm hh hK ls hl
  have hS : va_S A s.heap H0 [] := zc_start hh
  have hg0 := hg
  have hx := S.1
  have hb := S.2.1
  have hown := S.2.2.2.1
  have hts := S.2.2.2.2
  have hl : lv_has ls 3 [(0, .ref (ad 0)), (1, .int (nI a1)), (2, .int (nI a2))] := hl
  refine lv_aload_n hx hb dX3_mayRoad_0 rfl (lv_at hl 0 rfl) ?_
  refine gM_road S hK hM dX3_mayRoad_1 ?_
  refine lv_iload_n hx hb dX3_mayRoad_4 rfl (lv_at hl 2 rfl) ?_
  refine lM_road S hK hM a2 (by omega) (g 3 a2) rfl dX3_mayRoad_5 ?_
  have hb_1 : g 3 a2 < 1048576 := by first | exact hg 3 a2 | exact hg0 _ _ | (have := hg 3 a2; omega) | omega
  refine zr_if_neN (a := (g 3 a2)) (tgt := 49) hx hb (by omega) dX3_mayRoad_6 (by decide) (fun c_2 => ?_) (fun c_2 => ?_)
  · refine lv_iconst (v := nI 0) hx hb dX3_mayRoad_49 zi_0 ?_
    exact zc_bret (mMayRoad g a1 a2) (congrArg (fun z : Bool => nI z.toNat) (show (false : Bool) = (mMayRoad g a1 a2) from by first | with_reducible rfl | (simp [c_2, mMayRoad]; done) | (simp only [c_2] <;> simp [mMayRoad]; done) | (simp only [mMayRoad, c_2] <;> simp [mMayRoad]; done) | (simp [c_2, mMayRoad, Bool.and_assoc]; done) | (simp [c_2, mMayRoad, Bool.and_assoc, Bool.or_assoc]; done) | rfl | (simp [c_2, mMayRoad]; omega))) hPost hS hx hb hr hlk (Nat.zero_le _) (Nat.zero_le _) dX3_mayRoad_50
  · refine lv_aload_n hx hb dX3_mayRoad_9 rfl (lv_at hl 0 rfl) ?_
    refine lv_iload_n hx hb dX3_mayRoad_10 rfl (lv_at hl 1 rfl) ?_
    refine kM_roadsOf S hK hM hg hS a1 (by first | omega | assumption | grind) (Nat.le_of_ble_eq_true rfl) (Nat.le_of_ble_eq_true rfl) hl.1 (Nat.le_of_ble_eq_true rfl) dX3_mayRoad_11 (Nat.zero_le _) (Nat.zero_le _) (fun locs hS => ?_)
    have f11_0 : roadsN g a1 30 ≤ 30 := sm_b _ _
    refine lv_bipush (v := nI 8) hx hb dX3_mayRoad_14 zb_8 ?_
    refine zr_icmp_geN (a := (roadsN g a1 30)) (b := 8) (tgt := 49) hx hb (by omega) (by omega) dX3_mayRoad_16 (by decide) (fun c_3 => ?_) (fun c_3 => ?_)
    · refine lv_iconst (v := nI 0) hx hb dX3_mayRoad_49 zi_0 ?_
      exact zc_bret (mMayRoad g a1 a2) (congrArg (fun z : Bool => nI z.toNat) (show (false : Bool) = (mMayRoad g a1 a2) from by first | with_reducible rfl | (simp [c_2, c_3, mMayRoad]; done) | (simp only [c_2, c_3] <;> simp [mMayRoad]; done) | (simp only [mMayRoad, c_2, c_3] <;> simp [mMayRoad]; done) | (simp [c_2, c_3, mMayRoad, Bool.and_assoc]; done) | (simp [c_2, c_3, mMayRoad, Bool.and_assoc, Bool.or_assoc]; done) | rfl | (simp [c_2, c_3, mMayRoad]; omega))) hPost hS hx hb hr hlk (Nat.zero_le _) (Nat.zero_le _) dX3_mayRoad_50
    · refine lv_aload_n hx hb dX3_mayRoad_19 rfl (lv_at hl 0 rfl) ?_
      refine lv_iload_n hx hb dX3_mayRoad_20 rfl (lv_at hl 1 rfl) ?_
      refine lv_iload_n hx hb dX3_mayRoad_21 rfl (lv_at hl 2 rfl) ?_
      refine lv_iload_n hx hb dX3_mayRoad_22 rfl (lv_at hl 2 rfl) ?_
      refine kM_oneEnd S hK hM hg hS a2 (by first | omega | assumption | grind) (Nat.le_of_ble_eq_true rfl) (Nat.le_of_ble_eq_true rfl) hl.1 (Nat.le_of_ble_eq_true rfl) dX3_mayRoad_23 (Nat.zero_le _) (Nat.zero_le _) (fun locs hS => ?_)
      have f23_0 : bA a2 < 24 := bA_lt (by omega)
      refine kM_leads S hK hM hg hS a1 a2 (bA a2) (by first | omega | assumption | grind) (by first | omega | assumption | grind) (by first | omega | assumption | grind) (Nat.le_of_ble_eq_true rfl) (Nat.le_of_ble_eq_true rfl) hl.1 (Nat.le_of_ble_eq_true rfl) dX3_mayRoad_26 (Nat.zero_le _) (Nat.zero_le _) (fun locs hS => ?_)
      refine zr_if_neB (b := mLeads g a1 a2 (bA a2)) (tgt := 45) hx hb dX3_mayRoad_29 (by decide) (fun c_4 => ?_) (fun c_4 => ?_)
      · refine lv_iconst (v := nI 1) hx hb dX3_mayRoad_45 zi_1 ?_
        refine lv_goto (tgt := 50) hx hb dX3_mayRoad_46 (by decide) ?_
        exact zc_bret (mMayRoad g a1 a2) (congrArg (fun z : Bool => nI z.toNat) (show (true : Bool) = (mMayRoad g a1 a2) from by first | with_reducible rfl | (simp [c_2, c_3, c_4, mMayRoad]; done) | (simp only [c_2, c_3, c_4] <;> simp [mMayRoad]; done) | (simp only [mMayRoad, c_2, c_3, c_4] <;> simp [mMayRoad]; done) | (simp [c_2, c_3, c_4, mMayRoad, Bool.and_assoc]; done) | (simp [c_2, c_3, c_4, mMayRoad, Bool.and_assoc, Bool.or_assoc]; done) | rfl | (simp [c_2, c_3, c_4, mMayRoad]; omega))) hPost hS hx hb hr hlk (Nat.zero_le _) (Nat.zero_le _) dX3_mayRoad_50
      · refine lv_aload_n hx hb dX3_mayRoad_32 rfl (lv_at hl 0 rfl) ?_
        refine lv_iload_n hx hb dX3_mayRoad_33 rfl (lv_at hl 1 rfl) ?_
        refine lv_iload_n hx hb dX3_mayRoad_34 rfl (lv_at hl 2 rfl) ?_
        refine lv_iload_n hx hb dX3_mayRoad_35 rfl (lv_at hl 2 rfl) ?_
        refine kM_otherEnd S hK hM hg hS a2 (by first | omega | assumption | grind) (Nat.le_of_ble_eq_true rfl) (Nat.le_of_ble_eq_true rfl) hl.1 (Nat.le_of_ble_eq_true rfl) dX3_mayRoad_36 (Nat.zero_le _) (Nat.zero_le _) (fun locs hS => ?_)
        have f36_0 : bB a2 < 24 := bB_lt (by omega)
        refine kM_leads S hK hM hg hS a1 a2 (bB a2) (by first | omega | assumption | grind) (by first | omega | assumption | grind) (by first | omega | assumption | grind) (Nat.le_of_ble_eq_true rfl) (Nat.le_of_ble_eq_true rfl) hl.1 (Nat.le_of_ble_eq_true rfl) dX3_mayRoad_39 (Nat.zero_le _) (Nat.zero_le _) (fun locs hS => ?_)
        refine zr_if_eqB (b := mLeads g a1 a2 (bB a2)) (tgt := 49) hx hb dX3_mayRoad_42 (by decide) (fun c_5 => ?_) (fun c_5 => ?_)
        · refine lv_iconst (v := nI 0) hx hb dX3_mayRoad_49 zi_0 ?_
          exact zc_bret (mMayRoad g a1 a2) (congrArg (fun z : Bool => nI z.toNat) (show (false : Bool) = (mMayRoad g a1 a2) from by first | with_reducible rfl | (simp [c_2, c_3, c_4, c_5, mMayRoad]; done) | (simp only [c_2, c_3, c_4, c_5] <;> simp [mMayRoad]; done) | (simp only [mMayRoad, c_2, c_3, c_4, c_5] <;> simp [mMayRoad]; done) | (simp [c_2, c_3, c_4, c_5, mMayRoad, Bool.and_assoc]; done) | (simp [c_2, c_3, c_4, c_5, mMayRoad, Bool.and_assoc, Bool.or_assoc]; done) | rfl | (simp [c_2, c_3, c_4, c_5, mMayRoad]; omega))) hPost hS hx hb hr hlk (Nat.zero_le _) (Nat.zero_le _) dX3_mayRoad_50
        · refine lv_iconst (v := nI 1) hx hb dX3_mayRoad_45 zi_1 ?_
          refine lv_goto (tgt := 50) hx hb dX3_mayRoad_46 (by decide) ?_
          exact zc_bret (mMayRoad g a1 a2) (congrArg (fun z : Bool => nI z.toNat) (show (true : Bool) = (mMayRoad g a1 a2) from by first | with_reducible rfl | (simp [c_2, c_3, c_4, c_5, mMayRoad]; done) | (simp only [c_2, c_3, c_4, c_5] <;> simp [mMayRoad]; done) | (simp only [mMayRoad, c_2, c_3, c_4, c_5] <;> simp [mMayRoad]; done) | (simp [c_2, c_3, c_4, c_5, mMayRoad, Bool.and_assoc]; done) | (simp [c_2, c_3, c_4, c_5, mMayRoad, Bool.and_assoc, Bool.or_assoc]; done) | rfl | (simp [c_2, c_3, c_4, c_5, mMayRoad]; omega))) hPost hS hx hb hr hlk (Nat.zero_le _) (Nat.zero_le _) dX3_mayRoad_50
theorem kM_mayRoad {pr : Program} {l : Launch} {en : Env} {R : Room} {s : State} {m : MethodId} {args : Array Value} {below : List Frame} {meth : Method} {cd : Code} {H : Heap} {locs : List Loc} {cells slots : Nat} {Q : State → Prop} {cc : ByteArray} {pc nL : Nat} {ls : Array Slot} {rest : List Value} {D : va_G} {dA : Nat → ClassId} {A : Nat → Prop} {ad : Nat → Nat} {g : G} (S : CallFix pr m cd cc nL s args lw_all RX3) (hK : KT D dA s) (hM : MS D dA A ad g H) (hg : Sm g) (hS : va_S A s.heap H locs) (a1 : Nat) (a2 : Nat) (h1 : a1 < 3) (h2 : a2 < 30) (hf : 5 + 1 ≤ R.frames) (hlo : 8 + (3 + 11) + 101 ≤ R.locals) (hsz : ls.size = nL) (hcat : (rest.map fun v => v.category).sum ≤ 8) (hdg : decode cc pc = .ok (.invokevirtual 200, 3)) (hq1 : cells ≤ R.cells) (hq2 : slots ≤ R.slots) (kk : ∀ locs1 : List Loc, va_S A s.heap H locs1 → W pr l en R s m args below meth cd H locs1 cells slots Q (F0 m (pc + 3) ls (.int (nI (mMayRoad g a1 a2).toNat) :: rest))) : W pr l en R s m args below meth cd H locs cells slots Q (F0 m pc ls (.int (nI a2) :: .int (nI a1) :: .ref (ad 0) :: rest)) :=
  zc_callV (n := 2) (As := [.int (nI a1), .int (nI a2)]) (rest := rest) S (cM_mayRoad l hg a1 a2 h1 h2  H hM (Post := (fun v H1 => v = some (.int (nI (mMayRoad g a1 a2).toNat)) ∧ H1 = H)) ⟨rfl, rfl⟩) (lw_V q1274 q1276 qs55 q76 q1277) (by decide +kernel) ⟨hf, hlo⟩ ⟨hq1, hq2⟩ (zm_recv hK hM) KT_mv (zc_K KT_mv hK hS) hS (fun _ h => h) rfl hsz rfl hcat hdg (fun v H1 locs1 hp _ _ hS1 => by obtain ⟨rfl, rfl⟩ := hp; exact kk locs1 hS1)
set_option maxHeartbeats 1000000 in
set_option maxRecDepth 100000 in
theorem cM_buildings (l : Launch) {D : va_G} {dA : Nat → ClassId} {A : Nat → Prop} {ad : Nat → Nat} {g : G} (hg : Sm g) (a1 : Nat) (a2 : Bool) (h1 : a1 < 3) (H0 : Heap) (hM : MS D dA A ad g H0) {Post : Option Value → Heap → Prop} (hPost : Post (some (.int (nI (mBuilds g a1 a2 24)))) H0) : Ct l yX3_buildings (ws_ yX3_buildings cX3_buildings 5 (some .int)) (rmF 2 0 0 34) A (KT D dA) [.ref (ad 0), .int (nI a1), .int (nI (a2).toNat)] H0 Post := by
  refine zc_of RX3 rfl (by decide) (Nat.le_of_ble_eq_true rfl) ?_
  intro pr en s m args below meth cd S hr hlk hnm hh hK ls hl
  have hS : va_S A s.heap H0 [] := zc_start hh
  have hg0 := hg
  have hx := S.1
  have hb := S.2.1
  have hown := S.2.2.2.1
  have hts := S.2.2.2.2
  have hl : lv_has ls 5 [(0, .ref (ad 0)), (1, .int (nI a1)), (2, .int (nI (a2).toNat))] := hl
  refine lv_iconst (v := nI 0) hx hb dX3_buildings_0 zi_0 ?_
  refine lv_istore_n (lv' := [(3, .int (nI 0)), (0, .ref (ad 0)), (1, .int (nI a1)), (2, .int (nI (a2).toNat))]) hx hb dX3_buildings_1 rfl hl (by decide) rfl (fun ls hl => ?_)
  refine lv_iconst (v := nI 0) hx hb dX3_buildings_2 zi_0 ?_
  refine lv_istore (lv' := [(4, .int (nI 0)), (3, .int (nI 0)), (0, .ref (ad 0)), (1, .int (nI a1)), (2, .int (nI (a2).toNat))]) hx hb dX3_buildings_3 hl (by decide) rfl (fun ls hl => ?_)
  have L_5 : ∀ (n_5 : Nat) (i : Nat), i ≤ 24 → 24 - i < n_5 → ∀ x3_5 : Int32, x3_5 = nI (mBuilds g a1 a2 i) → ∀ (locs : List Loc), va_S A s.heap H0 locs → ∀ ls : Array Slot, lv_has ls 5 [(0, .ref (ad 0)), (1, .int (nI a1)), (2, .int (nI (a2).toNat)), (3, .int x3_5), (4, .int (nI i))] → W pr l en (rmF 2 0 0 34) s m args below meth cd H0 locs 0 0 (MQ below (zc_Q Post A) args s 0 0 A) (F0 m 5 ls []) := by
    intro n_5
    induction n_5 with
    | zero => intro i hi_5 hm_5; exact absurd hm_5 (Nat.not_lt_zero _)
    | succ n_5 ih_5 =>
      intro i hi_5 hm_5 x3_5 ex3_5 locs hS ls hl
      subst ex3_5
      refine lv_iload hx hb dX3_buildings_5 (lv_at hl 4 rfl) ?_
      refine lv_bipush (v := nI 24) hx hb dX3_buildings_7 zb_24 ?_
      refine zr_icmp_geN (a := i) (b := 24) (tgt := 46) hx hb (by omega) (by omega) dX3_buildings_9 (by decide) (fun c_1 => ?_) (fun c_1 => ?_)
      · have e_i : 24 = i := by omega
        subst e_i
        refine lv_iload_n hx hb dX3_buildings_46 rfl (lv_at hl 3 rfl) ?_
        exact zc_nret (nI (mBuilds g a1 a2 24)) rfl hPost hS hx hb hr hlk (Nat.zero_le _) (Nat.zero_le _) dX3_buildings_47
      · refine lv_iload_n hx hb dX3_buildings_12 rfl (lv_at hl 3 rfl) ?_
        refine lv_aload_n hx hb dX3_buildings_13 rfl (lv_at hl 0 rfl) ?_
        refine lv_iload hx hb dX3_buildings_14 (lv_at hl 4 rfl) ?_
        refine kM_ownerAt S hK hM hg hS i (by first | omega | assumption | grind) (Nat.le_of_ble_eq_true rfl) (Nat.le_of_ble_eq_true rfl) hl.1 (Nat.le_of_ble_eq_true rfl) dX3_buildings_16 (Nat.zero_le _) (Nat.zero_le _) (fun locs hS => ?_)
        have f16_0 : own1 g i < 4 := own1_lt _ _
        refine lv_iload_n hx hb dX3_buildings_19 rfl (lv_at hl 1 rfl) ?_
        have J_38 : ∀ yS0_38 : Int32, yS0_38 = nI (decide ((own1 g i) = (a1 + 1)) && (decide ((mCity g i) = a2))).toNat → ∀ (locs : List Loc), va_S A s.heap H0 locs → ∀ ls : Array Slot, lv_has ls 5 [(0, .ref (ad 0)), (1, .int (nI a1)), (2, .int (nI (a2).toNat)), (4, .int (nI i))] → W pr l en (rmF 2 0 0 34) s m args below meth cd H0 locs 0 0 (MQ below (zc_Q Post A) args s 0 0 A) (F0 m 38 ls [.int yS0_38, .int (nI (mBuilds g a1 a2 i))]) := by
          intro yS0_38 eyS0_38 locs hS ls hl
          subst eyS0_38
          refine zr_addN (a := (mBuilds g a1 a2 i)) (b := ((decide ((own1 g i) = (a1 + 1)) && (decide ((mCity g i) = a2))).toNat)) hx hb dX3_buildings_38 ?_
          refine lv_istore_n (lv' := [(3, .int (nI ((mBuilds g a1 a2 i) + ((decide ((own1 g i) = (a1 + 1)) && (decide ((mCity g i) = a2))).toNat)))), (0, .ref (ad 0)), (1, .int (nI a1)), (2, .int (nI (a2).toNat)), (4, .int (nI i))]) hx hb dX3_buildings_39 rfl hl (by decide) rfl (fun ls hl => ?_)
          refine lv_iinc (v := nI (i + 1)) (lv' := [(4, .int (nI (i + 1))), (3, .int (nI ((mBuilds g a1 a2 i) + ((decide ((own1 g i) = (a1 + 1)) && (decide ((mCity g i) = a2))).toNat)))), (0, .ref (ad 0)), (1, .int (nI a1)), (2, .int (nI (a2).toNat))]) hx hb dX3_buildings_40 hl (k := 4) rfl (zk_inc _) (by decide) rfl (fun ls hl => ?_)
          refine lv_goto (tgt := 5) hx hb dX3_buildings_43 (by decide) ?_
          exact ih_5 (i + 1) (by first | omega | assumption | (simp; done) | grind) (by omega) _ (congrArg nI (show ((mBuilds g a1 a2 i) + ((decide ((own1 g i) = (a1 + 1)) && (decide ((mCity g i) = a2))).toNat) : Nat) = (mBuilds g a1 a2 (i + 1)) from by first | with_reducible rfl | (simp [c_1, mBuilds, eu_sm]; done) | (simp only [c_1] <;> simp [mBuilds, eu_sm]; done) | (simp only [mBuilds, eu_sm, c_1] <;> simp [mBuilds, eu_sm]; done) | (simp [c_1, mBuilds, eu_sm, Bool.and_assoc]; done) | (simp [c_1, mBuilds, eu_sm, Bool.and_assoc, Bool.or_assoc]; done) | rfl | (simp [c_1, mBuilds, eu_sm]; omega))) locs hS ls (lv_sub hl [2, 3, 4, 1, 0] rfl)
        rw [← mI_succ a1]
        refine zr_icmp_neM (a := (own1 g i)) (b := (a1 + 1)) (tgt := 37) hx hb (by omega) (by omega) dX3_buildings_20 (by decide) (fun c_4 => ?_) (fun c_4 => ?_)
        · refine lv_iconst (v := nI 0) hx hb dX3_buildings_37 zi_0 ?_
          exact J_38 _ (congrArg (fun z : Bool => nI z.toNat) (show (false : Bool) = (decide ((own1 g i) = (a1 + 1)) && (decide ((mCity g i) = a2))) from by first | with_reducible rfl | (simp [c_1, c_4, mBuilds, eu_sm]; done) | (simp only [c_1, c_4] <;> simp [mBuilds, eu_sm]; done) | (simp only [mBuilds, eu_sm, c_1, c_4] <;> simp [mBuilds, eu_sm]; done) | (simp [c_1, c_4, mBuilds, eu_sm, Bool.and_assoc]; done) | (simp [c_1, c_4, mBuilds, eu_sm, Bool.and_assoc, Bool.or_assoc]; done) | rfl | (simp [c_1, c_4, mBuilds, eu_sm]; omega))) locs hS ls (lv_sub hl [0, 1, 2, 4] rfl)
        · refine lv_aload_n hx hb dX3_buildings_23 rfl (lv_at hl 0 rfl) ?_
          refine lv_iload hx hb dX3_buildings_24 (lv_at hl 4 rfl) ?_
          refine kM_isCity S hK hM hg hS i (by first | omega | assumption | grind) (Nat.le_of_ble_eq_true rfl) (Nat.le_of_ble_eq_true rfl) hl.1 (Nat.le_of_ble_eq_true rfl) dX3_buildings_26 (Nat.zero_le _) (Nat.zero_le _) (fun locs hS => ?_)
          refine lv_iload_n hx hb dX3_buildings_29 rfl (lv_at hl 2 rfl) ?_
          refine zr_icmp_neB (a := mCity g i) (b := a2) (tgt := 37) hx hb dX3_buildings_30 (by decide) (fun c_5 => ?_) (fun c_5 => ?_)
          · refine lv_iconst (v := nI 0) hx hb dX3_buildings_37 zi_0 ?_
            exact J_38 _ (congrArg (fun z : Bool => nI z.toNat) (show (false : Bool) = (decide ((own1 g i) = (a1 + 1)) && (decide ((mCity g i) = a2))) from by first | with_reducible rfl | (simp [c_1, c_4, c_5, mBuilds, eu_sm]; done) | (simp only [c_1, c_4, c_5] <;> simp [mBuilds, eu_sm]; done) | (simp only [mBuilds, eu_sm, c_1, c_4, c_5] <;> simp [mBuilds, eu_sm]; done) | (simp [c_1, c_4, c_5, mBuilds, eu_sm, Bool.and_assoc]; done) | (simp [c_1, c_4, c_5, mBuilds, eu_sm, Bool.and_assoc, Bool.or_assoc]; done) | rfl | (simp [c_1, c_4, c_5, mBuilds, eu_sm]; omega))) locs hS ls (lv_sub hl [0, 1, 2, 4] rfl)
          · refine lv_iconst (v := nI 1) hx hb dX3_buildings_33 zi_1 ?_
            refine lv_goto (tgt := 38) hx hb dX3_buildings_34 (by decide) ?_
            exact J_38 _ (congrArg (fun z : Bool => nI z.toNat) (show (true : Bool) = (decide ((own1 g i) = (a1 + 1)) && (decide ((mCity g i) = a2))) from by first | with_reducible rfl | (simp [c_1, c_4, c_5, mBuilds, eu_sm]; done) | (simp only [c_1, c_4, c_5] <;> simp [mBuilds, eu_sm]; done) | (simp only [mBuilds, eu_sm, c_1, c_4, c_5] <;> simp [mBuilds, eu_sm]; done) | (simp [c_1, c_4, c_5, mBuilds, eu_sm, Bool.and_assoc]; done) | (simp [c_1, c_4, c_5, mBuilds, eu_sm, Bool.and_assoc, Bool.or_assoc]; done) | rfl | (simp [c_1, c_4, c_5, mBuilds, eu_sm]; omega))) locs hS ls (lv_sub hl [0, 1, 2, 4] rfl)
  exact L_5 _ 0 (by first | omega | assumption | (simp; done) | grind) (Nat.lt_succ_self _) _ (congrArg nI (show (0 : Nat) = (mBuilds g a1 a2 0) from by first | with_reducible rfl | (simp [mBuilds, eu_sm]; done) | (simp [mBuilds, eu_sm, Bool.and_assoc]; done) | (simp [mBuilds, eu_sm, Bool.and_assoc, Bool.or_assoc]; done) | rfl | (simp [mBuilds, eu_sm]; omega))) [] hS ls (lv_sub hl [2, 3, 4, 1, 0] rfl)
theorem kM_buildings {pr : Program} {l : Launch} {en : Env} {R : Room} {s : State} {m : MethodId} {args : Array Value} {below : List Frame} {meth : Method} {cd : Code} {H : Heap} {locs : List Loc} {cells slots : Nat} {Q : State → Prop} {cc : ByteArray} {pc nL : Nat} {ls : Array Slot} {rest : List Value} {D : va_G} {dA : Nat → ClassId} {A : Nat → Prop} {ad : Nat → Nat} {g : G} (S : CallFix pr m cd cc nL s args lw_all RX3) (hK : KT D dA s) (hM : MS D dA A ad g H) (hg : Sm g) (hS : va_S A s.heap H locs) (a1 : Nat) (a2 : Bool) (h1 : a1 < 3) (hf : 2 + 1 ≤ R.frames) (hlo : 8 + (5 + 11) + 34 ≤ R.locals) (hsz : ls.size = nL) (hcat : (rest.map fun v => v.category).sum ≤ 8) (hdg : decode cc pc = .ok (.invokevirtual 111, 3)) (hq1 : cells ≤ R.cells) (hq2 : slots ≤ R.slots) (kk : ∀ locs1 : List Loc, va_S A s.heap H locs1 → W pr l en R s m args below meth cd H locs1 cells slots Q (F0 m (pc + 3) ls (.int (nI (mBuilds g a1 a2 24)) :: rest))) : W pr l en R s m args below meth cd H locs cells slots Q (F0 m pc ls (.int (nI (a2).toNat) :: .int (nI a1) :: .ref (ad 0) :: rest)) :=
  zc_callV (n := 2) (As := [.int (nI a1), .int (nI (a2).toNat)]) (rest := rest) S (cM_buildings l hg a1 a2 h1  H hM (Post := (fun v H1 => v = some (.int (nI (mBuilds g a1 a2 24))) ∧ H1 = H)) ⟨rfl, rfl⟩) (lw_V q1306 q1308 qs63 q76 q1309) (by decide +kernel) ⟨hf, hlo⟩ ⟨hq1, hq2⟩ (zm_recv hK hM) KT_mv (zc_K KT_mv hK hS) hS (fun _ h => h) rfl hsz rfl hcat hdg (fun v H1 locs1 hp _ _ hS1 => by obtain ⟨rfl, rfl⟩ := hp; exact kk locs1 hS1)
set_option maxHeartbeats 1000000 in
set_option maxRecDepth 100000 in
theorem cM_meet (l : Launch) {D : va_G} {dA : Nat → ClassId} {A : Nat → Prop} {ad : Nat → Nat} {g : G} (hg : Sm g) (a1 : Nat) (a2 : Nat) (a3 : Nat) (h1 : a1 < 3) (h2 : a2 < 30) (h3 : a3 < 30) (H0 : Heap) (hM : MS D dA A ad g H0) {Post : Option Value → Heap → Prop} (hPost : Post (some (.int (nI (mMeet g a1 a2 a3).toNat))) H0) : Ct l yX3_meet (ws_ yX3_meet cX3_meet 5 (some .boolean)) (rmF 3 0 0 53) A (KT D dA) [.ref (ad 0), .int (nI a1), .int (nI a2), .int (nI a3)] H0 Post := by
  refine zc_of RX3 rfl (by decide) (Nat.le_of_ble_eq_true rfl) ?_
  intro pr en s m args below meth cd S hr hlk hnm hh hK ls hl
  have hS : va_S A s.heap H0 [] := zc_start hh
  have hg0 := hg
  have hx := S.1
  have hb := S.2.1
  have hown := S.2.2.2.1
  have hts := S.2.2.2.2
  have hl : lv_has ls 5 [(0, .ref (ad 0)), (1, .int (nI a1)), (2, .int (nI a2)), (3, .int (nI a3))] := hl
  refine lv_iload_n hx hb dX3_meet_0 rfl (lv_at hl 3 rfl) ?_
  refine lv_iload_n hx hb dX3_meet_1 rfl (lv_at hl 2 rfl) ?_
  refine kM_oneEnd S hK hM hg hS a2 (by first | omega | assumption | grind) (Nat.le_of_ble_eq_true rfl) (Nat.le_of_ble_eq_true rfl) hl.1 (Nat.le_of_ble_eq_true rfl) dX3_meet_2 (Nat.zero_le _) (Nat.zero_le _) (fun locs hS => ?_)
  have f2_0 : bA a2 < 24 := bA_lt (by omega)
  refine kM_hasCorner S hK hM hg hS a3 (bA a2) (by first | omega | assumption | grind) (by first | omega | assumption | grind) (Nat.le_of_ble_eq_true rfl) (Nat.le_of_ble_eq_true rfl) hl.1 (Nat.le_of_ble_eq_true rfl) dX3_meet_5 (Nat.zero_le _) (Nat.zero_le _) (fun locs hS => ?_)
  refine zr_if_eqB (b := atE a3 (bA a2)) (tgt := 18) hx hb dX3_meet_8 (by decide) (fun c_1 => ?_) (fun c_1 => ?_)
  · refine lv_iload_n hx hb dX3_meet_18 rfl (lv_at hl 3 rfl) ?_
    refine lv_iload_n hx hb dX3_meet_19 rfl (lv_at hl 2 rfl) ?_
    refine kM_otherEnd S hK hM hg hS a2 (by first | omega | assumption | grind) (Nat.le_of_ble_eq_true rfl) (Nat.le_of_ble_eq_true rfl) hl.1 (Nat.le_of_ble_eq_true rfl) dX3_meet_20 (Nat.zero_le _) (Nat.zero_le _) (fun locs hS => ?_)
    have f20_0 : bB a2 < 24 := bB_lt (by omega)
    refine kM_hasCorner S hK hM hg hS a3 (bB a2) (by first | omega | assumption | grind) (by first | omega | assumption | grind) (Nat.le_of_ble_eq_true rfl) (Nat.le_of_ble_eq_true rfl) hl.1 (Nat.le_of_ble_eq_true rfl) dX3_meet_23 (Nat.zero_le _) (Nat.zero_le _) (fun locs hS => ?_)
    refine zr_if_eqB (b := atE a3 (bB a2)) (tgt := 36) hx hb dX3_meet_26 (by decide) (fun c_2 => ?_) (fun c_2 => ?_)
    · refine lv_iconst (v := mI 0) hx hb dX3_meet_36 zi_m1 ?_
      refine lv_istore (lv' := [(4, .int (mI 0)), (0, .ref (ad 0)), (1, .int (nI a1)), (2, .int (nI a2)), (3, .int (nI a3))]) hx hb dX3_meet_37 hl (by decide) rfl (fun ls hl => ?_)
      refine lv_iload hx hb dX3_meet_39 (lv_at hl 0 rfl) ?_
      refine lv_iconst (v := mI 0) hx hb dX3_meet_41 zi_m1 ?_
      refine zr_icmp_eqM (a := 0) (b := 0) (tgt := 69) hx hb (by omega) (by omega) dX3_meet_42 (by decide) (fun _ => ?_) (fun c => absurd rfl c)
      refine lv_iconst (v := nI 0) hx hb dX3_meet_69 zi_0 ?_
      exact zc_bret (mMeet g a1 a2 a3) (congrArg (fun z : Bool => nI z.toNat) (show (false : Bool) = (mMeet g a1 a2 a3) from by first | with_reducible rfl | (simp [c_1, c_2, mMeet, goes]; done) | (simp only [c_1, c_2] <;> simp [mMeet, goes]; done) | (simp only [mMeet, goes, c_1, c_2] <;> simp [mMeet, goes]; done) | (simp [c_1, c_2, mMeet, goes, Bool.and_assoc]; done) | (simp [c_1, c_2, mMeet, goes, Bool.and_assoc, Bool.or_assoc]; done) | rfl | (simp [c_1, c_2, mMeet, goes]; omega))) hPost hS hx hb hr hlk (Nat.zero_le _) (Nat.zero_le _) dX3_meet_70
    · refine lv_iload_n hx hb dX3_meet_29 rfl (lv_at hl 2 rfl) ?_
      refine kM_otherEnd S hK hM hg hS a2 (by first | omega | assumption | grind) (Nat.le_of_ble_eq_true rfl) (Nat.le_of_ble_eq_true rfl) hl.1 (Nat.le_of_ble_eq_true rfl) dX3_meet_30 (Nat.zero_le _) (Nat.zero_le _) (fun locs hS => ?_)
      have f30_0 : bB a2 < 24 := bB_lt (by omega)
      refine lv_goto (tgt := 37) hx hb dX3_meet_33 (by decide) ?_
      refine lv_istore (lv' := [(4, .int (nI (bB a2))), (0, .ref (ad 0)), (1, .int (nI a1)), (2, .int (nI a2)), (3, .int (nI a3))]) hx hb dX3_meet_37 hl (by decide) rfl (fun ls hl => ?_)
      refine lv_iload hx hb dX3_meet_39 (lv_at hl 0 rfl) ?_
      refine lv_iconst (v := mI 0) hx hb dX3_meet_41 zi_m1 ?_
      rw [← mI_succ (bB a2)]
      refine zr_icmp_eqM (a := (bB a2 + 1)) (b := 0) (tgt := 69) hx hb (by omega) (by omega) dX3_meet_42 (by decide) (fun c_3 => ?_) (fun c_3 => ?_)
      · refine lv_iconst (v := nI 0) hx hb dX3_meet_69 zi_0 ?_
        exact zc_bret (mMeet g a1 a2 a3) (congrArg (fun z : Bool => nI z.toNat) (show (false : Bool) = (mMeet g a1 a2 a3) from by first | with_reducible rfl | (simp [c_1, c_2, c_3, mMeet, goes]; done) | (simp only [c_1, c_2, c_3] <;> simp [mMeet, goes]; done) | (simp only [mMeet, goes, c_1, c_2, c_3] <;> simp [mMeet, goes]; done) | (simp [c_1, c_2, c_3, mMeet, goes, Bool.and_assoc]; done) | (simp [c_1, c_2, c_3, mMeet, goes, Bool.and_assoc, Bool.or_assoc]; done) | rfl | (simp [c_1, c_2, c_3, mMeet, goes]; omega))) hPost hS hx hb hr hlk (Nat.zero_le _) (Nat.zero_le _) dX3_meet_70
      · refine lv_aload_n hx hb dX3_meet_45 rfl (lv_at hl 1 rfl) ?_
        refine lv_iload hx hb dX3_meet_46 (lv_at hl 0 rfl) ?_
        refine kM_ownerAt S hK hM hg hS (bB a2) (by first | omega | assumption | grind) (Nat.le_of_ble_eq_true rfl) (Nat.le_of_ble_eq_true rfl) hl.1 (Nat.le_of_ble_eq_true rfl) dX3_meet_48 (Nat.zero_le _) (Nat.zero_le _) (fun locs hS => ?_)
        have f48_0 : own1 g (bB a2) < 4 := own1_lt _ _
        refine lv_iconst (v := mI 0) hx hb dX3_meet_51 zi_m1 ?_
        refine zr_icmp_eqM (a := (own1 g (bB a2))) (b := 0) (tgt := 65) hx hb (by omega) (by omega) dX3_meet_52 (by decide) (fun c_4 => ?_) (fun c_4 => ?_)
        · refine lv_iconst (v := nI 1) hx hb dX3_meet_65 zi_1 ?_
          refine lv_goto (tgt := 70) hx hb dX3_meet_66 (by decide) ?_
          exact zc_bret (mMeet g a1 a2 a3) (congrArg (fun z : Bool => nI z.toNat) (show (true : Bool) = (mMeet g a1 a2 a3) from by first | with_reducible rfl | (simp [c_1, c_2, c_3, c_4, mMeet, goes]; done) | (simp only [c_1, c_2, c_3, c_4] <;> simp [mMeet, goes]; done) | (simp only [mMeet, goes, c_1, c_2, c_3, c_4] <;> simp [mMeet, goes]; done) | (simp [c_1, c_2, c_3, c_4, mMeet, goes, Bool.and_assoc]; done) | (simp [c_1, c_2, c_3, c_4, mMeet, goes, Bool.and_assoc, Bool.or_assoc]; done) | rfl | (simp [c_1, c_2, c_3, c_4, mMeet, goes]; omega))) hPost hS hx hb hr hlk (Nat.zero_le _) (Nat.zero_le _) dX3_meet_70
        · refine lv_aload_n hx hb dX3_meet_55 rfl (lv_at hl 1 rfl) ?_
          refine lv_iload hx hb dX3_meet_56 (lv_at hl 0 rfl) ?_
          refine kM_ownerAt S hK hM hg hS (bB a2) (by first | omega | assumption | grind) (Nat.le_of_ble_eq_true rfl) (Nat.le_of_ble_eq_true rfl) hl.1 (Nat.le_of_ble_eq_true rfl) dX3_meet_58 (Nat.zero_le _) (Nat.zero_le _) (fun locs hS => ?_)
          have f58_0 : own1 g (bB a2) < 4 := own1_lt _ _
          refine lv_iload_n hx hb dX3_meet_61 rfl (lv_at hl 2 rfl) ?_
          rw [← mI_succ a1]
          refine zr_icmp_neM (a := (own1 g (bB a2))) (b := (a1 + 1)) (tgt := 69) hx hb (by omega) (by omega) dX3_meet_62 (by decide) (fun c_5 => ?_) (fun c_5 => ?_)
          · refine lv_iconst (v := nI 0) hx hb dX3_meet_69 zi_0 ?_
            exact zc_bret (mMeet g a1 a2 a3) (congrArg (fun z : Bool => nI z.toNat) (show (false : Bool) = (mMeet g a1 a2 a3) from by first | with_reducible rfl | (simp [c_1, c_2, c_3, c_4, c_5, mMeet, goes]; done) | (simp only [c_1, c_2, c_3, c_4, c_5] <;> simp [mMeet, goes]; done) | (simp only [mMeet, goes, c_1, c_2, c_3, c_4, c_5] <;> simp [mMeet, goes]; done) | (simp [c_1, c_2, c_3, c_4, c_5, mMeet, goes, Bool.and_assoc]; done) | (simp [c_1, c_2, c_3, c_4, c_5, mMeet, goes, Bool.and_assoc, Bool.or_assoc]; done) | rfl | (simp [c_1, c_2, c_3, c_4, c_5, mMeet, goes]; omega))) hPost hS hx hb hr hlk (Nat.zero_le _) (Nat.zero_le _) dX3_meet_70
          · refine lv_iconst (v := nI 1) hx hb dX3_meet_65 zi_1 ?_
            refine lv_goto (tgt := 70) hx hb dX3_meet_66 (by decide) ?_
            exact zc_bret (mMeet g a1 a2 a3) (congrArg (fun z : Bool => nI z.toNat) (show (true : Bool) = (mMeet g a1 a2 a3) from by first | with_reducible rfl | (simp [c_1, c_2, c_3, c_4, c_5, mMeet, goes]; done) | (simp only [c_1, c_2, c_3, c_4, c_5] <;> simp [mMeet, goes]; done) | (simp only [mMeet, goes, c_1, c_2, c_3, c_4, c_5] <;> simp [mMeet, goes]; done) | (simp [c_1, c_2, c_3, c_4, c_5, mMeet, goes, Bool.and_assoc]; done) | (simp [c_1, c_2, c_3, c_4, c_5, mMeet, goes, Bool.and_assoc, Bool.or_assoc]; done) | rfl | (simp [c_1, c_2, c_3, c_4, c_5, mMeet, goes]; omega))) hPost hS hx hb hr hlk (Nat.zero_le _) (Nat.zero_le _) dX3_meet_70
  · refine lv_iload_n hx hb dX3_meet_11 rfl (lv_at hl 2 rfl) ?_
    refine kM_oneEnd S hK hM hg hS a2 (by first | omega | assumption | grind) (Nat.le_of_ble_eq_true rfl) (Nat.le_of_ble_eq_true rfl) hl.1 (Nat.le_of_ble_eq_true rfl) dX3_meet_12 (Nat.zero_le _) (Nat.zero_le _) (fun locs hS => ?_)
    have f12_0 : bA a2 < 24 := bA_lt (by omega)
    refine lv_goto (tgt := 37) hx hb dX3_meet_15 (by decide) ?_
    refine lv_istore (lv' := [(4, .int (nI (bA a2))), (0, .ref (ad 0)), (1, .int (nI a1)), (2, .int (nI a2)), (3, .int (nI a3))]) hx hb dX3_meet_37 hl (by decide) rfl (fun ls hl => ?_)
    refine lv_iload hx hb dX3_meet_39 (lv_at hl 0 rfl) ?_
    refine lv_iconst (v := mI 0) hx hb dX3_meet_41 zi_m1 ?_
    rw [← mI_succ (bA a2)]
    refine zr_icmp_eqM (a := (bA a2 + 1)) (b := 0) (tgt := 69) hx hb (by omega) (by omega) dX3_meet_42 (by decide) (fun c_6 => ?_) (fun c_6 => ?_)
    · refine lv_iconst (v := nI 0) hx hb dX3_meet_69 zi_0 ?_
      exact zc_bret (mMeet g a1 a2 a3) (congrArg (fun z : Bool => nI z.toNat) (show (false : Bool) = (mMeet g a1 a2 a3) from by first | with_reducible rfl | (simp [c_1, c_6, mMeet, goes]; done) | (simp only [c_1, c_6] <;> simp [mMeet, goes]; done) | (simp only [mMeet, goes, c_1, c_6] <;> simp [mMeet, goes]; done) | (simp [c_1, c_6, mMeet, goes, Bool.and_assoc]; done) | (simp [c_1, c_6, mMeet, goes, Bool.and_assoc, Bool.or_assoc]; done) | rfl | (simp [c_1, c_6, mMeet, goes]; omega))) hPost hS hx hb hr hlk (Nat.zero_le _) (Nat.zero_le _) dX3_meet_70
    · refine lv_aload_n hx hb dX3_meet_45 rfl (lv_at hl 1 rfl) ?_
      refine lv_iload hx hb dX3_meet_46 (lv_at hl 0 rfl) ?_
      refine kM_ownerAt S hK hM hg hS (bA a2) (by first | omega | assumption | grind) (Nat.le_of_ble_eq_true rfl) (Nat.le_of_ble_eq_true rfl) hl.1 (Nat.le_of_ble_eq_true rfl) dX3_meet_48 (Nat.zero_le _) (Nat.zero_le _) (fun locs hS => ?_)
      have f48_0 : own1 g (bA a2) < 4 := own1_lt _ _
      refine lv_iconst (v := mI 0) hx hb dX3_meet_51 zi_m1 ?_
      refine zr_icmp_eqM (a := (own1 g (bA a2))) (b := 0) (tgt := 65) hx hb (by omega) (by omega) dX3_meet_52 (by decide) (fun c_7 => ?_) (fun c_7 => ?_)
      · refine lv_iconst (v := nI 1) hx hb dX3_meet_65 zi_1 ?_
        refine lv_goto (tgt := 70) hx hb dX3_meet_66 (by decide) ?_
        exact zc_bret (mMeet g a1 a2 a3) (congrArg (fun z : Bool => nI z.toNat) (show (true : Bool) = (mMeet g a1 a2 a3) from by first | with_reducible rfl | (simp [c_1, c_6, c_7, mMeet, goes]; done) | (simp only [c_1, c_6, c_7] <;> simp [mMeet, goes]; done) | (simp only [mMeet, goes, c_1, c_6, c_7] <;> simp [mMeet, goes]; done) | (simp [c_1, c_6, c_7, mMeet, goes, Bool.and_assoc]; done) | (simp [c_1, c_6, c_7, mMeet, goes, Bool.and_assoc, Bool.or_assoc]; done) | rfl | (simp [c_1, c_6, c_7, mMeet, goes]; omega))) hPost hS hx hb hr hlk (Nat.zero_le _) (Nat.zero_le _) dX3_meet_70
      · refine lv_aload_n hx hb dX3_meet_55 rfl (lv_at hl 1 rfl) ?_
        refine lv_iload hx hb dX3_meet_56 (lv_at hl 0 rfl) ?_
        refine kM_ownerAt S hK hM hg hS (bA a2) (by first | omega | assumption | grind) (Nat.le_of_ble_eq_true rfl) (Nat.le_of_ble_eq_true rfl) hl.1 (Nat.le_of_ble_eq_true rfl) dX3_meet_58 (Nat.zero_le _) (Nat.zero_le _) (fun locs hS => ?_)
        have f58_0 : own1 g (bA a2) < 4 := own1_lt _ _
        refine lv_iload_n hx hb dX3_meet_61 rfl (lv_at hl 2 rfl) ?_
        rw [← mI_succ a1]
        refine zr_icmp_neM (a := (own1 g (bA a2))) (b := (a1 + 1)) (tgt := 69) hx hb (by omega) (by omega) dX3_meet_62 (by decide) (fun c_8 => ?_) (fun c_8 => ?_)
        · refine lv_iconst (v := nI 0) hx hb dX3_meet_69 zi_0 ?_
          exact zc_bret (mMeet g a1 a2 a3) (congrArg (fun z : Bool => nI z.toNat) (show (false : Bool) = (mMeet g a1 a2 a3) from by first | with_reducible rfl | (simp [c_1, c_6, c_7, c_8, mMeet, goes]; done) | (simp only [c_1, c_6, c_7, c_8] <;> simp [mMeet, goes]; done) | (simp only [mMeet, goes, c_1, c_6, c_7, c_8] <;> simp [mMeet, goes]; done) | (simp [c_1, c_6, c_7, c_8, mMeet, goes, Bool.and_assoc]; done) | (simp [c_1, c_6, c_7, c_8, mMeet, goes, Bool.and_assoc, Bool.or_assoc]; done) | rfl | (simp [c_1, c_6, c_7, c_8, mMeet, goes]; omega))) hPost hS hx hb hr hlk (Nat.zero_le _) (Nat.zero_le _) dX3_meet_70
        · refine lv_iconst (v := nI 1) hx hb dX3_meet_65 zi_1 ?_
          refine lv_goto (tgt := 70) hx hb dX3_meet_66 (by decide) ?_
          exact zc_bret (mMeet g a1 a2 a3) (congrArg (fun z : Bool => nI z.toNat) (show (true : Bool) = (mMeet g a1 a2 a3) from by first | with_reducible rfl | (simp [c_1, c_6, c_7, c_8, mMeet, goes]; done) | (simp only [c_1, c_6, c_7, c_8] <;> simp [mMeet, goes]; done) | (simp only [mMeet, goes, c_1, c_6, c_7, c_8] <;> simp [mMeet, goes]; done) | (simp [c_1, c_6, c_7, c_8, mMeet, goes, Bool.and_assoc]; done) | (simp [c_1, c_6, c_7, c_8, mMeet, goes, Bool.and_assoc, Bool.or_assoc]; done) | rfl | (simp [c_1, c_6, c_7, c_8, mMeet, goes]; omega))) hPost hS hx hb hr hlk (Nat.zero_le _) (Nat.zero_le _) dX3_meet_70
theorem kM_meet {pr : Program} {l : Launch} {en : Env} {R : Room} {s : State} {m : MethodId} {args : Array Value} {below : List Frame} {meth : Method} {cd : Code} {H : Heap} {locs : List Loc} {cells slots : Nat} {Q : State → Prop} {cc : ByteArray} {pc nL : Nat} {ls : Array Slot} {rest : List Value} {D : va_G} {dA : Nat → ClassId} {A : Nat → Prop} {ad : Nat → Nat} {g : G} (S : CallFix pr m cd cc nL s args lw_all RX3) (hK : KT D dA s) (hM : MS D dA A ad g H) (hg : Sm g) (hS : va_S A s.heap H locs) (a1 : Nat) (a2 : Nat) (a3 : Nat) (h1 : a1 < 3) (h2 : a2 < 30) (h3 : a3 < 30) (hf : 3 + 1 ≤ R.frames) (hlo : 8 + (5 + 11) + 53 ≤ R.locals) (hsz : ls.size = nL) (hcat : (rest.map fun v => v.category).sum ≤ 8) (hdg : decode cc pc = .ok (.invokevirtual 91, 3)) (hq1 : cells ≤ R.cells) (hq2 : slots ≤ R.slots) (kk : ∀ locs1 : List Loc, va_S A s.heap H locs1 → W pr l en R s m args below meth cd H locs1 cells slots Q (F0 m (pc + 3) ls (.int (nI (mMeet g a1 a2 a3).toNat) :: rest))) : W pr l en R s m args below meth cd H locs cells slots Q (F0 m pc ls (.int (nI a3) :: .int (nI a2) :: .int (nI a1) :: .ref (ad 0) :: rest)) :=
  zc_callV (n := 3) (As := [.int (nI a1), .int (nI a2), .int (nI a3)]) (rest := rest) S (cM_meet l hg a1 a2 a3 h1 h2 h3  H hM (Post := (fun v H1 => v = some (.int (nI (mMeet g a1 a2 a3).toNat)) ∧ H1 = H)) ⟨rfl, rfl⟩) (lw_V q1201 q1203 qs45 q76 q1204) (by decide +kernel) ⟨hf, hlo⟩ ⟨hq1, hq2⟩ (zm_recv hK hM) KT_mv (zc_K KT_mv hK hS) hS (fun _ h => h) rfl hsz rfl hcat hdg (fun v H1 locs1 hp _ _ hS1 => by obtain ⟨rfl, rfl⟩ := hp; exact kk locs1 hS1)
set_option maxHeartbeats 1000000 in
set_option maxRecDepth 100000 in
theorem cM_digit (l : Launch) {D : va_G} {dA : Nat → ClassId} {A : Nat → Prop} {ad : Nat → Nat} {g : G} (hg : Sm g) (a1 : Nat) (a2 : Nat) (h1 : a1 < 2 ^ 31) (h2 : a2 < 5) (H0 : Heap) (hM : MS D dA A ad g H0) {Post : Option Value → Heap → Prop} (hPost : Post (some (.int (nI (digN a1 a2)))) H0) : Ct l yX3_digit (ws_ yX3_digit cX3_digit 4 (some .int)) (rmF 1 0 0 15) A (KT D dA) [.int (nI a1), .int (nI a2)] H0 Post := by
  refine zc_of RX3 rfl (by decide) (Nat.le_of_ble_eq_true rfl) ?_
  intro pr en s m args below meth cd S hr hlk hnm hh hK ls hl
  have hS : va_S A s.heap H0 [] := zc_start hh
  have hg0 := hg
  have hx := S.1
  have hb := S.2.1
  have hown := S.2.2.2.1
  have hts := S.2.2.2.2
  have hl : lv_has ls 4 [(0, .int (nI a1)), (1, .int (nI a2))] := hl
  refine lv_iload_n hx hb dX3_digit_0 rfl (lv_at hl 0 rfl) ?_
  refine lv_istore_n (lv' := [(2, .int (nI a1)), (0, .int (nI a1)), (1, .int (nI a2))]) hx hb dX3_digit_1 rfl hl (by decide) rfl (fun ls hl => ?_)
  refine lv_iconst (v := nI 0) hx hb dX3_digit_2 zi_0 ?_
  refine lv_istore_n (lv' := [(3, .int (nI 0)), (2, .int (nI a1)), (0, .int (nI a1)), (1, .int (nI a2))]) hx hb dX3_digit_3 rfl hl (by decide) rfl (fun ls hl => ?_)
  have L_4 : ∀ (n_4 : Nat) (i : Nat), i ≤ a2 → a2 - i < n_4 → ∀ x2_4 : Int32, x2_4 = nI (a1 / 10 ^ i) → ∀ (locs : List Loc), va_S A s.heap H0 locs → ∀ ls : Array Slot, lv_has ls 4 [(1, .int (nI a2)), (2, .int x2_4), (3, .int (nI i))] → W pr l en (rmF 1 0 0 15) s m args below meth cd H0 locs 0 0 (MQ below (zc_Q Post A) args s 0 0 A) (F0 m 4 ls []) := by
    intro n_4
    induction n_4 with
    | zero => intro i hi_4 hm_4; exact absurd hm_4 (Nat.not_lt_zero _)
    | succ n_4 ih_4 =>
      intro i hi_4 hm_4 x2_4 ex2_4 locs hS ls hl
      subst ex2_4
      refine lv_iload_n hx hb dX3_digit_4 rfl (lv_at hl 2 rfl) ?_
      refine lv_iload_n hx hb dX3_digit_5 rfl (lv_at hl 0 rfl) ?_
      refine zr_icmp_geN (a := i) (b := a2) (tgt := 20) hx hb (by omega) (by omega) dX3_digit_6 (by decide) (fun c_1 => ?_) (fun c_1 => ?_)
      · have e_i : a2 = i := by omega
        subst e_i
        have h9 : a1 / 10 ^ a2 ≤ a1 := Nat.div_le_self _ _
        refine lv_iload_n hx hb dX3_digit_20 rfl (lv_at hl 1 rfl) ?_
        refine lv_bipush (v := nI 10) hx hb dX3_digit_21 zb_10 ?_
        refine zr_remN (a := (a1 / 10 ^ a2)) (b := 10) hx hb (by omega) (by omega) (by omega) dX3_digit_23 ?_
        exact zc_nret (nI (digN a1 a2)) (congrArg nI (show ((a1 / 10 ^ a2) % 10 : Nat) = (digN a1 a2) from by first | with_reducible rfl | (simp [c_1, digN, Nat.pow_succ, Nat.div_div_eq_div_mul]; done) | (simp only [c_1] <;> simp [digN, Nat.pow_succ, Nat.div_div_eq_div_mul]; done) | (simp only [digN, Nat.pow_succ, Nat.div_div_eq_div_mul, c_1] <;> simp [digN, Nat.pow_succ, Nat.div_div_eq_div_mul]; done) | (simp [c_1, digN, Nat.pow_succ, Nat.div_div_eq_div_mul, Bool.and_assoc]; done) | (simp [c_1, digN, Nat.pow_succ, Nat.div_div_eq_div_mul, Bool.and_assoc, Bool.or_assoc]; done) | rfl | (simp [c_1, digN, Nat.pow_succ, Nat.div_div_eq_div_mul]; omega))) hPost hS hx hb hr hlk (Nat.zero_le _) (Nat.zero_le _) dX3_digit_24
      · have h9 : a1 / 10 ^ i ≤ a1 := Nat.div_le_self _ _
        refine lv_iload_n hx hb dX3_digit_9 rfl (lv_at hl 1 rfl) ?_
        refine lv_bipush (v := nI 10) hx hb dX3_digit_10 zb_10 ?_
        refine zr_divN (a := (a1 / 10 ^ i)) (b := 10) hx hb (by omega) (by omega) (by omega) dX3_digit_12 ?_
        refine lv_istore_n (lv' := [(2, .int (nI ((a1 / 10 ^ i) / 10))), (1, .int (nI a2)), (3, .int (nI i))]) hx hb dX3_digit_13 rfl hl (by decide) rfl (fun ls hl => ?_)
        refine lv_iinc (v := nI (i + 1)) (lv' := [(3, .int (nI (i + 1))), (2, .int (nI ((a1 / 10 ^ i) / 10))), (1, .int (nI a2))]) hx hb dX3_digit_14 hl (k := 2) rfl (zk_inc _) (by decide) rfl (fun ls hl => ?_)
        refine lv_goto (tgt := 4) hx hb dX3_digit_17 (by decide) ?_
        exact ih_4 (i + 1) (by first | omega | assumption | (simp; done) | grind) (by omega) _ (congrArg nI (show ((a1 / 10 ^ i) / 10 : Nat) = (a1 / 10 ^ (i + 1)) from by first | with_reducible rfl | (simp [c_1, digN, Nat.pow_succ, Nat.div_div_eq_div_mul]; done) | (simp only [c_1] <;> simp [digN, Nat.pow_succ, Nat.div_div_eq_div_mul]; done) | (simp only [digN, Nat.pow_succ, Nat.div_div_eq_div_mul, c_1] <;> simp [digN, Nat.pow_succ, Nat.div_div_eq_div_mul]; done) | (simp [c_1, digN, Nat.pow_succ, Nat.div_div_eq_div_mul, Bool.and_assoc]; done) | (simp [c_1, digN, Nat.pow_succ, Nat.div_div_eq_div_mul, Bool.and_assoc, Bool.or_assoc]; done) | rfl | (simp [c_1, digN, Nat.pow_succ, Nat.div_div_eq_div_mul]; omega))) locs hS ls (lv_sub hl [2, 1, 0] rfl)
  exact L_4 _ 0 (by first | omega | assumption | (simp; done) | grind) (Nat.lt_succ_self _) _ (congrArg nI (show (a1 : Nat) = (a1 / 10 ^ 0) from by first | with_reducible rfl | (simp [digN, Nat.pow_succ, Nat.div_div_eq_div_mul]; done) | (simp [digN, Nat.pow_succ, Nat.div_div_eq_div_mul, Bool.and_assoc]; done) | (simp [digN, Nat.pow_succ, Nat.div_div_eq_div_mul, Bool.and_assoc, Bool.or_assoc]; done) | rfl | (simp [digN, Nat.pow_succ, Nat.div_div_eq_div_mul]; omega))) [] hS ls (lv_sub hl [3, 1, 0] rfl)
theorem kM_digit {pr : Program} {l : Launch} {en : Env} {R : Room} {s : State} {m : MethodId} {args : Array Value} {below : List Frame} {meth : Method} {cd : Code} {H : Heap} {locs : List Loc} {cells slots : Nat} {Q : State → Prop} {cc : ByteArray} {pc nL : Nat} {ls : Array Slot} {rest : List Value} {D : va_G} {dA : Nat → ClassId} {A : Nat → Prop} {ad : Nat → Nat} {g : G} (S : CallFix pr m cd cc nL s args lw_all RX3) (hK : KT D dA s) (hM : MS D dA A ad g H) (hg : Sm g) (hS : va_S A s.heap H locs) (a1 : Nat) (a2 : Nat) (h1 : a1 < 2 ^ 31) (h2 : a2 < 5) (hf : 1 + 1 ≤ R.frames) (hlo : 8 + (4 + 11) + 15 ≤ R.locals) (hsz : ls.size = nL) (hcat : (rest.map fun v => v.category).sum ≤ 8) (hdg : decode cc pc = .ok (.invokestatic 107, 3)) (hq1 : cells ≤ R.cells) (hq2 : slots ≤ R.slots) (kk : ∀ locs1 : List Loc, va_S A s.heap H locs1 → W pr l en R s m args below meth cd H locs1 cells slots Q (F0 m (pc + 3) ls (.int (nI (digN a1 a2)) :: rest))) : W pr l en R s m args below meth cd H locs cells slots Q (F0 m pc ls (.int (nI a2) :: .int (nI a1) :: rest)) :=
  zc_callS (n := 2) (As := [.int (nI a1), .int (nI a2)]) (rest := rest) S (cM_digit l hg a1 a2 h1 h2  H hM (Post := (fun v H1 => v = some (.int (nI (digN a1 a2))) ∧ H1 = H)) ⟨rfl, rfl⟩) (lw_S q1220 q1221 q76 q1222) (by decide +kernel) ⟨hf, hlo⟩ ⟨hq1, hq2⟩ KT_mv (zc_K KT_mv hK hS) hS (fun _ h => h) rfl hsz rfl hcat hdg (fun v H1 locs1 hp _ _ hS1 => by obtain ⟨rfl, rfl⟩ := hp; exact kk locs1 hS1)
set_option maxHeartbeats 1000000 in
set_option maxRecDepth 100000 in
theorem cM_hasAll (l : Launch) {D : va_G} {dA : Nat → ClassId} {A : Nat → Prop} {ad : Nat → Nat} {g : G} (hg : Sm g) (a1 : Nat) (a2 : Nat) (h1 : a1 < 4) (h2 : a2 < 1048576) (H0 : Heap) (hM : MS D dA A ad g H0) {Post : Option Value → Heap → Prop} (hPost : Post (some (.int (nI (hasG g a1 a2).toNat))) H0) : Ct l yX3_hasAll (ws_ yX3_hasAll cX3_hasAll 5 (some .boolean)) (rmF 2 0 0 38) A (KT D dA) [.ref (ad 0), .int (nI a1), .int (nI a2)] H0 Post := by
  refine zc_of RX3 rfl (by decide) (Nat.le_of_ble_eq_true rfl) ?_
  intro pr en s m args below meth cd S hr hlk hnm hh hK ls hl
  have hS : va_S A s.heap H0 [] := zc_start hh
  have hg0 := hg
  have hx := S.1
  have hb := S.2.1
  have hown := S.2.2.2.1
  have hts := S.2.2.2.2
  have hl : lv_has ls 5 [(0, .ref (ad 0)), (1, .int (nI a1)), (2, .int (nI a2))] := hl
  refine lv_iconst (v := nI 1) hx hb dX3_hasAll_0 zi_1 ?_
  refine lv_istore_n (lv' := [(3, .int (nI 1)), (0, .ref (ad 0)), (1, .int (nI a1)), (2, .int (nI a2))]) hx hb dX3_hasAll_1 rfl hl (by decide) rfl (fun ls hl => ?_)
  refine lv_iconst (v := nI 0) hx hb dX3_hasAll_2 zi_0 ?_
  refine lv_istore (lv' := [(4, .int (nI 0)), (3, .int (nI 1)), (0, .ref (ad 0)), (1, .int (nI a1)), (2, .int (nI a2))]) hx hb dX3_hasAll_3 hl (by decide) rfl (fun ls hl => ?_)
  have L_5 : ∀ (n_5 : Nat) (i : Nat), i ≤ 5 → 5 - i < n_5 → ∀ x3_5 : Int32, x3_5 = nI (allN i (fun k => !decide (g 4 (5 * a1 + k) < digN a2 k))).toNat → ∀ (locs : List Loc), va_S A s.heap H0 locs → ∀ ls : Array Slot, lv_has ls 5 [(0, .ref (ad 0)), (1, .int (nI a1)), (2, .int (nI a2)), (3, .int x3_5), (4, .int (nI i))] → W pr l en (rmF 2 0 0 38) s m args below meth cd H0 locs 0 0 (MQ below (zc_Q Post A) args s 0 0 A) (F0 m 5 ls []) := by
    intro n_5
    induction n_5 with
    | zero => intro i hi_5 hm_5; exact absurd hm_5 (Nat.not_lt_zero _)
    | succ n_5 ih_5 =>
      intro i hi_5 hm_5 x3_5 ex3_5 locs hS ls hl
      subst ex3_5
      refine lv_iload hx hb dX3_hasAll_5 (lv_at hl 4 rfl) ?_
      refine lv_iconst (v := nI 5) hx hb dX3_hasAll_7 zi_5 ?_
      refine zr_icmp_geN (a := i) (b := 5) (tgt := 47) hx hb (by omega) (by omega) dX3_hasAll_8 (by decide) (fun c_1 => ?_) (fun c_1 => ?_)
      · have e_i : 5 = i := by omega
        subst e_i
        refine lv_iload_n hx hb dX3_hasAll_47 rfl (lv_at hl 3 rfl) ?_
        exact zc_bret (hasG g a1 a2) (congrArg (fun z : Bool => nI z.toNat) (show (allN 5 (fun k => !decide (g 4 (5 * a1 + k) < digN a2 k)) : Bool) = (hasG g a1 a2) from by first | with_reducible rfl | (simp [c_1, hasG, allN]; done) | (simp only [c_1] <;> simp [hasG, allN]; done) | (simp only [hasG, allN, c_1] <;> simp [hasG, allN]; done) | (simp [c_1, hasG, allN, Bool.and_assoc]; done) | (simp [c_1, hasG, allN, Bool.and_assoc, Bool.or_assoc]; done) | rfl | (simp [c_1, hasG, allN]; omega))) hPost hS hx hb hr hlk (Nat.zero_le _) (Nat.zero_le _) dX3_hasAll_48
      · refine lv_iload_n hx hb dX3_hasAll_11 rfl (lv_at hl 3 rfl) ?_
        have J_40 : ∀ yS0_40 : Int32, yS0_40 = nI ((allN i (fun k => !decide (g 4 (5 * a1 + k) < digN a2 k))) && (!decide ((g 4 ((5 * a1) + i)) < (digN a2 i)))).toNat → ∀ (locs : List Loc), va_S A s.heap H0 locs → ∀ ls : Array Slot, lv_has ls 5 [(0, .ref (ad 0)), (1, .int (nI a1)), (2, .int (nI a2)), (4, .int (nI i))] → W pr l en (rmF 2 0 0 38) s m args below meth cd H0 locs 0 0 (MQ below (zc_Q Post A) args s 0 0 A) (F0 m 40 ls [.int yS0_40]) := by
          intro yS0_40 eyS0_40 locs hS ls hl
          subst eyS0_40
          refine lv_istore_n (lv' := [(3, .int (nI ((allN i (fun k => !decide (g 4 (5 * a1 + k) < digN a2 k))) && (!decide ((g 4 ((5 * a1) + i)) < (digN a2 i)))).toNat)), (0, .ref (ad 0)), (1, .int (nI a1)), (2, .int (nI a2)), (4, .int (nI i))]) hx hb dX3_hasAll_40 rfl hl (by decide) rfl (fun ls hl => ?_)
          refine lv_iinc (v := nI (i + 1)) (lv' := [(4, .int (nI (i + 1))), (3, .int (nI ((allN i (fun k => !decide (g 4 (5 * a1 + k) < digN a2 k))) && (!decide ((g 4 ((5 * a1) + i)) < (digN a2 i)))).toNat)), (0, .ref (ad 0)), (1, .int (nI a1)), (2, .int (nI a2))]) hx hb dX3_hasAll_41 hl (k := 4) rfl (zk_inc _) (by decide) rfl (fun ls hl => ?_)
          refine lv_goto (tgt := 5) hx hb dX3_hasAll_44 (by decide) ?_
          exact ih_5 (i + 1) (by first | omega | assumption | (simp; done) | grind) (by omega) _ (congrArg (fun z : Bool => nI z.toNat) (show ((allN i (fun k => !decide (g 4 (5 * a1 + k) < digN a2 k))) && (!decide ((g 4 ((5 * a1) + i)) < (digN a2 i))) : Bool) = (allN (i + 1) (fun k => !decide (g 4 (5 * a1 + k) < digN a2 k))) from by first | with_reducible rfl | (simp [c_1, hasG, allN]; done) | (simp only [c_1] <;> simp [hasG, allN]; done) | (simp only [hasG, allN, c_1] <;> simp [hasG, allN]; done) | (simp [c_1, hasG, allN, Bool.and_assoc]; done) | (simp [c_1, hasG, allN, Bool.and_assoc, Bool.or_assoc]; done) | rfl | (simp [c_1, hasG, allN]; omega))) locs hS ls (lv_sub hl [2, 3, 4, 1, 0] rfl)
        refine zr_if_eqB (b := allN i (fun k => !decide (g 4 (5 * a1 + k) < digN a2 k))) (tgt := 39) hx hb dX3_hasAll_12 (by decide) (fun c_5 => ?_) (fun c_5 => ?_)
        · refine lv_iconst (v := nI 0) hx hb dX3_hasAll_39 zi_0 ?_
          exact J_40 _ (congrArg (fun z : Bool => nI z.toNat) (show (false : Bool) = ((allN i (fun k => !decide (g 4 (5 * a1 + k) < digN a2 k))) && (!decide ((g 4 ((5 * a1) + i)) < (digN a2 i)))) from by first | with_reducible rfl | (simp [c_1, c_5, hasG, allN]; done) | (simp only [c_1, c_5] <;> simp [hasG, allN]; done) | (simp only [hasG, allN, c_1, c_5] <;> simp [hasG, allN]; done) | (simp [c_1, c_5, hasG, allN, Bool.and_assoc]; done) | (simp [c_1, c_5, hasG, allN, Bool.and_assoc, Bool.or_assoc]; done) | rfl | (simp [c_1, c_5, hasG, allN]; omega))) locs hS ls (lv_sub hl [0, 1, 2, 4] rfl)
        · refine lv_aload_n hx hb dX3_hasAll_15 rfl (lv_at hl 0 rfl) ?_
          refine gM_hand S hK hM dX3_hasAll_16 ?_
          refine lv_iconst (v := nI 5) hx hb dX3_hasAll_19 zi_5 ?_
          refine lv_iload_n hx hb dX3_hasAll_20 rfl (lv_at hl 1 rfl) ?_
          refine zr_mulN (a := 5) (b := a1) hx hb dX3_hasAll_21 ?_
          refine lv_iload hx hb dX3_hasAll_22 (lv_at hl 4 rfl) ?_
          refine zr_addN (a := (5 * a1)) (b := i) hx hb dX3_hasAll_24 ?_
          refine lM_hand S hK hM ((5 * a1) + i) (by omega) (g 4 ((5 * a1) + i)) rfl dX3_hasAll_25 ?_
          have hb_6 : g 4 ((5 * a1) + i) < 1048576 := by first | exact hg 4 ((5 * a1) + i) | exact hg0 _ _ | (have := hg 4 ((5 * a1) + i); omega) | omega
          refine lv_iload_n hx hb dX3_hasAll_26 rfl (lv_at hl 2 rfl) ?_
          refine lv_iload hx hb dX3_hasAll_27 (lv_at hl 4 rfl) ?_
          refine kM_digit S hK hM hg hS a2 i (by first | omega | assumption | grind) (by first | omega | assumption | grind) (Nat.le_of_ble_eq_true rfl) (Nat.le_of_ble_eq_true rfl) hl.1 (Nat.le_of_ble_eq_true rfl) dX3_hasAll_29 (Nat.zero_le _) (Nat.zero_le _) (fun locs hS => ?_)
          have f29_0 : digN a2 i < 10 := digN_lt _ _
          refine zr_icmp_ltN (a := (g 4 ((5 * a1) + i))) (b := (digN a2 i)) (tgt := 39) hx hb (by omega) (by omega) dX3_hasAll_32 (by decide) (fun c_7 => ?_) (fun c_7 => ?_)
          · refine lv_iconst (v := nI 0) hx hb dX3_hasAll_39 zi_0 ?_
            exact J_40 _ (congrArg (fun z : Bool => nI z.toNat) (show (false : Bool) = ((allN i (fun k => !decide (g 4 (5 * a1 + k) < digN a2 k))) && (!decide ((g 4 ((5 * a1) + i)) < (digN a2 i)))) from by first | with_reducible rfl | (simp [c_1, c_5, c_7, hasG, allN]; done) | (simp only [c_1, c_5, c_7] <;> simp [hasG, allN]; done) | (simp only [hasG, allN, c_1, c_5, c_7] <;> simp [hasG, allN]; done) | (simp [c_1, c_5, c_7, hasG, allN, Bool.and_assoc]; done) | (simp [c_1, c_5, c_7, hasG, allN, Bool.and_assoc, Bool.or_assoc]; done) | rfl | (simp [c_1, c_5, c_7, hasG, allN]; omega))) locs hS ls (lv_sub hl [0, 1, 2, 4] rfl)
          · refine lv_iconst (v := nI 1) hx hb dX3_hasAll_35 zi_1 ?_
            refine lv_goto (tgt := 40) hx hb dX3_hasAll_36 (by decide) ?_
            exact J_40 _ (congrArg (fun z : Bool => nI z.toNat) (show (true : Bool) = ((allN i (fun k => !decide (g 4 (5 * a1 + k) < digN a2 k))) && (!decide ((g 4 ((5 * a1) + i)) < (digN a2 i)))) from by first | with_reducible rfl | (simp [c_1, c_5, c_7, hasG, allN]; done) | (simp only [c_1, c_5, c_7] <;> simp [hasG, allN]; done) | (simp only [hasG, allN, c_1, c_5, c_7] <;> simp [hasG, allN]; done) | (simp [c_1, c_5, c_7, hasG, allN, Bool.and_assoc]; done) | (simp [c_1, c_5, c_7, hasG, allN, Bool.and_assoc, Bool.or_assoc]; done) | rfl | (simp [c_1, c_5, c_7, hasG, allN]; omega))) locs hS ls (lv_sub hl [0, 1, 2, 4] rfl)
  exact L_5 _ 0 (by first | omega | assumption | (simp; done) | grind) (Nat.lt_succ_self _) _ (congrArg (fun z : Bool => nI z.toNat) (show (true : Bool) = (allN 0 (fun k => !decide (g 4 (5 * a1 + k) < digN a2 k))) from by first | with_reducible rfl | (simp [hasG, allN]; done) | (simp [hasG, allN, Bool.and_assoc]; done) | (simp [hasG, allN, Bool.and_assoc, Bool.or_assoc]; done) | rfl | (simp [hasG, allN]; omega))) [] hS ls (lv_sub hl [2, 3, 4, 1, 0] rfl)
theorem kM_hasAll {pr : Program} {l : Launch} {en : Env} {R : Room} {s : State} {m : MethodId} {args : Array Value} {below : List Frame} {meth : Method} {cd : Code} {H : Heap} {locs : List Loc} {cells slots : Nat} {Q : State → Prop} {cc : ByteArray} {pc nL : Nat} {ls : Array Slot} {rest : List Value} {D : va_G} {dA : Nat → ClassId} {A : Nat → Prop} {ad : Nat → Nat} {g : G} (S : CallFix pr m cd cc nL s args lw_all RX3) (hK : KT D dA s) (hM : MS D dA A ad g H) (hg : Sm g) (hS : va_S A s.heap H locs) (a1 : Nat) (a2 : Nat) (h1 : a1 < 4) (h2 : a2 < 1048576) (hf : 2 + 1 ≤ R.frames) (hlo : 8 + (5 + 11) + 38 ≤ R.locals) (hsz : ls.size = nL) (hcat : (rest.map fun v => v.category).sum ≤ 8) (hdg : decode cc pc = .ok (.invokevirtual 169, 3)) (hq1 : cells ≤ R.cells) (hq2 : slots ≤ R.slots) (kk : ∀ locs1 : List Loc, va_S A s.heap H locs1 → W pr l en R s m args below meth cd H locs1 cells slots Q (F0 m (pc + 3) ls (.int (nI (hasG g a1 a2).toNat) :: rest))) : W pr l en R s m args below meth cd H locs cells slots Q (F0 m pc ls (.int (nI a2) :: .int (nI a1) :: .ref (ad 0) :: rest)) :=
  zc_callV (n := 2) (As := [.int (nI a1), .int (nI a2)]) (rest := rest) S (cM_hasAll l hg a1 a2 h1 h2  H hM (Post := (fun v H1 => v = some (.int (nI (hasG g a1 a2).toNat)) ∧ H1 = H)) ⟨rfl, rfl⟩) (lw_V q1216 q1218 qs46 q76 q1219) (by decide +kernel) ⟨hf, hlo⟩ ⟨hq1, hq2⟩ (zm_recv hK hM) KT_mv (zc_K KT_mv hK hS) hS (fun _ h => h) rfl hsz rfl hcat hdg (fun v H1 locs1 hp _ _ hS1 => by obtain ⟨rfl, rfl⟩ := hp; exact kk locs1 hS1)
set_option maxHeartbeats 1000000 in
set_option maxRecDepth 100000 in
theorem cM_handOf (l : Launch) {D : va_G} {dA : Nat → ClassId} {A : Nat → Prop} {ad : Nat → Nat} {g : G} (hg : Sm g) (a1 : Nat) (h1 : a1 < 4) (H0 : Heap) (hM : MS D dA A ad g H0) {Post : Option Value → Heap → Prop} (hPost : Post (some (.int (nI (handN g a1 5)))) H0) : Ct l yX3_handOf (ws_ yX3_handOf cX3_handOf 4 (some .int)) (rmF 1 0 0 15) A (KT D dA) [.ref (ad 0), .int (nI a1)] H0 Post := by
  refine zc_of RX3 rfl (by decide) (Nat.le_of_ble_eq_true rfl) ?_
  intro pr en s m args below meth cd S hr hlk hnm hh hK ls hl
  have hS : va_S A s.heap H0 [] := zc_start hh
  have hg0 := hg
  have hx := S.1
  have hb := S.2.1
  have hown := S.2.2.2.1
  have hts := S.2.2.2.2
  have hl : lv_has ls 4 [(0, .ref (ad 0)), (1, .int (nI a1))] := hl
  refine lv_iconst (v := nI 0) hx hb dX3_handOf_0 zi_0 ?_
  refine lv_istore_n (lv' := [(2, .int (nI 0)), (0, .ref (ad 0)), (1, .int (nI a1))]) hx hb dX3_handOf_1 rfl hl (by decide) rfl (fun ls hl => ?_)
  refine lv_iconst (v := nI 0) hx hb dX3_handOf_2 zi_0 ?_
  refine lv_istore_n (lv' := [(3, .int (nI 0)), (2, .int (nI 0)), (0, .ref (ad 0)), (1, .int (nI a1))]) hx hb dX3_handOf_3 rfl hl (by decide) rfl (fun ls hl => ?_)
  have L_4 : ∀ (n_4 : Nat) (i : Nat), i ≤ 5 → 5 - i < n_4 → ∀ x2_4 : Int32, x2_4 = nI (handN g a1 i) → ∀ (locs : List Loc), va_S A s.heap H0 locs → ∀ ls : Array Slot, lv_has ls 4 [(0, .ref (ad 0)), (1, .int (nI a1)), (2, .int x2_4), (3, .int (nI i))] → W pr l en (rmF 1 0 0 15) s m args below meth cd H0 locs 0 0 (MQ below (zc_Q Post A) args s 0 0 A) (F0 m 4 ls []) := by
    intro n_4
    induction n_4 with
    | zero => intro i hi_4 hm_4; exact absurd hm_4 (Nat.not_lt_zero _)
    | succ n_4 ih_4 =>
      intro i hi_4 hm_4 x2_4 ex2_4 locs hS ls hl
      subst ex2_4
      refine lv_iload_n hx hb dX3_handOf_4 rfl (lv_at hl 3 rfl) ?_
      refine lv_iconst (v := nI 5) hx hb dX3_handOf_5 zi_5 ?_
      refine zr_icmp_geN (a := i) (b := 5) (tgt := 28) hx hb (by omega) (by omega) dX3_handOf_6 (by decide) (fun c_1 => ?_) (fun c_1 => ?_)
      · have e_i : 5 = i := by omega
        subst e_i
        refine lv_iload_n hx hb dX3_handOf_28 rfl (lv_at hl 2 rfl) ?_
        exact zc_nret (nI (handN g a1 5)) rfl hPost hS hx hb hr hlk (Nat.zero_le _) (Nat.zero_le _) dX3_handOf_29
      · refine lv_iload_n hx hb dX3_handOf_9 rfl (lv_at hl 2 rfl) ?_
        refine lv_aload_n hx hb dX3_handOf_10 rfl (lv_at hl 0 rfl) ?_
        refine gM_hand S hK hM dX3_handOf_11 ?_
        refine lv_iconst (v := nI 5) hx hb dX3_handOf_14 zi_5 ?_
        refine lv_iload_n hx hb dX3_handOf_15 rfl (lv_at hl 1 rfl) ?_
        refine zr_mulN (a := 5) (b := a1) hx hb dX3_handOf_16 ?_
        refine lv_iload_n hx hb dX3_handOf_17 rfl (lv_at hl 3 rfl) ?_
        refine zr_addN (a := (5 * a1)) (b := i) hx hb dX3_handOf_18 ?_
        refine lM_hand S hK hM ((5 * a1) + i) (by omega) (g 4 ((5 * a1) + i)) rfl dX3_handOf_19 ?_
        have hb_2 : g 4 ((5 * a1) + i) < 1048576 := by first | exact hg 4 ((5 * a1) + i) | exact hg0 _ _ | (have := hg 4 ((5 * a1) + i); omega) | omega
        refine zr_addN (a := (handN g a1 i)) (b := (g 4 ((5 * a1) + i))) hx hb dX3_handOf_20 ?_
        refine lv_istore_n (lv' := [(2, .int (nI ((handN g a1 i) + (g 4 ((5 * a1) + i))))), (0, .ref (ad 0)), (1, .int (nI a1)), (3, .int (nI i))]) hx hb dX3_handOf_21 rfl hl (by decide) rfl (fun ls hl => ?_)
        refine lv_iinc (v := nI (i + 1)) (lv' := [(3, .int (nI (i + 1))), (2, .int (nI ((handN g a1 i) + (g 4 ((5 * a1) + i))))), (0, .ref (ad 0)), (1, .int (nI a1))]) hx hb dX3_handOf_22 hl (k := 3) rfl (zk_inc _) (by decide) rfl (fun ls hl => ?_)
        refine lv_goto (tgt := 4) hx hb dX3_handOf_25 (by decide) ?_
        exact ih_4 (i + 1) (by first | omega | assumption | (simp; done) | grind) (by omega) _ (congrArg nI (show ((handN g a1 i) + (g 4 ((5 * a1) + i)) : Nat) = (handN g a1 (i + 1)) from by first | with_reducible rfl | (simp [c_1, handN, eu_sm]; done) | (simp only [c_1] <;> simp [handN, eu_sm]; done) | (simp only [handN, eu_sm, c_1] <;> simp [handN, eu_sm]; done) | (simp [c_1, handN, eu_sm, Bool.and_assoc]; done) | (simp [c_1, handN, eu_sm, Bool.and_assoc, Bool.or_assoc]; done) | rfl | (simp [c_1, handN, eu_sm]; omega))) locs hS ls (lv_sub hl [2, 3, 1, 0] rfl)
  exact L_4 _ 0 (by first | omega | assumption | (simp; done) | grind) (Nat.lt_succ_self _) _ (congrArg nI (show (0 : Nat) = (handN g a1 0) from by first | with_reducible rfl | (simp [handN, eu_sm]; done) | (simp [handN, eu_sm, Bool.and_assoc]; done) | (simp [handN, eu_sm, Bool.and_assoc, Bool.or_assoc]; done) | rfl | (simp [handN, eu_sm]; omega))) [] hS ls (lv_sub hl [2, 3, 1, 0] rfl)
theorem kM_handOf {pr : Program} {l : Launch} {en : Env} {R : Room} {s : State} {m : MethodId} {args : Array Value} {below : List Frame} {meth : Method} {cd : Code} {H : Heap} {locs : List Loc} {cells slots : Nat} {Q : State → Prop} {cc : ByteArray} {pc nL : Nat} {ls : Array Slot} {rest : List Value} {D : va_G} {dA : Nat → ClassId} {A : Nat → Prop} {ad : Nat → Nat} {g : G} (S : CallFix pr m cd cc nL s args lw_all RX3) (hK : KT D dA s) (hM : MS D dA A ad g H) (hg : Sm g) (hS : va_S A s.heap H locs) (a1 : Nat) (h1 : a1 < 4) (hf : 1 + 1 ≤ R.frames) (hlo : 8 + (4 + 11) + 15 ≤ R.locals) (hsz : ls.size = nL) (hcat : (rest.map fun v => v.category).sum ≤ 8) (hdg : decode cc pc = .ok (.invokevirtual 175, 3)) (hq1 : cells ≤ R.cells) (hq2 : slots ≤ R.slots) (kk : ∀ locs1 : List Loc, va_S A s.heap H locs1 → W pr l en R s m args below meth cd H locs1 cells slots Q (F0 m (pc + 3) ls (.int (nI (handN g a1 5)) :: rest))) : W pr l en R s m args below meth cd H locs cells slots Q (F0 m pc ls (.int (nI a1) :: .ref (ad 0) :: rest)) :=
  zc_callV (n := 1) (As := [.int (nI a1)]) (rest := rest) S (cM_handOf l hg a1 h1  H hM (Post := (fun v H1 => v = some (.int (nI (handN g a1 5))) ∧ H1 = H)) ⟨rfl, rfl⟩) (lw_V q1227 q1229 qs48 q76 q1230) (by decide +kernel) ⟨hf, hlo⟩ ⟨hq1, hq2⟩ (zm_recv hK hM) KT_mv (zc_K KT_mv hK hS) hS (fun _ h => h) rfl hsz rfl hcat hdg (fun v H1 locs1 hp _ _ hS1 => by obtain ⟨rfl, rfl⟩ := hp; exact kk locs1 hS1)
set_option maxHeartbeats 1000000 in
set_option maxRecDepth 100000 in
theorem cM_sizeOf (l : Launch) {D : va_G} {dA : Nat → ClassId} {A : Nat → Prop} {ad : Nat → Nat} {g : G} (hg : Sm g) (a1 : Nat) (h1 : a1 < 1048576) (H0 : Heap) (hM : MS D dA A ad g H0) {Post : Option Value → Heap → Prop} (hPost : Post (some (.int (nI (sizeN a1 5)))) H0) : Ct l yX3_sizeOf (ws_ yX3_sizeOf cX3_sizeOf 3 (some .int)) (rmF 2 0 0 38) A (KT D dA) [.int (nI a1)] H0 Post := by
  refine zc_of RX3 rfl (by decide) (Nat.le_of_ble_eq_true rfl) ?_
  intro pr en s m args below meth cd S hr hlk hnm hh hK ls hl
  have hS : va_S A s.heap H0 [] := zc_start hh
  have hg0 := hg
  have hx := S.1
  have hb := S.2.1
  have hown := S.2.2.2.1
  have hts := S.2.2.2.2
  have hl : lv_has ls 3 [(0, .int (nI a1))] := hl
  refine lv_iconst (v := nI 0) hx hb dX3_sizeOf_0 zi_0 ?_
  refine lv_istore_n (lv' := [(1, .int (nI 0)), (0, .int (nI a1))]) hx hb dX3_sizeOf_1 rfl hl (by decide) rfl (fun ls hl => ?_)
  refine lv_iconst (v := nI 0) hx hb dX3_sizeOf_2 zi_0 ?_
  refine lv_istore_n (lv' := [(2, .int (nI 0)), (1, .int (nI 0)), (0, .int (nI a1))]) hx hb dX3_sizeOf_3 rfl hl (by decide) rfl (fun ls hl => ?_)
  have L_4 : ∀ (n_4 : Nat) (i : Nat), i ≤ 5 → 5 - i < n_4 → ∀ x1_4 : Int32, x1_4 = nI (sizeN a1 i) → ∀ (locs : List Loc), va_S A s.heap H0 locs → ∀ ls : Array Slot, lv_has ls 3 [(0, .int (nI a1)), (1, .int x1_4), (2, .int (nI i))] → W pr l en (rmF 2 0 0 38) s m args below meth cd H0 locs 0 0 (MQ below (zc_Q Post A) args s 0 0 A) (F0 m 4 ls []) := by
    intro n_4
    induction n_4 with
    | zero => intro i hi_4 hm_4; exact absurd hm_4 (Nat.not_lt_zero _)
    | succ n_4 ih_4 =>
      intro i hi_4 hm_4 x1_4 ex1_4 locs hS ls hl
      subst ex1_4
      refine lv_iload_n hx hb dX3_sizeOf_4 rfl (lv_at hl 2 rfl) ?_
      refine lv_iconst (v := nI 5) hx hb dX3_sizeOf_5 zi_5 ?_
      refine zr_icmp_geN (a := i) (b := 5) (tgt := 23) hx hb (by omega) (by omega) dX3_sizeOf_6 (by decide) (fun c_1 => ?_) (fun c_1 => ?_)
      · have e_i : 5 = i := by omega
        subst e_i
        refine lv_iload_n hx hb dX3_sizeOf_23 rfl (lv_at hl 1 rfl) ?_
        exact zc_nret (nI (sizeN a1 5)) rfl hPost hS hx hb hr hlk (Nat.zero_le _) (Nat.zero_le _) dX3_sizeOf_24
      · refine lv_iload_n hx hb dX3_sizeOf_9 rfl (lv_at hl 1 rfl) ?_
        refine lv_iload_n hx hb dX3_sizeOf_10 rfl (lv_at hl 0 rfl) ?_
        refine lv_iload_n hx hb dX3_sizeOf_11 rfl (lv_at hl 2 rfl) ?_
        refine kM_digit S hK hM hg hS a1 i (by first | omega | assumption | grind) (by first | omega | assumption | grind) (Nat.le_of_ble_eq_true rfl) (Nat.le_of_ble_eq_true rfl) hl.1 (Nat.le_of_ble_eq_true rfl) dX3_sizeOf_12 (Nat.zero_le _) (Nat.zero_le _) (fun locs hS => ?_)
        have f12_0 : digN a1 i < 10 := digN_lt _ _
        refine zr_addN (a := (sizeN a1 i)) (b := (digN a1 i)) hx hb dX3_sizeOf_15 ?_
        refine lv_istore_n (lv' := [(1, .int (nI ((sizeN a1 i) + (digN a1 i)))), (0, .int (nI a1)), (2, .int (nI i))]) hx hb dX3_sizeOf_16 rfl hl (by decide) rfl (fun ls hl => ?_)
        refine lv_iinc (v := nI (i + 1)) (lv' := [(2, .int (nI (i + 1))), (1, .int (nI ((sizeN a1 i) + (digN a1 i)))), (0, .int (nI a1))]) hx hb dX3_sizeOf_17 hl (k := 2) rfl (zk_inc _) (by decide) rfl (fun ls hl => ?_)
        refine lv_goto (tgt := 4) hx hb dX3_sizeOf_20 (by decide) ?_
        exact ih_4 (i + 1) (by first | omega | assumption | (simp; done) | grind) (by omega) _ (congrArg nI (show ((sizeN a1 i) + (digN a1 i) : Nat) = (sizeN a1 (i + 1)) from by first | with_reducible rfl | (simp [c_1, sizeN, eu_sm]; done) | (simp only [c_1] <;> simp [sizeN, eu_sm]; done) | (simp only [sizeN, eu_sm, c_1] <;> simp [sizeN, eu_sm]; done) | (simp [c_1, sizeN, eu_sm, Bool.and_assoc]; done) | (simp [c_1, sizeN, eu_sm, Bool.and_assoc, Bool.or_assoc]; done) | rfl | (simp [c_1, sizeN, eu_sm]; omega))) locs hS ls (lv_sub hl [2, 1, 0] rfl)
  exact L_4 _ 0 (by first | omega | assumption | (simp; done) | grind) (Nat.lt_succ_self _) _ (congrArg nI (show (0 : Nat) = (sizeN a1 0) from by first | with_reducible rfl | (simp [sizeN, eu_sm]; done) | (simp [sizeN, eu_sm, Bool.and_assoc]; done) | (simp [sizeN, eu_sm, Bool.and_assoc, Bool.or_assoc]; done) | rfl | (simp [sizeN, eu_sm]; omega))) [] hS ls (lv_sub hl [2, 1, 0] rfl)
theorem kM_sizeOf {pr : Program} {l : Launch} {en : Env} {R : Room} {s : State} {m : MethodId} {args : Array Value} {below : List Frame} {meth : Method} {cd : Code} {H : Heap} {locs : List Loc} {cells slots : Nat} {Q : State → Prop} {cc : ByteArray} {pc nL : Nat} {ls : Array Slot} {rest : List Value} {D : va_G} {dA : Nat → ClassId} {A : Nat → Prop} {ad : Nat → Nat} {g : G} (S : CallFix pr m cd cc nL s args lw_all RX3) (hK : KT D dA s) (hM : MS D dA A ad g H) (hg : Sm g) (hS : va_S A s.heap H locs) (a1 : Nat) (h1 : a1 < 1048576) (hf : 2 + 1 ≤ R.frames) (hlo : 8 + (3 + 11) + 38 ≤ R.locals) (hsz : ls.size = nL) (hcat : (rest.map fun v => v.category).sum ≤ 8) (hdg : decode cc pc = .ok (.invokestatic 185, 3)) (hq1 : cells ≤ R.cells) (hq2 : slots ≤ R.slots) (kk : ∀ locs1 : List Loc, va_S A s.heap H locs1 → W pr l en R s m args below meth cd H locs1 cells slots Q (F0 m (pc + 3) ls (.int (nI (sizeN a1 5)) :: rest))) : W pr l en R s m args below meth cd H locs cells slots Q (F0 m pc ls (.int (nI a1) :: rest)) :=
  zc_callS (n := 1) (As := [.int (nI a1)]) (rest := rest) S (cM_sizeOf l hg a1 h1  H hM (Post := (fun v H1 => v = some (.int (nI (sizeN a1 5))) ∧ H1 = H)) ⟨rfl, rfl⟩) (lw_S q1247 q1248 q76 q1249) (by decide +kernel) ⟨hf, hlo⟩ ⟨hq1, hq2⟩ KT_mv (zc_K KT_mv hK hS) hS (fun _ h => h) rfl hsz rfl hcat hdg (fun v H1 locs1 hp _ _ hS1 => by obtain ⟨rfl, rfl⟩ := hp; exact kk locs1 hS1)
set_option maxHeartbeats 1000000 in
set_option maxRecDepth 100000 in
theorem cM_ones (l : Launch) {D : va_G} {dA : Nat → ClassId} {A : Nat → Prop} {ad : Nat → Nat} {g : G} (hg : Sm g) (a1 : Nat) (h1 : a1 < 256) (H0 : Heap) (hM : MS D dA A ad g H0) {Post : Option Value → Heap → Prop} (hPost : Post (some (.int (nI (onesN a1 8)))) H0) : Ct l yX3_ones (ws_ yX3_ones cX3_ones 3 (some .int)) (rmF 1 0 0 14) A (KT D dA) [.int (nI a1)] H0 Post := by
  refine zc_of RX3 rfl (by decide) (Nat.le_of_ble_eq_true rfl) ?_
  intro pr en s m args below meth cd S hr hlk hnm hh hK ls hl
  have hS : va_S A s.heap H0 [] := zc_start hh
  have hg0 := hg
  have hx := S.1
  have hb := S.2.1
  have hown := S.2.2.2.1
  have hts := S.2.2.2.2
  have hl : lv_has ls 3 [(0, .int (nI a1))] := hl
  refine lv_iconst (v := nI 0) hx hb dX3_ones_0 zi_0 ?_
  refine lv_istore_n (lv' := [(1, .int (nI 0)), (0, .int (nI a1))]) hx hb dX3_ones_1 rfl hl (by decide) rfl (fun ls hl => ?_)
  refine lv_iconst (v := nI 0) hx hb dX3_ones_2 zi_0 ?_
  refine lv_istore_n (lv' := [(2, .int (nI 0)), (1, .int (nI 0)), (0, .int (nI a1))]) hx hb dX3_ones_3 rfl hl (by decide) rfl (fun ls hl => ?_)
  have L_4 : ∀ (n_4 : Nat) (i : Nat), i ≤ 8 → 8 - i < n_4 → ∀ x1_4 : Int32, x1_4 = nI (onesN a1 i) → ∀ (locs : List Loc), va_S A s.heap H0 locs → ∀ ls : Array Slot, lv_has ls 3 [(0, .int (nI a1)), (1, .int x1_4), (2, .int (nI i))] → W pr l en (rmF 1 0 0 14) s m args below meth cd H0 locs 0 0 (MQ below (zc_Q Post A) args s 0 0 A) (F0 m 4 ls []) := by
    intro n_4
    induction n_4 with
    | zero => intro i hi_4 hm_4; exact absurd hm_4 (Nat.not_lt_zero _)
    | succ n_4 ih_4 =>
      intro i hi_4 hm_4 x1_4 ex1_4 locs hS ls hl
      subst ex1_4
      refine lv_iload_n hx hb dX3_ones_4 rfl (lv_at hl 2 rfl) ?_
      refine lv_bipush (v := nI 8) hx hb dX3_ones_5 zb_8 ?_
      refine zr_icmp_geN (a := i) (b := 8) (tgt := 24) hx hb (by omega) (by omega) dX3_ones_7 (by decide) (fun c_1 => ?_) (fun c_1 => ?_)
      · have e_i : 8 = i := by omega
        subst e_i
        refine lv_iload_n hx hb dX3_ones_24 rfl (lv_at hl 1 rfl) ?_
        exact zc_nret (nI (onesN a1 8)) rfl hPost hS hx hb hr hlk (Nat.zero_le _) (Nat.zero_le _) dX3_ones_25
      · refine lv_iload_n hx hb dX3_ones_10 rfl (lv_at hl 1 rfl) ?_
        refine lv_iload_n hx hb dX3_ones_11 rfl (lv_at hl 0 rfl) ?_
        refine lv_iload_n hx hb dX3_ones_12 rfl (lv_at hl 2 rfl) ?_
        refine zr_shrN (a := a1) (b := i) hx hb (by omega) (by omega) dX3_ones_13 ?_
        refine lv_iconst (v := nI 1) hx hb dX3_ones_14 zi_1 ?_
        refine zr_andN (a := (a1 / 2 ^ i)) (b := 1) hx hb dX3_ones_15 ?_
        refine zr_addN (a := (onesN a1 i)) (b := ((a1 / 2 ^ i) &&& 1)) hx hb dX3_ones_16 ?_
        refine lv_istore_n (lv' := [(1, .int (nI ((onesN a1 i) + ((a1 / 2 ^ i) &&& 1)))), (0, .int (nI a1)), (2, .int (nI i))]) hx hb dX3_ones_17 rfl hl (by decide) rfl (fun ls hl => ?_)
        refine lv_iinc (v := nI (i + 1)) (lv' := [(2, .int (nI (i + 1))), (1, .int (nI ((onesN a1 i) + ((a1 / 2 ^ i) &&& 1)))), (0, .int (nI a1))]) hx hb dX3_ones_18 hl (k := 2) rfl (zk_inc _) (by decide) rfl (fun ls hl => ?_)
        refine lv_goto (tgt := 4) hx hb dX3_ones_21 (by decide) ?_
        exact ih_4 (i + 1) (by first | omega | assumption | (simp; done) | grind) (by omega) _ (congrArg nI (show ((onesN a1 i) + ((a1 / 2 ^ i) &&& 1) : Nat) = (onesN a1 (i + 1)) from by first | with_reducible rfl | (simp [c_1, onesN, eu_sm]; done) | (simp only [c_1] <;> simp [onesN, eu_sm]; done) | (simp only [onesN, eu_sm, c_1] <;> simp [onesN, eu_sm]; done) | (simp [c_1, onesN, eu_sm, Bool.and_assoc]; done) | (simp [c_1, onesN, eu_sm, Bool.and_assoc, Bool.or_assoc]; done) | rfl | (simp [c_1, onesN, eu_sm]; omega))) locs hS ls (lv_sub hl [2, 1, 0] rfl)
  exact L_4 _ 0 (by first | omega | assumption | (simp; done) | grind) (Nat.lt_succ_self _) _ (congrArg nI (show (0 : Nat) = (onesN a1 0) from by first | with_reducible rfl | (simp [onesN, eu_sm]; done) | (simp [onesN, eu_sm, Bool.and_assoc]; done) | (simp [onesN, eu_sm, Bool.and_assoc, Bool.or_assoc]; done) | rfl | (simp [onesN, eu_sm]; omega))) [] hS ls (lv_sub hl [2, 1, 0] rfl)
theorem kM_ones {pr : Program} {l : Launch} {en : Env} {R : Room} {s : State} {m : MethodId} {args : Array Value} {below : List Frame} {meth : Method} {cd : Code} {H : Heap} {locs : List Loc} {cells slots : Nat} {Q : State → Prop} {cc : ByteArray} {pc nL : Nat} {ls : Array Slot} {rest : List Value} {D : va_G} {dA : Nat → ClassId} {A : Nat → Prop} {ad : Nat → Nat} {g : G} (S : CallFix pr m cd cc nL s args lw_all RX3) (hK : KT D dA s) (hM : MS D dA A ad g H) (hg : Sm g) (hS : va_S A s.heap H locs) (a1 : Nat) (h1 : a1 < 256) (hf : 1 + 1 ≤ R.frames) (hlo : 8 + (3 + 11) + 14 ≤ R.locals) (hsz : ls.size = nL) (hcat : (rest.map fun v => v.category).sum ≤ 8) (hdg : decode cc pc = .ok (.invokestatic 94, 3)) (hq1 : cells ≤ R.cells) (hq2 : slots ≤ R.slots) (kk : ∀ locs1 : List Loc, va_S A s.heap H locs1 → W pr l en R s m args below meth cd H locs1 cells slots Q (F0 m (pc + 3) ls (.int (nI (onesN a1 8)) :: rest))) : W pr l en R s m args below meth cd H locs cells slots Q (F0 m pc ls (.int (nI a1) :: rest)) :=
  zc_callS (n := 1) (As := [.int (nI a1)]) (rest := rest) S (cM_ones l hg a1 h1  H hM (Post := (fun v H1 => v = some (.int (nI (onesN a1 8))) ∧ H1 = H)) ⟨rfl, rfl⟩) (lw_S q1186 q1187 q76 q1188) (by decide +kernel) ⟨hf, hlo⟩ ⟨hq1, hq2⟩ KT_mv (zc_K KT_mv hK hS) hS (fun _ h => h) rfl hsz rfl hcat hdg (fun v H1 locs1 hp _ _ hS1 => by obtain ⟨rfl, rfl⟩ := hp; exact kk locs1 hS1)
