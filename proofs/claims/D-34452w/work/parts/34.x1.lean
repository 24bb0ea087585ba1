/-! THE CLASS: words of the walks -/
def exS (n : Nat) : String := ["", "java/lang/IndexOutOfBoundsException", "java/lang/IllegalArgumentException", "java/lang/IllegalStateException"].getD n ""
theorem own1_pos {g : G} {c : Nat} (h : decide (g 2 c ≠ 0) = true) : own1 g c ≠ 0 := by
  simp only [decide_eq_true_eq] at h
  unfold own1
  rw [if_neg h]
  omega
theorem own1_ne {g : G} {c p : Nat} (h : own1 g c = p + 1) : decide (g 2 c ≠ 0) = true := by
  simp only [decide_eq_true_eq]
  intro h0
  unfold own1 at h
  rw [if_pos h0] at h
  omega
theorem cornA_lt {h k : Nat} (hh : h < 7) (hk : k < 6) : cornA h k < 24 := by
  unfold cornA
  (repeat' split) <;> omega
theorem zx_recv {D : va_G} {dA : Nat → ClassId} {cn : Nat → Nat} {A : Nat → Prop} {pa : NM → Nat} {g : G} {T : va_W} {H : Heap} {s : State} (hK : KT D dA s) (h : XS D dA cn A pa g T H) : ∃ cell : Cell, H[pa (0, 0)]? = some cell ∧ cell.vm.isStatics = false ∧ s.vm.findClass RX1 = some cell.cls := va_recv hK (h.one (0, 0) rfl rfl rfl (by decide) (by decide) (by decide)) (ci := 0) (q0 := 0) rfl rfl
section ZW
variable {p : Program} {l : Launch} {e : Env} {R : Room} {s : State} {m : MethodId} {args : Array Value} {below : List Frame} {meth : Method} {c : Code} {H : Heap} {locs : List Loc} {cells slots : Nat} {Q : State → Prop}
variable {cc : ByteArray} {pc nL : Nat} {ls : Array Slot} {rest : List Value}
theorem zr_ifnullB (hexec : p.tables.exec = Jvm.exec) (hb : c.code = cc) {b : Bool} {a : Nat} {off : Int} {tgt : Nat} (hdg : decode cc pc = .ok (.ifnull off, 3)) (ht : (pc : Int) + off = (tgt : Int)) (kn : ¬ b = true → W p l e R s m args below meth c H locs cells slots Q (F0 m tgt ls rest)) (ky : b = true → W p l e R s m args below meth c H locs cells slots Q (F0 m (pc + 3) ls rest)) : W p l e R s m args below meth c H locs cells slots Q (F0 m pc ls (va_rf (opB b a) :: rest)) := by
  cases b
  · exact lv_ifnullN hexec hb hdg ht (kn (by decide))
  · exact lv_ifnull hexec hb hdg (ky rfl)
theorem zr_ifnonnullB (hexec : p.tables.exec = Jvm.exec) (hb : c.code = cc) {b : Bool} {a : Nat} {off : Int} {tgt : Nat} (hdg : decode cc pc = .ok (.ifnonnull off, 3)) (ht : (pc : Int) + off = (tgt : Int)) (ky : b = true → W p l e R s m args below meth c H locs cells slots Q (F0 m tgt ls rest)) (kn : ¬ b = true → W p l e R s m args below meth c H locs cells slots Q (F0 m (pc + 3) ls rest)) : W p l e R s m args below meth c H locs cells slots Q (F0 m pc ls (va_rf (opB b a) :: rest)) := by
  cases b
  · exact lv_ifnonnullN hexec hb hdg (kn (by decide))
  · exact lv_ifnonnull hexec hb hdg ht (ky rfl)
theorem zr_aload_no (hexec : p.tables.exec = Jvm.exec) (hb : c.code = cc) {k : Fin 4} {i : Nat} {o : Option Nat} (hdg : decode cc pc = .ok (.aload_n k, 1)) (hi : (k : Nat) = i) (hl : ls[i]? = some (.val (va_rf o))) (kk : W p l e R s m args below meth c H locs cells slots Q (F0 m (pc + 1) ls (va_rf o :: rest))) : W p l e R s m args below meth c H locs cells slots Q (F0 m pc ls rest) := by
  cases o
  · exact lv_aload_nN hexec hb hdg hi hl kk
  · exact lv_aload_n hexec hb hdg hi hl kk
theorem zr_aload_o (hexec : p.tables.exec = Jvm.exec) (hb : c.code = cc) {i : Nat} {o : Option Nat} (hdg : decode cc pc = .ok (.aload i, 2)) (hl : ls[i]? = some (.val (va_rf o))) (kk : W p l e R s m args below meth c H locs cells slots Q (F0 m (pc + 2) ls (va_rf o :: rest))) : W p l e R s m args below meth c H locs cells slots Q (F0 m pc ls rest) := by
  cases o
  · exact lv_aloadN hexec hb hdg hl kk
  · exact lv_aload hexec hb hdg hl kk
theorem zr_astore_no (hexec : p.tables.exec = Jvm.exec) (hb : c.code = cc) {k : Fin 4} {i nL : Nat} {o : Option Nat} {lv lv' : List (Nat × Value)} (hdg : decode cc pc = .ok (.astore_n k, 1)) (hi : (k : Nat) = i) (h : lv_has ls nL lv) (hn : i < nL) (hl : (i, va_rf o) :: lv.filter (fun q => !(q.1 == i) && !(q.1 + 1 == i && q.2.category == 2)) = lv') (kk : ∀ ls' : Array Slot, lv_has ls' nL lv' → W p l e R s m args below meth c H locs cells slots Q (F0 m (pc + 1) ls' rest)) : W p l e R s m args below meth c H locs cells slots Q (F0 m pc ls (va_rf o :: rest)) := by
  cases o
  · exact lv_astore_nN hexec hb hdg hi h hn hl kk
  · exact lv_astore_n hexec hb hdg hi h hn hl kk
theorem zr_astore_o (hexec : p.tables.exec = Jvm.exec) (hb : c.code = cc) {i nL : Nat} {o : Option Nat} {lv lv' : List (Nat × Value)} (hdg : decode cc pc = .ok (.astore i, 2)) (h : lv_has ls nL lv) (hn : i < nL) (hl : (i, va_rf o) :: lv.filter (fun q => !(q.1 == i) && !(q.1 + 1 == i && q.2.category == 2)) = lv') (kk : ∀ ls' : Array Slot, lv_has ls' nL lv' → W p l e R s m args below meth c H locs cells slots Q (F0 m (pc + 2) ls' rest)) : W p l e R s m args below meth c H locs cells slots Q (F0 m pc ls (va_rf o :: rest)) := by
  cases o
  · exact lv_astoreN hexec hb hdg h hn hl kk
  · exact lv_astore hexec hb hdg h hn hl kk
theorem zx_max (S : CallFix p m c cc nL s args lw_all RX1) {a b : Nat} (ha : a < 2 ^ 31) (hbb : b < 2 ^ 31) (hf : 1 ≤ R.frames) (hlo : 24 ≤ R.locals) (hq1 : cells ≤ R.cells) (hq2 : slots ≤ R.slots) (hsz : ls.size = nL) (hdg : decode cc pc = .ok (.invokestatic 136, 3)) (hcat : (rest.map fun v => v.category).sum ≤ 8) (kk : W p l e R s m args below meth c H locs cells slots Q (F0 m (pc + 3) ls (.int (nI (if a < b then b else a)) :: rest))) : W p l e R s m args below meth c H locs cells slots Q (F0 m pc ls (.int (nI b) :: .int (nI a) :: rest)) := by
  refine va_mmax S.1 S.2.1 (S.2.2.1.trans hsz.symm) S.2.2.2.1 (S.2.2.2.2 _ q509) (S.2.2.2.2 _ q468) (S.2.2.2.2 _ q86) (S.2.2.2.2 _ q469) hf (by omega) hq1 hq2 hdg ?_
  have e : (if nI a < nI b then nI b else nI a : Int32) = nI (if a < b then b else a) := by
    by_cases h : a < b
    · rw [if_pos h, if_pos ((nI_ltI ha hbb).mpr h)]
    · rw [if_neg h, if_neg (mt (nI_ltI ha hbb).mp h)]
  rw [e]
  exact kk
theorem zx_min (S : CallFix p m c cc nL s args lw_all RX1) {a b : Nat} (ha : a < 2 ^ 31) (hbb : b < 2 ^ 31) (hf : 1 ≤ R.frames) (hlo : 24 ≤ R.locals) (hq1 : cells ≤ R.cells) (hq2 : slots ≤ R.slots) (hsz : ls.size = nL) (hdg : decode cc pc = .ok (.invokestatic 127, 3)) (hcat : (rest.map fun v => v.category).sum ≤ 8) (kk : W p l e R s m args below meth c H locs cells slots Q (F0 m (pc + 3) ls (.int (nI (if b < a then b else a)) :: rest))) : W p l e R s m args below meth c H locs cells slots Q (F0 m pc ls (.int (nI b) :: .int (nI a) :: rest)) := by
  refine va_mmin S.1 S.2.1 (S.2.2.1.trans hsz.symm) S.2.2.2.1 (S.2.2.2.2 _ q416) (S.2.2.2.2 _ q417) (S.2.2.2.2 _ q86) (S.2.2.2.2 _ q418) hf (by omega) hq1 hq2 hdg ?_
  have e : (if nI b < nI a then nI b else nI a : Int32) = nI (if b < a then b else a) := by
    by_cases h : b < a
    · rw [if_pos h, if_pos ((nI_ltI hbb ha).mpr h)]
    · rw [if_neg h, if_neg (mt (nI_ltI hbb ha).mp h)]
  rw [e]
  exact kk
end ZW
def oE (e c : Nat) : Nat := if bA e = c then bB e else bA e
theorem oE_lt {e c : Nat} (h : e < 30) : oE e c < 24 := by unfold oE; have := bA_lt h; have := bB_lt h; split <;> omega
def xFree (g : G) (c i : Nat) : Bool := decide (g 2 c = 0) && allN i (fun e => !atE e c || decide (g 2 (oE e c) = 0))
theorem xFree_eq (g : G) (c : Nat) : xFree g c 30 = mFree g c := by
  unfold xFree mFree
  by_cases h : g 2 c = 0
  · simp only [h, decide_true, Bool.true_and]
    refine allN_congr (fun e _ => ?_)
    unfold atE oE
    by_cases h1 : bA e = c
    · subst h1
      by_cases h2 : g 2 (bB e) = 0 <;> simp [h, h2]
      omega
    · by_cases h3 : bB e = c
      · subst h3
        by_cases h2 : g 2 (bA e) = 0 <;> simp [h, h1, h2]
        omega
      · simp [h1, h3]
  · simp [h]
/-- the roads at a corner, its player's -/
def xRoadAt (g : G) (c p i : Nat) : Bool := anyN i (fun e => decide (g 3 e = p + 1) && atE e c)
def xCan (g : G) (e p i : Nat) : Bool := anyN i (fun w => decide (own1 g (if w = 0 then bA e else bB e) = p + 1) || (xRoadAt g (if w = 0 then bA e else bB e) p 30 && !barN g p (if w = 0 then bA e else bB e)))
def xMay (g : G) (p e : Nat) : Bool := xCan g e p 2 && (decide (g 3 e = 0) && decide (roadsN g p 30 < 8))
theorem xRoadAt_but {g : G} {c p e : Nat} (h : g 3 e = 0) : mRoadAt g p c (e + 1) = xRoadAt g c p 30 := by
  unfold mRoadAt xRoadAt
  refine anyN_congr (fun i _ => ?_)
  by_cases hq : i = e
  · subst hq; simp [h]
  · have : ¬ i + 1 = e + 1 := by omega
    simp [hq]
theorem xMay_eq (g : G) (p e : Nat) : xMay g p e = mMayRoad g p e := by
  unfold xMay mMayRoad xCan mLeads
  by_cases h : g 3 e = 0
  · rw [xRoadAt_but h, xRoadAt_but h]
    simp only [anyN, h, decide_true, Bool.true_and, if_true, Bool.false_or, show ((1 : Nat) = 0) = False from by simp, if_false]
    have key : ∀ c : Nat, (decide (own1 g c = p + 1) || (xRoadAt g c p 30 && !barN g p c)) = (decide (own1 g c = p + 1) || (decide (own1 g c = 0) && xRoadAt g c p 30)) := by
      intro c
      unfold barN
      by_cases h1 : own1 g c = p + 1
      · simp [h1]
      · by_cases h2 : own1 g c = 0
        · simp [h2]
        · simp [h1, h2]
    rw [key, key, Bool.and_comm]
  · simp [h]
theorem mRoadAt_none (g : G) (p c : Nat) : mRoadAt g p c 0 = xRoadAt g c p 30 := by
  unfold mRoadAt xRoadAt
  refine anyN_congr (fun i _ => ?_)
  simp
set_option maxHeartbeats 1000000 in
set_option maxRecDepth 100000 in
theorem cX_end (l : Launch) {D : va_G} {dA : Nat → ClassId} {cn : Nat → Nat} {A : Nat → Prop} {pa : NM → Nat} {g : G} {T : va_W} (hg : Sm g) (a1 : Nat) (a2 : Nat) (h1 : a1 < 30) (h2 : a2 < 2) (H0 : Heap) (hM : XS D dA cn A pa g T H0) {Post : Option Value → Heap → Prop} (hPost : Post (some (.int (nI (if a2 = 0 then bA a1 else bB a1)))) H0) : Ct l yX1_end (ws_ yX1_end cX1_end 2 (some .int)) (rmF 1 0 0 13) A (KX D dA cn A) [.int (nI a1), .int (nI a2)] H0 Post := by
  refine zc_of RX1 rfl (by decide) (Nat.le_of_ble_eq_true rfl) ?_
  intro pr en s m args below meth cd S hr hlk hnm hh hKX ls hl
  have hS : va_S A s.heap H0 [] := zc_start hh
  have hg0 := hg
  have hx := S.1
  have hb := S.2.1
  have hown := S.2.2.2.1
  have hts := S.2.2.2.2
  have hK := hKX.1
  have hN := hKX.2.1.1
  have hl : lv_has ls 2 [(0, .int (nI a1)), (1, .int (nI a2))] := hl
  refine lv_iload_n hx hb dX1_end_0 rfl (lv_at hl 0 rfl) ?_
  refine lv_bipush (v := nI 6) hx hb dX1_end_1 zb_6 ?_
  refine zr_icmp_geN (a := a1) (b := 6) (tgt := 21) hx hb (by omega) (by omega) dX1_end_3 (by decide) (fun c_1 => ?_) (fun c_1 => ?_)
  · refine lv_iload_n hx hb dX1_end_21 rfl (lv_at hl 0 rfl) ?_
    refine lv_bipush (v := nI 12) hx hb dX1_end_22 zb_12 ?_
    refine zr_icmp_geN (a := a1) (b := 12) (tgt := 48) hx hb (by omega) (by omega) dX1_end_24 (by decide) (fun c_2 => ?_) (fun c_2 => ?_)
    · refine lv_bipush (v := nI 6) hx hb dX1_end_48 zb_6 ?_
      refine lv_iload_n hx hb dX1_end_50 rfl (lv_at hl 0 rfl) ?_
      refine lv_bipush (v := nI 12) hx hb dX1_end_51 zb_12 ?_
      refine zr_subN (a := a1) (b := 12) hx hb (by omega) dX1_end_53 ?_
      refine lv_iload_n hx hb dX1_end_54 rfl (lv_at hl 1 rfl) ?_
      refine zr_addN (a := (a1 - 12)) (b := a2) hx hb dX1_end_55 ?_
      refine lv_bipush (v := nI 18) hx hb dX1_end_56 zb_18 ?_
      refine zr_remN (a := ((a1 - 12) + a2)) (b := 18) hx hb (by omega) (by omega) (by omega) dX1_end_58 ?_
      refine zr_addN (a := 6) (b := (((a1 - 12) + a2) % 18)) hx hb dX1_end_59 ?_
      exact zc_nret (nI (if a2 = 0 then bA a1 else bB a1)) (congrArg nI (show (6 + (((a1 - 12) + a2) % 18) : Nat) = (if a2 = 0 then bA a1 else bB a1) from by (unfold bA bB; (repeat' split) <;> omega))) hPost hS hx hb hr hlk (Nat.le_of_ble_eq_true rfl) (Nat.le_of_ble_eq_true rfl) dX1_end_60
    · refine lv_iload_n hx hb dX1_end_27 rfl (lv_at hl 1 rfl) ?_
      refine zr_if_neN (a := a2) (tgt := 38) hx hb (by omega) dX1_end_28 (by decide) (fun c_3 => ?_) (fun c_3 => ?_)
      · refine lv_bipush (v := nI 6) hx hb dX1_end_38 zb_6 ?_
        refine lv_iconst (v := nI 3) hx hb dX1_end_40 zi_3 ?_
        refine lv_iload_n hx hb dX1_end_41 rfl (lv_at hl 0 rfl) ?_
        refine lv_bipush (v := nI 6) hx hb dX1_end_42 zb_6 ?_
        refine zr_subN (a := a1) (b := 6) hx hb (by omega) dX1_end_44 ?_
        refine zr_mulN (a := 3) (b := (a1 - 6)) hx hb dX1_end_45 ?_
        refine zr_addN (a := 6) (b := (3 * (a1 - 6))) hx hb dX1_end_46 ?_
        exact zc_nret (nI (if a2 = 0 then bA a1 else bB a1)) (congrArg nI (show (6 + (3 * (a1 - 6)) : Nat) = (if a2 = 0 then bA a1 else bB a1) from by (unfold bA bB; (repeat' split) <;> omega))) hPost hS hx hb hr hlk (Nat.le_of_ble_eq_true rfl) (Nat.le_of_ble_eq_true rfl) dX1_end_47
      · refine lv_iload_n hx hb dX1_end_31 rfl (lv_at hl 0 rfl) ?_
        refine lv_bipush (v := nI 6) hx hb dX1_end_32 zb_6 ?_
        refine zr_subN (a := a1) (b := 6) hx hb (by omega) dX1_end_34 ?_
        refine lv_goto (tgt := 47) hx hb dX1_end_35 (by decide) ?_
        exact zc_nret (nI (if a2 = 0 then bA a1 else bB a1)) (congrArg nI (show (a1 - 6 : Nat) = (if a2 = 0 then bA a1 else bB a1) from by (unfold bA bB; (repeat' split) <;> omega))) hPost hS hx hb hr hlk (Nat.le_of_ble_eq_true rfl) (Nat.le_of_ble_eq_true rfl) dX1_end_47
  · refine lv_iload_n hx hb dX1_end_6 rfl (lv_at hl 1 rfl) ?_
    refine zr_if_neN (a := a2) (tgt := 14) hx hb (by omega) dX1_end_7 (by decide) (fun c_4 => ?_) (fun c_4 => ?_)
    · refine lv_iload_n hx hb dX1_end_14 rfl (lv_at hl 0 rfl) ?_
      refine lv_iconst (v := nI 1) hx hb dX1_end_15 zi_1 ?_
      refine zr_addN (a := a1) (b := 1) hx hb dX1_end_16 ?_
      refine lv_bipush (v := nI 6) hx hb dX1_end_17 zb_6 ?_
      refine zr_remN (a := (a1 + 1)) (b := 6) hx hb (by omega) (by omega) (by omega) dX1_end_19 ?_
      exact zc_nret (nI (if a2 = 0 then bA a1 else bB a1)) (congrArg nI (show ((a1 + 1) % 6 : Nat) = (if a2 = 0 then bA a1 else bB a1) from by (unfold bA bB; (repeat' split) <;> omega))) hPost hS hx hb hr hlk (Nat.le_of_ble_eq_true rfl) (Nat.le_of_ble_eq_true rfl) dX1_end_20
    · refine lv_iload_n hx hb dX1_end_10 rfl (lv_at hl 0 rfl) ?_
      refine lv_goto (tgt := 20) hx hb dX1_end_11 (by decide) ?_
      exact zc_nret (nI (if a2 = 0 then bA a1 else bB a1)) (congrArg nI (show (a1 : Nat) = (if a2 = 0 then bA a1 else bB a1) from by (unfold bA bB; (repeat' split) <;> omega))) hPost hS hx hb hr hlk (Nat.le_of_ble_eq_true rfl) (Nat.le_of_ble_eq_true rfl) dX1_end_20
theorem kX_end {pr : Program} {l : Launch} {en : Env} {R : Room} {s : State} {m : MethodId} {args : Array Value} {below : List Frame} {meth : Method} {cd : Code} {H : Heap} {locs : List Loc} {cells slots : Nat} {cc : ByteArray} {pc nL : Nat} {ls : Array Slot} {rest : List Value} {D : va_G} {dA : Nat → ClassId} {cn : Nat → Nat} {A : Nat → Prop} {pa : NM → Nat} {g : G} {T : va_W} {Q : State → Prop} (S : CallFix pr m cd cc nL s args lw_all RX1) (hKX : KX D dA cn A s) (hM : XS D dA cn A pa g T H) (hg : Sm g) (hS : va_S A s.heap H locs) (a1 : Nat) (a2 : Nat) (h1 : a1 < 30) (h2 : a2 < 2) (hf : 1 + 1 ≤ R.frames) (hlo : 8 + (2 + 11) + 13 ≤ R.locals) (hsz : ls.size = nL) (hcat : (rest.map fun v => v.category).sum ≤ 8) (hdg : decode cc pc = .ok (.invokestatic 68, 3)) (hq1 : cells ≤ R.cells) (hq2 : slots ≤ R.slots) (kk : ∀ locs1 : List Loc, va_S A s.heap H locs1 → W pr l en R s m args below meth cd H locs1 cells slots Q (F0 m (pc + 3) ls (.int (nI (if a2 = 0 then bA a1 else bB a1)) :: rest))) : W pr l en R s m args below meth cd H locs cells slots Q (F0 m pc ls (.int (nI a2) :: .int (nI a1) :: rest)) :=
  zc_callS (n := 2) (As := [.int (nI a1), .int (nI a2)]) (rest := rest) S (cX_end l hg a1 a2 h1 h2 H hM (Post := (fun v H1 => v = some (.int (nI (if a2 = 0 then bA a1 else bB a1))) ∧ H1 = H)) ⟨rfl, rfl⟩) (lw_S q396 q397 q71 q398) (by decide +kernel) ⟨hf, hlo⟩ ⟨hq1, hq2⟩ KX_mv (zc_K KX_mv hKX hS) hS (fun _ h => h) rfl hsz rfl hcat hdg (fun v H1 locs1 hp _ _ hS1 => by obtain ⟨rfl, rfl⟩ := hp; exact kk locs1 hS1)
set_option maxHeartbeats 1000000 in
set_option maxRecDepth 100000 in
theorem cX_isAt (l : Launch) {D : va_G} {dA : Nat → ClassId} {cn : Nat → Nat} {A : Nat → Prop} {pa : NM → Nat} {g : G} {T : va_W} (hg : Sm g) (a1 : Nat) (a2 : Nat) (h1 : a1 < 30) (h2 : a2 < 24) (H0 : Heap) (hM : XS D dA cn A pa g T H0) {Post : Option Value → Heap → Prop} (hPost : Post (some (.int (nI (atE a1 a2).toNat))) H0) : Ct l yX1_isAt (ws_ yX1_isAt cX1_isAt 2 (some .boolean)) (rmF 2 0 0 34) A (KX D dA cn A) [.int (nI a1), .int (nI a2)] H0 Post := by
  refine zc_of RX1 rfl (by decide) (Nat.le_of_ble_eq_true rfl) ?_
  intro pr en s m args below meth cd S hr hlk hnm hh hKX ls hl
  have hS : va_S A s.heap H0 [] := zc_start hh
  have hg0 := hg
  have hx := S.1
  have hb := S.2.1
  have hown := S.2.2.2.1
  have hts := S.2.2.2.2
  have hK := hKX.1
  have hN := hKX.2.1.1
  have hl : lv_has ls 2 [(0, .int (nI a1)), (1, .int (nI a2))] := hl
  refine lv_iload_n hx hb dX1_isAt_0 rfl (lv_at hl 0 rfl) ?_
  refine lv_iconst (v := nI 0) hx hb dX1_isAt_1 zi_0 ?_
  refine kX_end S hKX hM hg hS a1 0 (by first | omega | assumption | grind) (by first | omega | assumption | grind) (Nat.le_of_ble_eq_true rfl) (Nat.le_of_ble_eq_true rfl) hl.1 (Nat.le_of_ble_eq_true rfl) dX1_isAt_2 (Nat.le_of_ble_eq_true rfl) (Nat.le_of_ble_eq_true rfl) (fun locs hS => ?_)
  have f2_0 : (if 0 = 0 then bA a1 else bB a1) < 24 := by have := bA_lt (show a1 < 30 by omega); have := bB_lt (show a1 < 30 by omega); split <;> omega
  refine lv_iload_n hx hb dX1_isAt_5 rfl (lv_at hl 1 rfl) ?_
  refine zr_icmp_eqN (a := (if 0 = 0 then bA a1 else bB a1)) (b := a2) (tgt := 18) hx hb (by omega) (by omega) dX1_isAt_6 (by decide) (fun c_1 => ?_) (fun c_1 => ?_)
  · refine lv_iconst (v := nI 1) hx hb dX1_isAt_18 zi_1 ?_
    refine lv_goto (tgt := 23) hx hb dX1_isAt_19 (by decide) ?_
    exact zc_bret (atE a1 a2) (congrArg (fun z : Bool => nI z.toNat) (show (true : Bool) = (atE a1 a2) from by first | with_reducible rfl | (simp [c_1, atE]; done) | (simp only [c_1] <;> simp [atE]; done) | (simp only [atE, c_1] <;> simp [atE]; done) | (simp [c_1, atE, Bool.and_assoc]; done) | (simp [c_1, atE, Bool.and_assoc, Bool.or_assoc]; done) | rfl | (simp [c_1, atE]; omega) | (simp_all [atE]; done))) hPost hS hx hb hr hlk (Nat.le_of_ble_eq_true rfl) (Nat.le_of_ble_eq_true rfl) dX1_isAt_23
  · refine lv_iload_n hx hb dX1_isAt_9 rfl (lv_at hl 0 rfl) ?_
    refine lv_iconst (v := nI 1) hx hb dX1_isAt_10 zi_1 ?_
    refine kX_end S hKX hM hg hS a1 1 (by first | omega | assumption | grind) (by first | omega | assumption | grind) (Nat.le_of_ble_eq_true rfl) (Nat.le_of_ble_eq_true rfl) hl.1 (Nat.le_of_ble_eq_true rfl) dX1_isAt_11 (Nat.le_of_ble_eq_true rfl) (Nat.le_of_ble_eq_true rfl) (fun locs hS => ?_)
    have f11_0 : (if 1 = 0 then bA a1 else bB a1) < 24 := by have := bA_lt (show a1 < 30 by omega); have := bB_lt (show a1 < 30 by omega); split <;> omega
    refine lv_iload_n hx hb dX1_isAt_14 rfl (lv_at hl 1 rfl) ?_
    refine zr_icmp_neN (a := (if 1 = 0 then bA a1 else bB a1)) (b := a2) (tgt := 22) hx hb (by omega) (by omega) dX1_isAt_15 (by decide) (fun c_2 => ?_) (fun c_2 => ?_)
    · refine lv_iconst (v := nI 0) hx hb dX1_isAt_22 zi_0 ?_
      exact zc_bret (atE a1 a2) (congrArg (fun z : Bool => nI z.toNat) (show (false : Bool) = (atE a1 a2) from by first | with_reducible rfl | (simp [c_1, c_2, atE]; done) | (simp only [c_1, c_2] <;> simp [atE]; done) | (simp only [atE, c_1, c_2] <;> simp [atE]; done) | (simp [c_1, c_2, atE, Bool.and_assoc]; done) | (simp [c_1, c_2, atE, Bool.and_assoc, Bool.or_assoc]; done) | rfl | (simp [c_1, c_2, atE]; omega) | (simp_all [atE]; done))) hPost hS hx hb hr hlk (Nat.le_of_ble_eq_true rfl) (Nat.le_of_ble_eq_true rfl) dX1_isAt_23
    · refine lv_iconst (v := nI 1) hx hb dX1_isAt_18 zi_1 ?_
      refine lv_goto (tgt := 23) hx hb dX1_isAt_19 (by decide) ?_
      exact zc_bret (atE a1 a2) (congrArg (fun z : Bool => nI z.toNat) (show (true : Bool) = (atE a1 a2) from by first | with_reducible rfl | (simp [c_1, c_2, atE]; done) | (simp only [c_1, c_2] <;> simp [atE]; done) | (simp only [atE, c_1, c_2] <;> simp [atE]; done) | (simp [c_1, c_2, atE, Bool.and_assoc]; done) | (simp [c_1, c_2, atE, Bool.and_assoc, Bool.or_assoc]; done) | rfl | (simp [c_1, c_2, atE]; omega) | (simp_all [atE]; done))) hPost hS hx hb hr hlk (Nat.le_of_ble_eq_true rfl) (Nat.le_of_ble_eq_true rfl) dX1_isAt_23
theorem kX_isAt {pr : Program} {l : Launch} {en : Env} {R : Room} {s : State} {m : MethodId} {args : Array Value} {below : List Frame} {meth : Method} {cd : Code} {H : Heap} {locs : List Loc} {cells slots : Nat} {cc : ByteArray} {pc nL : Nat} {ls : Array Slot} {rest : List Value} {D : va_G} {dA : Nat → ClassId} {cn : Nat → Nat} {A : Nat → Prop} {pa : NM → Nat} {g : G} {T : va_W} {Q : State → Prop} (S : CallFix pr m cd cc nL s args lw_all RX1) (hKX : KX D dA cn A s) (hM : XS D dA cn A pa g T H) (hg : Sm g) (hS : va_S A s.heap H locs) (a1 : Nat) (a2 : Nat) (h1 : a1 < 30) (h2 : a2 < 24) (hf : 2 + 1 ≤ R.frames) (hlo : 8 + (2 + 11) + 34 ≤ R.locals) (hsz : ls.size = nL) (hcat : (rest.map fun v => v.category).sum ≤ 8) (hdg : decode cc pc = .ok (.invokestatic 76, 3)) (hq1 : cells ≤ R.cells) (hq2 : slots ≤ R.slots) (kk : ∀ locs1 : List Loc, va_S A s.heap H locs1 → W pr l en R s m args below meth cd H locs1 cells slots Q (F0 m (pc + 3) ls (.int (nI (atE a1 a2).toNat) :: rest))) : W pr l en R s m args below meth cd H locs cells slots Q (F0 m pc ls (.int (nI a2) :: .int (nI a1) :: rest)) :=
  zc_callS (n := 2) (As := [.int (nI a1), .int (nI a2)]) (rest := rest) S (cX_isAt l hg a1 a2 h1 h2 H hM (Post := (fun v H1 => v = some (.int (nI (atE a1 a2).toNat)) ∧ H1 = H)) ⟨rfl, rfl⟩) (lw_S q393 q394 q71 q395) (by decide +kernel) ⟨hf, hlo⟩ ⟨hq1, hq2⟩ KX_mv (zc_K KX_mv hKX hS) hS (fun _ h => h) rfl hsz rfl hcat hdg (fun v H1 locs1 hp _ _ hS1 => by obtain ⟨rfl, rfl⟩ := hp; exact kk locs1 hS1)
set_option maxHeartbeats 1000000 in
set_option maxRecDepth 100000 in
theorem cX_otherEnd (l : Launch) {D : va_G} {dA : Nat → ClassId} {cn : Nat → Nat} {A : Nat → Prop} {pa : NM → Nat} {g : G} {T : va_W} (hg : Sm g) (a1 : Nat) (a2 : Nat) (h1 : a1 < 30) (h2 : a2 < 24) (H0 : Heap) (hM : XS D dA cn A pa g T H0) {Post : Option Value → Heap → Prop} (hPost : Post (some (.int (nI (oE a1 a2)))) H0) : Ct l yX1_otherEnd (ws_ yX1_otherEnd cX1_otherEnd 2 (some .int)) (rmF 2 0 0 34) A (KX D dA cn A) [.int (nI a1), .int (nI a2)] H0 Post := by
  refine zc_of RX1 rfl (by decide) (Nat.le_of_ble_eq_true rfl) ?_
  intro pr en s m args below meth cd S hr hlk hnm hh hKX ls hl
  have hS : va_S A s.heap H0 [] := zc_start hh
  have hg0 := hg
  have hx := S.1
  have hb := S.2.1
  have hown := S.2.2.2.1
  have hts := S.2.2.2.2
  have hK := hKX.1
  have hN := hKX.2.1.1
  have hl : lv_has ls 2 [(0, .int (nI a1)), (1, .int (nI a2))] := hl
  refine lv_iload_n hx hb dX1_otherEnd_0 rfl (lv_at hl 0 rfl) ?_
  refine lv_iconst (v := nI 0) hx hb dX1_otherEnd_1 zi_0 ?_
  refine kX_end S hKX hM hg hS a1 0 (by first | omega | assumption | grind) (by first | omega | assumption | grind) (Nat.le_of_ble_eq_true rfl) (Nat.le_of_ble_eq_true rfl) hl.1 (Nat.le_of_ble_eq_true rfl) dX1_otherEnd_2 (Nat.le_of_ble_eq_true rfl) (Nat.le_of_ble_eq_true rfl) (fun locs hS => ?_)
  have f2_0 : (if 0 = 0 then bA a1 else bB a1) < 24 := by have := bA_lt (show a1 < 30 by omega); have := bB_lt (show a1 < 30 by omega); split <;> omega
  refine lv_iload_n hx hb dX1_otherEnd_5 rfl (lv_at hl 1 rfl) ?_
  refine zr_icmp_neN (a := (if 0 = 0 then bA a1 else bB a1)) (b := a2) (tgt := 17) hx hb (by omega) (by omega) dX1_otherEnd_6 (by decide) (fun c_1 => ?_) (fun c_1 => ?_)
  · refine lv_iload_n hx hb dX1_otherEnd_17 rfl (lv_at hl 0 rfl) ?_
    refine lv_iconst (v := nI 0) hx hb dX1_otherEnd_18 zi_0 ?_
    refine kX_end S hKX hM hg hS a1 0 (by first | omega | assumption | grind) (by first | omega | assumption | grind) (Nat.le_of_ble_eq_true rfl) (Nat.le_of_ble_eq_true rfl) hl.1 (Nat.le_of_ble_eq_true rfl) dX1_otherEnd_19 (Nat.le_of_ble_eq_true rfl) (Nat.le_of_ble_eq_true rfl) (fun locs hS => ?_)
    have f19_0 : (if 0 = 0 then bA a1 else bB a1) < 24 := by have := bA_lt (show a1 < 30 by omega); have := bB_lt (show a1 < 30 by omega); split <;> omega
    exact zc_nret (nI (oE a1 a2)) (congrArg nI (show (if 0 = 0 then bA a1 else bB a1 : Nat) = (oE a1 a2) from by first | with_reducible rfl | (simp [c_1, oE]; done) | (simp only [c_1] <;> simp [oE]; done) | (simp only [oE, c_1] <;> simp [oE]; done) | (simp [c_1, oE, Bool.and_assoc]; done) | (simp [c_1, oE, Bool.and_assoc, Bool.or_assoc]; done) | rfl | (simp [c_1, oE]; omega) | (simp_all [oE]; done))) hPost hS hx hb hr hlk (Nat.le_of_ble_eq_true rfl) (Nat.le_of_ble_eq_true rfl) dX1_otherEnd_22
  · refine lv_iload_n hx hb dX1_otherEnd_9 rfl (lv_at hl 0 rfl) ?_
    refine lv_iconst (v := nI 1) hx hb dX1_otherEnd_10 zi_1 ?_
    refine kX_end S hKX hM hg hS a1 1 (by first | omega | assumption | grind) (by first | omega | assumption | grind) (Nat.le_of_ble_eq_true rfl) (Nat.le_of_ble_eq_true rfl) hl.1 (Nat.le_of_ble_eq_true rfl) dX1_otherEnd_11 (Nat.le_of_ble_eq_true rfl) (Nat.le_of_ble_eq_true rfl) (fun locs hS => ?_)
    have f11_0 : (if 1 = 0 then bA a1 else bB a1) < 24 := by have := bA_lt (show a1 < 30 by omega); have := bB_lt (show a1 < 30 by omega); split <;> omega
    refine lv_goto (tgt := 22) hx hb dX1_otherEnd_14 (by decide) ?_
    exact zc_nret (nI (oE a1 a2)) (congrArg nI (show (if 1 = 0 then bA a1 else bB a1 : Nat) = (oE a1 a2) from by first | with_reducible rfl | (simp [c_1, oE]; done) | (simp only [c_1] <;> simp [oE]; done) | (simp only [oE, c_1] <;> simp [oE]; done) | (simp [c_1, oE, Bool.and_assoc]; done) | (simp [c_1, oE, Bool.and_assoc, Bool.or_assoc]; done) | rfl | (simp [c_1, oE]; omega) | (simp_all [oE]; done))) hPost hS hx hb hr hlk (Nat.le_of_ble_eq_true rfl) (Nat.le_of_ble_eq_true rfl) dX1_otherEnd_22
theorem kX_otherEnd {pr : Program} {l : Launch} {en : Env} {R : Room} {s : State} {m : MethodId} {args : Array Value} {below : List Frame} {meth : Method} {cd : Code} {H : Heap} {locs : List Loc} {cells slots : Nat} {cc : ByteArray} {pc nL : Nat} {ls : Array Slot} {rest : List Value} {D : va_G} {dA : Nat → ClassId} {cn : Nat → Nat} {A : Nat → Prop} {pa : NM → Nat} {g : G} {T : va_W} {Q : State → Prop} (S : CallFix pr m cd cc nL s args lw_all RX1) (hKX : KX D dA cn A s) (hM : XS D dA cn A pa g T H) (hg : Sm g) (hS : va_S A s.heap H locs) (a1 : Nat) (a2 : Nat) (h1 : a1 < 30) (h2 : a2 < 24) (hf : 2 + 1 ≤ R.frames) (hlo : 8 + (2 + 11) + 34 ≤ R.locals) (hsz : ls.size = nL) (hcat : (rest.map fun v => v.category).sum ≤ 8) (hdg : decode cc pc = .ok (.invokestatic 80, 3)) (hq1 : cells ≤ R.cells) (hq2 : slots ≤ R.slots) (kk : ∀ locs1 : List Loc, va_S A s.heap H locs1 → W pr l en R s m args below meth cd H locs1 cells slots Q (F0 m (pc + 3) ls (.int (nI (oE a1 a2)) :: rest))) : W pr l en R s m args below meth cd H locs cells slots Q (F0 m pc ls (.int (nI a2) :: .int (nI a1) :: rest)) :=
  zc_callS (n := 2) (As := [.int (nI a1), .int (nI a2)]) (rest := rest) S (cX_otherEnd l hg a1 a2 h1 h2 H hM (Post := (fun v H1 => v = some (.int (nI (oE a1 a2))) ∧ H1 = H)) ⟨rfl, rfl⟩) (lw_S q399 q400 q71 q401) (by decide +kernel) ⟨hf, hlo⟩ ⟨hq1, hq2⟩ KX_mv (zc_K KX_mv hKX hS) hS (fun _ h => h) rfl hsz rfl hcat hdg (fun v H1 locs1 hp _ _ hS1 => by obtain ⟨rfl, rfl⟩ := hp; exact kk locs1 hS1)
set_option maxHeartbeats 1000000 in
set_option maxRecDepth 100000 in
theorem cX_isOf (l : Launch) {D : va_G} {dA : Nat → ClassId} {cn : Nat → Nat} {A : Nat → Prop} {pa : NM → Nat} {g : G} {T : va_W} (hg : Sm g) (a1 : Nat) (a2 : Nat) (h1 : a1 < 24) (h2 : a2 < 4) (h6 : ∀ c, c < 24 → g 2 c ≤ 6) (H0 : Heap) (hM : XS D dA cn A pa g T H0) {Post : Option Value → Heap → Prop} (hPost : Post (some (.int (nI (decide (own1 g a1 = a2 + 1)).toNat))) H0) : Ct l yX1_isOf (ws_ yX1_isOf cX1_isOf 3 (some .boolean)) (rmF 3 0 0 120) A (KX D dA cn A) [.ref (pa (0, 0)), .int (nI a1), .int (nI a2)] H0 Post := by
  refine zc_of RX1 rfl (by decide) (Nat.le_of_ble_eq_true rfl) ?_
  intro pr en s m args below meth cd S hr hlk hnm hh hKX ls hl
  have hS : va_S A s.heap H0 [] := zc_start hh
  have hg0 := hg
  have hx := S.1
  have hb := S.2.1
  have hown := S.2.2.2.1
  have hts := S.2.2.2.2
  have hK := hKX.1
  have hN := hKX.2.1.1
  have hl : lv_has ls 3 [(0, .ref (pa (0, 0))), (1, .int (nI a1)), (2, .int (nI a2))] := hl
  refine lv_aload_n hx hb dX1_isOf_0 rfl (lv_at hl 0 rfl) ?_
  refine gX_buildings S hK hM dX1_isOf_1 ?_
  refine lv_iload_n hx hb dX1_isOf_4 rfl (lv_at hl 1 rfl) ?_
  refine lX_bld S hK hM a1 (by omega) dX1_isOf_5 ?_
  refine zr_ifnullB (b := decide (g 2 a1 ≠ 0)) (tgt := 28) hx hb dX1_isOf_6 (by decide) (fun c_1 => ?_) (fun c_1 => ?_)
  · refine lv_iconst (v := nI 0) hx hb dX1_isOf_28 zi_0 ?_
    exact zc_bret (decide (own1 g a1 = a2 + 1)) (congrArg (fun z : Bool => nI z.toNat) (show (false : Bool) = (decide (own1 g a1 = a2 + 1)) from by first | with_reducible rfl | (simp [c_1, own1]; done) | (simp only [c_1] <;> simp [own1]; done) | (simp only [own1, c_1] <;> simp [own1]; done) | (simp [c_1, own1, Bool.and_assoc]; done) | (simp [c_1, own1, Bool.and_assoc, Bool.or_assoc]; done) | rfl | (simp [c_1, own1]; omega) | (simp_all [own1]; done))) hPost hS hx hb hr hlk (Nat.le_of_ble_eq_true rfl) (Nat.le_of_ble_eq_true rfl) dX1_isOf_29
  · refine lv_aload_n hx hb dX1_isOf_9 rfl (lv_at hl 0 rfl) ?_
    refine gX_buildings S hK hM dX1_isOf_10 ?_
    refine lv_iload_n hx hb dX1_isOf_13 rfl (lv_at hl 1 rfl) ?_
    refine lX_bldY S hK hM a1 (by omega) c_1 dX1_isOf_14 ?_
    refine kI_owner S hKX hM hS a1 (by omega) c_1 (by exact h6 _ (by omega)) (Nat.le_of_ble_eq_true rfl) (Nat.le_of_ble_eq_true rfl) hl.1 (Nat.le_of_ble_eq_true rfl) (Nat.le_of_ble_eq_true rfl) (Nat.le_of_ble_eq_true rfl) dX1_isOf_15 (fun locs hS => ?_)
    have hb_2 : own1 g a1 < 4 := own1_lt _ _
    have hb_3 : own1 g a1 ≠ 0 := own1_pos c_1
    refine lv_iload_n hx hb dX1_isOf_20 rfl (lv_at hl 2 rfl) ?_
    rw [← mI_succ a2]
    refine zr_icmp_neM (a := (own1 g a1)) (b := (a2 + 1)) (tgt := 28) hx hb (by omega) (by omega) dX1_isOf_21 (by decide) (fun c_4 => ?_) (fun c_4 => ?_)
    · refine lv_iconst (v := nI 0) hx hb dX1_isOf_28 zi_0 ?_
      exact zc_bret (decide (own1 g a1 = a2 + 1)) (congrArg (fun z : Bool => nI z.toNat) (show (false : Bool) = (decide (own1 g a1 = a2 + 1)) from by first | with_reducible rfl | (simp [c_1, c_4, own1]; done) | (simp only [c_1, c_4] <;> simp [own1]; done) | (simp only [own1, c_1, c_4] <;> simp [own1]; done) | (simp [c_1, c_4, own1, Bool.and_assoc]; done) | (simp [c_1, c_4, own1, Bool.and_assoc, Bool.or_assoc]; done) | rfl | (simp [c_1, c_4, own1]; omega) | (simp_all [own1]; done))) hPost hS hx hb hr hlk (Nat.le_of_ble_eq_true rfl) (Nat.le_of_ble_eq_true rfl) dX1_isOf_29
    · refine lv_iconst (v := nI 1) hx hb dX1_isOf_24 zi_1 ?_
      refine lv_goto (tgt := 29) hx hb dX1_isOf_25 (by decide) ?_
      exact zc_bret (decide (own1 g a1 = a2 + 1)) (congrArg (fun z : Bool => nI z.toNat) (show (true : Bool) = (decide (own1 g a1 = a2 + 1)) from by first | with_reducible rfl | (simp [c_1, c_4, own1]; done) | (simp only [c_1, c_4] <;> simp [own1]; done) | (simp only [own1, c_1, c_4] <;> simp [own1]; done) | (simp [c_1, c_4, own1, Bool.and_assoc]; done) | (simp [c_1, c_4, own1, Bool.and_assoc, Bool.or_assoc]; done) | rfl | (simp [c_1, c_4, own1]; omega) | (simp_all [own1]; done))) hPost hS hx hb hr hlk (Nat.le_of_ble_eq_true rfl) (Nat.le_of_ble_eq_true rfl) dX1_isOf_29
theorem kX_isOf {pr : Program} {l : Launch} {en : Env} {R : Room} {s : State} {m : MethodId} {args : Array Value} {below : List Frame} {meth : Method} {cd : Code} {H : Heap} {locs : List Loc} {cells slots : Nat} {cc : ByteArray} {pc nL : Nat} {ls : Array Slot} {rest : List Value} {D : va_G} {dA : Nat → ClassId} {cn : Nat → Nat} {A : Nat → Prop} {pa : NM → Nat} {g : G} {T : va_W} {Q : State → Prop} (S : CallFix pr m cd cc nL s args lw_all RX1) (hKX : KX D dA cn A s) (hM : XS D dA cn A pa g T H) (hg : Sm g) (hS : va_S A s.heap H locs) (a1 : Nat) (a2 : Nat) (h1 : a1 < 24) (h2 : a2 < 4) (h6 : ∀ c, c < 24 → g 2 c ≤ 6) (hf : 3 + 1 ≤ R.frames) (hlo : 8 + (3 + 11) + 120 ≤ R.locals) (hsz : ls.size = nL) (hcat : (rest.map fun v => v.category).sum ≤ 8) (hdg : decode cc pc = .ok (.invokevirtual 83, 3)) (hq1 : cells ≤ R.cells) (hq2 : slots ≤ R.slots) (kk : ∀ locs1 : List Loc, va_S A s.heap H locs1 → W pr l en R s m args below meth cd H locs1 cells slots Q (F0 m (pc + 3) ls (.int (nI (decide (own1 g a1 = a2 + 1)).toNat) :: rest))) : W pr l en R s m args below meth cd H locs cells slots Q (F0 m pc ls (.int (nI a2) :: .int (nI a1) :: .ref (pa (0, 0)) :: rest)) :=
  zc_callV (n := 2) (As := [.int (nI a1), .int (nI a2)]) (rest := rest) S (cX_isOf l hg a1 a2 h1 h2 h6 H hM (Post := (fun v H1 => v = some (.int (nI (decide (own1 g a1 = a2 + 1)).toNat)) ∧ H1 = H)) ⟨rfl, rfl⟩) (lw_V q708 q710 qs20 q71 q711) (by decide +kernel) ⟨hf, hlo⟩ ⟨hq1, hq2⟩ (zx_recv hKX.1 hM) KX_mv (zc_K KX_mv hKX hS) hS (fun _ h => h) rfl hsz rfl hcat hdg (fun v H1 locs1 hp _ _ hS1 => by obtain ⟨rfl, rfl⟩ := hp; exact kk locs1 hS1)
set_option maxHeartbeats 1000000 in
set_option maxRecDepth 100000 in
theorem cX_isShut (l : Launch) {D : va_G} {dA : Nat → ClassId} {cn : Nat → Nat} {A : Nat → Prop} {pa : NM → Nat} {g : G} {T : va_W} (hg : Sm g) (a1 : Nat) (a2 : Nat) (h1 : a1 < 24) (h2 : a2 < 4) (h6 : ∀ c, c < 24 → g 2 c ≤ 6) (H0 : Heap) (hM : XS D dA cn A pa g T H0) {Post : Option Value → Heap → Prop} (hPost : Post (some (.int (nI (barN g a2 a1).toNat))) H0) : Ct l yX1_isShut (ws_ yX1_isShut cX1_isShut 3 (some .boolean)) (rmF 3 0 0 120) A (KX D dA cn A) [.ref (pa (0, 0)), .int (nI a1), .int (nI a2)] H0 Post := by
  refine zc_of RX1 rfl (by decide) (Nat.le_of_ble_eq_true rfl) ?_
  intro pr en s m args below meth cd S hr hlk hnm hh hKX ls hl
  have hS : va_S A s.heap H0 [] := zc_start hh
  have hg0 := hg
  have hx := S.1
  have hb := S.2.1
  have hown := S.2.2.2.1
  have hts := S.2.2.2.2
  have hK := hKX.1
  have hN := hKX.2.1.1
  have hl : lv_has ls 3 [(0, .ref (pa (0, 0))), (1, .int (nI a1)), (2, .int (nI a2))] := hl
  refine lv_aload_n hx hb dX1_isShut_0 rfl (lv_at hl 0 rfl) ?_
  refine gX_buildings S hK hM dX1_isShut_1 ?_
  refine lv_iload_n hx hb dX1_isShut_4 rfl (lv_at hl 1 rfl) ?_
  refine lX_bld S hK hM a1 (by omega) dX1_isShut_5 ?_
  refine zr_ifnullB (b := decide (g 2 a1 ≠ 0)) (tgt := 28) hx hb dX1_isShut_6 (by decide) (fun c_1 => ?_) (fun c_1 => ?_)
  · refine lv_iconst (v := nI 0) hx hb dX1_isShut_28 zi_0 ?_
    exact zc_bret (barN g a2 a1) (congrArg (fun z : Bool => nI z.toNat) (show (false : Bool) = (barN g a2 a1) from by first | with_reducible rfl | (simp [c_1, barN]; done) | (simp only [c_1] <;> simp [barN]; done) | (simp only [barN, c_1] <;> simp [barN]; done) | (simp [c_1, barN, Bool.and_assoc]; done) | (simp [c_1, barN, Bool.and_assoc, Bool.or_assoc]; done) | rfl | (simp [c_1, barN]; omega) | (simp_all [barN]; done) | (simp_all [own1, barN]; done))) hPost hS hx hb hr hlk (Nat.le_of_ble_eq_true rfl) (Nat.le_of_ble_eq_true rfl) dX1_isShut_29
  · refine lv_aload_n hx hb dX1_isShut_9 rfl (lv_at hl 0 rfl) ?_
    refine gX_buildings S hK hM dX1_isShut_10 ?_
    refine lv_iload_n hx hb dX1_isShut_13 rfl (lv_at hl 1 rfl) ?_
    refine lX_bldY S hK hM a1 (by omega) c_1 dX1_isShut_14 ?_
    refine kI_owner S hKX hM hS a1 (by omega) c_1 (by exact h6 _ (by omega)) (Nat.le_of_ble_eq_true rfl) (Nat.le_of_ble_eq_true rfl) hl.1 (Nat.le_of_ble_eq_true rfl) (Nat.le_of_ble_eq_true rfl) (Nat.le_of_ble_eq_true rfl) dX1_isShut_15 (fun locs hS => ?_)
    have hb_2 : own1 g a1 < 4 := own1_lt _ _
    have hb_3 : own1 g a1 ≠ 0 := own1_pos c_1
    refine lv_iload_n hx hb dX1_isShut_20 rfl (lv_at hl 2 rfl) ?_
    rw [← mI_succ a2]
    refine zr_icmp_eqM (a := (own1 g a1)) (b := (a2 + 1)) (tgt := 28) hx hb (by omega) (by omega) dX1_isShut_21 (by decide) (fun c_4 => ?_) (fun c_4 => ?_)
    · refine lv_iconst (v := nI 0) hx hb dX1_isShut_28 zi_0 ?_
      exact zc_bret (barN g a2 a1) (congrArg (fun z : Bool => nI z.toNat) (show (false : Bool) = (barN g a2 a1) from by first | with_reducible rfl | (simp [c_1, c_4, barN]; done) | (simp only [c_1, c_4] <;> simp [barN]; done) | (simp only [barN, c_1, c_4] <;> simp [barN]; done) | (simp [c_1, c_4, barN, Bool.and_assoc]; done) | (simp [c_1, c_4, barN, Bool.and_assoc, Bool.or_assoc]; done) | rfl | (simp [c_1, c_4, barN]; omega) | (simp_all [barN]; done) | (simp_all [own1, barN]; done))) hPost hS hx hb hr hlk (Nat.le_of_ble_eq_true rfl) (Nat.le_of_ble_eq_true rfl) dX1_isShut_29
    · refine lv_iconst (v := nI 1) hx hb dX1_isShut_24 zi_1 ?_
      refine lv_goto (tgt := 29) hx hb dX1_isShut_25 (by decide) ?_
      exact zc_bret (barN g a2 a1) (congrArg (fun z : Bool => nI z.toNat) (show (true : Bool) = (barN g a2 a1) from by first | with_reducible rfl | (simp [c_1, c_4, barN]; done) | (simp only [c_1, c_4] <;> simp [barN]; done) | (simp only [barN, c_1, c_4] <;> simp [barN]; done) | (simp [c_1, c_4, barN, Bool.and_assoc]; done) | (simp [c_1, c_4, barN, Bool.and_assoc, Bool.or_assoc]; done) | rfl | (simp [c_1, c_4, barN]; omega) | (simp_all [barN]; done) | (simp_all [own1, barN]; done))) hPost hS hx hb hr hlk (Nat.le_of_ble_eq_true rfl) (Nat.le_of_ble_eq_true rfl) dX1_isShut_29
theorem kX_isShut {pr : Program} {l : Launch} {en : Env} {R : Room} {s : State} {m : MethodId} {args : Array Value} {below : List Frame} {meth : Method} {cd : Code} {H : Heap} {locs : List Loc} {cells slots : Nat} {cc : ByteArray} {pc nL : Nat} {ls : Array Slot} {rest : List Value} {D : va_G} {dA : Nat → ClassId} {cn : Nat → Nat} {A : Nat → Prop} {pa : NM → Nat} {g : G} {T : va_W} {Q : State → Prop} (S : CallFix pr m cd cc nL s args lw_all RX1) (hKX : KX D dA cn A s) (hM : XS D dA cn A pa g T H) (hg : Sm g) (hS : va_S A s.heap H locs) (a1 : Nat) (a2 : Nat) (h1 : a1 < 24) (h2 : a2 < 4) (h6 : ∀ c, c < 24 → g 2 c ≤ 6) (hf : 3 + 1 ≤ R.frames) (hlo : 8 + (3 + 11) + 120 ≤ R.locals) (hsz : ls.size = nL) (hcat : (rest.map fun v => v.category).sum ≤ 8) (hdg : decode cc pc = .ok (.invokevirtual 91, 3)) (hq1 : cells ≤ R.cells) (hq2 : slots ≤ R.slots) (kk : ∀ locs1 : List Loc, va_S A s.heap H locs1 → W pr l en R s m args below meth cd H locs1 cells slots Q (F0 m (pc + 3) ls (.int (nI (barN g a2 a1).toNat) :: rest))) : W pr l en R s m args below meth cd H locs cells slots Q (F0 m pc ls (.int (nI a2) :: .int (nI a1) :: .ref (pa (0, 0)) :: rest)) :=
  zc_callV (n := 2) (As := [.int (nI a1), .int (nI a2)]) (rest := rest) S (cX_isShut l hg a1 a2 h1 h2 h6 H hM (Post := (fun v H1 => v = some (.int (nI (barN g a2 a1).toNat)) ∧ H1 = H)) ⟨rfl, rfl⟩) (lw_V q526 q528 qs10 q71 q529) (by decide +kernel) ⟨hf, hlo⟩ ⟨hq1, hq2⟩ (zx_recv hKX.1 hM) KX_mv (zc_K KX_mv hKX hS) hS (fun _ h => h) rfl hsz rfl hcat hdg (fun v H1 locs1 hp _ _ hS1 => by obtain ⟨rfl, rfl⟩ := hp; exact kk locs1 hS1)
set_option maxHeartbeats 1000000 in
set_option maxRecDepth 100000 in
theorem cX_isFree (l : Launch) {D : va_G} {dA : Nat → ClassId} {cn : Nat → Nat} {A : Nat → Prop} {pa : NM → Nat} {g : G} {T : va_W} (hg : Sm g) (a1 : Nat) (h1 : a1 < 24) (H0 : Heap) (hM : XS D dA cn A pa g T H0) {Post : Option Value → Heap → Prop} (hPost : Post (some (.int (nI (mFree g a1).toNat))) H0) : Ct l yX1_isFree (ws_ yX1_isFree cX1_isFree 4 (some .boolean)) (rmF 3 0 0 55) A (KX D dA cn A) [.ref (pa (0, 0)), .int (nI a1)] H0 Post := by
  refine zc_of RX1 rfl (by decide) (Nat.le_of_ble_eq_true rfl) ?_
  intro pr en s m args below meth cd S hr hlk hnm hh hKX ls hl
  have hS : va_S A s.heap H0 [] := zc_start hh
  have hg0 := hg
  have hx := S.1
  have hb := S.2.1
  have hown := S.2.2.2.1
  have hts := S.2.2.2.2
  have hK := hKX.1
  have hN := hKX.2.1.1
  have hl : lv_has ls 4 [(0, .ref (pa (0, 0))), (1, .int (nI a1))] := hl
  refine lv_aload_n hx hb dX1_isFree_0 rfl (lv_at hl 0 rfl) ?_
  refine gX_buildings S hK hM dX1_isFree_1 ?_
  refine lv_iload_n hx hb dX1_isFree_4 rfl (lv_at hl 1 rfl) ?_
  refine lX_bld S hK hM a1 (by omega) dX1_isFree_5 ?_
  have J_14 : ∀ yS0_14 : Int32, yS0_14 = nI (!(decide (g 2 a1 ≠ 0))).toNat → ∀ (locs : List Loc), va_S A s.heap H0 locs → ∀ ls : Array Slot, lv_has ls 4 [(0, .ref (pa (0, 0))), (1, .int (nI a1))] → W pr l en (rmF 3 0 0 55) s m args below meth cd H0 locs (0) (0) (MQ below (zc_Q Post A) args s 0 0 A) (F0 m 14 ls [.int yS0_14]) := by
    intro yS0_14 eyS0_14 locs hS ls hl
    subst eyS0_14
    refine lv_istore_n (lv' := [(2, .int (nI (!(decide (g 2 a1 ≠ 0))).toNat)), (0, .ref (pa (0, 0))), (1, .int (nI a1))]) hx hb dX1_isFree_14 rfl hl (by decide) rfl (fun ls hl => ?_)
    refine lv_iconst (v := nI 0) hx hb dX1_isFree_15 zi_0 ?_
    refine lv_istore_n (lv' := [(3, .int (nI 0)), (2, .int (nI (!(decide (g 2 a1 ≠ 0))).toNat)), (0, .ref (pa (0, 0))), (1, .int (nI a1))]) hx hb dX1_isFree_16 rfl hl (by decide) rfl (fun ls hl => ?_)
    have L_17 : ∀ (n_17 : Nat) (i : Nat), i ≤ 30 → 30 - i < n_17 → ∀ x2_17 : Int32, x2_17 = nI (xFree g a1 i).toNat → ∀ (locs : List Loc), va_S A s.heap H0 locs → ∀ ls : Array Slot, lv_has ls 4 [(0, .ref (pa (0, 0))), (1, .int (nI a1)), (2, .int x2_17), (3, .int (nI i))] → W pr l en (rmF 3 0 0 55) s m args below meth cd H0 locs (0) (0) (MQ below (zc_Q Post A) args s 0 0 A) (F0 m 17 ls []) := by
      intro n_17
      induction n_17 with
      | zero => intro i hi_17 hm_17; exact absurd hm_17 (Nat.not_lt_zero _)
      | succ n_17 ih_17 =>
        intro i hi_17 hm_17 x2_17 ex2_17 locs hS ls hl
        subst ex2_17
        refine lv_iload_n hx hb dX1_isFree_17 rfl (lv_at hl 3 rfl) ?_
        refine lv_bipush (v := nI 30) hx hb dX1_isFree_18 zb_30 ?_
        refine zr_icmp_geN (a := i) (b := 30) (tgt := 58) hx hb (by omega) (by omega) dX1_isFree_20 (by decide) (fun c_2 => ?_) (fun c_2 => ?_)
        · have e_i : 30 = i := by omega
          subst e_i
          refine lv_iload_n hx hb dX1_isFree_58 rfl (lv_at hl 2 rfl) ?_
          exact zc_bret (mFree g a1) (congrArg (fun z : Bool => nI z.toNat) (show (xFree g a1 30 : Bool) = (mFree g a1) from by exact xFree_eq g a1)) hPost hS hx hb hr hlk (Nat.le_of_ble_eq_true rfl) (Nat.le_of_ble_eq_true rfl) dX1_isFree_59
        · refine lv_iload_n hx hb dX1_isFree_23 rfl (lv_at hl 2 rfl) ?_
          refine lv_iload_n hx hb dX1_isFree_24 rfl (lv_at hl 3 rfl) ?_
          refine lv_iload_n hx hb dX1_isFree_25 rfl (lv_at hl 1 rfl) ?_
          refine kX_isAt S hKX hM hg hS i a1 (by first | omega | assumption | grind) (by first | omega | assumption | grind) (Nat.le_of_ble_eq_true rfl) (Nat.le_of_ble_eq_true rfl) hl.1 (Nat.le_of_ble_eq_true rfl) dX1_isFree_26 (Nat.le_of_ble_eq_true rfl) (Nat.le_of_ble_eq_true rfl) (fun locs hS => ?_)
          have J_50 : ∀ yS0_50 : Int32, yS0_50 = nI (!(atE i a1) || (!(decide (g 2 (oE i a1) ≠ 0)))).toNat → ∀ (locs : List Loc), va_S A s.heap H0 locs → ∀ ls : Array Slot, lv_has ls 4 [(0, .ref (pa (0, 0))), (1, .int (nI a1)), (3, .int (nI i))] → W pr l en (rmF 3 0 0 55) s m args below meth cd H0 locs (0) (0) (MQ below (zc_Q Post A) args s 0 0 A) (F0 m 50 ls [.int yS0_50, .int (nI (xFree g a1 i).toNat)]) := by
            intro yS0_50 eyS0_50 locs hS ls hl
            subst eyS0_50
            refine zr_andB (a := xFree g a1 i) (b := !(atE i a1) || (!(decide (g 2 (oE i a1) ≠ 0)))) hx hb dX1_isFree_50 ?_
            refine lv_istore_n (lv' := [(2, .int (nI ((xFree g a1 i) && (!(atE i a1) || (!(decide (g 2 (oE i a1) ≠ 0))))).toNat)), (0, .ref (pa (0, 0))), (1, .int (nI a1)), (3, .int (nI i))]) hx hb dX1_isFree_51 rfl hl (by decide) rfl (fun ls hl => ?_)
            refine lv_iinc (v := nI (i + 1)) (lv' := [(3, .int (nI (i + 1))), (2, .int (nI ((xFree g a1 i) && (!(atE i a1) || (!(decide (g 2 (oE i a1) ≠ 0))))).toNat)), (0, .ref (pa (0, 0))), (1, .int (nI a1))]) hx hb dX1_isFree_52 hl (k := 3) rfl (zk_inc _) (by decide) rfl (fun ls hl => ?_)
            refine lv_goto (tgt := 17) hx hb dX1_isFree_55 (by decide) ?_
            exact ih_17 (i + 1) (by first | omega | assumption | (simp; done) | grind) (by omega) _ (congrArg (fun z : Bool => nI z.toNat) (show ((xFree g a1 i) && (!(atE i a1) || (!(decide (g 2 (oE i a1) ≠ 0)))) : Bool) = (xFree g a1 (i + 1)) from by first | with_reducible rfl | (simp [c_2, xFree, allN]; done) | (simp only [c_2] <;> simp [xFree, allN]; done) | (simp only [xFree, allN, c_2] <;> simp [xFree, allN]; done) | (simp [c_2, xFree, allN, Bool.and_assoc]; done) | (simp [c_2, xFree, allN, Bool.and_assoc, Bool.or_assoc]; done) | rfl | (simp [c_2, xFree, allN]; omega) | (simp_all [xFree, allN]; done))) locs hS ls (lv_sub hl [2, 3, 1, 0] rfl)
          refine zr_if_eqB (b := atE i a1) (tgt := 45) hx hb dX1_isFree_29 (by decide) (fun c_5 => ?_) (fun c_5 => ?_)
          · refine lv_iconst (v := nI 1) hx hb dX1_isFree_45 zi_1 ?_
            refine lv_goto (tgt := 50) hx hb dX1_isFree_46 (by decide) ?_
            exact J_50 _ (congrArg (fun z : Bool => nI z.toNat) (show (true : Bool) = (!(atE i a1) || (!(decide (g 2 (oE i a1) ≠ 0)))) from by first | with_reducible rfl | (simp [c_2, c_5, xFree, allN]; done) | (simp only [c_2, c_5] <;> simp [xFree, allN]; done) | (simp only [xFree, allN, c_2, c_5] <;> simp [xFree, allN]; done) | (simp [c_2, c_5, xFree, allN, Bool.and_assoc]; done) | (simp [c_2, c_5, xFree, allN, Bool.and_assoc, Bool.or_assoc]; done) | rfl | (simp [c_2, c_5, xFree, allN]; omega) | (simp_all [xFree, allN]; done))) locs hS ls (lv_sub hl [0, 1, 3] rfl)
          · refine lv_aload_n hx hb dX1_isFree_32 rfl (lv_at hl 0 rfl) ?_
            refine gX_buildings S hK hM dX1_isFree_33 ?_
            refine lv_iload_n hx hb dX1_isFree_36 rfl (lv_at hl 3 rfl) ?_
            refine lv_iload_n hx hb dX1_isFree_37 rfl (lv_at hl 1 rfl) ?_
            refine kX_otherEnd S hKX hM hg hS i a1 (by first | omega | assumption | grind) (by first | omega | assumption | grind) (Nat.le_of_ble_eq_true rfl) (Nat.le_of_ble_eq_true rfl) hl.1 (Nat.le_of_ble_eq_true rfl) dX1_isFree_38 (Nat.le_of_ble_eq_true rfl) (Nat.le_of_ble_eq_true rfl) (fun locs hS => ?_)
            have f38_0 : oE i a1 < 24 := oE_lt (by omega)
            refine lX_bld S hK hM (oE i a1) (by omega) dX1_isFree_41 ?_
            refine zr_ifnonnullB (b := decide (g 2 (oE i a1) ≠ 0)) (tgt := 49) hx hb dX1_isFree_42 (by decide) (fun c_6 => ?_) (fun c_6 => ?_)
            · refine lv_iconst (v := nI 0) hx hb dX1_isFree_49 zi_0 ?_
              exact J_50 _ (congrArg (fun z : Bool => nI z.toNat) (show (false : Bool) = (!(atE i a1) || (!(decide (g 2 (oE i a1) ≠ 0)))) from by first | with_reducible rfl | (simp [c_2, c_5, c_6, xFree, allN]; done) | (simp only [c_2, c_5, c_6] <;> simp [xFree, allN]; done) | (simp only [xFree, allN, c_2, c_5, c_6] <;> simp [xFree, allN]; done) | (simp [c_2, c_5, c_6, xFree, allN, Bool.and_assoc]; done) | (simp [c_2, c_5, c_6, xFree, allN, Bool.and_assoc, Bool.or_assoc]; done) | rfl | (simp [c_2, c_5, c_6, xFree, allN]; omega) | (simp_all [xFree, allN]; done))) locs hS ls (lv_sub hl [0, 1, 3] rfl)
            · refine lv_iconst (v := nI 1) hx hb dX1_isFree_45 zi_1 ?_
              refine lv_goto (tgt := 50) hx hb dX1_isFree_46 (by decide) ?_
              exact J_50 _ (congrArg (fun z : Bool => nI z.toNat) (show (true : Bool) = (!(atE i a1) || (!(decide (g 2 (oE i a1) ≠ 0)))) from by first | with_reducible rfl | (simp [c_2, c_5, c_6, xFree, allN]; done) | (simp only [c_2, c_5, c_6] <;> simp [xFree, allN]; done) | (simp only [xFree, allN, c_2, c_5, c_6] <;> simp [xFree, allN]; done) | (simp [c_2, c_5, c_6, xFree, allN, Bool.and_assoc]; done) | (simp [c_2, c_5, c_6, xFree, allN, Bool.and_assoc, Bool.or_assoc]; done) | rfl | (simp [c_2, c_5, c_6, xFree, allN]; omega) | (simp_all [xFree, allN]; done))) locs hS ls (lv_sub hl [0, 1, 3] rfl)
    exact L_17 _ 0 (by first | omega | assumption | (simp; done) | grind) (Nat.lt_succ_self _) _ (congrArg (fun z : Bool => nI z.toNat) (show (!(decide (g 2 a1 ≠ 0)) : Bool) = (xFree g a1 0) from by first | with_reducible rfl | (simp [xFree, allN]; done) | (simp [xFree, allN, Bool.and_assoc]; done) | (simp [xFree, allN, Bool.and_assoc, Bool.or_assoc]; done) | rfl | (simp [xFree, allN]; omega) | (simp_all [xFree, allN]; done))) locs hS ls (lv_sub hl [2, 3, 1, 0] rfl)
  refine zr_ifnonnullB (b := decide (g 2 a1 ≠ 0)) (tgt := 13) hx hb dX1_isFree_6 (by decide) (fun c_7 => ?_) (fun c_7 => ?_)
  · refine lv_iconst (v := nI 0) hx hb dX1_isFree_13 zi_0 ?_
    exact J_14 _ (congrArg (fun z : Bool => nI z.toNat) (show (false : Bool) = (!(decide (g 2 a1 ≠ 0))) from by first | with_reducible rfl | (simp [c_7, xFree, allN]; done) | (simp only [c_7] <;> simp [xFree, allN]; done) | (simp only [xFree, allN, c_7] <;> simp [xFree, allN]; done) | (simp [c_7, xFree, allN, Bool.and_assoc]; done) | (simp [c_7, xFree, allN, Bool.and_assoc, Bool.or_assoc]; done) | rfl | (simp [c_7, xFree, allN]; omega) | (simp_all [xFree, allN]; done))) [] hS ls (lv_sub hl [0, 1] rfl)
  · refine lv_iconst (v := nI 1) hx hb dX1_isFree_9 zi_1 ?_
    refine lv_goto (tgt := 14) hx hb dX1_isFree_10 (by decide) ?_
    exact J_14 _ (congrArg (fun z : Bool => nI z.toNat) (show (true : Bool) = (!(decide (g 2 a1 ≠ 0))) from by first | with_reducible rfl | (simp [c_7, xFree, allN]; done) | (simp only [c_7] <;> simp [xFree, allN]; done) | (simp only [xFree, allN, c_7] <;> simp [xFree, allN]; done) | (simp [c_7, xFree, allN, Bool.and_assoc]; done) | (simp [c_7, xFree, allN, Bool.and_assoc, Bool.or_assoc]; done) | rfl | (simp [c_7, xFree, allN]; omega) | (simp_all [xFree, allN]; done))) [] hS ls (lv_sub hl [0, 1] rfl)
theorem kX_isFree {pr : Program} {l : Launch} {en : Env} {R : Room} {s : State} {m : MethodId} {args : Array Value} {below : List Frame} {meth : Method} {cd : Code} {H : Heap} {locs : List Loc} {cells slots : Nat} {cc : ByteArray} {pc nL : Nat} {ls : Array Slot} {rest : List Value} {D : va_G} {dA : Nat → ClassId} {cn : Nat → Nat} {A : Nat → Prop} {pa : NM → Nat} {g : G} {T : va_W} {Q : State → Prop} (S : CallFix pr m cd cc nL s args lw_all RX1) (hKX : KX D dA cn A s) (hM : XS D dA cn A pa g T H) (hg : Sm g) (hS : va_S A s.heap H locs) (a1 : Nat) (h1 : a1 < 24) (hf : 3 + 1 ≤ R.frames) (hlo : 8 + (4 + 11) + 55 ≤ R.locals) (hsz : ls.size = nL) (hcat : (rest.map fun v => v.category).sum ≤ 8) (hdg : decode cc pc = .ok (.invokevirtual 234, 3)) (hq1 : cells ≤ R.cells) (hq2 : slots ≤ R.slots) (kk : ∀ locs1 : List Loc, va_S A s.heap H locs1 → W pr l en R s m args below meth cd H locs1 cells slots Q (F0 m (pc + 3) ls (.int (nI (mFree g a1).toNat) :: rest))) : W pr l en R s m args below meth cd H locs cells slots Q (F0 m pc ls (.int (nI a1) :: .ref (pa (0, 0)) :: rest)) :=
  zc_callV (n := 1) (As := [.int (nI a1)]) (rest := rest) S (cX_isFree l hg a1 h1 H hM (Post := (fun v H1 => v = some (.int (nI (mFree g a1).toNat)) ∧ H1 = H)) ⟨rfl, rfl⟩) (lw_V q389 q391 qs1 q71 q392) (by decide +kernel) ⟨hf, hlo⟩ ⟨hq1, hq2⟩ (zx_recv hKX.1 hM) KX_mv (zc_K KX_mv hKX hS) hS (fun _ h => h) rfl hsz rfl hcat hdg (fun v H1 locs1 hp _ _ hS1 => by obtain ⟨rfl, rfl⟩ := hp; exact kk locs1 hS1)
set_option maxHeartbeats 1000000 in
set_option maxRecDepth 100000 in
theorem cX_hasRoadAt (l : Launch) {D : va_G} {dA : Nat → ClassId} {cn : Nat → Nat} {A : Nat → Prop} {pa : NM → Nat} {g : G} {T : va_W} (hg : Sm g) (a1 : Nat) (a2 : Nat) (h1 : a1 < 24) (h2 : a2 < 3) (H0 : Heap) (hM : XS D dA cn A pa g T H0) {Post : Option Value → Heap → Prop} (hPost : Post (some (.int (nI (xRoadAt g a1 a2 30).toNat))) H0) : Ct l yX1_hasRoadAt (ws_ yX1_hasRoadAt cX1_hasRoadAt 5 (some .boolean)) (rmF 3 0 0 55) A (KX D dA cn A) [.ref (pa (0, 0)), .int (nI a1), .int (nI a2)] H0 Post := by
  refine zc_of RX1 rfl (by decide) (Nat.le_of_ble_eq_true rfl) ?_
  intro pr en s m args below meth cd S hr hlk hnm hh hKX ls hl
  have hS : va_S A s.heap H0 [] := zc_start hh
  have hg0 := hg
  have hx := S.1
  have hb := S.2.1
  have hown := S.2.2.2.1
  have hts := S.2.2.2.2
  have hK := hKX.1
  have hN := hKX.2.1.1
  have hl : lv_has ls 5 [(0, .ref (pa (0, 0))), (1, .int (nI a1)), (2, .int (nI a2))] := hl
  refine lv_iconst (v := nI 0) hx hb dX1_hasRoadAt_0 zi_0 ?_
  refine lv_istore_n (lv' := [(3, .int (nI 0)), (0, .ref (pa (0, 0))), (1, .int (nI a1)), (2, .int (nI a2))]) hx hb dX1_hasRoadAt_1 rfl hl (by decide) rfl (fun ls hl => ?_)
  refine lv_iconst (v := nI 0) hx hb dX1_hasRoadAt_2 zi_0 ?_
  refine lv_istore (lv' := [(4, .int (nI 0)), (3, .int (nI 0)), (0, .ref (pa (0, 0))), (1, .int (nI a1)), (2, .int (nI a2))]) hx hb dX1_hasRoadAt_3 hl (by decide) rfl (fun ls hl => ?_)
  have L_5 : ∀ (n_5 : Nat) (i : Nat), i ≤ 30 → 30 - i < n_5 → ∀ x3_5 : Int32, x3_5 = nI (xRoadAt g a1 a2 i).toNat → ∀ (locs : List Loc), va_S A s.heap H0 locs → ∀ ls : Array Slot, lv_has ls 5 [(0, .ref (pa (0, 0))), (1, .int (nI a1)), (2, .int (nI a2)), (3, .int x3_5), (4, .int (nI i))] → W pr l en (rmF 3 0 0 55) s m args below meth cd H0 locs (0) (0) (MQ below (zc_Q Post A) args s 0 0 A) (F0 m 5 ls []) := by
    intro n_5
    induction n_5 with
    | zero => intro i hi_5 hm_5; exact absurd hm_5 (Nat.not_lt_zero _)
    | succ n_5 ih_5 =>
      intro i hi_5 hm_5 x3_5 ex3_5 locs hS ls hl
      subst ex3_5
      refine lv_iload hx hb dX1_hasRoadAt_5 (lv_at hl 4 rfl) ?_
      refine lv_bipush (v := nI 30) hx hb dX1_hasRoadAt_7 zb_30 ?_
      refine zr_icmp_geN (a := i) (b := 30) (tgt := 46) hx hb (by omega) (by omega) dX1_hasRoadAt_9 (by decide) (fun c_1 => ?_) (fun c_1 => ?_)
      · have e_i : 30 = i := by omega
        subst e_i
        refine lv_iload_n hx hb dX1_hasRoadAt_46 rfl (lv_at hl 3 rfl) ?_
        exact zc_bret (xRoadAt g a1 a2 30) rfl hPost hS hx hb hr hlk (Nat.le_of_ble_eq_true rfl) (Nat.le_of_ble_eq_true rfl) dX1_hasRoadAt_47
      · refine lv_iload_n hx hb dX1_hasRoadAt_12 rfl (lv_at hl 3 rfl) ?_
        refine lv_aload_n hx hb dX1_hasRoadAt_13 rfl (lv_at hl 0 rfl) ?_
        refine gX_roads S hK hM dX1_hasRoadAt_14 ?_
        refine lv_iload hx hb dX1_hasRoadAt_17 (lv_at hl 4 rfl) ?_
        refine lX_roads S hK hM i (by omega) (g 3 i) rfl dX1_hasRoadAt_19 ?_
        have hb_2 : g 3 i < 1048576 := by first | exact hg 3 i | exact hg0 _ _ | (have := hg 3 i; omega) | omega
        refine lv_iload_n hx hb dX1_hasRoadAt_20 rfl (lv_at hl 2 rfl) ?_
        have J_38 : ∀ yS0_38 : Int32, yS0_38 = nI (decide ((g 3 i) = (a2 + 1)) && ((atE i a1))).toNat → ∀ (locs : List Loc), va_S A s.heap H0 locs → ∀ ls : Array Slot, lv_has ls 5 [(0, .ref (pa (0, 0))), (1, .int (nI a1)), (2, .int (nI a2)), (4, .int (nI i))] → W pr l en (rmF 3 0 0 55) s m args below meth cd H0 locs (0) (0) (MQ below (zc_Q Post A) args s 0 0 A) (F0 m 38 ls [.int yS0_38, .int (nI (xRoadAt g a1 a2 i).toNat)]) := by
          intro yS0_38 eyS0_38 locs hS ls hl
          subst eyS0_38
          refine zr_orB (a := xRoadAt g a1 a2 i) (b := decide ((g 3 i) = (a2 + 1)) && ((atE i a1))) hx hb dX1_hasRoadAt_38 ?_
          refine lv_istore_n (lv' := [(3, .int (nI ((xRoadAt g a1 a2 i) || (decide ((g 3 i) = (a2 + 1)) && ((atE i a1)))).toNat)), (0, .ref (pa (0, 0))), (1, .int (nI a1)), (2, .int (nI a2)), (4, .int (nI i))]) hx hb dX1_hasRoadAt_39 rfl hl (by decide) rfl (fun ls hl => ?_)
          refine lv_iinc (v := nI (i + 1)) (lv' := [(4, .int (nI (i + 1))), (3, .int (nI ((xRoadAt g a1 a2 i) || (decide ((g 3 i) = (a2 + 1)) && ((atE i a1)))).toNat)), (0, .ref (pa (0, 0))), (1, .int (nI a1)), (2, .int (nI a2))]) hx hb dX1_hasRoadAt_40 hl (k := 4) rfl (zk_inc _) (by decide) rfl (fun ls hl => ?_)
          refine lv_goto (tgt := 5) hx hb dX1_hasRoadAt_43 (by decide) ?_
          exact ih_5 (i + 1) (by first | omega | assumption | (simp; done) | grind) (by omega) _ (congrArg (fun z : Bool => nI z.toNat) (show ((xRoadAt g a1 a2 i) || (decide ((g 3 i) = (a2 + 1)) && ((atE i a1))) : Bool) = (xRoadAt g a1 a2 (i + 1)) from by first | with_reducible rfl | (simp [c_1, xRoadAt, anyN]; done) | (simp only [c_1] <;> simp [xRoadAt, anyN]; done) | (simp only [xRoadAt, anyN, c_1] <;> simp [xRoadAt, anyN]; done) | (simp [c_1, xRoadAt, anyN, Bool.and_assoc]; done) | (simp [c_1, xRoadAt, anyN, Bool.and_assoc, Bool.or_assoc]; done) | rfl | (simp [c_1, xRoadAt, anyN]; omega) | (simp_all [xRoadAt, anyN]; done))) locs hS ls (lv_sub hl [2, 3, 4, 1, 0] rfl)
        rw [← mI_succ a2]
        refine zr_icmp_neM (a := (g 3 i)) (b := (a2 + 1)) (tgt := 37) hx hb (by omega) (by omega) dX1_hasRoadAt_21 (by decide) (fun c_5 => ?_) (fun c_5 => ?_)
        · refine lv_iconst (v := nI 0) hx hb dX1_hasRoadAt_37 zi_0 ?_
          exact J_38 _ (congrArg (fun z : Bool => nI z.toNat) (show (false : Bool) = (decide ((g 3 i) = (a2 + 1)) && ((atE i a1))) from by first | with_reducible rfl | (simp [c_1, c_5, xRoadAt, anyN]; done) | (simp only [c_1, c_5] <;> simp [xRoadAt, anyN]; done) | (simp only [xRoadAt, anyN, c_1, c_5] <;> simp [xRoadAt, anyN]; done) | (simp [c_1, c_5, xRoadAt, anyN, Bool.and_assoc]; done) | (simp [c_1, c_5, xRoadAt, anyN, Bool.and_assoc, Bool.or_assoc]; done) | rfl | (simp [c_1, c_5, xRoadAt, anyN]; omega) | (simp_all [xRoadAt, anyN]; done))) locs hS ls (lv_sub hl [0, 1, 2, 4] rfl)
        · refine lv_iload hx hb dX1_hasRoadAt_24 (lv_at hl 4 rfl) ?_
          refine lv_iload_n hx hb dX1_hasRoadAt_26 rfl (lv_at hl 1 rfl) ?_
          refine kX_isAt S hKX hM hg hS i a1 (by first | omega | assumption | grind) (by first | omega | assumption | grind) (Nat.le_of_ble_eq_true rfl) (Nat.le_of_ble_eq_true rfl) hl.1 (Nat.le_of_ble_eq_true rfl) dX1_hasRoadAt_27 (Nat.le_of_ble_eq_true rfl) (Nat.le_of_ble_eq_true rfl) (fun locs hS => ?_)
          refine zr_if_eqB (b := atE i a1) (tgt := 37) hx hb dX1_hasRoadAt_30 (by decide) (fun c_6 => ?_) (fun c_6 => ?_)
          · refine lv_iconst (v := nI 0) hx hb dX1_hasRoadAt_37 zi_0 ?_
            exact J_38 _ (congrArg (fun z : Bool => nI z.toNat) (show (false : Bool) = (decide ((g 3 i) = (a2 + 1)) && ((atE i a1))) from by first | with_reducible rfl | (simp [c_1, c_5, c_6, xRoadAt, anyN]; done) | (simp only [c_1, c_5, c_6] <;> simp [xRoadAt, anyN]; done) | (simp only [xRoadAt, anyN, c_1, c_5, c_6] <;> simp [xRoadAt, anyN]; done) | (simp [c_1, c_5, c_6, xRoadAt, anyN, Bool.and_assoc]; done) | (simp [c_1, c_5, c_6, xRoadAt, anyN, Bool.and_assoc, Bool.or_assoc]; done) | rfl | (simp [c_1, c_5, c_6, xRoadAt, anyN]; omega) | (simp_all [xRoadAt, anyN]; done))) locs hS ls (lv_sub hl [0, 1, 2, 4] rfl)
          · refine lv_iconst (v := nI 1) hx hb dX1_hasRoadAt_33 zi_1 ?_
            refine lv_goto (tgt := 38) hx hb dX1_hasRoadAt_34 (by decide) ?_
            exact J_38 _ (congrArg (fun z : Bool => nI z.toNat) (show (true : Bool) = (decide ((g 3 i) = (a2 + 1)) && ((atE i a1))) from by first | with_reducible rfl | (simp [c_1, c_5, c_6, xRoadAt, anyN]; done) | (simp only [c_1, c_5, c_6] <;> simp [xRoadAt, anyN]; done) | (simp only [xRoadAt, anyN, c_1, c_5, c_6] <;> simp [xRoadAt, anyN]; done) | (simp [c_1, c_5, c_6, xRoadAt, anyN, Bool.and_assoc]; done) | (simp [c_1, c_5, c_6, xRoadAt, anyN, Bool.and_assoc, Bool.or_assoc]; done) | rfl | (simp [c_1, c_5, c_6, xRoadAt, anyN]; omega) | (simp_all [xRoadAt, anyN]; done))) locs hS ls (lv_sub hl [0, 1, 2, 4] rfl)
  exact L_5 _ 0 (by first | omega | assumption | (simp; done) | grind) (Nat.lt_succ_self _) _ (congrArg (fun z : Bool => nI z.toNat) (show (false : Bool) = (xRoadAt g a1 a2 0) from by first | with_reducible rfl | (simp [xRoadAt, anyN]; done) | (simp [xRoadAt, anyN, Bool.and_assoc]; done) | (simp [xRoadAt, anyN, Bool.and_assoc, Bool.or_assoc]; done) | rfl | (simp [xRoadAt, anyN]; omega) | (simp_all [xRoadAt, anyN]; done))) [] hS ls (lv_sub hl [2, 3, 4, 1, 0] rfl)
theorem kX_hasRoadAt {pr : Program} {l : Launch} {en : Env} {R : Room} {s : State} {m : MethodId} {args : Array Value} {below : List Frame} {meth : Method} {cd : Code} {H : Heap} {locs : List Loc} {cells slots : Nat} {cc : ByteArray} {pc nL : Nat} {ls : Array Slot} {rest : List Value} {D : va_G} {dA : Nat → ClassId} {cn : Nat → Nat} {A : Nat → Prop} {pa : NM → Nat} {g : G} {T : va_W} {Q : State → Prop} (S : CallFix pr m cd cc nL s args lw_all RX1) (hKX : KX D dA cn A s) (hM : XS D dA cn A pa g T H) (hg : Sm g) (hS : va_S A s.heap H locs) (a1 : Nat) (a2 : Nat) (h1 : a1 < 24) (h2 : a2 < 3) (hf : 3 + 1 ≤ R.frames) (hlo : 8 + (5 + 11) + 55 ≤ R.locals) (hsz : ls.size = nL) (hcat : (rest.map fun v => v.category).sum ≤ 8) (hdg : decode cc pc = .ok (.invokevirtual 88, 3)) (hq1 : cells ≤ R.cells) (hq2 : slots ≤ R.slots) (kk : ∀ locs1 : List Loc, va_S A s.heap H locs1 → W pr l en R s m args below meth cd H locs1 cells slots Q (F0 m (pc + 3) ls (.int (nI (xRoadAt g a1 a2 30).toNat) :: rest))) : W pr l en R s m args below meth cd H locs cells slots Q (F0 m pc ls (.int (nI a2) :: .int (nI a1) :: .ref (pa (0, 0)) :: rest)) :=
  zc_callV (n := 2) (As := [.int (nI a1), .int (nI a2)]) (rest := rest) S (cX_hasRoadAt l hg a1 a2 h1 h2 H hM (Post := (fun v H1 => v = some (.int (nI (xRoadAt g a1 a2 30).toNat)) ∧ H1 = H)) ⟨rfl, rfl⟩) (lw_V q727 q729 qs23 q71 q730) (by decide +kernel) ⟨hf, hlo⟩ ⟨hq1, hq2⟩ (zx_recv hKX.1 hM) KX_mv (zc_K KX_mv hKX hS) hS (fun _ h => h) rfl hsz rfl hcat hdg (fun v H1 locs1 hp _ _ hS1 => by obtain ⟨rfl, rfl⟩ := hp; exact kk locs1 hS1)
set_option maxHeartbeats 1000000 in
set_option maxRecDepth 100000 in
theorem cX_roadsOf (l : Launch) {D : va_G} {dA : Nat → ClassId} {cn : Nat → Nat} {A : Nat → Prop} {pa : NM → Nat} {g : G} {T : va_W} (hg : Sm g) (a1 : Nat) (h1 : a1 < 3) (H0 : Heap) (hM : XS D dA cn A pa g T H0) {Post : Option Value → Heap → Prop} (hPost : Post (some (.int (nI (roadsN g a1 30)))) H0) : Ct l yX1_roadsOf (ws_ yX1_roadsOf cX1_roadsOf 7 (some .int)) (rmF 1 0 0 18) A (KX D dA cn A) [.ref (pa (0, 0)), .int (nI a1)] H0 Post := by
  refine zc_of RX1 rfl (by decide) (Nat.le_of_ble_eq_true rfl) ?_
  intro pr en s m args below meth cd S hr hlk hnm hh hKX ls hl
  have hS : va_S A s.heap H0 [] := zc_start hh
  have hg0 := hg
  have hx := S.1
  have hb := S.2.1
  have hown := S.2.2.2.1
  have hts := S.2.2.2.2
  have hK := hKX.1
  have hN := hKX.2.1.1
  have hl : lv_has ls 7 [(0, .ref (pa (0, 0))), (1, .int (nI a1))] := hl
  refine lv_iconst (v := nI 0) hx hb dX1_roadsOf_0 zi_0 ?_
  refine lv_istore_n (lv' := [(2, .int (nI 0)), (0, .ref (pa (0, 0))), (1, .int (nI a1))]) hx hb dX1_roadsOf_1 rfl hl (by decide) rfl (fun ls hl => ?_)
  refine lv_aload_n hx hb dX1_roadsOf_2 rfl (lv_at hl 1 rfl) ?_
  refine gX_roads S hK hM dX1_roadsOf_3 ?_
  refine lv_astore_n (lv' := [(3, .ref (pa (6, 0))), (2, .int (nI 0)), (0, .ref (pa (0, 0))), (1, .int (nI a1))]) hx hb dX1_roadsOf_6 rfl hl (by decide) rfl (fun ls hl => ?_)
  refine lv_aload_n hx hb dX1_roadsOf_7 rfl (lv_at hl 0 rfl) ?_
  refine nX_roads S hK hM dX1_roadsOf_8 ?_
  refine lv_istore (lv' := [(4, .int (nI 30)), (3, .ref (pa (6, 0))), (2, .int (nI 0)), (0, .ref (pa (0, 0))), (1, .int (nI a1))]) hx hb dX1_roadsOf_9 hl (by decide) rfl (fun ls hl => ?_)
  refine lv_iconst (v := nI 0) hx hb dX1_roadsOf_11 zi_0 ?_
  refine lv_istore (lv' := [(5, .int (nI 0)), (4, .int (nI 30)), (3, .ref (pa (6, 0))), (2, .int (nI 0)), (0, .ref (pa (0, 0))), (1, .int (nI a1))]) hx hb dX1_roadsOf_12 hl (by decide) rfl (fun ls hl => ?_)
  have L_14 : ∀ (n_14 : Nat) (i : Nat), i ≤ 30 → 30 - i < n_14 → ∀ x2_14 : Int32, x2_14 = nI (roadsN g a1 i) → ∀ (locs : List Loc), va_S A s.heap H0 locs → ∀ ls : Array Slot, lv_has ls 7 [(1, .int (nI a1)), (2, .int x2_14), (3, .ref (pa (6, 0))), (4, .int (nI 30)), (5, .int (nI i))] → W pr l en (rmF 1 0 0 18) s m args below meth cd H0 locs (0) (0) (MQ below (zc_Q Post A) args s 0 0 A) (F0 m 14 ls []) := by
    intro n_14
    induction n_14 with
    | zero => intro i hi_14 hm_14; exact absurd hm_14 (Nat.not_lt_zero _)
    | succ n_14 ih_14 =>
      intro i hi_14 hm_14 x2_14 ex2_14 locs hS ls hl
      subst ex2_14
      refine lv_iload hx hb dX1_roadsOf_14 (lv_at hl 4 rfl) ?_
      refine lv_iload hx hb dX1_roadsOf_16 (lv_at hl 3 rfl) ?_
      refine zr_icmp_geN (a := i) (b := 30) (tgt := 47) hx hb (by omega) (by omega) dX1_roadsOf_18 (by decide) (fun c_1 => ?_) (fun c_1 => ?_)
      · have e_i : 30 = i := by omega
        subst e_i
        refine lv_iload_n hx hb dX1_roadsOf_47 rfl (lv_at hl 1 rfl) ?_
        exact zc_nret (nI (roadsN g a1 30)) rfl hPost hS hx hb hr hlk (Nat.le_of_ble_eq_true rfl) (Nat.le_of_ble_eq_true rfl) dX1_roadsOf_48
      · refine lv_aload_n hx hb dX1_roadsOf_21 rfl (lv_at hl 2 rfl) ?_
        refine lv_iload hx hb dX1_roadsOf_22 (lv_at hl 4 rfl) ?_
        refine lX_roads S hK hM i (by omega) (g 3 i) rfl dX1_roadsOf_24 ?_
        have hb_2 : g 3 i < 1048576 := by first | exact hg 3 i | exact hg0 _ _ | (have := hg 3 i; omega) | omega
        refine lv_istore (lv' := [(6, .int (mI (g 3 i))), (1, .int (nI a1)), (2, .int (nI (roadsN g a1 i))), (3, .ref (pa (6, 0))), (4, .int (nI 30)), (5, .int (nI i))]) hx hb dX1_roadsOf_25 hl (by decide) rfl (fun ls hl => ?_)
        refine lv_iload_n hx hb dX1_roadsOf_27 rfl (lv_at hl 2 rfl) ?_
        refine lv_iload hx hb dX1_roadsOf_28 (lv_at hl 0 rfl) ?_
        refine lv_iload_n hx hb dX1_roadsOf_30 rfl (lv_at hl 1 rfl) ?_
        have J_39 : ∀ yS0_39 : Int32, yS0_39 = nI (decide ((g 3 i) = (a1 + 1))).toNat → ∀ (locs : List Loc), va_S A s.heap H0 locs → ∀ ls : Array Slot, lv_has ls 7 [(1, .int (nI a1)), (3, .ref (pa (6, 0))), (4, .int (nI 30)), (5, .int (nI i))] → W pr l en (rmF 1 0 0 18) s m args below meth cd H0 locs (0) (0) (MQ below (zc_Q Post A) args s 0 0 A) (F0 m 39 ls [.int yS0_39, .int (nI (roadsN g a1 i))]) := by
          intro yS0_39 eyS0_39 locs hS ls hl
          subst eyS0_39
          refine zr_addN (a := (roadsN g a1 i)) (b := ((decide ((g 3 i) = (a1 + 1))).toNat)) hx hb dX1_roadsOf_39 ?_
          refine lv_istore_n (lv' := [(2, .int (nI ((roadsN g a1 i) + ((decide ((g 3 i) = (a1 + 1))).toNat)))), (1, .int (nI a1)), (3, .ref (pa (6, 0))), (4, .int (nI 30)), (5, .int (nI i))]) hx hb dX1_roadsOf_40 rfl hl (by decide) rfl (fun ls hl => ?_)
          refine lv_iinc (v := nI (i + 1)) (lv' := [(5, .int (nI (i + 1))), (2, .int (nI ((roadsN g a1 i) + ((decide ((g 3 i) = (a1 + 1))).toNat)))), (1, .int (nI a1)), (3, .ref (pa (6, 0))), (4, .int (nI 30))]) hx hb dX1_roadsOf_41 hl (k := 4) rfl (zk_inc _) (by decide) rfl (fun ls hl => ?_)
          refine lv_goto (tgt := 14) hx hb dX1_roadsOf_44 (by decide) ?_
          exact ih_14 (i + 1) (by first | omega | assumption | (simp; done) | grind) (by omega) _ (congrArg nI (show ((roadsN g a1 i) + ((decide ((g 3 i) = (a1 + 1))).toNat) : Nat) = (roadsN g a1 (i + 1)) from by first | with_reducible rfl | (simp [c_1, roadsN, eu_sm]; done) | (simp only [c_1] <;> simp [roadsN, eu_sm]; done) | (simp only [roadsN, eu_sm, c_1] <;> simp [roadsN, eu_sm]; done) | (simp [c_1, roadsN, eu_sm, Bool.and_assoc]; done) | (simp [c_1, roadsN, eu_sm, Bool.and_assoc, Bool.or_assoc]; done) | rfl | (simp [c_1, roadsN, eu_sm]; omega) | (simp_all [roadsN, eu_sm]; done))) locs hS ls (lv_sub hl [2, 1, 3, 4, 0] rfl)
        rw [← mI_succ a1]
        refine zr_icmp_neM (a := (g 3 i)) (b := (a1 + 1)) (tgt := 38) hx hb (by omega) (by omega) dX1_roadsOf_31 (by decide) (fun c_4 => ?_) (fun c_4 => ?_)
        · refine lv_iconst (v := nI 0) hx hb dX1_roadsOf_38 zi_0 ?_
          exact J_39 _ (congrArg (fun z : Bool => nI z.toNat) (show (false : Bool) = (decide ((g 3 i) = (a1 + 1))) from by first | with_reducible rfl | (simp [c_1, c_4, roadsN, eu_sm]; done) | (simp only [c_1, c_4] <;> simp [roadsN, eu_sm]; done) | (simp only [roadsN, eu_sm, c_1, c_4] <;> simp [roadsN, eu_sm]; done) | (simp [c_1, c_4, roadsN, eu_sm, Bool.and_assoc]; done) | (simp [c_1, c_4, roadsN, eu_sm, Bool.and_assoc, Bool.or_assoc]; done) | rfl | (simp [c_1, c_4, roadsN, eu_sm]; omega) | (simp_all [roadsN, eu_sm]; done))) locs hS ls (lv_sub hl [1, 3, 4, 5] rfl)
        · refine lv_iconst (v := nI 1) hx hb dX1_roadsOf_34 zi_1 ?_
          refine lv_goto (tgt := 39) hx hb dX1_roadsOf_35 (by decide) ?_
          exact J_39 _ (congrArg (fun z : Bool => nI z.toNat) (show (true : Bool) = (decide ((g 3 i) = (a1 + 1))) from by first | with_reducible rfl | (simp [c_1, c_4, roadsN, eu_sm]; done) | (simp only [c_1, c_4] <;> simp [roadsN, eu_sm]; done) | (simp only [roadsN, eu_sm, c_1, c_4] <;> simp [roadsN, eu_sm]; done) | (simp [c_1, c_4, roadsN, eu_sm, Bool.and_assoc]; done) | (simp [c_1, c_4, roadsN, eu_sm, Bool.and_assoc, Bool.or_assoc]; done) | rfl | (simp [c_1, c_4, roadsN, eu_sm]; omega) | (simp_all [roadsN, eu_sm]; done))) locs hS ls (lv_sub hl [1, 3, 4, 5] rfl)
  exact L_14 _ 0 (by first | omega | assumption | (simp; done) | grind) (Nat.lt_succ_self _) _ (congrArg nI (show (0 : Nat) = (roadsN g a1 0) from by first | with_reducible rfl | (simp [roadsN, eu_sm]; done) | (simp [roadsN, eu_sm, Bool.and_assoc]; done) | (simp [roadsN, eu_sm, Bool.and_assoc, Bool.or_assoc]; done) | rfl | (simp [roadsN, eu_sm]; omega) | (simp_all [roadsN, eu_sm]; done))) [] hS ls (lv_sub hl [5, 3, 2, 1, 0] rfl)
theorem kX_roadsOf {pr : Program} {l : Launch} {en : Env} {R : Room} {s : State} {m : MethodId} {args : Array Value} {below : List Frame} {meth : Method} {cd : Code} {H : Heap} {locs : List Loc} {cells slots : Nat} {cc : ByteArray} {pc nL : Nat} {ls : Array Slot} {rest : List Value} {D : va_G} {dA : Nat → ClassId} {cn : Nat → Nat} {A : Nat → Prop} {pa : NM → Nat} {g : G} {T : va_W} {Q : State → Prop} (S : CallFix pr m cd cc nL s args lw_all RX1) (hKX : KX D dA cn A s) (hM : XS D dA cn A pa g T H) (hg : Sm g) (hS : va_S A s.heap H locs) (a1 : Nat) (h1 : a1 < 3) (hf : 1 + 1 ≤ R.frames) (hlo : 8 + (7 + 11) + 18 ≤ R.locals) (hsz : ls.size = nL) (hcat : (rest.map fun v => v.category).sum ≤ 8) (hdg : decode cc pc = .ok (.invokevirtual 94, 3)) (hq1 : cells ≤ R.cells) (hq2 : slots ≤ R.slots) (kk : ∀ locs1 : List Loc, va_S A s.heap H locs1 → W pr l en R s m args below meth cd H locs1 cells slots Q (F0 m (pc + 3) ls (.int (nI (roadsN g a1 30)) :: rest))) : W pr l en R s m args below meth cd H locs cells slots Q (F0 m pc ls (.int (nI a1) :: .ref (pa (0, 0)) :: rest)) :=
  zc_callV (n := 1) (As := [.int (nI a1)]) (rest := rest) S (cX_roadsOf l hg a1 h1 H hM (Post := (fun v H1 => v = some (.int (nI (roadsN g a1 30))) ∧ H1 = H)) ⟨rfl, rfl⟩) (lw_V q731 q733 qs24 q71 q734) (by decide +kernel) ⟨hf, hlo⟩ ⟨hq1, hq2⟩ (zx_recv hKX.1 hM) KX_mv (zc_K KX_mv hKX hS) hS (fun _ h => h) rfl hsz rfl hcat hdg (fun v H1 locs1 hp _ _ hS1 => by obtain ⟨rfl, rfl⟩ := hp; exact kk locs1 hS1)
set_option maxHeartbeats 1000000 in
set_option maxRecDepth 100000 in
theorem cX_buildingsOf (l : Launch) {D : va_G} {dA : Nat → ClassId} {cn : Nat → Nat} {A : Nat → Prop} {pa : NM → Nat} {g : G} {T : va_W} (hg : Sm g) (a1 : Nat) (a2 : Bool) (h1 : a1 < 3) (h6 : ∀ c, c < 24 → g 2 c ≤ 6) (H0 : Heap) (hM : XS D dA cn A pa g T H0) {Post : Option Value → Heap → Prop} (hPost : Post (some (.int (nI (mBuilds g a1 a2 24)))) H0) : Ct l yX1_buildingsOf (ws_ yX1_buildingsOf cX1_buildingsOf 5 (some .int)) (rmF 4 0 0 142) A (KX D dA cn A) [.ref (pa (0, 0)), .int (nI a1), .int (nI (a2).toNat)] H0 Post := by
  refine zc_of RX1 rfl (by decide) (Nat.le_of_ble_eq_true rfl) ?_
  intro pr en s m args below meth cd S hr hlk hnm hh hKX ls hl
  have hS : va_S A s.heap H0 [] := zc_start hh
  have hg0 := hg
  have hx := S.1
  have hb := S.2.1
  have hown := S.2.2.2.1
  have hts := S.2.2.2.2
  have hK := hKX.1
  have hN := hKX.2.1.1
  have hl : lv_has ls 5 [(0, .ref (pa (0, 0))), (1, .int (nI a1)), (2, .int (nI (a2).toNat))] := hl
  refine lv_iconst (v := nI 0) hx hb dX1_buildingsOf_0 zi_0 ?_
  refine lv_istore_n (lv' := [(3, .int (nI 0)), (0, .ref (pa (0, 0))), (1, .int (nI a1)), (2, .int (nI (a2).toNat))]) hx hb dX1_buildingsOf_1 rfl hl (by decide) rfl (fun ls hl => ?_)
  refine lv_iconst (v := nI 0) hx hb dX1_buildingsOf_2 zi_0 ?_
  refine lv_istore (lv' := [(4, .int (nI 0)), (3, .int (nI 0)), (0, .ref (pa (0, 0))), (1, .int (nI a1)), (2, .int (nI (a2).toNat))]) hx hb dX1_buildingsOf_3 hl (by decide) rfl (fun ls hl => ?_)
  have L_5 : ∀ (n_5 : Nat) (i : Nat), i ≤ 24 → 24 - i < n_5 → ∀ x3_5 : Int32, x3_5 = nI (mBuilds g a1 a2 i) → ∀ (locs : List Loc), va_S A s.heap H0 locs → ∀ ls : Array Slot, lv_has ls 5 [(0, .ref (pa (0, 0))), (1, .int (nI a1)), (2, .int (nI (a2).toNat)), (3, .int x3_5), (4, .int (nI i))] → W pr l en (rmF 4 0 0 142) s m args below meth cd H0 locs (0) (0) (MQ below (zc_Q Post A) args s 0 0 A) (F0 m 5 ls []) := by
    intro n_5
    induction n_5 with
    | zero => intro i hi_5 hm_5; exact absurd hm_5 (Nat.not_lt_zero _)
    | succ n_5 ih_5 =>
      intro i hi_5 hm_5 x3_5 ex3_5 locs hS ls hl
      subst ex3_5
      refine lv_iload hx hb dX1_buildingsOf_5 (lv_at hl 4 rfl) ?_
      refine lv_bipush (v := nI 24) hx hb dX1_buildingsOf_7 zb_24 ?_
      refine zr_icmp_geN (a := i) (b := 24) (tgt := 50) hx hb (by omega) (by omega) dX1_buildingsOf_9 (by decide) (fun c_1 => ?_) (fun c_1 => ?_)
      · have e_i : 24 = i := by omega
        subst e_i
        refine lv_iload_n hx hb dX1_buildingsOf_50 rfl (lv_at hl 3 rfl) ?_
        exact zc_nret (nI (mBuilds g a1 a2 24)) rfl hPost hS hx hb hr hlk (Nat.le_of_ble_eq_true rfl) (Nat.le_of_ble_eq_true rfl) dX1_buildingsOf_51
      · refine lv_iload_n hx hb dX1_buildingsOf_12 rfl (lv_at hl 3 rfl) ?_
        refine lv_aload_n hx hb dX1_buildingsOf_13 rfl (lv_at hl 0 rfl) ?_
        refine lv_iload hx hb dX1_buildingsOf_14 (lv_at hl 4 rfl) ?_
        refine lv_iload_n hx hb dX1_buildingsOf_16 rfl (lv_at hl 1 rfl) ?_
        refine kX_isOf S hKX hM hg hS i a1 (by first | omega | assumption | grind) (by first | omega | assumption | grind) (by first | omega | assumption | grind) (Nat.le_of_ble_eq_true rfl) (Nat.le_of_ble_eq_true rfl) hl.1 (Nat.le_of_ble_eq_true rfl) dX1_buildingsOf_17 (Nat.le_of_ble_eq_true rfl) (Nat.le_of_ble_eq_true rfl) (fun locs hS => ?_)
        have J_42 : ∀ yS0_42 : Int32, yS0_42 = nI ((decide (own1 g i = a1 + 1)) && (decide ((mCity g i) = a2))).toNat → ∀ (locs : List Loc), va_S A s.heap H0 locs → ∀ ls : Array Slot, lv_has ls 5 [(0, .ref (pa (0, 0))), (1, .int (nI a1)), (2, .int (nI (a2).toNat)), (4, .int (nI i))] → W pr l en (rmF 4 0 0 142) s m args below meth cd H0 locs (0) (0) (MQ below (zc_Q Post A) args s 0 0 A) (F0 m 42 ls [.int yS0_42, .int (nI (mBuilds g a1 a2 i))]) := by
          intro yS0_42 eyS0_42 locs hS ls hl
          subst eyS0_42
          refine zr_addN (a := (mBuilds g a1 a2 i)) (b := (((decide (own1 g i = a1 + 1)) && (decide ((mCity g i) = a2))).toNat)) hx hb dX1_buildingsOf_42 ?_
          refine lv_istore_n (lv' := [(3, .int (nI ((mBuilds g a1 a2 i) + (((decide (own1 g i = a1 + 1)) && (decide ((mCity g i) = a2))).toNat)))), (0, .ref (pa (0, 0))), (1, .int (nI a1)), (2, .int (nI (a2).toNat)), (4, .int (nI i))]) hx hb dX1_buildingsOf_43 rfl hl (by decide) rfl (fun ls hl => ?_)
          refine lv_iinc (v := nI (i + 1)) (lv' := [(4, .int (nI (i + 1))), (3, .int (nI ((mBuilds g a1 a2 i) + (((decide (own1 g i = a1 + 1)) && (decide ((mCity g i) = a2))).toNat)))), (0, .ref (pa (0, 0))), (1, .int (nI a1)), (2, .int (nI (a2).toNat))]) hx hb dX1_buildingsOf_44 hl (k := 4) rfl (zk_inc _) (by decide) rfl (fun ls hl => ?_)
          refine lv_goto (tgt := 5) hx hb dX1_buildingsOf_47 (by decide) ?_
          exact ih_5 (i + 1) (by first | omega | assumption | (simp; done) | grind) (by omega) _ (congrArg nI (show ((mBuilds g a1 a2 i) + (((decide (own1 g i = a1 + 1)) && (decide ((mCity g i) = a2))).toNat) : Nat) = (mBuilds g a1 a2 (i + 1)) from by first | with_reducible rfl | (simp [c_1, mBuilds, eu_sm]; done) | (simp only [c_1] <;> simp [mBuilds, eu_sm]; done) | (simp only [mBuilds, eu_sm, c_1] <;> simp [mBuilds, eu_sm]; done) | (simp [c_1, mBuilds, eu_sm, Bool.and_assoc]; done) | (simp [c_1, mBuilds, eu_sm, Bool.and_assoc, Bool.or_assoc]; done) | rfl | (simp [c_1, mBuilds, eu_sm]; omega) | (simp_all [mBuilds, eu_sm]; done))) locs hS ls (lv_sub hl [2, 3, 4, 1, 0] rfl)
        refine zr_if_eqB (b := decide (own1 g i = a1 + 1)) (tgt := 41) hx hb dX1_buildingsOf_20 (by decide) (fun c_4 => ?_) (fun c_4 => ?_)
        · refine lv_iconst (v := nI 0) hx hb dX1_buildingsOf_41 zi_0 ?_
          exact J_42 _ (congrArg (fun z : Bool => nI z.toNat) (show (false : Bool) = ((decide (own1 g i = a1 + 1)) && (decide ((mCity g i) = a2))) from by first | with_reducible rfl | (simp [c_1, c_4, mBuilds, eu_sm]; done) | (simp only [c_1, c_4] <;> simp [mBuilds, eu_sm]; done) | (simp only [mBuilds, eu_sm, c_1, c_4] <;> simp [mBuilds, eu_sm]; done) | (simp [c_1, c_4, mBuilds, eu_sm, Bool.and_assoc]; done) | (simp [c_1, c_4, mBuilds, eu_sm, Bool.and_assoc, Bool.or_assoc]; done) | rfl | (simp [c_1, c_4, mBuilds, eu_sm]; omega) | (simp_all [mBuilds, eu_sm]; done))) locs hS ls (lv_sub hl [0, 1, 2, 4] rfl)
        · have kn : decide (g 2 i ≠ 0) = true := by exact own1_ne (of_decide_eq_true c_4)
          refine lv_aload_n hx hb dX1_buildingsOf_23 rfl (lv_at hl 0 rfl) ?_
          refine gX_buildings S hK hM dX1_buildingsOf_24 ?_
          refine lv_iload hx hb dX1_buildingsOf_27 (lv_at hl 4 rfl) ?_
          refine lX_bldY S hK hM i (by omega) kn dX1_buildingsOf_29 ?_
          refine kI_isCity S hKX hM i (by omega) kn dX1_buildingsOf_30 ?_
          refine lv_iload_n hx hb dX1_buildingsOf_33 rfl (lv_at hl 2 rfl) ?_
          refine zr_icmp_neB (a := mCity g i) (b := a2) (tgt := 41) hx hb dX1_buildingsOf_34 (by decide) (fun c_5 => ?_) (fun c_5 => ?_)
          · refine lv_iconst (v := nI 0) hx hb dX1_buildingsOf_41 zi_0 ?_
            exact J_42 _ (congrArg (fun z : Bool => nI z.toNat) (show (false : Bool) = ((decide (own1 g i = a1 + 1)) && (decide ((mCity g i) = a2))) from by first | with_reducible rfl | (simp [c_1, c_4, c_5, mBuilds, eu_sm]; done) | (simp only [c_1, c_4, c_5] <;> simp [mBuilds, eu_sm]; done) | (simp only [mBuilds, eu_sm, c_1, c_4, c_5] <;> simp [mBuilds, eu_sm]; done) | (simp [c_1, c_4, c_5, mBuilds, eu_sm, Bool.and_assoc]; done) | (simp [c_1, c_4, c_5, mBuilds, eu_sm, Bool.and_assoc, Bool.or_assoc]; done) | rfl | (simp [c_1, c_4, c_5, mBuilds, eu_sm]; omega) | (simp_all [mBuilds, eu_sm]; done))) locs hS ls (lv_sub hl [0, 1, 2, 4] rfl)
          · refine lv_iconst (v := nI 1) hx hb dX1_buildingsOf_37 zi_1 ?_
            refine lv_goto (tgt := 42) hx hb dX1_buildingsOf_38 (by decide) ?_
            exact J_42 _ (congrArg (fun z : Bool => nI z.toNat) (show (true : Bool) = ((decide (own1 g i = a1 + 1)) && (decide ((mCity g i) = a2))) from by first | with_reducible rfl | (simp [c_1, c_4, c_5, mBuilds, eu_sm]; done) | (simp only [c_1, c_4, c_5] <;> simp [mBuilds, eu_sm]; done) | (simp only [mBuilds, eu_sm, c_1, c_4, c_5] <;> simp [mBuilds, eu_sm]; done) | (simp [c_1, c_4, c_5, mBuilds, eu_sm, Bool.and_assoc]; done) | (simp [c_1, c_4, c_5, mBuilds, eu_sm, Bool.and_assoc, Bool.or_assoc]; done) | rfl | (simp [c_1, c_4, c_5, mBuilds, eu_sm]; omega) | (simp_all [mBuilds, eu_sm]; done))) locs hS ls (lv_sub hl [0, 1, 2, 4] rfl)
  exact L_5 _ 0 (by first | omega | assumption | (simp; done) | grind) (Nat.lt_succ_self _) _ (congrArg nI (show (0 : Nat) = (mBuilds g a1 a2 0) from by first | with_reducible rfl | (simp [mBuilds, eu_sm]; done) | (simp [mBuilds, eu_sm, Bool.and_assoc]; done) | (simp [mBuilds, eu_sm, Bool.and_assoc, Bool.or_assoc]; done) | rfl | (simp [mBuilds, eu_sm]; omega) | (simp_all [mBuilds, eu_sm]; done))) [] hS ls (lv_sub hl [2, 3, 4, 1, 0] rfl)
theorem kX_buildingsOf {pr : Program} {l : Launch} {en : Env} {R : Room} {s : State} {m : MethodId} {args : Array Value} {below : List Frame} {meth : Method} {cd : Code} {H : Heap} {locs : List Loc} {cells slots : Nat} {cc : ByteArray} {pc nL : Nat} {ls : Array Slot} {rest : List Value} {D : va_G} {dA : Nat → ClassId} {cn : Nat → Nat} {A : Nat → Prop} {pa : NM → Nat} {g : G} {T : va_W} {Q : State → Prop} (S : CallFix pr m cd cc nL s args lw_all RX1) (hKX : KX D dA cn A s) (hM : XS D dA cn A pa g T H) (hg : Sm g) (hS : va_S A s.heap H locs) (a1 : Nat) (a2 : Bool) (h1 : a1 < 3) (h6 : ∀ c, c < 24 → g 2 c ≤ 6) (hf : 4 + 1 ≤ R.frames) (hlo : 8 + (5 + 11) + 142 ≤ R.locals) (hsz : ls.size = nL) (hcat : (rest.map fun v => v.category).sum ≤ 8) (hdg : decode cc pc = .ok (.invokevirtual 288, 3)) (hq1 : cells ≤ R.cells) (hq2 : slots ≤ R.slots) (kk : ∀ locs1 : List Loc, va_S A s.heap H locs1 → W pr l en R s m args below meth cd H locs1 cells slots Q (F0 m (pc + 3) ls (.int (nI (mBuilds g a1 a2 24)) :: rest))) : W pr l en R s m args below meth cd H locs cells slots Q (F0 m pc ls (.int (nI (a2).toNat) :: .int (nI a1) :: .ref (pa (0, 0)) :: rest)) :=
  zc_callV (n := 2) (As := [.int (nI a1), .int (nI (a2).toNat)]) (rest := rest) S (cX_buildingsOf l hg a1 a2 h1 h6 H hM (Post := (fun v H1 => v = some (.int (nI (mBuilds g a1 a2 24))) ∧ H1 = H)) ⟨rfl, rfl⟩) (lw_V q750 q752 qs27 q71 q753) (by decide +kernel) ⟨hf, hlo⟩ ⟨hq1, hq2⟩ (zx_recv hKX.1 hM) KX_mv (zc_K KX_mv hKX hS) hS (fun _ h => h) rfl hsz rfl hcat hdg (fun v H1 locs1 hp _ _ hS1 => by obtain ⟨rfl, rfl⟩ := hp; exact kk locs1 hS1)
set_option maxHeartbeats 1000000 in
set_option maxRecDepth 100000 in
theorem cX_canHaveRoad (l : Launch) {D : va_G} {dA : Nat → ClassId} {cn : Nat → Nat} {A : Nat → Prop} {pa : NM → Nat} {g : G} {T : va_W} (hg : Sm g) (a1 : Nat) (a2 : Nat) (h1 : a1 < 30) (h2 : a2 < 3) (h6 : ∀ c, c < 24 → g 2 c ≤ 6) (H0 : Heap) (hM : XS D dA cn A pa g T H0) {Post : Option Value → Heap → Prop} (hPost : Post (some (.int (nI (mMayRoad g a2 a1).toNat))) H0) : Ct l yX1_canHaveRoad (ws_ yX1_canHaveRoad cX1_canHaveRoad 6 (some .boolean)) (rmF 4 0 0 142) A (KX D dA cn A) [.ref (pa (0, 0)), .int (nI a1), .int (nI a2)] H0 Post := by
  refine zc_of RX1 rfl (by decide) (Nat.le_of_ble_eq_true rfl) ?_
  intro pr en s m args below meth cd S hr hlk hnm hh hKX ls hl
  have hS : va_S A s.heap H0 [] := zc_start hh
  have hg0 := hg
  have hx := S.1
  have hb := S.2.1
  have hown := S.2.2.2.1
  have hts := S.2.2.2.2
  have hK := hKX.1
  have hN := hKX.2.1.1
  have hl : lv_has ls 6 [(0, .ref (pa (0, 0))), (1, .int (nI a1)), (2, .int (nI a2))] := hl
  refine lv_iconst (v := nI 0) hx hb dX1_canHaveRoad_0 zi_0 ?_
  refine lv_istore_n (lv' := [(3, .int (nI 0)), (0, .ref (pa (0, 0))), (1, .int (nI a1)), (2, .int (nI a2))]) hx hb dX1_canHaveRoad_1 rfl hl (by decide) rfl (fun ls hl => ?_)
  refine lv_iconst (v := nI 0) hx hb dX1_canHaveRoad_2 zi_0 ?_
  refine lv_istore (lv' := [(4, .int (nI 0)), (3, .int (nI 0)), (0, .ref (pa (0, 0))), (1, .int (nI a1)), (2, .int (nI a2))]) hx hb dX1_canHaveRoad_3 hl (by decide) rfl (fun ls hl => ?_)
  have L_5 : ∀ (n_5 : Nat) (i : Nat), i ≤ 2 → 2 - i < n_5 → ∀ x3_5 : Int32, x3_5 = nI (xCan g a1 a2 i).toNat → ∀ (locs : List Loc), va_S A s.heap H0 locs → ∀ ls : Array Slot, lv_has ls 6 [(0, .ref (pa (0, 0))), (1, .int (nI a1)), (2, .int (nI a2)), (3, .int x3_5), (4, .int (nI i))] → W pr l en (rmF 4 0 0 142) s m args below meth cd H0 locs (0) (0) (MQ below (zc_Q Post A) args s 0 0 A) (F0 m 5 ls []) := by
    intro n_5
    induction n_5 with
    | zero => intro i hi_5 hm_5; exact absurd hm_5 (Nat.not_lt_zero _)
    | succ n_5 ih_5 =>
      intro i hi_5 hm_5 x3_5 ex3_5 locs hS ls hl
      subst ex3_5
      refine lv_iload hx hb dX1_canHaveRoad_5 (lv_at hl 4 rfl) ?_
      refine lv_iconst (v := nI 2) hx hb dX1_canHaveRoad_7 zi_2 ?_
      refine zr_icmp_geN (a := i) (b := 2) (tgt := 63) hx hb (by omega) (by omega) dX1_canHaveRoad_8 (by decide) (fun c_1 => ?_) (fun c_1 => ?_)
      · have e_i : 2 = i := by omega
        subst e_i
        refine lv_iload_n hx hb dX1_canHaveRoad_63 rfl (lv_at hl 3 rfl) ?_
        refine zr_if_eqB (b := xCan g a1 a2 2) (tgt := 91) hx hb dX1_canHaveRoad_64 (by decide) (fun c_2 => ?_) (fun c_2 => ?_)
        · refine lv_iconst (v := nI 0) hx hb dX1_canHaveRoad_91 zi_0 ?_
          exact zc_bret (mMayRoad g a2 a1) (congrArg (fun z : Bool => nI z.toNat) (show (false : Bool) = (mMayRoad g a2 a1) from by rw [← xMay_eq]; simp [xMay, c_1, c_2])) hPost hS hx hb hr hlk (Nat.le_of_ble_eq_true rfl) (Nat.le_of_ble_eq_true rfl) dX1_canHaveRoad_92
        · refine lv_aload_n hx hb dX1_canHaveRoad_67 rfl (lv_at hl 0 rfl) ?_
          refine gX_roads S hK hM dX1_canHaveRoad_68 ?_
          refine lv_iload_n hx hb dX1_canHaveRoad_71 rfl (lv_at hl 1 rfl) ?_
          refine lX_roads S hK hM a1 (by omega) (g 3 a1) rfl dX1_canHaveRoad_72 ?_
          have hb_3 : g 3 a1 < 1048576 := by first | exact hg 3 a1 | exact hg0 _ _ | (have := hg 3 a1; omega) | omega
          refine lv_iconst (v := mI 0) hx hb dX1_canHaveRoad_73 zi_m1 ?_
          refine zr_icmp_neM (a := (g 3 a1)) (b := 0) (tgt := 91) hx hb (by omega) (by omega) dX1_canHaveRoad_74 (by decide) (fun c_4 => ?_) (fun c_4 => ?_)
          · refine lv_iconst (v := nI 0) hx hb dX1_canHaveRoad_91 zi_0 ?_
            exact zc_bret (mMayRoad g a2 a1) (congrArg (fun z : Bool => nI z.toNat) (show (false : Bool) = (mMayRoad g a2 a1) from by rw [← xMay_eq]; simp [xMay, c_1, c_2, c_4])) hPost hS hx hb hr hlk (Nat.le_of_ble_eq_true rfl) (Nat.le_of_ble_eq_true rfl) dX1_canHaveRoad_92
          · refine lv_aload_n hx hb dX1_canHaveRoad_77 rfl (lv_at hl 0 rfl) ?_
            refine lv_iload_n hx hb dX1_canHaveRoad_78 rfl (lv_at hl 2 rfl) ?_
            refine kX_roadsOf S hKX hM hg hS a2 (by first | omega | assumption | grind) (Nat.le_of_ble_eq_true rfl) (Nat.le_of_ble_eq_true rfl) hl.1 (Nat.le_of_ble_eq_true rfl) dX1_canHaveRoad_79 (Nat.le_of_ble_eq_true rfl) (Nat.le_of_ble_eq_true rfl) (fun locs hS => ?_)
            have f79_0 : roadsN g a2 30 ≤ 30 := sm_b _ _
            refine lv_bipush (v := nI 8) hx hb dX1_canHaveRoad_82 zb_8 ?_
            refine zr_icmp_geN (a := (roadsN g a2 30)) (b := 8) (tgt := 91) hx hb (by omega) (by omega) dX1_canHaveRoad_84 (by decide) (fun c_5 => ?_) (fun c_5 => ?_)
            · refine lv_iconst (v := nI 0) hx hb dX1_canHaveRoad_91 zi_0 ?_
              exact zc_bret (mMayRoad g a2 a1) (congrArg (fun z : Bool => nI z.toNat) (show (false : Bool) = (mMayRoad g a2 a1) from by rw [← xMay_eq]; simp [xMay, c_1, c_2, c_4, c_5])) hPost hS hx hb hr hlk (Nat.le_of_ble_eq_true rfl) (Nat.le_of_ble_eq_true rfl) dX1_canHaveRoad_92
            · refine lv_iconst (v := nI 1) hx hb dX1_canHaveRoad_87 zi_1 ?_
              refine lv_goto (tgt := 92) hx hb dX1_canHaveRoad_88 (by decide) ?_
              exact zc_bret (mMayRoad g a2 a1) (congrArg (fun z : Bool => nI z.toNat) (show (true : Bool) = (mMayRoad g a2 a1) from by rw [← xMay_eq]; simp [xMay, c_1, c_2, c_4, c_5])) hPost hS hx hb hr hlk (Nat.le_of_ble_eq_true rfl) (Nat.le_of_ble_eq_true rfl) dX1_canHaveRoad_92
      · refine lv_iload_n hx hb dX1_canHaveRoad_11 rfl (lv_at hl 1 rfl) ?_
        refine lv_iload hx hb dX1_canHaveRoad_12 (lv_at hl 4 rfl) ?_
        refine kX_end S hKX hM hg hS a1 i (by first | omega | assumption | grind) (by first | omega | assumption | grind) (Nat.le_of_ble_eq_true rfl) (Nat.le_of_ble_eq_true rfl) hl.1 (Nat.le_of_ble_eq_true rfl) dX1_canHaveRoad_14 (Nat.le_of_ble_eq_true rfl) (Nat.le_of_ble_eq_true rfl) (fun locs hS => ?_)
        have f14_0 : (if i = 0 then bA a1 else bB a1) < 24 := by have := bA_lt (show a1 < 30 by omega); have := bB_lt (show a1 < 30 by omega); split <;> omega
        refine lv_istore (lv' := [(5, .int (nI (if i = 0 then bA a1 else bB a1))), (0, .ref (pa (0, 0))), (1, .int (nI a1)), (2, .int (nI a2)), (3, .int (nI (xCan g a1 a2 i).toNat)), (4, .int (nI i))]) hx hb dX1_canHaveRoad_17 hl (by decide) rfl (fun ls hl => ?_)
        refine lv_iload_n hx hb dX1_canHaveRoad_19 rfl (lv_at hl 4 rfl) ?_
        refine lv_aload_n hx hb dX1_canHaveRoad_20 rfl (lv_at hl 1 rfl) ?_
        refine lv_iload hx hb dX1_canHaveRoad_21 (lv_at hl 0 rfl) ?_
        refine lv_iload_n hx hb dX1_canHaveRoad_23 rfl (lv_at hl 3 rfl) ?_
        refine kX_isOf S hKX hM hg hS (if i = 0 then bA a1 else bB a1) a2 (by first | omega | assumption | grind) (by first | omega | assumption | grind) (by first | omega | assumption | grind) (Nat.le_of_ble_eq_true rfl) (Nat.le_of_ble_eq_true rfl) hl.1 (Nat.le_of_ble_eq_true rfl) dX1_canHaveRoad_24 (Nat.le_of_ble_eq_true rfl) (Nat.le_of_ble_eq_true rfl) (fun locs hS => ?_)
        have J_55 : ∀ yS0_55 : Int32, yS0_55 = nI ((decide (own1 g (if i = 0 then bA a1 else bB a1) = a2 + 1)) || ((xRoadAt g (if i = 0 then bA a1 else bB a1) a2 30) && (!(barN g a2 (if i = 0 then bA a1 else bB a1))))).toNat → ∀ (locs : List Loc), va_S A s.heap H0 locs → ∀ ls : Array Slot, lv_has ls 6 [(0, .ref (pa (0, 0))), (1, .int (nI a1)), (2, .int (nI a2)), (4, .int (nI i))] → W pr l en (rmF 4 0 0 142) s m args below meth cd H0 locs (0) (0) (MQ below (zc_Q Post A) args s 0 0 A) (F0 m 55 ls [.int yS0_55, .int (nI (xCan g a1 a2 i).toNat)]) := by
          intro yS0_55 eyS0_55 locs hS ls hl
          subst eyS0_55
          refine zr_orB (a := xCan g a1 a2 i) (b := (decide (own1 g (if i = 0 then bA a1 else bB a1) = a2 + 1)) || ((xRoadAt g (if i = 0 then bA a1 else bB a1) a2 30) && (!(barN g a2 (if i = 0 then bA a1 else bB a1))))) hx hb dX1_canHaveRoad_55 ?_
          refine lv_istore_n (lv' := [(3, .int (nI ((xCan g a1 a2 i) || ((decide (own1 g (if i = 0 then bA a1 else bB a1) = a2 + 1)) || ((xRoadAt g (if i = 0 then bA a1 else bB a1) a2 30) && (!(barN g a2 (if i = 0 then bA a1 else bB a1)))))).toNat)), (0, .ref (pa (0, 0))), (1, .int (nI a1)), (2, .int (nI a2)), (4, .int (nI i))]) hx hb dX1_canHaveRoad_56 rfl hl (by decide) rfl (fun ls hl => ?_)
          refine lv_iinc (v := nI (i + 1)) (lv' := [(4, .int (nI (i + 1))), (3, .int (nI ((xCan g a1 a2 i) || ((decide (own1 g (if i = 0 then bA a1 else bB a1) = a2 + 1)) || ((xRoadAt g (if i = 0 then bA a1 else bB a1) a2 30) && (!(barN g a2 (if i = 0 then bA a1 else bB a1)))))).toNat)), (0, .ref (pa (0, 0))), (1, .int (nI a1)), (2, .int (nI a2))]) hx hb dX1_canHaveRoad_57 hl (k := 4) rfl (zk_inc _) (by decide) rfl (fun ls hl => ?_)
          refine lv_goto (tgt := 5) hx hb dX1_canHaveRoad_60 (by decide) ?_
          exact ih_5 (i + 1) (by first | omega | assumption | (simp; done) | grind) (by omega) _ (congrArg (fun z : Bool => nI z.toNat) (show ((xCan g a1 a2 i) || ((decide (own1 g (if i = 0 then bA a1 else bB a1) = a2 + 1)) || ((xRoadAt g (if i = 0 then bA a1 else bB a1) a2 30) && (!(barN g a2 (if i = 0 then bA a1 else bB a1))))) : Bool) = (xCan g a1 a2 (i + 1)) from by first | with_reducible rfl | (simp [c_1, xCan, anyN]; done) | (simp only [c_1] <;> simp [xCan, anyN]; done) | (simp only [xCan, anyN, c_1] <;> simp [xCan, anyN]; done) | (simp [c_1, xCan, anyN, Bool.and_assoc]; done) | (simp [c_1, xCan, anyN, Bool.and_assoc, Bool.or_assoc]; done) | rfl | (simp [c_1, xCan, anyN]; omega) | (simp_all [xCan, anyN]; done))) locs hS ls (lv_sub hl [2, 3, 4, 1, 0] rfl)
        refine zr_if_neB (b := decide (own1 g (if i = 0 then bA a1 else bB a1) = a2 + 1)) (tgt := 50) hx hb dX1_canHaveRoad_27 (by decide) (fun c_9 => ?_) (fun c_9 => ?_)
        · refine lv_iconst (v := nI 1) hx hb dX1_canHaveRoad_50 zi_1 ?_
          refine lv_goto (tgt := 55) hx hb dX1_canHaveRoad_51 (by decide) ?_
          exact J_55 _ (congrArg (fun z : Bool => nI z.toNat) (show (true : Bool) = ((decide (own1 g (if i = 0 then bA a1 else bB a1) = a2 + 1)) || ((xRoadAt g (if i = 0 then bA a1 else bB a1) a2 30) && (!(barN g a2 (if i = 0 then bA a1 else bB a1))))) from by first | with_reducible rfl | (simp [c_1, c_9, xCan, anyN]; done) | (simp only [c_1, c_9] <;> simp [xCan, anyN]; done) | (simp only [xCan, anyN, c_1, c_9] <;> simp [xCan, anyN]; done) | (simp [c_1, c_9, xCan, anyN, Bool.and_assoc]; done) | (simp [c_1, c_9, xCan, anyN, Bool.and_assoc, Bool.or_assoc]; done) | rfl | (simp [c_1, c_9, xCan, anyN]; omega) | (simp_all [xCan, anyN]; done))) locs hS ls (lv_sub hl [1, 2, 3, 5] rfl)
        · refine lv_aload_n hx hb dX1_canHaveRoad_30 rfl (lv_at hl 1 rfl) ?_
          refine lv_iload hx hb dX1_canHaveRoad_31 (lv_at hl 0 rfl) ?_
          refine lv_iload_n hx hb dX1_canHaveRoad_33 rfl (lv_at hl 3 rfl) ?_
          refine kX_hasRoadAt S hKX hM hg hS (if i = 0 then bA a1 else bB a1) a2 (by first | omega | assumption | grind) (by first | omega | assumption | grind) (Nat.le_of_ble_eq_true rfl) (Nat.le_of_ble_eq_true rfl) hl.1 (Nat.le_of_ble_eq_true rfl) dX1_canHaveRoad_34 (Nat.le_of_ble_eq_true rfl) (Nat.le_of_ble_eq_true rfl) (fun locs hS => ?_)
          refine zr_if_eqB (b := xRoadAt g (if i = 0 then bA a1 else bB a1) a2 30) (tgt := 54) hx hb dX1_canHaveRoad_37 (by decide) (fun c_10 => ?_) (fun c_10 => ?_)
          · refine lv_iconst (v := nI 0) hx hb dX1_canHaveRoad_54 zi_0 ?_
            exact J_55 _ (congrArg (fun z : Bool => nI z.toNat) (show (false : Bool) = ((decide (own1 g (if i = 0 then bA a1 else bB a1) = a2 + 1)) || ((xRoadAt g (if i = 0 then bA a1 else bB a1) a2 30) && (!(barN g a2 (if i = 0 then bA a1 else bB a1))))) from by first | with_reducible rfl | (simp [c_1, c_9, c_10, xCan, anyN]; done) | (simp only [c_1, c_9, c_10] <;> simp [xCan, anyN]; done) | (simp only [xCan, anyN, c_1, c_9, c_10] <;> simp [xCan, anyN]; done) | (simp [c_1, c_9, c_10, xCan, anyN, Bool.and_assoc]; done) | (simp [c_1, c_9, c_10, xCan, anyN, Bool.and_assoc, Bool.or_assoc]; done) | rfl | (simp [c_1, c_9, c_10, xCan, anyN]; omega) | (simp_all [xCan, anyN]; done))) locs hS ls (lv_sub hl [1, 2, 3, 5] rfl)
          · refine lv_aload_n hx hb dX1_canHaveRoad_40 rfl (lv_at hl 1 rfl) ?_
            refine lv_iload hx hb dX1_canHaveRoad_41 (lv_at hl 0 rfl) ?_
            refine lv_iload_n hx hb dX1_canHaveRoad_43 rfl (lv_at hl 3 rfl) ?_
            refine kX_isShut S hKX hM hg hS (if i = 0 then bA a1 else bB a1) a2 (by first | omega | assumption | grind) (by first | omega | assumption | grind) (by first | omega | assumption | grind) (Nat.le_of_ble_eq_true rfl) (Nat.le_of_ble_eq_true rfl) hl.1 (Nat.le_of_ble_eq_true rfl) dX1_canHaveRoad_44 (Nat.le_of_ble_eq_true rfl) (Nat.le_of_ble_eq_true rfl) (fun locs hS => ?_)
            refine zr_if_neB (b := barN g a2 (if i = 0 then bA a1 else bB a1)) (tgt := 54) hx hb dX1_canHaveRoad_47 (by decide) (fun c_11 => ?_) (fun c_11 => ?_)
            · refine lv_iconst (v := nI 0) hx hb dX1_canHaveRoad_54 zi_0 ?_
              exact J_55 _ (congrArg (fun z : Bool => nI z.toNat) (show (false : Bool) = ((decide (own1 g (if i = 0 then bA a1 else bB a1) = a2 + 1)) || ((xRoadAt g (if i = 0 then bA a1 else bB a1) a2 30) && (!(barN g a2 (if i = 0 then bA a1 else bB a1))))) from by first | with_reducible rfl | (simp [c_1, c_9, c_10, c_11, xCan, anyN]; done) | (simp only [c_1, c_9, c_10, c_11] <;> simp [xCan, anyN]; done) | (simp only [xCan, anyN, c_1, c_9, c_10, c_11] <;> simp [xCan, anyN]; done) | (simp [c_1, c_9, c_10, c_11, xCan, anyN, Bool.and_assoc]; done) | (simp [c_1, c_9, c_10, c_11, xCan, anyN, Bool.and_assoc, Bool.or_assoc]; done) | rfl | (simp [c_1, c_9, c_10, c_11, xCan, anyN]; omega) | (simp_all [xCan, anyN]; done))) locs hS ls (lv_sub hl [1, 2, 3, 5] rfl)
            · refine lv_iconst (v := nI 1) hx hb dX1_canHaveRoad_50 zi_1 ?_
              refine lv_goto (tgt := 55) hx hb dX1_canHaveRoad_51 (by decide) ?_
              exact J_55 _ (congrArg (fun z : Bool => nI z.toNat) (show (true : Bool) = ((decide (own1 g (if i = 0 then bA a1 else bB a1) = a2 + 1)) || ((xRoadAt g (if i = 0 then bA a1 else bB a1) a2 30) && (!(barN g a2 (if i = 0 then bA a1 else bB a1))))) from by first | with_reducible rfl | (simp [c_1, c_9, c_10, c_11, xCan, anyN]; done) | (simp only [c_1, c_9, c_10, c_11] <;> simp [xCan, anyN]; done) | (simp only [xCan, anyN, c_1, c_9, c_10, c_11] <;> simp [xCan, anyN]; done) | (simp [c_1, c_9, c_10, c_11, xCan, anyN, Bool.and_assoc]; done) | (simp [c_1, c_9, c_10, c_11, xCan, anyN, Bool.and_assoc, Bool.or_assoc]; done) | rfl | (simp [c_1, c_9, c_10, c_11, xCan, anyN]; omega) | (simp_all [xCan, anyN]; done))) locs hS ls (lv_sub hl [1, 2, 3, 5] rfl)
  exact L_5 _ 0 (by first | omega | assumption | (simp; done) | grind) (Nat.lt_succ_self _) _ (congrArg (fun z : Bool => nI z.toNat) (show (false : Bool) = (xCan g a1 a2 0) from by first | with_reducible rfl | (simp [xCan, anyN]; done) | (simp [xCan, anyN, Bool.and_assoc]; done) | (simp [xCan, anyN, Bool.and_assoc, Bool.or_assoc]; done) | rfl | (simp [xCan, anyN]; omega) | (simp_all [xCan, anyN]; done))) [] hS ls (lv_sub hl [2, 3, 4, 1, 0] rfl)
theorem kX_canHaveRoad {pr : Program} {l : Launch} {en : Env} {R : Room} {s : State} {m : MethodId} {args : Array Value} {below : List Frame} {meth : Method} {cd : Code} {H : Heap} {locs : List Loc} {cells slots : Nat} {cc : ByteArray} {pc nL : Nat} {ls : Array Slot} {rest : List Value} {D : va_G} {dA : Nat → ClassId} {cn : Nat → Nat} {A : Nat → Prop} {pa : NM → Nat} {g : G} {T : va_W} {Q : State → Prop} (S : CallFix pr m cd cc nL s args lw_all RX1) (hKX : KX D dA cn A s) (hM : XS D dA cn A pa g T H) (hg : Sm g) (hS : va_S A s.heap H locs) (a1 : Nat) (a2 : Nat) (h1 : a1 < 30) (h2 : a2 < 3) (h6 : ∀ c, c < 24 → g 2 c ≤ 6) (hf : 4 + 1 ≤ R.frames) (hlo : 8 + (6 + 11) + 142 ≤ R.locals) (hsz : ls.size = nL) (hcat : (rest.map fun v => v.category).sum ≤ 8) (hdg : decode cc pc = .ok (.invokevirtual 278, 3)) (hq1 : cells ≤ R.cells) (hq2 : slots ≤ R.slots) (kk : ∀ locs1 : List Loc, va_S A s.heap H locs1 → W pr l en R s m args below meth cd H locs1 cells slots Q (F0 m (pc + 3) ls (.int (nI (mMayRoad g a2 a1).toNat) :: rest))) : W pr l en R s m args below meth cd H locs cells slots Q (F0 m pc ls (.int (nI a2) :: .int (nI a1) :: .ref (pa (0, 0)) :: rest)) :=
  zc_callV (n := 2) (As := [.int (nI a1), .int (nI a2)]) (rest := rest) S (cX_canHaveRoad l hg a1 a2 h1 h2 h6 H hM (Post := (fun v H1 => v = some (.int (nI (mMayRoad g a2 a1).toNat)) ∧ H1 = H)) ⟨rfl, rfl⟩) (lw_V q723 q725 qs22 q71 q726) (by decide +kernel) ⟨hf, hlo⟩ ⟨hq1, hq2⟩ (zx_recv hKX.1 hM) KX_mv (zc_K KX_mv hKX hS) hS (fun _ h => h) rfl hsz rfl hcat hdg (fun v H1 locs1 hp _ _ hS1 => by obtain ⟨rfl, rfl⟩ := hp; exact kk locs1 hS1)
set_option maxHeartbeats 1000000 in
set_option maxRecDepth 100000 in
theorem cX_digit (l : Launch) {D : va_G} {dA : Nat → ClassId} {cn : Nat → Nat} {A : Nat → Prop} {pa : NM → Nat} {g : G} {T : va_W} (hg : Sm g) (a1 : Nat) (a2 : Nat) (h1 : a1 < 2 ^ 31) (h2 : a2 < 5) (H0 : Heap) (hM : XS D dA cn A pa g T H0) {Post : Option Value → Heap → Prop} (hPost : Post (some (.int (nI (digN a1 a2)))) H0) : Ct l yX1_digit (ws_ yX1_digit cX1_digit 4 (some .int)) (rmF 1 0 0 15) A (KX D dA cn A) [.int (nI a1), .int (nI a2)] H0 Post := by
  refine zc_of RX1 rfl (by decide) (Nat.le_of_ble_eq_true rfl) ?_
  intro pr en s m args below meth cd S hr hlk hnm hh hKX ls hl
  have hS : va_S A s.heap H0 [] := zc_start hh
  have hg0 := hg
  have hx := S.1
  have hb := S.2.1
  have hown := S.2.2.2.1
  have hts := S.2.2.2.2
  have hK := hKX.1
  have hN := hKX.2.1.1
  have hl : lv_has ls 4 [(0, .int (nI a1)), (1, .int (nI a2))] := hl
  refine lv_iload_n hx hb dX1_digit_0 rfl (lv_at hl 0 rfl) ?_
  refine lv_istore_n (lv' := [(2, .int (nI a1)), (0, .int (nI a1)), (1, .int (nI a2))]) hx hb dX1_digit_1 rfl hl (by decide) rfl (fun ls hl => ?_)
  refine lv_iconst (v := nI 0) hx hb dX1_digit_2 zi_0 ?_
  refine lv_istore_n (lv' := [(3, .int (nI 0)), (2, .int (nI a1)), (0, .int (nI a1)), (1, .int (nI a2))]) hx hb dX1_digit_3 rfl hl (by decide) rfl (fun ls hl => ?_)
  have L_4 : ∀ (n_4 : Nat) (i : Nat), i ≤ a2 → a2 - i < n_4 → ∀ x2_4 : Int32, x2_4 = nI (a1 / 10 ^ i) → ∀ (locs : List Loc), va_S A s.heap H0 locs → ∀ ls : Array Slot, lv_has ls 4 [(1, .int (nI a2)), (2, .int x2_4), (3, .int (nI i))] → W pr l en (rmF 1 0 0 15) s m args below meth cd H0 locs (0) (0) (MQ below (zc_Q Post A) args s 0 0 A) (F0 m 4 ls []) := by
    intro n_4
    induction n_4 with
    | zero => intro i hi_4 hm_4; exact absurd hm_4 (Nat.not_lt_zero _)
    | succ n_4 ih_4 =>
      intro i hi_4 hm_4 x2_4 ex2_4 locs hS ls hl
      subst ex2_4
      refine lv_iload_n hx hb dX1_digit_4 rfl (lv_at hl 2 rfl) ?_
      refine lv_iload_n hx hb dX1_digit_5 rfl (lv_at hl 0 rfl) ?_
      refine zr_icmp_geN (a := i) (b := a2) (tgt := 20) hx hb (by omega) (by omega) dX1_digit_6 (by decide) (fun c_1 => ?_) (fun c_1 => ?_)
      · have e_i : a2 = i := by omega
        subst e_i
        have h9 : a1 / 10 ^ a2 ≤ a1 := Nat.div_le_self _ _
        refine lv_iload_n hx hb dX1_digit_20 rfl (lv_at hl 1 rfl) ?_
        refine lv_bipush (v := nI 10) hx hb dX1_digit_21 zb_10 ?_
        refine zr_remN (a := (a1 / 10 ^ a2)) (b := 10) hx hb (by omega) (by omega) (by omega) dX1_digit_23 ?_
        exact zc_nret (nI (digN a1 a2)) (congrArg nI (show ((a1 / 10 ^ a2) % 10 : Nat) = (digN a1 a2) from by first | with_reducible rfl | (simp [c_1, digN, Nat.pow_succ, Nat.div_div_eq_div_mul]; done) | (simp only [c_1] <;> simp [digN, Nat.pow_succ, Nat.div_div_eq_div_mul]; done) | (simp only [digN, Nat.pow_succ, Nat.div_div_eq_div_mul, c_1] <;> simp [digN, Nat.pow_succ, Nat.div_div_eq_div_mul]; done) | (simp [c_1, digN, Nat.pow_succ, Nat.div_div_eq_div_mul, Bool.and_assoc]; done) | (simp [c_1, digN, Nat.pow_succ, Nat.div_div_eq_div_mul, Bool.and_assoc, Bool.or_assoc]; done) | rfl | (simp [c_1, digN, Nat.pow_succ, Nat.div_div_eq_div_mul]; omega) | (simp_all [digN, Nat.pow_succ, Nat.div_div_eq_div_mul]; done))) hPost hS hx hb hr hlk (Nat.le_of_ble_eq_true rfl) (Nat.le_of_ble_eq_true rfl) dX1_digit_24
      · have h9 : a1 / 10 ^ i ≤ a1 := Nat.div_le_self _ _
        refine lv_iload_n hx hb dX1_digit_9 rfl (lv_at hl 1 rfl) ?_
        refine lv_bipush (v := nI 10) hx hb dX1_digit_10 zb_10 ?_
        refine zr_divN (a := (a1 / 10 ^ i)) (b := 10) hx hb (by omega) (by omega) (by omega) dX1_digit_12 ?_
        refine lv_istore_n (lv' := [(2, .int (nI ((a1 / 10 ^ i) / 10))), (1, .int (nI a2)), (3, .int (nI i))]) hx hb dX1_digit_13 rfl hl (by decide) rfl (fun ls hl => ?_)
        refine lv_iinc (v := nI (i + 1)) (lv' := [(3, .int (nI (i + 1))), (2, .int (nI ((a1 / 10 ^ i) / 10))), (1, .int (nI a2))]) hx hb dX1_digit_14 hl (k := 2) rfl (zk_inc _) (by decide) rfl (fun ls hl => ?_)
        refine lv_goto (tgt := 4) hx hb dX1_digit_17 (by decide) ?_
        exact ih_4 (i + 1) (by first | omega | assumption | (simp; done) | grind) (by omega) _ (congrArg nI (show ((a1 / 10 ^ i) / 10 : Nat) = (a1 / 10 ^ (i + 1)) from by first | with_reducible rfl | (simp [c_1, digN, Nat.pow_succ, Nat.div_div_eq_div_mul]; done) | (simp only [c_1] <;> simp [digN, Nat.pow_succ, Nat.div_div_eq_div_mul]; done) | (simp only [digN, Nat.pow_succ, Nat.div_div_eq_div_mul, c_1] <;> simp [digN, Nat.pow_succ, Nat.div_div_eq_div_mul]; done) | (simp [c_1, digN, Nat.pow_succ, Nat.div_div_eq_div_mul, Bool.and_assoc]; done) | (simp [c_1, digN, Nat.pow_succ, Nat.div_div_eq_div_mul, Bool.and_assoc, Bool.or_assoc]; done) | rfl | (simp [c_1, digN, Nat.pow_succ, Nat.div_div_eq_div_mul]; omega) | (simp_all [digN, Nat.pow_succ, Nat.div_div_eq_div_mul]; done))) locs hS ls (lv_sub hl [2, 1, 0] rfl)
  exact L_4 _ 0 (by first | omega | assumption | (simp; done) | grind) (Nat.lt_succ_self _) _ (congrArg nI (show (a1 : Nat) = (a1 / 10 ^ 0) from by first | with_reducible rfl | (simp [digN, Nat.pow_succ, Nat.div_div_eq_div_mul]; done) | (simp [digN, Nat.pow_succ, Nat.div_div_eq_div_mul, Bool.and_assoc]; done) | (simp [digN, Nat.pow_succ, Nat.div_div_eq_div_mul, Bool.and_assoc, Bool.or_assoc]; done) | rfl | (simp [digN, Nat.pow_succ, Nat.div_div_eq_div_mul]; omega) | (simp_all [digN, Nat.pow_succ, Nat.div_div_eq_div_mul]; done))) [] hS ls (lv_sub hl [3, 1, 0] rfl)
theorem kX_digit {pr : Program} {l : Launch} {en : Env} {R : Room} {s : State} {m : MethodId} {args : Array Value} {below : List Frame} {meth : Method} {cd : Code} {H : Heap} {locs : List Loc} {cells slots : Nat} {cc : ByteArray} {pc nL : Nat} {ls : Array Slot} {rest : List Value} {D : va_G} {dA : Nat → ClassId} {cn : Nat → Nat} {A : Nat → Prop} {pa : NM → Nat} {g : G} {T : va_W} {Q : State → Prop} (S : CallFix pr m cd cc nL s args lw_all RX1) (hKX : KX D dA cn A s) (hM : XS D dA cn A pa g T H) (hg : Sm g) (hS : va_S A s.heap H locs) (a1 : Nat) (a2 : Nat) (h1 : a1 < 2 ^ 31) (h2 : a2 < 5) (hf : 1 + 1 ≤ R.frames) (hlo : 8 + (4 + 11) + 15 ≤ R.locals) (hsz : ls.size = nL) (hcat : (rest.map fun v => v.category).sum ≤ 8) (hdg : decode cc pc = .ok (.invokestatic 98, 3)) (hq1 : cells ≤ R.cells) (hq2 : slots ≤ R.slots) (kk : ∀ locs1 : List Loc, va_S A s.heap H locs1 → W pr l en R s m args below meth cd H locs1 cells slots Q (F0 m (pc + 3) ls (.int (nI (digN a1 a2)) :: rest))) : W pr l en R s m args below meth cd H locs cells slots Q (F0 m pc ls (.int (nI a2) :: .int (nI a1) :: rest)) :=
  zc_callS (n := 2) (As := [.int (nI a1), .int (nI a2)]) (rest := rest) S (cX_digit l hg a1 a2 h1 h2 H hM (Post := (fun v H1 => v = some (.int (nI (digN a1 a2))) ∧ H1 = H)) ⟨rfl, rfl⟩) (lw_S q652 q653 q71 q654) (by decide +kernel) ⟨hf, hlo⟩ ⟨hq1, hq2⟩ KX_mv (zc_K KX_mv hKX hS) hS (fun _ h => h) rfl hsz rfl hcat hdg (fun v H1 locs1 hp _ _ hS1 => by obtain ⟨rfl, rfl⟩ := hp; exact kk locs1 hS1)
set_option maxHeartbeats 1000000 in
set_option maxRecDepth 100000 in
theorem cX_count (l : Launch) {D : va_G} {dA : Nat → ClassId} {cn : Nat → Nat} {A : Nat → Prop} {pa : NM → Nat} {g : G} {T : va_W} (hg : Sm g) (a1 : Nat) (h1 : a1 < 1048576) (H0 : Heap) (hM : XS D dA cn A pa g T H0) {Post : Option Value → Heap → Prop} (hPost : Post (some (.int (nI (sizeN a1 5)))) H0) : Ct l yX1_count (ws_ yX1_count cX1_count 3 (some .int)) (rmF 2 0 0 38) A (KX D dA cn A) [.int (nI a1)] H0 Post := by
  refine zc_of RX1 rfl (by decide) (Nat.le_of_ble_eq_true rfl) ?_
  intro pr en s m args below meth cd S hr hlk hnm hh hKX ls hl
  have hS : va_S A s.heap H0 [] := zc_start hh
  have hg0 := hg
  have hx := S.1
  have hb := S.2.1
  have hown := S.2.2.2.1
  have hts := S.2.2.2.2
  have hK := hKX.1
  have hN := hKX.2.1.1
  have hl : lv_has ls 3 [(0, .int (nI a1))] := hl
  refine lv_iconst (v := nI 0) hx hb dX1_count_0 zi_0 ?_
  refine lv_istore_n (lv' := [(1, .int (nI 0)), (0, .int (nI a1))]) hx hb dX1_count_1 rfl hl (by decide) rfl (fun ls hl => ?_)
  refine lv_iconst (v := nI 0) hx hb dX1_count_2 zi_0 ?_
  refine lv_istore_n (lv' := [(2, .int (nI 0)), (1, .int (nI 0)), (0, .int (nI a1))]) hx hb dX1_count_3 rfl hl (by decide) rfl (fun ls hl => ?_)
  have L_4 : ∀ (n_4 : Nat) (i : Nat), i ≤ 5 → 5 - i < n_4 → ∀ x1_4 : Int32, x1_4 = nI (sizeN a1 i) → ∀ (locs : List Loc), va_S A s.heap H0 locs → ∀ ls : Array Slot, lv_has ls 3 [(0, .int (nI a1)), (1, .int x1_4), (2, .int (nI i))] → W pr l en (rmF 2 0 0 38) s m args below meth cd H0 locs (0) (0) (MQ below (zc_Q Post A) args s 0 0 A) (F0 m 4 ls []) := by
    intro n_4
    induction n_4 with
    | zero => intro i hi_4 hm_4; exact absurd hm_4 (Nat.not_lt_zero _)
    | succ n_4 ih_4 =>
      intro i hi_4 hm_4 x1_4 ex1_4 locs hS ls hl
      subst ex1_4
      refine lv_iload_n hx hb dX1_count_4 rfl (lv_at hl 2 rfl) ?_
      refine lv_iconst (v := nI 5) hx hb dX1_count_5 zi_5 ?_
      refine zr_icmp_geN (a := i) (b := 5) (tgt := 23) hx hb (by omega) (by omega) dX1_count_6 (by decide) (fun c_1 => ?_) (fun c_1 => ?_)
      · have e_i : 5 = i := by omega
        subst e_i
        refine lv_iload_n hx hb dX1_count_23 rfl (lv_at hl 1 rfl) ?_
        exact zc_nret (nI (sizeN a1 5)) rfl hPost hS hx hb hr hlk (Nat.le_of_ble_eq_true rfl) (Nat.le_of_ble_eq_true rfl) dX1_count_24
      · refine lv_iload_n hx hb dX1_count_9 rfl (lv_at hl 1 rfl) ?_
        refine lv_iload_n hx hb dX1_count_10 rfl (lv_at hl 0 rfl) ?_
        refine lv_iload_n hx hb dX1_count_11 rfl (lv_at hl 2 rfl) ?_
        refine kX_digit S hKX hM hg hS a1 i (by first | omega | assumption | grind) (by first | omega | assumption | grind) (Nat.le_of_ble_eq_true rfl) (Nat.le_of_ble_eq_true rfl) hl.1 (Nat.le_of_ble_eq_true rfl) dX1_count_12 (Nat.le_of_ble_eq_true rfl) (Nat.le_of_ble_eq_true rfl) (fun locs hS => ?_)
        have f12_0 : digN a1 i < 10 := digN_lt _ _
        refine zr_addN (a := (sizeN a1 i)) (b := (digN a1 i)) hx hb dX1_count_15 ?_
        refine lv_istore_n (lv' := [(1, .int (nI ((sizeN a1 i) + (digN a1 i)))), (0, .int (nI a1)), (2, .int (nI i))]) hx hb dX1_count_16 rfl hl (by decide) rfl (fun ls hl => ?_)
        refine lv_iinc (v := nI (i + 1)) (lv' := [(2, .int (nI (i + 1))), (1, .int (nI ((sizeN a1 i) + (digN a1 i)))), (0, .int (nI a1))]) hx hb dX1_count_17 hl (k := 2) rfl (zk_inc _) (by decide) rfl (fun ls hl => ?_)
        refine lv_goto (tgt := 4) hx hb dX1_count_20 (by decide) ?_
        exact ih_4 (i + 1) (by first | omega | assumption | (simp; done) | grind) (by omega) _ (congrArg nI (show ((sizeN a1 i) + (digN a1 i) : Nat) = (sizeN a1 (i + 1)) from by first | with_reducible rfl | (simp [c_1, sizeN, eu_sm]; done) | (simp only [c_1] <;> simp [sizeN, eu_sm]; done) | (simp only [sizeN, eu_sm, c_1] <;> simp [sizeN, eu_sm]; done) | (simp [c_1, sizeN, eu_sm, Bool.and_assoc]; done) | (simp [c_1, sizeN, eu_sm, Bool.and_assoc, Bool.or_assoc]; done) | rfl | (simp [c_1, sizeN, eu_sm]; omega) | (simp_all [sizeN, eu_sm]; done))) locs hS ls (lv_sub hl [2, 1, 0] rfl)
  exact L_4 _ 0 (by first | omega | assumption | (simp; done) | grind) (Nat.lt_succ_self _) _ (congrArg nI (show (0 : Nat) = (sizeN a1 0) from by first | with_reducible rfl | (simp [sizeN, eu_sm]; done) | (simp [sizeN, eu_sm, Bool.and_assoc]; done) | (simp [sizeN, eu_sm, Bool.and_assoc, Bool.or_assoc]; done) | rfl | (simp [sizeN, eu_sm]; omega) | (simp_all [sizeN, eu_sm]; done))) [] hS ls (lv_sub hl [2, 1, 0] rfl)
theorem kX_count {pr : Program} {l : Launch} {en : Env} {R : Room} {s : State} {m : MethodId} {args : Array Value} {below : List Frame} {meth : Method} {cd : Code} {H : Heap} {locs : List Loc} {cells slots : Nat} {cc : ByteArray} {pc nL : Nat} {ls : Array Slot} {rest : List Value} {D : va_G} {dA : Nat → ClassId} {cn : Nat → Nat} {A : Nat → Prop} {pa : NM → Nat} {g : G} {T : va_W} {Q : State → Prop} (S : CallFix pr m cd cc nL s args lw_all RX1) (hKX : KX D dA cn A s) (hM : XS D dA cn A pa g T H) (hg : Sm g) (hS : va_S A s.heap H locs) (a1 : Nat) (h1 : a1 < 1048576) (hf : 2 + 1 ≤ R.frames) (hlo : 8 + (3 + 11) + 38 ≤ R.locals) (hsz : ls.size = nL) (hcat : (rest.map fun v => v.category).sum ≤ 8) (hdg : decode cc pc = .ok (.invokestatic 266, 3)) (hq1 : cells ≤ R.cells) (hq2 : slots ≤ R.slots) (kk : ∀ locs1 : List Loc, va_S A s.heap H locs1 → W pr l en R s m args below meth cd H locs1 cells slots Q (F0 m (pc + 3) ls (.int (nI (sizeN a1 5)) :: rest))) : W pr l en R s m args below meth cd H locs cells slots Q (F0 m pc ls (.int (nI a1) :: rest)) :=
  zc_callS (n := 1) (As := [.int (nI a1)]) (rest := rest) S (cX_count l hg a1 h1 H hM (Post := (fun v H1 => v = some (.int (nI (sizeN a1 5))) ∧ H1 = H)) ⟨rfl, rfl⟩) (lw_S q687 q688 q71 q689) (by decide +kernel) ⟨hf, hlo⟩ ⟨hq1, hq2⟩ KX_mv (zc_K KX_mv hKX hS) hS (fun _ h => h) rfl hsz rfl hcat hdg (fun v H1 locs1 hp _ _ hS1 => by obtain ⟨rfl, rfl⟩ := hp; exact kk locs1 hS1)
set_option maxHeartbeats 1000000 in
set_option maxRecDepth 100000 in
theorem cX_total (l : Launch) {D : va_G} {dA : Nat → ClassId} {cn : Nat → Nat} {A : Nat → Prop} {pa : NM → Nat} {g : G} {T : va_W} (hg : Sm g) (a1 : Nat) (h1 : a1 < 4) (H0 : Heap) (hM : XS D dA cn A pa g T H0) {Post : Option Value → Heap → Prop} (hPost : Post (some (.int (nI (handN g a1 5)))) H0) : Ct l yX1_total (ws_ yX1_total cX1_total 7 (some .int)) (rmF 1 0 0 18) A (KX D dA cn A) [.ref (pa (0, 0)), .int (nI a1)] H0 Post := by
  refine zc_of RX1 rfl (by decide) (Nat.le_of_ble_eq_true rfl) ?_
  intro pr en s m args below meth cd S hr hlk hnm hh hKX ls hl
  have hS : va_S A s.heap H0 [] := zc_start hh
  have hg0 := hg
  have hx := S.1
  have hb := S.2.1
  have hown := S.2.2.2.1
  have hts := S.2.2.2.2
  have hK := hKX.1
  have hN := hKX.2.1.1
  have hl : lv_has ls 7 [(0, .ref (pa (0, 0))), (1, .int (nI a1))] := hl
  refine lv_iconst (v := nI 0) hx hb dX1_total_0 zi_0 ?_
  refine lv_istore_n (lv' := [(2, .int (nI 0)), (0, .ref (pa (0, 0))), (1, .int (nI a1))]) hx hb dX1_total_1 rfl hl (by decide) rfl (fun ls hl => ?_)
  refine lv_aload_n hx hb dX1_total_2 rfl (lv_at hl 1 rfl) ?_
  refine gX_hands S hK hM dX1_total_3 ?_
  refine lv_iload_n hx hb dX1_total_6 rfl (lv_at hl 2 rfl) ?_
  refine lX_hands S hK hM a1 (by omega) dX1_total_7 ?_
  refine lv_astore_n (lv' := [(3, .ref (pa (8, a1))), (2, .int (nI 0)), (0, .ref (pa (0, 0))), (1, .int (nI a1))]) hx hb dX1_total_8 rfl hl (by decide) rfl (fun ls hl => ?_)
  refine lv_aload_n hx hb dX1_total_9 rfl (lv_at hl 0 rfl) ?_
  refine nX_hand S hK hM a1 (by omega) dX1_total_10 ?_
  refine lv_istore (lv' := [(4, .int (nI 5)), (3, .ref (pa (8, a1))), (2, .int (nI 0)), (0, .ref (pa (0, 0))), (1, .int (nI a1))]) hx hb dX1_total_11 hl (by decide) rfl (fun ls hl => ?_)
  refine lv_iconst (v := nI 0) hx hb dX1_total_13 zi_0 ?_
  refine lv_istore (lv' := [(5, .int (nI 0)), (4, .int (nI 5)), (3, .ref (pa (8, a1))), (2, .int (nI 0)), (0, .ref (pa (0, 0))), (1, .int (nI a1))]) hx hb dX1_total_14 hl (by decide) rfl (fun ls hl => ?_)
  have L_16 : ∀ (n_16 : Nat) (i : Nat), i ≤ 5 → 5 - i < n_16 → ∀ x2_16 : Int32, x2_16 = nI (handN g a1 i) → ∀ (locs : List Loc), va_S A s.heap H0 locs → ∀ ls : Array Slot, lv_has ls 7 [(2, .int x2_16), (3, .ref (pa (8, a1))), (4, .int (nI 5)), (5, .int (nI i))] → W pr l en (rmF 1 0 0 18) s m args below meth cd H0 locs (0) (0) (MQ below (zc_Q Post A) args s 0 0 A) (F0 m 16 ls []) := by
    intro n_16
    induction n_16 with
    | zero => intro i hi_16 hm_16; exact absurd hm_16 (Nat.not_lt_zero _)
    | succ n_16 ih_16 =>
      intro i hi_16 hm_16 x2_16 ex2_16 locs hS ls hl
      subst ex2_16
      refine lv_iload hx hb dX1_total_16 (lv_at hl 3 rfl) ?_
      refine lv_iload hx hb dX1_total_18 (lv_at hl 2 rfl) ?_
      refine zr_icmp_geN (a := i) (b := 5) (tgt := 40) hx hb (by omega) (by omega) dX1_total_20 (by decide) (fun c_1 => ?_) (fun c_1 => ?_)
      · have e_i : 5 = i := by omega
        subst e_i
        refine lv_iload_n hx hb dX1_total_40 rfl (lv_at hl 0 rfl) ?_
        exact zc_nret (nI (handN g a1 5)) rfl hPost hS hx hb hr hlk (Nat.le_of_ble_eq_true rfl) (Nat.le_of_ble_eq_true rfl) dX1_total_41
      · refine lv_aload_n hx hb dX1_total_23 rfl (lv_at hl 1 rfl) ?_
        refine lv_iload hx hb dX1_total_24 (lv_at hl 3 rfl) ?_
        refine lX_hand S hK hM a1 (by omega) i (by omega) (g 4 (5 * a1 + i)) rfl dX1_total_26 ?_
        have hb_2 : g 4 (5 * a1 + i) < 1048576 := by first | exact hg 4 (5 * a1 + i) | exact hg0 _ _ | (have := hg 4 (5 * a1 + i); omega) | omega
        refine lv_istore (lv' := [(6, .int (nI (g 4 (5 * a1 + i)))), (2, .int (nI (handN g a1 i))), (3, .ref (pa (8, a1))), (4, .int (nI 5)), (5, .int (nI i))]) hx hb dX1_total_27 hl (by decide) rfl (fun ls hl => ?_)
        refine lv_iload_n hx hb dX1_total_29 rfl (lv_at hl 1 rfl) ?_
        refine lv_iload hx hb dX1_total_30 (lv_at hl 0 rfl) ?_
        refine zr_addN (a := (handN g a1 i)) (b := (g 4 (5 * a1 + i))) hx hb dX1_total_32 ?_
        refine lv_istore_n (lv' := [(2, .int (nI ((handN g a1 i) + (g 4 (5 * a1 + i))))), (6, .int (nI (g 4 (5 * a1 + i)))), (3, .ref (pa (8, a1))), (4, .int (nI 5)), (5, .int (nI i))]) hx hb dX1_total_33 rfl hl (by decide) rfl (fun ls hl => ?_)
        refine lv_iinc (v := nI (i + 1)) (lv' := [(5, .int (nI (i + 1))), (2, .int (nI ((handN g a1 i) + (g 4 (5 * a1 + i))))), (6, .int (nI (g 4 (5 * a1 + i)))), (3, .ref (pa (8, a1))), (4, .int (nI 5))]) hx hb dX1_total_34 hl (k := 4) rfl (zk_inc _) (by decide) rfl (fun ls hl => ?_)
        refine lv_goto (tgt := 16) hx hb dX1_total_37 (by decide) ?_
        exact ih_16 (i + 1) (by first | omega | assumption | (simp; done) | grind) (by omega) _ (congrArg nI (show ((handN g a1 i) + (g 4 (5 * a1 + i)) : Nat) = (handN g a1 (i + 1)) from by first | with_reducible rfl | (simp [c_1, handN, eu_sm]; done) | (simp only [c_1] <;> simp [handN, eu_sm]; done) | (simp only [handN, eu_sm, c_1] <;> simp [handN, eu_sm]; done) | (simp [c_1, handN, eu_sm, Bool.and_assoc]; done) | (simp [c_1, handN, eu_sm, Bool.and_assoc, Bool.or_assoc]; done) | rfl | (simp [c_1, handN, eu_sm]; omega) | (simp_all [handN, eu_sm]; done))) locs hS ls (lv_sub hl [1, 3, 4, 0] rfl)
  exact L_16 _ 0 (by first | omega | assumption | (simp; done) | grind) (Nat.lt_succ_self _) _ (congrArg nI (show (0 : Nat) = (handN g a1 0) from by first | with_reducible rfl | (simp [handN, eu_sm]; done) | (simp [handN, eu_sm, Bool.and_assoc]; done) | (simp [handN, eu_sm, Bool.and_assoc, Bool.or_assoc]; done) | rfl | (simp [handN, eu_sm]; omega) | (simp_all [handN, eu_sm]; done))) [] hS ls (lv_sub hl [3, 2, 1, 0] rfl)
theorem kX_total {pr : Program} {l : Launch} {en : Env} {R : Room} {s : State} {m : MethodId} {args : Array Value} {below : List Frame} {meth : Method} {cd : Code} {H : Heap} {locs : List Loc} {cells slots : Nat} {cc : ByteArray} {pc nL : Nat} {ls : Array Slot} {rest : List Value} {D : va_G} {dA : Nat → ClassId} {cn : Nat → Nat} {A : Nat → Prop} {pa : NM → Nat} {g : G} {T : va_W} {Q : State → Prop} (S : CallFix pr m cd cc nL s args lw_all RX1) (hKX : KX D dA cn A s) (hM : XS D dA cn A pa g T H) (hg : Sm g) (hS : va_S A s.heap H locs) (a1 : Nat) (h1 : a1 < 4) (hf : 1 + 1 ≤ R.frames) (hlo : 8 + (7 + 11) + 18 ≤ R.locals) (hsz : ls.size = nL) (hcat : (rest.map fun v => v.category).sum ≤ 8) (hdg : decode cc pc = .ok (.invokevirtual 195, 3)) (hq1 : cells ≤ R.cells) (hq2 : slots ≤ R.slots) (kk : ∀ locs1 : List Loc, va_S A s.heap H locs1 → W pr l en R s m args below meth cd H locs1 cells slots Q (F0 m (pc + 3) ls (.int (nI (handN g a1 5)) :: rest))) : W pr l en R s m args below meth cd H locs cells slots Q (F0 m pc ls (.int (nI a1) :: .ref (pa (0, 0)) :: rest)) :=
  zc_callV (n := 1) (As := [.int (nI a1)]) (rest := rest) S (cX_total l hg a1 h1 H hM (Post := (fun v H1 => v = some (.int (nI (handN g a1 5))) ∧ H1 = H)) ⟨rfl, rfl⟩) (lw_V q659 q661 qs15 q71 q662) (by decide +kernel) ⟨hf, hlo⟩ ⟨hq1, hq2⟩ (zx_recv hKX.1 hM) KX_mv (zc_K KX_mv hKX hS) hS (fun _ h => h) rfl hsz rfl hcat hdg (fun v H1 locs1 hp _ _ hS1 => by obtain ⟨rfl, rfl⟩ := hp; exact kk locs1 hS1)
set_option maxHeartbeats 1000000 in
set_option maxRecDepth 100000 in
theorem cX_hasGoods (l : Launch) {D : va_G} {dA : Nat → ClassId} {cn : Nat → Nat} {A : Nat → Prop} {pa : NM → Nat} {g : G} {T : va_W} (hg : Sm g) (a1 : Nat) (a2 : Nat) (h1 : a1 < 4) (h2 : a2 < 1048576) (H0 : Heap) (hM : XS D dA cn A pa g T H0) {Post : Option Value → Heap → Prop} (hPost : Post (some (.int (nI (hasG g a1 a2).toNat))) H0) : Ct l yX1_hasGoods (ws_ yX1_hasGoods cX1_hasGoods 5 (some .boolean)) (rmF 2 0 0 38) A (KX D dA cn A) [.ref (pa (0, 0)), .int (nI a1), .int (nI a2)] H0 Post := by
  refine zc_of RX1 rfl (by decide) (Nat.le_of_ble_eq_true rfl) ?_
  intro pr en s m args below meth cd S hr hlk hnm hh hKX ls hl
  have hS : va_S A s.heap H0 [] := zc_start hh
  have hg0 := hg
  have hx := S.1
  have hb := S.2.1
  have hown := S.2.2.2.1
  have hts := S.2.2.2.2
  have hK := hKX.1
  have hN := hKX.2.1.1
  have hl : lv_has ls 5 [(0, .ref (pa (0, 0))), (1, .int (nI a1)), (2, .int (nI a2))] := hl
  refine lv_iconst (v := nI 1) hx hb dX1_hasGoods_0 zi_1 ?_
  refine lv_istore_n (lv' := [(3, .int (nI 1)), (0, .ref (pa (0, 0))), (1, .int (nI a1)), (2, .int (nI a2))]) hx hb dX1_hasGoods_1 rfl hl (by decide) rfl (fun ls hl => ?_)
  refine lv_iconst (v := nI 0) hx hb dX1_hasGoods_2 zi_0 ?_
  refine lv_istore (lv' := [(4, .int (nI 0)), (3, .int (nI 1)), (0, .ref (pa (0, 0))), (1, .int (nI a1)), (2, .int (nI a2))]) hx hb dX1_hasGoods_3 hl (by decide) rfl (fun ls hl => ?_)
  have L_5 : ∀ (n_5 : Nat) (i : Nat), i ≤ 5 → 5 - i < n_5 → ∀ x3_5 : Int32, x3_5 = nI (allN i (fun k => !decide (g 4 (5 * a1 + k) < digN a2 k))).toNat → ∀ (locs : List Loc), va_S A s.heap H0 locs → ∀ ls : Array Slot, lv_has ls 5 [(0, .ref (pa (0, 0))), (1, .int (nI a1)), (2, .int (nI a2)), (3, .int x3_5), (4, .int (nI i))] → W pr l en (rmF 2 0 0 38) s m args below meth cd H0 locs (0) (0) (MQ below (zc_Q Post A) args s 0 0 A) (F0 m 5 ls []) := by
    intro n_5
    induction n_5 with
    | zero => intro i hi_5 hm_5; exact absurd hm_5 (Nat.not_lt_zero _)
    | succ n_5 ih_5 =>
      intro i hi_5 hm_5 x3_5 ex3_5 locs hS ls hl
      subst ex3_5
      refine lv_iload hx hb dX1_hasGoods_5 (lv_at hl 4 rfl) ?_
      refine lv_iconst (v := nI 5) hx hb dX1_hasGoods_7 zi_5 ?_
      refine zr_icmp_geN (a := i) (b := 5) (tgt := 43) hx hb (by omega) (by omega) dX1_hasGoods_8 (by decide) (fun c_1 => ?_) (fun c_1 => ?_)
      · have e_i : 5 = i := by omega
        subst e_i
        refine lv_iload_n hx hb dX1_hasGoods_43 rfl (lv_at hl 3 rfl) ?_
        exact zc_bret (hasG g a1 a2) (congrArg (fun z : Bool => nI z.toNat) (show (allN 5 (fun k => !decide (g 4 (5 * a1 + k) < digN a2 k)) : Bool) = (hasG g a1 a2) from by first | with_reducible rfl | (simp [c_1, hasG, allN]; done) | (simp only [c_1] <;> simp [hasG, allN]; done) | (simp only [hasG, allN, c_1] <;> simp [hasG, allN]; done) | (simp [c_1, hasG, allN, Bool.and_assoc]; done) | (simp [c_1, hasG, allN, Bool.and_assoc, Bool.or_assoc]; done) | rfl | (simp [c_1, hasG, allN]; omega) | (simp_all [hasG, allN]; done))) hPost hS hx hb hr hlk (Nat.le_of_ble_eq_true rfl) (Nat.le_of_ble_eq_true rfl) dX1_hasGoods_44
      · refine lv_iload_n hx hb dX1_hasGoods_11 rfl (lv_at hl 3 rfl) ?_
        refine lv_aload_n hx hb dX1_hasGoods_12 rfl (lv_at hl 0 rfl) ?_
        refine gX_hands S hK hM dX1_hasGoods_13 ?_
        refine lv_iload_n hx hb dX1_hasGoods_16 rfl (lv_at hl 1 rfl) ?_
        refine lX_hands S hK hM a1 (by omega) dX1_hasGoods_17 ?_
        refine lv_iload hx hb dX1_hasGoods_18 (lv_at hl 4 rfl) ?_
        refine lX_hand S hK hM a1 (by omega) i (by omega) (g 4 (5 * a1 + i)) rfl dX1_hasGoods_20 ?_
        have hb_2 : g 4 (5 * a1 + i) < 1048576 := by first | exact hg 4 (5 * a1 + i) | exact hg0 _ _ | (have := hg 4 (5 * a1 + i); omega) | omega
        refine lv_iload_n hx hb dX1_hasGoods_21 rfl (lv_at hl 2 rfl) ?_
        refine lv_iload hx hb dX1_hasGoods_22 (lv_at hl 4 rfl) ?_
        refine kX_digit S hKX hM hg hS a2 i (by first | omega | assumption | grind) (by first | omega | assumption | grind) (Nat.le_of_ble_eq_true rfl) (Nat.le_of_ble_eq_true rfl) hl.1 (Nat.le_of_ble_eq_true rfl) dX1_hasGoods_24 (Nat.le_of_ble_eq_true rfl) (Nat.le_of_ble_eq_true rfl) (fun locs hS => ?_)
        have f24_0 : digN a2 i < 10 := digN_lt _ _
        have J_35 : ∀ yS0_35 : Int32, yS0_35 = nI (!decide ((g 4 (5 * a1 + i)) < (digN a2 i))).toNat → ∀ (locs : List Loc), va_S A s.heap H0 locs → ∀ ls : Array Slot, lv_has ls 5 [(0, .ref (pa (0, 0))), (1, .int (nI a1)), (2, .int (nI a2)), (4, .int (nI i))] → W pr l en (rmF 2 0 0 38) s m args below meth cd H0 locs (0) (0) (MQ below (zc_Q Post A) args s 0 0 A) (F0 m 35 ls [.int yS0_35, .int (nI (allN i (fun k => !decide (g 4 (5 * a1 + k) < digN a2 k))).toNat)]) := by
          intro yS0_35 eyS0_35 locs hS ls hl
          subst eyS0_35
          refine zr_andB (a := allN i (fun k => !decide (g 4 (5 * a1 + k) < digN a2 k))) (b := !decide ((g 4 (5 * a1 + i)) < (digN a2 i))) hx hb dX1_hasGoods_35 ?_
          refine lv_istore_n (lv' := [(3, .int (nI ((allN i (fun k => !decide (g 4 (5 * a1 + k) < digN a2 k))) && (!decide ((g 4 (5 * a1 + i)) < (digN a2 i)))).toNat)), (0, .ref (pa (0, 0))), (1, .int (nI a1)), (2, .int (nI a2)), (4, .int (nI i))]) hx hb dX1_hasGoods_36 rfl hl (by decide) rfl (fun ls hl => ?_)
          refine lv_iinc (v := nI (i + 1)) (lv' := [(4, .int (nI (i + 1))), (3, .int (nI ((allN i (fun k => !decide (g 4 (5 * a1 + k) < digN a2 k))) && (!decide ((g 4 (5 * a1 + i)) < (digN a2 i)))).toNat)), (0, .ref (pa (0, 0))), (1, .int (nI a1)), (2, .int (nI a2))]) hx hb dX1_hasGoods_37 hl (k := 4) rfl (zk_inc _) (by decide) rfl (fun ls hl => ?_)
          refine lv_goto (tgt := 5) hx hb dX1_hasGoods_40 (by decide) ?_
          exact ih_5 (i + 1) (by first | omega | assumption | (simp; done) | grind) (by omega) _ (congrArg (fun z : Bool => nI z.toNat) (show ((allN i (fun k => !decide (g 4 (5 * a1 + k) < digN a2 k))) && (!decide ((g 4 (5 * a1 + i)) < (digN a2 i))) : Bool) = (allN (i + 1) (fun k => !decide (g 4 (5 * a1 + k) < digN a2 k))) from by first | with_reducible rfl | (simp [c_1, hasG, allN]; done) | (simp only [c_1] <;> simp [hasG, allN]; done) | (simp only [hasG, allN, c_1] <;> simp [hasG, allN]; done) | (simp [c_1, hasG, allN, Bool.and_assoc]; done) | (simp [c_1, hasG, allN, Bool.and_assoc, Bool.or_assoc]; done) | rfl | (simp [c_1, hasG, allN]; omega) | (simp_all [hasG, allN]; done))) locs hS ls (lv_sub hl [2, 3, 4, 1, 0] rfl)
        refine zr_icmp_ltN (a := (g 4 (5 * a1 + i))) (b := (digN a2 i)) (tgt := 34) hx hb (by omega) (by omega) dX1_hasGoods_27 (by decide) (fun c_4 => ?_) (fun c_4 => ?_)
        · refine lv_iconst (v := nI 0) hx hb dX1_hasGoods_34 zi_0 ?_
          exact J_35 _ (congrArg (fun z : Bool => nI z.toNat) (show (false : Bool) = (!decide ((g 4 (5 * a1 + i)) < (digN a2 i))) from by first | with_reducible rfl | (simp [c_1, c_4, hasG, allN]; done) | (simp only [c_1, c_4] <;> simp [hasG, allN]; done) | (simp only [hasG, allN, c_1, c_4] <;> simp [hasG, allN]; done) | (simp [c_1, c_4, hasG, allN, Bool.and_assoc]; done) | (simp [c_1, c_4, hasG, allN, Bool.and_assoc, Bool.or_assoc]; done) | rfl | (simp [c_1, c_4, hasG, allN]; omega) | (simp_all [hasG, allN]; done))) locs hS ls (lv_sub hl [0, 1, 2, 4] rfl)
        · refine lv_iconst (v := nI 1) hx hb dX1_hasGoods_30 zi_1 ?_
          refine lv_goto (tgt := 35) hx hb dX1_hasGoods_31 (by decide) ?_
          exact J_35 _ (congrArg (fun z : Bool => nI z.toNat) (show (true : Bool) = (!decide ((g 4 (5 * a1 + i)) < (digN a2 i))) from by first | with_reducible rfl | (simp [c_1, c_4, hasG, allN]; done) | (simp only [c_1, c_4] <;> simp [hasG, allN]; done) | (simp only [hasG, allN, c_1, c_4] <;> simp [hasG, allN]; done) | (simp [c_1, c_4, hasG, allN, Bool.and_assoc]; done) | (simp [c_1, c_4, hasG, allN, Bool.and_assoc, Bool.or_assoc]; done) | rfl | (simp [c_1, c_4, hasG, allN]; omega) | (simp_all [hasG, allN]; done))) locs hS ls (lv_sub hl [0, 1, 2, 4] rfl)
  exact L_5 _ 0 (by first | omega | assumption | (simp; done) | grind) (Nat.lt_succ_self _) _ (congrArg (fun z : Bool => nI z.toNat) (show (true : Bool) = (allN 0 (fun k => !decide (g 4 (5 * a1 + k) < digN a2 k))) from by first | with_reducible rfl | (simp [hasG, allN]; done) | (simp [hasG, allN, Bool.and_assoc]; done) | (simp [hasG, allN, Bool.and_assoc, Bool.or_assoc]; done) | rfl | (simp [hasG, allN]; omega) | (simp_all [hasG, allN]; done))) [] hS ls (lv_sub hl [2, 3, 4, 1, 0] rfl)
theorem kX_hasGoods {pr : Program} {l : Launch} {en : Env} {R : Room} {s : State} {m : MethodId} {args : Array Value} {below : List Frame} {meth : Method} {cd : Code} {H : Heap} {locs : List Loc} {cells slots : Nat} {cc : ByteArray} {pc nL : Nat} {ls : Array Slot} {rest : List Value} {D : va_G} {dA : Nat → ClassId} {cn : Nat → Nat} {A : Nat → Prop} {pa : NM → Nat} {g : G} {T : va_W} {Q : State → Prop} (S : CallFix pr m cd cc nL s args lw_all RX1) (hKX : KX D dA cn A s) (hM : XS D dA cn A pa g T H) (hg : Sm g) (hS : va_S A s.heap H locs) (a1 : Nat) (a2 : Nat) (h1 : a1 < 4) (h2 : a2 < 1048576) (hf : 2 + 1 ≤ R.frames) (hlo : 8 + (5 + 11) + 38 ≤ R.locals) (hsz : ls.size = nL) (hcat : (rest.map fun v => v.category).sum ≤ 8) (hdg : decode cc pc = .ok (.invokevirtual 256, 3)) (hq1 : cells ≤ R.cells) (hq2 : slots ≤ R.slots) (kk : ∀ locs1 : List Loc, va_S A s.heap H locs1 → W pr l en R s m args below meth cd H locs1 cells slots Q (F0 m (pc + 3) ls (.int (nI (hasG g a1 a2).toNat) :: rest))) : W pr l en R s m args below meth cd H locs cells slots Q (F0 m pc ls (.int (nI a2) :: .int (nI a1) :: .ref (pa (0, 0)) :: rest)) :=
  zc_callV (n := 2) (As := [.int (nI a1), .int (nI a2)]) (rest := rest) S (cX_hasGoods l hg a1 a2 h1 h2 H hM (Post := (fun v H1 => v = some (.int (nI (hasG g a1 a2).toNat)) ∧ H1 = H)) ⟨rfl, rfl⟩) (lw_V q648 q650 qs13 q71 q651) (by decide +kernel) ⟨hf, hlo⟩ ⟨hq1, hq2⟩ (zx_recv hKX.1 hM) KX_mv (zc_K KX_mv hKX hS) hS (fun _ h => h) rfl hsz rfl hcat hdg (fun v H1 locs1 hp _ _ hS1 => by obtain ⟨rfl, rfl⟩ := hp; exact kk locs1 hS1)
set_option maxHeartbeats 1000000 in
set_option maxRecDepth 100000 in
theorem cX_touches (l : Launch) {D : va_G} {dA : Nat → ClassId} {cn : Nat → Nat} {A : Nat → Prop} {pa : NM → Nat} {g : G} {T : va_W} (hg : Sm g) (a1 : Nat) (a2 : Nat) (h1 : a1 < 1073741824) (h2 : a2 < 24) (H0 : Heap) (hM : XS D dA cn A pa g T H0) {Post : Option Value → Heap → Prop} (hPost : Post (some (.int (nI (anyN 30 (fun e => decide (a1 / 2 ^ e &&& 1 = 1) && atE e a2)).toNat))) H0) : Ct l yX1_touches (ws_ yX1_touches cX1_touches 4 (some .boolean)) (rmF 3 0 0 55) A (KX D dA cn A) [.int (nI a1), .int (nI a2)] H0 Post := by
  refine zc_of RX1 rfl (by decide) (Nat.le_of_ble_eq_true rfl) ?_
  intro pr en s m args below meth cd S hr hlk hnm hh hKX ls hl
  have hS : va_S A s.heap H0 [] := zc_start hh
  have hg0 := hg
  have hx := S.1
  have hb := S.2.1
  have hown := S.2.2.2.1
  have hts := S.2.2.2.2
  have hK := hKX.1
  have hN := hKX.2.1.1
  have hl : lv_has ls 4 [(0, .int (nI a1)), (1, .int (nI a2))] := hl
  refine lv_iconst (v := nI 0) hx hb dX1_touches_0 zi_0 ?_
  refine lv_istore_n (lv' := [(2, .int (nI 0)), (0, .int (nI a1)), (1, .int (nI a2))]) hx hb dX1_touches_1 rfl hl (by decide) rfl (fun ls hl => ?_)
  refine lv_iconst (v := nI 0) hx hb dX1_touches_2 zi_0 ?_
  refine lv_istore_n (lv' := [(3, .int (nI 0)), (2, .int (nI 0)), (0, .int (nI a1)), (1, .int (nI a2))]) hx hb dX1_touches_3 rfl hl (by decide) rfl (fun ls hl => ?_)
  have L_4 : ∀ (n_4 : Nat) (i : Nat), i ≤ 30 → 30 - i < n_4 → ∀ x2_4 : Int32, x2_4 = nI (anyN i (fun e => decide (a1 / 2 ^ e &&& 1 = 1) && atE e a2)).toNat → ∀ (locs : List Loc), va_S A s.heap H0 locs → ∀ ls : Array Slot, lv_has ls 4 [(0, .int (nI a1)), (1, .int (nI a2)), (2, .int x2_4), (3, .int (nI i))] → W pr l en (rmF 3 0 0 55) s m args below meth cd H0 locs (0) (0) (MQ below (zc_Q Post A) args s 0 0 A) (F0 m 4 ls []) := by
    intro n_4
    induction n_4 with
    | zero => intro i hi_4 hm_4; exact absurd hm_4 (Nat.not_lt_zero _)
    | succ n_4 ih_4 =>
      intro i hi_4 hm_4 x2_4 ex2_4 locs hS ls hl
      subst ex2_4
      refine lv_iload_n hx hb dX1_touches_4 rfl (lv_at hl 3 rfl) ?_
      refine lv_bipush (v := nI 30) hx hb dX1_touches_5 zb_30 ?_
      refine zr_icmp_geN (a := i) (b := 30) (tgt := 41) hx hb (by omega) (by omega) dX1_touches_7 (by decide) (fun c_1 => ?_) (fun c_1 => ?_)
      · have e_i : 30 = i := by omega
        subst e_i
        refine lv_iload_n hx hb dX1_touches_41 rfl (lv_at hl 2 rfl) ?_
        exact zc_bret (anyN 30 (fun e => decide (a1 / 2 ^ e &&& 1 = 1) && atE e a2)) rfl hPost hS hx hb hr hlk (Nat.le_of_ble_eq_true rfl) (Nat.le_of_ble_eq_true rfl) dX1_touches_42
      · have h9 : a1 / 2 ^ i ≤ a1 := Nat.div_le_self _ _
        have h8 : (a1 / 2 ^ i &&& 1) ≤ 1 := Nat.and_le_right
        refine lv_iload_n hx hb dX1_touches_10 rfl (lv_at hl 2 rfl) ?_
        refine lv_iload_n hx hb dX1_touches_11 rfl (lv_at hl 0 rfl) ?_
        refine lv_iload_n hx hb dX1_touches_12 rfl (lv_at hl 3 rfl) ?_
        refine zr_shrN (a := a1) (b := i) hx hb (by omega) (by omega) dX1_touches_13 ?_
        refine lv_iconst (v := nI 1) hx hb dX1_touches_14 zi_1 ?_
        refine zr_andN (a := (a1 / 2 ^ i)) (b := 1) hx hb dX1_touches_15 ?_
        refine lv_iconst (v := nI 1) hx hb dX1_touches_16 zi_1 ?_
        have J_33 : ∀ yS0_33 : Int32, yS0_33 = nI (decide (((a1 / 2 ^ i) &&& 1) = 1) && ((atE i a2))).toNat → ∀ (locs : List Loc), va_S A s.heap H0 locs → ∀ ls : Array Slot, lv_has ls 4 [(0, .int (nI a1)), (1, .int (nI a2)), (3, .int (nI i))] → W pr l en (rmF 3 0 0 55) s m args below meth cd H0 locs (0) (0) (MQ below (zc_Q Post A) args s 0 0 A) (F0 m 33 ls [.int yS0_33, .int (nI (anyN i (fun e => decide (a1 / 2 ^ e &&& 1 = 1) && atE e a2)).toNat)]) := by
          intro yS0_33 eyS0_33 locs hS ls hl
          subst eyS0_33
          refine zr_orB (a := anyN i (fun e => decide (a1 / 2 ^ e &&& 1 = 1) && atE e a2)) (b := decide (((a1 / 2 ^ i) &&& 1) = 1) && ((atE i a2))) hx hb dX1_touches_33 ?_
          refine lv_istore_n (lv' := [(2, .int (nI ((anyN i (fun e => decide (a1 / 2 ^ e &&& 1 = 1) && atE e a2)) || (decide (((a1 / 2 ^ i) &&& 1) = 1) && ((atE i a2)))).toNat)), (0, .int (nI a1)), (1, .int (nI a2)), (3, .int (nI i))]) hx hb dX1_touches_34 rfl hl (by decide) rfl (fun ls hl => ?_)
          refine lv_iinc (v := nI (i + 1)) (lv' := [(3, .int (nI (i + 1))), (2, .int (nI ((anyN i (fun e => decide (a1 / 2 ^ e &&& 1 = 1) && atE e a2)) || (decide (((a1 / 2 ^ i) &&& 1) = 1) && ((atE i a2)))).toNat)), (0, .int (nI a1)), (1, .int (nI a2))]) hx hb dX1_touches_35 hl (k := 3) rfl (zk_inc _) (by decide) rfl (fun ls hl => ?_)
          refine lv_goto (tgt := 4) hx hb dX1_touches_38 (by decide) ?_
          exact ih_4 (i + 1) (by first | omega | assumption | (simp; done) | grind) (by omega) _ (congrArg (fun z : Bool => nI z.toNat) (show ((anyN i (fun e => decide (a1 / 2 ^ e &&& 1 = 1) && atE e a2)) || (decide (((a1 / 2 ^ i) &&& 1) = 1) && ((atE i a2))) : Bool) = (anyN (i + 1) (fun e => decide (a1 / 2 ^ e &&& 1 = 1) && atE e a2)) from by first | with_reducible rfl | (simp [c_1, anyN]; done) | (simp only [c_1] <;> simp [anyN]; done) | (simp only [anyN, c_1] <;> simp [anyN]; done) | (simp [c_1, anyN, Bool.and_assoc]; done) | (simp [c_1, anyN, Bool.and_assoc, Bool.or_assoc]; done) | rfl | (simp [c_1, anyN]; omega) | (simp_all [anyN]; done))) locs hS ls (lv_sub hl [2, 3, 1, 0] rfl)
        refine zr_icmp_neN (a := ((a1 / 2 ^ i) &&& 1)) (b := 1) (tgt := 32) hx hb (by omega) (by omega) dX1_touches_17 (by decide) (fun c_4 => ?_) (fun c_4 => ?_)
        · refine lv_iconst (v := nI 0) hx hb dX1_touches_32 zi_0 ?_
          exact J_33 _ (congrArg (fun z : Bool => nI z.toNat) (show (false : Bool) = (decide (((a1 / 2 ^ i) &&& 1) = 1) && ((atE i a2))) from by first | with_reducible rfl | (simp [c_1, c_4, anyN]; done) | (simp only [c_1, c_4] <;> simp [anyN]; done) | (simp only [anyN, c_1, c_4] <;> simp [anyN]; done) | (simp [c_1, c_4, anyN, Bool.and_assoc]; done) | (simp [c_1, c_4, anyN, Bool.and_assoc, Bool.or_assoc]; done) | rfl | (simp [c_1, c_4, anyN]; omega) | (simp_all [anyN]; done))) locs hS ls (lv_sub hl [0, 1, 3] rfl)
        · refine lv_iload_n hx hb dX1_touches_20 rfl (lv_at hl 3 rfl) ?_
          refine lv_iload_n hx hb dX1_touches_21 rfl (lv_at hl 1 rfl) ?_
          refine kX_isAt S hKX hM hg hS i a2 (by first | omega | assumption | grind) (by first | omega | assumption | grind) (Nat.le_of_ble_eq_true rfl) (Nat.le_of_ble_eq_true rfl) hl.1 (Nat.le_of_ble_eq_true rfl) dX1_touches_22 (Nat.le_of_ble_eq_true rfl) (Nat.le_of_ble_eq_true rfl) (fun locs hS => ?_)
          refine zr_if_eqB (b := atE i a2) (tgt := 32) hx hb dX1_touches_25 (by decide) (fun c_5 => ?_) (fun c_5 => ?_)
          · refine lv_iconst (v := nI 0) hx hb dX1_touches_32 zi_0 ?_
            exact J_33 _ (congrArg (fun z : Bool => nI z.toNat) (show (false : Bool) = (decide (((a1 / 2 ^ i) &&& 1) = 1) && ((atE i a2))) from by first | with_reducible rfl | (simp [c_1, c_4, c_5, anyN]; done) | (simp only [c_1, c_4, c_5] <;> simp [anyN]; done) | (simp only [anyN, c_1, c_4, c_5] <;> simp [anyN]; done) | (simp [c_1, c_4, c_5, anyN, Bool.and_assoc]; done) | (simp [c_1, c_4, c_5, anyN, Bool.and_assoc, Bool.or_assoc]; done) | rfl | (simp [c_1, c_4, c_5, anyN]; omega) | (simp_all [anyN]; done))) locs hS ls (lv_sub hl [0, 1, 3] rfl)
          · refine lv_iconst (v := nI 1) hx hb dX1_touches_28 zi_1 ?_
            refine lv_goto (tgt := 33) hx hb dX1_touches_29 (by decide) ?_
            exact J_33 _ (congrArg (fun z : Bool => nI z.toNat) (show (true : Bool) = (decide (((a1 / 2 ^ i) &&& 1) = 1) && ((atE i a2))) from by first | with_reducible rfl | (simp [c_1, c_4, c_5, anyN]; done) | (simp only [c_1, c_4, c_5] <;> simp [anyN]; done) | (simp only [anyN, c_1, c_4, c_5] <;> simp [anyN]; done) | (simp [c_1, c_4, c_5, anyN, Bool.and_assoc]; done) | (simp [c_1, c_4, c_5, anyN, Bool.and_assoc, Bool.or_assoc]; done) | rfl | (simp [c_1, c_4, c_5, anyN]; omega) | (simp_all [anyN]; done))) locs hS ls (lv_sub hl [0, 1, 3] rfl)
  exact L_4 _ 0 (by first | omega | assumption | (simp; done) | grind) (Nat.lt_succ_self _) _ (congrArg (fun z : Bool => nI z.toNat) (show (false : Bool) = (anyN 0 (fun e => decide (a1 / 2 ^ e &&& 1 = 1) && atE e a2)) from by first | with_reducible rfl | (simp [anyN]; done) | (simp [anyN, Bool.and_assoc]; done) | (simp [anyN, Bool.and_assoc, Bool.or_assoc]; done) | rfl | (simp [anyN]; omega) | (simp_all [anyN]; done))) [] hS ls (lv_sub hl [2, 3, 1, 0] rfl)
theorem kX_touches {pr : Program} {l : Launch} {en : Env} {R : Room} {s : State} {m : MethodId} {args : Array Value} {below : List Frame} {meth : Method} {cd : Code} {H : Heap} {locs : List Loc} {cells slots : Nat} {cc : ByteArray} {pc nL : Nat} {ls : Array Slot} {rest : List Value} {D : va_G} {dA : Nat → ClassId} {cn : Nat → Nat} {A : Nat → Prop} {pa : NM → Nat} {g : G} {T : va_W} {Q : State → Prop} (S : CallFix pr m cd cc nL s args lw_all RX1) (hKX : KX D dA cn A s) (hM : XS D dA cn A pa g T H) (hg : Sm g) (hS : va_S A s.heap H locs) (a1 : Nat) (a2 : Nat) (h1 : a1 < 1073741824) (h2 : a2 < 24) (hf : 3 + 1 ≤ R.frames) (hlo : 8 + (4 + 11) + 55 ≤ R.locals) (hsz : ls.size = nL) (hcat : (rest.map fun v => v.category).sum ≤ 8) (hdg : decode cc pc = .ok (.invokestatic 142, 3)) (hq1 : cells ≤ R.cells) (hq2 : slots ≤ R.slots) (kk : ∀ locs1 : List Loc, va_S A s.heap H locs1 → W pr l en R s m args below meth cd H locs1 cells slots Q (F0 m (pc + 3) ls (.int (nI (anyN 30 (fun e => decide (a1 / 2 ^ e &&& 1 = 1) && atE e a2)).toNat) :: rest))) : W pr l en R s m args below meth cd H locs cells slots Q (F0 m pc ls (.int (nI a2) :: .int (nI a1) :: rest)) :=
  zc_callS (n := 2) (As := [.int (nI a1), .int (nI a2)]) (rest := rest) S (cX_touches l hg a1 a2 h1 h2 H hM (Post := (fun v H1 => v = some (.int (nI (anyN 30 (fun e => decide (a1 / 2 ^ e &&& 1 = 1) && atE e a2)).toNat)) ∧ H1 = H)) ⟨rfl, rfl⟩) (lw_S q996 q997 q71 q998) (by decide +kernel) ⟨hf, hlo⟩ ⟨hq1, hq2⟩ KX_mv (zc_K KX_mv hKX hS) hS (fun _ h => h) rfl hsz rfl hcat hdg (fun v H1 locs1 hp _ _ hS1 => by obtain ⟨rfl, rfl⟩ := hp; exact kk locs1 hS1)
set_option maxHeartbeats 1000000 in
set_option maxRecDepth 100000 in
theorem cX_hasHarbour (l : Launch) {D : va_G} {dA : Nat → ClassId} {cn : Nat → Nat} {A : Nat → Prop} {pa : NM → Nat} {g : G} {T : va_W} (hg : Sm g) (a1 : Nat) (a2 : Nat) (h1 : a1 < 3) (h2 : a2 < 6) (h6 : ∀ c, c < 24 → g 2 c ≤ 6) (H0 : Heap) (hM : XS D dA cn A pa g T H0) {Post : Option Value → Heap → Prop} (hPost : Post (some (.int (nI (decide (own1 g (7 + 3 * a2) = a1 + 1) || decide (own1 g (8 + 3 * a2) = a1 + 1)).toNat))) H0) : Ct l yX1_hasHarbour (ws_ yX1_hasHarbour cX1_hasHarbour 3 (some .boolean)) (rmF 4 0 0 142) A (KX D dA cn A) [.ref (pa (0, 0)), .int (nI a1), .int (nI a2)] H0 Post := by
  refine zc_of RX1 rfl (by decide) (Nat.le_of_ble_eq_true rfl) ?_
  intro pr en s m args below meth cd S hr hlk hnm hh hKX ls hl
  have hS : va_S A s.heap H0 [] := zc_start hh
  have hg0 := hg
  have hx := S.1
  have hb := S.2.1
  have hown := S.2.2.2.1
  have hts := S.2.2.2.2
  have hK := hKX.1
  have hN := hKX.2.1.1
  have hl : lv_has ls 3 [(0, .ref (pa (0, 0))), (1, .int (nI a1)), (2, .int (nI a2))] := hl
  refine lv_aload_n hx hb dX1_hasHarbour_0 rfl (lv_at hl 0 rfl) ?_
  refine lv_bipush (v := nI 7) hx hb dX1_hasHarbour_1 zb_7 ?_
  refine lv_iconst (v := nI 3) hx hb dX1_hasHarbour_3 zi_3 ?_
  refine lv_iload_n hx hb dX1_hasHarbour_4 rfl (lv_at hl 2 rfl) ?_
  refine zr_mulN (a := 3) (b := a2) hx hb dX1_hasHarbour_5 ?_
  refine zr_addN (a := 7) (b := (3 * a2)) hx hb dX1_hasHarbour_6 ?_
  refine lv_iload_n hx hb dX1_hasHarbour_7 rfl (lv_at hl 1 rfl) ?_
  refine kX_isOf S hKX hM hg hS (7 + (3 * a2)) a1 (by first | omega | assumption | grind) (by first | omega | assumption | grind) (by first | omega | assumption | grind) (Nat.le_of_ble_eq_true rfl) (Nat.le_of_ble_eq_true rfl) hl.1 (Nat.le_of_ble_eq_true rfl) dX1_hasHarbour_8 (Nat.le_of_ble_eq_true rfl) (Nat.le_of_ble_eq_true rfl) (fun locs hS => ?_)
  refine zr_if_neB (b := decide (own1 g (7 + (3 * a2)) = a1 + 1)) (tgt := 28) hx hb dX1_hasHarbour_11 (by decide) (fun c_1 => ?_) (fun c_1 => ?_)
  · refine lv_iconst (v := nI 1) hx hb dX1_hasHarbour_28 zi_1 ?_
    refine lv_goto (tgt := 33) hx hb dX1_hasHarbour_29 (by decide) ?_
    exact zc_bret (decide (own1 g (7 + 3 * a2) = a1 + 1) || decide (own1 g (8 + 3 * a2) = a1 + 1)) (congrArg (fun z : Bool => nI z.toNat) (show (true : Bool) = (decide (own1 g (7 + 3 * a2) = a1 + 1) || decide (own1 g (8 + 3 * a2) = a1 + 1)) from by first | with_reducible rfl | (simp [c_1]; done) | (simp only [c_1] <;> simp []; done) | (simp [c_1, Bool.and_assoc]; done) | (simp [c_1, Bool.and_assoc, Bool.or_assoc]; done) | rfl | (simp [c_1]; omega) | (simp_all []; done))) hPost hS hx hb hr hlk (Nat.le_of_ble_eq_true rfl) (Nat.le_of_ble_eq_true rfl) dX1_hasHarbour_33
  · refine lv_aload_n hx hb dX1_hasHarbour_14 rfl (lv_at hl 0 rfl) ?_
    refine lv_bipush (v := nI 8) hx hb dX1_hasHarbour_15 zb_8 ?_
    refine lv_iconst (v := nI 3) hx hb dX1_hasHarbour_17 zi_3 ?_
    refine lv_iload_n hx hb dX1_hasHarbour_18 rfl (lv_at hl 2 rfl) ?_
    refine zr_mulN (a := 3) (b := a2) hx hb dX1_hasHarbour_19 ?_
    refine zr_addN (a := 8) (b := (3 * a2)) hx hb dX1_hasHarbour_20 ?_
    refine lv_iload_n hx hb dX1_hasHarbour_21 rfl (lv_at hl 1 rfl) ?_
    refine kX_isOf S hKX hM hg hS (8 + (3 * a2)) a1 (by first | omega | assumption | grind) (by first | omega | assumption | grind) (by first | omega | assumption | grind) (Nat.le_of_ble_eq_true rfl) (Nat.le_of_ble_eq_true rfl) hl.1 (Nat.le_of_ble_eq_true rfl) dX1_hasHarbour_22 (Nat.le_of_ble_eq_true rfl) (Nat.le_of_ble_eq_true rfl) (fun locs hS => ?_)
    refine zr_if_eqB (b := decide (own1 g (8 + (3 * a2)) = a1 + 1)) (tgt := 32) hx hb dX1_hasHarbour_25 (by decide) (fun c_2 => ?_) (fun c_2 => ?_)
    · refine lv_iconst (v := nI 0) hx hb dX1_hasHarbour_32 zi_0 ?_
      exact zc_bret (decide (own1 g (7 + 3 * a2) = a1 + 1) || decide (own1 g (8 + 3 * a2) = a1 + 1)) (congrArg (fun z : Bool => nI z.toNat) (show (false : Bool) = (decide (own1 g (7 + 3 * a2) = a1 + 1) || decide (own1 g (8 + 3 * a2) = a1 + 1)) from by first | with_reducible rfl | (simp [c_1, c_2]; done) | (simp only [c_1, c_2] <;> simp []; done) | (simp [c_1, c_2, Bool.and_assoc]; done) | (simp [c_1, c_2, Bool.and_assoc, Bool.or_assoc]; done) | rfl | (simp [c_1, c_2]; omega) | (simp_all []; done))) hPost hS hx hb hr hlk (Nat.le_of_ble_eq_true rfl) (Nat.le_of_ble_eq_true rfl) dX1_hasHarbour_33
    · refine lv_iconst (v := nI 1) hx hb dX1_hasHarbour_28 zi_1 ?_
      refine lv_goto (tgt := 33) hx hb dX1_hasHarbour_29 (by decide) ?_
      exact zc_bret (decide (own1 g (7 + 3 * a2) = a1 + 1) || decide (own1 g (8 + 3 * a2) = a1 + 1)) (congrArg (fun z : Bool => nI z.toNat) (show (true : Bool) = (decide (own1 g (7 + 3 * a2) = a1 + 1) || decide (own1 g (8 + 3 * a2) = a1 + 1)) from by first | with_reducible rfl | (simp [c_1, c_2]; done) | (simp only [c_1, c_2] <;> simp []; done) | (simp [c_1, c_2, Bool.and_assoc]; done) | (simp [c_1, c_2, Bool.and_assoc, Bool.or_assoc]; done) | rfl | (simp [c_1, c_2]; omega) | (simp_all []; done))) hPost hS hx hb hr hlk (Nat.le_of_ble_eq_true rfl) (Nat.le_of_ble_eq_true rfl) dX1_hasHarbour_33
theorem kX_hasHarbour {pr : Program} {l : Launch} {en : Env} {R : Room} {s : State} {m : MethodId} {args : Array Value} {below : List Frame} {meth : Method} {cd : Code} {H : Heap} {locs : List Loc} {cells slots : Nat} {cc : ByteArray} {pc nL : Nat} {ls : Array Slot} {rest : List Value} {D : va_G} {dA : Nat → ClassId} {cn : Nat → Nat} {A : Nat → Prop} {pa : NM → Nat} {g : G} {T : va_W} {Q : State → Prop} (S : CallFix pr m cd cc nL s args lw_all RX1) (hKX : KX D dA cn A s) (hM : XS D dA cn A pa g T H) (hg : Sm g) (hS : va_S A s.heap H locs) (a1 : Nat) (a2 : Nat) (h1 : a1 < 3) (h2 : a2 < 6) (h6 : ∀ c, c < 24 → g 2 c ≤ 6) (hf : 4 + 1 ≤ R.frames) (hlo : 8 + (3 + 11) + 142 ≤ R.locals) (hsz : ls.size = nL) (hcat : (rest.map fun v => v.category).sum ≤ 8) (hdg : decode cc pc = .ok (.invokevirtual 329, 3)) (hq1 : cells ≤ R.cells) (hq2 : slots ≤ R.slots) (kk : ∀ locs1 : List Loc, va_S A s.heap H locs1 → W pr l en R s m args below meth cd H locs1 cells slots Q (F0 m (pc + 3) ls (.int (nI (decide (own1 g (7 + 3 * a2) = a1 + 1) || decide (own1 g (8 + 3 * a2) = a1 + 1)).toNat) :: rest))) : W pr l en R s m args below meth cd H locs cells slots Q (F0 m pc ls (.int (nI a2) :: .int (nI a1) :: .ref (pa (0, 0)) :: rest)) :=
  zc_callV (n := 2) (As := [.int (nI a1), .int (nI a2)]) (rest := rest) S (cX_hasHarbour l hg a1 a2 h1 h2 h6 H hM (Post := (fun v H1 => v = some (.int (nI (decide (own1 g (7 + 3 * a2) = a1 + 1) || decide (own1 g (8 + 3 * a2) = a1 + 1)).toNat)) ∧ H1 = H)) ⟨rfl, rfl⟩) (lw_V q875 q877 qs31 q71 q878) (by decide +kernel) ⟨hf, hlo⟩ ⟨hq1, hq2⟩ (zx_recv hKX.1 hM) KX_mv (zc_K KX_mv hKX hS) hS (fun _ h => h) rfl hsz rfl hcat hdg (fun v H1 locs1 hp _ _ hS1 => by obtain ⟨rfl, rfl⟩ := hp; exact kk locs1 hS1)
