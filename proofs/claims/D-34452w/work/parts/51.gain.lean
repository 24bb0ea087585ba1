/-! Move.gain, and its call (printed by gen/mkgain.py) -/
def gnV (a b c d p k : Nat) : Int32 := if k = c then (if b = p then nI d else 0) - (if a = p then nI d else 0) else 0
set_option maxHeartbeats 1000000 in
set_option maxRecDepth 100000 in
theorem c_X5_gain (l : Launch) {D : va_G} {dA : Nat → ClassId} {cn : Nat → Nat} {A : Nat → Prop} {y a b c d p k : Nat} (ha : a < 1048576) (hb : b < 1048576) (hc : c < 1048576) (hp : p < 1048576) (hk : k < 1048576) (H0 : Heap) (hP : va_P D clA [(y, .inr (4, [.int (nI a), .int (nI b), .int (nI c), .int (nI d)]))] H0) {Post : Option Value → Heap → Prop} (hPost : Post (some (.int (gnV a b c d p k))) H0) : Ct l yX5_gain (ws_ yX5_gain cX5_gain 3 (some .int)) (rmF 1 0 0 14) A (KX D dA cn A) [.ref y, .int (nI p), .int (nI k)] H0 Post := by
  refine zc_of RX5 rfl (by decide) (Nat.le_of_ble_eq_true rfl) ?_
  intro pr en s m args below meth cd S hr hlk hnm hh hK ls hl
  have hS : va_S A s.heap H0 [] := zc_start hh
  have hx := S.1
  have hb9 := S.2.1
  have hown := S.2.2.2.1
  have hts := S.2.2.2.2
  have hl : lv_has ls 3 [(0, .ref y), (1, .int (nI p)), (2, .int (nI k))] := hl
  refine lv_iload_n hx hb9 dX5_gain_0 rfl (lv_at hl 2 rfl) ?_
  refine lv_aload_n hx hb9 dX5_gain_1 rfl (lv_at hl 0 rfl) ?_
  refine va_get (D := D) (ci := 4) (C := RX5) (T := TX5) (N := 4) hx hb9 hts in_X5 hown hK.1 hP 0 rfl rfl 2 (by decide) (hts _ q431) (fun _ h9 => h9) rfl dX5_gain_2 ?_
  refine zr_icmp_eqN (a := k) (b := c) (tgt := 12) hx hb9 (by omega) (by omega) dX5_gain_5 (by decide) (fun c1 => ?_) (fun c1 => ?_)
  · refine lv_aload_n hx hb9 dX5_gain_12 rfl (lv_at hl 0 rfl) ?_
    refine va_get (D := D) (ci := 4) (C := RX5) (T := TX5) (N := 4) hx hb9 hts in_X5 hown hK.1 hP 0 rfl rfl 1 (by decide) (hts _ q430) (fun _ h9 => h9) rfl dX5_gain_13 ?_
    refine lv_iload_n hx hb9 dX5_gain_16 rfl (lv_at hl 1 rfl) ?_
    refine zr_icmp_neN (a := b) (b := p) (tgt := 27) hx hb9 (by omega) (by omega) dX5_gain_17 (by decide) (fun c2 => ?_) (fun c2 => ?_)
    · refine lv_iconst (v := nI 0) hx hb9 dX5_gain_27 zi_0 ?_
      refine lv_aload_n hx hb9 dX5_gain_28 rfl (lv_at hl 0 rfl) ?_
      refine va_get (D := D) (ci := 4) (C := RX5) (T := TX5) (N := 4) hx hb9 hts in_X5 hown hK.1 hP 0 rfl rfl 0 (by decide) (hts _ q429) (fun _ h9 => h9) rfl dX5_gain_29 ?_
      refine lv_iload_n hx hb9 dX5_gain_32 rfl (lv_at hl 1 rfl) ?_
      refine zr_icmp_neN (a := a) (b := p) (tgt := 43) hx hb9 (by omega) (by omega) dX5_gain_33 (by decide) (fun c3 => ?_) (fun c3 => ?_)
      · refine lv_iconst (v := nI 0) hx hb9 dX5_gain_43 zi_0 ?_
        refine lv_isub hx hb9 dX5_gain_44 ?_
        exact zc_iret (by have q := hPost; unfold gnV at q; rw [if_pos c1, if_neg c2, if_neg c3] at q; exact q) hS hx hb9 hr hlk (Nat.zero_le _) (Nat.zero_le _) dX5_gain_45
      · refine lv_aload_n hx hb9 dX5_gain_36 rfl (lv_at hl 0 rfl) ?_
        refine va_get (D := D) (ci := 4) (C := RX5) (T := TX5) (N := 4) hx hb9 hts in_X5 hown hK.1 hP 0 rfl rfl 3 (by decide) (hts _ q432) (fun _ h9 => h9) rfl dX5_gain_37 ?_
        refine lv_goto (tgt := 44) hx hb9 dX5_gain_40 (by decide) ?_
        refine lv_isub hx hb9 dX5_gain_44 ?_
        exact zc_iret (by have q := hPost; unfold gnV at q; rw [if_pos c1, if_neg c2, if_pos c3] at q; exact q) hS hx hb9 hr hlk (Nat.zero_le _) (Nat.zero_le _) dX5_gain_45
    · refine lv_aload_n hx hb9 dX5_gain_20 rfl (lv_at hl 0 rfl) ?_
      refine va_get (D := D) (ci := 4) (C := RX5) (T := TX5) (N := 4) hx hb9 hts in_X5 hown hK.1 hP 0 rfl rfl 3 (by decide) (hts _ q432) (fun _ h9 => h9) rfl dX5_gain_21 ?_
      refine lv_goto (tgt := 28) hx hb9 dX5_gain_24 (by decide) ?_
      refine lv_aload_n hx hb9 dX5_gain_28 rfl (lv_at hl 0 rfl) ?_
      refine va_get (D := D) (ci := 4) (C := RX5) (T := TX5) (N := 4) hx hb9 hts in_X5 hown hK.1 hP 0 rfl rfl 0 (by decide) (hts _ q429) (fun _ h9 => h9) rfl dX5_gain_29 ?_
      refine lv_iload_n hx hb9 dX5_gain_32 rfl (lv_at hl 1 rfl) ?_
      refine zr_icmp_neN (a := a) (b := p) (tgt := 43) hx hb9 (by omega) (by omega) dX5_gain_33 (by decide) (fun c3 => ?_) (fun c3 => ?_)
      · refine lv_iconst (v := nI 0) hx hb9 dX5_gain_43 zi_0 ?_
        refine lv_isub hx hb9 dX5_gain_44 ?_
        exact zc_iret (by have q := hPost; unfold gnV at q; rw [if_pos c1, if_pos c2, if_neg c3] at q; exact q) hS hx hb9 hr hlk (Nat.zero_le _) (Nat.zero_le _) dX5_gain_45
      · refine lv_aload_n hx hb9 dX5_gain_36 rfl (lv_at hl 0 rfl) ?_
        refine va_get (D := D) (ci := 4) (C := RX5) (T := TX5) (N := 4) hx hb9 hts in_X5 hown hK.1 hP 0 rfl rfl 3 (by decide) (hts _ q432) (fun _ h9 => h9) rfl dX5_gain_37 ?_
        refine lv_goto (tgt := 44) hx hb9 dX5_gain_40 (by decide) ?_
        refine lv_isub hx hb9 dX5_gain_44 ?_
        exact zc_iret (by have q := hPost; unfold gnV at q; rw [if_pos c1, if_pos c2, if_pos c3] at q; exact q) hS hx hb9 hr hlk (Nat.zero_le _) (Nat.zero_le _) dX5_gain_45
  · refine lv_iconst (v := nI 0) hx hb9 dX5_gain_8 zi_0 ?_
    refine lv_goto (tgt := 45) hx hb9 dX5_gain_9 (by decide) ?_
    exact zc_iret (by have q := hPost; unfold gnV at q; rw [if_neg c1] at q; exact q) hS hx hb9 hr hlk (Nat.zero_le _) (Nat.zero_le _) dX5_gain_45
section ZG
variable {D : va_G} {dA : Nat → ClassId} {cn : Nat → Nat} {A : Nat → Prop} {H : Heap}
variable {p : Program} {l : Launch} {e : Env} {R : Room} {s : State} {m : MethodId} {args : Array Value} {below : List Frame} {meth : Method} {c : Code} {locs : List Loc} {cells slots : Nat} {Q : State → Prop}
variable {cc : ByteArray} {pc nL : Nat} {ls : Array Slot} {rest : List Value}
theorem kI_gain (S : CallFix p m c cc nL s args lw_all RX1) (hKX : KX D dA cn A s) (hS : va_S A s.heap H locs) {y a b c1 d : Nat} (hP : va_P D clA [(y, .inr (4, [.int (nI a), .int (nI b), .int (nI c1), .int (nI d)]))] H) (x k : Nat) (ha : a < 1048576) (hb : b < 1048576) (hc : c1 < 1048576) (hx : x < 1048576) (hk : k < 1048576) (hf : 1 + 1 ≤ R.frames) (hlo : 8 + (3 + 11) + 14 ≤ R.locals) (hsz : ls.size = nL) (hcat : (rest.map fun v => v.category).sum ≤ 8) (hq1 : cells ≤ R.cells) (hq2 : slots ≤ R.slots) (hdg : decode cc pc = .ok (.invokevirtual 353, 3))
    (kk : ∀ locs1 : List Loc, va_S A s.heap H locs1 → W p l e R s m args below meth c H locs1 cells slots Q (F0 m (pc + 3) ls (.int (gnV a b c1 d x k) :: rest))) : W p l e R s m args below meth c H locs cells slots Q (F0 m pc ls (.int (nI k) :: .int (nI x) :: .ref y :: rest)) :=
  zc_callV (n := 2) (As := [.int (nI x), .int (nI k)]) (rest := rest) S (c_X5_gain l ha hb hc hx hk H hP (Post := fun v H1 => v = some (.int (gnV a b c1 d x k)) ∧ H = H1) ⟨rfl, rfl⟩) (lw_V q950 q951 q952 q87 q953) (by decide +kernel) ⟨hf, hlo⟩ ⟨hq1, hq2⟩ (va_recv hKX.1 hP (ci := 4) (q0 := 0) rfl rfl) KX_mv (zc_K KX_mv hKX hS) hS (fun _ h => h) rfl hsz rfl hcat hdg (fun v H1 locs1 hp _ _ hS1 => by obtain ⟨rfl, rfl⟩ := hp; exact kk locs1 hS1)
end ZG
