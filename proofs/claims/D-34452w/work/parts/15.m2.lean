/-! THE MODEL: trails (printed by gen/m2.py) -/
theorem zk_neg (s : Nat) (h : s < 2 ^ 32) : -nI s = nI (2 ^ 32 - s) := by
  have h1 : nI s + nI (2 ^ 32 - s) = 0 := by
    rw [nI_add, show s + (2 ^ 32 - s) = 2 ^ 32 by omega]
    decide
  grind
def lowN (s : Nat) : Nat := s &&& (2 ^ 32 - s)
theorem zk_low (s : Nat) (h : s < 2 ^ 32) : nI s &&& -nI s = nI (lowN s) := by rw [zk_neg s h, zk_andN]; rfl
theorem lowN_le (s : Nat) : lowN s ≤ s := Nat.and_le_left
def rdsN (g : G) (set many c : Nat) : Nat := eu_sm many (fun k => (decide (set / 2 ^ k &&& 1 = 1) && atE (g 20 k) c).toNat)
theorem rdsN_le (g : G) (set many c : Nat) : rdsN g set many c ≤ many := sm_b _ _
def barN (g : G) (p c : Nat) : Bool := !decide (own1 g c = 0) && !decide (own1 g c = p + 1)
def endsN (g : G) (p set many i : Nat) : Nat := eu_sm i (fun c => if barN g p c = true then rdsN g set many c else rdsN g set many c % 2)
theorem endsN_le (g : G) (p set many i : Nat) : endsN g p set many i ≤ i * many := by
  have h : endsN g p set many i ≤ eu_sm i (fun _ => many) := eu_sm_le (fun c _ => by
    have h1 := rdsN_le g set many c
    by_cases h : barN g p c = true
    · rw [if_pos h]; exact h1
    · rw [if_neg h]; exact Nat.le_trans (Nat.mod_le _ _) h1)
  rw [eu_sm_const] at h
  exact h
def stpN (g : G) (p set many k r : Nat) : Nat := r ||| (if (decide (r / 2 ^ (k / many) &&& 1 = 1) && (decide (set / 2 ^ (k % many) &&& 1 = 1) && mMeet g p (g 20 (k / many)) (g 20 (k % many)))) = true then 1 * 2 ^ (k % many) else 0)
def passN (g : G) (p set many i r : Nat) : Nat := itN i (fun k r => stpN g p set many k r) r
def RI (g : G) (p set many i : Nat) : Nat := itN i (fun _ r => passN g p set many (many * many) r) (lowN set)
def sprN (g : G) (p set many : Nat) : Nat := RI g p set many 300
theorem stpN_lt {g : G} {p set many k r : Nat} (hm : 0 < many) (h : r < 2 ^ many) : stpN g p set many k r < 2 ^ many := by
  unfold stpN
  refine Nat.or_lt_two_pow h ?_
  split
  · rw [Nat.one_mul]; exact Nat.pow_lt_pow_right (by decide) (Nat.mod_lt _ hm)
  · exact Nat.pow_pos (by decide)
theorem stpN_ge (g : G) (p set many k r : Nat) : r ≤ stpN g p set many k r := Nat.left_le_or
theorem passN_lt {g : G} {p set many r : Nat} (hm : 0 < many) (h : r < 2 ^ many) : ∀ i, passN g p set many i r < 2 ^ many := by
  intro i
  induction i with
  | zero => exact h
  | succ i ih => exact stpN_lt hm ih
theorem passN_ge (g : G) (p set many r : Nat) : ∀ i, r ≤ passN g p set many i r := by
  intro i
  induction i with
  | zero => exact Nat.le_refl _
  | succ i ih => exact Nat.le_trans ih (stpN_ge _ _ _ _ _ _)
theorem RI_lt {g : G} {p set many : Nat} (hm : 0 < many) (h : set < 2 ^ many) : ∀ i, RI g p set many i < 2 ^ many := by
  intro i
  induction i with
  | zero => exact Nat.lt_of_le_of_lt (lowN_le _) h
  | succ i ih => exact passN_lt hm ih _
theorem RI_mono (g : G) (p set many i : Nat) : RI g p set many i ≤ RI g p set many (i + 1) := passN_ge _ _ _ _ _ _
theorem RI_stab {g : G} {p set many i : Nat} (h : RI g p set many (i + 1) = RI g p set many i) : ∀ d, RI g p set many (i + d) = RI g p set many i := by
  intro d
  induction d with
  | zero => rfl
  | succ d ih =>
    show passN g p set many (many * many) (RI g p set many (i + d)) = _
    rw [ih]
    exact h
theorem RI_end {g : G} {p set many i : Nat} (hi : i ≤ 300) (h0 : 0 < i) (h : RI g p set many (i - 1) = RI g p set many i) : RI g p set many i = sprN g p set many := by
  obtain ⟨j, rfl⟩ : ∃ j, i = j + 1 := ⟨i - 1, by omega⟩
  have h : RI g p set many j = RI g p set many (j + 1) := h
  have h2 := RI_stab h.symm (300 - j)
  rw [show j + (300 - j) = 300 by omega] at h2
  rw [← h, ← h2]; rfl
theorem sprN_lt {g : G} {p set many : Nat} (h0 : 0 < set) (h : set < 2 ^ many) : sprN g p set many < 2 ^ many := by
  rcases Nat.eq_zero_or_pos many with q | q
  · subst q; omega
  · exact RI_lt q h _
theorem lowN_pos {s : Nat} (h0 : 0 < s) (h : s < 256) : 0 < lowN s := by
  have key : ∀ s : Nat, s < 256 → 0 < s → 0 < lowN s := by decide +kernel
  exact key s h h0
/-- the player's roads written down: own -/
def gO (g : G) (p : Nat) : Nat → G
  | 0 => g
  | i + 1 => if g 3 i = p + 1 then gs (gO g p i) 20 (roadsN g p i) i else gO g p i
theorem roadsN_succ (g : G) (p i : Nat) : roadsN g p (i + 1) = roadsN g p i + (decide (g 3 i = p + 1)).toNat := rfl
theorem roadsN_mono {g : G} {p i j : Nat} (h : i ≤ j) : roadsN g p i ≤ roadsN g p j := by
  obtain ⟨d, rfl⟩ : ∃ d, j = i + d := ⟨j - i, by omega⟩
  induction d with
  | zero => exact Nat.le_refl _
  | succ d ih => exact Nat.le_trans (ih (by omega)) (by rw [← Nat.add_assoc, roadsN_succ]; omega)
theorem roadsN_lt {g : G} {p i : Nat} (h : g 3 i = p + 1) (hi : i < 30) : roadsN g p i < roadsN g p 30 := by
  have h1 : roadsN g p (i + 1) ≤ roadsN g p 30 := roadsN_mono (by omega)
  rw [roadsN_succ, h] at h1
  simp at h1
  omega
theorem gO_nf (g : G) (p : Nat) {f : Nat} (hf : f ≠ 20) : ∀ i j, gO g p i f j = g f j := by
  intro i
  induction i with
  | zero => intro j; rfl
  | succ i ih =>
    intro j
    show (if g 3 i = p + 1 then gs (gO g p i) 20 (roadsN g p i) i else gO g p i) f j = _
    split
    · rw [gs_nf _ hf]; exact ih j
    · exact ih j
theorem gO_own (g : G) (p : Nat) : ∀ i, i ≤ 30 → ∀ k, k < roadsN g p i → gO g p i 20 k < 30 := by
  intro i
  induction i with
  | zero => intro _ k hk; exact absurd hk (Nat.not_lt_zero _)
  | succ i ih =>
    intro hi k hk
    rw [roadsN_succ] at hk
    show (if g 3 i = p + 1 then gs (gO g p i) 20 (roadsN g p i) i else gO g p i) 20 k < 30
    split
    · rename_i h
      by_cases hkk : k = roadsN g p i
      · subst hkk; rw [gs_eq]; omega
      · rw [gs_ni _ hkk]
        refine ih (by omega) k ?_
        simp [h] at hk; omega
    · rename_i h
      refine ih (by omega) k ?_
      simp [h] at hk; exact hk
/-- the best set before the set s -/
def bestN (g : G) (p m : Nat) : Nat → Nat
  | 0 => 0
  | s + 1 => if (decide (bestN g p m s < onesN s 8) && (!decide (2 < endsN g p s m 24) && decide (sprN g p s m = s))) = true then onesN s 8 else bestN g p m s
theorem bestN_le (g : G) (p m : Nat) : ∀ s, bestN g p m s ≤ 8 := by
  intro s
  induction s with
  | zero => exact Nat.zero_le _
  | succ s ih =>
    show (if _ then _ else _) ≤ 8
    split
    · exact onesN_le _ _
    · exact ih
def trailN (g : G) (p : Nat) : Nat := bestN (gO g p 30) p (roadsN g p 30) (2 ^ roadsN g p 30)
theorem trailN_le (g : G) (p : Nat) : trailN g p ≤ 8 := bestN_le _ _ _ _
set_option maxHeartbeats 1000000 in
set_option maxRecDepth 100000 in
theorem cM_ends (l : Launch) {D : va_G} {dA : Nat → ClassId} {A : Nat → Prop} {ad : Nat → Nat} {g : G} (hg : Sm g) (a1 : Nat) (a2 : Nat) (a3 : Nat) (h1 : a1 < 3) (h2 : a2 < 256) (h3 : a3 ≤ 8) (h4 : ∀ k, k < a3 → g 20 k < 30) (H0 : Heap) (hM : MS D dA A ad g H0) {Post : Option Value → Heap → Prop} (hPost : Post (some (.int (nI (endsN g a1 a2 a3 24)))) H0) : Ct l yX3_ends (ws_ yX3_ends cX3_ends 8 (some .int)) (rmF 3 0 0 53) A (KT D dA) [.ref (ad 0), .int (nI a1), .int (nI a2), .int (nI a3)] H0 Post := by
  refine zc_of RX3 rfl (by decide) (Nat.le_of_ble_eq_true rfl) ?_
  intro pr en s m args below meth cd S hr hlk hnm hh hK ls hl
  have hS : va_S A s.heap H0 [] := zc_start hh
  have hg0 := hg
  have hx := S.1
  have hb := S.2.1
  have hown := S.2.2.2.1
  have hts := S.2.2.2.2
  have hl : lv_has ls 8 [(0, .ref (ad 0)), (1, .int (nI a1)), (2, .int (nI a2)), (3, .int (nI a3))] := hl
  refine lv_iconst (v := nI 0) hx hb dX3_ends_0 zi_0 ?_
  refine lv_istore (lv' := [(4, .int (nI 0)), (0, .ref (ad 0)), (1, .int (nI a1)), (2, .int (nI a2)), (3, .int (nI a3))]) hx hb dX3_ends_1 hl (by decide) rfl (fun ls hl => ?_)
  refine lv_iconst (v := nI 0) hx hb dX3_ends_3 zi_0 ?_
  refine lv_istore (lv' := [(5, .int (nI 0)), (4, .int (nI 0)), (0, .ref (ad 0)), (1, .int (nI a1)), (2, .int (nI a2)), (3, .int (nI a3))]) hx hb dX3_ends_4 hl (by decide) rfl (fun ls hl => ?_)
  have L_6 : ∀ (n_6 : Nat) (i : Nat), i ≤ 24 → 24 - i < n_6 → ∀ x4_6 : Int32, x4_6 = nI (endsN g a1 a2 a3 i) → ∀ (locs : List Loc), va_S A s.heap H0 locs → ∀ ls : Array Slot, lv_has ls 8 [(0, .ref (ad 0)), (1, .int (nI a1)), (2, .int (nI a2)), (3, .int (nI a3)), (4, .int x4_6), (5, .int (nI i))] → W pr l en (rmF 3 0 0 53) s m args below meth cd H0 locs 0 0 (MQ below (zc_Q Post A) args s 0 0 A) (F0 m 6 ls []) := by
    intro n_6
    induction n_6 with
    | zero => intro i hi_6 hm_6; exact absurd hm_6 (Nat.not_lt_zero _)
    | succ n_6 ih_6 =>
      intro i hi_6 hm_6 x4_6 ex4_6 locs hS ls hl
      subst ex4_6
      refine lv_iload hx hb dX3_ends_6 (lv_at hl 5 rfl) ?_
      refine lv_bipush (v := nI 24) hx hb dX3_ends_8 zb_24 ?_
      refine zr_icmp_geN (a := i) (b := 24) (tgt := 118) hx hb (by omega) (by omega) dX3_ends_10 (by decide) (fun c_1 => ?_) (fun c_1 => ?_)
      · have e_i : 24 = i := by omega
        subst e_i
        refine lv_iload hx hb dX3_ends_118 (lv_at hl 4 rfl) ?_
        exact zc_nret (nI (endsN g a1 a2 a3 24)) rfl hPost hS hx hb hr hlk (Nat.zero_le _) (Nat.zero_le _) dX3_ends_120
      · refine lv_iconst (v := nI 0) hx hb dX3_ends_13 zi_0 ?_
        refine lv_istore (lv' := [(6, .int (nI 0)), (0, .ref (ad 0)), (1, .int (nI a1)), (2, .int (nI a2)), (3, .int (nI a3)), (4, .int (nI (endsN g a1 a2 a3 i))), (5, .int (nI i))]) hx hb dX3_ends_14 hl (by decide) rfl (fun ls hl => ?_)
        refine lv_iconst (v := nI 0) hx hb dX3_ends_16 zi_0 ?_
        refine lv_istore (lv' := [(7, .int (nI 0)), (6, .int (nI 0)), (0, .ref (ad 0)), (1, .int (nI a1)), (2, .int (nI a2)), (3, .int (nI a3)), (4, .int (nI (endsN g a1 a2 a3 i))), (5, .int (nI i))]) hx hb dX3_ends_17 hl (by decide) rfl (fun ls hl => ?_)
        have L_19 : ∀ (n_19 : Nat) (k : Nat), k ≤ a3 → a3 - k < n_19 → ∀ x6_19 : Int32, x6_19 = nI (eu_sm k (fun z => (decide (a2 / 2 ^ z &&& 1 = 1) && atE (g 20 z) i).toNat)) → ∀ (locs : List Loc), va_S A s.heap H0 locs → ∀ ls : Array Slot, lv_has ls 8 [(0, .ref (ad 0)), (1, .int (nI a1)), (2, .int (nI a2)), (3, .int (nI a3)), (4, .int (nI (endsN g a1 a2 a3 i))), (5, .int (nI i)), (6, .int x6_19), (7, .int (nI k))] → W pr l en (rmF 3 0 0 53) s m args below meth cd H0 locs 0 0 (MQ below (zc_Q Post A) args s 0 0 A) (F0 m 19 ls []) := by
          intro n_19
          induction n_19 with
          | zero => intro k hi_19 hm_19; exact absurd hm_19 (Nat.not_lt_zero _)
          | succ n_19 ih_19 =>
            intro k hi_19 hm_19 x6_19 ex6_19 locs hS ls hl
            subst ex6_19
            refine lv_iload hx hb dX3_ends_19 (lv_at hl 7 rfl) ?_
            refine lv_iload_n hx hb dX3_ends_21 rfl (lv_at hl 3 rfl) ?_
            refine zr_icmp_geN (a := k) (b := a3) (tgt := 66) hx hb (by omega) (by omega) dX3_ends_22 (by decide) (fun c_2 => ?_) (fun c_2 => ?_)
            · have e_k : a3 = k := by omega
              subst e_k
              have hr9 := rdsN_le g a2 a3 i
              have hr8 : eu_sm a3 (fun z => (decide (a2 / 2 ^ z &&& 1 = 1) && atE (g 20 z) i).toNat) = rdsN g a2 a3 i := rfl
              rw [hr8] at hl
              refine lv_aload_n hx hb dX3_ends_66 rfl (lv_at hl 0 rfl) ?_
              refine lv_iload hx hb dX3_ends_67 (lv_at hl 5 rfl) ?_
              refine kM_ownerAt S hK hM hg hS i (by first | omega | assumption | grind) (Nat.le_of_ble_eq_true rfl) (Nat.le_of_ble_eq_true rfl) hl.1 (Nat.le_of_ble_eq_true rfl) dX3_ends_69 (Nat.zero_le _) (Nat.zero_le _) (fun locs hS => ?_)
              have f69_0 : own1 g i < 4 := own1_lt _ _
              refine lv_iconst (v := mI 0) hx hb dX3_ends_72 zi_m1 ?_
              have J_91 : ∀ yS0_91 : Int32, yS0_91 = nI (!decide ((own1 g i) = 0) && (!decide ((own1 g i) = (a1 + 1)))).toNat → ∀ (locs : List Loc), va_S A s.heap H0 locs → ∀ ls : Array Slot, lv_has ls 8 [(0, .ref (ad 0)), (1, .int (nI a1)), (2, .int (nI a2)), (3, .int (nI a3)), (4, .int (nI (endsN g a1 a2 a3 i))), (5, .int (nI i)), (6, .int (nI (rdsN g a2 a3 i)))] → W pr l en (rmF 3 0 0 53) s m args below meth cd H0 locs 0 0 (MQ below (zc_Q Post A) args s 0 0 A) (F0 m 91 ls [.int yS0_91]) := by
                intro yS0_91 eyS0_91 locs hS ls hl
                subst eyS0_91
                refine lv_istore (lv' := [(7, .int (nI (!decide ((own1 g i) = 0) && (!decide ((own1 g i) = (a1 + 1)))).toNat)), (0, .ref (ad 0)), (1, .int (nI a1)), (2, .int (nI a2)), (3, .int (nI a3)), (4, .int (nI (endsN g a1 a2 a3 i))), (5, .int (nI i)), (6, .int (nI (rdsN g a2 a3 i)))]) hx hb dX3_ends_91 hl (by decide) rfl (fun ls hl => ?_)
                refine lv_iload hx hb dX3_ends_93 (lv_at hl 5 rfl) ?_
                refine lv_iload hx hb dX3_ends_95 (lv_at hl 0 rfl) ?_
                have J_109 : ∀ yS0_109 : Int32, yS0_109 = nI ((if (!decide ((own1 g i) = 0) && (!decide ((own1 g i) = (a1 + 1)))) = true then rdsN g a2 a3 i else (rdsN g a2 a3 i) % 2)) → ∀ (locs : List Loc), va_S A s.heap H0 locs → ∀ ls : Array Slot, lv_has ls 8 [(0, .ref (ad 0)), (1, .int (nI a1)), (2, .int (nI a2)), (3, .int (nI a3)), (5, .int (nI i))] → W pr l en (rmF 3 0 0 53) s m args below meth cd H0 locs 0 0 (MQ below (zc_Q Post A) args s 0 0 A) (F0 m 109 ls [.int yS0_109, .int (nI (endsN g a1 a2 a3 i))]) := by
                  intro yS0_109 eyS0_109 locs hS ls hl
                  subst eyS0_109
                  refine zr_addN (a := (endsN g a1 a2 a3 i)) (b := ((if (!decide ((own1 g i) = 0) && (!decide ((own1 g i) = (a1 + 1)))) = true then rdsN g a2 a3 i else (rdsN g a2 a3 i) % 2))) hx hb dX3_ends_109 ?_
                  refine lv_istore (lv' := [(4, .int (nI ((endsN g a1 a2 a3 i) + ((if (!decide ((own1 g i) = 0) && (!decide ((own1 g i) = (a1 + 1)))) = true then rdsN g a2 a3 i else (rdsN g a2 a3 i) % 2))))), (0, .ref (ad 0)), (1, .int (nI a1)), (2, .int (nI a2)), (3, .int (nI a3)), (5, .int (nI i))]) hx hb dX3_ends_110 hl (by decide) rfl (fun ls hl => ?_)
                  refine lv_iinc (v := nI (i + 1)) (lv' := [(5, .int (nI (i + 1))), (4, .int (nI ((endsN g a1 a2 a3 i) + ((if (!decide ((own1 g i) = 0) && (!decide ((own1 g i) = (a1 + 1)))) = true then rdsN g a2 a3 i else (rdsN g a2 a3 i) % 2))))), (0, .ref (ad 0)), (1, .int (nI a1)), (2, .int (nI a2)), (3, .int (nI a3))]) hx hb dX3_ends_112 hl (k := 5) rfl (zk_inc _) (by decide) rfl (fun ls hl => ?_)
                  refine lv_goto (tgt := 6) hx hb dX3_ends_115 (by decide) ?_
                  exact ih_6 (i + 1) (by first | omega | assumption | (simp; done) | grind) (by omega) _ (congrArg nI (show ((endsN g a1 a2 a3 i) + ((if (!decide ((own1 g i) = 0) && (!decide ((own1 g i) = (a1 + 1)))) = true then rdsN g a2 a3 i else (rdsN g a2 a3 i) % 2)) : Nat) = (endsN g a1 a2 a3 (i + 1)) from by first | with_reducible rfl | (simp [c_1, c_2, endsN, eu_sm, barN, rdsN]; done) | (simp only [c_1, c_2] <;> simp [endsN, eu_sm, barN, rdsN]; done) | (simp only [endsN, eu_sm, barN, rdsN, c_1, c_2] <;> simp [endsN, eu_sm, barN, rdsN]; done) | (simp [c_1, c_2, endsN, eu_sm, barN, rdsN, Bool.and_assoc]; done) | (simp [c_1, c_2, endsN, eu_sm, barN, rdsN, Bool.and_assoc, Bool.or_assoc]; done) | rfl | (simp [c_1, c_2, endsN, eu_sm, barN, rdsN]; omega))) locs hS ls (lv_sub hl [2, 3, 4, 5, 1, 0] rfl)
                refine zr_if_eqB (b := !decide ((own1 g i) = 0) && (!decide ((own1 g i) = (a1 + 1)))) (tgt := 105) hx hb dX3_ends_97 (by decide) (fun c_6 => ?_) (fun c_6 => ?_)
                · refine lv_iload hx hb dX3_ends_105 (lv_at hl 7 rfl) ?_
                  refine lv_iconst (v := nI 2) hx hb dX3_ends_107 zi_2 ?_
                  refine zr_remN (a := (rdsN g a2 a3 i)) (b := 2) hx hb (by omega) (by omega) (by omega) dX3_ends_108 ?_
                  exact J_109 _ (congrArg nI (show ((rdsN g a2 a3 i) % 2 : Nat) = ((if (!decide ((own1 g i) = 0) && (!decide ((own1 g i) = (a1 + 1)))) = true then rdsN g a2 a3 i else (rdsN g a2 a3 i) % 2)) from by first | with_reducible rfl | (simp [c_1, c_2, c_6, endsN, eu_sm, barN, rdsN]; done) | (simp only [c_1, c_2, c_6] <;> simp [endsN, eu_sm, barN, rdsN]; done) | (simp only [endsN, eu_sm, barN, rdsN, c_1, c_2, c_6] <;> simp [endsN, eu_sm, barN, rdsN]; done) | (simp [c_1, c_2, c_6, endsN, eu_sm, barN, rdsN, Bool.and_assoc]; done) | (simp [c_1, c_2, c_6, endsN, eu_sm, barN, rdsN, Bool.and_assoc, Bool.or_assoc]; done) | rfl | (simp [c_1, c_2, c_6, endsN, eu_sm, barN, rdsN]; omega))) locs hS ls (lv_sub hl [1, 2, 3, 4, 6] rfl)
                · refine lv_iload hx hb dX3_ends_100 (lv_at hl 7 rfl) ?_
                  refine lv_goto (tgt := 109) hx hb dX3_ends_102 (by decide) ?_
                  exact J_109 _ (congrArg nI (show (rdsN g a2 a3 i : Nat) = ((if (!decide ((own1 g i) = 0) && (!decide ((own1 g i) = (a1 + 1)))) = true then rdsN g a2 a3 i else (rdsN g a2 a3 i) % 2)) from by first | with_reducible rfl | (simp [c_1, c_2, c_6, endsN, eu_sm, barN, rdsN]; done) | (simp only [c_1, c_2, c_6] <;> simp [endsN, eu_sm, barN, rdsN]; done) | (simp only [endsN, eu_sm, barN, rdsN, c_1, c_2, c_6] <;> simp [endsN, eu_sm, barN, rdsN]; done) | (simp [c_1, c_2, c_6, endsN, eu_sm, barN, rdsN, Bool.and_assoc]; done) | (simp [c_1, c_2, c_6, endsN, eu_sm, barN, rdsN, Bool.and_assoc, Bool.or_assoc]; done) | rfl | (simp [c_1, c_2, c_6, endsN, eu_sm, barN, rdsN]; omega))) locs hS ls (lv_sub hl [1, 2, 3, 4, 6] rfl)
              refine zr_icmp_eqM (a := (own1 g i)) (b := 0) (tgt := 90) hx hb (by omega) (by omega) dX3_ends_73 (by decide) (fun c_7 => ?_) (fun c_7 => ?_)
              · refine lv_iconst (v := nI 0) hx hb dX3_ends_90 zi_0 ?_
                exact J_91 _ (congrArg (fun z : Bool => nI z.toNat) (show (false : Bool) = (!decide ((own1 g i) = 0) && (!decide ((own1 g i) = (a1 + 1)))) from by first | with_reducible rfl | (simp [c_1, c_2, c_7, endsN, eu_sm, barN, rdsN]; done) | (simp only [c_1, c_2, c_7] <;> simp [endsN, eu_sm, barN, rdsN]; done) | (simp only [endsN, eu_sm, barN, rdsN, c_1, c_2, c_7] <;> simp [endsN, eu_sm, barN, rdsN]; done) | (simp [c_1, c_2, c_7, endsN, eu_sm, barN, rdsN, Bool.and_assoc]; done) | (simp [c_1, c_2, c_7, endsN, eu_sm, barN, rdsN, Bool.and_assoc, Bool.or_assoc]; done) | rfl | (simp [c_1, c_2, c_7, endsN, eu_sm, barN, rdsN]; omega))) locs hS ls (lv_sub hl [0, 1, 2, 3, 4, 5, 6] rfl)
              · refine lv_aload_n hx hb dX3_ends_76 rfl (lv_at hl 0 rfl) ?_
                refine lv_iload hx hb dX3_ends_77 (lv_at hl 5 rfl) ?_
                refine kM_ownerAt S hK hM hg hS i (by first | omega | assumption | grind) (Nat.le_of_ble_eq_true rfl) (Nat.le_of_ble_eq_true rfl) hl.1 (Nat.le_of_ble_eq_true rfl) dX3_ends_79 (Nat.zero_le _) (Nat.zero_le _) (fun locs hS => ?_)
                have f79_0 : own1 g i < 4 := own1_lt _ _
                refine lv_iload_n hx hb dX3_ends_82 rfl (lv_at hl 1 rfl) ?_
                rw [← mI_succ a1]
                refine zr_icmp_eqM (a := (own1 g i)) (b := (a1 + 1)) (tgt := 90) hx hb (by omega) (by omega) dX3_ends_83 (by decide) (fun c_8 => ?_) (fun c_8 => ?_)
                · refine lv_iconst (v := nI 0) hx hb dX3_ends_90 zi_0 ?_
                  exact J_91 _ (congrArg (fun z : Bool => nI z.toNat) (show (false : Bool) = (!decide ((own1 g i) = 0) && (!decide ((own1 g i) = (a1 + 1)))) from by first | with_reducible rfl | (simp [c_1, c_2, c_7, c_8, endsN, eu_sm, barN, rdsN]; done) | (simp only [c_1, c_2, c_7, c_8] <;> simp [endsN, eu_sm, barN, rdsN]; done) | (simp only [endsN, eu_sm, barN, rdsN, c_1, c_2, c_7, c_8] <;> simp [endsN, eu_sm, barN, rdsN]; done) | (simp [c_1, c_2, c_7, c_8, endsN, eu_sm, barN, rdsN, Bool.and_assoc]; done) | (simp [c_1, c_2, c_7, c_8, endsN, eu_sm, barN, rdsN, Bool.and_assoc, Bool.or_assoc]; done) | rfl | (simp [c_1, c_2, c_7, c_8, endsN, eu_sm, barN, rdsN]; omega))) locs hS ls (lv_sub hl [0, 1, 2, 3, 4, 5, 6] rfl)
                · refine lv_iconst (v := nI 1) hx hb dX3_ends_86 zi_1 ?_
                  refine lv_goto (tgt := 91) hx hb dX3_ends_87 (by decide) ?_
                  exact J_91 _ (congrArg (fun z : Bool => nI z.toNat) (show (true : Bool) = (!decide ((own1 g i) = 0) && (!decide ((own1 g i) = (a1 + 1)))) from by first | with_reducible rfl | (simp [c_1, c_2, c_7, c_8, endsN, eu_sm, barN, rdsN]; done) | (simp only [c_1, c_2, c_7, c_8] <;> simp [endsN, eu_sm, barN, rdsN]; done) | (simp only [endsN, eu_sm, barN, rdsN, c_1, c_2, c_7, c_8] <;> simp [endsN, eu_sm, barN, rdsN]; done) | (simp [c_1, c_2, c_7, c_8, endsN, eu_sm, barN, rdsN, Bool.and_assoc]; done) | (simp [c_1, c_2, c_7, c_8, endsN, eu_sm, barN, rdsN, Bool.and_assoc, Bool.or_assoc]; done) | rfl | (simp [c_1, c_2, c_7, c_8, endsN, eu_sm, barN, rdsN]; omega))) locs hS ls (lv_sub hl [0, 1, 2, 3, 4, 5, 6] rfl)
            · have hk4 := h4 k (by omega)
              have hd9 : a2 / 2 ^ k ≤ a2 := Nat.div_le_self _ _
              have hd8 : (a2 / 2 ^ k &&& 1) ≤ 1 := Nat.and_le_right
              refine lv_iload hx hb dX3_ends_25 (lv_at hl 6 rfl) ?_
              refine lv_iload_n hx hb dX3_ends_27 rfl (lv_at hl 2 rfl) ?_
              refine lv_iload hx hb dX3_ends_28 (lv_at hl 7 rfl) ?_
              refine zr_shrN (a := a2) (b := k) hx hb (by omega) (by omega) dX3_ends_30 ?_
              refine lv_iconst (v := nI 1) hx hb dX3_ends_31 zi_1 ?_
              refine zr_andN (a := (a2 / 2 ^ k)) (b := 1) hx hb dX3_ends_32 ?_
              refine lv_iconst (v := nI 1) hx hb dX3_ends_33 zi_1 ?_
              have J_57 : ∀ yS0_57 : Int32, yS0_57 = nI (decide (((a2 / 2 ^ k) &&& 1) = 1) && ((atE (g 20 k) i))).toNat → ∀ (locs : List Loc), va_S A s.heap H0 locs → ∀ ls : Array Slot, lv_has ls 8 [(0, .ref (ad 0)), (1, .int (nI a1)), (2, .int (nI a2)), (3, .int (nI a3)), (4, .int (nI (endsN g a1 a2 a3 i))), (5, .int (nI i)), (7, .int (nI k))] → W pr l en (rmF 3 0 0 53) s m args below meth cd H0 locs 0 0 (MQ below (zc_Q Post A) args s 0 0 A) (F0 m 57 ls [.int yS0_57, .int (nI (eu_sm k (fun z => (decide (a2 / 2 ^ z &&& 1 = 1) && atE (g 20 z) i).toNat)))]) := by
                intro yS0_57 eyS0_57 locs hS ls hl
                subst eyS0_57
                refine zr_addN (a := (eu_sm k (fun z => (decide (a2 / 2 ^ z &&& 1 = 1) && atE (g 20 z) i).toNat))) (b := ((decide (((a2 / 2 ^ k) &&& 1) = 1) && ((atE (g 20 k) i))).toNat)) hx hb dX3_ends_57 ?_
                refine lv_istore (lv' := [(6, .int (nI ((eu_sm k (fun z => (decide (a2 / 2 ^ z &&& 1 = 1) && atE (g 20 z) i).toNat)) + ((decide (((a2 / 2 ^ k) &&& 1) = 1) && ((atE (g 20 k) i))).toNat)))), (0, .ref (ad 0)), (1, .int (nI a1)), (2, .int (nI a2)), (3, .int (nI a3)), (4, .int (nI (endsN g a1 a2 a3 i))), (5, .int (nI i)), (7, .int (nI k))]) hx hb dX3_ends_58 hl (by decide) rfl (fun ls hl => ?_)
                refine lv_iinc (v := nI (k + 1)) (lv' := [(7, .int (nI (k + 1))), (6, .int (nI ((eu_sm k (fun z => (decide (a2 / 2 ^ z &&& 1 = 1) && atE (g 20 z) i).toNat)) + ((decide (((a2 / 2 ^ k) &&& 1) = 1) && ((atE (g 20 k) i))).toNat)))), (0, .ref (ad 0)), (1, .int (nI a1)), (2, .int (nI a2)), (3, .int (nI a3)), (4, .int (nI (endsN g a1 a2 a3 i))), (5, .int (nI i))]) hx hb dX3_ends_60 hl (k := 7) rfl (zk_inc _) (by decide) rfl (fun ls hl => ?_)
                refine lv_goto (tgt := 19) hx hb dX3_ends_63 (by decide) ?_
                exact ih_19 (k + 1) (by first | omega | assumption | (simp; done) | grind) (by omega) _ (congrArg nI (show ((eu_sm k (fun z => (decide (a2 / 2 ^ z &&& 1 = 1) && atE (g 20 z) i).toNat)) + ((decide (((a2 / 2 ^ k) &&& 1) = 1) && ((atE (g 20 k) i))).toNat) : Nat) = (eu_sm (k + 1) (fun z => (decide (a2 / 2 ^ z &&& 1 = 1) && atE (g 20 z) i).toNat)) from by first | with_reducible rfl | (simp [c_1, c_2, endsN, eu_sm, barN, rdsN]; done) | (simp only [c_1, c_2] <;> simp [endsN, eu_sm, barN, rdsN]; done) | (simp only [endsN, eu_sm, barN, rdsN, c_1, c_2] <;> simp [endsN, eu_sm, barN, rdsN]; done) | (simp [c_1, c_2, endsN, eu_sm, barN, rdsN, Bool.and_assoc]; done) | (simp [c_1, c_2, endsN, eu_sm, barN, rdsN, Bool.and_assoc, Bool.or_assoc]; done) | rfl | (simp [c_1, c_2, endsN, eu_sm, barN, rdsN]; omega))) locs hS ls (lv_sub hl [2, 3, 4, 5, 6, 7, 1, 0] rfl)
              refine zr_icmp_neN (a := ((a2 / 2 ^ k) &&& 1)) (b := 1) (tgt := 56) hx hb (by omega) (by omega) dX3_ends_34 (by decide) (fun c_12 => ?_) (fun c_12 => ?_)
              · refine lv_iconst (v := nI 0) hx hb dX3_ends_56 zi_0 ?_
                exact J_57 _ (congrArg (fun z : Bool => nI z.toNat) (show (false : Bool) = (decide (((a2 / 2 ^ k) &&& 1) = 1) && ((atE (g 20 k) i))) from by first | with_reducible rfl | (simp [c_1, c_2, c_12, endsN, eu_sm, barN, rdsN]; done) | (simp only [c_1, c_2, c_12] <;> simp [endsN, eu_sm, barN, rdsN]; done) | (simp only [endsN, eu_sm, barN, rdsN, c_1, c_2, c_12] <;> simp [endsN, eu_sm, barN, rdsN]; done) | (simp [c_1, c_2, c_12, endsN, eu_sm, barN, rdsN, Bool.and_assoc]; done) | (simp [c_1, c_2, c_12, endsN, eu_sm, barN, rdsN, Bool.and_assoc, Bool.or_assoc]; done) | rfl | (simp [c_1, c_2, c_12, endsN, eu_sm, barN, rdsN]; omega))) locs hS ls (lv_sub hl [0, 1, 2, 3, 4, 5, 7] rfl)
              · refine lv_aload_n hx hb dX3_ends_37 rfl (lv_at hl 0 rfl) ?_
                refine gM_own S hK hM dX3_ends_38 ?_
                refine lv_iload hx hb dX3_ends_41 (lv_at hl 7 rfl) ?_
                refine lM_own S hK hM k (by omega) (g 20 k) rfl dX3_ends_43 ?_
                have hb_13 : g 20 k < 1048576 := by first | exact hg 20 k | exact hg0 _ _ | (have := hg 20 k; omega) | omega
                refine lv_iload hx hb dX3_ends_44 (lv_at hl 5 rfl) ?_
                refine kM_hasCorner S hK hM hg hS (g 20 k) i (by first | omega | assumption | grind) (by first | omega | assumption | grind) (Nat.le_of_ble_eq_true rfl) (Nat.le_of_ble_eq_true rfl) hl.1 (Nat.le_of_ble_eq_true rfl) dX3_ends_46 (Nat.zero_le _) (Nat.zero_le _) (fun locs hS => ?_)
                refine zr_if_eqB (b := atE (g 20 k) i) (tgt := 56) hx hb dX3_ends_49 (by decide) (fun c_14 => ?_) (fun c_14 => ?_)
                · refine lv_iconst (v := nI 0) hx hb dX3_ends_56 zi_0 ?_
                  exact J_57 _ (congrArg (fun z : Bool => nI z.toNat) (show (false : Bool) = (decide (((a2 / 2 ^ k) &&& 1) = 1) && ((atE (g 20 k) i))) from by first | with_reducible rfl | (simp [c_1, c_2, c_12, c_14, endsN, eu_sm, barN, rdsN]; done) | (simp only [c_1, c_2, c_12, c_14] <;> simp [endsN, eu_sm, barN, rdsN]; done) | (simp only [endsN, eu_sm, barN, rdsN, c_1, c_2, c_12, c_14] <;> simp [endsN, eu_sm, barN, rdsN]; done) | (simp [c_1, c_2, c_12, c_14, endsN, eu_sm, barN, rdsN, Bool.and_assoc]; done) | (simp [c_1, c_2, c_12, c_14, endsN, eu_sm, barN, rdsN, Bool.and_assoc, Bool.or_assoc]; done) | rfl | (simp [c_1, c_2, c_12, c_14, endsN, eu_sm, barN, rdsN]; omega))) locs hS ls (lv_sub hl [0, 1, 2, 3, 4, 5, 7] rfl)
                · refine lv_iconst (v := nI 1) hx hb dX3_ends_52 zi_1 ?_
                  refine lv_goto (tgt := 57) hx hb dX3_ends_53 (by decide) ?_
                  exact J_57 _ (congrArg (fun z : Bool => nI z.toNat) (show (true : Bool) = (decide (((a2 / 2 ^ k) &&& 1) = 1) && ((atE (g 20 k) i))) from by first | with_reducible rfl | (simp [c_1, c_2, c_12, c_14, endsN, eu_sm, barN, rdsN]; done) | (simp only [c_1, c_2, c_12, c_14] <;> simp [endsN, eu_sm, barN, rdsN]; done) | (simp only [endsN, eu_sm, barN, rdsN, c_1, c_2, c_12, c_14] <;> simp [endsN, eu_sm, barN, rdsN]; done) | (simp [c_1, c_2, c_12, c_14, endsN, eu_sm, barN, rdsN, Bool.and_assoc]; done) | (simp [c_1, c_2, c_12, c_14, endsN, eu_sm, barN, rdsN, Bool.and_assoc, Bool.or_assoc]; done) | rfl | (simp [c_1, c_2, c_12, c_14, endsN, eu_sm, barN, rdsN]; omega))) locs hS ls (lv_sub hl [0, 1, 2, 3, 4, 5, 7] rfl)
        exact L_19 _ 0 (by first | omega | assumption | (simp; done) | grind) (Nat.lt_succ_self _) _ (congrArg nI (show (0 : Nat) = (eu_sm 0 (fun z => (decide (a2 / 2 ^ z &&& 1 = 1) && atE (g 20 z) i).toNat)) from by first | with_reducible rfl | (simp [c_1, endsN, eu_sm, barN, rdsN]; done) | (simp only [c_1] <;> simp [endsN, eu_sm, barN, rdsN]; done) | (simp only [endsN, eu_sm, barN, rdsN, c_1] <;> simp [endsN, eu_sm, barN, rdsN]; done) | (simp [c_1, endsN, eu_sm, barN, rdsN, Bool.and_assoc]; done) | (simp [c_1, endsN, eu_sm, barN, rdsN, Bool.and_assoc, Bool.or_assoc]; done) | rfl | (simp [c_1, endsN, eu_sm, barN, rdsN]; omega))) locs hS ls (lv_sub hl [2, 3, 4, 5, 6, 7, 1, 0] rfl)
  exact L_6 _ 0 (by first | omega | assumption | (simp; done) | grind) (Nat.lt_succ_self _) _ (congrArg nI (show (0 : Nat) = (endsN g a1 a2 a3 0) from by first | with_reducible rfl | (simp [endsN, eu_sm, barN, rdsN]; done) | (simp [endsN, eu_sm, barN, rdsN, Bool.and_assoc]; done) | (simp [endsN, eu_sm, barN, rdsN, Bool.and_assoc, Bool.or_assoc]; done) | rfl | (simp [endsN, eu_sm, barN, rdsN]; omega))) [] hS ls (lv_sub hl [2, 3, 4, 5, 1, 0] rfl)
theorem kM_ends {pr : Program} {l : Launch} {en : Env} {R : Room} {s : State} {m : MethodId} {args : Array Value} {below : List Frame} {meth : Method} {cd : Code} {H : Heap} {locs : List Loc} {cells slots : Nat} {Q : State → Prop} {cc : ByteArray} {pc nL : Nat} {ls : Array Slot} {rest : List Value} {D : va_G} {dA : Nat → ClassId} {A : Nat → Prop} {ad : Nat → Nat} {g : G} (S : CallFix pr m cd cc nL s args lw_all RX3) (hK : KT D dA s) (hM : MS D dA A ad g H) (hg : Sm g) (hS : va_S A s.heap H locs) (a1 : Nat) (a2 : Nat) (a3 : Nat) (h1 : a1 < 3) (h2 : a2 < 256) (h3 : a3 ≤ 8) (h4 : ∀ k, k < a3 → g 20 k < 30) (hf : 3 + 1 ≤ R.frames) (hlo : 8 + (8 + 11) + 53 ≤ R.locals) (hsz : ls.size = nL) (hcat : (rest.map fun v => v.category).sum ≤ 8) (hdg : decode cc pc = .ok (.invokevirtual 97, 3)) (hq1 : cells ≤ R.cells) (hq2 : slots ≤ R.slots) (kk : ∀ locs1 : List Loc, va_S A s.heap H locs1 → W pr l en R s m args below meth cd H locs1 cells slots Q (F0 m (pc + 3) ls (.int (nI (endsN g a1 a2 a3 24)) :: rest))) : W pr l en R s m args below meth cd H locs cells slots Q (F0 m pc ls (.int (nI a3) :: .int (nI a2) :: .int (nI a1) :: .ref (ad 0) :: rest)) :=
  zc_callV (n := 3) (As := [.int (nI a1), .int (nI a2), .int (nI a3)]) (rest := rest) S (cM_ends l hg a1 a2 a3 h1 h2 h3 h4  H hM (Post := (fun v H1 => v = some (.int (nI (endsN g a1 a2 a3 24))) ∧ H1 = H)) ⟨rfl, rfl⟩) (lw_V q1189 q1191 qs42 q76 q1192) (by decide +kernel) ⟨hf, hlo⟩ ⟨hq1, hq2⟩ (zm_recv hK hM) KT_mv (zc_K KT_mv hK hS) hS (fun _ h => h) rfl hsz rfl hcat hdg (fun v H1 locs1 hp _ _ hS1 => by obtain ⟨rfl, rfl⟩ := hp; exact kk locs1 hS1)
set_option maxHeartbeats 1000000 in
set_option maxRecDepth 100000 in
theorem cM_spread (l : Launch) {D : va_G} {dA : Nat → ClassId} {A : Nat → Prop} {ad : Nat → Nat} {g : G} (hg : Sm g) (a1 : Nat) (a2 : Nat) (a3 : Nat) (h1 : a1 < 3) (h2 : a2 < 2 ^ a3) (h3 : a3 ≤ 8) (h4 : ∀ k, k < a3 → g 20 k < 30) (h5 : 0 < a2) (H0 : Heap) (hM : MS D dA A ad g H0) {Post : Option Value → Heap → Prop} (hPost : Post (some (.int (nI (sprN g a1 a2 a3)))) H0) : Ct l yX3_spread (ws_ yX3_spread cX3_spread 10 (some .int)) (rmF 4 0 0 77) A (KT D dA) [.ref (ad 0), .int (nI a1), .int (nI a2), .int (nI a3)] H0 Post := by
  refine zc_of RX3 rfl (by decide) (Nat.le_of_ble_eq_true rfl) ?_
  intro pr en s m args below meth cd S hr hlk hnm hh hK ls hl
  have hS : va_S A s.heap H0 [] := zc_start hh
  have hg0 := hg
  have hx := S.1
  have hb := S.2.1
  have hown := S.2.2.2.1
  have hts := S.2.2.2.2
  have hl : lv_has ls 10 [(0, .ref (ad 0)), (1, .int (nI a1)), (2, .int (nI a2)), (3, .int (nI a3))] := hl
  have hp8 : 2 ^ a3 ≤ 256 := Nat.le_trans (Nat.pow_le_pow_right (by decide) h3) (by decide)
  have hm0 : 0 < a3 := by rcases Nat.eq_zero_or_pos a3 with q | q; (subst q; omega); exact q
  have hlt := RI_lt (g := g) (p := a1) hm0 h2
  have hlow := lowN_pos h5 (by omega)
  refine lv_iload_n hx hb dX3_spread_0 rfl (lv_at hl 2 rfl) ?_
  refine lv_iload_n hx hb dX3_spread_1 rfl (lv_at hl 2 rfl) ?_
  refine lv_ineg hx hb dX3_spread_2 ?_
  refine lv_iand hx hb dX3_spread_3 ?_
  rw [zk_low _ (by omega)]
  refine lv_istore (lv' := [(4, .int (nI (lowN a2))), (0, .ref (ad 0)), (1, .int (nI a1)), (2, .int (nI a2)), (3, .int (nI a3))]) hx hb dX3_spread_4 hl (by decide) rfl (fun ls hl => ?_)
  refine lv_iconst (v := nI 0) hx hb dX3_spread_6 zi_0 ?_
  refine lv_istore (lv' := [(5, .int (nI 0)), (4, .int (nI (lowN a2))), (0, .ref (ad 0)), (1, .int (nI a1)), (2, .int (nI a2)), (3, .int (nI a3))]) hx hb dX3_spread_7 hl (by decide) rfl (fun ls hl => ?_)
  have L_9 : ∀ (n_9 : Nat) (i : Nat) (b : Nat), (i = 0 ∧ b = 0) ∨ (0 < i ∧ b = RI g a1 a2 a3 (i - 1)) → i ≤ b + 1 → 256 - b < n_9 → ∀ x4_9 : Int32, x4_9 = nI (RI g a1 a2 a3 i) → ∀ (locs : List Loc), va_S A s.heap H0 locs → ∀ ls : Array Slot, lv_has ls 10 [(0, .ref (ad 0)), (1, .int (nI a1)), (2, .int (nI a2)), (3, .int (nI a3)), (4, .int x4_9), (5, .int (nI b))] → W pr l en (rmF 4 0 0 77) s m args below meth cd H0 locs 0 0 (MQ below (zc_Q Post A) args s 0 0 A) (F0 m 9 ls []) := by
    intro n_9
    induction n_9 with
    | zero => intro i b hb0 hr0 hm_9; exact absurd hm_9 (Nat.not_lt_zero _)
    | succ n_9 ih_9 =>
      intro i b hb0 hr0 hm_9 x4_9 ex4_9 locs hS ls hl
      subst ex4_9
      have hlti := hlt i
      have hmon : b ≤ RI g a1 a2 a3 i := by rcases hb0 with ⟨q1, q2⟩ | ⟨q1, q2⟩; (subst q2; exact Nat.zero_le _); (rw [q2]; have := RI_mono g a1 a2 a3 (i - 1); rw [show i - 1 + 1 = i by omega] at this; exact this)
      refine lv_iload hx hb dX3_spread_9 (lv_at hl 5 rfl) ?_
      refine lv_iload hx hb dX3_spread_11 (lv_at hl 4 rfl) ?_
      refine zr_icmp_eqN (a := b) (b := (RI g a1 a2 a3 i)) (tgt := 120) hx hb (by omega) (by omega) dX3_spread_13 (by decide) (fun c_1 => ?_) (fun c_1 => ?_)
      · have hend : RI g a1 a2 a3 i = sprN g a1 a2 a3 := by
          rcases hb0 with ⟨q1, q2⟩ | ⟨q1, q2⟩
          · exfalso; subst q1; rw [q2] at c_1; have : RI g a1 a2 a3 0 = lowN a2 := rfl; omega
          · exact RI_end (by omega) q1 (by rw [← q2]; exact c_1)
        refine lv_iload hx hb dX3_spread_120 (lv_at hl 4 rfl) ?_
        exact zc_nret (nI (sprN g a1 a2 a3)) (congrArg nI (show (RI g a1 a2 a3 i : Nat) = (sprN g a1 a2 a3) from by first | with_reducible rfl | (simp [c_1, hend, stpN]; done) | (simp only [c_1, hend] <;> simp [stpN]; done) | (simp only [stpN, c_1, hend] <;> simp [stpN]; done) | (simp [c_1, hend, stpN, Bool.and_assoc]; done) | (simp [c_1, hend, stpN, Bool.and_assoc, Bool.or_assoc]; done) | rfl | (simp [c_1, hend, stpN]; omega))) hPost hS hx hb hr hlk (Nat.zero_le _) (Nat.zero_le _) dX3_spread_122
      · refine lv_iload hx hb dX3_spread_16 (lv_at hl 4 rfl) ?_
        refine lv_istore (lv' := [(5, .int (nI (RI g a1 a2 a3 i))), (0, .ref (ad 0)), (1, .int (nI a1)), (2, .int (nI a2)), (3, .int (nI a3)), (4, .int (nI (RI g a1 a2 a3 i)))]) hx hb dX3_spread_18 hl (by decide) rfl (fun ls hl => ?_)
        have hsq : a3 * a3 ≤ 64 := Nat.mul_le_mul h3 h3
        refine lv_iconst (v := nI 0) hx hb dX3_spread_20 zi_0 ?_
        refine lv_istore (lv' := [(6, .int (nI 0)), (5, .int (nI (RI g a1 a2 a3 i))), (0, .ref (ad 0)), (1, .int (nI a1)), (2, .int (nI a2)), (3, .int (nI a3)), (4, .int (nI (RI g a1 a2 a3 i)))]) hx hb dX3_spread_21 hl (by decide) rfl (fun ls hl => ?_)
        have L_23 : ∀ (n_23 : Nat) (k : Nat), k ≤ a3 * a3 → a3 * a3 - k < n_23 → ∀ x4_23 : Int32, x4_23 = nI (passN g a1 a2 a3 k (RI g a1 a2 a3 i)) → ∀ (locs : List Loc), va_S A s.heap H0 locs → ∀ ls : Array Slot, lv_has ls 10 [(0, .ref (ad 0)), (1, .int (nI a1)), (2, .int (nI a2)), (3, .int (nI a3)), (4, .int x4_23), (5, .int (nI (RI g a1 a2 a3 i))), (6, .int (nI k))] → W pr l en (rmF 4 0 0 77) s m args below meth cd H0 locs 0 0 (MQ below (zc_Q Post A) args s 0 0 A) (F0 m 23 ls []) := by
          intro n_23
          induction n_23 with
          | zero => intro k hi_23 hm_23; exact absurd hm_23 (Nat.not_lt_zero _)
          | succ n_23 ih_23 =>
            intro k hi_23 hm_23 x4_23 ex4_23 locs hS ls hl
            subst ex4_23
            refine lv_iload hx hb dX3_spread_23 (lv_at hl 6 rfl) ?_
            refine lv_iload_n hx hb dX3_spread_25 rfl (lv_at hl 3 rfl) ?_
            refine lv_iload_n hx hb dX3_spread_26 rfl (lv_at hl 3 rfl) ?_
            refine zr_mulN (a := a3) (b := a3) hx hb dX3_spread_27 ?_
            refine zr_icmp_geN (a := k) (b := (a3 * a3)) (tgt := 117) hx hb (by omega) (by omega) dX3_spread_28 (by decide) (fun c_2 => ?_) (fun c_2 => ?_)
            · have e_k : a3 * a3 = k := by omega
              subst e_k
              refine lv_goto (tgt := 9) hx hb dX3_spread_117 (by decide) ?_
              exact ih_9 (i + 1) (RI g a1 a2 a3 i) (by exact Or.inr ⟨by omega, rfl⟩) (by omega) (by omega) _ (congrArg nI (show (passN g a1 a2 a3 (a3 * a3) (RI g a1 a2 a3 i) : Nat) = (RI g a1 a2 a3 (i + 1)) from by first | with_reducible rfl | (simp [c_1, c_2, stpN]; done) | (simp only [c_1, c_2] <;> simp [stpN]; done) | (simp only [stpN, c_1, c_2] <;> simp [stpN]; done) | (simp [c_1, c_2, stpN, Bool.and_assoc]; done) | (simp [c_1, c_2, stpN, Bool.and_assoc, Bool.or_assoc]; done) | rfl | (simp [c_1, c_2, stpN]; omega))) locs hS ls (lv_sub hl [0, 1, 2, 3, 4, 5] rfl)
            · have hpk := passN_lt (g := g) (p := a1) (set := a2) hm0 hlti k
              have hk1 : k / a3 < a3 := Nat.div_lt_of_lt_mul (by omega)
              have hk2 : k % a3 < a3 := Nat.mod_lt _ hm0
              have ho1 := h4 _ hk1
              have ho2 := h4 _ hk2
              have hd1 : passN g a1 a2 a3 k (RI g a1 a2 a3 i) / 2 ^ (k / a3) ≤ passN g a1 a2 a3 k (RI g a1 a2 a3 i) := Nat.div_le_self _ _
              have hd2 : a2 / 2 ^ (k % a3) ≤ a2 := Nat.div_le_self _ _
              have ha1 : (passN g a1 a2 a3 k (RI g a1 a2 a3 i) / 2 ^ (k / a3) &&& 1) ≤ 1 := Nat.and_le_right
              have ha2 : (a2 / 2 ^ (k % a3) &&& 1) ≤ 1 := Nat.and_le_right
              have hpw : 2 ^ (k % a3) ≤ 256 := Nat.le_trans (Nat.pow_le_pow_right (by decide) (Nat.le_of_lt hk2)) hp8
              refine lv_iload hx hb dX3_spread_31 (lv_at hl 6 rfl) ?_
              refine lv_iload_n hx hb dX3_spread_33 rfl (lv_at hl 3 rfl) ?_
              refine zr_divN (a := k) (b := a3) hx hb (by omega) (by omega) (by omega) dX3_spread_34 ?_
              refine lv_istore (lv' := [(7, .int (nI (k / a3))), (0, .ref (ad 0)), (1, .int (nI a1)), (2, .int (nI a2)), (3, .int (nI a3)), (4, .int (nI (passN g a1 a2 a3 k (RI g a1 a2 a3 i)))), (5, .int (nI (RI g a1 a2 a3 i))), (6, .int (nI k))]) hx hb dX3_spread_35 hl (by decide) rfl (fun ls hl => ?_)
              refine lv_iload hx hb dX3_spread_37 (lv_at hl 7 rfl) ?_
              refine lv_iload_n hx hb dX3_spread_39 rfl (lv_at hl 4 rfl) ?_
              refine zr_remN (a := k) (b := a3) hx hb (by omega) (by omega) (by omega) dX3_spread_40 ?_
              refine lv_istore (lv' := [(8, .int (nI (k % a3))), (7, .int (nI (k / a3))), (0, .ref (ad 0)), (1, .int (nI a1)), (2, .int (nI a2)), (3, .int (nI a3)), (4, .int (nI (passN g a1 a2 a3 k (RI g a1 a2 a3 i)))), (5, .int (nI (RI g a1 a2 a3 i))), (6, .int (nI k))]) hx hb dX3_spread_41 hl (by decide) rfl (fun ls hl => ?_)
              refine lv_iload hx hb dX3_spread_43 (lv_at hl 6 rfl) ?_
              refine lv_iload hx hb dX3_spread_45 (lv_at hl 1 rfl) ?_
              refine zr_shrN (a := (passN g a1 a2 a3 k (RI g a1 a2 a3 i))) (b := (k / a3)) hx hb (by omega) (by omega) dX3_spread_47 ?_
              refine lv_iconst (v := nI 1) hx hb dX3_spread_48 zi_1 ?_
              refine zr_andN (a := ((passN g a1 a2 a3 k (RI g a1 a2 a3 i)) / 2 ^ (k / a3))) (b := 1) hx hb dX3_spread_49 ?_
              refine lv_iconst (v := nI 1) hx hb dX3_spread_50 zi_1 ?_
              have J_91 : ∀ yS0_91 : Int32, yS0_91 = nI (decide ((((passN g a1 a2 a3 k (RI g a1 a2 a3 i)) / 2 ^ (k / a3)) &&& 1) = 1) && (decide (((a2 / 2 ^ (k % a3)) &&& 1) = 1) && ((mMeet g a1 (g 20 (k / a3)) (g 20 (k % a3)))))).toNat → ∀ (locs : List Loc), va_S A s.heap H0 locs → ∀ ls : Array Slot, lv_has ls 10 [(0, .ref (ad 0)), (1, .int (nI a1)), (2, .int (nI a2)), (3, .int (nI a3)), (4, .int (nI (passN g a1 a2 a3 k (RI g a1 a2 a3 i)))), (5, .int (nI (RI g a1 a2 a3 i))), (6, .int (nI k)), (8, .int (nI (k % a3)))] → W pr l en (rmF 4 0 0 77) s m args below meth cd H0 locs 0 0 (MQ below (zc_Q Post A) args s 0 0 A) (F0 m 91 ls [.int yS0_91]) := by
                intro yS0_91 eyS0_91 locs hS ls hl
                subst eyS0_91
                refine lv_istore (lv' := [(9, .int (nI (decide ((((passN g a1 a2 a3 k (RI g a1 a2 a3 i)) / 2 ^ (k / a3)) &&& 1) = 1) && (decide (((a2 / 2 ^ (k % a3)) &&& 1) = 1) && ((mMeet g a1 (g 20 (k / a3)) (g 20 (k % a3)))))).toNat)), (0, .ref (ad 0)), (1, .int (nI a1)), (2, .int (nI a2)), (3, .int (nI a3)), (4, .int (nI (passN g a1 a2 a3 k (RI g a1 a2 a3 i)))), (5, .int (nI (RI g a1 a2 a3 i))), (6, .int (nI k)), (8, .int (nI (k % a3)))]) hx hb dX3_spread_91 hl (by decide) rfl (fun ls hl => ?_)
                refine lv_iload hx hb dX3_spread_93 (lv_at hl 5 rfl) ?_
                refine lv_iload hx hb dX3_spread_95 (lv_at hl 0 rfl) ?_
                have J_108 : ∀ yS0_108 : Int32, yS0_108 = nI ((if (decide ((((passN g a1 a2 a3 k (RI g a1 a2 a3 i)) / 2 ^ (k / a3)) &&& 1) = 1) && (decide (((a2 / 2 ^ (k % a3)) &&& 1) = 1) && ((mMeet g a1 (g 20 (k / a3)) (g 20 (k % a3)))))) = true then 1 * 2 ^ (k % a3) else 0)) → ∀ (locs : List Loc), va_S A s.heap H0 locs → ∀ ls : Array Slot, lv_has ls 10 [(0, .ref (ad 0)), (1, .int (nI a1)), (2, .int (nI a2)), (3, .int (nI a3)), (5, .int (nI (RI g a1 a2 a3 i))), (6, .int (nI k))] → W pr l en (rmF 4 0 0 77) s m args below meth cd H0 locs 0 0 (MQ below (zc_Q Post A) args s 0 0 A) (F0 m 108 ls [.int yS0_108, .int (nI (passN g a1 a2 a3 k (RI g a1 a2 a3 i)))]) := by
                  intro yS0_108 eyS0_108 locs hS ls hl
                  subst eyS0_108
                  refine zr_orN (a := (passN g a1 a2 a3 k (RI g a1 a2 a3 i))) (b := ((if (decide ((((passN g a1 a2 a3 k (RI g a1 a2 a3 i)) / 2 ^ (k / a3)) &&& 1) = 1) && (decide (((a2 / 2 ^ (k % a3)) &&& 1) = 1) && ((mMeet g a1 (g 20 (k / a3)) (g 20 (k % a3)))))) = true then 1 * 2 ^ (k % a3) else 0))) hx hb dX3_spread_108 ?_
                  refine lv_istore (lv' := [(4, .int (nI ((passN g a1 a2 a3 k (RI g a1 a2 a3 i)) ||| ((if (decide ((((passN g a1 a2 a3 k (RI g a1 a2 a3 i)) / 2 ^ (k / a3)) &&& 1) = 1) && (decide (((a2 / 2 ^ (k % a3)) &&& 1) = 1) && ((mMeet g a1 (g 20 (k / a3)) (g 20 (k % a3)))))) = true then 1 * 2 ^ (k % a3) else 0))))), (0, .ref (ad 0)), (1, .int (nI a1)), (2, .int (nI a2)), (3, .int (nI a3)), (5, .int (nI (RI g a1 a2 a3 i))), (6, .int (nI k))]) hx hb dX3_spread_109 hl (by decide) rfl (fun ls hl => ?_)
                  refine lv_iinc (v := nI (k + 1)) (lv' := [(6, .int (nI (k + 1))), (4, .int (nI ((passN g a1 a2 a3 k (RI g a1 a2 a3 i)) ||| ((if (decide ((((passN g a1 a2 a3 k (RI g a1 a2 a3 i)) / 2 ^ (k / a3)) &&& 1) = 1) && (decide (((a2 / 2 ^ (k % a3)) &&& 1) = 1) && ((mMeet g a1 (g 20 (k / a3)) (g 20 (k % a3)))))) = true then 1 * 2 ^ (k % a3) else 0))))), (0, .ref (ad 0)), (1, .int (nI a1)), (2, .int (nI a2)), (3, .int (nI a3)), (5, .int (nI (RI g a1 a2 a3 i)))]) hx hb dX3_spread_111 hl (k := 6) rfl (zk_inc _) (by decide) rfl (fun ls hl => ?_)
                  refine lv_goto (tgt := 23) hx hb dX3_spread_114 (by decide) ?_
                  exact ih_23 (k + 1) (by first | omega | assumption | (simp; done) | grind) (by omega) _ (congrArg nI (show ((passN g a1 a2 a3 k (RI g a1 a2 a3 i)) ||| ((if (decide ((((passN g a1 a2 a3 k (RI g a1 a2 a3 i)) / 2 ^ (k / a3)) &&& 1) = 1) && (decide (((a2 / 2 ^ (k % a3)) &&& 1) = 1) && ((mMeet g a1 (g 20 (k / a3)) (g 20 (k % a3)))))) = true then 1 * 2 ^ (k % a3) else 0)) : Nat) = (passN g a1 a2 a3 (k + 1) (RI g a1 a2 a3 i)) from by first | with_reducible rfl | (simp [c_1, c_2, stpN]; done) | (simp only [c_1, c_2] <;> simp [stpN]; done) | (simp only [stpN, c_1, c_2] <;> simp [stpN]; done) | (simp [c_1, c_2, stpN, Bool.and_assoc]; done) | (simp [c_1, c_2, stpN, Bool.and_assoc, Bool.or_assoc]; done) | rfl | (simp [c_1, c_2, stpN]; omega))) locs hS ls (lv_sub hl [2, 3, 4, 5, 1, 6, 0] rfl)
                refine zr_if_eqB (b := decide ((((passN g a1 a2 a3 k (RI g a1 a2 a3 i)) / 2 ^ (k / a3)) &&& 1) = 1) && (decide (((a2 / 2 ^ (k % a3)) &&& 1) = 1) && ((mMeet g a1 (g 20 (k / a3)) (g 20 (k % a3)))))) (tgt := 107) hx hb dX3_spread_97 (by decide) (fun c_9 => ?_) (fun c_9 => ?_)
                · refine lv_iconst (v := nI 0) hx hb dX3_spread_107 zi_0 ?_
                  exact J_108 _ (congrArg nI (show (0 : Nat) = ((if (decide ((((passN g a1 a2 a3 k (RI g a1 a2 a3 i)) / 2 ^ (k / a3)) &&& 1) = 1) && (decide (((a2 / 2 ^ (k % a3)) &&& 1) = 1) && ((mMeet g a1 (g 20 (k / a3)) (g 20 (k % a3)))))) = true then 1 * 2 ^ (k % a3) else 0)) from by first | with_reducible rfl | (simp [c_1, c_2, c_9, stpN]; done) | (simp only [c_1, c_2, c_9] <;> simp [stpN]; done) | (simp only [stpN, c_1, c_2, c_9] <;> simp [stpN]; done) | (simp [c_1, c_2, c_9, stpN, Bool.and_assoc]; done) | (simp [c_1, c_2, c_9, stpN, Bool.and_assoc, Bool.or_assoc]; done) | rfl | (simp [c_1, c_2, c_9, stpN]; omega))) locs hS ls (lv_sub hl [1, 2, 3, 4, 6, 7] rfl)
                · refine lv_iconst (v := nI 1) hx hb dX3_spread_100 zi_1 ?_
                  refine lv_iload hx hb dX3_spread_101 (lv_at hl 8 rfl) ?_
                  refine zr_shlN (a := 1) (b := (k % a3)) hx hb (by omega) (by omega) dX3_spread_103 ?_
                  refine lv_goto (tgt := 108) hx hb dX3_spread_104 (by decide) ?_
                  exact J_108 _ (congrArg nI (show (1 * 2 ^ (k % a3) : Nat) = ((if (decide ((((passN g a1 a2 a3 k (RI g a1 a2 a3 i)) / 2 ^ (k / a3)) &&& 1) = 1) && (decide (((a2 / 2 ^ (k % a3)) &&& 1) = 1) && ((mMeet g a1 (g 20 (k / a3)) (g 20 (k % a3)))))) = true then 1 * 2 ^ (k % a3) else 0)) from by first | with_reducible rfl | (simp [c_1, c_2, c_9, stpN]; done) | (simp only [c_1, c_2, c_9] <;> simp [stpN]; done) | (simp only [stpN, c_1, c_2, c_9] <;> simp [stpN]; done) | (simp [c_1, c_2, c_9, stpN, Bool.and_assoc]; done) | (simp [c_1, c_2, c_9, stpN, Bool.and_assoc, Bool.or_assoc]; done) | rfl | (simp [c_1, c_2, c_9, stpN]; omega))) locs hS ls (lv_sub hl [1, 2, 3, 4, 6, 7] rfl)
              refine zr_icmp_neN (a := (((passN g a1 a2 a3 k (RI g a1 a2 a3 i)) / 2 ^ (k / a3)) &&& 1)) (b := 1) (tgt := 90) hx hb (by omega) (by omega) dX3_spread_51 (by decide) (fun c_10 => ?_) (fun c_10 => ?_)
              · refine lv_iconst (v := nI 0) hx hb dX3_spread_90 zi_0 ?_
                exact J_91 _ (congrArg (fun z : Bool => nI z.toNat) (show (false : Bool) = (decide ((((passN g a1 a2 a3 k (RI g a1 a2 a3 i)) / 2 ^ (k / a3)) &&& 1) = 1) && (decide (((a2 / 2 ^ (k % a3)) &&& 1) = 1) && ((mMeet g a1 (g 20 (k / a3)) (g 20 (k % a3)))))) from by first | with_reducible rfl | (simp [c_1, c_2, c_10, stpN]; done) | (simp only [c_1, c_2, c_10] <;> simp [stpN]; done) | (simp only [stpN, c_1, c_2, c_10] <;> simp [stpN]; done) | (simp [c_1, c_2, c_10, stpN, Bool.and_assoc]; done) | (simp [c_1, c_2, c_10, stpN, Bool.and_assoc, Bool.or_assoc]; done) | rfl | (simp [c_1, c_2, c_10, stpN]; omega))) locs hS ls (lv_sub hl [2, 3, 4, 5, 6, 7, 8, 0] rfl)
              · refine lv_iload_n hx hb dX3_spread_54 rfl (lv_at hl 4 rfl) ?_
                refine lv_iload hx hb dX3_spread_55 (lv_at hl 0 rfl) ?_
                refine zr_shrN (a := a2) (b := (k % a3)) hx hb (by omega) (by omega) dX3_spread_57 ?_
                refine lv_iconst (v := nI 1) hx hb dX3_spread_58 zi_1 ?_
                refine zr_andN (a := (a2 / 2 ^ (k % a3))) (b := 1) hx hb dX3_spread_59 ?_
                refine lv_iconst (v := nI 1) hx hb dX3_spread_60 zi_1 ?_
                refine zr_icmp_neN (a := ((a2 / 2 ^ (k % a3)) &&& 1)) (b := 1) (tgt := 90) hx hb (by omega) (by omega) dX3_spread_61 (by decide) (fun c_11 => ?_) (fun c_11 => ?_)
                · refine lv_iconst (v := nI 0) hx hb dX3_spread_90 zi_0 ?_
                  exact J_91 _ (congrArg (fun z : Bool => nI z.toNat) (show (false : Bool) = (decide ((((passN g a1 a2 a3 k (RI g a1 a2 a3 i)) / 2 ^ (k / a3)) &&& 1) = 1) && (decide (((a2 / 2 ^ (k % a3)) &&& 1) = 1) && ((mMeet g a1 (g 20 (k / a3)) (g 20 (k % a3)))))) from by first | with_reducible rfl | (simp [c_1, c_2, c_10, c_11, stpN]; done) | (simp only [c_1, c_2, c_10, c_11] <;> simp [stpN]; done) | (simp only [stpN, c_1, c_2, c_10, c_11] <;> simp [stpN]; done) | (simp [c_1, c_2, c_10, c_11, stpN, Bool.and_assoc]; done) | (simp [c_1, c_2, c_10, c_11, stpN, Bool.and_assoc, Bool.or_assoc]; done) | rfl | (simp [c_1, c_2, c_10, c_11, stpN]; omega))) locs hS ls (lv_sub hl [2, 3, 4, 5, 6, 7, 8, 0] rfl)
                · refine lv_aload_n hx hb dX3_spread_64 rfl (lv_at hl 2 rfl) ?_
                  refine lv_iload_n hx hb dX3_spread_65 rfl (lv_at hl 3 rfl) ?_
                  refine lv_aload_n hx hb dX3_spread_66 rfl (lv_at hl 2 rfl) ?_
                  refine gM_own S hK hM dX3_spread_67 ?_
                  refine lv_iload hx hb dX3_spread_70 (lv_at hl 1 rfl) ?_
                  refine lM_own S hK hM (k / a3) (by omega) (g 20 (k / a3)) rfl dX3_spread_72 ?_
                  have hb_12 : g 20 (k / a3) < 1048576 := by first | exact hg 20 (k / a3) | exact hg0 _ _ | (have := hg 20 (k / a3); omega) | omega
                  refine lv_aload_n hx hb dX3_spread_73 rfl (lv_at hl 2 rfl) ?_
                  refine gM_own S hK hM dX3_spread_74 ?_
                  refine lv_iload hx hb dX3_spread_77 (lv_at hl 0 rfl) ?_
                  refine lM_own S hK hM (k % a3) (by omega) (g 20 (k % a3)) rfl dX3_spread_79 ?_
                  have hb_13 : g 20 (k % a3) < 1048576 := by first | exact hg 20 (k % a3) | exact hg0 _ _ | (have := hg 20 (k % a3); omega) | omega
                  refine kM_meet S hK hM hg hS a1 (g 20 (k / a3)) (g 20 (k % a3)) (by first | omega | assumption | grind) (by first | omega | assumption | grind) (by first | omega | assumption | grind) (Nat.le_of_ble_eq_true rfl) (Nat.le_of_ble_eq_true rfl) hl.1 (Nat.le_of_ble_eq_true rfl) dX3_spread_80 (Nat.zero_le _) (Nat.zero_le _) (fun locs hS => ?_)
                  refine zr_if_eqB (b := mMeet g a1 (g 20 (k / a3)) (g 20 (k % a3))) (tgt := 90) hx hb dX3_spread_83 (by decide) (fun c_14 => ?_) (fun c_14 => ?_)
                  · refine lv_iconst (v := nI 0) hx hb dX3_spread_90 zi_0 ?_
                    exact J_91 _ (congrArg (fun z : Bool => nI z.toNat) (show (false : Bool) = (decide ((((passN g a1 a2 a3 k (RI g a1 a2 a3 i)) / 2 ^ (k / a3)) &&& 1) = 1) && (decide (((a2 / 2 ^ (k % a3)) &&& 1) = 1) && ((mMeet g a1 (g 20 (k / a3)) (g 20 (k % a3)))))) from by first | with_reducible rfl | (simp [c_1, c_2, c_10, c_11, c_14, stpN]; done) | (simp only [c_1, c_2, c_10, c_11, c_14] <;> simp [stpN]; done) | (simp only [stpN, c_1, c_2, c_10, c_11, c_14] <;> simp [stpN]; done) | (simp [c_1, c_2, c_10, c_11, c_14, stpN, Bool.and_assoc]; done) | (simp [c_1, c_2, c_10, c_11, c_14, stpN, Bool.and_assoc, Bool.or_assoc]; done) | rfl | (simp [c_1, c_2, c_10, c_11, c_14, stpN]; omega))) locs hS ls (lv_sub hl [2, 3, 4, 5, 6, 7, 8, 0] rfl)
                  · refine lv_iconst (v := nI 1) hx hb dX3_spread_86 zi_1 ?_
                    refine lv_goto (tgt := 91) hx hb dX3_spread_87 (by decide) ?_
                    exact J_91 _ (congrArg (fun z : Bool => nI z.toNat) (show (true : Bool) = (decide ((((passN g a1 a2 a3 k (RI g a1 a2 a3 i)) / 2 ^ (k / a3)) &&& 1) = 1) && (decide (((a2 / 2 ^ (k % a3)) &&& 1) = 1) && ((mMeet g a1 (g 20 (k / a3)) (g 20 (k % a3)))))) from by first | with_reducible rfl | (simp [c_1, c_2, c_10, c_11, c_14, stpN]; done) | (simp only [c_1, c_2, c_10, c_11, c_14] <;> simp [stpN]; done) | (simp only [stpN, c_1, c_2, c_10, c_11, c_14] <;> simp [stpN]; done) | (simp [c_1, c_2, c_10, c_11, c_14, stpN, Bool.and_assoc]; done) | (simp [c_1, c_2, c_10, c_11, c_14, stpN, Bool.and_assoc, Bool.or_assoc]; done) | rfl | (simp [c_1, c_2, c_10, c_11, c_14, stpN]; omega))) locs hS ls (lv_sub hl [2, 3, 4, 5, 6, 7, 8, 0] rfl)
        exact L_23 _ 0 (by first | omega | assumption | (simp; done) | grind) (Nat.lt_succ_self _) _ (congrArg nI (show (RI g a1 a2 a3 i : Nat) = (passN g a1 a2 a3 0 (RI g a1 a2 a3 i)) from by first | with_reducible rfl | (simp [c_1, stpN]; done) | (simp only [c_1] <;> simp [stpN]; done) | (simp only [stpN, c_1] <;> simp [stpN]; done) | (simp [c_1, stpN, Bool.and_assoc]; done) | (simp [c_1, stpN, Bool.and_assoc, Bool.or_assoc]; done) | rfl | (simp [c_1, stpN]; omega))) locs hS ls (lv_sub hl [2, 3, 4, 5, 6, 1, 0] rfl)
  exact L_9 _ 0 0 (by exact Or.inl ⟨rfl, rfl⟩) (by first | omega | assumption | (simp; done) | grind) (Nat.lt_succ_self _) _ (congrArg nI (show (lowN a2 : Nat) = (RI g a1 a2 a3 0) from by first | with_reducible rfl | (simp [stpN]; done) | (simp [stpN, Bool.and_assoc]; done) | (simp [stpN, Bool.and_assoc, Bool.or_assoc]; done) | rfl | (simp [stpN]; omega))) [] hS ls (lv_sub hl [2, 3, 4, 5, 1, 0] rfl)
theorem kM_spread {pr : Program} {l : Launch} {en : Env} {R : Room} {s : State} {m : MethodId} {args : Array Value} {below : List Frame} {meth : Method} {cd : Code} {H : Heap} {locs : List Loc} {cells slots : Nat} {Q : State → Prop} {cc : ByteArray} {pc nL : Nat} {ls : Array Slot} {rest : List Value} {D : va_G} {dA : Nat → ClassId} {A : Nat → Prop} {ad : Nat → Nat} {g : G} (S : CallFix pr m cd cc nL s args lw_all RX3) (hK : KT D dA s) (hM : MS D dA A ad g H) (hg : Sm g) (hS : va_S A s.heap H locs) (a1 : Nat) (a2 : Nat) (a3 : Nat) (h1 : a1 < 3) (h2 : a2 < 2 ^ a3) (h3 : a3 ≤ 8) (h4 : ∀ k, k < a3 → g 20 k < 30) (h5 : 0 < a2) (hf : 4 + 1 ≤ R.frames) (hlo : 8 + (10 + 11) + 77 ≤ R.locals) (hsz : ls.size = nL) (hcat : (rest.map fun v => v.category).sum ≤ 8) (hdg : decode cc pc = .ok (.invokevirtual 101, 3)) (hq1 : cells ≤ R.cells) (hq2 : slots ≤ R.slots) (kk : ∀ locs1 : List Loc, va_S A s.heap H locs1 → W pr l en R s m args below meth cd H locs1 cells slots Q (F0 m (pc + 3) ls (.int (nI (sprN g a1 a2 a3)) :: rest))) : W pr l en R s m args below meth cd H locs cells slots Q (F0 m pc ls (.int (nI a3) :: .int (nI a2) :: .int (nI a1) :: .ref (ad 0) :: rest)) :=
  zc_callV (n := 3) (As := [.int (nI a1), .int (nI a2), .int (nI a3)]) (rest := rest) S (cM_spread l hg a1 a2 a3 h1 h2 h3 h4 h5  H hM (Post := (fun v H1 => v = some (.int (nI (sprN g a1 a2 a3))) ∧ H1 = H)) ⟨rfl, rfl⟩) (lw_V q1197 q1199 qs44 q76 q1200) (by decide +kernel) ⟨hf, hlo⟩ ⟨hq1, hq2⟩ (zm_recv hK hM) KT_mv (zc_K KT_mv hK hS) hS (fun _ h => h) rfl hsz rfl hcat hdg (fun v H1 locs1 hp _ _ hS1 => by obtain ⟨rfl, rfl⟩ := hp; exact kk locs1 hS1)
