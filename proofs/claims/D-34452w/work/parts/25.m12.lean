/-! THE MODEL: what a roll yields (printed by gen/m12.py) -/
def rk0 (g : G) : Nat → G
  | 0 => g
  | i + 1 => gs (rk0 g i) 21 i 0
def rkC (g : G) (sum h c : Nat) : Bool := decide (g 1 h = sum) && (!decide (sum = 7) && (!decide (h = g 7 0) && (mOf h c && decide (0 < g 2 c))))
def rkI (g : G) (sum h : Nat) (y : G) : Nat → G
  | 0 => y
  | c + 1 => if rkC g sum h c = true then gs (rkI g sum h y c) 21 (5 * (own1 g c - 1) + g 0 h) (rkI g sum h y c 21 (5 * (own1 g c - 1) + g 0 h) + (if mCity g c = true then 2 else 1)) else rkI g sum h y c
def rkO (g : G) (sum : Nat) : Nat → G
  | 0 => rk0 g 15
  | h + 1 => rkI g sum h (rkO g sum h) 24
def rkP (all bank gd : Nat) (y : G) : Nat → G
  | 0 => y
  | p + 1 => gs (rkP all bank gd y p) 21 (5 * p + gd) (if rkP all bank gd y p 21 (5 * p + gd) = all then bank else 0)
def rkG (g : G) (sum : Nat) : Nat → G
  | 0 => rkO g sum 7
  | i + 1 => if g 4 (15 + i) < rkG g sum i 21 i + rkG g sum i 21 (5 + i) + rkG g sum i 21 (10 + i) then rkP (rkG g sum i 21 i + rkG g sum i 21 (5 + i) + rkG g sum i 21 (10 + i)) (g 4 (15 + i)) i (rkG g sum i) 3 else rkG g sum i
theorem rk0_nf (g : G) {f : Nat} (hf : f ≠ 21) : ∀ i j, rk0 g i f j = g f j := by
  intro i
  induction i with
  | zero => intro j; rfl
  | succ i ih => intro j; show gs _ 21 i 0 f j = _; rw [gs_nf _ hf]; exact ih j
theorem rk0_z (g : G) : ∀ i j, j < i → rk0 g i 21 j = 0 := by
  intro i
  induction i with
  | zero => intro j h; omega
  | succ i ih =>
    intro j h
    show gs _ 21 i 0 21 j = 0
    by_cases q : j = i
    · rw [q, gs_eq]
    · rw [gs_ni _ q]; exact ih j (by omega)
theorem rkI_nf (g : G) (sum h : Nat) (y : G) {f : Nat} (hf : f ≠ 21) : ∀ i j, rkI g sum h y i f j = y f j := by
  intro i
  induction i with
  | zero => intro j; rfl
  | succ i ih =>
    intro j
    simp only [rkI]
    split
    · rw [gs_nf _ hf]; exact ih j
    · exact ih j
theorem rkO_nf (g : G) (sum : Nat) {f : Nat} (hf : f ≠ 21) : ∀ i j, rkO g sum i f j = g f j := by
  intro i
  induction i with
  | zero => intro j; exact rk0_nf _ hf _ _
  | succ i ih => intro j; exact (rkI_nf _ _ _ _ hf _ _).trans (ih j)
theorem rkP_nf (all bank gd : Nat) (y : G) {f : Nat} (hf : f ≠ 21) : ∀ i j, rkP all bank gd y i f j = y f j := by
  intro i
  induction i with
  | zero => intro j; rfl
  | succ i ih => intro j; show gs _ 21 _ _ f j = _; rw [gs_nf _ hf]; exact ih j
theorem rkG_nf (g : G) (sum : Nat) {f : Nat} (hf : f ≠ 21) : ∀ i j, rkG g sum i f j = g f j := by
  intro i
  induction i with
  | zero => intro j; exact rkO_nf _ _ hf _ _
  | succ i ih =>
    intro j
    simp only [rkG]
    split
    · exact (rkP_nf _ _ _ _ hf _ _).trans (ih j)
    · exact ih j
theorem rkI_le {g : G} {sum h B : Nat} {y : G} (hb : ∀ j, y 21 j ≤ B) : ∀ i j, rkI g sum h y i 21 j ≤ B + 2 * i := by
  intro i
  induction i with
  | zero => intro j; exact hb j
  | succ i ih =>
    intro j
    have h1 := ih j
    simp only [rkI]
    split
    · by_cases q : j = 5 * (own1 g i - 1) + g 0 h
      · subst q; rw [gs_eq]; split <;> omega
      · rw [gs_ni _ q]; omega
    · omega
theorem rkO_le {g : G} {sum B : Nat} (hb : ∀ j, g 21 j ≤ B) : ∀ i j, rkO g sum i 21 j ≤ B + 48 * i := by
  intro i
  induction i with
  | zero =>
    intro j
    show rk0 g 15 21 j ≤ _
    by_cases q : j < 15
    · rw [rk0_z g 15 j q]; exact Nat.zero_le _
    · have : ∀ i, i ≤ 15 → rk0 g i 21 j = g 21 j := by
        intro i
        induction i with
        | zero => intro _; rfl
        | succ i ih => intro h; show gs _ 21 i 0 21 j = _; rw [gs_ni _ (by omega)]; exact ih (by omega)
      rw [this 15 (Nat.le_refl _)]; have := hb j; omega
  | succ i ih =>
    intro j
    have := rkI_le (g := g) (sum := sum) (h := i) ih 24 j
    show rkI g sum i (rkO g sum i) 24 21 j ≤ _
    omega
theorem sameB_f {g y : G} (h : ∀ f, f ≠ 21 → ∀ j, y f j = g f j) : sameB g y := ⟨fun j => h 2 (by decide) j, fun j => h 3 (by decide) j⟩
theorem mCity_cg {g y : G} (h : sameB g y) (c : Nat) : mCity y c = mCity g c := by unfold mCity; rw [h.1]
set_option maxHeartbeats 1000000 in
set_option maxRecDepth 100000 in
theorem cM_reckons (l : Launch) {D : va_G} {dA : Nat → ClassId} {A : Nat → Prop} {ad : Nat → Nat} {g : G} (hg : Sm g) (a1 : Nat) (h1 : a1 < 100) (hgd : ∀ h, h < 7 → g 0 h ≤ 5) (hn7 : ∀ h, h < 7 → g 0 h = 5 → g 1 h = 7) (h21 : ∀ j, g 21 j ≤ 2000) (H0 : Heap) (hM : MS D dA A ad g H0) {Post : Option Value → Heap → Prop} (hPost : ∀ H : Heap, MS D dA A ad (rkG g a1 5) H → Sm (rkG g a1 5) → Post (none) H) : Ct l yX3_reckons (ws_ yX3_reckons cX3_reckons 6 none) (rmF 2 0 0 36) A (KT D dA) [.ref (ad 0), .int (nI a1)] H0 Post := by
  refine zc_of RX3 rfl (by decide) (Nat.le_of_ble_eq_true rfl) ?_
  intro pr en s m args below meth cd S hr hlk hnm hh hK ls hl
  have hS : va_S A s.heap H0 [] := zc_start hh
  have hg0 := hg
  have hx := S.1
  have hb := S.2.1
  have hown := S.2.2.2.1
  have hts := S.2.2.2.2
  have hl : lv_has ls 6 [(0, .ref (ad 0)), (1, .int (nI a1))] := hl
  refine lv_iconst (v := nI 0) hx hb dX3_reckons_0 zi_0 ?_
  refine lv_istore_n (lv' := [(2, .int (nI 0)), (0, .ref (ad 0)), (1, .int (nI a1))]) hx hb dX3_reckons_1 rfl hl (by decide) rfl (fun ls hl => ?_)
  have L_2 : ∀ (n_2 : Nat) (k : Nat), k ≤ 15 → 15 - k < n_2 → ∀ gLv : G, gLv = rk0 g k → Sm gLv → ∀ (H : Heap) (locs : List Loc), MS D dA A ad gLv H → va_S A s.heap H locs → ∀ ls : Array Slot, lv_has ls 6 [(0, .ref (ad 0)), (1, .int (nI a1)), (2, .int (nI k))] → W pr l en (rmF 2 0 0 36) s m args below meth cd H locs 0 0 (MQ below (zc_Q Post A) args s 0 0 A) (F0 m 2 ls []) := by
    intro n_2
    induction n_2 with
    | zero => intro k hi_2 hm_2; exact absurd hm_2 (Nat.not_lt_zero _)
    | succ n_2 ih_2 =>
      intro k hi_2 hm_2 gLv egL hg H locs hM hS ls hl
      subst egL
      refine lv_iload_n hx hb dX3_reckons_2 rfl (lv_at hl 2 rfl) ?_
      refine lv_bipush (v := nI 15) hx hb dX3_reckons_3 zb_15 ?_
      refine zr_icmp_geN (a := k) (b := 15) (tgt := 21) hx hb (by omega) (by omega) dX3_reckons_5 (by decide) (fun c_1 => ?_) (fun c_1 => ?_)
      · have e_k : 15 = k := by omega
        subst e_k
        refine lv_iconst (v := nI 0) hx hb dX3_reckons_21 zi_0 ?_
        refine lv_istore_n (lv' := [(2, .int (nI 0)), (0, .ref (ad 0)), (1, .int (nI a1))]) hx hb dX3_reckons_22 rfl hl (by decide) rfl (fun ls hl => ?_)
        have L_23 : ∀ (n_23 : Nat) (h : Nat), h ≤ 7 → 7 - h < n_23 → ∀ gLv : G, gLv = rkO g a1 h → Sm gLv → ∀ (H : Heap) (locs : List Loc), MS D dA A ad gLv H → va_S A s.heap H locs → ∀ ls : Array Slot, lv_has ls 6 [(0, .ref (ad 0)), (1, .int (nI a1)), (2, .int (nI h))] → W pr l en (rmF 2 0 0 36) s m args below meth cd H locs 0 0 (MQ below (zc_Q Post A) args s 0 0 A) (F0 m 23 ls []) := by
          intro n_23
          induction n_23 with
          | zero => intro h hi_23 hm_23; exact absurd hm_23 (Nat.not_lt_zero _)
          | succ n_23 ih_23 =>
            intro h hi_23 hm_23 gLv egL hg H locs hM hS ls hl
            subst egL
            refine lv_iload_n hx hb dX3_reckons_23 rfl (lv_at hl 2 rfl) ?_
            refine lv_bipush (v := nI 7) hx hb dX3_reckons_24 zb_7 ?_
            refine zr_icmp_geN (a := h) (b := 7) (tgt := 137) hx hb (by omega) (by omega) dX3_reckons_26 (by decide) (fun c_2 => ?_) (fun c_2 => ?_)
            · have e_h : 7 = h := by omega
              subst e_h
              refine lv_iconst (v := nI 0) hx hb dX3_reckons_137 zi_0 ?_
              refine lv_istore_n (lv' := [(2, .int (nI 0)), (0, .ref (ad 0)), (1, .int (nI a1))]) hx hb dX3_reckons_138 rfl hl (by decide) rfl (fun ls hl => ?_)
              have L_139 : ∀ (n_139 : Nat) (i : Nat), i ≤ 5 → 5 - i < n_139 → ∀ gLv : G, gLv = rkG g a1 i → Sm gLv → ∀ (H : Heap) (locs : List Loc), MS D dA A ad gLv H → va_S A s.heap H locs → ∀ ls : Array Slot, lv_has ls 6 [(0, .ref (ad 0)), (2, .int (nI i))] → W pr l en (rmF 2 0 0 36) s m args below meth cd H locs 0 0 (MQ below (zc_Q Post A) args s 0 0 A) (F0 m 139 ls []) := by
                intro n_139
                induction n_139 with
                | zero => intro i hi_139 hm_139; exact absurd hm_139 (Nat.not_lt_zero _)
                | succ n_139 ih_139 =>
                  intro i hi_139 hm_139 gLv egL hg H locs hM hS ls hl
                  subst egL
                  refine lv_iload_n hx hb dX3_reckons_139 rfl (lv_at hl 1 rfl) ?_
                  refine lv_iconst (v := nI 5) hx hb dX3_reckons_140 zi_5 ?_
                  refine zr_icmp_geN (a := i) (b := 5) (tgt := 240) hx hb (by omega) (by omega) dX3_reckons_141 (by decide) (fun c_3 => ?_) (fun c_3 => ?_)
                  · have e_i : 5 = i := by omega
                    subst e_i
                    exact zc_vret (hPost H hM hg) hS hx hb hr hlk (Nat.zero_le _) (Nat.zero_le _) dX3_reckons_240
                  · refine lv_aload_n hx hb dX3_reckons_144 rfl (lv_at hl 0 rfl) ?_
                    refine gM_yield S hK hM dX3_reckons_145 ?_
                    refine lv_iload_n hx hb dX3_reckons_148 rfl (lv_at hl 1 rfl) ?_
                    refine lM_yield S hK hM i (by omega) ((rkG g a1 i) 21 i) rfl dX3_reckons_149 ?_
                    have hb_4 : (rkG g a1 i) 21 i < 1048576 := by first | exact hg 21 i | exact hg0 _ _ | (have := hg 21 i; omega) | omega
                    refine lv_aload_n hx hb dX3_reckons_150 rfl (lv_at hl 0 rfl) ?_
                    refine gM_yield S hK hM dX3_reckons_151 ?_
                    refine lv_iconst (v := nI 5) hx hb dX3_reckons_154 zi_5 ?_
                    refine lv_iload_n hx hb dX3_reckons_155 rfl (lv_at hl 1 rfl) ?_
                    refine zr_addN (a := 5) (b := i) hx hb dX3_reckons_156 ?_
                    refine lM_yield S hK hM (5 + i) (by omega) ((rkG g a1 i) 21 (5 + i)) rfl dX3_reckons_157 ?_
                    have hb_5 : (rkG g a1 i) 21 (5 + i) < 1048576 := by first | exact hg 21 (5 + i) | exact hg0 _ _ | (have := hg 21 (5 + i); omega) | omega
                    refine zr_addN (a := ((rkG g a1 i) 21 i)) (b := ((rkG g a1 i) 21 (5 + i))) hx hb dX3_reckons_158 ?_
                    refine lv_aload_n hx hb dX3_reckons_159 rfl (lv_at hl 0 rfl) ?_
                    refine gM_yield S hK hM dX3_reckons_160 ?_
                    refine lv_bipush (v := nI 10) hx hb dX3_reckons_163 zb_10 ?_
                    refine lv_iload_n hx hb dX3_reckons_165 rfl (lv_at hl 1 rfl) ?_
                    refine zr_addN (a := 10) (b := i) hx hb dX3_reckons_166 ?_
                    refine lM_yield S hK hM (10 + i) (by omega) ((rkG g a1 i) 21 (10 + i)) rfl dX3_reckons_167 ?_
                    have hb_6 : (rkG g a1 i) 21 (10 + i) < 1048576 := by first | exact hg 21 (10 + i) | exact hg0 _ _ | (have := hg 21 (10 + i); omega) | omega
                    refine zr_addN (a := (((rkG g a1 i) 21 i) + ((rkG g a1 i) 21 (5 + i)))) (b := ((rkG g a1 i) 21 (10 + i))) hx hb dX3_reckons_168 ?_
                    refine lv_istore_n (lv' := [(3, .int (nI ((((rkG g a1 i) 21 i) + ((rkG g a1 i) 21 (5 + i))) + ((rkG g a1 i) 21 (10 + i))))), (0, .ref (ad 0)), (2, .int (nI i))]) hx hb dX3_reckons_169 rfl hl (by decide) rfl (fun ls hl => ?_)
                    refine lv_aload_n hx hb dX3_reckons_170 rfl (lv_at hl 1 rfl) ?_
                    refine gM_hand S hK hM dX3_reckons_171 ?_
                    refine lv_bipush (v := nI 15) hx hb dX3_reckons_174 zb_15 ?_
                    refine lv_iload_n hx hb dX3_reckons_176 rfl (lv_at hl 2 rfl) ?_
                    refine zr_addN (a := 15) (b := i) hx hb dX3_reckons_177 ?_
                    refine lM_hand S hK hM (15 + i) (by omega) (g 4 (15 + i)) (by first | rfl | exact rk0_nf _ (by decide) _ _ | exact rkO_nf _ _ (by decide) _ _ | exact (rkI_nf _ _ _ _ (by decide) _ _).trans (rkO_nf _ _ (by decide) _ _) | exact rkG_nf _ _ (by decide) _ _ | exact (rkP_nf _ _ _ _ (by decide) _ _).trans (rkG_nf _ _ (by decide) _ _)) dX3_reckons_178 ?_
                    have hb_7 : g 4 (15 + i) < 1048576 := by first | exact hg 4 (15 + i) | exact hg0 _ _ | (have := hg 4 (15 + i); omega) | omega
                    refine lv_istore (lv' := [(4, .int (nI (g 4 (15 + i)))), (3, .int (nI ((((rkG g a1 i) 21 i) + ((rkG g a1 i) 21 (5 + i))) + ((rkG g a1 i) 21 (10 + i))))), (0, .ref (ad 0)), (2, .int (nI i))]) hx hb dX3_reckons_179 hl (by decide) rfl (fun ls hl => ?_)
                    refine lv_iconst (v := nI 0) hx hb dX3_reckons_181 zi_0 ?_
                    refine lv_istore (lv' := [(5, .int (nI 0)), (4, .int (nI (g 4 (15 + i)))), (3, .int (nI ((((rkG g a1 i) 21 i) + ((rkG g a1 i) 21 (5 + i))) + ((rkG g a1 i) 21 (10 + i))))), (0, .ref (ad 0)), (2, .int (nI i))]) hx hb dX3_reckons_182 hl (by decide) rfl (fun ls hl => ?_)
                    have L_184 : ∀ (n_184 : Nat) (q : Nat), q ≤ 3 → q = 0 ∨ g 4 (15 + i) < rkG g a1 i 21 i + rkG g a1 i 21 (5 + i) + rkG g a1 i 21 (10 + i) → 3 - q < n_184 → ∀ gLv : G, gLv = rkP (rkG g a1 i 21 i + rkG g a1 i 21 (5 + i) + rkG g a1 i 21 (10 + i)) (g 4 (15 + i)) i (rkG g a1 i) q → Sm gLv → ∀ (H : Heap) (locs : List Loc), MS D dA A ad gLv H → va_S A s.heap H locs → ∀ ls : Array Slot, lv_has ls 6 [(0, .ref (ad 0)), (2, .int (nI i)), (3, .int (nI ((((rkG g a1 i) 21 i) + ((rkG g a1 i) 21 (5 + i))) + ((rkG g a1 i) 21 (10 + i))))), (4, .int (nI (g 4 (15 + i)))), (5, .int (nI q))] → W pr l en (rmF 2 0 0 36) s m args below meth cd H locs 0 0 (MQ below (zc_Q Post A) args s 0 0 A) (F0 m 184 ls []) := by
                      intro n_184
                      induction n_184 with
                      | zero => intro q hi_184 hpb hm_184; exact absurd hm_184 (Nat.not_lt_zero _)
                      | succ n_184 ih_184 =>
                        intro q hi_184 hpb hm_184 gLv egL hg H locs hM hS ls hl
                        subst egL
                        refine lv_iload hx hb dX3_reckons_184 (lv_at hl 4 rfl) ?_
                        refine lv_iconst (v := nI 3) hx hb dX3_reckons_186 zi_3 ?_
                        refine zr_icmp_geN (a := q) (b := 3) (tgt := 234) hx hb (by omega) (by omega) dX3_reckons_187 (by decide) (fun c_8 => ?_) (fun c_8 => ?_)
                        · have e_q : 3 = q := by omega
                          subst e_q
                          refine lv_iinc (v := nI (i + 1)) (lv' := [(2, .int (nI (i + 1))), (0, .ref (ad 0)), (3, .int (nI ((((rkG g a1 i) 21 i) + ((rkG g a1 i) 21 (5 + i))) + ((rkG g a1 i) 21 (10 + i))))), (4, .int (nI (g 4 (15 + i)))), (5, .int (nI 3))]) hx hb dX3_reckons_234 hl (k := 1) rfl (zk_inc _) (by decide) rfl (fun ls hl => ?_)
                          refine lv_goto (tgt := 139) hx hb dX3_reckons_237 (by decide) ?_
                          exact ih_139 (i + 1) (by first | omega | assumption | (simp; done) | grind) (by omega) (rkP (rkG g a1 i 21 i + rkG g a1 i 21 (5 + i) + rkG g a1 i 21 (10 + i)) (g 4 (15 + i)) i (rkG g a1 i) 3) (by first | (have q := hpb.resolve_left (by decide); simp only [rkG]; rw [if_pos q]; done) | (have q := hpb.resolve_right c_8; subst q; simp only [rkG]; rw [if_neg c_8]; rfl)) hg H locs hM hS ls (lv_sub hl [1, 0] rfl)
                        · refine lv_iload_n hx hb dX3_reckons_190 rfl (lv_at hl 2 rfl) ?_
                          refine lv_iload hx hb dX3_reckons_191 (lv_at hl 3 rfl) ?_
                          refine zr_icmp_leN (a := ((((rkG g a1 i) 21 i) + ((rkG g a1 i) 21 (5 + i))) + ((rkG g a1 i) 21 (10 + i)))) (b := (g 4 (15 + i))) (tgt := 234) hx hb (by omega) (by omega) dX3_reckons_193 (by decide) (fun c_9 => ?_) (fun c_9 => ?_)
                          · refine lv_iinc (v := nI (i + 1)) (lv' := [(2, .int (nI (i + 1))), (0, .ref (ad 0)), (3, .int (nI ((((rkG g a1 i) 21 i) + ((rkG g a1 i) 21 (5 + i))) + ((rkG g a1 i) 21 (10 + i))))), (4, .int (nI (g 4 (15 + i)))), (5, .int (nI q))]) hx hb dX3_reckons_234 hl (k := 1) rfl (zk_inc _) (by decide) rfl (fun ls hl => ?_)
                            refine lv_goto (tgt := 139) hx hb dX3_reckons_237 (by decide) ?_
                            exact ih_139 (i + 1) (by first | omega | assumption | (simp; done) | grind) (by omega) (rkP (rkG g a1 i 21 i + rkG g a1 i 21 (5 + i) + rkG g a1 i 21 (10 + i)) (g 4 (15 + i)) i (rkG g a1 i) q) (by first | (have q := hpb.resolve_left (by decide); simp only [rkG]; rw [if_pos q]; done) | (have q := hpb.resolve_right c_9; subst q; simp only [rkG]; rw [if_neg c_9]; rfl)) hg H locs hM hS ls (lv_sub hl [1, 0] rfl)
                          · refine lv_aload_n hx hb dX3_reckons_196 rfl (lv_at hl 0 rfl) ?_
                            refine gM_yield S hK hM dX3_reckons_197 ?_
                            refine lv_iconst (v := nI 5) hx hb dX3_reckons_200 zi_5 ?_
                            refine lv_iload hx hb dX3_reckons_201 (lv_at hl 4 rfl) ?_
                            refine zr_mulN (a := 5) (b := q) hx hb dX3_reckons_203 ?_
                            refine lv_iload_n hx hb dX3_reckons_204 rfl (lv_at hl 1 rfl) ?_
                            refine zr_addN (a := (5 * q)) (b := i) hx hb dX3_reckons_205 ?_
                            refine lv_aload_n hx hb dX3_reckons_206 rfl (lv_at hl 0 rfl) ?_
                            refine gM_yield S hK hM dX3_reckons_207 ?_
                            refine lv_iconst (v := nI 5) hx hb dX3_reckons_210 zi_5 ?_
                            refine lv_iload hx hb dX3_reckons_211 (lv_at hl 4 rfl) ?_
                            refine zr_mulN (a := 5) (b := q) hx hb dX3_reckons_213 ?_
                            refine lv_iload_n hx hb dX3_reckons_214 rfl (lv_at hl 1 rfl) ?_
                            refine zr_addN (a := (5 * q)) (b := i) hx hb dX3_reckons_215 ?_
                            refine lM_yield S hK hM ((5 * q) + i) (by omega) ((rkP (rkG g a1 i 21 i + rkG g a1 i 21 (5 + i) + rkG g a1 i 21 (10 + i)) (g 4 (15 + i)) i (rkG g a1 i) q) 21 ((5 * q) + i)) rfl dX3_reckons_216 ?_
                            have hb_10 : (rkP (rkG g a1 i 21 i + rkG g a1 i 21 (5 + i) + rkG g a1 i 21 (10 + i)) (g 4 (15 + i)) i (rkG g a1 i) q) 21 ((5 * q) + i) < 1048576 := by first | exact hg 21 ((5 * q) + i) | exact hg0 _ _ | (have := hg 21 ((5 * q) + i); omega) | omega
                            refine lv_iload_n hx hb dX3_reckons_217 rfl (lv_at hl 2 rfl) ?_
                            have J_227 : ∀ yS0_227 : Int32, yS0_227 = nI ((if ((rkP (rkG g a1 i 21 i + rkG g a1 i 21 (5 + i) + rkG g a1 i 21 (10 + i)) (g 4 (15 + i)) i (rkG g a1 i) q) 21 ((5 * q) + i)) = ((((rkG g a1 i) 21 i) + ((rkG g a1 i) 21 (5 + i))) + ((rkG g a1 i) 21 (10 + i))) then g 4 (15 + i) else 0)) → ∀ (H : Heap) (locs : List Loc), MS D dA A ad (rkP (rkG g a1 i 21 i + rkG g a1 i 21 (5 + i) + rkG g a1 i 21 (10 + i)) (g 4 (15 + i)) i (rkG g a1 i) q) H → va_S A s.heap H locs → ∀ ls : Array Slot, lv_has ls 6 [(0, .ref (ad 0)), (2, .int (nI i)), (3, .int (nI ((((rkG g a1 i) 21 i) + ((rkG g a1 i) 21 (5 + i))) + ((rkG g a1 i) 21 (10 + i))))), (4, .int (nI (g 4 (15 + i)))), (5, .int (nI q))] → W pr l en (rmF 2 0 0 36) s m args below meth cd H locs 0 0 (MQ below (zc_Q Post A) args s 0 0 A) (F0 m 227 ls [.int yS0_227, .int (nI ((5 * q) + i)), .ref (ad 14)]) := by
                              intro yS0_227 eyS0_227 H locs hM hS ls hl
                              subst eyS0_227
                              refine sM_yield S hK hM hS ((5 * q) + i) (by omega) ((if ((rkP (rkG g a1 i 21 i + rkG g a1 i 21 (5 + i) + rkG g a1 i 21 (10 + i)) (g 4 (15 + i)) i (rkG g a1 i) q) 21 ((5 * q) + i)) = ((((rkG g a1 i) 21 i) + ((rkG g a1 i) 21 (5 + i))) + ((rkG g a1 i) 21 (10 + i))) then g 4 (15 + i) else 0)) dX3_reckons_227 (fun H locs hM hS => ?_)
                              have hg : Sm (gs (rkP (rkG g a1 i 21 i + rkG g a1 i 21 (5 + i) + rkG g a1 i 21 (10 + i)) (g 4 (15 + i)) i (rkG g a1 i) q) 21 ((5 * q) + i) ((if ((rkP (rkG g a1 i 21 i + rkG g a1 i 21 (5 + i) + rkG g a1 i 21 (10 + i)) (g 4 (15 + i)) i (rkG g a1 i) q) 21 ((5 * q) + i)) = ((((rkG g a1 i) 21 i) + ((rkG g a1 i) 21 (5 + i))) + ((rkG g a1 i) 21 (10 + i))) then g 4 (15 + i) else 0))) := Sm_gs hg (by first | omega | exact Nat.lt_of_le_of_lt (Bool.toNat_le _) (by decide) | ((repeat' split) <;> omega))
                              refine lv_iinc (v := nI (q + 1)) (lv' := [(5, .int (nI (q + 1))), (0, .ref (ad 0)), (2, .int (nI i)), (3, .int (nI ((((rkG g a1 i) 21 i) + ((rkG g a1 i) 21 (5 + i))) + ((rkG g a1 i) 21 (10 + i))))), (4, .int (nI (g 4 (15 + i))))]) hx hb dX3_reckons_228 hl (k := 4) rfl (zk_inc _) (by decide) rfl (fun ls hl => ?_)
                              refine lv_goto (tgt := 184) hx hb dX3_reckons_231 (by decide) ?_
                              exact ih_184 (q + 1) (by first | omega | assumption | (simp; done) | grind) (by exact Or.inr (by assumption)) (by omega) (gs (rkP (rkG g a1 i 21 i + rkG g a1 i 21 (5 + i) + rkG g a1 i 21 (10 + i)) (g 4 (15 + i)) i (rkG g a1 i) q) 21 ((5 * q) + i) ((if ((rkP (rkG g a1 i 21 i + rkG g a1 i 21 (5 + i) + rkG g a1 i 21 (10 + i)) (g 4 (15 + i)) i (rkG g a1 i) q) 21 ((5 * q) + i)) = ((((rkG g a1 i) 21 i) + ((rkG g a1 i) 21 (5 + i))) + ((rkG g a1 i) 21 (10 + i))) then g 4 (15 + i) else 0))) (rfl) hg H locs hM hS ls (lv_sub hl [1, 2, 3, 4, 0] rfl)
                            refine zr_icmp_neN (a := ((rkP (rkG g a1 i 21 i + rkG g a1 i 21 (5 + i) + rkG g a1 i 21 (10 + i)) (g 4 (15 + i)) i (rkG g a1 i) q) 21 ((5 * q) + i))) (b := ((((rkG g a1 i) 21 i) + ((rkG g a1 i) 21 (5 + i))) + ((rkG g a1 i) 21 (10 + i)))) (tgt := 226) hx hb (by omega) (by omega) dX3_reckons_218 (by decide) (fun c_12 => ?_) (fun c_12 => ?_)
                            · refine lv_iconst (v := nI 0) hx hb dX3_reckons_226 zi_0 ?_
                              exact J_227 _ (congrArg nI (show (0 : Nat) = ((if ((rkP (rkG g a1 i 21 i + rkG g a1 i 21 (5 + i) + rkG g a1 i 21 (10 + i)) (g 4 (15 + i)) i (rkG g a1 i) q) 21 ((5 * q) + i)) = ((((rkG g a1 i) 21 i) + ((rkG g a1 i) 21 (5 + i))) + ((rkG g a1 i) 21 (10 + i))) then g 4 (15 + i) else 0)) from by first | with_reducible rfl | (simp [c_1, c_2, c_3, c_8, c_9, c_12]; done) | (simp only [c_1, c_2, c_3, c_8, c_9, c_12] <;> simp []; done) | (simp [c_1, c_2, c_3, c_8, c_9, c_12, Bool.and_assoc]; done) | (simp [c_1, c_2, c_3, c_8, c_9, c_12, Bool.and_assoc, Bool.or_assoc]; done) | rfl | (simp [c_1, c_2, c_3, c_8, c_9, c_12]; omega))) H locs hM hS ls (lv_sub hl [0, 1, 2, 3, 4] rfl)
                            · refine lv_iload hx hb dX3_reckons_221 (lv_at hl 3 rfl) ?_
                              refine lv_goto (tgt := 227) hx hb dX3_reckons_223 (by decide) ?_
                              exact J_227 _ (congrArg nI (show (g 4 (15 + i) : Nat) = ((if ((rkP (rkG g a1 i 21 i + rkG g a1 i 21 (5 + i) + rkG g a1 i 21 (10 + i)) (g 4 (15 + i)) i (rkG g a1 i) q) 21 ((5 * q) + i)) = ((((rkG g a1 i) 21 i) + ((rkG g a1 i) 21 (5 + i))) + ((rkG g a1 i) 21 (10 + i))) then g 4 (15 + i) else 0)) from by first | with_reducible rfl | (simp [c_1, c_2, c_3, c_8, c_9, c_12]; done) | (simp only [c_1, c_2, c_3, c_8, c_9, c_12] <;> simp []; done) | (simp [c_1, c_2, c_3, c_8, c_9, c_12, Bool.and_assoc]; done) | (simp [c_1, c_2, c_3, c_8, c_9, c_12, Bool.and_assoc, Bool.or_assoc]; done) | rfl | (simp [c_1, c_2, c_3, c_8, c_9, c_12]; omega))) H locs hM hS ls (lv_sub hl [0, 1, 2, 3, 4] rfl)
                    exact L_184 _ 0 (by first | omega | assumption | (simp; done) | grind) (by exact Or.inl rfl) (Nat.lt_succ_self _) (rkG g a1 i) (rfl) hg H locs hM hS ls (lv_sub hl [3, 4, 2, 1, 0] rfl)
              exact L_139 _ 0 (by first | omega | assumption | (simp; done) | grind) (Nat.lt_succ_self _) (rkO g a1 7) (rfl) hg H locs hM hS ls (lv_sub hl [1, 0] rfl)
            · refine lv_iconst (v := nI 0) hx hb dX3_reckons_29 zi_0 ?_
              refine lv_istore_n (lv' := [(3, .int (nI 0)), (0, .ref (ad 0)), (1, .int (nI a1)), (2, .int (nI h))]) hx hb dX3_reckons_30 rfl hl (by decide) rfl (fun ls hl => ?_)
              have L_31 : ∀ (n_31 : Nat) (c : Nat), c ≤ 24 → 24 - c < n_31 → ∀ gLv : G, gLv = rkI g a1 h (rkO g a1 h) c → Sm gLv → ∀ (H : Heap) (locs : List Loc), MS D dA A ad gLv H → va_S A s.heap H locs → ∀ ls : Array Slot, lv_has ls 6 [(0, .ref (ad 0)), (1, .int (nI a1)), (2, .int (nI h)), (3, .int (nI c))] → W pr l en (rmF 2 0 0 36) s m args below meth cd H locs 0 0 (MQ below (zc_Q Post A) args s 0 0 A) (F0 m 31 ls []) := by
                intro n_31
                induction n_31 with
                | zero => intro c hi_31 hm_31; exact absurd hm_31 (Nat.not_lt_zero _)
                | succ n_31 ih_31 =>
                  intro c hi_31 hm_31 gLv egL hg H locs hM hS ls hl
                  subst egL
                  refine lv_iload_n hx hb dX3_reckons_31 rfl (lv_at hl 3 rfl) ?_
                  refine lv_bipush (v := nI 24) hx hb dX3_reckons_32 zb_24 ?_
                  refine zr_icmp_geN (a := c) (b := 24) (tgt := 131) hx hb (by omega) (by omega) dX3_reckons_34 (by decide) (fun c_13 => ?_) (fun c_13 => ?_)
                  · have e_c : 24 = c := by omega
                    subst e_c
                    refine lv_iinc (v := nI (h + 1)) (lv' := [(2, .int (nI (h + 1))), (0, .ref (ad 0)), (1, .int (nI a1)), (3, .int (nI 24))]) hx hb dX3_reckons_131 hl (k := 2) rfl (zk_inc _) (by decide) rfl (fun ls hl => ?_)
                    refine lv_goto (tgt := 23) hx hb dX3_reckons_134 (by decide) ?_
                    exact ih_23 (h + 1) (by first | omega | assumption | (simp; done) | grind) (by omega) (rkI g a1 h (rkO g a1 h) 24) (rfl) hg H locs hM hS ls (lv_sub hl [1, 2, 0] rfl)
                  · have hsb : sameB g (rkI g a1 h (rkO g a1 h) c) := sameB_f (fun f hf j => (rkI_nf _ _ _ _ hf _ _).trans (rkO_nf _ _ hf _ _))
                    have hle := rkI_le (g := g) (sum := a1) (h := h) (rkO_le (g := g) (sum := a1) h21 h) c
                    refine lv_aload_n hx hb dX3_reckons_37 rfl (lv_at hl 0 rfl) ?_
                    refine gM_number S hK hM dX3_reckons_38 ?_
                    refine lv_iload_n hx hb dX3_reckons_41 rfl (lv_at hl 2 rfl) ?_
                    refine lM_number S hK hM h (by omega) (g 1 h) (by first | rfl | exact rk0_nf _ (by decide) _ _ | exact rkO_nf _ _ (by decide) _ _ | exact (rkI_nf _ _ _ _ (by decide) _ _).trans (rkO_nf _ _ (by decide) _ _) | exact rkG_nf _ _ (by decide) _ _ | exact (rkP_nf _ _ _ _ (by decide) _ _).trans (rkG_nf _ _ (by decide) _ _)) dX3_reckons_42 ?_
                    have hb_14 : g 1 h < 1048576 := by first | exact hg 1 h | exact hg0 _ _ | (have := hg 1 h; omega) | omega
                    refine lv_iload_n hx hb dX3_reckons_43 rfl (lv_at hl 1 rfl) ?_
                    have J_83 : ∀ yS0_83 : Int32, yS0_83 = nI (decide ((g 1 h) = a1) && (!decide (a1 = 7) && (!decide (h = (g 7 0)) && ((mOf h c) && (decide (0 < (g 2 c))))))).toNat → ∀ (H : Heap) (locs : List Loc), MS D dA A ad (rkI g a1 h (rkO g a1 h) c) H → va_S A s.heap H locs → ∀ ls : Array Slot, lv_has ls 6 [(0, .ref (ad 0)), (1, .int (nI a1)), (2, .int (nI h)), (3, .int (nI c))] → W pr l en (rmF 2 0 0 36) s m args below meth cd H locs 0 0 (MQ below (zc_Q Post A) args s 0 0 A) (F0 m 83 ls [.int yS0_83]) := by
                      intro yS0_83 eyS0_83 H locs hM hS ls hl
                      subst eyS0_83
                      refine lv_istore (lv' := [(4, .int (nI (decide ((g 1 h) = a1) && (!decide (a1 = 7) && (!decide (h = (g 7 0)) && ((mOf h c) && (decide (0 < (g 2 c))))))).toNat)), (0, .ref (ad 0)), (1, .int (nI a1)), (2, .int (nI h)), (3, .int (nI c))]) hx hb dX3_reckons_83 hl (by decide) rfl (fun ls hl => ?_)
                      refine lv_iload hx hb dX3_reckons_85 (lv_at hl 0 rfl) ?_
                      refine zr_if_eqB (b := decide ((g 1 h) = a1) && (!decide (a1 = 7) && (!decide (h = (g 7 0)) && ((mOf h c) && (decide (0 < (g 2 c))))))) (tgt := 125) hx hb dX3_reckons_87 (by decide) (fun c_22 => ?_) (fun c_22 => ?_)
                      · refine lv_iinc (v := nI (c + 1)) (lv' := [(3, .int (nI (c + 1))), (4, .int (nI (decide ((g 1 h) = a1) && (!decide (a1 = 7) && (!decide (h = (g 7 0)) && ((mOf h c) && (decide (0 < (g 2 c))))))).toNat)), (0, .ref (ad 0)), (1, .int (nI a1)), (2, .int (nI h))]) hx hb dX3_reckons_125 hl (k := 4) rfl (zk_inc _) (by decide) rfl (fun ls hl => ?_)
                        refine lv_goto (tgt := 31) hx hb dX3_reckons_128 (by decide) ?_
                        exact ih_31 (c + 1) (by first | omega | assumption | (simp; done) | grind) (by omega) (rkI g a1 h (rkO g a1 h) c) (by simp only [rkI, rkC, c_1, c_2, c_13, c_22, Bool.false_eq_true, if_true, if_false]) hg H locs hM hS ls (lv_sub hl [2, 3, 4, 0] rfl)
                      · have hC := c_22
                        simp only [Bool.and_eq_true, Bool.not_eq_true', decide_eq_false_iff_not, decide_eq_true_eq] at hC
                        have hg05 : g 0 h < 5 := by have q := hgd h (by omega); rcases Nat.lt_or_ge (g 0 h) 5 with r | r; exact r; (have := hn7 h (by omega) (by omega); exfalso; exact hC.2.1 (by rw [← hC.1]; exact this))
                        have ho0 : 0 < own1 g c := by unfold own1; rw [if_neg (by omega)]; omega
                        have ho4 := own1_lt g c
                        have hle1 := hle (5 * (own1 g c - 1) + g 0 h)
                        refine lv_aload_n hx hb dX3_reckons_90 rfl (lv_at hl 1 rfl) ?_
                        refine gM_yield S hK hM dX3_reckons_91 ?_
                        refine lv_iconst (v := nI 5) hx hb dX3_reckons_94 zi_5 ?_
                        refine lv_aload_n hx hb dX3_reckons_95 rfl (lv_at hl 1 rfl) ?_
                        refine lv_iload_n hx hb dX3_reckons_96 rfl (lv_at hl 4 rfl) ?_
                        refine kM_ownerAt S hK hM hg hS c (by first | omega | assumption | grind) (Nat.le_of_ble_eq_true rfl) (Nat.le_of_ble_eq_true rfl) hl.1 (Nat.le_of_ble_eq_true rfl) dX3_reckons_97 (Nat.zero_le _) (Nat.zero_le _) (fun locs hS => ?_)
                        have f97_0 : own1 (rkI g a1 h (rkO g a1 h) c) c < 4 := own1_lt _ _
                        rw [own1_cg hsb]
                        rw [mI_pred (show 0 < (own1 g c) from by omega)]
                        refine zr_mulN (a := 5) (b := ((own1 g c) - 1)) hx hb dX3_reckons_100 ?_
                        refine lv_aload_n hx hb dX3_reckons_101 rfl (lv_at hl 1 rfl) ?_
                        refine gM_good S hK hM dX3_reckons_102 ?_
                        refine lv_iload_n hx hb dX3_reckons_105 rfl (lv_at hl 3 rfl) ?_
                        refine lM_good S hK hM h (by omega) (g 0 h) (by first | rfl | exact rk0_nf _ (by decide) _ _ | exact rkO_nf _ _ (by decide) _ _ | exact (rkI_nf _ _ _ _ (by decide) _ _).trans (rkO_nf _ _ (by decide) _ _) | exact rkG_nf _ _ (by decide) _ _ | exact (rkP_nf _ _ _ _ (by decide) _ _).trans (rkG_nf _ _ (by decide) _ _)) dX3_reckons_106 ?_
                        have hb_23 : g 0 h < 1048576 := by first | exact hg 0 h | exact hg0 _ _ | (have := hg 0 h; omega) | omega
                        refine zr_addN (a := (5 * ((own1 g c) - 1))) (b := (g 0 h)) hx hb dX3_reckons_107 ?_
                        refine lv_dup2_11 hx hb dX3_reckons_108 rfl rfl ?_
                        refine lM_yield S hK hM ((5 * ((own1 g c) - 1)) + (g 0 h)) (by omega) ((rkI g a1 h (rkO g a1 h) c) 21 ((5 * ((own1 g c) - 1)) + (g 0 h))) rfl dX3_reckons_109 ?_
                        have hb_24 : (rkI g a1 h (rkO g a1 h) c) 21 ((5 * ((own1 g c) - 1)) + (g 0 h)) < 1048576 := by first | exact hg 21 ((5 * ((own1 g c) - 1)) + (g 0 h)) | exact hg0 _ _ | (have := hg 21 ((5 * ((own1 g c) - 1)) + (g 0 h)); omega) | omega
                        refine lv_aload_n hx hb dX3_reckons_110 rfl (lv_at hl 1 rfl) ?_
                        refine lv_iload_n hx hb dX3_reckons_111 rfl (lv_at hl 4 rfl) ?_
                        refine kM_isCity S hK hM hg hS c (by first | omega | assumption | grind) (Nat.le_of_ble_eq_true rfl) (Nat.le_of_ble_eq_true rfl) hl.1 (Nat.le_of_ble_eq_true rfl) dX3_reckons_112 (Nat.zero_le _) (Nat.zero_le _) (fun locs hS => ?_)
                        rw [mCity_cg hsb]
                        have J_123 : ∀ yS0_123 : Int32, yS0_123 = nI ((if (mCity g c) = true then 2 else 1)) → ∀ (H : Heap) (locs : List Loc), MS D dA A ad (rkI g a1 h (rkO g a1 h) c) H → va_S A s.heap H locs → ∀ ls : Array Slot, lv_has ls 6 [(0, .ref (ad 0)), (1, .int (nI a1)), (2, .int (nI h)), (3, .int (nI c))] → W pr l en (rmF 2 0 0 36) s m args below meth cd H locs 0 0 (MQ below (zc_Q Post A) args s 0 0 A) (F0 m 123 ls [.int yS0_123, .int (nI ((rkI g a1 h (rkO g a1 h) c) 21 ((5 * ((own1 g c) - 1)) + (g 0 h)))), .int (nI ((5 * ((own1 g c) - 1)) + (g 0 h))), .ref (ad 14)]) := by
                          intro yS0_123 eyS0_123 H locs hM hS ls hl
                          subst eyS0_123
                          refine zr_addN (a := ((rkI g a1 h (rkO g a1 h) c) 21 ((5 * ((own1 g c) - 1)) + (g 0 h)))) (b := ((if (mCity g c) = true then 2 else 1))) hx hb dX3_reckons_123 ?_
                          refine sM_yield S hK hM hS ((5 * ((own1 g c) - 1)) + (g 0 h)) (by omega) (((rkI g a1 h (rkO g a1 h) c) 21 ((5 * ((own1 g c) - 1)) + (g 0 h))) + ((if (mCity g c) = true then 2 else 1))) dX3_reckons_124 (fun H locs hM hS => ?_)
                          have hg : Sm (gs (rkI g a1 h (rkO g a1 h) c) 21 ((5 * ((own1 g c) - 1)) + (g 0 h)) (((rkI g a1 h (rkO g a1 h) c) 21 ((5 * ((own1 g c) - 1)) + (g 0 h))) + ((if (mCity g c) = true then 2 else 1)))) := Sm_gs hg (by first | omega | exact Nat.lt_of_le_of_lt (Bool.toNat_le _) (by decide) | ((repeat' split) <;> omega))
                          refine lv_iinc (v := nI (c + 1)) (lv' := [(3, .int (nI (c + 1))), (0, .ref (ad 0)), (1, .int (nI a1)), (2, .int (nI h))]) hx hb dX3_reckons_125 hl (k := 3) rfl (zk_inc _) (by decide) rfl (fun ls hl => ?_)
                          refine lv_goto (tgt := 31) hx hb dX3_reckons_128 (by decide) ?_
                          exact ih_31 (c + 1) (by first | omega | assumption | (simp; done) | grind) (by omega) (gs (rkI g a1 h (rkO g a1 h) c) 21 ((5 * ((own1 g c) - 1)) + (g 0 h)) (((rkI g a1 h (rkO g a1 h) c) 21 ((5 * ((own1 g c) - 1)) + (g 0 h))) + ((if (mCity g c) = true then 2 else 1)))) (by simp only [rkI, rkC, c_1, c_2, c_13, c_22, Bool.false_eq_true, if_true, if_false]) hg H locs hM hS ls (lv_sub hl [1, 2, 3, 0] rfl)
                        refine zr_if_eqB (b := mCity g c) (tgt := 122) hx hb dX3_reckons_115 (by decide) (fun c_26 => ?_) (fun c_26 => ?_)
                        · refine lv_iconst (v := nI 1) hx hb dX3_reckons_122 zi_1 ?_
                          exact J_123 _ (congrArg nI (show (1 : Nat) = ((if (mCity g c) = true then 2 else 1)) from by first | with_reducible rfl | (simp [c_1, c_2, c_13, c_22, c_26]; done) | (simp only [c_1, c_2, c_13, c_22, c_26] <;> simp []; done) | (simp [c_1, c_2, c_13, c_22, c_26, Bool.and_assoc]; done) | (simp [c_1, c_2, c_13, c_22, c_26, Bool.and_assoc, Bool.or_assoc]; done) | rfl | (simp [c_1, c_2, c_13, c_22, c_26]; omega))) H locs hM hS ls (lv_sub hl [1, 2, 3, 4] rfl)
                        · refine lv_iconst (v := nI 2) hx hb dX3_reckons_118 zi_2 ?_
                          refine lv_goto (tgt := 123) hx hb dX3_reckons_119 (by decide) ?_
                          exact J_123 _ (congrArg nI (show (2 : Nat) = ((if (mCity g c) = true then 2 else 1)) from by first | with_reducible rfl | (simp [c_1, c_2, c_13, c_22, c_26]; done) | (simp only [c_1, c_2, c_13, c_22, c_26] <;> simp []; done) | (simp [c_1, c_2, c_13, c_22, c_26, Bool.and_assoc]; done) | (simp [c_1, c_2, c_13, c_22, c_26, Bool.and_assoc, Bool.or_assoc]; done) | rfl | (simp [c_1, c_2, c_13, c_22, c_26]; omega))) H locs hM hS ls (lv_sub hl [1, 2, 3, 4] rfl)
                    refine zr_icmp_neN (a := (g 1 h)) (b := a1) (tgt := 82) hx hb (by omega) (by omega) dX3_reckons_44 (by decide) (fun c_27 => ?_) (fun c_27 => ?_)
                    · refine lv_iconst (v := nI 0) hx hb dX3_reckons_82 zi_0 ?_
                      exact J_83 _ (congrArg (fun z : Bool => nI z.toNat) (show (false : Bool) = (decide ((g 1 h) = a1) && (!decide (a1 = 7) && (!decide (h = (g 7 0)) && ((mOf h c) && (decide (0 < (g 2 c))))))) from by first | with_reducible rfl | (simp [c_1, c_2, c_13, c_27]; done) | (simp only [c_1, c_2, c_13, c_27] <;> simp []; done) | (simp [c_1, c_2, c_13, c_27, Bool.and_assoc]; done) | (simp [c_1, c_2, c_13, c_27, Bool.and_assoc, Bool.or_assoc]; done) | rfl | (simp [c_1, c_2, c_13, c_27]; omega))) H locs hM hS ls (lv_sub hl [0, 1, 2, 3] rfl)
                    · refine lv_iload_n hx hb dX3_reckons_47 rfl (lv_at hl 1 rfl) ?_
                      refine lv_bipush (v := nI 7) hx hb dX3_reckons_48 zb_7 ?_
                      refine zr_icmp_eqN (a := a1) (b := 7) (tgt := 82) hx hb (by omega) (by omega) dX3_reckons_50 (by decide) (fun c_28 => ?_) (fun c_28 => ?_)
                      · refine lv_iconst (v := nI 0) hx hb dX3_reckons_82 zi_0 ?_
                        exact J_83 _ (congrArg (fun z : Bool => nI z.toNat) (show (false : Bool) = (decide ((g 1 h) = a1) && (!decide (a1 = 7) && (!decide (h = (g 7 0)) && ((mOf h c) && (decide (0 < (g 2 c))))))) from by first | with_reducible rfl | (simp [c_1, c_2, c_13, c_27, c_28]; done) | (simp only [c_1, c_2, c_13, c_27, c_28] <;> simp []; done) | (simp [c_1, c_2, c_13, c_27, c_28, Bool.and_assoc]; done) | (simp [c_1, c_2, c_13, c_27, c_28, Bool.and_assoc, Bool.or_assoc]; done) | rfl | (simp [c_1, c_2, c_13, c_27, c_28]; omega))) H locs hM hS ls (lv_sub hl [0, 1, 2, 3] rfl)
                      · refine lv_iload_n hx hb dX3_reckons_53 rfl (lv_at hl 2 rfl) ?_
                        refine lv_aload_n hx hb dX3_reckons_54 rfl (lv_at hl 0 rfl) ?_
                        refine gM_robber S hK hM (g 7 0) (by first | rfl | exact rk0_nf _ (by decide) _ _ | exact rkO_nf _ _ (by decide) _ _ | exact (rkI_nf _ _ _ _ (by decide) _ _).trans (rkO_nf _ _ (by decide) _ _) | exact rkG_nf _ _ (by decide) _ _ | exact (rkP_nf _ _ _ _ (by decide) _ _).trans (rkG_nf _ _ (by decide) _ _)) dX3_reckons_55 ?_
                        have hb_29 : g 7 0 < 1048576 := by first | exact hg 7 0 | exact hg0 _ _ | (have := hg 7 0; omega) | omega
                        refine zr_icmp_eqN (a := h) (b := (g 7 0)) (tgt := 82) hx hb (by omega) (by omega) dX3_reckons_58 (by decide) (fun c_30 => ?_) (fun c_30 => ?_)
                        · refine lv_iconst (v := nI 0) hx hb dX3_reckons_82 zi_0 ?_
                          exact J_83 _ (congrArg (fun z : Bool => nI z.toNat) (show (false : Bool) = (decide ((g 1 h) = a1) && (!decide (a1 = 7) && (!decide (h = (g 7 0)) && ((mOf h c) && (decide (0 < (g 2 c))))))) from by first | with_reducible rfl | (simp [c_1, c_2, c_13, c_27, c_28, c_30]; done) | (simp only [c_1, c_2, c_13, c_27, c_28, c_30] <;> simp []; done) | (simp [c_1, c_2, c_13, c_27, c_28, c_30, Bool.and_assoc]; done) | (simp [c_1, c_2, c_13, c_27, c_28, c_30, Bool.and_assoc, Bool.or_assoc]; done) | rfl | (simp [c_1, c_2, c_13, c_27, c_28, c_30]; omega))) H locs hM hS ls (lv_sub hl [0, 1, 2, 3] rfl)
                        · refine lv_iload_n hx hb dX3_reckons_61 rfl (lv_at hl 2 rfl) ?_
                          refine lv_iload_n hx hb dX3_reckons_62 rfl (lv_at hl 3 rfl) ?_
                          refine kM_isOf S hK hM hg hS h c (by first | omega | assumption | grind) (by first | omega | assumption | grind) (Nat.le_of_ble_eq_true rfl) (Nat.le_of_ble_eq_true rfl) hl.1 (Nat.le_of_ble_eq_true rfl) dX3_reckons_63 (Nat.zero_le _) (Nat.zero_le _) (fun locs hS => ?_)
                          refine zr_if_eqB (b := mOf h c) (tgt := 82) hx hb dX3_reckons_66 (by decide) (fun c_31 => ?_) (fun c_31 => ?_)
                          · refine lv_iconst (v := nI 0) hx hb dX3_reckons_82 zi_0 ?_
                            exact J_83 _ (congrArg (fun z : Bool => nI z.toNat) (show (false : Bool) = (decide ((g 1 h) = a1) && (!decide (a1 = 7) && (!decide (h = (g 7 0)) && ((mOf h c) && (decide (0 < (g 2 c))))))) from by first | with_reducible rfl | (simp [c_1, c_2, c_13, c_27, c_28, c_30, c_31]; done) | (simp only [c_1, c_2, c_13, c_27, c_28, c_30, c_31] <;> simp []; done) | (simp [c_1, c_2, c_13, c_27, c_28, c_30, c_31, Bool.and_assoc]; done) | (simp [c_1, c_2, c_13, c_27, c_28, c_30, c_31, Bool.and_assoc, Bool.or_assoc]; done) | rfl | (simp [c_1, c_2, c_13, c_27, c_28, c_30, c_31]; omega))) H locs hM hS ls (lv_sub hl [0, 1, 2, 3] rfl)
                          · refine lv_aload_n hx hb dX3_reckons_69 rfl (lv_at hl 0 rfl) ?_
                            refine gM_building S hK hM dX3_reckons_70 ?_
                            refine lv_iload_n hx hb dX3_reckons_73 rfl (lv_at hl 3 rfl) ?_
                            refine lM_building S hK hM c (by omega) (g 2 c) (by first | rfl | exact rk0_nf _ (by decide) _ _ | exact rkO_nf _ _ (by decide) _ _ | exact (rkI_nf _ _ _ _ (by decide) _ _).trans (rkO_nf _ _ (by decide) _ _) | exact rkG_nf _ _ (by decide) _ _ | exact (rkP_nf _ _ _ _ (by decide) _ _).trans (rkG_nf _ _ (by decide) _ _)) dX3_reckons_74 ?_
                            have hb_32 : g 2 c < 1048576 := by first | exact hg 2 c | exact hg0 _ _ | (have := hg 2 c; omega) | omega
                            refine zr_if_leN (a := (g 2 c)) (tgt := 82) hx hb (by omega) dX3_reckons_75 (by decide) (fun c_33 => ?_) (fun c_33 => ?_)
                            · refine lv_iconst (v := nI 0) hx hb dX3_reckons_82 zi_0 ?_
                              exact J_83 _ (congrArg (fun z : Bool => nI z.toNat) (show (false : Bool) = (decide ((g 1 h) = a1) && (!decide (a1 = 7) && (!decide (h = (g 7 0)) && ((mOf h c) && (decide (0 < (g 2 c))))))) from by first | with_reducible rfl | (simp [c_1, c_2, c_13, c_27, c_28, c_30, c_31, c_33]; done) | (simp only [c_1, c_2, c_13, c_27, c_28, c_30, c_31, c_33] <;> simp []; done) | (simp [c_1, c_2, c_13, c_27, c_28, c_30, c_31, c_33, Bool.and_assoc]; done) | (simp [c_1, c_2, c_13, c_27, c_28, c_30, c_31, c_33, Bool.and_assoc, Bool.or_assoc]; done) | rfl | (simp [c_1, c_2, c_13, c_27, c_28, c_30, c_31, c_33]; omega))) H locs hM hS ls (lv_sub hl [0, 1, 2, 3] rfl)
                            · refine lv_iconst (v := nI 1) hx hb dX3_reckons_78 zi_1 ?_
                              refine lv_goto (tgt := 83) hx hb dX3_reckons_79 (by decide) ?_
                              exact J_83 _ (congrArg (fun z : Bool => nI z.toNat) (show (true : Bool) = (decide ((g 1 h) = a1) && (!decide (a1 = 7) && (!decide (h = (g 7 0)) && ((mOf h c) && (decide (0 < (g 2 c))))))) from by first | with_reducible rfl | (simp [c_1, c_2, c_13, c_27, c_28, c_30, c_31, c_33]; done) | (simp only [c_1, c_2, c_13, c_27, c_28, c_30, c_31, c_33] <;> simp []; done) | (simp [c_1, c_2, c_13, c_27, c_28, c_30, c_31, c_33, Bool.and_assoc]; done) | (simp [c_1, c_2, c_13, c_27, c_28, c_30, c_31, c_33, Bool.and_assoc, Bool.or_assoc]; done) | rfl | (simp [c_1, c_2, c_13, c_27, c_28, c_30, c_31, c_33]; omega))) H locs hM hS ls (lv_sub hl [0, 1, 2, 3] rfl)
              exact L_31 _ 0 (by first | omega | assumption | (simp; done) | grind) (Nat.lt_succ_self _) (rkO g a1 h) (rfl) hg H locs hM hS ls (lv_sub hl [1, 2, 3, 0] rfl)
        exact L_23 _ 0 (by first | omega | assumption | (simp; done) | grind) (Nat.lt_succ_self _) (rk0 g 15) (rfl) hg H locs hM hS ls (lv_sub hl [1, 2, 0] rfl)
      · refine lv_aload_n hx hb dX3_reckons_8 rfl (lv_at hl 0 rfl) ?_
        refine gM_yield S hK hM dX3_reckons_9 ?_
        refine lv_iload_n hx hb dX3_reckons_12 rfl (lv_at hl 2 rfl) ?_
        refine lv_iconst (v := nI 0) hx hb dX3_reckons_13 zi_0 ?_
        refine sM_yield S hK hM hS k (by omega) 0 dX3_reckons_14 (fun H locs hM hS => ?_)
        have hg : Sm (gs (rk0 g k) 21 k 0) := Sm_gs hg (by first | omega | exact Nat.lt_of_le_of_lt (Bool.toNat_le _) (by decide) | ((repeat' split) <;> omega))
        refine lv_iinc (v := nI (k + 1)) (lv' := [(2, .int (nI (k + 1))), (0, .ref (ad 0)), (1, .int (nI a1))]) hx hb dX3_reckons_15 hl (k := 2) rfl (zk_inc _) (by decide) rfl (fun ls hl => ?_)
        refine lv_goto (tgt := 2) hx hb dX3_reckons_18 (by decide) ?_
        exact ih_2 (k + 1) (by first | omega | assumption | (simp; done) | grind) (by omega) (gs (rk0 g k) 21 k 0) (rfl) hg H locs hM hS ls (lv_sub hl [1, 2, 0] rfl)
  exact L_2 _ 0 (by first | omega | assumption | (simp; done) | grind) (Nat.lt_succ_self _) (g) (rfl) hg H0 [] hM hS ls (lv_sub hl [1, 2, 0] rfl)
theorem kM_reckons {pr : Program} {l : Launch} {en : Env} {R : Room} {s : State} {m : MethodId} {args : Array Value} {below : List Frame} {meth : Method} {cd : Code} {H : Heap} {locs : List Loc} {cells slots : Nat} {Q : State → Prop} {cc : ByteArray} {pc nL : Nat} {ls : Array Slot} {rest : List Value} {D : va_G} {dA : Nat → ClassId} {A : Nat → Prop} {ad : Nat → Nat} {g : G} (S : CallFix pr m cd cc nL s args lw_all RX3) (hK : KT D dA s) (hM : MS D dA A ad g H) (hg : Sm g) (hS : va_S A s.heap H locs) (a1 : Nat) (h1 : a1 < 100) (hgd : ∀ h, h < 7 → g 0 h ≤ 5) (hn7 : ∀ h, h < 7 → g 0 h = 5 → g 1 h = 7) (h21 : ∀ j, g 21 j ≤ 2000) (hf : 2 + 1 ≤ R.frames) (hlo : 8 + (6 + 11) + 36 ≤ R.locals) (hsz : ls.size = nL) (hcat : (rest.map fun v => v.category).sum ≤ 8) (hdg : decode cc pc = .ok (.invokevirtual 181, 3)) (hq1 : cells ≤ R.cells) (hq2 : slots ≤ R.slots) (kk : ∀ (H1 : Heap) (locs1 : List Loc), MS D dA A ad (rkG g a1 5) H1 → Sm (rkG g a1 5) → va_S A s.heap H1 locs1 → W pr l en R s m args below meth cd H1 locs1 cells slots Q (F0 m (pc + 3) ls (rest))) : W pr l en R s m args below meth cd H locs cells slots Q (F0 m pc ls (.int (nI a1) :: .ref (ad 0) :: rest)) :=
  zc_callV (n := 1) (As := [.int (nI a1)]) (rest := rest) S (cM_reckons l hg a1 h1 hgd hn7 h21  H hM (Post := (fun v H1 => v = none ∧ MS D dA A ad (rkG g a1 5) H1 ∧ Sm (rkG g a1 5))) (fun H1 h h2 => ⟨rfl, h, h2⟩)) (lw_V q1235 q1237 qs49 q76 q1238) (by decide +kernel) ⟨hf, hlo⟩ ⟨hq1, hq2⟩ (zm_recv hK hM) KT_mv (zc_K KT_mv hK hS) hS (fun _ h => h) rfl hsz rfl hcat hdg (fun v H1 locs1 hp _ _ hS1 => by obtain ⟨rfl, hM1, hg1⟩ := hp; exact kk H1 locs1 hM1 hg1 hS1)
def mGetG (g : G) (a1 : Int32) (a2 : Int32) (a3 : Int32) : G := if (inB a1 3) = true then (if (inB a2 5 && inR a3 2 12) = true then (rkG (gs g 22 0 0) (tn a3) 5) else gs (gs g 22 0 0) 22 0 2) else gs g 22 0 1
def mGetR (g : G) (a1 : Int32) (a2 : Int32) (a3 : Int32) : Nat := if (inB a1 3) = true then (if (inB a2 5 && inR a3 2 12) = true then ((rkG (gs g 22 0 0) (tn a3) 5) 21 (5 * tn a1 + tn a2)) else 0) else 0
set_option maxHeartbeats 1000000 in
set_option maxRecDepth 100000 in
theorem cM_wouldGet (l : Launch) {D : va_G} {dA : Nat → ClassId} {A : Nat → Prop} {ad : Nat → Nat} {g : G} (hg : Sm g) (a1 : Int32) (a2 : Int32) (a3 : Int32) (hgd : ∀ h, h < 7 → g 0 h ≤ 5) (hn7 : ∀ h, h < 7 → g 0 h = 5 → g 1 h = 7) (h21 : ∀ j, g 21 j ≤ 2000) (H0 : Heap) (hM : MS D dA A ad g H0) {Post : Option Value → Heap → Prop} (hPost : ∀ H : Heap, MS D dA A ad (mGetG g a1 a2 a3) H → Sm (mGetG g a1 a2 a3) → Post (some (.int (nI (mGetR g a1 a2 a3)))) H) : Ct l yX3_wouldGet (ws_ yX3_wouldGet cX3_wouldGet 4 (some .int)) (rmF 3 0 0 61) A (KT D dA) [.ref (ad 0), .int a1, .int a2, .int a3] H0 Post := by
  refine zc_of RX3 rfl (by decide) (Nat.le_of_ble_eq_true rfl) ?_
  intro pr en s m args below meth cd S hr hlk hnm hh hK ls hl
  have hS : va_S A s.heap H0 [] := zc_start hh
  have hg0 := hg
  have hx := S.1
  have hb := S.2.1
  have hown := S.2.2.2.1
  have hts := S.2.2.2.2
  have hl : lv_has ls 4 [(0, .ref (ad 0)), (1, .int a1), (2, .int a2), (3, .int a3)] := hl
  refine lv_aload_n hx hb dX3_wouldGet_0 rfl (lv_at hl 0 rfl) ?_
  refine lv_iload_n hx hb dX3_wouldGet_1 rfl (lv_at hl 1 rfl) ?_
  refine kM_isPlayer S hK hM hg hS a1  (Nat.le_of_ble_eq_true rfl) (Nat.le_of_ble_eq_true rfl) hl.1 (Nat.le_of_ble_eq_true rfl) dX3_wouldGet_2 (Nat.zero_le _) (Nat.zero_le _) (fun locs hS => ?_)
  refine kM_asks S hK hM hg hS (inB a1 3)  (Nat.le_of_ble_eq_true rfl) (Nat.le_of_ble_eq_true rfl) hl.1 (Nat.le_of_ble_eq_true rfl) dX3_wouldGet_5 (Nat.zero_le _) (Nat.zero_le _) (fun H locs hM hg hS => ?_)
  refine zr_if_neB (b := (inB a1 3)) (tgt := 13) hx hb dX3_wouldGet_8 (by decide) (fun c_1 => ?_) (fun c_1 => ?_)
  · rw [show (!(inB a1 3)).toNat = 0 from by rw [c_1]; rfl] at hM hg
    obtain ⟨hj1, ea1⟩ := inB_tn (by decide) c_1
    rw [ea1] at hl
    refine lv_iload_n hx hb dX3_wouldGet_13 rfl (lv_at hl 2 rfl) ?_
    refine kM_isGood S hK hM hg hS a2  (Nat.le_of_ble_eq_true rfl) (Nat.le_of_ble_eq_true rfl) hl.1 (Nat.le_of_ble_eq_true rfl) dX3_wouldGet_14 (Nat.zero_le _) (Nat.zero_le _) (fun locs hS => ?_)
    refine zr_if_eqB (b := inB a2 5) (tgt := 30) hx hb dX3_wouldGet_17 (by decide) (fun c_2 => ?_) (fun c_2 => ?_)
    · refine lv_aload_n hx hb dX3_wouldGet_30 rfl (lv_at hl 0 rfl) ?_
      refine lv_iconst (v := nI 2) hx hb dX3_wouldGet_31 zi_2 ?_
      refine kM_fails S hK hM hg hS 2 (by first | omega | assumption | grind) (Nat.le_of_ble_eq_true rfl) (Nat.le_of_ble_eq_true rfl) hl.1 (Nat.le_of_ble_eq_true rfl) dX3_wouldGet_32 (Nat.zero_le _) (Nat.zero_le _) (fun H locs hM hg hS => ?_)
      rw [show (gs (gs g 22 0 0) 22 0 2 : G) = mGetG g a1 a2 a3 from by first | with_reducible rfl | (simp [c_1, c_2, gA, mGetG, mGetR]; done) | (simp only [c_1, c_2] <;> simp [gA, mGetG, mGetR]; done) | (simp only [gA, mGetG, mGetR, c_1, c_2] <;> simp [gA, mGetG, mGetR]; done) | (simp [c_1, c_2, gA, mGetG, mGetR, Bool.and_assoc]; done) | (simp [c_1, c_2, gA, mGetG, mGetR, Bool.and_assoc, Bool.or_assoc]; done) | rfl | (simp [c_1, c_2, gA, mGetG, mGetR]; omega)] at hM hg
      exact zc_nret (nI (mGetR g a1 a2 a3)) (congrArg nI (show (0 : Nat) = (mGetR g a1 a2 a3) from by first | with_reducible rfl | (simp [c_1, c_2, gA, mGetG, mGetR]; done) | (simp only [c_1, c_2] <;> simp [gA, mGetG, mGetR]; done) | (simp only [gA, mGetG, mGetR, c_1, c_2] <;> simp [gA, mGetG, mGetR]; done) | (simp [c_1, c_2, gA, mGetG, mGetR, Bool.and_assoc]; done) | (simp [c_1, c_2, gA, mGetG, mGetR, Bool.and_assoc, Bool.or_assoc]; done) | rfl | (simp [c_1, c_2, gA, mGetG, mGetR]; omega))) (hPost H hM hg) hS hx hb hr hlk (Nat.zero_le _) (Nat.zero_le _) dX3_wouldGet_35
    · obtain ⟨hj2, ea2⟩ := inB_tn (by decide) c_2
      rw [ea2] at hl
      refine lv_iload_n hx hb dX3_wouldGet_20 rfl (lv_at hl 3 rfl) ?_
      refine lv_iconst (v := nI 2) hx hb dX3_wouldGet_21 zi_2 ?_
      refine lv_bipush (v := nI 12) hx hb dX3_wouldGet_22 zb_12 ?_
      refine kM_in S hK hM hg hS a3 2 12  (Nat.le_of_ble_eq_true rfl) (Nat.le_of_ble_eq_true rfl) hl.1 (Nat.le_of_ble_eq_true rfl) dX3_wouldGet_24 (Nat.zero_le _) (Nat.zero_le _) (fun locs hS => ?_)
      refine zr_if_neB (b := inR a3 2 12) (tgt := 36) hx hb dX3_wouldGet_27 (by decide) (fun c_3 => ?_) (fun c_3 => ?_)
      · obtain ⟨lj3, hj3, ea3⟩ := inR_tn (by decide) (by decide) c_3
        rw [ea3] at hl
        refine lv_aload_n hx hb dX3_wouldGet_36 rfl (lv_at hl 0 rfl) ?_
        refine lv_iload_n hx hb dX3_wouldGet_37 rfl (lv_at hl 3 rfl) ?_
        refine kM_reckons S hK hM hg hS (tn a3) (by first | omega | assumption | grind) (by exact hgd) (by exact hn7) (by exact h21) (Nat.le_of_ble_eq_true rfl) (Nat.le_of_ble_eq_true rfl) hl.1 (Nat.le_of_ble_eq_true rfl) dX3_wouldGet_38 (Nat.zero_le _) (Nat.zero_le _) (fun H locs hM hg hS => ?_)
        refine lv_aload_n hx hb dX3_wouldGet_41 rfl (lv_at hl 0 rfl) ?_
        refine gM_yield S hK hM dX3_wouldGet_42 ?_
        refine lv_iconst (v := nI 5) hx hb dX3_wouldGet_45 zi_5 ?_
        refine lv_iload_n hx hb dX3_wouldGet_46 rfl (lv_at hl 1 rfl) ?_
        refine zr_mulN (a := 5) (b := (tn a1)) hx hb dX3_wouldGet_47 ?_
        refine lv_iload_n hx hb dX3_wouldGet_48 rfl (lv_at hl 2 rfl) ?_
        refine zr_addN (a := (5 * (tn a1))) (b := (tn a2)) hx hb dX3_wouldGet_49 ?_
        refine lM_yield S hK hM ((5 * (tn a1)) + (tn a2)) (by omega) ((rkG (gs g 22 0 0) (tn a3) 5) 21 ((5 * (tn a1)) + (tn a2))) rfl dX3_wouldGet_50 ?_
        have hb_4 : (rkG (gs g 22 0 0) (tn a3) 5) 21 ((5 * (tn a1)) + (tn a2)) < 1048576 := by first | exact hg 21 ((5 * (tn a1)) + (tn a2)) | exact hg0 _ _ | (have := hg 21 ((5 * (tn a1)) + (tn a2)); omega) | omega
        rw [show (rkG (gs g 22 0 0) (tn a3) 5 : G) = mGetG g a1 a2 a3 from by first | with_reducible rfl | (simp [c_1, c_2, c_3, gA, mGetG, mGetR]; done) | (simp only [c_1, c_2, c_3] <;> simp [gA, mGetG, mGetR]; done) | (simp only [gA, mGetG, mGetR, c_1, c_2, c_3] <;> simp [gA, mGetG, mGetR]; done) | (simp [c_1, c_2, c_3, gA, mGetG, mGetR, Bool.and_assoc]; done) | (simp [c_1, c_2, c_3, gA, mGetG, mGetR, Bool.and_assoc, Bool.or_assoc]; done) | rfl | (simp [c_1, c_2, c_3, gA, mGetG, mGetR]; omega)] at hM hg
        exact zc_nret (nI (mGetR g a1 a2 a3)) (congrArg nI (show ((rkG (gs g 22 0 0) (tn a3) 5) 21 ((5 * (tn a1)) + (tn a2)) : Nat) = (mGetR g a1 a2 a3) from by first | with_reducible rfl | (simp [c_1, c_2, c_3, gA, mGetG, mGetR]; done) | (simp only [c_1, c_2, c_3] <;> simp [gA, mGetG, mGetR]; done) | (simp only [gA, mGetG, mGetR, c_1, c_2, c_3] <;> simp [gA, mGetG, mGetR]; done) | (simp [c_1, c_2, c_3, gA, mGetG, mGetR, Bool.and_assoc]; done) | (simp [c_1, c_2, c_3, gA, mGetG, mGetR, Bool.and_assoc, Bool.or_assoc]; done) | rfl | (simp [c_1, c_2, c_3, gA, mGetG, mGetR]; omega))) (hPost H hM hg) hS hx hb hr hlk (Nat.zero_le _) (Nat.zero_le _) dX3_wouldGet_51
      · refine lv_aload_n hx hb dX3_wouldGet_30 rfl (lv_at hl 0 rfl) ?_
        refine lv_iconst (v := nI 2) hx hb dX3_wouldGet_31 zi_2 ?_
        refine kM_fails S hK hM hg hS 2 (by first | omega | assumption | grind) (Nat.le_of_ble_eq_true rfl) (Nat.le_of_ble_eq_true rfl) hl.1 (Nat.le_of_ble_eq_true rfl) dX3_wouldGet_32 (Nat.zero_le _) (Nat.zero_le _) (fun H locs hM hg hS => ?_)
        rw [show (gs (gs g 22 0 0) 22 0 2 : G) = mGetG g a1 a2 a3 from by first | with_reducible rfl | (simp [c_1, c_2, c_3, gA, mGetG, mGetR]; done) | (simp only [c_1, c_2, c_3] <;> simp [gA, mGetG, mGetR]; done) | (simp only [gA, mGetG, mGetR, c_1, c_2, c_3] <;> simp [gA, mGetG, mGetR]; done) | (simp [c_1, c_2, c_3, gA, mGetG, mGetR, Bool.and_assoc]; done) | (simp [c_1, c_2, c_3, gA, mGetG, mGetR, Bool.and_assoc, Bool.or_assoc]; done) | rfl | (simp [c_1, c_2, c_3, gA, mGetG, mGetR]; omega)] at hM hg
        exact zc_nret (nI (mGetR g a1 a2 a3)) (congrArg nI (show (0 : Nat) = (mGetR g a1 a2 a3) from by first | with_reducible rfl | (simp [c_1, c_2, c_3, gA, mGetG, mGetR]; done) | (simp only [c_1, c_2, c_3] <;> simp [gA, mGetG, mGetR]; done) | (simp only [gA, mGetG, mGetR, c_1, c_2, c_3] <;> simp [gA, mGetG, mGetR]; done) | (simp [c_1, c_2, c_3, gA, mGetG, mGetR, Bool.and_assoc]; done) | (simp [c_1, c_2, c_3, gA, mGetG, mGetR, Bool.and_assoc, Bool.or_assoc]; done) | rfl | (simp [c_1, c_2, c_3, gA, mGetG, mGetR]; omega))) (hPost H hM hg) hS hx hb hr hlk (Nat.zero_le _) (Nat.zero_le _) dX3_wouldGet_35
  · rw [show (!(inB a1 3)).toNat = 1 from by rw [c_1]; rfl] at hM hg
    refine lv_iconst (v := nI 0) hx hb dX3_wouldGet_11 zi_0 ?_
    rw [show (gs g 22 0 1 : G) = mGetG g a1 a2 a3 from by first | with_reducible rfl | (simp [c_1, gA, mGetG, mGetR]; done) | (simp only [c_1] <;> simp [gA, mGetG, mGetR]; done) | (simp only [gA, mGetG, mGetR, c_1] <;> simp [gA, mGetG, mGetR]; done) | (simp [c_1, gA, mGetG, mGetR, Bool.and_assoc]; done) | (simp [c_1, gA, mGetG, mGetR, Bool.and_assoc, Bool.or_assoc]; done) | rfl | (simp [c_1, gA, mGetG, mGetR]; omega)] at hM hg
    exact zc_nret (nI (mGetR g a1 a2 a3)) (congrArg nI (show (0 : Nat) = (mGetR g a1 a2 a3) from by first | with_reducible rfl | (simp [c_1, gA, mGetG, mGetR]; done) | (simp only [c_1] <;> simp [gA, mGetG, mGetR]; done) | (simp only [gA, mGetG, mGetR, c_1] <;> simp [gA, mGetG, mGetR]; done) | (simp [c_1, gA, mGetG, mGetR, Bool.and_assoc]; done) | (simp [c_1, gA, mGetG, mGetR, Bool.and_assoc, Bool.or_assoc]; done) | rfl | (simp [c_1, gA, mGetG, mGetR]; omega))) (hPost H hM hg) hS hx hb hr hlk (Nat.zero_le _) (Nat.zero_le _) dX3_wouldGet_12
