/-! THE CLASS: gains (printed by gen/x12.py) -/
set_option maxHeartbeats 1000000 in
set_option maxRecDepth 100000 in
theorem cX_gains (l : Launch) {D : va_G} {dA : Nat → ClassId} {cn : Nat → Nat} {A : Nat → Prop} {pa : NM → Nat} {g : G} {T : va_W} (hg : Sm g) (a1 : Nat) (a2 : Nat) (h1 : a1 < 5) (h2 : a2 < 1000) (h6 : ∀ c, c < 24 → g 2 c ≤ 6) (H0 : Heap) (hM : XS D dA cn A pa g T H0) (hA : ∀ q, H0.size ≤ q → A q) {Post : Option Value → Heap → Prop} (hPost : ∀ (q : Nat) (H : Heap), XS D dA cn A pa g (T ++ [(q, tA dA 3 (fun j => nI (xGain g a1 a2 j)))]) H → Post (some (.ref q)) H) : Ct l yX1_gains (ws_ yX1_gains cX1_gains 12 (some (.array .int))) (rmF 3 1 3 120) A (KX D dA cn A) [.ref (pa (0, 0)), .int (nI a1), .int (nI a2)] H0 Post := by
  refine zc_of RX1 rfl (by decide) (Nat.le_of_ble_eq_true rfl) ?_
  intro pr en s m args below meth cd S hr hlk hnm hh hKX ls hl
  have hS : va_S A s.heap H0 [] := zc_start hh
  have hA : ∀ q, s.heap.size ≤ q → A q := fun q h => hA q (by rw [← hh]; exact h)
  have hg0 := hg
  have hx := S.1
  have hb := S.2.1
  have hown := S.2.2.2.1
  have hts := S.2.2.2.2
  have hK := hKX.1
  have hN := hKX.2.1.1
  have hl : lv_has ls 12 [(0, .ref (pa (0, 0))), (1, .int (nI a1)), (2, .int (nI a2))] := hl
  refine lv_iconst (v := nI 3) hx hb dX1_gains_0 zi_3 ?_
  refine xT_new S hK hM hS hA 3 (by omega) (Nat.le_of_ble_eq_true rfl) (Nat.le_of_ble_eq_true rfl) dX1_gains_1 (fun q_1 H locs hM hS => ?_)
  have hM : XS D dA cn A pa g (T ++ [(q_1, tA dA 3 (fun j => nI ((xgH g a1 a2 0) j)))]) H := hM
  refine lv_astore_n (lv' := [(3, .ref q_1), (0, .ref (pa (0, 0))), (1, .int (nI a1)), (2, .int (nI a2))]) hx hb dX1_gains_3 rfl hl (by decide) rfl (fun ls hl => ?_)
  refine lv_iconst (v := nI 0) hx hb dX1_gains_4 zi_0 ?_
  refine lv_istore (lv' := [(4, .int (nI 0)), (3, .ref q_1), (0, .ref (pa (0, 0))), (1, .int (nI a1)), (2, .int (nI a2))]) hx hb dX1_gains_5 hl (by decide) rfl (fun ls hl => ?_)
  refine lv_iconst (v := nI 0) hx hb dX1_gains_7 zi_0 ?_
  refine lv_istore (lv' := [(5, .int (nI 0)), (4, .int (nI 0)), (3, .ref q_1), (0, .ref (pa (0, 0))), (1, .int (nI a1)), (2, .int (nI a2))]) hx hb dX1_gains_8 hl (by decide) rfl (fun ls hl => ?_)
  refine lv_iconst (v := nI 0) hx hb dX1_gains_10 zi_0 ?_
  refine lv_istore (lv' := [(6, .int (nI 0)), (5, .int (nI 0)), (4, .int (nI 0)), (3, .ref q_1), (0, .ref (pa (0, 0))), (1, .int (nI a1)), (2, .int (nI a2))]) hx hb dX1_gains_11 hl (by decide) rfl (fun ls hl => ?_)
  have L_13 : ∀ (n_13 : Nat) (h : Nat), h ≤ 7 → 7 - h < n_13 → ∀ x4_13 : Int32, x4_13 = nI (xaH g a1 a2 h) → ∀ x5_13 : Int32, x5_13 = nI (xeH g a1 a2 h) → ∀ (H : Heap) (locs : List Loc), XS D dA cn A pa g (T ++ [(q_1, tA dA 3 (fun j => nI ((xgH g a1 a2 h) j)))]) H → va_S A s.heap H locs → ∀ ls : Array Slot, lv_has ls 12 [(0, .ref (pa (0, 0))), (1, .int (nI a1)), (2, .int (nI a2)), (3, .ref q_1), (4, .int x4_13), (5, .int x5_13), (6, .int (nI h))] → W pr l en (rmF 3 1 3 120) s m args below meth cd H locs (1) (3) (MQ below (zc_Q Post A) args s 1 3 A) (F0 m 13 ls []) := by
    intro n_13
    induction n_13 with
    | zero => intro h hi_13 hm_13; exact absurd hm_13 (Nat.not_lt_zero _)
    | succ n_13 ih_13 =>
      intro h hi_13 hm_13 x4_13 ex4_13 x5_13 ex5_13 H locs hM hS ls hl
      subst ex4_13
      subst ex5_13
      refine lv_iload hx hb dX1_gains_13 (lv_at hl 6 rfl) ?_
      refine lv_bipush (v := nI 7) hx hb dX1_gains_15 zb_7 ?_
      refine zr_icmp_geN (a := h) (b := 7) (tgt := 180) hx hb (by omega) (by omega) dX1_gains_17 (by decide) (fun c_2 => ?_) (fun c_2 => ?_)
      · have e_h : 7 = h := by omega
        subst e_h
        refine lv_iconst (v := nI 0) hx hb dX1_gains_180 zi_0 ?_
        refine lv_istore (lv' := [(6, .int (nI 0)), (0, .ref (pa (0, 0))), (1, .int (nI a1)), (2, .int (nI a2)), (3, .ref q_1), (4, .int (nI (xaH g a1 a2 7))), (5, .int (nI (xeH g a1 a2 7)))]) hx hb dX1_gains_181 hl (by decide) rfl (fun ls hl => ?_)
        have L_183 : ∀ (n_183 : Nat) (p : Nat), p ≤ 3 → p = 0 ∨ g 4 (15 + a1) < xaH g a1 a2 7 → 3 - p < n_183 → ∀ (H : Heap) (locs : List Loc), XS D dA cn A pa g (T ++ [(q_1, tA dA 3 (fun j => nI ((xgP (xeH g a1 a2 7) (g 4 (15 + a1)) (xgH g a1 a2 7) p) j)))]) H → va_S A s.heap H locs → ∀ ls : Array Slot, lv_has ls 12 [(0, .ref (pa (0, 0))), (1, .int (nI a1)), (3, .ref q_1), (4, .int (nI (xaH g a1 a2 7))), (5, .int (nI (xeH g a1 a2 7))), (6, .int (nI p))] → W pr l en (rmF 3 1 3 120) s m args below meth cd H locs (1) (3) (MQ below (zc_Q Post A) args s 1 3 A) (F0 m 183 ls []) := by
          intro n_183
          induction n_183 with
          | zero => intro p hi_183 hpb hm_183; exact absurd hm_183 (Nat.not_lt_zero _)
          | succ n_183 ih_183 =>
            intro p hi_183 hpb hm_183 H locs hM hS ls hl
            refine lv_iload hx hb dX1_gains_183 (lv_at hl 5 rfl) ?_
            refine lv_iconst (v := nI 3) hx hb dX1_gains_185 zi_3 ?_
            refine zr_icmp_geN (a := p) (b := 3) (tgt := 237) hx hb (by omega) (by omega) dX1_gains_186 (by decide) (fun c_3 => ?_) (fun c_3 => ?_)
            · have e_p : 3 = p := by omega
              subst e_p
              refine lv_aload_n hx hb dX1_gains_237 rfl (lv_at hl 2 rfl) ?_
              rw [show (xgP (xeH g a1 a2 7) (g 4 (15 + a1)) (xgH g a1 a2 7) 3 : Nat → Nat) = xGain g a1 a2 from (by first | (rw [xGain, if_pos (hpb.resolve_left (by decide))]; done) | (have q := hpb.resolve_right c_3; subst q; rw [xGain, if_neg c_3]; done) | (have q := hpb.resolve_right c_3; subst q; rw [xGain, if_neg c_3]; rfl))] at hM
              exact zc_aret (Or.inr ⟨_, rfl⟩) (Or.inr ⟨_, rfl⟩) (hPost q_1 H hM) hS hx hb hr hlk (Nat.le_of_ble_eq_true rfl) (Nat.le_of_ble_eq_true rfl) dX1_gains_238
            · have hal := xaH_le g a1 a2 7
              have hel := xeH_le g a1 a2 7
              refine lv_iload hx hb dX1_gains_189 (lv_at hl 3 rfl) ?_
              refine lv_aload_n hx hb dX1_gains_191 rfl (lv_at hl 0 rfl) ?_
              refine gX_hands S hK hM dX1_gains_192 ?_
              refine lv_iconst (v := nI 3) hx hb dX1_gains_195 zi_3 ?_
              refine lX_hands S hK hM 3 (by omega) dX1_gains_196 ?_
              refine lv_iload_n hx hb dX1_gains_197 rfl (lv_at hl 1 rfl) ?_
              refine lX_hand S hK hM 3 (by omega) a1 (by omega) (g 4 (5 * 3 + a1)) rfl dX1_gains_198 ?_
              have hb_4 : g 4 (5 * 3 + a1) < 1048576 := by first | exact hg 4 (5 * 3 + a1) | exact hg0 _ _ | (have := hg 4 (5 * 3 + a1); omega) | omega
              refine zr_icmp_leN (a := (xaH g a1 a2 7)) (b := (g 4 (5 * 3 + a1))) (tgt := 237) hx hb (by omega) (by omega) dX1_gains_199 (by decide) (fun c_5 => ?_) (fun c_5 => ?_)
              · refine lv_aload_n hx hb dX1_gains_237 rfl (lv_at hl 2 rfl) ?_
                rw [show (xgP (xeH g a1 a2 7) (g 4 (15 + a1)) (xgH g a1 a2 7) p : Nat → Nat) = xGain g a1 a2 from (by first | (rw [xGain, if_pos (hpb.resolve_left (by decide))]; done) | (have q := hpb.resolve_right c_5; subst q; rw [xGain, if_neg c_5]; done) | (have q := hpb.resolve_right c_5; subst q; rw [xGain, if_neg c_5]; rfl))] at hM
                exact zc_aret (Or.inr ⟨_, rfl⟩) (Or.inr ⟨_, rfl⟩) (hPost q_1 H hM) hS hx hb hr hlk (Nat.le_of_ble_eq_true rfl) (Nat.le_of_ble_eq_true rfl) dX1_gains_238
              · have hgl : ∀ j, xgP (xeH g a1 a2 7) (g 4 (15 + a1)) (xgH g a1 a2 7) p j ≤ 1048575 := xgP_le (fun j => Nat.le_trans (xgH_le g a1 a2 7 j) (by decide)) (by have := hg 4 (15 + a1); omega) p
                refine lv_aload_n hx hb dX1_gains_202 rfl (lv_at hl 2 rfl) ?_
                refine lv_iload hx hb dX1_gains_203 (lv_at hl 5 rfl) ?_
                refine lv_iload hx hb dX1_gains_205 (lv_at hl 4 rfl) ?_
                refine lv_iconst (v := nI 1) hx hb dX1_gains_207 zi_1 ?_
                have J_230 : ∀ yS0_230 : Int32, yS0_230 = nI ((if (xeH g a1 a2 7) = 1 then if (g 4 (5 * 3 + a1)) < ((xgP (xeH g a1 a2 7) (g 4 (15 + a1)) (xgH g a1 a2 7) p) p) then (g 4 (5 * 3 + a1)) else ((xgP (xeH g a1 a2 7) (g 4 (15 + a1)) (xgH g a1 a2 7) p) p) else 0)) → ∀ (H : Heap) (locs : List Loc), XS D dA cn A pa g (T ++ [(q_1, tA dA 3 (fun j => nI ((xgP (xeH g a1 a2 7) (g 4 (15 + a1)) (xgH g a1 a2 7) p) j)))]) H → va_S A s.heap H locs → ∀ ls : Array Slot, lv_has ls 12 [(0, .ref (pa (0, 0))), (1, .int (nI a1)), (3, .ref q_1), (4, .int (nI (xaH g a1 a2 7))), (5, .int (nI (xeH g a1 a2 7))), (6, .int (nI p))] → W pr l en (rmF 3 1 3 120) s m args below meth cd H locs (1) (3) (MQ below (zc_Q Post A) args s 1 3 A) (F0 m 230 ls [.int yS0_230, .int (nI p), .ref q_1]) := by
                  intro yS0_230 eyS0_230 H locs hM hS ls hl
                  subst eyS0_230
                  refine xT_st S hK hM hS p (by omega) (by omega) (nI ((if (xeH g a1 a2 7) = 1 then if (g 4 (5 * 3 + a1)) < ((xgP (xeH g a1 a2 7) (g 4 (15 + a1)) (xgH g a1 a2 7) p) p) then (g 4 (5 * 3 + a1)) else ((xgP (xeH g a1 a2 7) (g 4 (15 + a1)) (xgH g a1 a2 7) p) p) else 0))) dX1_gains_230 (fun H locs hM hS => ?_)
                  rw [upd_nI] at hM
                  refine lv_iinc (v := nI (p + 1)) (lv' := [(6, .int (nI (p + 1))), (0, .ref (pa (0, 0))), (1, .int (nI a1)), (3, .ref q_1), (4, .int (nI (xaH g a1 a2 7))), (5, .int (nI (xeH g a1 a2 7)))]) hx hb dX1_gains_231 hl (k := 5) rfl (zk_inc _) (by decide) rfl (fun ls hl => ?_)
                  refine lv_goto (tgt := 183) hx hb dX1_gains_234 (by decide) ?_
                  have hM : XS D dA cn A pa g (T ++ [(q_1, tA dA 3 (fun j => nI ((xgP (xeH g a1 a2 7) (g 4 (15 + a1)) (xgH g a1 a2 7) (p + 1)) j)))]) H := by first | exact hM | (rw [show (upN (xgP (xeH g a1 a2 7) (g 4 (15 + a1)) (xgH g a1 a2 7) p) p ((if (xeH g a1 a2 7) = 1 then if (g 4 (5 * 3 + a1)) < ((xgP (xeH g a1 a2 7) (g 4 (15 + a1)) (xgH g a1 a2 7) p) p) then (g 4 (5 * 3 + a1)) else ((xgP (xeH g a1 a2 7) (g 4 (15 + a1)) (xgH g a1 a2 7) p) p) else 0)) : Nat → Nat) = xgP (xeH g a1 a2 7) (g 4 (15 + a1)) (xgH g a1 a2 7) (p + 1) from (by rfl)] at hM; exact hM)
                  exact ih_183 (p + 1) (by first | omega | assumption | (simp; done) | grind) (by exact Or.inr (by assumption)) (by omega) H locs hM hS ls (lv_sub hl [1, 2, 3, 4, 5, 0] rfl)
                refine zr_icmp_neN (a := (xeH g a1 a2 7)) (b := 1) (tgt := 229) hx hb (by omega) (by omega) dX1_gains_208 (by decide) (fun c_10 => ?_) (fun c_10 => ?_)
                · refine lv_iconst (v := nI 0) hx hb dX1_gains_229 zi_0 ?_
                  exact J_230 _ (congrArg nI (show (0 : Nat) = ((if (xeH g a1 a2 7) = 1 then if (g 4 (5 * 3 + a1)) < ((xgP (xeH g a1 a2 7) (g 4 (15 + a1)) (xgH g a1 a2 7) p) p) then (g 4 (5 * 3 + a1)) else ((xgP (xeH g a1 a2 7) (g 4 (15 + a1)) (xgH g a1 a2 7) p) p) else 0)) from by first | with_reducible rfl | (simp [c_2, c_3, c_5, c_10]; done) | (simp only [c_2, c_3, c_5, c_10] <;> simp []; done) | (simp [c_2, c_3, c_5, c_10, Bool.and_assoc]; done) | (simp [c_2, c_3, c_5, c_10, Bool.and_assoc, Bool.or_assoc]; done) | rfl | (simp [c_2, c_3, c_5, c_10]; omega) | (simp_all []; done))) H locs hM hS ls (lv_sub hl [0, 1, 2, 3, 4, 5] rfl)
                · refine lv_aload_n hx hb dX1_gains_211 rfl (lv_at hl 2 rfl) ?_
                  refine lv_iload hx hb dX1_gains_212 (lv_at hl 5 rfl) ?_
                  refine xT_ld S hK hM (f := fun j => nI ((xgP (xeH g a1 a2 7) (g 4 (15 + a1)) (xgH g a1 a2 7) p) j)) tA_last p (by omega) (by omega) dX1_gains_214 ?_
                  have hb_11 : (xgP (xeH g a1 a2 7) (g 4 (15 + a1)) (xgH g a1 a2 7) p) p < 1048576 := by have := hgl p; omega
                  refine lv_aload_n hx hb dX1_gains_215 rfl (lv_at hl 0 rfl) ?_
                  refine gX_hands S hK hM dX1_gains_216 ?_
                  refine lv_iconst (v := nI 3) hx hb dX1_gains_219 zi_3 ?_
                  refine lX_hands S hK hM 3 (by omega) dX1_gains_220 ?_
                  refine lv_iload_n hx hb dX1_gains_221 rfl (lv_at hl 1 rfl) ?_
                  refine lX_hand S hK hM 3 (by omega) a1 (by omega) (g 4 (5 * 3 + a1)) rfl dX1_gains_222 ?_
                  have hb_12 : g 4 (5 * 3 + a1) < 1048576 := by first | exact hg 4 (5 * 3 + a1) | exact hg0 _ _ | (have := hg 4 (5 * 3 + a1); omega) | omega
                  refine zx_min S (a := ((xgP (xeH g a1 a2 7) (g 4 (15 + a1)) (xgH g a1 a2 7) p) p)) (b := (g 4 (5 * 3 + a1))) (by omega) (by omega) (Nat.le_of_ble_eq_true rfl) (Nat.le_of_ble_eq_true rfl) (Nat.le_of_ble_eq_true rfl) (Nat.le_of_ble_eq_true rfl) hl.1 dX1_gains_223 (Nat.le_of_ble_eq_true rfl) ?_
                  have hb_13 : (if (g 4 (5 * 3 + a1)) < ((xgP (xeH g a1 a2 7) (g 4 (15 + a1)) (xgH g a1 a2 7) p) p) then (g 4 (5 * 3 + a1)) else ((xgP (xeH g a1 a2 7) (g 4 (15 + a1)) (xgH g a1 a2 7) p) p) : Nat) ≤ ((xgP (xeH g a1 a2 7) (g 4 (15 + a1)) (xgH g a1 a2 7) p) p) + (g 4 (5 * 3 + a1)) := by split <;> omega
                  refine lv_goto (tgt := 230) hx hb dX1_gains_226 (by decide) ?_
                  exact J_230 _ (congrArg nI (show (if (g 4 (5 * 3 + a1)) < ((xgP (xeH g a1 a2 7) (g 4 (15 + a1)) (xgH g a1 a2 7) p) p) then (g 4 (5 * 3 + a1)) else ((xgP (xeH g a1 a2 7) (g 4 (15 + a1)) (xgH g a1 a2 7) p) p) : Nat) = ((if (xeH g a1 a2 7) = 1 then if (g 4 (5 * 3 + a1)) < ((xgP (xeH g a1 a2 7) (g 4 (15 + a1)) (xgH g a1 a2 7) p) p) then (g 4 (5 * 3 + a1)) else ((xgP (xeH g a1 a2 7) (g 4 (15 + a1)) (xgH g a1 a2 7) p) p) else 0)) from by first | with_reducible rfl | (simp [c_2, c_3, c_5, c_10]; done) | (simp only [c_2, c_3, c_5, c_10] <;> simp []; done) | (simp [c_2, c_3, c_5, c_10, Bool.and_assoc]; done) | (simp [c_2, c_3, c_5, c_10, Bool.and_assoc, Bool.or_assoc]; done) | rfl | (simp [c_2, c_3, c_5, c_10]; omega) | (simp_all []; done))) H locs hM hS ls (lv_sub hl [0, 1, 2, 3, 4, 5] rfl)
        have hM : XS D dA cn A pa g (T ++ [(q_1, tA dA 3 (fun j => nI ((xgP (xeH g a1 a2 7) (g 4 (15 + a1)) (xgH g a1 a2 7) 0) j)))]) H := by first | exact hM | (rw [show (xgH g a1 a2 7 : Nat → Nat) = xgP (xeH g a1 a2 7) (g 4 (15 + a1)) (xgH g a1 a2 7) 0 from (by rfl)] at hM; exact hM)
        exact L_183 _ 0 (by first | omega | assumption | (simp; done) | grind) (by exact Or.inl rfl) (Nat.lt_succ_self _) H locs hM hS ls (lv_sub hl [1, 2, 4, 5, 6, 0] rfl)
      · refine lv_aload_n hx hb dX1_gains_20 rfl (lv_at hl 0 rfl) ?_
        refine gX_hexes S hK hM dX1_gains_21 ?_
        refine lv_iload hx hb dX1_gains_24 (lv_at hl 6 rfl) ?_
        refine lX_hexes S hK hM h (by omega) dX1_gains_26 ?_
        refine gN_hex_corners S hK hM hN h (by omega) dX1_gains_27 ?_
        refine lv_astore (lv' := [(7, .ref (pa (3, h))), (0, .ref (pa (0, 0))), (1, .int (nI a1)), (2, .int (nI a2)), (3, .ref q_1), (4, .int (nI (xaH g a1 a2 h))), (5, .int (nI (xeH g a1 a2 h))), (6, .int (nI h))]) hx hb dX1_gains_30 hl (by decide) rfl (fun ls hl => ?_)
        refine lv_aload hx hb dX1_gains_32 (lv_at hl 0 rfl) ?_
        refine nX_corners S hK hM h (by omega) dX1_gains_34 ?_
        refine lv_istore (lv' := [(8, .int (nI 6)), (7, .ref (pa (3, h))), (0, .ref (pa (0, 0))), (1, .int (nI a1)), (2, .int (nI a2)), (3, .ref q_1), (4, .int (nI (xaH g a1 a2 h))), (5, .int (nI (xeH g a1 a2 h))), (6, .int (nI h))]) hx hb dX1_gains_35 hl (by decide) rfl (fun ls hl => ?_)
        refine lv_iconst (v := nI 0) hx hb dX1_gains_37 zi_0 ?_
        refine lv_istore (lv' := [(9, .int (nI 0)), (8, .int (nI 6)), (7, .ref (pa (3, h))), (0, .ref (pa (0, 0))), (1, .int (nI a1)), (2, .int (nI a2)), (3, .ref q_1), (4, .int (nI (xaH g a1 a2 h))), (5, .int (nI (xeH g a1 a2 h))), (6, .int (nI h))]) hx hb dX1_gains_38 hl (by decide) rfl (fun ls hl => ?_)
        have L_40 : ∀ (n_40 : Nat) (k : Nat), k ≤ 6 → 6 - k < n_40 → ∀ x4_40 : Int32, x4_40 = nI (xaK g a1 a2 h (xaH g a1 a2 h) k) → ∀ x5_40 : Int32, x5_40 = nI (xeK g a1 a2 h (xgH g a1 a2 h) (xeH g a1 a2 h) k) → ∀ (H : Heap) (locs : List Loc), XS D dA cn A pa g (T ++ [(q_1, tA dA 3 (fun j => nI ((xgK g a1 a2 h (xgH g a1 a2 h) k) j)))]) H → va_S A s.heap H locs → ∀ ls : Array Slot, lv_has ls 12 [(0, .ref (pa (0, 0))), (1, .int (nI a1)), (2, .int (nI a2)), (3, .ref q_1), (4, .int x4_40), (5, .int x5_40), (6, .int (nI h)), (7, .ref (pa (3, h))), (8, .int (nI 6)), (9, .int (nI k))] → W pr l en (rmF 3 1 3 120) s m args below meth cd H locs (1) (3) (MQ below (zc_Q Post A) args s 1 3 A) (F0 m 40 ls []) := by
          intro n_40
          induction n_40 with
          | zero => intro k hi_40 hm_40; exact absurd hm_40 (Nat.not_lt_zero _)
          | succ n_40 ih_40 =>
            intro k hi_40 hm_40 x4_40 ex4_40 x5_40 ex5_40 H locs hM hS ls hl
            subst ex4_40
            subst ex5_40
            refine lv_iload hx hb dX1_gains_40 (lv_at hl 9 rfl) ?_
            refine lv_iload hx hb dX1_gains_42 (lv_at hl 8 rfl) ?_
            refine zr_icmp_geN (a := k) (b := 6) (tgt := 174) hx hb (by omega) (by omega) dX1_gains_44 (by decide) (fun c_14 => ?_) (fun c_14 => ?_)
            · have e_k : 6 = k := by omega
              subst e_k
              refine lv_iinc (v := nI (h + 1)) (lv' := [(6, .int (nI (h + 1))), (0, .ref (pa (0, 0))), (1, .int (nI a1)), (2, .int (nI a2)), (3, .ref q_1), (4, .int (nI (xaK g a1 a2 h (xaH g a1 a2 h) 6))), (5, .int (nI (xeK g a1 a2 h (xgH g a1 a2 h) (xeH g a1 a2 h) 6))), (7, .ref (pa (3, h))), (8, .int (nI 6)), (9, .int (nI 6))]) hx hb dX1_gains_174 hl (k := 6) rfl (zk_inc _) (by decide) rfl (fun ls hl => ?_)
              refine lv_goto (tgt := 13) hx hb dX1_gains_177 (by decide) ?_
              have hM : XS D dA cn A pa g (T ++ [(q_1, tA dA 3 (fun j => nI ((xgH g a1 a2 (h + 1)) j)))]) H := by first | exact hM | (rw [show (xgK g a1 a2 h (xgH g a1 a2 h) 6 : Nat → Nat) = xgH g a1 a2 (h + 1) from (by rfl)] at hM; exact hM)
              exact ih_13 (h + 1) (by first | omega | assumption | (simp; done) | grind) (by omega) _ (rfl) _ (rfl) H locs hM hS ls (lv_sub hl [1, 2, 3, 4, 5, 6, 0] rfl)
            · have hgl := xgK_le (g := g) (gd := a1) (sm := a2) (h := h) (xgH_le g a1 a2 h) k
              have hal := xaK_le g a1 a2 h (xaH g a1 a2 h) k
              have hal2 := xaH_le g a1 a2 h
              have hel := xeK_le g a1 a2 h (xgH g a1 a2 h) (xeH g a1 a2 h) k
              have hel2 := xeH_le g a1 a2 h
              refine lv_aload hx hb dX1_gains_47 (lv_at hl 7 rfl) ?_
              refine lv_iload hx hb dX1_gains_49 (lv_at hl 9 rfl) ?_
              refine lX_corner S hK hM h (by omega) k (by omega) dX1_gains_51 ?_
              have hb_15 : cornA h k < 24 := cornA_lt (by omega) (by omega)
              refine lv_istore (lv' := [(10, .int (nI (cornA h k))), (0, .ref (pa (0, 0))), (1, .int (nI a1)), (2, .int (nI a2)), (3, .ref q_1), (4, .int (nI (xaK g a1 a2 h (xaH g a1 a2 h) k))), (5, .int (nI (xeK g a1 a2 h (xgH g a1 a2 h) (xeH g a1 a2 h) k))), (6, .int (nI h)), (7, .ref (pa (3, h))), (8, .int (nI 6)), (9, .int (nI k))]) hx hb dX1_gains_52 hl (by decide) rfl (fun ls hl => ?_)
              refine lv_aload_n hx hb dX1_gains_54 rfl (lv_at hl 1 rfl) ?_
              refine gX_buildings S hK hM dX1_gains_55 ?_
              refine lv_iload hx hb dX1_gains_58 (lv_at hl 0 rfl) ?_
              refine lX_bld S hK hM (cornA h k) (by omega) dX1_gains_60 ?_
              refine zr_ifnullB (b := decide (g 2 (cornA h k) ≠ 0)) (tgt := 168) hx hb dX1_gains_61 (by decide) (fun c_16 => ?_) (fun c_16 => ?_)
              · refine lv_iinc (v := nI (k + 1)) (lv' := [(9, .int (nI (k + 1))), (10, .int (nI (cornA h k))), (0, .ref (pa (0, 0))), (1, .int (nI a1)), (2, .int (nI a2)), (3, .ref q_1), (4, .int (nI (xaK g a1 a2 h (xaH g a1 a2 h) k))), (5, .int (nI (xeK g a1 a2 h (xgH g a1 a2 h) (xeH g a1 a2 h) k))), (6, .int (nI h)), (7, .ref (pa (3, h))), (8, .int (nI 6))]) hx hb dX1_gains_168 hl (k := 10) rfl (zk_inc _) (by decide) rfl (fun ls hl => ?_)
                refine lv_goto (tgt := 40) hx hb dX1_gains_171 (by decide) ?_
                have hM : XS D dA cn A pa g (T ++ [(q_1, tA dA 3 (fun j => nI ((xgK g a1 a2 h (xgH g a1 a2 h) (k + 1)) j)))]) H := by first | exact hM | (rw [show (xgK g a1 a2 h (xgH g a1 a2 h) k : Nat → Nat) = xgK g a1 a2 h (xgH g a1 a2 h) (k + 1) from (by first | (rw [xgK, if_pos (show xgC g a1 a2 h (cornA h k) = true by simp [xgC, c_2, c_14, c_16])]; done) | (rw [xgK, if_pos (show xgC g a1 a2 h (cornA h k) = true by simp [xgC, c_2, c_14, c_16])]; rfl) | (rw [xgK, if_neg (show ¬ xgC g a1 a2 h (cornA h k) = true by simp [xgC, c_2, c_14, c_16])]; done))] at hM; exact hM)
                exact ih_40 (k + 1) (by first | omega | assumption | (simp; done) | grind) (by omega) _ (congrArg nI (by first | (rw [xaK, if_pos (show xgC g a1 a2 h (cornA h k) = true by simp [xgC, c_2, c_14, c_16])]; done) | (rw [xaK, if_pos (show xgC g a1 a2 h (cornA h k) = true by simp [xgC, c_2, c_14, c_16])]; rfl) | (rw [xaK, if_neg (show ¬ xgC g a1 a2 h (cornA h k) = true by simp [xgC, c_2, c_14, c_16])]; done))) _ (congrArg nI (by first | (rw [xeK, if_pos (show xgC g a1 a2 h (cornA h k) = true by simp [xgC, c_2, c_14, c_16])]; done) | (rw [xeK, if_pos (show xgC g a1 a2 h (cornA h k) = true by simp [xgC, c_2, c_14, c_16])]; rfl) | (rw [xeK, if_neg (show ¬ xgC g a1 a2 h (cornA h k) = true by simp [xgC, c_2, c_14, c_16])]; done))) H locs hM hS ls (lv_sub hl [2, 3, 4, 5, 6, 7, 8, 9, 10, 0] rfl)
              · refine lv_aload_n hx hb dX1_gains_64 rfl (lv_at hl 1 rfl) ?_
                refine gX_hexes S hK hM dX1_gains_65 ?_
                refine lv_iload hx hb dX1_gains_68 (lv_at hl 7 rfl) ?_
                refine lX_hexes S hK hM h (by omega) dX1_gains_70 ?_
                refine gN_hex_good S hK hM hN h (by omega) (g 0 h) rfl dX1_gains_71 ?_
                have hb_17 : g 0 h < 1048576 := by first | exact hg 0 h | exact hg0 _ _ | (have := hg 0 h; omega) | omega
                refine lv_iload_n hx hb dX1_gains_74 rfl (lv_at hl 2 rfl) ?_
                refine zr_icmp_neN (a := (g 0 h)) (b := a1) (tgt := 168) hx hb (by omega) (by omega) dX1_gains_75 (by decide) (fun c_18 => ?_) (fun c_18 => ?_)
                · refine lv_iinc (v := nI (k + 1)) (lv' := [(9, .int (nI (k + 1))), (10, .int (nI (cornA h k))), (0, .ref (pa (0, 0))), (1, .int (nI a1)), (2, .int (nI a2)), (3, .ref q_1), (4, .int (nI (xaK g a1 a2 h (xaH g a1 a2 h) k))), (5, .int (nI (xeK g a1 a2 h (xgH g a1 a2 h) (xeH g a1 a2 h) k))), (6, .int (nI h)), (7, .ref (pa (3, h))), (8, .int (nI 6))]) hx hb dX1_gains_168 hl (k := 10) rfl (zk_inc _) (by decide) rfl (fun ls hl => ?_)
                  refine lv_goto (tgt := 40) hx hb dX1_gains_171 (by decide) ?_
                  have hM : XS D dA cn A pa g (T ++ [(q_1, tA dA 3 (fun j => nI ((xgK g a1 a2 h (xgH g a1 a2 h) (k + 1)) j)))]) H := by first | exact hM | (rw [show (xgK g a1 a2 h (xgH g a1 a2 h) k : Nat → Nat) = xgK g a1 a2 h (xgH g a1 a2 h) (k + 1) from (by first | (rw [xgK, if_pos (show xgC g a1 a2 h (cornA h k) = true by simp [xgC, c_2, c_14, c_16, c_18])]; done) | (rw [xgK, if_pos (show xgC g a1 a2 h (cornA h k) = true by simp [xgC, c_2, c_14, c_16, c_18])]; rfl) | (rw [xgK, if_neg (show ¬ xgC g a1 a2 h (cornA h k) = true by simp [xgC, c_2, c_14, c_16, c_18])]; done))] at hM; exact hM)
                  exact ih_40 (k + 1) (by first | omega | assumption | (simp; done) | grind) (by omega) _ (congrArg nI (by first | (rw [xaK, if_pos (show xgC g a1 a2 h (cornA h k) = true by simp [xgC, c_2, c_14, c_16, c_18])]; done) | (rw [xaK, if_pos (show xgC g a1 a2 h (cornA h k) = true by simp [xgC, c_2, c_14, c_16, c_18])]; rfl) | (rw [xaK, if_neg (show ¬ xgC g a1 a2 h (cornA h k) = true by simp [xgC, c_2, c_14, c_16, c_18])]; done))) _ (congrArg nI (by first | (rw [xeK, if_pos (show xgC g a1 a2 h (cornA h k) = true by simp [xgC, c_2, c_14, c_16, c_18])]; done) | (rw [xeK, if_pos (show xgC g a1 a2 h (cornA h k) = true by simp [xgC, c_2, c_14, c_16, c_18])]; rfl) | (rw [xeK, if_neg (show ¬ xgC g a1 a2 h (cornA h k) = true by simp [xgC, c_2, c_14, c_16, c_18])]; done))) H locs hM hS ls (lv_sub hl [2, 3, 4, 5, 6, 7, 8, 9, 10, 0] rfl)
                · refine lv_aload_n hx hb dX1_gains_78 rfl (lv_at hl 1 rfl) ?_
                  refine gX_hexes S hK hM dX1_gains_79 ?_
                  refine lv_iload hx hb dX1_gains_82 (lv_at hl 7 rfl) ?_
                  refine lX_hexes S hK hM h (by omega) dX1_gains_84 ?_
                  refine gN_hex_number S hK hM hN h (by omega) (g 1 h) rfl dX1_gains_85 ?_
                  have hb_19 : g 1 h < 1048576 := by first | exact hg 1 h | exact hg0 _ _ | (have := hg 1 h; omega) | omega
                  refine lv_iload_n hx hb dX1_gains_88 rfl (lv_at hl 3 rfl) ?_
                  refine zr_icmp_neN (a := (g 1 h)) (b := a2) (tgt := 168) hx hb (by omega) (by omega) dX1_gains_89 (by decide) (fun c_20 => ?_) (fun c_20 => ?_)
                  · refine lv_iinc (v := nI (k + 1)) (lv' := [(9, .int (nI (k + 1))), (10, .int (nI (cornA h k))), (0, .ref (pa (0, 0))), (1, .int (nI a1)), (2, .int (nI a2)), (3, .ref q_1), (4, .int (nI (xaK g a1 a2 h (xaH g a1 a2 h) k))), (5, .int (nI (xeK g a1 a2 h (xgH g a1 a2 h) (xeH g a1 a2 h) k))), (6, .int (nI h)), (7, .ref (pa (3, h))), (8, .int (nI 6))]) hx hb dX1_gains_168 hl (k := 10) rfl (zk_inc _) (by decide) rfl (fun ls hl => ?_)
                    refine lv_goto (tgt := 40) hx hb dX1_gains_171 (by decide) ?_
                    have hM : XS D dA cn A pa g (T ++ [(q_1, tA dA 3 (fun j => nI ((xgK g a1 a2 h (xgH g a1 a2 h) (k + 1)) j)))]) H := by first | exact hM | (rw [show (xgK g a1 a2 h (xgH g a1 a2 h) k : Nat → Nat) = xgK g a1 a2 h (xgH g a1 a2 h) (k + 1) from (by first | (rw [xgK, if_pos (show xgC g a1 a2 h (cornA h k) = true by simp [xgC, c_2, c_14, c_16, c_18, c_20])]; done) | (rw [xgK, if_pos (show xgC g a1 a2 h (cornA h k) = true by simp [xgC, c_2, c_14, c_16, c_18, c_20])]; rfl) | (rw [xgK, if_neg (show ¬ xgC g a1 a2 h (cornA h k) = true by simp [xgC, c_2, c_14, c_16, c_18, c_20])]; done))] at hM; exact hM)
                    exact ih_40 (k + 1) (by first | omega | assumption | (simp; done) | grind) (by omega) _ (congrArg nI (by first | (rw [xaK, if_pos (show xgC g a1 a2 h (cornA h k) = true by simp [xgC, c_2, c_14, c_16, c_18, c_20])]; done) | (rw [xaK, if_pos (show xgC g a1 a2 h (cornA h k) = true by simp [xgC, c_2, c_14, c_16, c_18, c_20])]; rfl) | (rw [xaK, if_neg (show ¬ xgC g a1 a2 h (cornA h k) = true by simp [xgC, c_2, c_14, c_16, c_18, c_20])]; done))) _ (congrArg nI (by first | (rw [xeK, if_pos (show xgC g a1 a2 h (cornA h k) = true by simp [xgC, c_2, c_14, c_16, c_18, c_20])]; done) | (rw [xeK, if_pos (show xgC g a1 a2 h (cornA h k) = true by simp [xgC, c_2, c_14, c_16, c_18, c_20])]; rfl) | (rw [xeK, if_neg (show ¬ xgC g a1 a2 h (cornA h k) = true by simp [xgC, c_2, c_14, c_16, c_18, c_20])]; done))) H locs hM hS ls (lv_sub hl [2, 3, 4, 5, 6, 7, 8, 9, 10, 0] rfl)
                  · refine lv_iload hx hb dX1_gains_92 (lv_at hl 7 rfl) ?_
                    refine lv_aload_n hx hb dX1_gains_94 rfl (lv_at hl 1 rfl) ?_
                    refine gX_robber S hK hM (g 7 0) rfl dX1_gains_95 ?_
                    have hb_21 : g 7 0 < 1048576 := by first | exact hg 7 0 | exact hg0 _ _ | (have := hg 7 0; omega) | omega
                    refine zr_icmp_eqN (a := h) (b := (g 7 0)) (tgt := 168) hx hb (by omega) (by omega) dX1_gains_98 (by decide) (fun c_22 => ?_) (fun c_22 => ?_)
                    · refine lv_iinc (v := nI (k + 1)) (lv' := [(9, .int (nI (k + 1))), (10, .int (nI (cornA h k))), (0, .ref (pa (0, 0))), (1, .int (nI a1)), (2, .int (nI a2)), (3, .ref q_1), (4, .int (nI (xaK g a1 a2 h (xaH g a1 a2 h) k))), (5, .int (nI (xeK g a1 a2 h (xgH g a1 a2 h) (xeH g a1 a2 h) k))), (6, .int (nI h)), (7, .ref (pa (3, h))), (8, .int (nI 6))]) hx hb dX1_gains_168 hl (k := 10) rfl (zk_inc _) (by decide) rfl (fun ls hl => ?_)
                      refine lv_goto (tgt := 40) hx hb dX1_gains_171 (by decide) ?_
                      have hM : XS D dA cn A pa g (T ++ [(q_1, tA dA 3 (fun j => nI ((xgK g a1 a2 h (xgH g a1 a2 h) (k + 1)) j)))]) H := by first | exact hM | (rw [show (xgK g a1 a2 h (xgH g a1 a2 h) k : Nat → Nat) = xgK g a1 a2 h (xgH g a1 a2 h) (k + 1) from (by first | (rw [xgK, if_pos (show xgC g a1 a2 h (cornA h k) = true by simp [xgC, c_2, c_14, c_16, c_18, c_20, c_22])]; done) | (rw [xgK, if_pos (show xgC g a1 a2 h (cornA h k) = true by simp [xgC, c_2, c_14, c_16, c_18, c_20, c_22])]; rfl) | (rw [xgK, if_neg (show ¬ xgC g a1 a2 h (cornA h k) = true by simp [xgC, c_2, c_14, c_16, c_18, c_20, c_22])]; done))] at hM; exact hM)
                      exact ih_40 (k + 1) (by first | omega | assumption | (simp; done) | grind) (by omega) _ (congrArg nI (by first | (rw [xaK, if_pos (show xgC g a1 a2 h (cornA h k) = true by simp [xgC, c_2, c_14, c_16, c_18, c_20, c_22])]; done) | (rw [xaK, if_pos (show xgC g a1 a2 h (cornA h k) = true by simp [xgC, c_2, c_14, c_16, c_18, c_20, c_22])]; rfl) | (rw [xaK, if_neg (show ¬ xgC g a1 a2 h (cornA h k) = true by simp [xgC, c_2, c_14, c_16, c_18, c_20, c_22])]; done))) _ (congrArg nI (by first | (rw [xeK, if_pos (show xgC g a1 a2 h (cornA h k) = true by simp [xgC, c_2, c_14, c_16, c_18, c_20, c_22])]; done) | (rw [xeK, if_pos (show xgC g a1 a2 h (cornA h k) = true by simp [xgC, c_2, c_14, c_16, c_18, c_20, c_22])]; rfl) | (rw [xeK, if_neg (show ¬ xgC g a1 a2 h (cornA h k) = true by simp [xgC, c_2, c_14, c_16, c_18, c_20, c_22])]; done))) H locs hM hS ls (lv_sub hl [2, 3, 4, 5, 6, 7, 8, 9, 10, 0] rfl)
                    · refine lv_aload_n hx hb dX1_gains_101 rfl (lv_at hl 1 rfl) ?_
                      refine gX_buildings S hK hM dX1_gains_102 ?_
                      refine lv_iload hx hb dX1_gains_105 (lv_at hl 0 rfl) ?_
                      refine lX_bldY S hK hM (cornA h k) (by omega) c_16 dX1_gains_107 ?_
                      refine kI_owner S hKX hM hS (cornA h k) (by omega) c_16 (by exact h6 _ (by omega)) (Nat.le_of_ble_eq_true rfl) (Nat.le_of_ble_eq_true rfl) hl.1 (Nat.le_of_ble_eq_true rfl) (Nat.le_of_ble_eq_true rfl) (Nat.le_of_ble_eq_true rfl) dX1_gains_108 (fun locs hS => ?_)
                      have hb_23 : own1 g (cornA h k) < 4 := own1_lt _ _
                      have hb_24 : own1 g (cornA h k) ≠ 0 := own1_pos c_16
                      refine lv_istore (lv' := [(11, .int (mI (own1 g (cornA h k)))), (10, .int (nI (cornA h k))), (0, .ref (pa (0, 0))), (1, .int (nI a1)), (2, .int (nI a2)), (3, .ref q_1), (4, .int (nI (xaK g a1 a2 h (xaH g a1 a2 h) k))), (5, .int (nI (xeK g a1 a2 h (xgH g a1 a2 h) (xeH g a1 a2 h) k))), (6, .int (nI h)), (7, .ref (pa (3, h))), (8, .int (nI 6)), (9, .int (nI k))]) hx hb dX1_gains_113 hl (by decide) rfl (fun ls hl => ?_)
                      refine lv_iload hx hb dX1_gains_115 (lv_at hl 7 rfl) ?_
                      refine lv_aload_n hx hb dX1_gains_117 rfl (lv_at hl 5 rfl) ?_
                      refine lv_iload hx hb dX1_gains_118 (lv_at hl 0 rfl) ?_
                      rw [mI_pred (show 0 < (own1 g (cornA h k)) from by omega)]
                      refine xT_ld S hK hM (f := fun j => nI ((xgK g a1 a2 h (xgH g a1 a2 h) k) j)) tA_last ((own1 g (cornA h k)) - 1) (by omega) (by omega) dX1_gains_120 ?_
                      have hb_25 : (xgK g a1 a2 h (xgH g a1 a2 h) k) ((own1 g (cornA h k)) - 1) < 1048576 := by have := hgl ((own1 g (cornA h k)) - 1); omega
                      have J_129 : ∀ yS0_129 : Int32, yS0_129 = nI (decide (((xgK g a1 a2 h (xgH g a1 a2 h) k) ((own1 g (cornA h k)) - 1)) = 0)).toNat → ∀ (H : Heap) (locs : List Loc), XS D dA cn A pa g (T ++ [(q_1, tA dA 3 (fun j => nI ((xgK g a1 a2 h (xgH g a1 a2 h) k) j)))]) H → va_S A s.heap H locs → ∀ ls : Array Slot, lv_has ls 12 [(0, .ref (pa (0, 0))), (1, .int (nI a1)), (2, .int (nI a2)), (3, .ref q_1), (4, .int (nI (xaK g a1 a2 h (xaH g a1 a2 h) k))), (6, .int (nI h)), (7, .ref (pa (3, h))), (8, .int (nI 6)), (9, .int (nI k)), (10, .int (nI (cornA h k))), (11, .int (mI (own1 g (cornA h k))))] → W pr l en (rmF 3 1 3 120) s m args below meth cd H locs (1) (3) (MQ below (zc_Q Post A) args s 1 3 A) (F0 m 129 ls [.int yS0_129, .int (nI (xeK g a1 a2 h (xgH g a1 a2 h) (xeH g a1 a2 h) k))]) := by
                        intro yS0_129 eyS0_129 H locs hM hS ls hl
                        subst eyS0_129
                        refine zr_addN (a := (xeK g a1 a2 h (xgH g a1 a2 h) (xeH g a1 a2 h) k)) (b := ((decide (((xgK g a1 a2 h (xgH g a1 a2 h) k) ((own1 g (cornA h k)) - 1)) = 0)).toNat)) hx hb dX1_gains_129 ?_
                        refine lv_istore (lv' := [(5, .int (nI ((xeK g a1 a2 h (xgH g a1 a2 h) (xeH g a1 a2 h) k) + ((decide (((xgK g a1 a2 h (xgH g a1 a2 h) k) ((own1 g (cornA h k)) - 1)) = 0)).toNat)))), (0, .ref (pa (0, 0))), (1, .int (nI a1)), (2, .int (nI a2)), (3, .ref q_1), (4, .int (nI (xaK g a1 a2 h (xaH g a1 a2 h) k))), (6, .int (nI h)), (7, .ref (pa (3, h))), (8, .int (nI 6)), (9, .int (nI k)), (10, .int (nI (cornA h k))), (11, .int (mI (own1 g (cornA h k))))]) hx hb dX1_gains_130 hl (by decide) rfl (fun ls hl => ?_)
                        refine lv_aload_n hx hb dX1_gains_132 rfl (lv_at hl 4 rfl) ?_
                        refine lv_iload hx hb dX1_gains_133 (lv_at hl 11 rfl) ?_
                        refine lv_dup2_11 hx hb dX1_gains_135 rfl rfl ?_
                        rw [mI_pred (show 0 < (own1 g (cornA h k)) from by omega)]
                        refine xT_ld S hK hM (f := fun j => nI ((xgK g a1 a2 h (xgH g a1 a2 h) k) j)) tA_last ((own1 g (cornA h k)) - 1) (by omega) (by omega) dX1_gains_136 ?_
                        have hb_27 : (xgK g a1 a2 h (xgH g a1 a2 h) k) ((own1 g (cornA h k)) - 1) < 1048576 := by have := hgl ((own1 g (cornA h k)) - 1); omega
                        refine lv_aload_n hx hb dX1_gains_137 rfl (lv_at hl 1 rfl) ?_
                        refine gX_buildings S hK hM dX1_gains_138 ?_
                        refine lv_iload hx hb dX1_gains_141 (lv_at hl 10 rfl) ?_
                        refine lX_bldY S hK hM (cornA h k) (by omega) c_16 dX1_gains_143 ?_
                        refine kI_gets S hKX hM hS (cornA h k) (by omega) c_16 (by exact h6 _ (by omega)) (Nat.le_of_ble_eq_true rfl) (Nat.le_of_ble_eq_true rfl) hl.1 (Nat.le_of_ble_eq_true rfl) (Nat.le_of_ble_eq_true rfl) (Nat.le_of_ble_eq_true rfl) dX1_gains_144 (fun locs hS => ?_)
                        have hb_28 : (if g 2 (cornA h k) ≤ 3 then 1 else 2 : Nat) ≤ 2 := by split <;> omega
                        refine zr_addN (a := ((xgK g a1 a2 h (xgH g a1 a2 h) k) ((own1 g (cornA h k)) - 1))) (b := (if g 2 (cornA h k) ≤ 3 then 1 else 2)) hx hb dX1_gains_149 ?_
                        refine xT_st S hK hM hS ((own1 g (cornA h k)) - 1) (by omega) (by omega) (nI (((xgK g a1 a2 h (xgH g a1 a2 h) k) ((own1 g (cornA h k)) - 1)) + (if g 2 (cornA h k) ≤ 3 then 1 else 2))) dX1_gains_150 (fun H locs hM hS => ?_)
                        rw [upd_nI] at hM
                        refine lv_iload hx hb dX1_gains_151 (lv_at hl 5 rfl) ?_
                        refine lv_aload_n hx hb dX1_gains_153 rfl (lv_at hl 1 rfl) ?_
                        refine gX_buildings S hK hM dX1_gains_154 ?_
                        refine lv_iload hx hb dX1_gains_157 (lv_at hl 10 rfl) ?_
                        refine lX_bldY S hK hM (cornA h k) (by omega) c_16 dX1_gains_159 ?_
                        refine kI_gets S hKX hM hS (cornA h k) (by omega) c_16 (by exact h6 _ (by omega)) (Nat.le_of_ble_eq_true rfl) (Nat.le_of_ble_eq_true rfl) hl.1 (Nat.le_of_ble_eq_true rfl) (Nat.le_of_ble_eq_true rfl) (Nat.le_of_ble_eq_true rfl) dX1_gains_160 (fun locs hS => ?_)
                        have hb_29 : (if g 2 (cornA h k) ≤ 3 then 1 else 2 : Nat) ≤ 2 := by split <;> omega
                        refine zr_addN (a := (xaK g a1 a2 h (xaH g a1 a2 h) k)) (b := (if g 2 (cornA h k) ≤ 3 then 1 else 2)) hx hb dX1_gains_165 ?_
                        refine lv_istore (lv' := [(4, .int (nI ((xaK g a1 a2 h (xaH g a1 a2 h) k) + (if g 2 (cornA h k) ≤ 3 then 1 else 2)))), (5, .int (nI ((xeK g a1 a2 h (xgH g a1 a2 h) (xeH g a1 a2 h) k) + ((decide (((xgK g a1 a2 h (xgH g a1 a2 h) k) ((own1 g (cornA h k)) - 1)) = 0)).toNat)))), (0, .ref (pa (0, 0))), (1, .int (nI a1)), (2, .int (nI a2)), (3, .ref q_1), (6, .int (nI h)), (7, .ref (pa (3, h))), (8, .int (nI 6)), (9, .int (nI k)), (10, .int (nI (cornA h k))), (11, .int (mI (own1 g (cornA h k))))]) hx hb dX1_gains_166 hl (by decide) rfl (fun ls hl => ?_)
                        refine lv_iinc (v := nI (k + 1)) (lv' := [(9, .int (nI (k + 1))), (4, .int (nI ((xaK g a1 a2 h (xaH g a1 a2 h) k) + (if g 2 (cornA h k) ≤ 3 then 1 else 2)))), (5, .int (nI ((xeK g a1 a2 h (xgH g a1 a2 h) (xeH g a1 a2 h) k) + ((decide (((xgK g a1 a2 h (xgH g a1 a2 h) k) ((own1 g (cornA h k)) - 1)) = 0)).toNat)))), (0, .ref (pa (0, 0))), (1, .int (nI a1)), (2, .int (nI a2)), (3, .ref q_1), (6, .int (nI h)), (7, .ref (pa (3, h))), (8, .int (nI 6)), (10, .int (nI (cornA h k))), (11, .int (mI (own1 g (cornA h k))))]) hx hb dX1_gains_168 hl (k := 9) rfl (zk_inc _) (by decide) rfl (fun ls hl => ?_)
                        refine lv_goto (tgt := 40) hx hb dX1_gains_171 (by decide) ?_
                        have hM : XS D dA cn A pa g (T ++ [(q_1, tA dA 3 (fun j => nI ((xgK g a1 a2 h (xgH g a1 a2 h) (k + 1)) j)))]) H := by first | exact hM | (rw [show (upN (xgK g a1 a2 h (xgH g a1 a2 h) k) ((own1 g (cornA h k)) - 1) (((xgK g a1 a2 h (xgH g a1 a2 h) k) ((own1 g (cornA h k)) - 1)) + (if g 2 (cornA h k) ≤ 3 then 1 else 2)) : Nat → Nat) = xgK g a1 a2 h (xgH g a1 a2 h) (k + 1) from (by first | (rw [xgK, if_pos (show xgC g a1 a2 h (cornA h k) = true by simp [xgC, c_2, c_14, c_16, c_18, c_20, c_22])]; done) | (rw [xgK, if_pos (show xgC g a1 a2 h (cornA h k) = true by simp [xgC, c_2, c_14, c_16, c_18, c_20, c_22])]; rfl) | (rw [xgK, if_neg (show ¬ xgC g a1 a2 h (cornA h k) = true by simp [xgC, c_2, c_14, c_16, c_18, c_20, c_22])]; done))] at hM; exact hM)
                        exact ih_40 (k + 1) (by first | omega | assumption | (simp; done) | grind) (by omega) _ (congrArg nI (by first | (rw [xaK, if_pos (show xgC g a1 a2 h (cornA h k) = true by simp [xgC, c_2, c_14, c_16, c_18, c_20, c_22])]; done) | (rw [xaK, if_pos (show xgC g a1 a2 h (cornA h k) = true by simp [xgC, c_2, c_14, c_16, c_18, c_20, c_22])]; rfl) | (rw [xaK, if_neg (show ¬ xgC g a1 a2 h (cornA h k) = true by simp [xgC, c_2, c_14, c_16, c_18, c_20, c_22])]; done))) _ (congrArg nI (by first | (rw [xeK, if_pos (show xgC g a1 a2 h (cornA h k) = true by simp [xgC, c_2, c_14, c_16, c_18, c_20, c_22])]; done) | (rw [xeK, if_pos (show xgC g a1 a2 h (cornA h k) = true by simp [xgC, c_2, c_14, c_16, c_18, c_20, c_22])]; rfl) | (rw [xeK, if_neg (show ¬ xgC g a1 a2 h (cornA h k) = true by simp [xgC, c_2, c_14, c_16, c_18, c_20, c_22])]; done))) H locs hM hS ls (lv_sub hl [3, 4, 5, 6, 1, 2, 7, 8, 9, 0] rfl)
                      refine zr_if_neN (a := ((xgK g a1 a2 h (xgH g a1 a2 h) k) ((own1 g (cornA h k)) - 1))) (tgt := 128) hx hb (by omega) dX1_gains_121 (by decide) (fun c_30 => ?_) (fun c_30 => ?_)
                      · refine lv_iconst (v := nI 0) hx hb dX1_gains_128 zi_0 ?_
                        exact J_129 _ (congrArg (fun z : Bool => nI z.toNat) (show (false : Bool) = (decide (((xgK g a1 a2 h (xgH g a1 a2 h) k) ((own1 g (cornA h k)) - 1)) = 0)) from by first | with_reducible rfl | (simp [c_2, c_14, c_16, c_18, c_20, c_22, c_30]; done) | (simp only [c_2, c_14, c_16, c_18, c_20, c_22, c_30] <;> simp []; done) | (simp [c_2, c_14, c_16, c_18, c_20, c_22, c_30, Bool.and_assoc]; done) | (simp [c_2, c_14, c_16, c_18, c_20, c_22, c_30, Bool.and_assoc, Bool.or_assoc]; done) | rfl | (simp [c_2, c_14, c_16, c_18, c_20, c_22, c_30]; omega) | (simp_all []; done))) H locs hM hS ls (lv_sub hl [2, 3, 4, 5, 6, 8, 9, 10, 11, 1, 0] rfl)
                      · refine lv_iconst (v := nI 1) hx hb dX1_gains_124 zi_1 ?_
                        refine lv_goto (tgt := 129) hx hb dX1_gains_125 (by decide) ?_
                        exact J_129 _ (congrArg (fun z : Bool => nI z.toNat) (show (true : Bool) = (decide (((xgK g a1 a2 h (xgH g a1 a2 h) k) ((own1 g (cornA h k)) - 1)) = 0)) from by first | with_reducible rfl | (simp [c_2, c_14, c_16, c_18, c_20, c_22, c_30]; done) | (simp only [c_2, c_14, c_16, c_18, c_20, c_22, c_30] <;> simp []; done) | (simp [c_2, c_14, c_16, c_18, c_20, c_22, c_30, Bool.and_assoc]; done) | (simp [c_2, c_14, c_16, c_18, c_20, c_22, c_30, Bool.and_assoc, Bool.or_assoc]; done) | rfl | (simp [c_2, c_14, c_16, c_18, c_20, c_22, c_30]; omega) | (simp_all []; done))) H locs hM hS ls (lv_sub hl [2, 3, 4, 5, 6, 8, 9, 10, 11, 1, 0] rfl)
        have hM : XS D dA cn A pa g (T ++ [(q_1, tA dA 3 (fun j => nI ((xgK g a1 a2 h (xgH g a1 a2 h) 0) j)))]) H := by first | exact hM | (rw [show (xgH g a1 a2 h : Nat → Nat) = xgK g a1 a2 h (xgH g a1 a2 h) 0 from (by first | (rw [xgK, if_pos (show xgC g a1 a2 h (cornA h k) = true by simp [xgC, c_2])]; done) | (rw [xgK, if_pos (show xgC g a1 a2 h (cornA h k) = true by simp [xgC, c_2])]; rfl) | (rw [xgK, if_neg (show ¬ xgC g a1 a2 h (cornA h k) = true by simp [xgC, c_2])]; done))] at hM; exact hM)
        exact L_40 _ 0 (by first | omega | assumption | (simp; done) | grind) (Nat.lt_succ_self _) _ (rfl) _ (rfl) H locs hM hS ls (lv_sub hl [3, 4, 5, 6, 7, 8, 9, 2, 1, 0] rfl)
  exact L_13 _ 0 (by first | omega | assumption | (simp; done) | grind) (Nat.lt_succ_self _) _ (rfl) _ (rfl) H locs hM hS ls (lv_sub hl [4, 5, 6, 3, 2, 1, 0] rfl)
theorem upN_lt {f : Nat → Nat} (h : ∀ j, f j ≤ 1048575) : ∀ j, f j ≤ 1048575 := h
theorem xGain_le {g : G} (hg : Sm g) (gd sm : Nat) : ∀ j, xGain g gd sm j ≤ 1048575 := by
  intro j
  unfold xGain
  split
  · exact xgP_le (fun j => Nat.le_trans (xgH_le g gd sm 7 j) (by decide)) (by have := hg 4 (15 + gd); omega) 3 j
  · exact Nat.le_trans (xgH_le g gd sm 7 j) (by decide)
theorem kX_gains {pr : Program} {l : Launch} {en : Env} {R : Room} {s : State} {m : MethodId} {args : Array Value} {below : List Frame} {meth : Method} {cd : Code} {H : Heap} {locs : List Loc} {cells slots : Nat} {cc : ByteArray} {pc nL : Nat} {ls : Array Slot} {rest : List Value} {D : va_G} {dA : Nat → ClassId} {cn : Nat → Nat} {A : Nat → Prop} {pa : NM → Nat} {g : G} {T : va_W} {Q : State → Prop} (S : CallFix pr m cd cc nL s args lw_all RX1) (hKX : KX D dA cn A s) (hM : XS D dA cn A pa g T H) (hg : Sm g) (hS : va_S A s.heap H locs) (hA : ∀ q, H.size ≤ q → A q) (a1 a2 : Nat) (h1 : a1 < 5) (h2 : a2 < 1000) (h6 : ∀ c, c < 24 → g 2 c ≤ 6) (hf : 3 + 1 ≤ R.frames) (hlo : 8 + (12 + 11) + 120 ≤ R.locals) (hsz : ls.size = nL) (hcat : (rest.map fun v => v.category).sum ≤ 8) (hdg : decode cc pc = .ok (.invokevirtual 262, 3)) (hq1 : cells + 1 ≤ R.cells) (hq2 : slots + 3 ≤ R.slots)
    (kk : ∀ (q : Nat) (H1 : Heap) (locs1 : List Loc), XS D dA cn A pa g (T ++ [(q, tA dA 3 (fun j => nI (xGain g a1 a2 j)))]) H1 → va_S A s.heap H1 locs1 → W pr l en R s m args below meth cd H1 locs1 (cells + 1) (slots + 3) Q (F0 m (pc + 3) ls (.ref q :: rest))) : W pr l en R s m args below meth cd H locs cells slots Q (F0 m pc ls (.int (nI a2) :: .int (nI a1) :: .ref (pa (0, 0)) :: rest)) :=
  zc_callV (n := 2) (As := [.int (nI a1), .int (nI a2)]) (rest := rest) S (cX_gains l hg a1 a2 h1 h2 h6 H hM hA (Post := fun v H1 => ∃ q : Nat, v = some (.ref q) ∧ XS D dA cn A pa g (T ++ [(q, tA dA 3 (fun j => nI (xGain g a1 a2 j)))]) H1) (fun q H1 h => ⟨q, rfl, h⟩)) (lw_V q674 q676 qs17 q71 q677) (by decide +kernel) ⟨hf, hlo⟩ ⟨hq1, hq2⟩ (zx_recv hKX.1 hM) KX_mv (zc_K KX_mv hKX hS) hS (fun _ h => h) rfl hsz rfl hcat hdg (fun v H1 locs1 hp _ _ hS1 => by obtain ⟨q, rfl, h⟩ := hp; exact kk q H1 locs1 h hS1)
def cdWouldGet (g : G) (a1 : Int32) (a2 : Int32) (a3 : Int32) : Nat := (if (inB a1 3) = true then (if (inB a2 5) = true then (if (inR a3 2 12) = true then 0 else 2) else 2) else 1)
set_option maxHeartbeats 1000000 in
set_option maxRecDepth 100000 in
theorem cX_wouldGet (l : Launch) (hfl : l.stackTraces = false) {D : va_G} {dA : Nat → ClassId} {cn : Nat → Nat} {A : Nat → Prop} {pa : NM → Nat} {g : G} {T : va_W} (hg : Sm g) (a1 : Int32) (a2 : Int32) (a3 : Int32) (h6 : ∀ c, c < 24 → g 2 c ≤ 6) (H0 : Heap) (hM : XS D dA cn A pa g T H0) (hA : ∀ q, H0.size ≤ q → A q) {Post : Option Value → Heap → Prop} {XPost : String → Heap → Prop} (hPost : (cdWouldGet g a1 a2 a3) = 0 → ∀ H : Heap, XS D dA cn A pa g T H → Sm g → Post (some (.int (nI (xGain g (tn a2) (tn a3) (tn a1))))) H) (hXP : ∀ n : Nat, (cdWouldGet g a1 a2 a3) = n → n ≠ 0 → ∀ H : Heap, XS D dA cn A pa g T H → XPost (exS n) H) : vCt l yX1_wouldGet (ws_ yX1_wouldGet cX1_wouldGet 4 (some .int)) (rmF 9 4 21 200) A (KX D dA cn A) [.ref (pa (0, 0)), .int a1, .int a2, .int a3] H0 Post XPost := by
  refine vc_of RX1 rfl (by decide) (Nat.le_of_ble_eq_true rfl) ?_
  intro pr en s m args below meth cd S hr hlk hnm hno hh hKX ls hl
  have hS : va_S A s.heap H0 [] := zc_start hh
  have hA : ∀ q, s.heap.size ≤ q → A q := fun q h => hA q (by rw [← hh]; exact h)
  have hg0 := hg
  have hx := S.1
  have hb := S.2.1
  have hown := S.2.2.2.1
  have hts := S.2.2.2.2
  have hK := hKX.1
  have hN := hKX.2.1.1
  have hl : lv_has ls 4 [(0, .ref (pa (0, 0))), (1, .int a1), (2, .int a2), (3, .int a3)] := hl
  refine lv_iload_n hx hb dX1_wouldGet_0 rfl (lv_at hl 1 rfl) ?_
  refine lv_iconst (v := nI 3) hx hb dX1_wouldGet_1 zi_3 ?_
  refine kX_check hfl S hKX hM hg hS (fun q h => hA q (Nat.le_trans hS.1 h)) a1 3 (by first | omega | assumption | grind) (Nat.le_of_ble_eq_true rfl) (Nat.le_of_ble_eq_true rfl) hl.1 (Nat.le_of_ble_eq_true rfl) dX1_wouldGet_2 (Nat.le_of_ble_eq_true rfl) (Nat.le_of_ble_eq_true rfl) hno hlk (Nat.le_of_ble_eq_true rfl) (Nat.le_of_ble_eq_true rfl) (fun c_1 H1 hM1 => hXP 1 (by first | (simp only [c_1, cdWouldGet, Bool.true_and, Bool.and_true, Bool.false_and, Bool.and_false, reduceIte, Bool.false_eq_true]; done) | (simp [c_1, cdWouldGet]; done) | grind | (simp_all; done)) (by decide) H1 hM1) (fun c_1 H locs hM hg hS => ?_)
  obtain ⟨hj1, ea1⟩ := inB_tn (by decide) c_1
  rw [ea1] at hl
  refine lv_iload_n hx hb dX1_wouldGet_5 rfl (lv_at hl 2 rfl) ?_
  refine kX_checkGood hfl S hKX hM hg hS (fun q h => hA q (Nat.le_trans hS.1 h)) a2  (Nat.le_of_ble_eq_true rfl) (Nat.le_of_ble_eq_true rfl) hl.1 (Nat.le_of_ble_eq_true rfl) dX1_wouldGet_6 (Nat.le_of_ble_eq_true rfl) (Nat.le_of_ble_eq_true rfl) hno hlk (Nat.le_of_ble_eq_true rfl) (Nat.le_of_ble_eq_true rfl) (fun c_2 H1 hM1 => hXP 2 (by first | (simp only [c_1, c_2, cdWouldGet, Bool.true_and, Bool.and_true, Bool.false_and, Bool.and_false, reduceIte, Bool.false_eq_true]; done) | (simp [c_1, c_2, cdWouldGet]; done) | grind | (simp_all; done)) (by decide) H1 hM1) (fun c_2 H locs hM hg hS => ?_)
  obtain ⟨hj2, ea2⟩ := inB_tn (by decide) c_2
  rw [ea2] at hl
  refine lv_iload_n hx hb dX1_wouldGet_9 rfl (lv_at hl 3 rfl) ?_
  refine lv_iconst (v := nI 2) hx hb dX1_wouldGet_10 zi_2 ?_
  refine lv_bipush (v := nI 12) hx hb dX1_wouldGet_11 zb_12 ?_
  refine kX_checkRange hfl S hKX hM hg hS (fun q h => hA q (Nat.le_trans hS.1 h)) a3 2 12 (by first | omega | assumption | grind) (by first | omega | assumption | grind) (Nat.le_of_ble_eq_true rfl) (Nat.le_of_ble_eq_true rfl) hl.1 (Nat.le_of_ble_eq_true rfl) dX1_wouldGet_13 (Nat.le_of_ble_eq_true rfl) (Nat.le_of_ble_eq_true rfl) hno hlk (Nat.le_of_ble_eq_true rfl) (Nat.le_of_ble_eq_true rfl) (fun c_3 H1 hM1 => hXP 2 (by first | (simp only [c_1, c_2, c_3, cdWouldGet, Bool.true_and, Bool.and_true, Bool.false_and, Bool.and_false, reduceIte, Bool.false_eq_true]; done) | (simp [c_1, c_2, c_3, cdWouldGet]; done) | grind | (simp_all; done)) (by decide) H1 hM1) (fun c_3 H locs hM hg hS => ?_)
  obtain ⟨lj3, hj3, ea3⟩ := inR_tn (by decide) (by decide) c_3
  rw [ea3] at hl
  refine lv_aload_n hx hb dX1_wouldGet_16 rfl (lv_at hl 0 rfl) ?_
  refine lv_iload_n hx hb dX1_wouldGet_17 rfl (lv_at hl 2 rfl) ?_
  refine lv_iload_n hx hb dX1_wouldGet_18 rfl (lv_at hl 3 rfl) ?_
  refine kX_gains S hKX hM hg hS (fun q h => hA q (Nat.le_trans hS.1 h)) (tn a2) (tn a3) (by omega) (by omega) h6 (Nat.le_of_ble_eq_true rfl) (Nat.le_of_ble_eq_true rfl) hl.1 (Nat.le_of_ble_eq_true rfl) dX1_wouldGet_19 (Nat.le_of_ble_eq_true rfl) (Nat.le_of_ble_eq_true rfl) (fun q_4 H locs hM hS => ?_)
  have hgl : ∀ j, xGain g (tn a2) (tn a3) j ≤ 1048575 := xGain_le hg _ _
  refine lv_iload_n hx hb dX1_wouldGet_22 rfl (lv_at hl 1 rfl) ?_
  refine xT_ld S hK hM (f := fun j => nI ((xGain g (tn a2) (tn a3)) j)) tA_last (tn a1) (by omega) (by omega) dX1_wouldGet_23 ?_
  have hb_5 : (xGain g (tn a2) (tn a3)) (tn a1) < 1048576 := by have := hgl (tn a1); omega
  have hM := hM.drop
  exact vx_ret (zc_nret (nI (xGain g (tn a2) (tn a3) (tn a1))) (congrArg nI (show ((xGain g (tn a2) (tn a3)) (tn a1) : Nat) = (xGain g (tn a2) (tn a3) (tn a1)) from by first | with_reducible rfl | (simp [c_1, c_2, c_3, cdWouldGet]; done) | (simp only [c_1, c_2, c_3] <;> simp [cdWouldGet]; done) | (simp only [cdWouldGet, c_1, c_2, c_3] <;> simp [cdWouldGet]; done) | (simp [c_1, c_2, c_3, cdWouldGet, Bool.and_assoc]; done) | (simp [c_1, c_2, c_3, cdWouldGet, Bool.and_assoc, Bool.or_assoc]; done) | rfl | (simp [c_1, c_2, c_3, cdWouldGet]; omega) | (simp_all [cdWouldGet]; done))) (hPost (by first | rfl | (simp only [c_1, c_2, c_3, cdWouldGet, Bool.true_and, Bool.and_true, reduceIte]; done) | (simp [c_1, c_2, c_3, cdWouldGet]; done) | grind | (simp_all; done)) H hM hg) hS hx hb hr hlk (Nat.le_of_ble_eq_true rfl) (Nat.le_of_ble_eq_true rfl) dX1_wouldGet_24)
