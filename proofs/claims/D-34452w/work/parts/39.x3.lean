/-! THE CLASS: goods move, offers, the robber -/
def mvX (g : G) (a b k n : Nat) : G := if n = 0 then g else mvP (moveN g a b k n) a b k n
theorem mvP_4 (g : G) (a b k n j : Nat) : mvP g a b k n 4 j = g 4 j := rfl
theorem mvP_nf (g : G) (a b k n : Nat) {f : Nat} (h1 : f ≠ 8) (h2 : f < 12 ∨ 15 < f) (j : Nat) : mvP g a b k n f j = g f j := by
  unfold mvP
  rw [gs_nf _ h1, gs_nf _ (by omega), gs_nf _ (by omega), gs_nf _ (by omega), gs_nf _ (by omega)]
theorem mvX_nf (g : G) (a b k n : Nat) {f : Nat} (h0 : f ≠ 4) (h1 : f ≠ 8) (h2 : f < 12 ∨ 15 < f) (j : Nat) : mvX g a b k n f j = g f j := by
  unfold mvX
  split
  · rfl
  · rw [mvP_nf _ _ _ _ _ h1 h2, moveN_nf _ _ _ _ _ h0]
theorem mvX_4 (g : G) (a b k n j : Nat) : mvX g a b k n 4 j = moveN g a b k n 4 j := by
  unfold mvX
  split
  · rename_i h
    subst h
    unfold moveN gs
    (repeat' split) <;> simp_all
  · rfl
theorem mvX_81 (g : G) (a b k n : Nat) : mvX g a b k n 8 1 ≤ g 8 1 + 1 := by
  unfold mvX
  split
  · omega
  · show moveN g a b k n 8 1 + 1 ≤ _
    rw [moveN_nf _ _ _ _ _ (by decide)]
    exact Nat.le_refl _
theorem Sm_mvP {g : G} {a b k n : Nat} (hg : Sm g) (ha : a < 1048576) (hb : b < 1048576) (hk : k < 1048576) (hn : n < 1048576) (h8 : g 8 1 < 1048575) : Sm (mvP g a b k n) :=
  Sm_gs (Sm_gs (Sm_gs (Sm_gs (Sm_gs hg ha) hb) hk) hn) (by omega)
/-- goods go, good by good -/
def giveX (g : G) (a b x : Nat) : Nat → G
  | 0 => g
  | i + 1 => mvX (giveX g a b x i) a b i (digN x i)
theorem giveX_nf (g : G) (a b x : Nat) {f : Nat} (h0 : f ≠ 4) (h1 : f ≠ 8) (h2 : f < 12 ∨ 15 < f) : ∀ i j, giveX g a b x i f j = g f j := by
  intro i
  induction i with
  | zero => intro j; rfl
  | succ i ih => intro j; exact (mvX_nf _ _ _ _ _ h0 h1 h2 j).trans (ih j)
theorem giveX_81 (g : G) (a b x : Nat) : ∀ i, giveX g a b x i 8 1 ≤ g 8 1 + i := by
  intro i
  induction i with
  | zero => exact Nat.le_refl _
  | succ i ih =>
    have := mvX_81 (giveX g a b x i) a b i (digN x i)
    show mvX (giveX g a b x i) a b i (digN x i) 8 1 ≤ _
    omega
theorem moveN_cg {g g' : G} {a b k n : Nat} (h : ∀ j, g' 4 j = g 4 j) (j : Nat) : moveN g' a b k n 4 j = moveN g a b k n 4 j := by
  unfold moveN gs
  simp only [h]
theorem giveX_4 (g : G) (a b x : Nat) : ∀ i j, giveX g a b x i 4 j = giveN g a b x i 4 j := by
  intro i
  induction i with
  | zero => intro j; rfl
  | succ i ih => intro j; exact (mvX_4 _ _ _ _ _ _).trans (moveN_cg ih j)
theorem giveX_ge (g : G) (a b x i j : Nat) (h5 : i ≤ 5) (hj : i ≤ j % 5) : giveX g a b x i 4 j = g 4 j := (giveX_4 g a b x i j).trans (giveN_ge g a b x i j h5 hj)
def xHarb (g : G) (p h : Nat) : Bool := decide (own1 g (7 + 3 * h) = p + 1) || decide (own1 g (8 + 3 * h) = p + 1)
def xRate (g : G) (p k : Nat) : Nat := if xHarb g p k = true then 2 else if xHarb g p 5 = true then 3 else 4
theorem xRate_le (g : G) (p k : Nat) : xRate g p k ≤ 4 := by unfold xRate; (repeat' split) <;> omega
theorem corn_of : ∀ h, h < 7 → ∀ c, c < 24 → mOf h c = anyN 6 (fun k => decide (cornA h k = c)) := by decide +kernel
theorem anyN_iff {n : Nat} {f : Nat → Bool} : anyN n f = true ↔ ∃ i, i < n ∧ f i = true := by
  induction n with
  | zero => exact ⟨fun h => Bool.noConfusion (show false = true from h), fun ⟨i, h, _⟩ => absurd h (Nat.not_lt_zero _)⟩
  | succ n ih =>
    show (anyN n f || f n) = true ↔ _
    rw [Bool.or_eq_true, ih]
    constructor
    · rintro (⟨i, h1, h2⟩ | h)
      · exact ⟨i, by omega, h2⟩
      · exact ⟨n, by omega, h⟩
    · rintro ⟨i, h1, h2⟩
      by_cases h : i = n
      · subst h; exact Or.inr h2
      · exact Or.inl ⟨i, by omega, h2⟩
theorem corn_any {h : Nat} (hh : h < 7) (P : Nat → Bool) : anyN 24 (fun c => mOf h c && P c) = anyN 6 (fun k => P (cornA h k)) := by
  rw [Bool.eq_iff_iff, anyN_iff, anyN_iff]
  constructor
  · rintro ⟨c, hc, h2⟩
    rw [Bool.and_eq_true, corn_of h hh c hc, anyN_iff] at h2
    obtain ⟨⟨k, hk, hkc⟩, hP⟩ := h2
    rw [decide_eq_true_eq] at hkc
    exact ⟨k, hk, by rw [hkc]; exact hP⟩
  · rintro ⟨k, hk, hP⟩
    have hc := cornA_lt hh hk
    refine ⟨cornA h k, hc, ?_⟩
    rw [Bool.and_eq_true, corn_of h hh _ hc, anyN_iff]
    exact ⟨⟨k, hk, decide_eq_true rfl⟩, hP⟩
theorem mVic_eq {g : G} {p h : Nat} (hh : h < 7) : mVic g p h = (anyN 6 (fun k => decide (own1 g (cornA h k) = p + 1)) && (!decide (p = g 7 4) && decide (0 < handN g p 5))) := by
  unfold mVic
  rw [corn_any hh (fun c => decide (own1 g c = p + 1))]
def gRobX (g : G) (h v d : Nat) : G := if v = 0 then gs g 7 0 h else mvX (gs g 7 0 h) (v - 1) (g 7 4) (robK g (v - 1) (rX g v d)) 1
def xDue (g : G) : Nat → Nat
  | 0 => 4
  | i + 1 => if 0 < g 5 i then 3 else xDue g i
theorem xDue_le (g : G) : ∀ i, xDue g i ≤ 4 := by
  intro i
  induction i with
  | zero => exact Nat.le_refl _
  | succ i ih =>
    show (if 0 < g 5 i then 3 else xDue g i) ≤ 4
    split <;> omega
theorem gs_gs (g : G) (f i v w : Nat) : gs (gs g f i v) f i w = gs g f i w := by
  funext f' i'
  unfold gs
  (repeat' split) <;> rfl
set_option maxHeartbeats 1000000 in
set_option maxRecDepth 100000 in
theorem cX_move (l : Launch) {D : va_G} {dA : Nat → ClassId} {cn : Nat → Nat} {A : Nat → Prop} {pa : NM → Nat} {g : G} {T : va_W} (hg : Sm g) (a1 : Nat) (a2 : Nat) (a3 : Nat) (a4 : Nat) (h1 : a1 < 4) (h2 : a2 < 4) (h3 : a3 < 5) (h4 : a4 ≤ g 4 (5 * a1 + a3)) (h5 : g 4 (5 * a2 + a3) ≤ 1000) (h6 : a4 ≤ 1000) (hv : g 8 1 ≤ 2000) (H0 : Heap) (hM : XS D dA cn A pa g T H0) (hA : ∀ q, H0.size ≤ q → A q) {Post : Option Value → Heap → Prop} (hPost : ∀ H : Heap, XS D dA cn A pa (mvX g a1 a2 a3 a4) T H → Sm (mvX g a1 a2 a3 a4) → Post (none) H) : Ct l yX1_move (ws_ yX1_move cX1_move 5 none) (rmF 9 2 4004 500) A (KX D dA cn A) [.ref (pa (0, 0)), .int (nI a1), .int (nI a2), .int (nI a3), .int (nI a4)] H0 Post := by
  refine zc_of RX1 rfl (by decide) (Nat.le_of_ble_eq_true rfl) ?_
  intro pr en s m args below meth cd S hr hlk hnm hh hKX ls hl
  have hS : va_S A s.heap H0 [] := zc_start hh
  have hA : ∀ q, s.heap.size ≤ q → A q := fun q h => hA q (by rw [← hh]; exact h)
  have hg0 := hg
  have hx := S.1
  have hb := S.2.1
  have hown := S.2.2.2.1
  have hts := S.2.2.2.2
  have hK := hKX.1
  have hN := hKX.2.1.1
  have hl : lv_has ls 5 [(0, .ref (pa (0, 0))), (1, .int (nI a1)), (2, .int (nI a2)), (3, .int (nI a3)), (4, .int (nI a4))] := hl
  refine lv_iload hx hb dX1_move_0 (lv_at hl 4 rfl) ?_
  refine zr_if_leN (a := a4) (tgt := 53) hx hb (by omega) dX1_move_2 (by decide) (fun c_1 => ?_) (fun c_1 => ?_)
  · rw [show (g : G) = mvX g a1 a2 a3 a4 from by first | with_reducible rfl | (simp [c_1, mvX, moveN]; done) | (simp only [c_1] <;> simp [mvX, moveN]; done) | (simp only [mvX, moveN, c_1] <;> simp [mvX, moveN]; done) | (simp [c_1, mvX, moveN, Bool.and_assoc]; done) | (simp [c_1, mvX, moveN, Bool.and_assoc, Bool.or_assoc]; done) | rfl | (simp [c_1, mvX, moveN]; omega) | (simp_all [mvX, moveN]; done)] at hM hg
    exact zc_vret (hPost H0 hM hg) hS hx hb hr hlk (Nat.le_of_ble_eq_true rfl) (Nat.le_of_ble_eq_true rfl) dX1_move_53
  · have hm3 : gs g 4 (5 * a1 + a3) (g 4 (5 * a1 + a3) - a4) 4 (5 * a2 + a3) ≤ 1000 := by by_cases q : 5 * a2 + a3 = 5 * a1 + a3; (rw [q, gs_eq]; rw [q] at h5; omega); (rw [gs_ni _ q]; omega)
    refine lv_aload_n hx hb dX1_move_5 rfl (lv_at hl 0 rfl) ?_
    refine gX_hands S hK hM dX1_move_6 ?_
    refine lv_iload_n hx hb dX1_move_9 rfl (lv_at hl 1 rfl) ?_
    refine lX_hands S hK hM a1 (by omega) dX1_move_10 ?_
    refine lv_iload_n hx hb dX1_move_11 rfl (lv_at hl 3 rfl) ?_
    refine lv_dup2_11 hx hb dX1_move_12 rfl rfl ?_
    refine lX_hand S hK hM a1 (by omega) a3 (by omega) (g 4 (5 * a1 + a3)) rfl dX1_move_13 ?_
    have hb_2 : g 4 (5 * a1 + a3) < 1048576 := by first | exact hg 4 (5 * a1 + a3) | exact hg0 _ _ | (have := hg 4 (5 * a1 + a3); omega) | omega
    refine lv_iload hx hb dX1_move_14 (lv_at hl 4 rfl) ?_
    refine zr_subN (a := (g 4 (5 * a1 + a3))) (b := a4) hx hb (by omega) dX1_move_16 ?_
    refine sX_hand S hK hM hS a1 (by omega) a3 (by omega) ((g 4 (5 * a1 + a3)) - a4) dX1_move_17 (fun H locs hM hS => ?_)
    have hg : Sm (gs g 4 (5 * a1 + a3) ((g 4 (5 * a1 + a3)) - a4)) := Sm_gs hg (by first | omega | exact Nat.lt_of_le_of_lt (Bool.toNat_le _) (by decide) | ((repeat' split) <;> omega))
    refine lv_aload_n hx hb dX1_move_18 rfl (lv_at hl 0 rfl) ?_
    refine gX_hands S hK hM dX1_move_19 ?_
    refine lv_iload_n hx hb dX1_move_22 rfl (lv_at hl 2 rfl) ?_
    refine lX_hands S hK hM a2 (by omega) dX1_move_23 ?_
    refine lv_iload_n hx hb dX1_move_24 rfl (lv_at hl 3 rfl) ?_
    refine lv_dup2_11 hx hb dX1_move_25 rfl rfl ?_
    refine lX_hand S hK hM a2 (by omega) a3 (by omega) ((gs g 4 (5 * a1 + a3) ((g 4 (5 * a1 + a3)) - a4)) 4 (5 * a2 + a3)) (by first | rfl | simp [gs]) dX1_move_26 ?_
    have hb_3 : (gs g 4 (5 * a1 + a3) ((g 4 (5 * a1 + a3)) - a4)) 4 (5 * a2 + a3) < 1048576 := by first | exact hg 4 (5 * a2 + a3) | exact hg0 _ _ | (have := hg 4 (5 * a2 + a3); omega) | omega
    refine lv_iload hx hb dX1_move_27 (lv_at hl 4 rfl) ?_
    refine zr_addN (a := ((gs g 4 (5 * a1 + a3) ((g 4 (5 * a1 + a3)) - a4)) 4 (5 * a2 + a3))) (b := a4) hx hb dX1_move_29 ?_
    refine sX_hand S hK hM hS a2 (by omega) a3 (by omega) (((gs g 4 (5 * a1 + a3) ((g 4 (5 * a1 + a3)) - a4)) 4 (5 * a2 + a3)) + a4) dX1_move_30 (fun H locs hM hS => ?_)
    have hg : Sm (gs (gs g 4 (5 * a1 + a3) ((g 4 (5 * a1 + a3)) - a4)) 4 (5 * a2 + a3) (((gs g 4 (5 * a1 + a3) ((g 4 (5 * a1 + a3)) - a4)) 4 (5 * a2 + a3)) + a4)) := Sm_gs hg (by first | omega | exact Nat.lt_of_le_of_lt (Bool.toNat_le _) (by decide) | ((repeat' split) <;> omega))
    refine lv_aload_n hx hb dX1_move_31 rfl (lv_at hl 0 rfl) ?_
    refine gX_moves S hK hM dX1_move_32 ?_
    refine nw_X5 S hK hM hS hA (Nat.le_of_ble_eq_true rfl) (Nat.le_of_ble_eq_true rfl) dX1_move_35 (fun q_4 H hM hS => ?_)
    refine lv_dup hx hb dX1_move_38 rfl ?_
    refine lv_iload_n hx hb dX1_move_39 rfl (lv_at hl 1 rfl) ?_
    refine lv_iload_n hx hb dX1_move_40 rfl (lv_at hl 2 rfl) ?_
    refine lv_iload_n hx hb dX1_move_41 rfl (lv_at hl 3 rfl) ?_
    refine lv_iload hx hb dX1_move_42 (lv_at hl 4 rfl) ?_
    refine kN_X5 S hKX hM hS (Nat.le_of_ble_eq_true rfl) (Nat.le_of_ble_eq_true rfl) hl.1 (Nat.le_of_ble_eq_true rfl) (Nat.le_of_ble_eq_true rfl) (Nat.le_of_ble_eq_true rfl) dX1_move_44 (fun H locs hM hS => ?_)
    refine kL_add_m S hKX hM hS (fun q h => hA q (Nat.le_trans hS.1 h)) (by first | exact hv | (show g 8 1 < 1048575; omega)) (Nat.le_of_ble_eq_true rfl) (Nat.le_of_ble_eq_true rfl) hl.1 (Nat.le_of_ble_eq_true rfl) (Nat.le_of_ble_eq_true rfl) (Nat.le_of_ble_eq_true rfl) dX1_move_47 (fun H locs hM hS => ?_)
    have hg : Sm (mvP (gs (gs g 4 (5 * a1 + a3) ((g 4 (5 * a1 + a3)) - a4)) 4 (5 * a2 + a3) (((gs g 4 (5 * a1 + a3) ((g 4 (5 * a1 + a3)) - a4)) 4 (5 * a2 + a3)) + a4)) a1 a2 a3 a4) := Sm_mvP hg (by omega) (by omega) (by omega) (by omega) (by first | exact hv | (show g 8 1 < 1048575; omega))
    refine lv_pop hx hb dX1_move_52 rfl ?_
    rw [show (mvP (gs (gs g 4 (5 * a1 + a3) ((g 4 (5 * a1 + a3)) - a4)) 4 (5 * a2 + a3) (((gs g 4 (5 * a1 + a3) ((g 4 (5 * a1 + a3)) - a4)) 4 (5 * a2 + a3)) + a4)) a1 a2 a3 a4 : G) = mvX g a1 a2 a3 a4 from by first | with_reducible rfl | (simp [c_1, mvX, moveN]; done) | (simp only [c_1] <;> simp [mvX, moveN]; done) | (simp only [mvX, moveN, c_1] <;> simp [mvX, moveN]; done) | (simp [c_1, mvX, moveN, Bool.and_assoc]; done) | (simp [c_1, mvX, moveN, Bool.and_assoc, Bool.or_assoc]; done) | rfl | (simp [c_1, mvX, moveN]; omega) | (simp_all [mvX, moveN]; done)] at hM hg
    exact zc_vret (hPost H hM hg) hS hx hb hr hlk (Nat.le_of_ble_eq_true rfl) (Nat.le_of_ble_eq_true rfl) dX1_move_53
theorem kX_move {pr : Program} {l : Launch} {en : Env} {R : Room} {s : State} {m : MethodId} {args : Array Value} {below : List Frame} {meth : Method} {cd : Code} {H : Heap} {locs : List Loc} {cells slots : Nat} {cc : ByteArray} {pc nL : Nat} {ls : Array Slot} {rest : List Value} {D : va_G} {dA : Nat → ClassId} {cn : Nat → Nat} {A : Nat → Prop} {pa : NM → Nat} {g : G} {T : va_W} {Q : State → Prop} (S : CallFix pr m cd cc nL s args lw_all RX1) (hKX : KX D dA cn A s) (hM : XS D dA cn A pa g T H) (hg : Sm g) (hS : va_S A s.heap H locs) (hA : ∀ q, H.size ≤ q → A q) (a1 : Nat) (a2 : Nat) (a3 : Nat) (a4 : Nat) (h1 : a1 < 4) (h2 : a2 < 4) (h3 : a3 < 5) (h4 : a4 ≤ g 4 (5 * a1 + a3)) (h5 : g 4 (5 * a2 + a3) ≤ 1000) (h6 : a4 ≤ 1000) (hv : g 8 1 ≤ 2000) (hf : 9 + 1 ≤ R.frames) (hlo : 8 + (5 + 11) + 500 ≤ R.locals) (hsz : ls.size = nL) (hcat : (rest.map fun v => v.category).sum ≤ 8) (hdg : decode cc pc = .ok (.invokevirtual 112, 3)) (hq1 : cells + 2 ≤ R.cells) (hq2 : slots + 4004 ≤ R.slots) (kk : ∀ (H1 : Heap) (locs1 : List Loc), XS D dA cn A pa (mvX g a1 a2 a3 a4) T H1 → Sm (mvX g a1 a2 a3 a4) → va_S A s.heap H1 locs1 → W pr l en R s m args below meth cd H1 locs1 (cells + 2) (slots + 4004) Q (F0 m (pc + 3) ls (rest))) : W pr l en R s m args below meth cd H locs cells slots Q (F0 m pc ls (.int (nI a4) :: .int (nI a3) :: .int (nI a2) :: .int (nI a1) :: .ref (pa (0, 0)) :: rest)) :=
  zc_callV (n := 4) (As := [.int (nI a1), .int (nI a2), .int (nI a3), .int (nI a4)]) (rest := rest) S (cX_move l hg a1 a2 a3 a4 h1 h2 h3 h4 h5 h6 hv H hM hA (Post := (fun v H1 => v = none ∧ XS D dA cn A pa (mvX g a1 a2 a3 a4) T H1 ∧ Sm (mvX g a1 a2 a3 a4))) (fun H1 h h2 => ⟨rfl, h, h2⟩)) (lw_V q419 q421 qs2 q71 q422) (by decide +kernel) ⟨hf, hlo⟩ ⟨hq1, hq2⟩ (zx_recv hKX.1 hM) KX_mv (zc_K KX_mv hKX hS) hS (fun _ h => h) rfl hsz rfl hcat hdg (fun v H1 locs1 hp _ _ hS1 => by obtain ⟨rfl, hM1, hg1⟩ := hp; exact kk H1 locs1 hM1 hg1 hS1)
set_option maxHeartbeats 1000000 in
set_option maxRecDepth 100000 in
theorem cX_give (l : Launch) {D : va_G} {dA : Nat → ClassId} {cn : Nat → Nat} {A : Nat → Prop} {pa : NM → Nat} {g : G} {T : va_W} (hg : Sm g) (a1 : Nat) (a2 : Nat) (a3 : Nat) (h1 : a1 < 4) (h2 : a2 < 4) (h3 : a3 < 1048576) (h4 : ∀ k, k < 5 → digN a3 k ≤ g 4 (5 * a1 + k)) (hb4 : ∀ j, j < 20 → g 4 j ≤ 1000) (hv : g 8 1 ≤ 1900) (H0 : Heap) (hM : XS D dA cn A pa g T H0) (hA : ∀ q, H0.size ≤ q → A q) {Post : Option Value → Heap → Prop} (hPost : ∀ H : Heap, XS D dA cn A pa (giveX g a1 a2 a3 5) T H → Sm (giveX g a1 a2 a3 5) → Post (none) H) : Ct l yX1_give (ws_ yX1_give cX1_give 5 none) (rmF 10 12 24024 524) A (KX D dA cn A) [.ref (pa (0, 0)), .int (nI a1), .int (nI a2), .int (nI a3)] H0 Post := by
  refine zc_of RX1 rfl (by decide) (Nat.le_of_ble_eq_true rfl) ?_
  intro pr en s m args below meth cd S hr hlk hnm hh hKX ls hl
  have hS : va_S A s.heap H0 [] := zc_start hh
  have hA : ∀ q, s.heap.size ≤ q → A q := fun q h => hA q (by rw [← hh]; exact h)
  have hg0 := hg
  have hx := S.1
  have hb := S.2.1
  have hown := S.2.2.2.1
  have hts := S.2.2.2.2
  have hK := hKX.1
  have hN := hKX.2.1.1
  have hl : lv_has ls 5 [(0, .ref (pa (0, 0))), (1, .int (nI a1)), (2, .int (nI a2)), (3, .int (nI a3))] := hl
  refine lv_iconst (v := nI 0) hx hb dX1_give_0 zi_0 ?_
  refine lv_istore (lv' := [(4, .int (nI 0)), (0, .ref (pa (0, 0))), (1, .int (nI a1)), (2, .int (nI a2)), (3, .int (nI a3))]) hx hb dX1_give_1 hl (by decide) rfl (fun ls hl => ?_)
  have L_3 : ∀ (n_3 : Nat) (i : Nat), i ≤ 5 → 5 - i < n_3 → ∀ gLv : G, gLv = giveX g a1 a2 a3 i → Sm gLv → ∀ (H : Heap) (locs : List Loc), XS D dA cn A pa gLv T H → va_S A s.heap H locs → ∀ ls : Array Slot, lv_has ls 5 [(0, .ref (pa (0, 0))), (1, .int (nI a1)), (2, .int (nI a2)), (3, .int (nI a3)), (4, .int (nI i))] → W pr l en (rmF 10 12 24024 524) s m args below meth cd H locs (2 * i) (4004 * i) (MQ below (zc_Q Post A) args s 12 24024 A) (F0 m 3 ls []) := by
    intro n_3
    induction n_3 with
    | zero => intro i hi_3 hm_3; exact absurd hm_3 (Nat.not_lt_zero _)
    | succ n_3 ih_3 =>
      intro i hi_3 hm_3 gLv egL hg H locs hM hS ls hl
      subst egL
      refine lv_iload hx hb dX1_give_3 (lv_at hl 4 rfl) ?_
      refine lv_iconst (v := nI 5) hx hb dX1_give_5 zi_5 ?_
      refine zr_icmp_geN (a := i) (b := 5) (tgt := 29) hx hb (by omega) (by omega) dX1_give_6 (by decide) (fun c_1 => ?_) (fun c_1 => ?_)
      · have e_i : 5 = i := by omega
        subst e_i
        exact zc_vret (hPost H hM hg) hS hx hb hr hlk (Nat.le_of_ble_eq_true rfl) (Nat.le_of_ble_eq_true rfl) dX1_give_29
      · have hd9 := digN_lt a3 i
        have hm4 := h4 i (by omega)
        have hm5 := giveX_ge g a1 a2 a3 i (5 * a1 + i) (by omega) (by omega)
        have hm6 := giveX_ge g a1 a2 a3 i (5 * a2 + i) (by omega) (by omega)
        have hm7 := giveX_81 g a1 a2 a3 i
        have hm8 := hb4 (5 * a2 + i) (by omega)
        refine lv_aload_n hx hb dX1_give_9 rfl (lv_at hl 0 rfl) ?_
        refine lv_iload_n hx hb dX1_give_10 rfl (lv_at hl 1 rfl) ?_
        refine lv_iload_n hx hb dX1_give_11 rfl (lv_at hl 2 rfl) ?_
        refine lv_iload hx hb dX1_give_12 (lv_at hl 4 rfl) ?_
        refine lv_iload_n hx hb dX1_give_14 rfl (lv_at hl 3 rfl) ?_
        refine lv_iload hx hb dX1_give_15 (lv_at hl 4 rfl) ?_
        refine kX_digit S hKX hM hg hS a3 i (by first | omega | assumption | grind) (by first | omega | assumption | grind) (Nat.le_of_ble_eq_true rfl) (Nat.le_of_ble_eq_true rfl) hl.1 (Nat.le_of_ble_eq_true rfl) dX1_give_17 (show 2 * i ≤ 12 from by omega) (show 4004 * i ≤ 24024 from by omega) (fun locs hS => ?_)
        have f17_0 : digN a3 i < 10 := digN_lt _ _
        refine kX_move S hKX hM hg hS (fun q h => hA q (Nat.le_trans hS.1 h)) a1 a2 i (digN a3 i) (by first | omega | assumption | grind) (by first | omega | assumption | grind) (by first | omega | assumption | grind) (by rw [hm5]; exact hm4) (by rw [hm6]; exact hm8) (by first | omega | assumption | grind) (by first | omega | assumption | grind) (Nat.le_of_ble_eq_true rfl) (Nat.le_of_ble_eq_true rfl) hl.1 (Nat.le_of_ble_eq_true rfl) dX1_give_20 (show 2 * i + 2 ≤ 12 from by omega) (show 4004 * i + 4004 ≤ 24024 from by omega) (fun H locs hM hg hS => ?_)
        refine lv_iinc (v := nI (i + 1)) (lv' := [(4, .int (nI (i + 1))), (0, .ref (pa (0, 0))), (1, .int (nI a1)), (2, .int (nI a2)), (3, .int (nI a3))]) hx hb dX1_give_23 hl (k := 4) rfl (zk_inc _) (by decide) rfl (fun ls hl => ?_)
        refine lv_goto (tgt := 3) hx hb dX1_give_26 (by decide) ?_
        refine W.widen (k := 2 * (i + 1)) (n := 4004 * (i + 1)) (by omega) (by omega) ?_
        exact ih_3 (i + 1) (by first | omega | assumption | (simp; done) | grind) (by omega) (mvX (giveX g a1 a2 a3 i) a1 a2 i (digN a3 i)) (rfl) hg H locs hM hS ls (lv_sub hl [1, 2, 3, 4, 0] rfl)
  exact L_3 _ 0 (by first | omega | assumption | (simp; done) | grind) (Nat.lt_succ_self _) (g) (rfl) hg H0 [] hM hS ls (lv_sub hl [1, 2, 3, 4, 0] rfl)
theorem kX_give {pr : Program} {l : Launch} {en : Env} {R : Room} {s : State} {m : MethodId} {args : Array Value} {below : List Frame} {meth : Method} {cd : Code} {H : Heap} {locs : List Loc} {cells slots : Nat} {cc : ByteArray} {pc nL : Nat} {ls : Array Slot} {rest : List Value} {D : va_G} {dA : Nat → ClassId} {cn : Nat → Nat} {A : Nat → Prop} {pa : NM → Nat} {g : G} {T : va_W} {Q : State → Prop} (S : CallFix pr m cd cc nL s args lw_all RX1) (hKX : KX D dA cn A s) (hM : XS D dA cn A pa g T H) (hg : Sm g) (hS : va_S A s.heap H locs) (hA : ∀ q, H.size ≤ q → A q) (a1 : Nat) (a2 : Nat) (a3 : Nat) (h1 : a1 < 4) (h2 : a2 < 4) (h3 : a3 < 1048576) (h4 : ∀ k, k < 5 → digN a3 k ≤ g 4 (5 * a1 + k)) (hb4 : ∀ j, j < 20 → g 4 j ≤ 1000) (hv : g 8 1 ≤ 1900) (hf : 10 + 1 ≤ R.frames) (hlo : 8 + (5 + 11) + 524 ≤ R.locals) (hsz : ls.size = nL) (hcat : (rest.map fun v => v.category).sum ≤ 8) (hdg : decode cc pc = .ok (.invokevirtual 224, 3)) (hq1 : cells + 12 ≤ R.cells) (hq2 : slots + 24024 ≤ R.slots) (kk : ∀ (H1 : Heap) (locs1 : List Loc), XS D dA cn A pa (giveX g a1 a2 a3 5) T H1 → Sm (giveX g a1 a2 a3 5) → va_S A s.heap H1 locs1 → W pr l en R s m args below meth cd H1 locs1 (cells + 12) (slots + 24024) Q (F0 m (pc + 3) ls (rest))) : W pr l en R s m args below meth cd H locs cells slots Q (F0 m pc ls (.int (nI a3) :: .int (nI a2) :: .int (nI a1) :: .ref (pa (0, 0)) :: rest)) :=
  zc_callV (n := 3) (As := [.int (nI a1), .int (nI a2), .int (nI a3)]) (rest := rest) S (cX_give l hg a1 a2 a3 h1 h2 h3 h4 hb4 hv H hM hA (Post := (fun v H1 => v = none ∧ XS D dA cn A pa (giveX g a1 a2 a3 5) T H1 ∧ Sm (giveX g a1 a2 a3 5))) (fun H1 h h2 => ⟨rfl, h, h2⟩)) (lw_V q655 q657 qs14 q71 q658) (by decide +kernel) ⟨hf, hlo⟩ ⟨hq1, hq2⟩ (zx_recv hKX.1 hM) KX_mv (zc_K KX_mv hKX hS) hS (fun _ h => h) rfl hsz rfl hcat hdg (fun v H1 locs1 hp _ _ hS1 => by obtain ⟨rfl, hM1, hg1⟩ := hp; exact kk H1 locs1 hM1 hg1 hS1)
set_option maxHeartbeats 1000000 in
set_option maxRecDepth 100000 in
theorem cX_pay (l : Launch) {D : va_G} {dA : Nat → ClassId} {cn : Nat → Nat} {A : Nat → Prop} {pa : NM → Nat} {g : G} {T : va_W} (hg : Sm g) (a1 : Nat) (ht : g 7 4 < 3) (h1 : a1 < 1048576) (h4 : ∀ k, k < 5 → digN a1 k ≤ g 4 (5 * g 7 4 + k)) (hb4 : ∀ j, j < 20 → g 4 j ≤ 1000) (hv : g 8 1 ≤ 1900) (H0 : Heap) (hM : XS D dA cn A pa g T H0) (hA : ∀ q, H0.size ≤ q → A q) {Post : Option Value → Heap → Prop} (hPost : ∀ H : Heap, XS D dA cn A pa (giveX g (g 7 4) 3 a1 5) T H → Sm (giveX g (g 7 4) 3 a1 5) → Post (none) H) : Ct l yX1_pay (ws_ yX1_pay cX1_pay 2 none) (rmF 11 12 24024 548) A (KX D dA cn A) [.ref (pa (0, 0)), .int (nI a1)] H0 Post := by
  refine zc_of RX1 rfl (by decide) (Nat.le_of_ble_eq_true rfl) ?_
  intro pr en s m args below meth cd S hr hlk hnm hh hKX ls hl
  have hS : va_S A s.heap H0 [] := zc_start hh
  have hA : ∀ q, s.heap.size ≤ q → A q := fun q h => hA q (by rw [← hh]; exact h)
  have hg0 := hg
  have hx := S.1
  have hb := S.2.1
  have hown := S.2.2.2.1
  have hts := S.2.2.2.2
  have hK := hKX.1
  have hN := hKX.2.1.1
  have hl : lv_has ls 2 [(0, .ref (pa (0, 0))), (1, .int (nI a1))] := hl
  refine lv_aload_n hx hb dX1_pay_0 rfl (lv_at hl 0 rfl) ?_
  refine lv_aload_n hx hb dX1_pay_1 rfl (lv_at hl 0 rfl) ?_
  refine gX_turn S hK hM (g 7 4) rfl dX1_pay_2 ?_
  have hb_1 : g 7 4 < 1048576 := by first | exact hg 7 4 | exact hg0 _ _ | (have := hg 7 4; omega) | omega
  refine lv_iconst (v := nI 3) hx hb dX1_pay_5 zi_3 ?_
  refine lv_iload_n hx hb dX1_pay_6 rfl (lv_at hl 1 rfl) ?_
  refine kX_give S hKX hM hg hS (fun q h => hA q (Nat.le_trans hS.1 h)) (g 7 4) 3 a1 (by first | omega | assumption | grind) (by first | omega | assumption | grind) (by first | omega | assumption | grind) (by first | omega | assumption | grind) (by first | omega | assumption | grind) (by first | omega | assumption | grind) (Nat.le_of_ble_eq_true rfl) (Nat.le_of_ble_eq_true rfl) hl.1 (Nat.le_of_ble_eq_true rfl) dX1_pay_7 (Nat.le_of_ble_eq_true rfl) (Nat.le_of_ble_eq_true rfl) (fun H locs hM hg hS => ?_)
  exact zc_vret (hPost H hM hg) hS hx hb hr hlk (Nat.le_of_ble_eq_true rfl) (Nat.le_of_ble_eq_true rfl) dX1_pay_10
theorem kX_pay {pr : Program} {l : Launch} {en : Env} {R : Room} {s : State} {m : MethodId} {args : Array Value} {below : List Frame} {meth : Method} {cd : Code} {H : Heap} {locs : List Loc} {cells slots : Nat} {cc : ByteArray} {pc nL : Nat} {ls : Array Slot} {rest : List Value} {D : va_G} {dA : Nat → ClassId} {cn : Nat → Nat} {A : Nat → Prop} {pa : NM → Nat} {g : G} {T : va_W} {Q : State → Prop} (S : CallFix pr m cd cc nL s args lw_all RX1) (hKX : KX D dA cn A s) (hM : XS D dA cn A pa g T H) (hg : Sm g) (hS : va_S A s.heap H locs) (hA : ∀ q, H.size ≤ q → A q) (a1 : Nat) (ht : g 7 4 < 3) (h1 : a1 < 1048576) (h4 : ∀ k, k < 5 → digN a1 k ≤ g 4 (5 * g 7 4 + k)) (hb4 : ∀ j, j < 20 → g 4 j ≤ 1000) (hv : g 8 1 ≤ 1900) (hf : 11 + 1 ≤ R.frames) (hlo : 8 + (2 + 11) + 548 ≤ R.locals) (hsz : ls.size = nL) (hcat : (rest.map fun v => v.category).sum ≤ 8) (hdg : decode cc pc = .ok (.invokevirtual 285, 3)) (hq1 : cells + 12 ≤ R.cells) (hq2 : slots + 24024 ≤ R.slots) (kk : ∀ (H1 : Heap) (locs1 : List Loc), XS D dA cn A pa (giveX g (g 7 4) 3 a1 5) T H1 → Sm (giveX g (g 7 4) 3 a1 5) → va_S A s.heap H1 locs1 → W pr l en R s m args below meth cd H1 locs1 (cells + 12) (slots + 24024) Q (F0 m (pc + 3) ls (rest))) : W pr l en R s m args below meth cd H locs cells slots Q (F0 m pc ls (.int (nI a1) :: .ref (pa (0, 0)) :: rest)) :=
  zc_callV (n := 1) (As := [.int (nI a1)]) (rest := rest) S (cX_pay l hg a1 ht h1 h4 hb4 hv H hM hA (Post := (fun v H1 => v = none ∧ XS D dA cn A pa (giveX g (g 7 4) 3 a1 5) T H1 ∧ Sm (giveX g (g 7 4) 3 a1 5))) (fun H1 h h2 => ⟨rfl, h, h2⟩)) (lw_V q739 q741 qs26 q71 q742) (by decide +kernel) ⟨hf, hlo⟩ ⟨hq1, hq2⟩ (zx_recv hKX.1 hM) KX_mv (zc_K KX_mv hKX hS) hS (fun _ h => h) rfl hsz rfl hcat hdg (fun v H1 locs1 hp _ _ hS1 => by obtain ⟨rfl, hM1, hg1⟩ := hp; exact kk H1 locs1 hM1 hg1 hS1)
set_option maxHeartbeats 1000000 in
set_option maxRecDepth 100000 in
theorem cX_forgetOffers (l : Launch) {D : va_G} {dA : Nat → ClassId} {cn : Nat → Nat} {A : Nat → Prop} {pa : NM → Nat} {g : G} {T : va_W} (hg : Sm g) (H0 : Heap) (hM : XS D dA cn A pa g T H0) (hA : ∀ q, H0.size ≤ q → A q) {Post : Option Value → Heap → Prop} (hPost : ∀ H : Heap, XS D dA cn A pa (eoN g 3) T H → Sm (eoN g 3) → Post (none) H) : Ct l yX1_forgetOffers (ws_ yX1_forgetOffers cX1_forgetOffers 2 none) (rmF 1 0 0 13) A (KX D dA cn A) [.ref (pa (0, 0))] H0 Post := by
  refine zc_of RX1 rfl (by decide) (Nat.le_of_ble_eq_true rfl) ?_
  intro pr en s m args below meth cd S hr hlk hnm hh hKX ls hl
  have hS : va_S A s.heap H0 [] := zc_start hh
  have hA : ∀ q, s.heap.size ≤ q → A q := fun q h => hA q (by rw [← hh]; exact h)
  have hg0 := hg
  have hx := S.1
  have hb := S.2.1
  have hown := S.2.2.2.1
  have hts := S.2.2.2.2
  have hK := hKX.1
  have hN := hKX.2.1.1
  have hl : lv_has ls 2 [(0, .ref (pa (0, 0)))] := hl
  refine lv_aload_n hx hb dX1_forgetOffers_0 rfl (lv_at hl 0 rfl) ?_
  refine lv_null hx hb dX1_forgetOffers_1 ?_
  refine pX_offerN S hK hM hS dX1_forgetOffers_2 (fun H locs hM hS => ?_)
  have hg : Sm (gs g 26 0 0) := Sm_gs hg (by first | omega | exact Nat.lt_of_le_of_lt (Bool.toNat_le _) (by decide) | ((repeat' split) <;> omega))
  have hg : Sm (gs (gs g 26 0 0) 26 1 0) := Sm_gs hg (by first | omega | exact Nat.lt_of_le_of_lt (Bool.toNat_le _) (by decide) | ((repeat' split) <;> omega))
  refine lv_iconst (v := nI 0) hx hb dX1_forgetOffers_5 zi_0 ?_
  refine lv_istore_n (lv' := [(1, .int (nI 0)), (0, .ref (pa (0, 0)))]) hx hb dX1_forgetOffers_6 rfl hl (by decide) rfl (fun ls hl => ?_)
  have L_7 : ∀ (n_7 : Nat) (i : Nat), i ≤ 3 → 3 - i < n_7 → ∀ gLv : G, gLv = eoN g i → Sm gLv → ∀ (H : Heap) (locs : List Loc), XS D dA cn A pa gLv T H → va_S A s.heap H locs → ∀ ls : Array Slot, lv_has ls 2 [(0, .ref (pa (0, 0))), (1, .int (nI i))] → W pr l en (rmF 1 0 0 13) s m args below meth cd H locs (0) (0) (MQ below (zc_Q Post A) args s 0 0 A) (F0 m 7 ls []) := by
    intro n_7
    induction n_7 with
    | zero => intro i hi_7 hm_7; exact absurd hm_7 (Nat.not_lt_zero _)
    | succ n_7 ih_7 =>
      intro i hi_7 hm_7 gLv egL hg H locs hM hS ls hl
      subst egL
      refine lv_iload_n hx hb dX1_forgetOffers_7 rfl (lv_at hl 1 rfl) ?_
      refine lv_iconst (v := nI 3) hx hb dX1_forgetOffers_8 zi_3 ?_
      refine zr_icmp_geN (a := i) (b := 3) (tgt := 25) hx hb (by omega) (by omega) dX1_forgetOffers_9 (by decide) (fun c_1 => ?_) (fun c_1 => ?_)
      · have e_i : 3 = i := by omega
        subst e_i
        exact zc_vret (hPost H hM hg) hS hx hb hr hlk (Nat.le_of_ble_eq_true rfl) (Nat.le_of_ble_eq_true rfl) dX1_forgetOffers_25
      · refine lv_aload_n hx hb dX1_forgetOffers_12 rfl (lv_at hl 0 rfl) ?_
        refine gX_counters S hK hM dX1_forgetOffers_13 ?_
        refine lv_iload_n hx hb dX1_forgetOffers_16 rfl (lv_at hl 1 rfl) ?_
        refine lv_null hx hb dX1_forgetOffers_17 ?_
        refine sX_ctrN S hK hM hS i (by omega) dX1_forgetOffers_18 (fun H locs hM hS => ?_)
        have hg : Sm (gs (eoN g i) 16 i 0) := Sm_gs hg (by first | omega | exact Nat.lt_of_le_of_lt (Bool.toNat_le _) (by decide) | ((repeat' split) <;> omega))
        have hg : Sm (gs (gs (eoN g i) 16 i 0) 17 i 0) := Sm_gs hg (by first | omega | exact Nat.lt_of_le_of_lt (Bool.toNat_le _) (by decide) | ((repeat' split) <;> omega))
        refine lv_iinc (v := nI (i + 1)) (lv' := [(1, .int (nI (i + 1))), (0, .ref (pa (0, 0)))]) hx hb dX1_forgetOffers_19 hl (k := 1) rfl (zk_inc _) (by decide) rfl (fun ls hl => ?_)
        refine lv_goto (tgt := 7) hx hb dX1_forgetOffers_22 (by decide) ?_
        exact ih_7 (i + 1) (by first | omega | assumption | (simp; done) | grind) (by omega) (gs (gs (eoN g i) 16 i 0) 17 i 0) (rfl) hg H locs hM hS ls (lv_sub hl [1, 0] rfl)
  exact L_7 _ 0 (by first | omega | assumption | (simp; done) | grind) (Nat.lt_succ_self _) (gs (gs g 26 0 0) 26 1 0) (rfl) hg H locs hM hS ls (lv_sub hl [1, 0] rfl)
theorem kX_forgetOffers {pr : Program} {l : Launch} {en : Env} {R : Room} {s : State} {m : MethodId} {args : Array Value} {below : List Frame} {meth : Method} {cd : Code} {H : Heap} {locs : List Loc} {cells slots : Nat} {cc : ByteArray} {pc nL : Nat} {ls : Array Slot} {rest : List Value} {D : va_G} {dA : Nat → ClassId} {cn : Nat → Nat} {A : Nat → Prop} {pa : NM → Nat} {g : G} {T : va_W} {Q : State → Prop} (S : CallFix pr m cd cc nL s args lw_all RX1) (hKX : KX D dA cn A s) (hM : XS D dA cn A pa g T H) (hg : Sm g) (hS : va_S A s.heap H locs) (hA : ∀ q, H.size ≤ q → A q) (hf : 1 + 1 ≤ R.frames) (hlo : 8 + (2 + 11) + 13 ≤ R.locals) (hsz : ls.size = nL) (hcat : (rest.map fun v => v.category).sum ≤ 8) (hdg : decode cc pc = .ok (.invokevirtual 339, 3)) (hq1 : cells + 0 ≤ R.cells) (hq2 : slots + 0 ≤ R.slots) (kk : ∀ (H1 : Heap) (locs1 : List Loc), XS D dA cn A pa (eoN g 3) T H1 → Sm (eoN g 3) → va_S A s.heap H1 locs1 → W pr l en R s m args below meth cd H1 locs1 (cells + 0) (slots + 0) Q (F0 m (pc + 3) ls (rest))) : W pr l en R s m args below meth cd H locs cells slots Q (F0 m pc ls (.ref (pa (0, 0)) :: rest)) :=
  zc_callV (n := 0) (As := []) (rest := rest) S (cX_forgetOffers l hg  H hM hA (Post := (fun v H1 => v = none ∧ XS D dA cn A pa (eoN g 3) T H1 ∧ Sm (eoN g 3))) (fun H1 h h2 => ⟨rfl, h, h2⟩)) (lw_V q886 q888 qs32 q71 q889) (by decide +kernel) ⟨hf, hlo⟩ ⟨hq1, hq2⟩ (zx_recv hKX.1 hM) KX_mv (zc_K KX_mv hKX hS) hS (fun _ h => h) rfl hsz rfl hcat hdg (fun v H1 locs1 hp _ _ hS1 => by obtain ⟨rfl, hM1, hg1⟩ := hp; exact kk H1 locs1 hM1 hg1 hS1)
set_option maxHeartbeats 1000000 in
set_option maxRecDepth 100000 in
theorem cX_rateOf (l : Launch) {D : va_G} {dA : Nat → ClassId} {cn : Nat → Nat} {A : Nat → Prop} {pa : NM → Nat} {g : G} {T : va_W} (hg : Sm g) (a1 : Nat) (a2 : Nat) (h1 : a1 < 3) (h2 : a2 < 5) (h6 : ∀ c, c < 24 → g 2 c ≤ 6) (H0 : Heap) (hM : XS D dA cn A pa g T H0) {Post : Option Value → Heap → Prop} (hPost : Post (some (.int (nI (xRate g a1 a2)))) H0) : Ct l yX1_rateOf (ws_ yX1_rateOf cX1_rateOf 3 (some .int)) (rmF 5 0 0 164) A (KX D dA cn A) [.ref (pa (0, 0)), .int (nI a1), .int (nI a2)] H0 Post := by
  refine zc_of RX1 rfl (by decide) (Nat.le_of_ble_eq_true rfl) ?_
  intro pr en s m args below meth cd S hr hlk hnm hh hKX ls hl
  have hS : va_S A s.heap H0 [] := zc_start hh
  have hg0 := hg
  have hx := S.1
  have hb := S.2.1
  have hown := S.2.2.2.1
  have hts := S.2.2.2.2
  have hK := hKX.1
  have hN := hKX.2.1.1
  have hl : lv_has ls 3 [(0, .ref (pa (0, 0))), (1, .int (nI a1)), (2, .int (nI a2))] := hl
  refine lv_aload_n hx hb dX1_rateOf_0 rfl (lv_at hl 0 rfl) ?_
  refine lv_iload_n hx hb dX1_rateOf_1 rfl (lv_at hl 1 rfl) ?_
  refine lv_iload_n hx hb dX1_rateOf_2 rfl (lv_at hl 2 rfl) ?_
  refine kX_hasHarbour S hKX hM hg hS a1 a2 (by first | omega | assumption | grind) (by first | omega | assumption | grind) (by first | omega | assumption | grind) (Nat.le_of_ble_eq_true rfl) (Nat.le_of_ble_eq_true rfl) hl.1 (Nat.le_of_ble_eq_true rfl) dX1_rateOf_3 (Nat.le_of_ble_eq_true rfl) (Nat.le_of_ble_eq_true rfl) (fun locs hS => ?_)
  refine zr_if_eqB (b := decide (own1 g (7 + 3 * a2) = a1 + 1) || decide (own1 g (8 + 3 * a2) = a1 + 1)) (tgt := 13) hx hb dX1_rateOf_6 (by decide) (fun c_1 => ?_) (fun c_1 => ?_)
  · refine lv_aload_n hx hb dX1_rateOf_13 rfl (lv_at hl 0 rfl) ?_
    refine lv_iload_n hx hb dX1_rateOf_14 rfl (lv_at hl 1 rfl) ?_
    refine lv_iconst (v := nI 5) hx hb dX1_rateOf_15 zi_5 ?_
    refine kX_hasHarbour S hKX hM hg hS a1 5 (by first | omega | assumption | grind) (by first | omega | assumption | grind) (by first | omega | assumption | grind) (Nat.le_of_ble_eq_true rfl) (Nat.le_of_ble_eq_true rfl) hl.1 (Nat.le_of_ble_eq_true rfl) dX1_rateOf_16 (Nat.le_of_ble_eq_true rfl) (Nat.le_of_ble_eq_true rfl) (fun locs hS => ?_)
    refine zr_if_eqB (b := decide (own1 g (7 + 3 * 5) = a1 + 1) || decide (own1 g (8 + 3 * 5) = a1 + 1)) (tgt := 26) hx hb dX1_rateOf_19 (by decide) (fun c_2 => ?_) (fun c_2 => ?_)
    · refine lv_iconst (v := nI 4) hx hb dX1_rateOf_26 zi_4 ?_
      exact zc_nret (nI (xRate g a1 a2)) (congrArg nI (show (4 : Nat) = (xRate g a1 a2) from by first | with_reducible rfl | (simp [c_1, c_2, xRate, xHarb]; done) | (simp only [c_1, c_2] <;> simp [xRate, xHarb]; done) | (simp only [xRate, xHarb, c_1, c_2] <;> simp [xRate, xHarb]; done) | (simp [c_1, c_2, xRate, xHarb, Bool.and_assoc]; done) | (simp [c_1, c_2, xRate, xHarb, Bool.and_assoc, Bool.or_assoc]; done) | rfl | (simp [c_1, c_2, xRate, xHarb]; omega) | (simp_all [xRate, xHarb]; done))) hPost hS hx hb hr hlk (Nat.le_of_ble_eq_true rfl) (Nat.le_of_ble_eq_true rfl) dX1_rateOf_27
    · refine lv_iconst (v := nI 3) hx hb dX1_rateOf_22 zi_3 ?_
      refine lv_goto (tgt := 27) hx hb dX1_rateOf_23 (by decide) ?_
      exact zc_nret (nI (xRate g a1 a2)) (congrArg nI (show (3 : Nat) = (xRate g a1 a2) from by first | with_reducible rfl | (simp [c_1, c_2, xRate, xHarb]; done) | (simp only [c_1, c_2] <;> simp [xRate, xHarb]; done) | (simp only [xRate, xHarb, c_1, c_2] <;> simp [xRate, xHarb]; done) | (simp [c_1, c_2, xRate, xHarb, Bool.and_assoc]; done) | (simp [c_1, c_2, xRate, xHarb, Bool.and_assoc, Bool.or_assoc]; done) | rfl | (simp [c_1, c_2, xRate, xHarb]; omega) | (simp_all [xRate, xHarb]; done))) hPost hS hx hb hr hlk (Nat.le_of_ble_eq_true rfl) (Nat.le_of_ble_eq_true rfl) dX1_rateOf_27
  · refine lv_iconst (v := nI 2) hx hb dX1_rateOf_9 zi_2 ?_
    refine lv_goto (tgt := 27) hx hb dX1_rateOf_10 (by decide) ?_
    exact zc_nret (nI (xRate g a1 a2)) (congrArg nI (show (2 : Nat) = (xRate g a1 a2) from by first | with_reducible rfl | (simp [c_1, xRate, xHarb]; done) | (simp only [c_1] <;> simp [xRate, xHarb]; done) | (simp only [xRate, xHarb, c_1] <;> simp [xRate, xHarb]; done) | (simp [c_1, xRate, xHarb, Bool.and_assoc]; done) | (simp [c_1, xRate, xHarb, Bool.and_assoc, Bool.or_assoc]; done) | rfl | (simp [c_1, xRate, xHarb]; omega) | (simp_all [xRate, xHarb]; done))) hPost hS hx hb hr hlk (Nat.le_of_ble_eq_true rfl) (Nat.le_of_ble_eq_true rfl) dX1_rateOf_27
theorem kX_rateOf {pr : Program} {l : Launch} {en : Env} {R : Room} {s : State} {m : MethodId} {args : Array Value} {below : List Frame} {meth : Method} {cd : Code} {H : Heap} {locs : List Loc} {cells slots : Nat} {cc : ByteArray} {pc nL : Nat} {ls : Array Slot} {rest : List Value} {D : va_G} {dA : Nat → ClassId} {cn : Nat → Nat} {A : Nat → Prop} {pa : NM → Nat} {g : G} {T : va_W} {Q : State → Prop} (S : CallFix pr m cd cc nL s args lw_all RX1) (hKX : KX D dA cn A s) (hM : XS D dA cn A pa g T H) (hg : Sm g) (hS : va_S A s.heap H locs) (a1 : Nat) (a2 : Nat) (h1 : a1 < 3) (h2 : a2 < 5) (h6 : ∀ c, c < 24 → g 2 c ≤ 6) (hf : 5 + 1 ≤ R.frames) (hlo : 8 + (3 + 11) + 164 ≤ R.locals) (hsz : ls.size = nL) (hcat : (rest.map fun v => v.category).sum ≤ 8) (hdg : decode cc pc = .ok (.invokevirtual 332, 3)) (hq1 : cells ≤ R.cells) (hq2 : slots ≤ R.slots) (kk : ∀ locs1 : List Loc, va_S A s.heap H locs1 → W pr l en R s m args below meth cd H locs1 cells slots Q (F0 m (pc + 3) ls (.int (nI (xRate g a1 a2)) :: rest))) : W pr l en R s m args below meth cd H locs cells slots Q (F0 m pc ls (.int (nI a2) :: .int (nI a1) :: .ref (pa (0, 0)) :: rest)) :=
  zc_callV (n := 2) (As := [.int (nI a1), .int (nI a2)]) (rest := rest) S (cX_rateOf l hg a1 a2 h1 h2 h6 H hM (Post := (fun v H1 => v = some (.int (nI (xRate g a1 a2))) ∧ H1 = H)) ⟨rfl, rfl⟩) (lw_V q871 q873 qs30 q71 q874) (by decide +kernel) ⟨hf, hlo⟩ ⟨hq1, hq2⟩ (zx_recv hKX.1 hM) KX_mv (zc_K KX_mv hKX hS) hS (fun _ h => h) rfl hsz rfl hcat hdg (fun v H1 locs1 hp _ _ hS1 => by obtain ⟨rfl, rfl⟩ := hp; exact kk locs1 hS1)
set_option maxHeartbeats 1000000 in
set_option maxRecDepth 100000 in
theorem cX_lookAtDue (l : Launch) {D : va_G} {dA : Nat → ClassId} {cn : Nat → Nat} {A : Nat → Prop} {pa : NM → Nat} {g : G} {T : va_W} (hg : Sm g) (H0 : Heap) (hM : XS D dA cn A pa g T H0) (hA : ∀ q, H0.size ≤ q → A q) {Post : Option Value → Heap → Prop} (hPost : ∀ H : Heap, XS D dA cn A pa (gs g 7 1 (xDue g 3)) T H → Sm (gs g 7 1 (xDue g 3)) → Post (none) H) : Ct l yX1_lookAtDue (ws_ yX1_lookAtDue cX1_lookAtDue 5 none) (rmF 1 0 0 16) A (KX D dA cn A) [.ref (pa (0, 0))] H0 Post := by
  refine zc_of RX1 rfl (by decide) (Nat.le_of_ble_eq_true rfl) ?_
  intro pr en s m args below meth cd S hr hlk hnm hh hKX ls hl
  have hS : va_S A s.heap H0 [] := zc_start hh
  have hA : ∀ q, s.heap.size ≤ q → A q := fun q h => hA q (by rw [← hh]; exact h)
  have hg0 := hg
  have hx := S.1
  have hb := S.2.1
  have hown := S.2.2.2.1
  have hts := S.2.2.2.2
  have hK := hKX.1
  have hN := hKX.2.1.1
  have hl : lv_has ls 5 [(0, .ref (pa (0, 0)))] := hl
  refine lv_aload_n hx hb dX1_lookAtDue_0 rfl (lv_at hl 0 rfl) ?_
  refine lv_iconst (v := nI 4) hx hb dX1_lookAtDue_1 zi_4 ?_
  refine pX_phase S hK hM hS 4 dX1_lookAtDue_2 (fun H locs hM hS => ?_)
  have hg : Sm (gs g 7 1 4) := Sm_gs hg (by first | omega | exact Nat.lt_of_le_of_lt (Bool.toNat_le _) (by decide) | ((repeat' split) <;> omega))
  refine lv_aload_n hx hb dX1_lookAtDue_5 rfl (lv_at hl 0 rfl) ?_
  refine gX_due S hK hM dX1_lookAtDue_6 ?_
  refine lv_astore_n (lv' := [(1, .ref (pa (9, 0))), (0, .ref (pa (0, 0)))]) hx hb dX1_lookAtDue_9 rfl hl (by decide) rfl (fun ls hl => ?_)
  refine lv_aload_n hx hb dX1_lookAtDue_10 rfl (lv_at hl 0 rfl) ?_
  refine nX_due S hK hM dX1_lookAtDue_11 ?_
  refine lv_istore_n (lv' := [(2, .int (nI 3)), (1, .ref (pa (9, 0))), (0, .ref (pa (0, 0)))]) hx hb dX1_lookAtDue_12 rfl hl (by decide) rfl (fun ls hl => ?_)
  refine lv_iconst (v := nI 0) hx hb dX1_lookAtDue_13 zi_0 ?_
  refine lv_istore_n (lv' := [(3, .int (nI 0)), (2, .int (nI 3)), (1, .ref (pa (9, 0))), (0, .ref (pa (0, 0)))]) hx hb dX1_lookAtDue_14 rfl hl (by decide) rfl (fun ls hl => ?_)
  have L_15 : ∀ (n_15 : Nat) (i : Nat), i ≤ 3 → 3 - i < n_15 → ∀ gLv : G, gLv = gs g 7 1 (xDue g i) → Sm gLv → ∀ (H : Heap) (locs : List Loc), XS D dA cn A pa gLv T H → va_S A s.heap H locs → ∀ ls : Array Slot, lv_has ls 5 [(0, .ref (pa (0, 0))), (1, .ref (pa (9, 0))), (2, .int (nI 3)), (3, .int (nI i))] → W pr l en (rmF 1 0 0 16) s m args below meth cd H locs (0) (0) (MQ below (zc_Q Post A) args s 0 0 A) (F0 m 15 ls []) := by
    intro n_15
    induction n_15 with
    | zero => intro i hi_15 hm_15; exact absurd hm_15 (Nat.not_lt_zero _)
    | succ n_15 ih_15 =>
      intro i hi_15 hm_15 gLv egL hg H locs hM hS ls hl
      subst egL
      refine lv_iload_n hx hb dX1_lookAtDue_15 rfl (lv_at hl 3 rfl) ?_
      refine lv_iload_n hx hb dX1_lookAtDue_16 rfl (lv_at hl 2 rfl) ?_
      refine zr_icmp_geN (a := i) (b := 3) (tgt := 48) hx hb (by omega) (by omega) dX1_lookAtDue_17 (by decide) (fun c_1 => ?_) (fun c_1 => ?_)
      · have e_i : 3 = i := by omega
        subst e_i
        exact zc_vret (hPost H hM hg) hS hx hb hr hlk (Nat.le_of_ble_eq_true rfl) (Nat.le_of_ble_eq_true rfl) dX1_lookAtDue_48
      · refine lv_aload_n hx hb dX1_lookAtDue_20 rfl (lv_at hl 1 rfl) ?_
        have hxd := xDue_le g i
        refine lv_iload_n hx hb dX1_lookAtDue_21 rfl (lv_at hl 3 rfl) ?_
        refine lX_due S hK hM i (by omega) (g 5 i) (by first | rfl | simp [gs]) dX1_lookAtDue_22 ?_
        have hb_2 : g 5 i < 1048576 := by first | exact hg 5 i | exact hg0 _ _ | (have := hg 5 i; omega) | omega
        refine lv_istore (lv' := [(4, .int (nI (g 5 i))), (0, .ref (pa (0, 0))), (1, .ref (pa (9, 0))), (2, .int (nI 3)), (3, .int (nI i))]) hx hb dX1_lookAtDue_23 hl (by decide) rfl (fun ls hl => ?_)
        refine lv_aload_n hx hb dX1_lookAtDue_25 rfl (lv_at hl 1 rfl) ?_
        refine lv_iload hx hb dX1_lookAtDue_26 (lv_at hl 0 rfl) ?_
        have J_39 : ∀ yS0_39 : Int32, yS0_39 = nI ((if 0 < (g 5 i) then 3 else xDue g i)) → ∀ (H : Heap) (locs : List Loc), XS D dA cn A pa (gs g 7 1 (xDue g i)) T H → va_S A s.heap H locs → ∀ ls : Array Slot, lv_has ls 5 [(0, .ref (pa (0, 0))), (1, .ref (pa (9, 0))), (2, .int (nI 3)), (3, .int (nI i))] → W pr l en (rmF 1 0 0 16) s m args below meth cd H locs (0) (0) (MQ below (zc_Q Post A) args s 0 0 A) (F0 m 39 ls [.int yS0_39, .ref (pa (0, 0))]) := by
          intro yS0_39 eyS0_39 H locs hM hS ls hl
          subst eyS0_39
          refine pX_phase S hK hM hS ((if 0 < (g 5 i) then 3 else xDue g i)) dX1_lookAtDue_39 (fun H locs hM hS => ?_)
          have hg : Sm (gs (gs g 7 1 (xDue g i)) 7 1 ((if 0 < (g 5 i) then 3 else xDue g i))) := Sm_gs hg (by first | omega | exact Nat.lt_of_le_of_lt (Bool.toNat_le _) (by decide) | ((repeat' split) <;> omega))
          refine lv_iinc (v := nI (i + 1)) (lv' := [(3, .int (nI (i + 1))), (0, .ref (pa (0, 0))), (1, .ref (pa (9, 0))), (2, .int (nI 3))]) hx hb dX1_lookAtDue_42 hl (k := 3) rfl (zk_inc _) (by decide) rfl (fun ls hl => ?_)
          refine lv_goto (tgt := 15) hx hb dX1_lookAtDue_45 (by decide) ?_
          exact ih_15 (i + 1) (by first | omega | assumption | (simp; done) | grind) (by omega) (gs (gs g 7 1 (xDue g i)) 7 1 ((if 0 < (g 5 i) then 3 else xDue g i))) (gs_gs _ _ _ _ _) hg H locs hM hS ls (lv_sub hl [1, 2, 3, 0] rfl)
        refine zr_if_leN (a := (g 5 i)) (tgt := 35) hx hb (by omega) dX1_lookAtDue_28 (by decide) (fun c_5 => ?_) (fun c_5 => ?_)
        · refine lv_aload_n hx hb dX1_lookAtDue_35 rfl (lv_at hl 1 rfl) ?_
          refine gX_phase S hK hM (xDue g i) (by first | rfl | simp [gs]) dX1_lookAtDue_36 ?_
          have hb_6 : xDue g i < 1048576 := by first | exact hg 7 1 | exact hg0 _ _ | (have := hg 7 1; omega) | omega
          exact J_39 _ (congrArg nI (show (xDue g i : Nat) = ((if 0 < (g 5 i) then 3 else xDue g i)) from by first | with_reducible rfl | (simp [c_1, c_5]; done) | (simp only [c_1, c_5] <;> simp []; done) | (simp [c_1, c_5, Bool.and_assoc]; done) | (simp [c_1, c_5, Bool.and_assoc, Bool.or_assoc]; done) | rfl | (simp [c_1, c_5]; omega) | (simp_all []; done))) H locs hM hS ls (lv_sub hl [1, 2, 3, 4] rfl)
        · refine lv_iconst (v := nI 3) hx hb dX1_lookAtDue_31 zi_3 ?_
          refine lv_goto (tgt := 39) hx hb dX1_lookAtDue_32 (by decide) ?_
          exact J_39 _ (congrArg nI (show (3 : Nat) = ((if 0 < (g 5 i) then 3 else xDue g i)) from by first | with_reducible rfl | (simp [c_1, c_5]; done) | (simp only [c_1, c_5] <;> simp []; done) | (simp [c_1, c_5, Bool.and_assoc]; done) | (simp [c_1, c_5, Bool.and_assoc, Bool.or_assoc]; done) | rfl | (simp [c_1, c_5]; omega) | (simp_all []; done))) H locs hM hS ls (lv_sub hl [1, 2, 3, 4] rfl)
  exact L_15 _ 0 (by first | omega | assumption | (simp; done) | grind) (Nat.lt_succ_self _) (gs g 7 1 4) (rfl) hg H locs hM hS ls (lv_sub hl [3, 2, 1, 0] rfl)
theorem kX_lookAtDue {pr : Program} {l : Launch} {en : Env} {R : Room} {s : State} {m : MethodId} {args : Array Value} {below : List Frame} {meth : Method} {cd : Code} {H : Heap} {locs : List Loc} {cells slots : Nat} {cc : ByteArray} {pc nL : Nat} {ls : Array Slot} {rest : List Value} {D : va_G} {dA : Nat → ClassId} {cn : Nat → Nat} {A : Nat → Prop} {pa : NM → Nat} {g : G} {T : va_W} {Q : State → Prop} (S : CallFix pr m cd cc nL s args lw_all RX1) (hKX : KX D dA cn A s) (hM : XS D dA cn A pa g T H) (hg : Sm g) (hS : va_S A s.heap H locs) (hA : ∀ q, H.size ≤ q → A q) (hf : 1 + 1 ≤ R.frames) (hlo : 8 + (5 + 11) + 16 ≤ R.locals) (hsz : ls.size = nL) (hcat : (rest.map fun v => v.category).sum ≤ 8) (hdg : decode cc pc = .ok (.invokevirtual 259, 3)) (hq1 : cells + 0 ≤ R.cells) (hq2 : slots + 0 ≤ R.slots) (kk : ∀ (H1 : Heap) (locs1 : List Loc), XS D dA cn A pa (gs g 7 1 (xDue g 3)) T H1 → Sm (gs g 7 1 (xDue g 3)) → va_S A s.heap H1 locs1 → W pr l en R s m args below meth cd H1 locs1 (cells + 0) (slots + 0) Q (F0 m (pc + 3) ls (rest))) : W pr l en R s m args below meth cd H locs cells slots Q (F0 m pc ls (.ref (pa (0, 0)) :: rest)) :=
  zc_callV (n := 0) (As := []) (rest := rest) S (cX_lookAtDue l hg  H hM hA (Post := (fun v H1 => v = none ∧ XS D dA cn A pa (gs g 7 1 (xDue g 3)) T H1 ∧ Sm (gs g 7 1 (xDue g 3)))) (fun H1 h h2 => ⟨rfl, h, h2⟩)) (lw_V q670 q672 qs16 q71 q673) (by decide +kernel) ⟨hf, hlo⟩ ⟨hq1, hq2⟩ (zx_recv hKX.1 hM) KX_mv (zc_K KX_mv hKX hS) hS (fun _ h => h) rfl hsz rfl hcat hdg (fun v H1 locs1 hp _ _ hS1 => by obtain ⟨rfl, hM1, hg1⟩ := hp; exact kk H1 locs1 hM1 hg1 hS1)
set_option maxHeartbeats 1000000 in
set_option maxRecDepth 100000 in
theorem cX_canBeVictim (l : Launch) {D : va_G} {dA : Nat → ClassId} {cn : Nat → Nat} {A : Nat → Prop} {pa : NM → Nat} {g : G} {T : va_W} (hg : Sm g) (a1 : Nat) (a2 : Nat) (h1 : a1 < 3) (h2 : a2 < 7) (ht : g 7 4 < 3) (h6 : ∀ c, c < 24 → g 2 c ≤ 6) (H0 : Heap) (hM : XS D dA cn A pa g T H0) {Post : Option Value → Heap → Prop} (hPost : Post (some (.int (nI (mVic g a1 a2).toNat))) H0) : Ct l yX1_canBeVictim (ws_ yX1_canBeVictim cX1_canBeVictim 8 (some .boolean)) (rmF 4 0 0 142) A (KX D dA cn A) [.ref (pa (0, 0)), .int (nI a1), .int (nI a2)] H0 Post := by
  refine zc_of RX1 rfl (by decide) (Nat.le_of_ble_eq_true rfl) ?_
  intro pr en s m args below meth cd S hr hlk hnm hh hKX ls hl
  have hS : va_S A s.heap H0 [] := zc_start hh
  have hg0 := hg
  have hx := S.1
  have hb := S.2.1
  have hown := S.2.2.2.1
  have hts := S.2.2.2.2
  have hK := hKX.1
  have hN := hKX.2.1.1
  have hl : lv_has ls 8 [(0, .ref (pa (0, 0))), (1, .int (nI a1)), (2, .int (nI a2))] := hl
  refine lv_iconst (v := nI 0) hx hb dX1_canBeVictim_0 zi_0 ?_
  refine lv_istore_n (lv' := [(3, .int (nI 0)), (0, .ref (pa (0, 0))), (1, .int (nI a1)), (2, .int (nI a2))]) hx hb dX1_canBeVictim_1 rfl hl (by decide) rfl (fun ls hl => ?_)
  refine lv_aload_n hx hb dX1_canBeVictim_2 rfl (lv_at hl 1 rfl) ?_
  refine gX_hexes S hK hM dX1_canBeVictim_3 ?_
  refine lv_iload_n hx hb dX1_canBeVictim_6 rfl (lv_at hl 3 rfl) ?_
  refine lX_hexes S hK hM a2 (by omega) dX1_canBeVictim_7 ?_
  refine gN_hex_corners S hK hM hN a2 (by omega) dX1_canBeVictim_8 ?_
  refine lv_astore (lv' := [(4, .ref (pa (3, a2))), (3, .int (nI 0)), (0, .ref (pa (0, 0))), (1, .int (nI a1)), (2, .int (nI a2))]) hx hb dX1_canBeVictim_11 hl (by decide) rfl (fun ls hl => ?_)
  refine lv_aload hx hb dX1_canBeVictim_13 (lv_at hl 0 rfl) ?_
  refine nX_corners S hK hM a2 (by omega) dX1_canBeVictim_15 ?_
  refine lv_istore (lv' := [(5, .int (nI 6)), (4, .ref (pa (3, a2))), (3, .int (nI 0)), (0, .ref (pa (0, 0))), (1, .int (nI a1)), (2, .int (nI a2))]) hx hb dX1_canBeVictim_16 hl (by decide) rfl (fun ls hl => ?_)
  refine lv_iconst (v := nI 0) hx hb dX1_canBeVictim_18 zi_0 ?_
  refine lv_istore (lv' := [(6, .int (nI 0)), (5, .int (nI 6)), (4, .ref (pa (3, a2))), (3, .int (nI 0)), (0, .ref (pa (0, 0))), (1, .int (nI a1)), (2, .int (nI a2))]) hx hb dX1_canBeVictim_19 hl (by decide) rfl (fun ls hl => ?_)
  have L_21 : ∀ (n_21 : Nat) (i : Nat), i ≤ 6 → 6 - i < n_21 → ∀ x3_21 : Int32, x3_21 = nI (anyN i (fun k => decide (own1 g (cornA a2 k) = a1 + 1))).toNat → ∀ (locs : List Loc), va_S A s.heap H0 locs → ∀ ls : Array Slot, lv_has ls 8 [(0, .ref (pa (0, 0))), (1, .int (nI a1)), (3, .int x3_21), (4, .ref (pa (3, a2))), (5, .int (nI 6)), (6, .int (nI i))] → W pr l en (rmF 4 0 0 142) s m args below meth cd H0 locs (0) (0) (MQ below (zc_Q Post A) args s 0 0 A) (F0 m 21 ls []) := by
    intro n_21
    induction n_21 with
    | zero => intro i hi_21 hm_21; exact absurd hm_21 (Nat.not_lt_zero _)
    | succ n_21 ih_21 =>
      intro i hi_21 hm_21 x3_21 ex3_21 locs hS ls hl
      subst ex3_21
      refine lv_iload hx hb dX1_canBeVictim_21 (lv_at hl 5 rfl) ?_
      refine lv_iload hx hb dX1_canBeVictim_23 (lv_at hl 4 rfl) ?_
      refine zr_icmp_geN (a := i) (b := 6) (tgt := 51) hx hb (by omega) (by omega) dX1_canBeVictim_25 (by decide) (fun c_1 => ?_) (fun c_1 => ?_)
      · have e_i : 6 = i := by omega
        subst e_i
        refine lv_iload_n hx hb dX1_canBeVictim_51 rfl (lv_at hl 2 rfl) ?_
        refine zr_if_eqB (b := anyN 6 (fun k => decide (own1 g (cornA a2 k) = a1 + 1))) (tgt := 75) hx hb dX1_canBeVictim_52 (by decide) (fun c_2 => ?_) (fun c_2 => ?_)
        · refine lv_iconst (v := nI 0) hx hb dX1_canBeVictim_75 zi_0 ?_
          exact zc_bret (mVic g a1 a2) (congrArg (fun z : Bool => nI z.toNat) (show (false : Bool) = (mVic g a1 a2) from by rw [mVic_eq h2]; simp [c_1, c_2])) hPost hS hx hb hr hlk (Nat.le_of_ble_eq_true rfl) (Nat.le_of_ble_eq_true rfl) dX1_canBeVictim_76
        · refine lv_iload_n hx hb dX1_canBeVictim_55 rfl (lv_at hl 1 rfl) ?_
          refine lv_aload_n hx hb dX1_canBeVictim_56 rfl (lv_at hl 0 rfl) ?_
          refine gX_turn S hK hM (g 7 4) rfl dX1_canBeVictim_57 ?_
          have hb_3 : g 7 4 < 1048576 := by first | exact hg 7 4 | exact hg0 _ _ | (have := hg 7 4; omega) | omega
          refine zr_icmp_eqN (a := a1) (b := (g 7 4)) (tgt := 75) hx hb (by omega) (by omega) dX1_canBeVictim_60 (by decide) (fun c_4 => ?_) (fun c_4 => ?_)
          · refine lv_iconst (v := nI 0) hx hb dX1_canBeVictim_75 zi_0 ?_
            exact zc_bret (mVic g a1 a2) (congrArg (fun z : Bool => nI z.toNat) (show (false : Bool) = (mVic g a1 a2) from by rw [mVic_eq h2]; simp [c_1, c_2, c_4])) hPost hS hx hb hr hlk (Nat.le_of_ble_eq_true rfl) (Nat.le_of_ble_eq_true rfl) dX1_canBeVictim_76
          · refine lv_aload_n hx hb dX1_canBeVictim_63 rfl (lv_at hl 0 rfl) ?_
            refine lv_iload_n hx hb dX1_canBeVictim_64 rfl (lv_at hl 1 rfl) ?_
            refine kX_total S hKX hM hg hS a1 (by first | omega | assumption | grind) (Nat.le_of_ble_eq_true rfl) (Nat.le_of_ble_eq_true rfl) hl.1 (Nat.le_of_ble_eq_true rfl) dX1_canBeVictim_65 (Nat.le_of_ble_eq_true rfl) (Nat.le_of_ble_eq_true rfl) (fun locs hS => ?_)
            have f65_0 : handN g a1 5 < 5242880 := handN_lt hg _
            refine zr_if_leN (a := (handN g a1 5)) (tgt := 75) hx hb (by omega) dX1_canBeVictim_68 (by decide) (fun c_5 => ?_) (fun c_5 => ?_)
            · refine lv_iconst (v := nI 0) hx hb dX1_canBeVictim_75 zi_0 ?_
              exact zc_bret (mVic g a1 a2) (congrArg (fun z : Bool => nI z.toNat) (show (false : Bool) = (mVic g a1 a2) from by rw [mVic_eq h2]; simp [c_1, c_2, c_4, c_5])) hPost hS hx hb hr hlk (Nat.le_of_ble_eq_true rfl) (Nat.le_of_ble_eq_true rfl) dX1_canBeVictim_76
            · refine lv_iconst (v := nI 1) hx hb dX1_canBeVictim_71 zi_1 ?_
              refine lv_goto (tgt := 76) hx hb dX1_canBeVictim_72 (by decide) ?_
              exact zc_bret (mVic g a1 a2) (congrArg (fun z : Bool => nI z.toNat) (show (true : Bool) = (mVic g a1 a2) from by rw [mVic_eq h2]; simp [c_1, c_2, c_4, c_5])) hPost hS hx hb hr hlk (Nat.le_of_ble_eq_true rfl) (Nat.le_of_ble_eq_true rfl) dX1_canBeVictim_76
      · refine lv_aload hx hb dX1_canBeVictim_28 (lv_at hl 3 rfl) ?_
        refine lv_iload hx hb dX1_canBeVictim_30 (lv_at hl 5 rfl) ?_
        refine lX_corner S hK hM a2 (by omega) i (by omega) dX1_canBeVictim_32 ?_
        have hb_6 : cornA a2 i < 24 := cornA_lt (by omega) (by omega)
        refine lv_istore (lv' := [(7, .int (nI (cornA a2 i))), (0, .ref (pa (0, 0))), (1, .int (nI a1)), (3, .int (nI (anyN i (fun k => decide (own1 g (cornA a2 k) = a1 + 1))).toNat)), (4, .ref (pa (3, a2))), (5, .int (nI 6)), (6, .int (nI i))]) hx hb dX1_canBeVictim_33 hl (by decide) rfl (fun ls hl => ?_)
        refine lv_iload_n hx hb dX1_canBeVictim_35 rfl (lv_at hl 3 rfl) ?_
        refine lv_aload_n hx hb dX1_canBeVictim_36 rfl (lv_at hl 1 rfl) ?_
        refine lv_iload hx hb dX1_canBeVictim_37 (lv_at hl 0 rfl) ?_
        refine lv_iload_n hx hb dX1_canBeVictim_39 rfl (lv_at hl 2 rfl) ?_
        refine kX_isOf S hKX hM hg hS (cornA a2 i) a1 (by first | omega | assumption | grind) (by first | omega | assumption | grind) (by first | omega | assumption | grind) (Nat.le_of_ble_eq_true rfl) (Nat.le_of_ble_eq_true rfl) hl.1 (Nat.le_of_ble_eq_true rfl) dX1_canBeVictim_40 (Nat.le_of_ble_eq_true rfl) (Nat.le_of_ble_eq_true rfl) (fun locs hS => ?_)
        refine zr_orB (a := anyN i (fun k => decide (own1 g (cornA a2 k) = a1 + 1))) (b := decide (own1 g (cornA a2 i) = a1 + 1)) hx hb dX1_canBeVictim_43 ?_
        refine lv_istore_n (lv' := [(3, .int (nI ((anyN i (fun k => decide (own1 g (cornA a2 k) = a1 + 1))) || (decide (own1 g (cornA a2 i) = a1 + 1))).toNat)), (7, .int (nI (cornA a2 i))), (0, .ref (pa (0, 0))), (1, .int (nI a1)), (4, .ref (pa (3, a2))), (5, .int (nI 6)), (6, .int (nI i))]) hx hb dX1_canBeVictim_44 rfl hl (by decide) rfl (fun ls hl => ?_)
        refine lv_iinc (v := nI (i + 1)) (lv' := [(6, .int (nI (i + 1))), (3, .int (nI ((anyN i (fun k => decide (own1 g (cornA a2 k) = a1 + 1))) || (decide (own1 g (cornA a2 i) = a1 + 1))).toNat)), (7, .int (nI (cornA a2 i))), (0, .ref (pa (0, 0))), (1, .int (nI a1)), (4, .ref (pa (3, a2))), (5, .int (nI 6))]) hx hb dX1_canBeVictim_45 hl (k := 6) rfl (zk_inc _) (by decide) rfl (fun ls hl => ?_)
        refine lv_goto (tgt := 21) hx hb dX1_canBeVictim_48 (by decide) ?_
        exact ih_21 (i + 1) (by first | omega | assumption | (simp; done) | grind) (by omega) _ (congrArg (fun z : Bool => nI z.toNat) (show ((anyN i (fun k => decide (own1 g (cornA a2 k) = a1 + 1))) || (decide (own1 g (cornA a2 i) = a1 + 1)) : Bool) = (anyN (i + 1) (fun k => decide (own1 g (cornA a2 k) = a1 + 1))) from by first | with_reducible rfl | (simp [c_1, anyN]; done) | (simp only [c_1] <;> simp [anyN]; done) | (simp only [anyN, c_1] <;> simp [anyN]; done) | (simp [c_1, anyN, Bool.and_assoc]; done) | (simp [c_1, anyN, Bool.and_assoc, Bool.or_assoc]; done) | rfl | (simp [c_1, anyN]; omega) | (simp_all [anyN]; done))) locs hS ls (lv_sub hl [3, 4, 1, 5, 6, 0] rfl)
  exact L_21 _ 0 (by first | omega | assumption | (simp; done) | grind) (Nat.lt_succ_self _) _ (congrArg (fun z : Bool => nI z.toNat) (show (false : Bool) = (anyN 0 (fun k => decide (own1 g (cornA a2 k) = a1 + 1))) from by first | with_reducible rfl | (simp [anyN]; done) | (simp [anyN, Bool.and_assoc]; done) | (simp [anyN, Bool.and_assoc, Bool.or_assoc]; done) | rfl | (simp [anyN]; omega) | (simp_all [anyN]; done))) [] hS ls (lv_sub hl [4, 5, 3, 2, 1, 0] rfl)
theorem kX_canBeVictim {pr : Program} {l : Launch} {en : Env} {R : Room} {s : State} {m : MethodId} {args : Array Value} {below : List Frame} {meth : Method} {cd : Code} {H : Heap} {locs : List Loc} {cells slots : Nat} {cc : ByteArray} {pc nL : Nat} {ls : Array Slot} {rest : List Value} {D : va_G} {dA : Nat → ClassId} {cn : Nat → Nat} {A : Nat → Prop} {pa : NM → Nat} {g : G} {T : va_W} {Q : State → Prop} (S : CallFix pr m cd cc nL s args lw_all RX1) (hKX : KX D dA cn A s) (hM : XS D dA cn A pa g T H) (hg : Sm g) (hS : va_S A s.heap H locs) (a1 : Nat) (a2 : Nat) (h1 : a1 < 3) (h2 : a2 < 7) (ht : g 7 4 < 3) (h6 : ∀ c, c < 24 → g 2 c ≤ 6) (hf : 4 + 1 ≤ R.frames) (hlo : 8 + (8 + 11) + 142 ≤ R.locals) (hsz : ls.size = nL) (hcat : (rest.map fun v => v.category).sum ≤ 8) (hdg : decode cc pc = .ok (.invokevirtual 198, 3)) (hq1 : cells ≤ R.cells) (hq2 : slots ≤ R.slots) (kk : ∀ locs1 : List Loc, va_S A s.heap H locs1 → W pr l en R s m args below meth cd H locs1 cells slots Q (F0 m (pc + 3) ls (.int (nI (mVic g a1 a2).toNat) :: rest))) : W pr l en R s m args below meth cd H locs cells slots Q (F0 m pc ls (.int (nI a2) :: .int (nI a1) :: .ref (pa (0, 0)) :: rest)) :=
  zc_callV (n := 2) (As := [.int (nI a1), .int (nI a2)]) (rest := rest) S (cX_canBeVictim l hg a1 a2 h1 h2 ht h6 H hM (Post := (fun v H1 => v = some (.int (nI (mVic g a1 a2).toNat)) ∧ H1 = H)) ⟨rfl, rfl⟩) (lw_V q704 q706 qs19 q71 q707) (by decide +kernel) ⟨hf, hlo⟩ ⟨hq1, hq2⟩ (zx_recv hKX.1 hM) KX_mv (zc_K KX_mv hKX hS) hS (fun _ h => h) rfl hsz rfl hcat hdg (fun v H1 locs1 hp _ _ hS1 => by obtain ⟨rfl, rfl⟩ := hp; exact kk locs1 hS1)
set_option maxHeartbeats 1000000 in
set_option maxRecDepth 100000 in
theorem cX_canRob (l : Launch) {D : va_G} {dA : Nat → ClassId} {cn : Nat → Nat} {A : Nat → Prop} {pa : NM → Nat} {g : G} {T : va_W} (hg : Sm g) (a1 : Nat) (a2 : Nat) (h1 : a1 < 7) (h2 : a2 ≤ 3) (ht : g 7 4 < 3) (h6 : ∀ c, c < 24 → g 2 c ≤ 6) (H0 : Heap) (hM : XS D dA cn A pa g T H0) {Post : Option Value → Heap → Prop} (hPost : Post (some (.int (nI (mMayRob g a1 a2).toNat))) H0) : Ct l yX1_canRob (ws_ yX1_canRob cX1_canRob 5 (some .boolean)) (rmF 5 0 0 169) A (KX D dA cn A) [.ref (pa (0, 0)), .int (nI a1), .int (mI a2)] H0 Post := by
  refine zc_of RX1 rfl (by decide) (Nat.le_of_ble_eq_true rfl) ?_
  intro pr en s m args below meth cd S hr hlk hnm hh hKX ls hl
  have hS : va_S A s.heap H0 [] := zc_start hh
  have hg0 := hg
  have hx := S.1
  have hb := S.2.1
  have hown := S.2.2.2.1
  have hts := S.2.2.2.2
  have hK := hKX.1
  have hN := hKX.2.1.1
  have hl : lv_has ls 5 [(0, .ref (pa (0, 0))), (1, .int (nI a1)), (2, .int (mI a2))] := hl
  refine lv_iconst (v := nI 0) hx hb dX1_canRob_0 zi_0 ?_
  refine lv_istore_n (lv' := [(3, .int (nI 0)), (0, .ref (pa (0, 0))), (1, .int (nI a1)), (2, .int (mI a2))]) hx hb dX1_canRob_1 rfl hl (by decide) rfl (fun ls hl => ?_)
  refine lv_iconst (v := nI 0) hx hb dX1_canRob_2 zi_0 ?_
  refine lv_istore (lv' := [(4, .int (nI 0)), (3, .int (nI 0)), (0, .ref (pa (0, 0))), (1, .int (nI a1)), (2, .int (mI a2))]) hx hb dX1_canRob_3 hl (by decide) rfl (fun ls hl => ?_)
  have L_5 : ∀ (n_5 : Nat) (i : Nat), i ≤ 3 → 3 - i < n_5 → ∀ x3_5 : Int32, x3_5 = nI (anyN i (fun p => mVic g p a1)).toNat → ∀ (locs : List Loc), va_S A s.heap H0 locs → ∀ ls : Array Slot, lv_has ls 5 [(0, .ref (pa (0, 0))), (1, .int (nI a1)), (2, .int (mI a2)), (3, .int x3_5), (4, .int (nI i))] → W pr l en (rmF 5 0 0 169) s m args below meth cd H0 locs (0) (0) (MQ below (zc_Q Post A) args s 0 0 A) (F0 m 5 ls []) := by
    intro n_5
    induction n_5 with
    | zero => intro i hi_5 hm_5; exact absurd hm_5 (Nat.not_lt_zero _)
    | succ n_5 ih_5 =>
      intro i hi_5 hm_5 x3_5 ex3_5 locs hS ls hl
      subst ex3_5
      refine lv_iload hx hb dX1_canRob_5 (lv_at hl 4 rfl) ?_
      refine lv_iconst (v := nI 3) hx hb dX1_canRob_7 zi_3 ?_
      refine zr_icmp_geN (a := i) (b := 3) (tgt := 27) hx hb (by omega) (by omega) dX1_canRob_8 (by decide) (fun c_1 => ?_) (fun c_1 => ?_)
      · have e_i : 3 = i := by omega
        subst e_i
        refine lv_iload_n hx hb dX1_canRob_27 rfl (lv_at hl 1 rfl) ?_
        refine lv_aload_n hx hb dX1_canRob_28 rfl (lv_at hl 0 rfl) ?_
        refine gX_robber S hK hM (g 7 0) rfl dX1_canRob_29 ?_
        have hb_2 : g 7 0 < 1048576 := by first | exact hg 7 0 | exact hg0 _ _ | (have := hg 7 0; omega) | omega
        refine zr_icmp_eqN (a := a1) (b := (g 7 0)) (tgt := 60) hx hb (by omega) (by omega) dX1_canRob_32 (by decide) (fun c_3 => ?_) (fun c_3 => ?_)
        · refine lv_iconst (v := nI 0) hx hb dX1_canRob_60 zi_0 ?_
          exact zc_bret (mMayRob g a1 a2) (congrArg (fun z : Bool => nI z.toNat) (show (false : Bool) = (mMayRob g a1 a2) from by first | with_reducible rfl | (simp [c_1, c_3, mMayRob, anyN]; done) | (simp only [c_1, c_3] <;> simp [mMayRob, anyN]; done) | (simp only [mMayRob, anyN, c_1, c_3] <;> simp [mMayRob, anyN]; done) | (simp [c_1, c_3, mMayRob, anyN, Bool.and_assoc]; done) | (simp [c_1, c_3, mMayRob, anyN, Bool.and_assoc, Bool.or_assoc]; done) | rfl | (simp [c_1, c_3, mMayRob, anyN]; omega) | grind [mMayRob, anyN] | (simp_all [mMayRob, anyN]; done))) hPost hS hx hb hr hlk (Nat.le_of_ble_eq_true rfl) (Nat.le_of_ble_eq_true rfl) dX1_canRob_61
        · refine lv_iload_n hx hb dX1_canRob_35 rfl (lv_at hl 2 rfl) ?_
          refine lv_iconst (v := mI 0) hx hb dX1_canRob_36 zi_m1 ?_
          refine zr_icmp_neM (a := a2) (b := 0) (tgt := 47) hx hb (by omega) (by omega) dX1_canRob_37 (by decide) (fun c_4 => ?_) (fun c_4 => ?_)
          · refine lv_aload_n hx hb dX1_canRob_47 rfl (lv_at hl 0 rfl) ?_
            refine lv_iload_n hx hb dX1_canRob_48 rfl (lv_at hl 2 rfl) ?_
            refine lv_iload_n hx hb dX1_canRob_49 rfl (lv_at hl 1 rfl) ?_
            rw [mI_pred (show 0 < a2 from by omega)]
            refine kX_canBeVictim S hKX hM hg hS (a2 - 1) a1 (by first | omega | assumption | grind) (by first | omega | assumption | grind) (by first | omega | assumption | grind) (by first | omega | assumption | grind) (Nat.le_of_ble_eq_true rfl) (Nat.le_of_ble_eq_true rfl) hl.1 (Nat.le_of_ble_eq_true rfl) dX1_canRob_50 (Nat.le_of_ble_eq_true rfl) (Nat.le_of_ble_eq_true rfl) (fun locs hS => ?_)
            refine zr_if_eqB (b := mVic g (a2 - 1) a1) (tgt := 60) hx hb dX1_canRob_53 (by decide) (fun c_5 => ?_) (fun c_5 => ?_)
            · refine lv_iconst (v := nI 0) hx hb dX1_canRob_60 zi_0 ?_
              exact zc_bret (mMayRob g a1 a2) (congrArg (fun z : Bool => nI z.toNat) (show (false : Bool) = (mMayRob g a1 a2) from by first | with_reducible rfl | (simp [c_1, c_3, c_4, c_5, mMayRob, anyN]; done) | (simp only [c_1, c_3, c_4, c_5] <;> simp [mMayRob, anyN]; done) | (simp only [mMayRob, anyN, c_1, c_3, c_4, c_5] <;> simp [mMayRob, anyN]; done) | (simp [c_1, c_3, c_4, c_5, mMayRob, anyN, Bool.and_assoc]; done) | (simp [c_1, c_3, c_4, c_5, mMayRob, anyN, Bool.and_assoc, Bool.or_assoc]; done) | rfl | (simp [c_1, c_3, c_4, c_5, mMayRob, anyN]; omega) | grind [mMayRob, anyN] | (simp_all [mMayRob, anyN]; done))) hPost hS hx hb hr hlk (Nat.le_of_ble_eq_true rfl) (Nat.le_of_ble_eq_true rfl) dX1_canRob_61
            · refine lv_iconst (v := nI 1) hx hb dX1_canRob_56 zi_1 ?_
              refine lv_goto (tgt := 61) hx hb dX1_canRob_57 (by decide) ?_
              exact zc_bret (mMayRob g a1 a2) (congrArg (fun z : Bool => nI z.toNat) (show (true : Bool) = (mMayRob g a1 a2) from by first | with_reducible rfl | (simp [c_1, c_3, c_4, c_5, mMayRob, anyN]; done) | (simp only [c_1, c_3, c_4, c_5] <;> simp [mMayRob, anyN]; done) | (simp only [mMayRob, anyN, c_1, c_3, c_4, c_5] <;> simp [mMayRob, anyN]; done) | (simp [c_1, c_3, c_4, c_5, mMayRob, anyN, Bool.and_assoc]; done) | (simp [c_1, c_3, c_4, c_5, mMayRob, anyN, Bool.and_assoc, Bool.or_assoc]; done) | rfl | (simp [c_1, c_3, c_4, c_5, mMayRob, anyN]; omega) | grind [mMayRob, anyN] | (simp_all [mMayRob, anyN]; done))) hPost hS hx hb hr hlk (Nat.le_of_ble_eq_true rfl) (Nat.le_of_ble_eq_true rfl) dX1_canRob_61
          · refine lv_iload_n hx hb dX1_canRob_40 rfl (lv_at hl 3 rfl) ?_
            refine zr_if_neB (b := anyN 3 (fun p => mVic g p a1)) (tgt := 60) hx hb dX1_canRob_41 (by decide) (fun c_6 => ?_) (fun c_6 => ?_)
            · refine lv_iconst (v := nI 0) hx hb dX1_canRob_60 zi_0 ?_
              exact zc_bret (mMayRob g a1 a2) (congrArg (fun z : Bool => nI z.toNat) (show (false : Bool) = (mMayRob g a1 a2) from by first | with_reducible rfl | (simp [c_1, c_3, c_4, c_6, mMayRob, anyN]; done) | (simp only [c_1, c_3, c_4, c_6] <;> simp [mMayRob, anyN]; done) | (simp only [mMayRob, anyN, c_1, c_3, c_4, c_6] <;> simp [mMayRob, anyN]; done) | (simp [c_1, c_3, c_4, c_6, mMayRob, anyN, Bool.and_assoc]; done) | (simp [c_1, c_3, c_4, c_6, mMayRob, anyN, Bool.and_assoc, Bool.or_assoc]; done) | rfl | (simp [c_1, c_3, c_4, c_6, mMayRob, anyN]; omega) | grind [mMayRob, anyN] | (simp_all [mMayRob, anyN]; done))) hPost hS hx hb hr hlk (Nat.le_of_ble_eq_true rfl) (Nat.le_of_ble_eq_true rfl) dX1_canRob_61
            · refine lv_goto (tgt := 56) hx hb dX1_canRob_44 (by decide) ?_
              refine lv_iconst (v := nI 1) hx hb dX1_canRob_56 zi_1 ?_
              refine lv_goto (tgt := 61) hx hb dX1_canRob_57 (by decide) ?_
              exact zc_bret (mMayRob g a1 a2) (congrArg (fun z : Bool => nI z.toNat) (show (true : Bool) = (mMayRob g a1 a2) from by first | with_reducible rfl | (simp [c_1, c_3, c_4, c_6, mMayRob, anyN]; done) | (simp only [c_1, c_3, c_4, c_6] <;> simp [mMayRob, anyN]; done) | (simp only [mMayRob, anyN, c_1, c_3, c_4, c_6] <;> simp [mMayRob, anyN]; done) | (simp [c_1, c_3, c_4, c_6, mMayRob, anyN, Bool.and_assoc]; done) | (simp [c_1, c_3, c_4, c_6, mMayRob, anyN, Bool.and_assoc, Bool.or_assoc]; done) | rfl | (simp [c_1, c_3, c_4, c_6, mMayRob, anyN]; omega) | grind [mMayRob, anyN] | (simp_all [mMayRob, anyN]; done))) hPost hS hx hb hr hlk (Nat.le_of_ble_eq_true rfl) (Nat.le_of_ble_eq_true rfl) dX1_canRob_61
      · refine lv_iload_n hx hb dX1_canRob_11 rfl (lv_at hl 3 rfl) ?_
        refine lv_aload_n hx hb dX1_canRob_12 rfl (lv_at hl 0 rfl) ?_
        refine lv_iload hx hb dX1_canRob_13 (lv_at hl 4 rfl) ?_
        refine lv_iload_n hx hb dX1_canRob_15 rfl (lv_at hl 1 rfl) ?_
        refine kX_canBeVictim S hKX hM hg hS i a1 (by first | omega | assumption | grind) (by first | omega | assumption | grind) (by first | omega | assumption | grind) (by first | omega | assumption | grind) (Nat.le_of_ble_eq_true rfl) (Nat.le_of_ble_eq_true rfl) hl.1 (Nat.le_of_ble_eq_true rfl) dX1_canRob_16 (Nat.le_of_ble_eq_true rfl) (Nat.le_of_ble_eq_true rfl) (fun locs hS => ?_)
        refine zr_orB (a := anyN i (fun p => mVic g p a1)) (b := mVic g i a1) hx hb dX1_canRob_19 ?_
        refine lv_istore_n (lv' := [(3, .int (nI ((anyN i (fun p => mVic g p a1)) || (mVic g i a1)).toNat)), (0, .ref (pa (0, 0))), (1, .int (nI a1)), (2, .int (mI a2)), (4, .int (nI i))]) hx hb dX1_canRob_20 rfl hl (by decide) rfl (fun ls hl => ?_)
        refine lv_iinc (v := nI (i + 1)) (lv' := [(4, .int (nI (i + 1))), (3, .int (nI ((anyN i (fun p => mVic g p a1)) || (mVic g i a1)).toNat)), (0, .ref (pa (0, 0))), (1, .int (nI a1)), (2, .int (mI a2))]) hx hb dX1_canRob_21 hl (k := 4) rfl (zk_inc _) (by decide) rfl (fun ls hl => ?_)
        refine lv_goto (tgt := 5) hx hb dX1_canRob_24 (by decide) ?_
        exact ih_5 (i + 1) (by first | omega | assumption | (simp; done) | grind) (by omega) _ (congrArg (fun z : Bool => nI z.toNat) (show ((anyN i (fun p => mVic g p a1)) || (mVic g i a1) : Bool) = (anyN (i + 1) (fun p => mVic g p a1)) from by first | with_reducible rfl | (simp [c_1, mMayRob, anyN, anyN]; done) | (simp only [c_1] <;> simp [mMayRob, anyN, anyN]; done) | (simp only [mMayRob, anyN, anyN, c_1] <;> simp [mMayRob, anyN, anyN]; done) | (simp [c_1, mMayRob, anyN, anyN, Bool.and_assoc]; done) | (simp [c_1, mMayRob, anyN, anyN, Bool.and_assoc, Bool.or_assoc]; done) | rfl | (simp [c_1, mMayRob, anyN, anyN]; omega) | grind [mMayRob, anyN, anyN] | (simp_all [mMayRob, anyN, anyN]; done))) locs hS ls (lv_sub hl [2, 3, 4, 1, 0] rfl)
  exact L_5 _ 0 (by first | omega | assumption | (simp; done) | grind) (Nat.lt_succ_self _) _ (congrArg (fun z : Bool => nI z.toNat) (show (false : Bool) = (anyN 0 (fun p => mVic g p a1)) from by first | with_reducible rfl | (simp [mMayRob, anyN, anyN]; done) | (simp [mMayRob, anyN, anyN, Bool.and_assoc]; done) | (simp [mMayRob, anyN, anyN, Bool.and_assoc, Bool.or_assoc]; done) | rfl | (simp [mMayRob, anyN, anyN]; omega) | grind [mMayRob, anyN, anyN] | (simp_all [mMayRob, anyN, anyN]; done))) [] hS ls (lv_sub hl [2, 3, 4, 1, 0] rfl)
theorem kX_canRob {pr : Program} {l : Launch} {en : Env} {R : Room} {s : State} {m : MethodId} {args : Array Value} {below : List Frame} {meth : Method} {cd : Code} {H : Heap} {locs : List Loc} {cells slots : Nat} {cc : ByteArray} {pc nL : Nat} {ls : Array Slot} {rest : List Value} {D : va_G} {dA : Nat → ClassId} {cn : Nat → Nat} {A : Nat → Prop} {pa : NM → Nat} {g : G} {T : va_W} {Q : State → Prop} (S : CallFix pr m cd cc nL s args lw_all RX1) (hKX : KX D dA cn A s) (hM : XS D dA cn A pa g T H) (hg : Sm g) (hS : va_S A s.heap H locs) (a1 : Nat) (a2 : Nat) (h1 : a1 < 7) (h2 : a2 ≤ 3) (ht : g 7 4 < 3) (h6 : ∀ c, c < 24 → g 2 c ≤ 6) (hf : 5 + 1 ≤ R.frames) (hlo : 8 + (5 + 11) + 169 ≤ R.locals) (hsz : ls.size = nL) (hcat : (rest.map fun v => v.category).sum ≤ 8) (hdg : decode cc pc = .ok (.invokevirtual 272, 3)) (hq1 : cells ≤ R.cells) (hq2 : slots ≤ R.slots) (kk : ∀ locs1 : List Loc, va_S A s.heap H locs1 → W pr l en R s m args below meth cd H locs1 cells slots Q (F0 m (pc + 3) ls (.int (nI (mMayRob g a1 a2).toNat) :: rest))) : W pr l en R s m args below meth cd H locs cells slots Q (F0 m pc ls (.int (mI a2) :: .int (nI a1) :: .ref (pa (0, 0)) :: rest)) :=
  zc_callV (n := 2) (As := [.int (nI a1), .int (mI a2)]) (rest := rest) S (cX_canRob l hg a1 a2 h1 h2 ht h6 H hM (Post := (fun v H1 => v = some (.int (nI (mMayRob g a1 a2).toNat)) ∧ H1 = H)) ⟨rfl, rfl⟩) (lw_V q700 q702 qs18 q71 q703) (by decide +kernel) ⟨hf, hlo⟩ ⟨hq1, hq2⟩ (zx_recv hKX.1 hM) KX_mv (zc_K KX_mv hKX hS) hS (fun _ h => h) rfl hsz rfl hcat hdg (fun v H1 locs1 hp _ _ hS1 => by obtain ⟨rfl, rfl⟩ := hp; exact kk locs1 hS1)
set_option maxHeartbeats 1000000 in
set_option maxRecDepth 100000 in
theorem cX_phase (l : Launch) {D : va_G} {dA : Nat → ClassId} {cn : Nat → Nat} {A : Nat → Prop} {pa : NM → Nat} {g : G} {T : va_W} (hg : Sm g) (H0 : Heap) (hM : XS D dA cn A pa g T H0) {Post : Option Value → Heap → Prop} (hPost : Post (some (.int (nI (g 7 1)))) H0) : Ct l yX1_phase (ws_ yX1_phase cX1_phase 1 (some .int)) (rmF 1 0 0 12) A (KX D dA cn A) [.ref (pa (0, 0))] H0 Post := by
  refine zc_of RX1 rfl (by decide) (Nat.le_of_ble_eq_true rfl) ?_
  intro pr en s m args below meth cd S hr hlk hnm hh hKX ls hl
  have hS : va_S A s.heap H0 [] := zc_start hh
  have hg0 := hg
  have hx := S.1
  have hb := S.2.1
  have hown := S.2.2.2.1
  have hts := S.2.2.2.2
  have hK := hKX.1
  have hN := hKX.2.1.1
  have hl : lv_has ls 1 [(0, .ref (pa (0, 0)))] := hl
  refine lv_aload_n hx hb dX1_phase_0 rfl (lv_at hl 0 rfl) ?_
  refine gX_phase S hK hM (g 7 1) rfl dX1_phase_1 ?_
  have hb_1 : g 7 1 < 1048576 := by first | exact hg 7 1 | exact hg0 _ _ | (have := hg 7 1; omega) | omega
  exact zc_nret (nI (g 7 1)) rfl hPost hS hx hb hr hlk (Nat.le_of_ble_eq_true rfl) (Nat.le_of_ble_eq_true rfl) dX1_phase_4
set_option maxHeartbeats 1000000 in
set_option maxRecDepth 100000 in
theorem cX_turn (l : Launch) {D : va_G} {dA : Nat → ClassId} {cn : Nat → Nat} {A : Nat → Prop} {pa : NM → Nat} {g : G} {T : va_W} (hg : Sm g) (H0 : Heap) (hM : XS D dA cn A pa g T H0) {Post : Option Value → Heap → Prop} (hPost : Post (some (.int (nI (g 7 4)))) H0) : Ct l yX1_turn (ws_ yX1_turn cX1_turn 1 (some .int)) (rmF 1 0 0 12) A (KX D dA cn A) [.ref (pa (0, 0))] H0 Post := by
  refine zc_of RX1 rfl (by decide) (Nat.le_of_ble_eq_true rfl) ?_
  intro pr en s m args below meth cd S hr hlk hnm hh hKX ls hl
  have hS : va_S A s.heap H0 [] := zc_start hh
  have hg0 := hg
  have hx := S.1
  have hb := S.2.1
  have hown := S.2.2.2.1
  have hts := S.2.2.2.2
  have hK := hKX.1
  have hN := hKX.2.1.1
  have hl : lv_has ls 1 [(0, .ref (pa (0, 0)))] := hl
  refine lv_aload_n hx hb dX1_turn_0 rfl (lv_at hl 0 rfl) ?_
  refine gX_turn S hK hM (g 7 4) rfl dX1_turn_1 ?_
  have hb_1 : g 7 4 < 1048576 := by first | exact hg 7 4 | exact hg0 _ _ | (have := hg 7 4; omega) | omega
  exact zc_nret (nI (g 7 4)) rfl hPost hS hx hb hr hlk (Nat.le_of_ble_eq_true rfl) (Nat.le_of_ble_eq_true rfl) dX1_turn_4
set_option maxHeartbeats 1000000 in
set_option maxRecDepth 100000 in
theorem cX_robber (l : Launch) {D : va_G} {dA : Nat → ClassId} {cn : Nat → Nat} {A : Nat → Prop} {pa : NM → Nat} {g : G} {T : va_W} (hg : Sm g) (H0 : Heap) (hM : XS D dA cn A pa g T H0) {Post : Option Value → Heap → Prop} (hPost : Post (some (.int (nI (g 7 0)))) H0) : Ct l yX1_robber (ws_ yX1_robber cX1_robber 1 (some .int)) (rmF 1 0 0 12) A (KX D dA cn A) [.ref (pa (0, 0))] H0 Post := by
  refine zc_of RX1 rfl (by decide) (Nat.le_of_ble_eq_true rfl) ?_
  intro pr en s m args below meth cd S hr hlk hnm hh hKX ls hl
  have hS : va_S A s.heap H0 [] := zc_start hh
  have hg0 := hg
  have hx := S.1
  have hb := S.2.1
  have hown := S.2.2.2.1
  have hts := S.2.2.2.2
  have hK := hKX.1
  have hN := hKX.2.1.1
  have hl : lv_has ls 1 [(0, .ref (pa (0, 0)))] := hl
  refine lv_aload_n hx hb dX1_robber_0 rfl (lv_at hl 0 rfl) ?_
  refine gX_robber S hK hM (g 7 0) rfl dX1_robber_1 ?_
  have hb_1 : g 7 0 < 1048576 := by first | exact hg 7 0 | exact hg0 _ _ | (have := hg 7 0; omega) | omega
  exact zc_nret (nI (g 7 0)) rfl hPost hS hx hb hr hlk (Nat.le_of_ble_eq_true rfl) (Nat.le_of_ble_eq_true rfl) dX1_robber_4
set_option maxHeartbeats 1000000 in
set_option maxRecDepth 100000 in
theorem cX_holder (l : Launch) {D : va_G} {dA : Nat → ClassId} {cn : Nat → Nat} {A : Nat → Prop} {pa : NM → Nat} {g : G} {T : va_W} (hg : Sm g) (a1 : Bool) (H0 : Heap) (hM : XS D dA cn A pa g T H0) {Post : Option Value → Heap → Prop} (hPost : Post (some (.int (mI (if a1 = true then g 7 8 else g 7 7)))) H0) : Ct l yX1_holder (ws_ yX1_holder cX1_holder 2 (some .int)) (rmF 1 0 0 13) A (KX D dA cn A) [.ref (pa (0, 0)), .int (nI (a1).toNat)] H0 Post := by
  refine zc_of RX1 rfl (by decide) (Nat.le_of_ble_eq_true rfl) ?_
  intro pr en s m args below meth cd S hr hlk hnm hh hKX ls hl
  have hS : va_S A s.heap H0 [] := zc_start hh
  have hg0 := hg
  have hx := S.1
  have hb := S.2.1
  have hown := S.2.2.2.1
  have hts := S.2.2.2.2
  have hK := hKX.1
  have hN := hKX.2.1.1
  have hl : lv_has ls 2 [(0, .ref (pa (0, 0))), (1, .int (nI (a1).toNat))] := hl
  refine lv_iload_n hx hb dX1_holder_0 rfl (lv_at hl 1 rfl) ?_
  refine zr_if_eqB (b := a1) (tgt := 11) hx hb dX1_holder_1 (by decide) (fun c_1 => ?_) (fun c_1 => ?_)
  · refine lv_aload_n hx hb dX1_holder_11 rfl (lv_at hl 0 rfl) ?_
    refine gX_trailHolder S hK hM (g 7 7) rfl dX1_holder_12 ?_
    have hb_2 : g 7 7 < 1048576 := by first | exact hg 7 7 | exact hg0 _ _ | (have := hg 7 7; omega) | omega
    exact zc_nret (mI (if a1 = true then g 7 8 else g 7 7)) (congrArg mI (show (g 7 7 : Nat) = (if a1 = true then g 7 8 else g 7 7) from by first | with_reducible rfl | (simp [c_1]; done) | (simp only [c_1] <;> simp []; done) | (simp [c_1, Bool.and_assoc]; done) | (simp [c_1, Bool.and_assoc, Bool.or_assoc]; done) | rfl | (simp [c_1]; omega) | (simp_all []; done))) hPost hS hx hb hr hlk (Nat.le_of_ble_eq_true rfl) (Nat.le_of_ble_eq_true rfl) dX1_holder_15
  · refine lv_aload_n hx hb dX1_holder_4 rfl (lv_at hl 0 rfl) ?_
    refine gX_armyHolder S hK hM (g 7 8) rfl dX1_holder_5 ?_
    have hb_3 : g 7 8 < 1048576 := by first | exact hg 7 8 | exact hg0 _ _ | (have := hg 7 8; omega) | omega
    refine lv_goto (tgt := 15) hx hb dX1_holder_8 (by decide) ?_
    exact zc_nret (mI (if a1 = true then g 7 8 else g 7 7)) (congrArg mI (show (g 7 8 : Nat) = (if a1 = true then g 7 8 else g 7 7) from by first | with_reducible rfl | (simp [c_1]; done) | (simp only [c_1] <;> simp []; done) | (simp [c_1, Bool.and_assoc]; done) | (simp [c_1, Bool.and_assoc, Bool.or_assoc]; done) | rfl | (simp [c_1]; omega) | (simp_all []; done))) hPost hS hx hb hr hlk (Nat.le_of_ble_eq_true rfl) (Nat.le_of_ble_eq_true rfl) dX1_holder_15
