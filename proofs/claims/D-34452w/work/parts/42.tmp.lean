/-! ARRAYS of numbers that a running method of the class has for itself -/
abbrev tA (dA : Nat → ClassId) (n : Nat) (f : Nat → Int32) : va_E := .inl (dA 0, n, .inl f)
theorem va_RA_un2 {U : State} {a b : ClassId} (h1 : va_RA U a .int) (h2 : va_RA U b .int) : a = b := va_RA_un h1 h2
section ZT
variable {D : va_G} {dA : Nat → ClassId} {cn : Nat → Nat} {A : Nat → Prop} {pa : NM → Nat} {g : G} {T : va_W} {H : Heap}
variable {p : Program} {l : Launch} {e : Env} {R : Room} {s : State} {m : MethodId} {args : Array Value} {below : List Frame} {meth : Method} {c : Code} {locs : List Loc} {cells slots : Nat} {Q : State → Prop}
variable {cc : ByteArray} {pc nL : Nat} {ls : Array Slot} {rest : List Value} {q n : Nat} {f : Nat → Int32}
theorem xT_new (S : CallFix p m c cc nL s args lw_all RX1) (hK : KT D dA s) (h : XS D dA cn A pa g T H) (hS : va_S A s.heap H locs) (hA : ∀ q, s.heap.size ≤ q → A q) (n : Nat) (hn : n ≤ 100) (hcR : cells + 1 ≤ R.cells) (hsR : slots + n ≤ R.slots) (hdg : decode cc pc = .ok (.newarray .int, 2))
    (kk : ∀ (q : Nat) (H1 : Heap) (locs1 : List Loc), XS D dA cn A pa g (T ++ [(q, tA dA n (fun _ => 0))]) H1 → va_S A s.heap H1 locs1 → W p l e R s m args below meth c H1 locs1 (cells + 1) (slots + n) Q (F0 m (pc + 2) ls (.ref q :: rest))) :
    W p l e R s m args below meth c H locs cells slots Q (F0 m pc ls (.int (nI n) :: rest)) := by
  obtain ⟨ad, L, ha, hL, hP⟩ := h
  refine va_newa (D := D) (atype := .int) (ty := .int) (a0 := (n, .inl (fun _ => 0))) S.1 S.2.1 (S.2.2.2.2 _ q141) rfl hK hP.2.1 hP.2.2 hS hA (fun _ => rfl) (nI_pos (by omega)) (N' := n) (nI_clamp (by omega)) (show n * 4 ≤ 536870912 by omega) hcR hsR hdg ?_
  intro q cA H1 hK9 h1 h2 h3
  obtain rfl := va_RA_un (hK.2 0 _ rfl).2 (hK9.2 7 _ rfl).2
  exact kk q H1 locs ⟨ad, L, ha, hL, hP.1, by rw [← List.append_assoc]; exact h1, by rw [← List.append_assoc]; exact h2⟩ h3
theorem xT_st (S : CallFix p m c cc nL s args lw_all RX1) (hK : KT D dA s) (h : XS D dA cn A pa g (T ++ [(q, tA dA n f)]) H) (hS : va_S A s.heap H locs) (i : Nat) (hi : i < n) (hn : n ≤ 100) (v : Int32) (hdg : decode cc pc = .ok (.iastore, 1))
    (kk : ∀ (H1 : Heap) (locs1 : List Loc), XS D dA cn A pa g (T ++ [(q, tA dA n (upd f i v))]) H1 → va_S A s.heap H1 locs1 → W p l e R s m args below meth c H1 locs1 cells slots Q (F0 m (pc + 1) ls rest)) :
    W p l e R s m args below meth c H locs cells slots Q (F0 m pc ls (.int v :: .int (nI i) :: .ref q :: rest)) := by
  obtain ⟨ad, L, ha, hL, hP⟩ := h
  have hi9 : (zp_W L ad (xC dA cn ad g) ++ (T ++ [(q, tA dA n f)]))[L.length + T.length]? = some (q, tA dA n f) := by rw [zp_tm]; simp
  refine va_iast (D := D) S.1 S.2.1 hK hP.2.1 hP.2.2 hS (L.length + T.length) 0 hi9 rfl (vp_in_nI hi (by omega)) hdg (fun H1 locs1 h1 h2 h3 => kk H1 locs1 ?_ h3)
  rw [nI_clamp (by omega), zp_setT] at h1 h2
  exact ⟨ad, L, ha, hL, hP.1, by simpa using h1, by simpa using h2⟩
theorem XS.tcell (h : XS D dA cn A pa g T H) {x : Nat × va_E} (hx : x ∈ T) : va_P D clA [x] H := by
  obtain ⟨ad, L, ha, hL, hP⟩ := h
  refine va_P.ofm (fun q hq => ?_)
  rw [List.mem_singleton.mp hq]
  exact hP.2.1.mem (List.mem_append_right _ hx)
theorem xT_ld (S : CallFix p m c cc nL s args lw_all RX1) (hK : KT D dA s) (h : XS D dA cn A pa g T H) (hT : (q, tA dA n f) ∈ T) (i : Nat) (hi : i < n) (hn : n ≤ 100) (hdg : decode cc pc = .ok (.iaload, 1))
    (kk : W p l e R s m args below meth c H locs cells slots Q (F0 m (pc + 1) ls (.int (f i) :: rest))) :
    W p l e R s m args below meth c H locs cells slots Q (F0 m pc ls (.int (nI i) :: .ref q :: rest)) :=
  va_iald (D := D) S.1 S.2.1 hK (h.tcell hT) 0 0 rfl rfl (vp_in_nI hi (by omega)) hdg (by rw [nI_clamp (by omega)]; exact kk)
theorem xT_len (S : CallFix p m c cc nL s args lw_all RX1) (hK : KT D dA s) (h : XS D dA cn A pa g T H) (hT : (q, tA dA n f) ∈ T) (hdg : decode cc pc = .ok (.arraylength, 1))
    (kk : W p l e R s m args below meth c H locs cells slots Q (F0 m (pc + 1) ls (.int (nI n) :: rest))) :
    W p l e R s m args below meth c H locs cells slots Q (F0 m pc ls (.ref q :: rest)) :=
  va_alen (D := D) S.1 S.2.1 hK (h.tcell hT) 0 0 rfl rfl (v := nI n) rfl hdg kk
end ZT
theorem tA_last {T : va_W} {x : Nat × va_E} : x ∈ T ++ [x] := List.mem_append_right _ (List.mem_singleton.mpr rfl)
theorem allN_iff {n : Nat} {f : Nat → Bool} : allN n f = true ↔ ∀ i, i < n → f i = true := by
  induction n with
  | zero => exact ⟨fun _ i h => absurd h (Nat.not_lt_zero i), fun _ => rfl⟩
  | succ n ih =>
    show (allN n f && f n) = true ↔ _
    rw [Bool.and_eq_true, ih]
    constructor
    · rintro ⟨h1, h2⟩ i hi
      rcases Nat.lt_or_ge i n with q | q
      · exact h1 i q
      · rw [show i = n by omega]; exact h2
    · intro h
      exact ⟨fun i hi => h i (by omega), h n (by omega)⟩
/-- the goods that are checked -/
theorem cg_1 (x : Int32) : allN 1 (fun i => inR (upd (fun _ => 0) 0 x i) 0 99999) = goodsB x := by
  show (true && inR x 0 99999) = _
  rw [Bool.true_and]; rfl
theorem cg_2 (x y : Int32) : allN 2 (fun i => inR (upd (upd (fun _ => 0) 0 x) 1 y i) 1 99999) = (someB x && someB y) := by
  have key : ∀ z : Int32, inR z 1 99999 = someB z := by
    intro z
    unfold inR someB
    have : (z < nI 1) ↔ (z ≤ 0) := by
      rw [Int32.lt_iff_toInt_lt, Int32.le_iff_toInt_le, show (nI 1).toInt = 1 from by decide, show (0 : Int32).toInt = 0 from by decide]; omega
    rw [decide_eq_decide.mpr this]
  show ((true && inR x 1 99999) && inR y 1 99999) = _
  rw [Bool.true_and, key, key]
