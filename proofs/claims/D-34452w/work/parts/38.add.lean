/-! THE CLASS: a list grows (printed by gen/mkadd.py) -/
def mvP (g : G) (a b k n : Nat) : G := gs (gs (gs (gs (gs g 12 (g 8 1) a) 13 (g 8 1) b) 14 (g 8 1) k) 15 (g 8 1) n) 8 1 (g 8 1 + 1)
def cdP (g : G) (w b : Nat) : G := gs (gs (gs (gs g 9 (g 8 0) w) 10 (g 8 0) b) 11 (g 8 0) 0) 8 0 (g 8 0 + 1)
section ZL
variable {D : va_G} {dA : Nat → ClassId} {cn : Nat → Nat} {A : Nat → Prop} {pa : NM → Nat} {g : G} {T : va_W} {H : Heap}
variable {p : Program} {l : Launch} {e : Env} {R : Room} {s : State} {m : MethodId} {args : Array Value} {below : List Frame} {meth : Method} {c : Code} {locs : List Loc} {cells slots : Nat} {Q : State → Prop}
variable {cc : ByteArray} {pc nL : Nat} {ls : Array Slot} {rest : List Value}
theorem XS.mk2 {ad2 : NM → Nat} {L2 : List NM} {ct2 : NM → va_E} {g1 : G} {H1 : Heap} (hp : ∀ n, xP n = true → ad2 n = pa n) (hL2 : ∀ n, n ∈ L2 ↔ xL g1 n = true) (hP : PL D A L2 ad2 ct2 T H1) (hc : ∀ n, xL g1 n = true → xC dA cn ad2 g1 n = ct2 n) : XS D dA cn A pa g1 T H1 :=
  ⟨ad2, L2, hp, hL2, hP.to hP.1 (fun _ h => h) (fun _ _ => rfl) (fun n hn => hc n ((hL2 n).mp hn)) (fun _ h => h) (fun _ _ => rfl) (fun _ _ => rfl)⟩
theorem mvP_n (g : G) (va vb vk vn : Nat) : (mvP g va vb vk vn) 8 1 = (g 8 1) + 1 := rfl
theorem xl_m {g : G} {va vb vk vn : Nat} (n : NM) : xL (mvP g va vb vk vn) n = (decide (n = (16, (g 8 1))) || (decide (n = (15, 0)) || xL g n)) := by
  obtain ⟨a, b⟩ := n
  by_cases h1 : (a, b) = ((16, (g 8 1)) : NM)
  · obtain ⟨rfl, rfl⟩ := Prod.mk.inj h1
    rw [decide_eq_true (rfl : ((16, (g 8 1)) : NM) = (16, (g 8 1))), Bool.true_or]
    show decide ((g 8 1) < (g 8 1) + 1) = true
    simp
  · by_cases h2 : (a, b) = ((15, 0) : NM)
    · obtain ⟨rfl, rfl⟩ := Prod.mk.inj h2
      rw [decide_eq_true (rfl : ((15, 0) : NM) = (15, 0)), Bool.true_or, Bool.or_true]
      show (decide ((0 : Nat) = 0) && decide ((g 8 1) + 1 ≠ 0)) = true
      simp
    · rw [decide_eq_false h1, decide_eq_false h2, Bool.false_or, Bool.false_or]
      by_cases h3 : a = 16
      · subst h3
        have hb : b ≠ (g 8 1) := fun h => h1 (by rw [h])
        show decide (b < (g 8 1) + 1) = decide (b < (g 8 1))
        rw [decide_eq_decide]
        omega
      · by_cases h4 : a = 15
        · subst h4
          have hb : b ≠ 0 := fun h => h2 (by rw [h])
          show (decide (b = 0) && _) = (decide (b = 0) && _)
          simp [hb]
        · unfold xL
          split <;> first | rfl | (exfalso; rename_i h9; first | exact h3 h9 | exact h4 h9)
theorem xc_m {g : G} {va vb vk vn : Nat} {ad2 ad : NM → Nat} {ct2 : NM → va_E} (ha : ∀ n, n ≠ (16, (g 8 1)) → n ≠ (15, 0) → ad2 n = ad n) (hct : ∀ n, n ≠ (16, (g 8 1)) → n ≠ (15, 0) → n ≠ (14, 0) → ct2 n = xC dA cn ad g n)
    (h1 : xC dA cn ad2 (mvP g va vb vk vn) (16, (g 8 1)) = ct2 (16, (g 8 1))) (h2 : xC dA cn ad2 (mvP g va vb vk vn) (15, 0) = ct2 (15, 0)) (h3 : xC dA cn ad2 (mvP g va vb vk vn) (14, 0) = ct2 (14, 0)) : ∀ n, xL (mvP g va vb vk vn) n = true → xC dA cn ad2 (mvP g va vb vk vn) n = ct2 n := by
  intro n hl
  by_cases e1 : n = (16, (g 8 1))
  · subst e1; exact h1
  by_cases e2 : n = (15, 0)
  · subst e2; exact h2
  by_cases e3 : n = (14, 0)
  · subst e3; exact h3
  rw [hct n e1 e2 e3]
  rw [xl_m, decide_eq_false e1, decide_eq_false e2, Bool.false_or, Bool.false_or] at hl
  have hh : ∀ (k : Nat) (b : Nat), k ≠ 16 → k ≠ 15 → ad2 (k, b) = ad (k, b) := fun k b h4 h5 => ha _ (fun h => h4 (Prod.mk.inj h).1) (fun h => h5 (Prod.mk.inj h).1)
  obtain ⟨k, b⟩ := n
  have hk20 : k < 20 := x20 hl
  by_cases hke : k = 16
  · subst hke
    have hb : b ≠ (g 8 1) := fun h => e1 (by rw [h])
    unfold xC mvP
    simp only [gs_ni _ hb, gs, reduceCtorEq, if_false, if_neg hb, Nat.reduceEqDiff]
    try rfl
  · have hka : k ≠ 15 := fun h => by
      subst h
      have h9 : (decide (b = 0) && decide ((g 8 1) ≠ 0)) = true := hl
      simp only [Bool.and_eq_true, decide_eq_true_eq] at h9
      exact e2 (by rw [h9.1])
    have hkl : k ≠ 14 := fun h => by subst h; exact x_no hl e3 (by simp)
    rcases (show k = 0 ∨ k = 1 ∨ k = 2 ∨ k = 3 ∨ k = 4 ∨ k = 5 ∨ k = 6 ∨ k = 7 ∨ k = 8 ∨ k = 9 ∨ k = 10 ∨ k = 11 ∨ k = 12 ∨ k = 13 ∨ k = 14 ∨ k = 15 ∨ k = 16 ∨ k = 17 ∨ k = 18 ∨ k = 19 by omega) with rfl | rfl | rfl | rfl | rfl | rfl | rfl | rfl | rfl | rfl | rfl | rfl | rfl | rfl | rfl | rfl | rfl | rfl | rfl | rfl
    · show (Sum.inr (0, xF ad2 _) : va_E) = Sum.inr (0, xF ad _)
      unfold xF
      rw [hh 1 0 (by decide) (by decide), hh 4 0 (by decide) (by decide), hh 6 0 (by decide) (by decide), hh 7 0 (by decide) (by decide), hh 9 0 (by decide) (by decide), hh 10 0 (by decide) (by decide), hh 11 0 (by decide) (by decide), hh 14 0 (by decide) (by decide), hh 17 0 (by decide) (by decide), hh 19 0 (by decide) (by decide)]
      rfl
    · have e : (fun i => ad2 (2, i)) = fun i => ad (2, i) := funext (fun i => hh 2 i (by decide) (by decide))
      unfold xC
      simp only [show ∀ i, ad2 (2, i) = ad (2, i) from fun i => hh 2 i (by decide) (by decide)]
      try rfl
    · unfold xC
      simp only [hh 3 b (by decide) (by decide)]
      try rfl
    · rfl
    · have e : (fun i => ad2 (5, i)) = fun i => ad (5, i) := funext (fun i => hh 5 i (by decide) (by decide))
      unfold xC
      simp only [show ∀ i, ad2 (5, i) = ad (5, i) from fun i => hh 5 i (by decide) (by decide)]
      try rfl
    · rfl
    · rfl
    · have e : (fun i => ad2 (8, i)) = fun i => ad (8, i) := funext (fun i => hh 8 i (by decide) (by decide))
      unfold xC
      simp only [show ∀ i, ad2 (8, i) = ad (8, i) from fun i => hh 8 i (by decide) (by decide)]
      try rfl
    · rfl
    · rfl
    · rfl
    · show xLst cn (g 8 0) (ad2 (12, 0)) = xLst cn (g 8 0) (ad (12, 0))
      rw [hh 12 0 (by decide) (by decide)]
    · have e : (fun i => ad2 (13, i)) = fun i => ad (13, i) := funext (fun i => hh 13 i (by decide) (by decide))
      unfold xC
      simp only [show ∀ i, ad2 (13, i) = ad (13, i) from fun i => hh 13 i (by decide) (by decide)]
      try rfl
    · rfl
    · exact absurd rfl hkl
    · exact absurd rfl hka
    · exact absurd rfl hke
    · have e : (fun i => ad2 (18, i)) = fun i => ad (18, i) := funext (fun i => hh 18 i (by decide) (by decide))
      unfold xC
      simp only [show ∀ i, ad2 (18, i) = ad (18, i) from fun i => hh 18 i (by decide) (by decide)]
      try rfl
    · rfl
    · rfl
theorem xs_m {va vb vk vn : Nat} {ad : NM → Nat} {L : List NM} {e0 q0 : Nat} (ha : ∀ n, xP n = true → ad n = pa n) (hL : ∀ n, n ∈ L ↔ xL g n = true) (hP : PL D A L ad (xC dA cn ad g) (T ++ [(e0, (.inr (4, [.int (nI va), .int (nI vb), .int (nI vk), .int (nI vn)]) : va_E))]) H) (hq0 : L[q0]? = some (14, 0)) {q1 : Nat} (hq1 : L[q1]? = some (15, 0)) (hN : (g 8 1) ≠ 0) (hdead : (16, (g 8 1)) ∉ L) (hfN : (va_up (fun i => opB (decide (i < (g 8 1))) (ad (16, i))) (g 8 1) (some e0)) = fun i => opB (decide (i < (g 8 1) + 1)) (if i = (g 8 1) then e0 else ad (16, i))) (hlt : (g 8 1) < capN (g 8 1)) {H1 : Heap} (g1 : va_P D clA (((zp_W L ad (xC dA cn ad g) ++ (T ++ [(e0, (.inr (4, [.int (nI va), .int (nI vb), .int (nI vk), .int (nI vn)]) : va_E))])).set q1 ((if (g 8 1) = 0 then cn 0 else ad (15, 0)), xR (dA 5) (capN (g 8 1)) (va_up (fun i => opB (decide (i < (g 8 1))) (ad (16, i))) (g 8 1) (some e0)))).set q0 (ad (14, 0), (.inr (8, [.int (nI ((g 8 1) + 1)), .ref (if (g 8 1) = 0 then cn 0 else ad (15, 0)), .int (nI ((g 8 1) + 1))]) : va_E))) H1) (g2 : va_D A (((zp_W L ad (xC dA cn ad g) ++ (T ++ [(e0, (.inr (4, [.int (nI va), .int (nI vb), .int (nI vk), .int (nI vn)]) : va_E))])).set q1 ((if (g 8 1) = 0 then cn 0 else ad (15, 0)), xR (dA 5) (capN (g 8 1)) (va_up (fun i => opB (decide (i < (g 8 1))) (ad (16, i))) (g 8 1) (some e0)))).set q0 (ad (14, 0), (.inr (8, [.int (nI ((g 8 1) + 1)), .ref (if (g 8 1) = 0 then cn 0 else ad (15, 0)), .int (nI ((g 8 1) + 1))]) : va_E)))) : XS D dA cn A pa (mvP g va vb vk vn) T H1 := by
  rw [if_neg hN] at g1 g2
  rw [zp_set hP.1 hq1, zp_set hP.1 hq0] at g1 g2
  have hPL : PL D A L ad _ (T ++ [(e0, (.inr (4, [.int (nI va), .int (nI vb), .int (nI vk), .int (nI vn)]) : va_E))]) H1 := ⟨hP.1, g1, g2⟩
  have hQ := hPL.name (n := (16, (g 8 1))) hdead
  have hcap := capN_yes hlt
  refine XS.mk2 ?_ ?_ hQ ?_
  · intro n hp
    have e1 : n ≠ (16, (g 8 1)) := fun h => by subst h; exact Bool.false_ne_true hp
    have e2 : n ≠ (15, 0) := fun h => by subst h; exact Bool.false_ne_true hp
    simp only [if_neg e1, if_neg e2]
    exact ha n hp
  · intro n
    rw [List.mem_append, List.mem_singleton, hL, xl_m, Bool.or_eq_true, Bool.or_eq_true, decide_eq_true_eq, decide_eq_true_eq]
    constructor
    · rintro (h | h)
      · exact Or.inr (Or.inr h)
      · exact Or.inl h
    · rintro (h | h | h)
      · exact Or.inr h
      · subst h; exact Or.inl ((hL _).mp (List.mem_of_getElem? hq1))
      · exact Or.inl h
  · refine xc_m (ad := ad) ?_ ?_ ?_ ?_ ?_
    · intro n e1 e2
      simp only [if_neg e1, if_neg e2]
    · intro n e1 e2 e3
      simp only [if_neg e1, if_neg e2, if_neg e3]
    · simp only [if_true]
      unfold xC mvP
      simp [gs]
      try rfl
    · simp only [if_neg (show ((15, 0) : NM) ≠ (16, (g 8 1)) from fun h => absurd (Prod.mk.inj h).1 (by decide)), if_true, if_neg (show ((15, 0) : NM) ≠ (14, 0) from fun h => absurd (Prod.mk.inj h).1 (by decide))]
      rw [hfN, ← hcap]
      show xR (dA 5) (capN ((g 8 1) + 1)) _ = _
      congr 5
      funext i
      by_cases hi : i = (g 8 1)
      · simp [hi, mvP_n]
      · have h8 : ((16, i) : NM) ≠ (15, 0) := fun h => absurd (Prod.mk.inj h).1 (by decide)
        simp only [if_neg hi, mvP_n, if_neg h8, if_neg (show ((16, i) : NM) ≠ (16, (g 8 1)) from fun h => hi (Prod.mk.inj h).2)]
        congr
    · simp only [if_neg (show ((14, 0) : NM) ≠ (16, (g 8 1)) from fun h => absurd (Prod.mk.inj h).1 (by decide)), if_neg (show ((14, 0) : NM) ≠ (15, 0) from fun h => absurd (Prod.mk.inj h).1 (by decide)), if_true]
      show xLst cn ((g 8 1) + 1) _ = _
      simp [xLst, hN]
theorem xg_m {va vb vk vn : Nat} {ad : NM → Nat} {L : List NM} {e0 q0 : Nat} (ha : ∀ n, xP n = true → ad n = pa n) (hL : ∀ n, n ∈ L ↔ xL g n = true) (hP : PL D A L ad (xC dA cn ad g) (T ++ [(e0, (.inr (4, [.int (nI va), .int (nI vb), .int (nI vk), .int (nI vn)]) : va_E))]) H) (hq0 : L[q0]? = some (14, 0))  (hdead : (16, (g 8 1)) ∉ L) (hfN : (va_up (fun i => opB (decide (i < (g 8 1))) (ad (16, i))) (g 8 1) (some e0)) = fun i => opB (decide (i < (g 8 1) + 1)) (if i = (g 8 1) then e0 else ad (16, i))) (hlt : ¬ (g 8 1) < capN (g 8 1)) {q : Nat} {H1 : Heap} (g1 : va_P D clA ((zp_W L ad (xC dA cn ad g) ++ (T ++ [(e0, (.inr (4, [.int (nI va), .int (nI vb), .int (nI vk), .int (nI vn)]) : va_E))])).set q0 (ad (14, 0), (.inr (8, [.int (nI ((g 8 1) + 1)), .ref q, .int (nI ((g 8 1) + 1))]) : va_E)) ++ [(q, xR (dA 5) (capG (g 8 1)) (va_up (fun i => opB (decide (i < (g 8 1))) (ad (16, i))) (g 8 1) (some e0)))]) H1) (g2 : va_D A ((zp_W L ad (xC dA cn ad g) ++ (T ++ [(e0, (.inr (4, [.int (nI va), .int (nI vb), .int (nI vk), .int (nI vn)]) : va_E))])).set q0 (ad (14, 0), (.inr (8, [.int (nI ((g 8 1) + 1)), .ref q, .int (nI ((g 8 1) + 1))]) : va_E)) ++ [(q, xR (dA 5) (capG (g 8 1)) (va_up (fun i => opB (decide (i < (g 8 1))) (ad (16, i))) (g 8 1) (some e0)))])) : XS D dA cn A pa (mvP g va vb vk vn) T H1 := by
  rw [zp_set hP.1 hq0, List.append_assoc] at g1 g2
  have hPL : PL D A L ad _ ((T ++ [(e0, (.inr (4, [.int (nI va), .int (nI vb), .int (nI vk), .int (nI vn)]) : va_E))]) ++ [(q, xR (dA 5) (capG (g 8 1)) (va_up (fun i => opB (decide (i < (g 8 1))) (ad (16, i))) (g 8 1) (some e0)))]) H1 := ⟨hP.1, g1, g2⟩
  have hm : ∀ n', n' ∈ L.filter (fun n' => decide (n' ≠ (15, 0))) ↔ n' ∈ L ∧ n' ≠ (15, 0) := fun n' => by rw [List.mem_filter, decide_eq_true_eq]
  have hQ1 := (hPL.kill (L' := L.filter (fun n' => decide (n' ≠ (15, 0)))) (hP.1.filter _) (fun n' h => ((hm n').mp h).1)).name (n := (15, 0)) (fun h => ((hm _).mp h).2 rfl)
  have hd2 : (16, (g 8 1)) ∉ L.filter (fun n' => decide (n' ≠ (15, 0))) ++ [(15, 0)] := fun h => by
    rcases List.mem_append.mp h with h | h
    · exact hdead ((hm _).mp h).1
    · exact absurd (Prod.mk.inj (List.mem_singleton.mp h)).1 (by decide)
  have hQ := hQ1.name hd2
  have hcap := (capN_no hlt).1
  refine XS.mk2 ?_ ?_ hQ ?_
  · intro n hp
    have e1 : n ≠ (16, (g 8 1)) := fun h => by subst h; exact Bool.false_ne_true hp
    have e2 : n ≠ (15, 0) := fun h => by subst h; exact Bool.false_ne_true hp
    simp only [if_neg e1, if_neg e2]
    exact ha n hp
  · intro n
    rw [List.mem_append, List.mem_append, List.mem_singleton, List.mem_singleton, hm, hL, xl_m, Bool.or_eq_true, Bool.or_eq_true, decide_eq_true_eq, decide_eq_true_eq]
    by_cases h9 : n = (15, 0)
    · simp [h9]
    · simp only [h9, ne_eq, not_false_eq_true, and_true, or_false, false_or]
      exact or_comm
  · refine xc_m (ad := ad) ?_ ?_ ?_ ?_ ?_
    · intro n e1 e2
      simp only [if_neg e1, if_neg e2]
    · intro n e1 e2 e3
      simp only [if_neg e1, if_neg e2, if_neg e3]
    · simp only [if_true]
      unfold xC mvP
      simp [gs]
      try rfl
    · simp only [if_neg (show ((15, 0) : NM) ≠ (16, (g 8 1)) from fun h => absurd (Prod.mk.inj h).1 (by decide)), if_true]
      rw [hfN, ← hcap]
      show xR (dA 5) (capN ((g 8 1) + 1)) _ = _
      congr 5
      funext i
      by_cases hi : i = (g 8 1)
      · simp [hi, mvP_n]
      · have h8 : ((16, i) : NM) ≠ (15, 0) := fun h => absurd (Prod.mk.inj h).1 (by decide)
        simp only [if_neg hi, mvP_n, if_neg h8, if_neg (show ((16, i) : NM) ≠ (16, (g 8 1)) from fun h => hi (Prod.mk.inj h).2)]
        congr
    · simp only [if_neg (show ((14, 0) : NM) ≠ (16, (g 8 1)) from fun h => absurd (Prod.mk.inj h).1 (by decide)), if_neg (show ((14, 0) : NM) ≠ (15, 0) from fun h => absurd (Prod.mk.inj h).1 (by decide)), if_true]
      show xLst cn ((g 8 1) + 1) _ = _
      simp [xLst]
theorem kL_add_m (S : CallFix p m c cc nL s args lw_all RX1) (hKX : KX D dA cn A s) {va vb vk vn : Nat} {e0 : Nat} (h : XS D dA cn A pa g (T ++ [(e0, (.inr (4, [.int (nI va), .int (nI vb), .int (nI vk), .int (nI vn)]) : va_E))]) H) (hS : va_S A s.heap H locs) (hA : ∀ q, H.size ≤ q → A q) (hn : (g 8 1) ≤ 2000) (hf : 8 + 1 ≤ R.frames) (hlo : 8 + (2 + 11) + 420 ≤ R.locals) (hsz : ls.size = nL) (hcat : (rest.map fun v => v.category).sum ≤ 8) (hq1 : cells + 1 ≤ R.cells) (hq2 : slots + 4000 ≤ R.slots) (hdg : decode cc pc = .ok (.invokeinterface 106 2, 5)) (kk : ∀ (H1 : Heap) (locs1 : List Loc), XS D dA cn A pa (mvP g va vb vk vn) T H1 → va_S A s.heap H1 locs1 → W p l e R s m args below meth c H1 locs1 (cells + 1) (slots + 4000) Q (F0 m (pc + 5) ls (.int (nI 1) :: rest))) : W p l e R s m args below meth c H locs cells slots Q (F0 m pc ls (.ref e0 :: .ref (pa (14, 0)) :: rest)) := by
  obtain ⟨ad, L, ha, hL, hP⟩ := h
  obtain ⟨q0, hq0⟩ := zp_idx ((hL (14, 0)).mpr rfl)
  have h0 := zp_at (T := (T ++ [(e0, (.inr (4, [.int (nI va), .int (nI vb), .int (nI vk), .int (nI vn)]) : va_E))])) (ad := ad) (ct := xC dA cn ad g) hq0
  have hL0 := (List.getElem?_eq_some_iff.mp hq0).1
  have he : (zp_W L ad (xC dA cn ad g) ++ (T ++ [(e0, (.inr (4, [.int (nI va), .int (nI vb), .int (nI vk), .int (nI vn)]) : va_E))]))[L.length + T.length]? = some (e0, .inr (4, [.int (nI va), .int (nI vb), .int (nI vk), .int (nI vn)])) := by rw [zp_tm]; simp
  have hEl : ∀ i, i < (g 8 1) → ∀ y, (fun i => opB (decide (i < (g 8 1))) (ad (16, i))) i = some y → ∃ (k : Nat) (fs : List Value), (zp_W L ad (xC dA cn ad g) ++ (T ++ [(e0, (.inr (4, [.int (nI va), .int (nI vb), .int (nI vk), .int (nI vn)]) : va_E))]))[k]? = some (y, .inr (4, fs)) := by
    intro i hi y hy
    have hy : opB (decide (i < (g 8 1))) (ad (16, i)) = some y := hy
    rw [decide_eq_true hi] at hy
    cases hy
    obtain ⟨k, hk⟩ := zp_idx ((hL (16, i)).mpr (by simp [xL, hi]))
    exact ⟨k, _, zp_at hk⟩
  have hf9 : ∀ i, (g 8 1) ≤ i → (fun i => opB (decide (i < (g 8 1))) (ad (16, i))) i = none := fun i hi => by show opB (decide (i < (g 8 1))) _ = none; rw [decide_eq_false (by omega)]; rfl
  have hfN : (va_up (fun i => opB (decide (i < (g 8 1))) (ad (16, i))) (g 8 1) (some e0)) = fun i => opB (decide (i < (g 8 1) + 1)) (if i = (g 8 1) then e0 else ad (16, i)) := by
    funext i
    unfold va_up
    by_cases hi : i = (g 8 1)
    · rw [if_pos hi, if_pos hi, decide_eq_true (by omega)]; rfl
    · rw [if_neg hi, if_neg hi]
      show opB (decide (i < (g 8 1))) _ = _
      rw [show decide (i < (g 8 1) + 1) = decide (i < (g 8 1)) from by rw [decide_eq_decide]; omega]
  have hdead : (16, (g 8 1)) ∉ L := fun hm => by
    have h9 : decide ((g 8 1) < (g 8 1)) = true := (hL _).mp hm
    simp at h9
  rw [← ha (14, 0) rfl]
  by_cases hN : (g 8 1) = 0
  · refine zc_callF (n := 1) (As := [.ref e0]) (rest := rest) ((hKX.1.1 8 _ rfl).2) S (cL_add l (q1 := 0) (ci := 4) (r := (RX5, TX5, 4)) (f := (fun i => opB (decide (i < (g 8 1))) (ad (16, i)))) H hA hP.2.1 hP.2.2 h0 (Or.inl ⟨hN, if_pos hN, by funext i; show opB (decide (i < (g 8 1))) _ = none; rw [hN]; rfl⟩) hn hf9 he (by omega) hEl rfl (fun U hU => hU.2.2.1 ("Hexstead$Move", "java/lang/Object") (List.mem_of_getElem? (i := 22) rfl)) (Post := fun v H1 => v = some (.int (nI 1)) ∧ XS D dA cn A pa (mvP g va vb vk vn) T H1) (fun hlt => absurd hlt (by rw [hN]; decide)) (fun hlt q H1 g1 g2 => ⟨rfl, xg_m ha hL hP hq0 hdead hfN hlt g1 g2⟩)) (lw_F q443 q449 q447 q74 q451) (hKX.2.1.2.1 ("java/util/ArrayList", ⟨"java/util/List", "add", "(Ljava/lang/Object;)Z"⟩, ⟨"java/util/ArrayList", "add", "(Ljava/lang/Object;)Z"⟩) (List.mem_of_getElem? (i := 2) rfl)) (by decide +kernel) ⟨hf, hlo⟩ ⟨hq1, hq2⟩ (va_recv hKX.1 hP.2.1 (ci := 8) (q0 := q0) rfl h0) KX_mv (zc_K KX_mv hKX hS) hS (fun _ h => h) rfl hsz rfl hcat hdg (fun v H1 locs1 hp _ _ hS1 => by obtain ⟨rfl, h1⟩ := hp; exact kk H1 locs1 h1 hS1)
  · obtain ⟨q1, hq1'⟩ := zp_idx ((hL (15, 0)).mpr (by simp [xL, hN]))
    have h1 := zp_at (T := (T ++ [(e0, (.inr (4, [.int (nI va), .int (nI vb), .int (nI vk), .int (nI vn)]) : va_E))])) (ad := ad) (ct := xC dA cn ad g) hq1'
    have hne : q1 ≠ q0 := fun hq => by
      rw [hq, hq0] at hq1'
      exact absurd (Prod.mk.inj (Option.some.inj hq1')).1 (by decide)
    refine zc_callF (n := 1) (As := [.ref e0]) (rest := rest) ((hKX.1.1 8 _ rfl).2) S (cL_add l (q1 := q1) (ci := 4) (r := (RX5, TX5, 4)) (f := (fun i => opB (decide (i < (g 8 1))) (ad (16, i)))) H hA hP.2.1 hP.2.2 h0 (Or.inr ⟨(capN_all (g 8 1)).2.2 (by omega), hne, by rw [h1, if_neg hN]; rfl⟩) hn hf9 he (by omega) hEl rfl (fun U hU => hU.2.2.1 ("Hexstead$Move", "java/lang/Object") (List.mem_of_getElem? (i := 22) rfl)) (Post := fun v H1 => v = some (.int (nI 1)) ∧ XS D dA cn A pa (mvP g va vb vk vn) T H1) (fun hlt H1 g1 g2 => ⟨rfl, xs_m ha hL hP hq0 hq1' hN hdead hfN hlt g1 g2⟩) (fun hlt q H1 g1 g2 => ⟨rfl, xg_m ha hL hP hq0 hdead hfN hlt g1 g2⟩)) (lw_F q443 q449 q447 q74 q451) (hKX.2.1.2.1 ("java/util/ArrayList", ⟨"java/util/List", "add", "(Ljava/lang/Object;)Z"⟩, ⟨"java/util/ArrayList", "add", "(Ljava/lang/Object;)Z"⟩) (List.mem_of_getElem? (i := 2) rfl)) (by decide +kernel) ⟨hf, hlo⟩ ⟨hq1, hq2⟩ (va_recv hKX.1 hP.2.1 (ci := 8) (q0 := q0) rfl h0) KX_mv (zc_K KX_mv hKX hS) hS (fun _ h => h) rfl hsz rfl hcat hdg (fun v H1 locs1 hp _ _ hS1 => by obtain ⟨rfl, h1⟩ := hp; exact kk H1 locs1 h1 hS1)
theorem cdP_n (g : G) (vw vb : Nat) : (cdP g vw vb) 8 0 = (g 8 0) + 1 := rfl
theorem xl_c {g : G} {vw vb : Nat} (n : NM) : xL (cdP g vw vb) n = (decide (n = (13, (g 8 0))) || (decide (n = (12, 0)) || xL g n)) := by
  obtain ⟨a, b⟩ := n
  by_cases h1 : (a, b) = ((13, (g 8 0)) : NM)
  · obtain ⟨rfl, rfl⟩ := Prod.mk.inj h1
    rw [decide_eq_true (rfl : ((13, (g 8 0)) : NM) = (13, (g 8 0))), Bool.true_or]
    show decide ((g 8 0) < (g 8 0) + 1) = true
    simp
  · by_cases h2 : (a, b) = ((12, 0) : NM)
    · obtain ⟨rfl, rfl⟩ := Prod.mk.inj h2
      rw [decide_eq_true (rfl : ((12, 0) : NM) = (12, 0)), Bool.true_or, Bool.or_true]
      show (decide ((0 : Nat) = 0) && decide ((g 8 0) + 1 ≠ 0)) = true
      simp
    · rw [decide_eq_false h1, decide_eq_false h2, Bool.false_or, Bool.false_or]
      by_cases h3 : a = 13
      · subst h3
        have hb : b ≠ (g 8 0) := fun h => h1 (by rw [h])
        show decide (b < (g 8 0) + 1) = decide (b < (g 8 0))
        rw [decide_eq_decide]
        omega
      · by_cases h4 : a = 12
        · subst h4
          have hb : b ≠ 0 := fun h => h2 (by rw [h])
          show (decide (b = 0) && _) = (decide (b = 0) && _)
          simp [hb]
        · unfold xL
          split <;> first | rfl | (exfalso; rename_i h9; first | exact h3 h9 | exact h4 h9)
theorem xc_c {g : G} {vw vb : Nat} {ad2 ad : NM → Nat} {ct2 : NM → va_E} (ha : ∀ n, n ≠ (13, (g 8 0)) → n ≠ (12, 0) → ad2 n = ad n) (hct : ∀ n, n ≠ (13, (g 8 0)) → n ≠ (12, 0) → n ≠ (11, 0) → ct2 n = xC dA cn ad g n)
    (h1 : xC dA cn ad2 (cdP g vw vb) (13, (g 8 0)) = ct2 (13, (g 8 0))) (h2 : xC dA cn ad2 (cdP g vw vb) (12, 0) = ct2 (12, 0)) (h3 : xC dA cn ad2 (cdP g vw vb) (11, 0) = ct2 (11, 0)) : ∀ n, xL (cdP g vw vb) n = true → xC dA cn ad2 (cdP g vw vb) n = ct2 n := by
  intro n hl
  by_cases e1 : n = (13, (g 8 0))
  · subst e1; exact h1
  by_cases e2 : n = (12, 0)
  · subst e2; exact h2
  by_cases e3 : n = (11, 0)
  · subst e3; exact h3
  rw [hct n e1 e2 e3]
  rw [xl_c, decide_eq_false e1, decide_eq_false e2, Bool.false_or, Bool.false_or] at hl
  have hh : ∀ (k : Nat) (b : Nat), k ≠ 13 → k ≠ 12 → ad2 (k, b) = ad (k, b) := fun k b h4 h5 => ha _ (fun h => h4 (Prod.mk.inj h).1) (fun h => h5 (Prod.mk.inj h).1)
  obtain ⟨k, b⟩ := n
  have hk20 : k < 20 := x20 hl
  by_cases hke : k = 13
  · subst hke
    have hb : b ≠ (g 8 0) := fun h => e1 (by rw [h])
    unfold xC cdP
    simp only [gs_ni _ hb, gs, reduceCtorEq, if_false, if_neg hb, Nat.reduceEqDiff]
    try rfl
  · have hka : k ≠ 12 := fun h => by
      subst h
      have h9 : (decide (b = 0) && decide ((g 8 0) ≠ 0)) = true := hl
      simp only [Bool.and_eq_true, decide_eq_true_eq] at h9
      exact e2 (by rw [h9.1])
    have hkl : k ≠ 11 := fun h => by subst h; exact x_no hl e3 (by simp)
    rcases (show k = 0 ∨ k = 1 ∨ k = 2 ∨ k = 3 ∨ k = 4 ∨ k = 5 ∨ k = 6 ∨ k = 7 ∨ k = 8 ∨ k = 9 ∨ k = 10 ∨ k = 11 ∨ k = 12 ∨ k = 13 ∨ k = 14 ∨ k = 15 ∨ k = 16 ∨ k = 17 ∨ k = 18 ∨ k = 19 by omega) with rfl | rfl | rfl | rfl | rfl | rfl | rfl | rfl | rfl | rfl | rfl | rfl | rfl | rfl | rfl | rfl | rfl | rfl | rfl | rfl
    · show (Sum.inr (0, xF ad2 _) : va_E) = Sum.inr (0, xF ad _)
      unfold xF
      rw [hh 1 0 (by decide) (by decide), hh 4 0 (by decide) (by decide), hh 6 0 (by decide) (by decide), hh 7 0 (by decide) (by decide), hh 9 0 (by decide) (by decide), hh 10 0 (by decide) (by decide), hh 11 0 (by decide) (by decide), hh 14 0 (by decide) (by decide), hh 17 0 (by decide) (by decide), hh 19 0 (by decide) (by decide)]
      rfl
    · have e : (fun i => ad2 (2, i)) = fun i => ad (2, i) := funext (fun i => hh 2 i (by decide) (by decide))
      unfold xC
      simp only [show ∀ i, ad2 (2, i) = ad (2, i) from fun i => hh 2 i (by decide) (by decide)]
      try rfl
    · unfold xC
      simp only [hh 3 b (by decide) (by decide)]
      try rfl
    · rfl
    · have e : (fun i => ad2 (5, i)) = fun i => ad (5, i) := funext (fun i => hh 5 i (by decide) (by decide))
      unfold xC
      simp only [show ∀ i, ad2 (5, i) = ad (5, i) from fun i => hh 5 i (by decide) (by decide)]
      try rfl
    · rfl
    · rfl
    · have e : (fun i => ad2 (8, i)) = fun i => ad (8, i) := funext (fun i => hh 8 i (by decide) (by decide))
      unfold xC
      simp only [show ∀ i, ad2 (8, i) = ad (8, i) from fun i => hh 8 i (by decide) (by decide)]
      try rfl
    · rfl
    · rfl
    · rfl
    · exact absurd rfl hkl
    · exact absurd rfl hka
    · exact absurd rfl hke
    · show xLst cn (g 8 1) (ad2 (15, 0)) = xLst cn (g 8 1) (ad (15, 0))
      rw [hh 15 0 (by decide) (by decide)]
    · have e : (fun i => ad2 (16, i)) = fun i => ad (16, i) := funext (fun i => hh 16 i (by decide) (by decide))
      unfold xC
      simp only [show ∀ i, ad2 (16, i) = ad (16, i) from fun i => hh 16 i (by decide) (by decide)]
      try rfl
    · rfl
    · have e : (fun i => ad2 (18, i)) = fun i => ad (18, i) := funext (fun i => hh 18 i (by decide) (by decide))
      unfold xC
      simp only [show ∀ i, ad2 (18, i) = ad (18, i) from fun i => hh 18 i (by decide) (by decide)]
      try rfl
    · rfl
    · rfl
theorem xs_c {vw vb : Nat} {ad : NM → Nat} {L : List NM} {e0 q0 : Nat} (ha : ∀ n, xP n = true → ad n = pa n) (hL : ∀ n, n ∈ L ↔ xL g n = true) (hP : PL D A L ad (xC dA cn ad g) (T ++ [(e0, (.inr (6, [.ref (cn (3 + deckK (g 8 0))), .int (nI vw), .int (nI vb), .int 0]) : va_E))]) H) (hq0 : L[q0]? = some (11, 0)) {q1 : Nat} (hq1 : L[q1]? = some (12, 0)) (hN : (g 8 0) ≠ 0) (hdead : (13, (g 8 0)) ∉ L) (hfN : (va_up (fun i => opB (decide (i < (g 8 0))) (ad (13, i))) (g 8 0) (some e0)) = fun i => opB (decide (i < (g 8 0) + 1)) (if i = (g 8 0) then e0 else ad (13, i))) (hlt : (g 8 0) < capN (g 8 0)) {H1 : Heap} (g1 : va_P D clA (((zp_W L ad (xC dA cn ad g) ++ (T ++ [(e0, (.inr (6, [.ref (cn (3 + deckK (g 8 0))), .int (nI vw), .int (nI vb), .int 0]) : va_E))])).set q1 ((if (g 8 0) = 0 then cn 0 else ad (12, 0)), xR (dA 5) (capN (g 8 0)) (va_up (fun i => opB (decide (i < (g 8 0))) (ad (13, i))) (g 8 0) (some e0)))).set q0 (ad (11, 0), (.inr (8, [.int (nI ((g 8 0) + 1)), .ref (if (g 8 0) = 0 then cn 0 else ad (12, 0)), .int (nI ((g 8 0) + 1))]) : va_E))) H1) (g2 : va_D A (((zp_W L ad (xC dA cn ad g) ++ (T ++ [(e0, (.inr (6, [.ref (cn (3 + deckK (g 8 0))), .int (nI vw), .int (nI vb), .int 0]) : va_E))])).set q1 ((if (g 8 0) = 0 then cn 0 else ad (12, 0)), xR (dA 5) (capN (g 8 0)) (va_up (fun i => opB (decide (i < (g 8 0))) (ad (13, i))) (g 8 0) (some e0)))).set q0 (ad (11, 0), (.inr (8, [.int (nI ((g 8 0) + 1)), .ref (if (g 8 0) = 0 then cn 0 else ad (12, 0)), .int (nI ((g 8 0) + 1))]) : va_E)))) : XS D dA cn A (upA pa (13, g 8 0) e0) (cdP g vw vb) T H1 := by
  rw [if_neg hN] at g1 g2
  rw [zp_set hP.1 hq1, zp_set hP.1 hq0] at g1 g2
  have hPL : PL D A L ad _ (T ++ [(e0, (.inr (6, [.ref (cn (3 + deckK (g 8 0))), .int (nI vw), .int (nI vb), .int 0]) : va_E))]) H1 := ⟨hP.1, g1, g2⟩
  have hQ := hPL.name (n := (13, (g 8 0))) hdead
  have hcap := capN_yes hlt
  refine XS.mk2 ?_ ?_ hQ ?_
  · intro n hp
    have e2 : n ≠ (12, 0) := fun h => by subst h; exact Bool.false_ne_true hp
    unfold upA
    by_cases e1 : n = (13, (g 8 0))
    · simp only [if_pos e1]
    · simp only [if_neg e1, if_neg e2]
      exact ha n hp
  · intro n
    rw [List.mem_append, List.mem_singleton, hL, xl_c, Bool.or_eq_true, Bool.or_eq_true, decide_eq_true_eq, decide_eq_true_eq]
    constructor
    · rintro (h | h)
      · exact Or.inr (Or.inr h)
      · exact Or.inl h
    · rintro (h | h | h)
      · exact Or.inr h
      · subst h; exact Or.inl ((hL _).mp (List.mem_of_getElem? hq1))
      · exact Or.inl h
  · refine xc_c (ad := ad) ?_ ?_ ?_ ?_ ?_
    · intro n e1 e2
      simp only [if_neg e1, if_neg e2]
    · intro n e1 e2 e3
      simp only [if_neg e1, if_neg e2, if_neg e3]
    · simp only [if_true]
      unfold xC cdP
      simp [gs]
      try rfl
    · simp only [if_neg (show ((12, 0) : NM) ≠ (13, (g 8 0)) from fun h => absurd (Prod.mk.inj h).1 (by decide)), if_true, if_neg (show ((12, 0) : NM) ≠ (11, 0) from fun h => absurd (Prod.mk.inj h).1 (by decide))]
      rw [hfN, ← hcap]
      show xR (dA 5) (capN ((g 8 0) + 1)) _ = _
      congr 5
      funext i
      by_cases hi : i = (g 8 0)
      · simp [hi, cdP_n]
      · have h8 : ((13, i) : NM) ≠ (12, 0) := fun h => absurd (Prod.mk.inj h).1 (by decide)
        simp only [if_neg hi, cdP_n, if_neg h8, if_neg (show ((13, i) : NM) ≠ (13, (g 8 0)) from fun h => hi (Prod.mk.inj h).2)]
        congr
    · simp only [if_neg (show ((11, 0) : NM) ≠ (13, (g 8 0)) from fun h => absurd (Prod.mk.inj h).1 (by decide)), if_neg (show ((11, 0) : NM) ≠ (12, 0) from fun h => absurd (Prod.mk.inj h).1 (by decide)), if_true]
      show xLst cn ((g 8 0) + 1) _ = _
      simp [xLst, hN]
theorem xg_c {vw vb : Nat} {ad : NM → Nat} {L : List NM} {e0 q0 : Nat} (ha : ∀ n, xP n = true → ad n = pa n) (hL : ∀ n, n ∈ L ↔ xL g n = true) (hP : PL D A L ad (xC dA cn ad g) (T ++ [(e0, (.inr (6, [.ref (cn (3 + deckK (g 8 0))), .int (nI vw), .int (nI vb), .int 0]) : va_E))]) H) (hq0 : L[q0]? = some (11, 0))  (hdead : (13, (g 8 0)) ∉ L) (hfN : (va_up (fun i => opB (decide (i < (g 8 0))) (ad (13, i))) (g 8 0) (some e0)) = fun i => opB (decide (i < (g 8 0) + 1)) (if i = (g 8 0) then e0 else ad (13, i))) (hlt : ¬ (g 8 0) < capN (g 8 0)) {q : Nat} {H1 : Heap} (g1 : va_P D clA ((zp_W L ad (xC dA cn ad g) ++ (T ++ [(e0, (.inr (6, [.ref (cn (3 + deckK (g 8 0))), .int (nI vw), .int (nI vb), .int 0]) : va_E))])).set q0 (ad (11, 0), (.inr (8, [.int (nI ((g 8 0) + 1)), .ref q, .int (nI ((g 8 0) + 1))]) : va_E)) ++ [(q, xR (dA 5) (capG (g 8 0)) (va_up (fun i => opB (decide (i < (g 8 0))) (ad (13, i))) (g 8 0) (some e0)))]) H1) (g2 : va_D A ((zp_W L ad (xC dA cn ad g) ++ (T ++ [(e0, (.inr (6, [.ref (cn (3 + deckK (g 8 0))), .int (nI vw), .int (nI vb), .int 0]) : va_E))])).set q0 (ad (11, 0), (.inr (8, [.int (nI ((g 8 0) + 1)), .ref q, .int (nI ((g 8 0) + 1))]) : va_E)) ++ [(q, xR (dA 5) (capG (g 8 0)) (va_up (fun i => opB (decide (i < (g 8 0))) (ad (13, i))) (g 8 0) (some e0)))])) : XS D dA cn A (upA pa (13, g 8 0) e0) (cdP g vw vb) T H1 := by
  rw [zp_set hP.1 hq0, List.append_assoc] at g1 g2
  have hPL : PL D A L ad _ ((T ++ [(e0, (.inr (6, [.ref (cn (3 + deckK (g 8 0))), .int (nI vw), .int (nI vb), .int 0]) : va_E))]) ++ [(q, xR (dA 5) (capG (g 8 0)) (va_up (fun i => opB (decide (i < (g 8 0))) (ad (13, i))) (g 8 0) (some e0)))]) H1 := ⟨hP.1, g1, g2⟩
  have hm : ∀ n', n' ∈ L.filter (fun n' => decide (n' ≠ (12, 0))) ↔ n' ∈ L ∧ n' ≠ (12, 0) := fun n' => by rw [List.mem_filter, decide_eq_true_eq]
  have hQ1 := (hPL.kill (L' := L.filter (fun n' => decide (n' ≠ (12, 0)))) (hP.1.filter _) (fun n' h => ((hm n').mp h).1)).name (n := (12, 0)) (fun h => ((hm _).mp h).2 rfl)
  have hd2 : (13, (g 8 0)) ∉ L.filter (fun n' => decide (n' ≠ (12, 0))) ++ [(12, 0)] := fun h => by
    rcases List.mem_append.mp h with h | h
    · exact hdead ((hm _).mp h).1
    · exact absurd (Prod.mk.inj (List.mem_singleton.mp h)).1 (by decide)
  have hQ := hQ1.name hd2
  have hcap := (capN_no hlt).1
  refine XS.mk2 ?_ ?_ hQ ?_
  · intro n hp
    have e2 : n ≠ (12, 0) := fun h => by subst h; exact Bool.false_ne_true hp
    unfold upA
    by_cases e1 : n = (13, (g 8 0))
    · simp only [if_pos e1]
    · simp only [if_neg e1, if_neg e2]
      exact ha n hp
  · intro n
    rw [List.mem_append, List.mem_append, List.mem_singleton, List.mem_singleton, hm, hL, xl_c, Bool.or_eq_true, Bool.or_eq_true, decide_eq_true_eq, decide_eq_true_eq]
    by_cases h9 : n = (12, 0)
    · simp [h9]
    · simp only [h9, ne_eq, not_false_eq_true, and_true, or_false, false_or]
      exact or_comm
  · refine xc_c (ad := ad) ?_ ?_ ?_ ?_ ?_
    · intro n e1 e2
      simp only [if_neg e1, if_neg e2]
    · intro n e1 e2 e3
      simp only [if_neg e1, if_neg e2, if_neg e3]
    · simp only [if_true]
      unfold xC cdP
      simp [gs]
      try rfl
    · simp only [if_neg (show ((12, 0) : NM) ≠ (13, (g 8 0)) from fun h => absurd (Prod.mk.inj h).1 (by decide)), if_true]
      rw [hfN, ← hcap]
      show xR (dA 5) (capN ((g 8 0) + 1)) _ = _
      congr 5
      funext i
      by_cases hi : i = (g 8 0)
      · simp [hi, cdP_n]
      · have h8 : ((13, i) : NM) ≠ (12, 0) := fun h => absurd (Prod.mk.inj h).1 (by decide)
        simp only [if_neg hi, cdP_n, if_neg h8, if_neg (show ((13, i) : NM) ≠ (13, (g 8 0)) from fun h => hi (Prod.mk.inj h).2)]
        congr
    · simp only [if_neg (show ((11, 0) : NM) ≠ (13, (g 8 0)) from fun h => absurd (Prod.mk.inj h).1 (by decide)), if_neg (show ((11, 0) : NM) ≠ (12, 0) from fun h => absurd (Prod.mk.inj h).1 (by decide)), if_true]
      show xLst cn ((g 8 0) + 1) _ = _
      simp [xLst]
theorem kL_add_c (S : CallFix p m c cc nL s args lw_all RX1) (hKX : KX D dA cn A s) {vw vb : Nat} {e0 : Nat} (h : XS D dA cn A pa g (T ++ [(e0, (.inr (6, [.ref (cn (3 + deckK (g 8 0))), .int (nI vw), .int (nI vb), .int 0]) : va_E))]) H) (hS : va_S A s.heap H locs) (hA : ∀ q, H.size ≤ q → A q) (hn : (g 8 0) ≤ 2000) (hf : 8 + 1 ≤ R.frames) (hlo : 8 + (2 + 11) + 420 ≤ R.locals) (hsz : ls.size = nL) (hcat : (rest.map fun v => v.category).sum ≤ 8) (hq1 : cells + 1 ≤ R.cells) (hq2 : slots + 4000 ≤ R.slots) (hdg : decode cc pc = .ok (.invokeinterface 106 2, 5)) (kk : ∀ (H1 : Heap) (locs1 : List Loc), XS D dA cn A (upA pa (13, g 8 0) e0) (cdP g vw vb) T H1 → va_S A s.heap H1 locs1 → W p l e R s m args below meth c H1 locs1 (cells + 1) (slots + 4000) Q (F0 m (pc + 5) ls (.int (nI 1) :: rest))) : W p l e R s m args below meth c H locs cells slots Q (F0 m pc ls (.ref e0 :: .ref (pa (11, 0)) :: rest)) := by
  obtain ⟨ad, L, ha, hL, hP⟩ := h
  obtain ⟨q0, hq0⟩ := zp_idx ((hL (11, 0)).mpr rfl)
  have h0 := zp_at (T := (T ++ [(e0, (.inr (6, [.ref (cn (3 + deckK (g 8 0))), .int (nI vw), .int (nI vb), .int 0]) : va_E))])) (ad := ad) (ct := xC dA cn ad g) hq0
  have hL0 := (List.getElem?_eq_some_iff.mp hq0).1
  have he : (zp_W L ad (xC dA cn ad g) ++ (T ++ [(e0, (.inr (6, [.ref (cn (3 + deckK (g 8 0))), .int (nI vw), .int (nI vb), .int 0]) : va_E))]))[L.length + T.length]? = some (e0, .inr (6, [.ref (cn (3 + deckK (g 8 0))), .int (nI vw), .int (nI vb), .int 0])) := by rw [zp_tm]; simp
  have hEl : ∀ i, i < (g 8 0) → ∀ y, (fun i => opB (decide (i < (g 8 0))) (ad (13, i))) i = some y → ∃ (k : Nat) (fs : List Value), (zp_W L ad (xC dA cn ad g) ++ (T ++ [(e0, (.inr (6, [.ref (cn (3 + deckK (g 8 0))), .int (nI vw), .int (nI vb), .int 0]) : va_E))]))[k]? = some (y, .inr (6, fs)) := by
    intro i hi y hy
    have hy : opB (decide (i < (g 8 0))) (ad (13, i)) = some y := hy
    rw [decide_eq_true hi] at hy
    cases hy
    obtain ⟨k, hk⟩ := zp_idx ((hL (13, i)).mpr (by simp [xL, hi]))
    exact ⟨k, _, zp_at hk⟩
  have hf9 : ∀ i, (g 8 0) ≤ i → (fun i => opB (decide (i < (g 8 0))) (ad (13, i))) i = none := fun i hi => by show opB (decide (i < (g 8 0))) _ = none; rw [decide_eq_false (by omega)]; rfl
  have hfN : (va_up (fun i => opB (decide (i < (g 8 0))) (ad (13, i))) (g 8 0) (some e0)) = fun i => opB (decide (i < (g 8 0) + 1)) (if i = (g 8 0) then e0 else ad (13, i)) := by
    funext i
    unfold va_up
    by_cases hi : i = (g 8 0)
    · rw [if_pos hi, if_pos hi, decide_eq_true (by omega)]; rfl
    · rw [if_neg hi, if_neg hi]
      show opB (decide (i < (g 8 0))) _ = _
      rw [show decide (i < (g 8 0) + 1) = decide (i < (g 8 0)) from by rw [decide_eq_decide]; omega]
  have hdead : (13, (g 8 0)) ∉ L := fun hm => by
    have h9 : decide ((g 8 0) < (g 8 0)) = true := (hL _).mp hm
    simp at h9
  rw [← ha (11, 0) rfl]
  by_cases hN : (g 8 0) = 0
  · refine zc_callF (n := 1) (As := [.ref e0]) (rest := rest) ((hKX.1.1 8 _ rfl).2) S (cL_add l (q1 := 0) (ci := 6) (r := (RX8, TX8, 4)) (f := (fun i => opB (decide (i < (g 8 0))) (ad (13, i)))) H hA hP.2.1 hP.2.2 h0 (Or.inl ⟨hN, if_pos hN, by funext i; show opB (decide (i < (g 8 0))) _ = none; rw [hN]; rfl⟩) hn hf9 he (by omega) hEl rfl (fun U hU => hU.2.2.1 ("Hexstead$Card", "java/lang/Object") (List.mem_of_getElem? (i := 26) rfl)) (Post := fun v H1 => v = some (.int (nI 1)) ∧ XS D dA cn A (upA pa (13, g 8 0) e0) (cdP g vw vb) T H1) (fun hlt => absurd hlt (by rw [hN]; decide)) (fun hlt q H1 g1 g2 => ⟨rfl, xg_c ha hL hP hq0 hdead hfN hlt g1 g2⟩)) (lw_F q443 q449 q447 q74 q451) (hKX.2.1.2.1 ("java/util/ArrayList", ⟨"java/util/List", "add", "(Ljava/lang/Object;)Z"⟩, ⟨"java/util/ArrayList", "add", "(Ljava/lang/Object;)Z"⟩) (List.mem_of_getElem? (i := 2) rfl)) (by decide +kernel) ⟨hf, hlo⟩ ⟨hq1, hq2⟩ (va_recv hKX.1 hP.2.1 (ci := 8) (q0 := q0) rfl h0) KX_mv (zc_K KX_mv hKX hS) hS (fun _ h => h) rfl hsz rfl hcat hdg (fun v H1 locs1 hp _ _ hS1 => by obtain ⟨rfl, h1⟩ := hp; exact kk H1 locs1 h1 hS1)
  · obtain ⟨q1, hq1'⟩ := zp_idx ((hL (12, 0)).mpr (by simp [xL, hN]))
    have h1 := zp_at (T := (T ++ [(e0, (.inr (6, [.ref (cn (3 + deckK (g 8 0))), .int (nI vw), .int (nI vb), .int 0]) : va_E))])) (ad := ad) (ct := xC dA cn ad g) hq1'
    have hne : q1 ≠ q0 := fun hq => by
      rw [hq, hq0] at hq1'
      exact absurd (Prod.mk.inj (Option.some.inj hq1')).1 (by decide)
    refine zc_callF (n := 1) (As := [.ref e0]) (rest := rest) ((hKX.1.1 8 _ rfl).2) S (cL_add l (q1 := q1) (ci := 6) (r := (RX8, TX8, 4)) (f := (fun i => opB (decide (i < (g 8 0))) (ad (13, i)))) H hA hP.2.1 hP.2.2 h0 (Or.inr ⟨(capN_all (g 8 0)).2.2 (by omega), hne, by rw [h1, if_neg hN]; rfl⟩) hn hf9 he (by omega) hEl rfl (fun U hU => hU.2.2.1 ("Hexstead$Card", "java/lang/Object") (List.mem_of_getElem? (i := 26) rfl)) (Post := fun v H1 => v = some (.int (nI 1)) ∧ XS D dA cn A (upA pa (13, g 8 0) e0) (cdP g vw vb) T H1) (fun hlt H1 g1 g2 => ⟨rfl, xs_c ha hL hP hq0 hq1' hN hdead hfN hlt g1 g2⟩) (fun hlt q H1 g1 g2 => ⟨rfl, xg_c ha hL hP hq0 hdead hfN hlt g1 g2⟩)) (lw_F q443 q449 q447 q74 q451) (hKX.2.1.2.1 ("java/util/ArrayList", ⟨"java/util/List", "add", "(Ljava/lang/Object;)Z"⟩, ⟨"java/util/ArrayList", "add", "(Ljava/lang/Object;)Z"⟩) (List.mem_of_getElem? (i := 2) rfl)) (by decide +kernel) ⟨hf, hlo⟩ ⟨hq1, hq2⟩ (va_recv hKX.1 hP.2.1 (ci := 8) (q0 := q0) rfl h0) KX_mv (zc_K KX_mv hKX hS) hS (fun _ h => h) rfl hsz rfl hcat hdg (fun v H1 locs1 hp _ _ hS1 => by obtain ⟨rfl, h1⟩ := hp; exact kk H1 locs1 h1 hS1)
end ZL
