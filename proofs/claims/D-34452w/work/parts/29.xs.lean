/-! THE CLASS's PICTURE. Names (kind, index): 0 the object, 1 hexes, 2 hex h, 3 its corners, 4 buildings, 5 building at c, 6 roads, 7 hands, 8 hand p, 9 due, 10 knights, 11 list of cards, 12 its array, 13 card i, 14 list of moves, 15 its array, 16 move i, 17 counters, 18 counter p, 19 offer.
T: the running methods' own cells (gains, iterators ..), with their addresses. cn: addresses of constants: 0 the lists' empty array, 1 the class object of Object[], 2 the deck, 3 + k the kind k. hidden: the addresses of 12, 15, 16 -/
def deckK (i : Nat) : Nat := [0, 4, 1, 0, 2, 3, 0, 4, 0, 1, 2, 0, 3, 0, 4].getD i 0
theorem deckK_lt (i : Nat) : deckK i < 5 := by
  by_cases h : i < 15
  · have key : ∀ i, i < 15 → deckK i < 5 := by decide
    exact key i h
  · unfold deckK
    rw [List.getD_eq_getElem?_getD, List.getElem?_eq_none (by show 15 ≤ i; omega)]
    decide
def cornA (h k : Nat) : Nat := if h = 0 then k else if k = 0 then h - 1 else if k = 1 then h % 6 else 6 + (3 * (h - 1) + k - 2) % 18
/-- the room of a list that was added to n times -/
def capG (c : Nat) : Nat := if c = 0 then 10 else c + c / 2
def capN : Nat → Nat
  | 0 => 0
  | n + 1 => if n < capN n then capN n else capG (capN n)
theorem capN_all : ∀ n, n ≤ capN n ∧ capN n ≤ 2 * n + 10 ∧ (0 < n → 10 ≤ capN n) := by
  intro n
  induction n with
  | zero => exact ⟨Nat.le_refl _, by decide, fun h => absurd h (Nat.lt_irrefl _)⟩
  | succ n ih =>
    show n + 1 ≤ (if n < capN n then capN n else capG (capN n)) ∧ (if n < capN n then capN n else capG (capN n)) ≤ 2 * (n + 1) + 10 ∧ (0 < n + 1 → 10 ≤ (if n < capN n then capN n else capG (capN n)))
    obtain ⟨h1, h2, h3⟩ := ih
    by_cases h : n < capN n
    · rw [if_pos h]
      refine ⟨by omega, by omega, fun _ => ?_⟩
      by_cases h0 : 0 < n
      · exact h3 h0
      · have : n = 0 := by omega
        subst this
        exact absurd h (by decide)
    · rw [if_neg h]
      have e : capN n = n := by omega
      rw [e]
      unfold capG
      by_cases h0 : n = 0
      · rw [if_pos h0]; omega
      · rw [if_neg h0]
        have := h3 (by omega)
        omega
theorem capN_ge (n : Nat) : n ≤ capN n := (capN_all n).1
theorem capN_le (n : Nat) : capN n ≤ 2 * n + 10 := (capN_all n).2.1
theorem capN_yes {n : Nat} (h : n < capN n) : capN (n + 1) = capN n := by
  show (if n < capN n then capN n else capG (capN n)) = _
  rw [if_pos h]
theorem capN_no {n : Nat} (h : ¬ n < capN n) : capN (n + 1) = capG n ∧ capN n = n := by
  have e : capN n = n := by have := capN_ge n; omega
  refine ⟨?_, e⟩
  show (if n < capN n then capN n else capG (capN n)) = _
  rw [if_neg h, e]
def opB (b : Bool) (a : Nat) : Option Nat := if b then some a else none
abbrev xI (dA : Nat → ClassId) (n : Nat) (f : Nat → Int32) : va_E := .inl (dA 0, n, .inl f)
abbrev xR (cA : ClassId) (n : Nat) (f : Nat → Option Nat) : va_E := .inl (cA, n, .inr (.inr (.inr (.inr f))))
abbrev xF (ad : NM → Nat) (g : G) : List Value := [.ref (ad (1, 0)), .ref (ad (4, 0)), .ref (ad (6, 0)), .ref (ad (7, 0)), .ref (ad (9, 0)), .ref (ad (10, 0)), .ref (ad (11, 0)), .ref (ad (14, 0)), .ref (ad (17, 0)), va_rf (opB (decide (g 26 0 ≠ 0)) (ad (19, 0))), .int (nI (g 7 0)), .int (nI (g 7 1)), .int (nI (g 7 2)), .int (nI (g 7 3)), .int (nI (g 7 4)), .int (nI (g 7 5)), .int (nI (g 7 6)), .int (mI (g 7 7)), .int (mI (g 7 8))]
abbrev xLst (cn : Nat → Nat) (n q : Nat) : va_E := .inr (8, [.int (nI n), .ref (if n = 0 then cn 0 else q), .int (nI n)])
def xC (dA : Nat → ClassId) (cn : Nat → Nat) (ad : NM → Nat) (g : G) (n : NM) : va_E := match n.1 with
  | 0 => .inr (0, xF ad g)
  | 1 => xR (dA 1) 7 (fun h => some (ad (2, h)))
  | 2 => .inr (1, [.ref (ad (3, n.2)), .int (nI (g 0 n.2)), .int (nI (g 1 n.2))])
  | 3 => xI dA 6 (fun k => nI (cornA n.2 k))
  | 4 => xR (dA 2) 24 (fun c => opB (decide (g 2 c ≠ 0)) (ad (5, c)))
  | 5 => if g 2 n.2 ≤ 3 then .inr (3, [.int (mI (g 2 n.2))]) else .inr (5, [.int (nI (g 2 n.2 - 4))])
  | 6 => xI dA 30 (fun e => mI (g 3 e))
  | 7 => xR (dA 3) 4 (fun p => some (ad (8, p)))
  | 8 => xI dA 5 (fun k => if k < 5 then nI (g 4 (5 * n.2 + k)) else nI 0)
  | 9 => xI dA 3 (fun p => nI (g 5 p))
  | 10 => xI dA 3 (fun p => nI (g 6 p))
  | 11 => xLst cn (g 8 0) (ad (12, 0))
  | 12 => xR (dA 5) (capN (g 8 0)) (fun i => opB (decide (i < g 8 0)) (ad (13, i)))
  | 13 => .inr (6, [.ref (cn (3 + deckK n.2)), .int (nI (g 9 n.2)), .int (nI (g 10 n.2)), .int (nI (g 11 n.2))])
  | 14 => xLst cn (g 8 1) (ad (15, 0))
  | 15 => xR (dA 5) (capN (g 8 1)) (fun i => opB (decide (i < g 8 1)) (ad (16, i)))
  | 16 => .inr (4, [.int (nI (g 12 n.2)), .int (nI (g 13 n.2)), .int (nI (g 14 n.2)), .int (nI (g 15 n.2))])
  | 17 => xR (dA 4) 3 (fun p => opB (decide (g 16 p ≠ 0)) (ad (18, p)))
  | 18 => .inr (7, [.int (nI (g 16 n.2)), .int (nI (g 17 n.2))])
  | _ => .inr (7, [.int (nI (g 26 0)), .int (nI (g 26 1))])
/-- which names live -/
def xL (g : G) (n : NM) : Bool := match n.1 with
  | 2 => decide (n.2 < 7)
  | 3 => decide (n.2 < 7)
  | 5 => decide (n.2 < 24) && decide (g 2 n.2 ≠ 0)
  | 8 => decide (n.2 < 4)
  | 12 => decide (n.2 = 0) && decide (g 8 0 ≠ 0)
  | 13 => decide (n.2 < g 8 0)
  | 15 => decide (n.2 = 0) && decide (g 8 1 ≠ 0)
  | 16 => decide (n.2 < g 8 1)
  | 18 => decide (n.2 < 3) && decide (g 16 n.2 ≠ 0)
  | 19 => decide (n.2 = 0) && decide (g 26 0 ≠ 0)
  | k => decide (k < 19) && decide (n.2 = 0)
/-- names whose addresses may be held over a call -/
def xP (n : NM) : Bool := decide (n.1 ≠ 12) && (decide (n.1 ≠ 15) && decide (n.1 ≠ 16))
/-- with all addresses said -/
def XA (D : va_G) (dA : Nat → ClassId) (cn : Nat → Nat) (A : Nat → Prop) (ad : NM → Nat) (g : G) (T : va_W) (H : Heap) : Prop :=
  ∃ L : List NM, (∀ n, n ∈ L ↔ xL g n = true) ∧ PL D A L ad (xC dA cn ad g) T H
def XS (D : va_G) (dA : Nat → ClassId) (cn : Nat → Nat) (A : Nat → Prop) (pa : NM → Nat) (g : G) (T : va_W) (H : Heap) : Prop :=
  ∃ (ad : NM → Nat) (L : List NM), (∀ n, xP n = true → ad n = pa n) ∧ (∀ n, n ∈ L ↔ xL g n = true) ∧ PL D A L ad (xC dA cn ad g) T H
theorem xC_pub {dA : Nat → ClassId} {cn : Nat → Nat} {ad pa : NM → Nat} {g : G} {n : NM} (h : ∀ n, xP n = true → ad n = pa n) (h1 : n.1 ≠ 11) (h2 : n.1 ≠ 14) (h3 : n.1 ≠ 15) : xC dA cn ad g n = xC dA cn pa g n := by
  unfold xC
  split <;> first | rfl | (exfalso; omega) | skip
  · simp only [xF, h (1, 0) rfl, h (4, 0) rfl, h (6, 0) rfl, h (7, 0) rfl, h (9, 0) rfl, h (10, 0) rfl, h (11, 0) rfl, h (14, 0) rfl, h (17, 0) rfl, h (19, 0) rfl]
  · simp only [h (2, _) rfl]
  · simp only [h (3, _) rfl]
  · simp only [h (5, _) rfl]
  · simp only [h (8, _) rfl]
  · simp only [h (13, _) rfl]
  · simp only [h (18, _) rfl]
section ZA
variable {D : va_G} {dA : Nat → ClassId} {cn : Nat → Nat} {A : Nat → Prop} {ad pa : NM → Nat} {g : G} {T : va_W} {H H1 : Heap}
theorem XA.toS (h : XA D dA cn A ad g T H) (hp : ∀ n, xP n = true → ad n = pa n) : XS D dA cn A pa g T H := by
  obtain ⟨L, h1, h2⟩ := h
  exact ⟨ad, L, hp, h1, h2⟩
theorem XS.toA (h : XS D dA cn A pa g T H) : ∃ ad : NM → Nat, (∀ n, xP n = true → ad n = pa n) ∧ XA D dA cn A ad g T H := by
  obtain ⟨ad, L, h0, h1, h2⟩ := h
  exact ⟨ad, h0, L, h1, h2⟩
theorem XA.cell (h : XA D dA cn A ad g T H) {n : NM} (hl : xL g n = true) : va_at D clA (ad n, xC dA cn ad g n) H := by
  obtain ⟨L, h1, h2⟩ := h
  exact h2.cell ((h1 n).mpr hl)
theorem XA.ne (h : XA D dA cn A ad g T H) {n m : NM} (hn : xL g n = true) (hm : xL g m = true) (hne : n ≠ m) : ad n ≠ ad m := by
  obtain ⟨L, h1, h2⟩ := h
  exact fun e => hne (h2.inj ((h1 n).mpr hn) ((h1 m).mpr hm) e)
theorem XA.apart (h : XA D dA cn A ad g T H) {n : NM} (hn : xL g n = true) {q : Nat × va_E} (hq : q ∈ T) : ad n ≠ q.1 := by
  obtain ⟨L, h1, h2⟩ := h
  exact h2.apart ((h1 n).mpr hn) hq
/-- cells in T: read -/
theorem XA.tP (h : XA D dA cn A ad g T H) : va_P D clA T H := by
  obtain ⟨L, h1, h2⟩ := h
  exact h2.tP
theorem XA.tD (h : XA D dA cn A ad g T H) : va_D A T := by
  obtain ⟨L, h1, h2⟩ := h
  exact h2.tD
theorem XS.tP (h : XS D dA cn A pa g T H) : va_P D clA T H := by
  obtain ⟨ad, hp, hA⟩ := h.toA
  exact hA.tP
theorem XS.tD (h : XS D dA cn A pa g T H) : va_D A T := by
  obtain ⟨ad, hp, hA⟩ := h.toA
  exact hA.tD
/-- a heap in which all cells of the picture are as they were; T may have changed -/
theorem XA.kept {T1 : va_W} {A1 : Nat → Prop} (h : XA D dA cn A ad g T H) (hA : ∀ q, A q → A1 q) (hk : ∀ n, xL g n = true → H1[ad n]? = H[ad n]?) (hT : va_P D clA T1 H1) (hD : va_D A1 T1) (hx : ∀ q ∈ T1, ∀ n, xL g n = true → ad n ≠ q.1) : XA D dA cn A1 ad g T1 H1 := by
  obtain ⟨L, h1, h2⟩ := h
  refine ⟨L, h1, PL.of h2.1 (fun n hn => (h2.cell hn).kept (hk n ((h1 n).mp hn))) (fun n hn => hA _ (h2.own hn)) (fun a ha b hb e => h2.inj ha hb e) hT hD (fun n hn q hq => hx q hq n ((h1 n).mp hn))⟩
theorem XA.lt (h : XA D dA cn A ad g T H) {n : NM} (hl : xL g n = true) : ad n < H.size := (h.cell hl).lt
/-- nothing old has changed -/
theorem XA.old (h : XA D dA cn A ad g T H) (hk : ∀ q : Nat, q < H.size → H1[q]? = H[q]?) : XA D dA cn A ad g T H1 :=
  h.kept (fun _ h => h) (fun n hn => hk _ (h.lt hn)) (va_P.ofm (fun q hq => (h.tP.mem hq).kept (hk _ (h.tP.mem hq).lt))) h.tD (fun q hq n hn => h.apart hn hq)
theorem XS.old (h : XS D dA cn A pa g T H) (hk : ∀ q : Nat, q < H.size → H1[q]? = H[q]?) : XS D dA cn A pa g T H1 := by
  obtain ⟨ad, hp, hA⟩ := h.toA
  exact (hA.old hk).toS hp
theorem XA.drop {T' : va_W} (h : XA D dA cn A ad g (T ++ T') H) : XA D dA cn A ad g T H := by
  obtain ⟨L, h1, h2⟩ := h
  exact ⟨L, h1, h2.drop⟩
theorem XS.drop {T' : va_W} (h : XS D dA cn A pa g (T ++ T') H) : XS D dA cn A pa g T H := by
  obtain ⟨ad, hp, hA⟩ := h.toA
  exact hA.drop.toS hp
end ZA
