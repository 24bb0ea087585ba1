/-! EULER: trails of a finite multigraph with the edges below N, the ends vA and vB (plain Lean, no program in sight) -/
def eu_tr (vA vB : Nat → Nat) : Nat → List Nat → Nat → Prop
  | u, [], v => u = v
  | u, e :: es, v => (vA e = u ∧ eu_tr vA vB (vB e) es v) ∨ (vB e = u ∧ eu_tr vA vB (vA e) es v)
def eu_sm : Nat → (Nat → Nat) → Nat
  | 0, _ => 0
  | n + 1, f => eu_sm n f + f n
def eu_i (a b : Nat) : Nat := if a = b then 1 else 0
def eu_dg (vA vB : Nat → Nat) (N : Nat) (s : Nat → Bool) (x : Nat) : Nat := eu_sm N (fun e => if s e = true then eu_i (vA e) x + eu_i (vB e) x else 0)
def eu_ls (es : List Nat) : Nat → Bool := fun e => decide (e ∈ es)
theorem eu_i_self (a : Nat) : eu_i a a = 1 := by simp [eu_i]
theorem eu_i_ne {a b : Nat} (h : a ≠ b) : eu_i a b = 0 := by simp [eu_i, h]
theorem eu_sm_congr {n : Nat} {f g : Nat → Nat} (h : ∀ i, i < n → f i = g i) : eu_sm n f = eu_sm n g := by
  induction n with
  | zero => rfl
  | succ n ih =>
    show eu_sm n f + f n = eu_sm n g + g n
    rw [ih (fun i hi => h i (Nat.lt_succ_of_lt hi)), h n (Nat.lt_succ_self n)]
theorem eu_sm_add (n : Nat) (f g : Nat → Nat) : eu_sm n (fun i => f i + g i) = eu_sm n f + eu_sm n g := by
  induction n with
  | zero => rfl
  | succ n ih =>
    show eu_sm n (fun i => f i + g i) + (f n + g n) = (eu_sm n f + f n) + (eu_sm n g + g n)
    rw [ih]; omega
theorem eu_sm_zero {n : Nat} {f : Nat → Nat} (h : ∀ i, i < n → f i = 0) : eu_sm n f = 0 := by
  induction n with
  | zero => rfl
  | succ n ih =>
    show eu_sm n f + f n = 0
    rw [ih (fun i hi => h i (Nat.lt_succ_of_lt hi)), h n (Nat.lt_succ_self n)]
theorem eu_sm_one (n k : Nat) (c : Nat) (h : k < n) : eu_sm n (fun i => if i = k then c else 0) = c := by
  induction n with
  | zero => omega
  | succ n ih =>
    show eu_sm n (fun i => if i = k then c else 0) + (if n = k then c else 0) = c
    by_cases hk : n = k
    · subst hk
      rw [if_pos rfl, eu_sm_zero (fun i hi => if_neg (by omega))]
      omega
    · rw [if_neg hk, ih (by omega)]
      omega
theorem eu_sm_le {n : Nat} {f g : Nat → Nat} (h : ∀ i, i < n → f i ≤ g i) : eu_sm n f ≤ eu_sm n g := by
  induction n with
  | zero => exact Nat.le_refl _
  | succ n ih => exact Nat.add_le_add (ih (fun i hi => h i (Nat.lt_succ_of_lt hi))) (h n (Nat.lt_succ_self n))
theorem eu_sm_const (n c : Nat) : eu_sm n (fun _ => c) = n * c := by
  induction n with
  | zero => show 0 = 0 * c; omega
  | succ n ih =>
    show eu_sm n (fun _ => c) + c = (n + 1) * c
    rw [ih, Nat.succ_mul]
theorem eu_ls_mem {es : List Nat} {e : Nat} : eu_ls es e = true ↔ e ∈ es := by simp [eu_ls]
theorem eu_ls_not {es : List Nat} {e : Nat} : eu_ls es e = false ↔ e ∉ es := by simp [eu_ls]
theorem eu_sum_cons {N e : Nat} {es : List Nat} (d : Nat → Nat) (hn : e ∉ es) (he : e < N) : eu_sm N (fun j => if eu_ls (e :: es) j = true then d j else 0) = eu_sm N (fun j => if eu_ls es j = true then d j else 0) + d e := by
  have h : eu_sm N (fun j => if eu_ls (e :: es) j = true then d j else 0) = eu_sm N (fun j => (if eu_ls es j = true then d j else 0) + (if j = e then d e else 0)) := by
    refine eu_sm_congr (fun j _ => ?_)
    by_cases hj : j = e
    · subst hj
      rw [if_pos (eu_ls_mem.mpr List.mem_cons_self), if_neg (fun h => hn (eu_ls_mem.mp h)), if_pos rfl]
      omega
    · rw [if_neg hj]
      by_cases hm : j ∈ es
      · rw [if_pos (eu_ls_mem.mpr (List.mem_cons_of_mem _ hm)), if_pos (eu_ls_mem.mpr hm)]
        exact (Nat.add_zero _).symm
      · rw [if_neg (fun h => by rcases List.mem_cons.mp (eu_ls_mem.mp h) with h | h; exact hj h; exact hm h), if_neg (fun h => hm (eu_ls_mem.mp h))]
  rw [h, eu_sm_add, eu_sm_one N e (d e) he]
theorem eu_sum_nil (N : Nat) (d : Nat → Nat) : eu_sm N (fun j => if eu_ls [] j = true then d j else 0) = 0 := eu_sm_zero (fun i _ => by simp [eu_ls])
theorem eu_dg_cons {vA vB : Nat → Nat} {N e : Nat} {es : List Nat} (x : Nat) (hn : e ∉ es) (he : e < N) : eu_dg vA vB N (eu_ls (e :: es)) x = eu_dg vA vB N (eu_ls es) x + (eu_i (vA e) x + eu_i (vB e) x) := eu_sum_cons (fun e => eu_i (vA e) x + eu_i (vB e) x) hn he
theorem eu_dg_nil (vA vB : Nat → Nat) (N x : Nat) : eu_dg vA vB N (eu_ls []) x = 0 := eu_sum_nil N _
theorem eu_dg_split {vA vB : Nat → Nat} {N : Nat} {s t : Nat → Bool} (x : Nat) (h : ∀ e, t e = true → s e = true) : eu_dg vA vB N s x = eu_dg vA vB N t x + eu_dg vA vB N (fun e => s e && !t e) x := by
  unfold eu_dg
  rw [← eu_sm_add]
  refine eu_sm_congr (fun j _ => ?_)
  have hj := h j
  cases hs : s j <;> cases ht : t j <;> simp_all
theorem eu_dg_zero {vA vB : Nat → Nat} {N : Nat} {s : Nat → Bool} {x : Nat} (h : ∀ e, s e = true → vA e ≠ x ∧ vB e ≠ x) : eu_dg vA vB N s x = 0 := by
  refine eu_sm_zero (fun i _ => ?_)
  by_cases hs : s i = true
  · rw [if_pos hs, eu_i_ne (h i hs).1, eu_i_ne (h i hs).2]
  · rw [if_neg hs]
theorem eu_parity {vA vB : Nat → Nat} {N : Nat} (x : Nat) : ∀ (es : List Nat) (u v : Nat), es.Nodup → (∀ e ∈ es, e < N) → eu_tr vA vB u es v → (eu_dg vA vB N (eu_ls es) x + eu_i u x + eu_i v x) % 2 = 0 := by
  intro es
  induction es with
  | nil =>
    intro u v _ _ h
    have h : u = v := h
    subst h
    rw [eu_dg_nil]
    omega
  | cons e es ih =>
    intro u v hn hN h
    have hn := List.nodup_cons.mp hn
    rw [eu_dg_cons x hn.1 (hN e List.mem_cons_self)]
    rcases h with ⟨h1, h2⟩ | ⟨h1, h2⟩
    · have := ih _ _ hn.2 (fun f hf => hN f (List.mem_cons_of_mem _ hf)) h2
      rw [h1]; omega
    · have := ih _ _ hn.2 (fun f hf => hN f (List.mem_cons_of_mem _ hf)) h2
      rw [h1]; omega
theorem eu_append {vA vB : Nat → Nat} : ∀ (a b : List Nat) (u w : Nat), eu_tr vA vB u (a ++ b) w ↔ ∃ x, eu_tr vA vB u a x ∧ eu_tr vA vB x b w := by
  intro a
  induction a with
  | nil =>
    intro b u w
    constructor
    · intro h; exact ⟨u, rfl, h⟩
    · intro h
      obtain ⟨x, h1, h2⟩ := h
      have h1 : u = x := h1
      subst h1; exact h2
  | cons e a ih =>
    intro b u w
    constructor
    · intro h
      rcases h with ⟨h1, h2⟩ | ⟨h1, h2⟩
      · obtain ⟨x, g1, g2⟩ := (ih b _ w).mp h2
        exact ⟨x, Or.inl ⟨h1, g1⟩, g2⟩
      · obtain ⟨x, g1, g2⟩ := (ih b _ w).mp h2
        exact ⟨x, Or.inr ⟨h1, g1⟩, g2⟩
    · intro h
      obtain ⟨x, h, g2⟩ := h
      rcases h with ⟨h1, h2⟩ | ⟨h1, h2⟩
      · exact Or.inl ⟨h1, (ih b _ w).mpr ⟨x, h2, g2⟩⟩
      · exact Or.inr ⟨h1, (ih b _ w).mpr ⟨x, h2, g2⟩⟩
theorem eu_split {vA vB : Nat → Nat} {e x : Nat} (hx : vA e = x ∨ vB e = x) : ∀ (es : List Nat) (u v : Nat), e ∈ es → eu_tr vA vB u es v → ∃ a b, es = a ++ b ∧ eu_tr vA vB u a x ∧ eu_tr vA vB x b v := by
  intro es
  induction es with
  | nil => intro u v h; cases h
  | cons f es ih =>
    intro u v hm h
    by_cases hf : e = f
    · subst hf
      rcases h with ⟨h1, h2⟩ | ⟨h1, h2⟩
      · rcases hx with hx | hx
        · exact ⟨[], e :: es, rfl, (h1.symm.trans hx : u = x), by rw [← hx]; exact Or.inl ⟨rfl, h2⟩⟩
        · exact ⟨[e], es, rfl, Or.inl ⟨h1, (hx : vB e = x)⟩, by rw [← hx]; exact h2⟩
      · rcases hx with hx | hx
        · exact ⟨[e], es, rfl, Or.inr ⟨h1, (hx : vA e = x)⟩, by rw [← hx]; exact h2⟩
        · exact ⟨[], e :: es, rfl, (h1.symm.trans hx : u = x), by rw [← hx]; exact Or.inr ⟨rfl, h2⟩⟩
    · have hm : e ∈ es := by
        rcases List.mem_cons.mp hm with h | h
        · exact absurd h hf
        · exact h
      rcases h with ⟨h1, h2⟩ | ⟨h1, h2⟩
      · obtain ⟨a, b, e1, g1, g2⟩ := ih _ _ hm h2
        exact ⟨f :: a, b, by rw [e1]; rfl, Or.inl ⟨h1, g1⟩, g2⟩
      · obtain ⟨a, b, e1, g1, g2⟩ := ih _ _ hm h2
        exact ⟨f :: a, b, by rw [e1]; rfl, Or.inr ⟨h1, g1⟩, g2⟩
theorem eu_card {N : Nat} : ∀ es : List Nat, es.Nodup → (∀ e ∈ es, e < N) → eu_sm N (fun j => if eu_ls es j = true then 1 else 0) = es.length := by
  intro es
  induction es with
  | nil => intro _ _; exact eu_sum_nil N _
  | cons e es ih =>
    intro hn hN
    have hn := List.nodup_cons.mp hn
    rw [eu_sum_cons (fun _ => 1) hn.1 (hN e List.mem_cons_self), ih hn.2 (fun f hf => hN f (List.mem_cons_of_mem _ hf))]
    rfl
theorem eu_len {N : Nat} {es : List Nat} (hn : es.Nodup) (hN : ∀ e ∈ es, e < N) : es.length ≤ N := by
  rw [← eu_card es hn hN]
  have h : eu_sm N (fun j => if eu_ls es j = true then 1 else 0) ≤ eu_sm N (fun _ => 1) := eu_sm_le (fun i _ => by by_cases h : eu_ls es i = true <;> simp [h])
  rw [eu_sm_const] at h
  omega
theorem eu_max (P : List Nat → Prop) (N : Nat) (hb : ∀ l, P l → l.length ≤ N) : ∀ (d : Nat) (l : List Nat), P l → N - l.length ≤ d → ∃ m, P m ∧ l.length ≤ m.length ∧ ∀ k, P k → k.length ≤ m.length := by
  intro d
  induction d with
  | zero =>
    intro l h hd
    have := hb l h
    exact ⟨l, h, Nat.le_refl _, fun k hk => by have := hb k hk; omega⟩
  | succ d ih =>
    intro l h hd
    by_cases hx : ∃ k, P k ∧ l.length < k.length
    · obtain ⟨k, h1, h2⟩ := hx
      have := hb k h1
      obtain ⟨m, g1, g2, g3⟩ := ih k h1 (by omega)
      exact ⟨m, g1, by omega, g3⟩
    · exact ⟨l, h, Nat.le_refl _, fun k hk => Nat.le_of_not_lt (fun q => hx ⟨k, hk, q⟩)⟩
theorem eu_nodup3 {a b c : List Nat} (h : (a ++ b).Nodup) (hc : c.Nodup) (hd : ∀ e ∈ c, e ∉ a ++ b) : (a ++ c ++ b).Nodup ∧ ((b ++ a) ++ c).Nodup := by
  rw [List.nodup_append] at h
  obtain ⟨h1, h2, h3⟩ := h
  have hca : ∀ e ∈ c, e ∉ a := fun e he q => hd e he (List.mem_append_left _ q)
  have hcb : ∀ e ∈ c, e ∉ b := fun e he q => hd e he (List.mem_append_right _ q)
  refine ⟨?_, ?_⟩
  · rw [List.nodup_append, List.nodup_append]
    refine ⟨⟨h1, hc, fun x hx y hy e => hca y hy (e ▸ hx)⟩, h2, fun x hx y hy e => ?_⟩
    rcases List.mem_append.mp hx with q | q
    · exact h3 x q y hy e
    · exact hcb x q (e ▸ hy)
  · rw [List.nodup_append, List.nodup_append]
    refine ⟨⟨h2, h1, fun x hx y hy e => h3 y hy x hx e.symm⟩, hc, fun x hx y hy e => ?_⟩
    rcases List.mem_append.mp hx with q | q
    · exact hcb y hy (e ▸ q)
    · exact hca y hy (e ▸ q)
theorem eu_main {vA vB : Nat → Nat} {N : Nat} {s : Nat → Bool} (hN : ∀ e, s e = true → e < N)
    (hconn : ∀ t : Nat → Bool, (∀ e, t e = true → s e = true) → (∃ e, t e = true) → (∃ f, s f = true ∧ t f = false) → ∃ e f x, t e = true ∧ s f = true ∧ t f = false ∧ (vA e = x ∨ vB e = x) ∧ (vA f = x ∨ vB f = x))
    (hodd : ∃ a b, ∀ x, x ≠ a → x ≠ b → eu_dg vA vB N s x % 2 = 0) : ∃ (u : Nat) (es : List Nat) (v : Nat), eu_tr vA vB u es v ∧ es.Nodup ∧ ∀ e, e ∈ es ↔ s e = true := by
  have hlen : ∀ l : List Nat, (l.Nodup ∧ (∀ e ∈ l, s e = true) ∧ ∃ u v, eu_tr vA vB u l v) → l.length ≤ N := fun l h => eu_len h.1 (fun e he => hN e (h.2.1 e he))
  obtain ⟨T, ⟨hTn, hTs, u, v, hT⟩, -, hmax⟩ := eu_max (fun l => l.Nodup ∧ (∀ e ∈ l, s e = true) ∧ ∃ u v, eu_tr vA vB u l v) N hlen N [] ⟨List.nodup_nil, fun e he => (by cases he), 0, 0, rfl⟩ (by simp)
  refine ⟨u, T, v, hT, hTn, fun e => ⟨hTs e, fun he => ?_⟩⟩
  refine Classical.byContradiction fun hout => ?_
  have hne : T ≠ [] := by
    intro q
    have := hmax [e] ⟨List.nodup_cons.mpr ⟨by simp, List.nodup_nil⟩, fun f hf => by rw [List.mem_singleton.mp hf]; exact he, vA e, vB e, Or.inl ⟨rfl, rfl⟩⟩
    rw [q] at this
    simp at this
  obtain ⟨e0, he0⟩ := List.exists_mem_of_ne_nil T hne
  obtain ⟨e1, f, x, h1, h2, h3, h4, h5⟩ := hconn (eu_ls T) (fun a ha => hTs a (eu_ls_mem.mp ha)) ⟨e0, eu_ls_mem.mpr he0⟩ ⟨e, he, eu_ls_not.mpr hout⟩
  obtain ⟨T1, T2, hTe, g1, g2⟩ := eu_split h4 T u v (eu_ls_mem.mp h1) hT
  have hfr : f ∉ T := eu_ls_not.mp h3
  have hD0 : ([f] : List Nat).Nodup ∧ (∀ a ∈ [f], s a = true ∧ a ∉ T) ∧ ∃ y, eu_tr vA vB x [f] y := by
    refine ⟨List.nodup_cons.mpr ⟨by simp, List.nodup_nil⟩, fun a ha => by rw [List.mem_singleton.mp ha]; exact ⟨h2, hfr⟩, ?_⟩
    rcases h5 with h5 | h5
    · exact ⟨vB f, Or.inl ⟨h5, rfl⟩⟩
    · exact ⟨vA f, Or.inr ⟨h5, rfl⟩⟩
  obtain ⟨D, ⟨hDn, hDs, y, hD⟩, hD1, hDmax⟩ := eu_max (fun l => l.Nodup ∧ (∀ a ∈ l, s a = true ∧ a ∉ T) ∧ ∃ y, eu_tr vA vB x l y) N (fun l h => eu_len h.1 (fun a ha => hN a (h.2.1 a ha).1)) N [f] hD0 (by omega)
  have hD1 : 1 ≤ D.length := hD1
  have hDT : ∀ a ∈ D, a ∉ T1 ++ T2 := fun a ha => by rw [← hTe]; exact (hDs a ha).2
  have hTn' : (T1 ++ T2).Nodup := by rw [← hTe]; exact hTn
  obtain ⟨hn1, hn2⟩ := eu_nodup3 hTn' hDn hDT
  have hTs' : ∀ a ∈ T1 ++ T2, s a = true := fun a ha => hTs a (by rw [hTe]; exact ha)
  have hTl : T.length = T1.length + T2.length := by rw [hTe, List.length_append]
  by_cases hyx : y = x
  · subst hyx
    have := hmax (T1 ++ D ++ T2) ⟨hn1, fun a ha => by
      rcases List.mem_append.mp ha with q | q
      · rcases List.mem_append.mp q with q | q
        · exact hTs' a (List.mem_append_left _ q)
        · exact (hDs a q).1
      · exact hTs' a (List.mem_append_right _ q), u, v, (eu_append _ _ _ _).mpr ⟨y, (eu_append _ _ _ _).mpr ⟨y, g1, hD⟩, g2⟩⟩
    simp only [List.length_append] at this
    omega
  · have hDy : ∀ a, s a = true → a ∉ T → (vA a = y ∨ vB a = y) → a ∈ D := by
      intro a ha1 ha2 ha3
      refine Classical.byContradiction fun q => ?_
      have hx : ∃ z, eu_tr vA vB y [a] z := by
        rcases ha3 with h | h
        · exact ⟨vB a, Or.inl ⟨h, rfl⟩⟩
        · exact ⟨vA a, Or.inr ⟨h, rfl⟩⟩
      obtain ⟨z, hz⟩ := hx
      have := hDmax (D ++ [a]) ⟨by
        rw [List.nodup_append]
        refine ⟨hDn, List.nodup_cons.mpr ⟨by simp, List.nodup_nil⟩, fun b hb c hc e => ?_⟩
        rw [List.mem_singleton.mp hc] at e
        exact q (e ▸ hb), fun b hb => by
        rcases List.mem_append.mp hb with h | h
        · exact hDs b h
        · rw [List.mem_singleton.mp h]; exact ⟨ha1, ha2⟩, z, (eu_append _ _ _ _).mpr ⟨y, hD, hz⟩⟩
      simp only [List.length_append, List.length_singleton] at this
      omega
    have hsplitT := fun z => eu_dg_split (vA := vA) (vB := vB) (N := N) (s := s) (t := eu_ls T) z (fun a ha => hTs a (eu_ls_mem.mp ha))
    have hr : ∀ a, (s a && !eu_ls T a) = true ↔ s a = true ∧ a ∉ T := by
      intro a
      rw [Bool.and_eq_true, Bool.not_eq_true', eu_ls_not]
    have hsplitD : eu_dg vA vB N (fun a => s a && !eu_ls T a) y = eu_dg vA vB N (eu_ls D) y + eu_dg vA vB N (fun a => (s a && !eu_ls T a) && !eu_ls D a) y := eu_dg_split y (fun a ha => (hr a).mpr (hDs a (eu_ls_mem.mp ha)))
    have hz : eu_dg vA vB N (fun a => (s a && !eu_ls T a) && !eu_ls D a) y = 0 := by
      refine eu_dg_zero (fun a ha => ?_)
      have ha : ((s a && !eu_ls T a) && !eu_ls D a) = true := ha
      rw [Bool.and_eq_true, hr, Bool.not_eq_true', eu_ls_not] at ha
      exact ⟨fun q => ha.2 (hDy a ha.1.1 ha.1.2 (Or.inl q)), fun q => ha.2 (hDy a ha.1.1 ha.1.2 (Or.inr q))⟩
    have hpD := eu_parity (vA := vA) (vB := vB) (N := N) y D x y hDn (fun a ha => hN a (hDs a ha).1) hD
    rw [eu_i_ne (Ne.symm hyx), eu_i_self] at hpD
    have hry : eu_dg vA vB N (fun a => s a && !eu_ls T a) y % 2 = 1 := by rw [hsplitD, hz]; omega
    by_cases huv : u = v
    · subst huv
      have := hmax ((T2 ++ T1) ++ D) ⟨hn2, fun a ha => by
        rcases List.mem_append.mp ha with q | q
        · rcases List.mem_append.mp q with q | q
          · exact hTs' a (List.mem_append_right _ q)
          · exact hTs' a (List.mem_append_left _ q)
        · exact (hDs a q).1, x, y, (eu_append _ _ _ _).mpr ⟨x, (eu_append _ _ _ _).mpr ⟨u, g2, g1⟩, hD⟩⟩
      simp only [List.length_append] at this
      omega
    · have hTu : ∀ a, s a = true → a ∉ T → vA a ≠ u ∧ vB a ≠ u := by
        intro a ha1 ha2
        have key : ∀ z, eu_tr vA vB z (a :: T) v → False := fun z hz => by
          have := hmax (a :: T) ⟨List.nodup_cons.mpr ⟨ha2, hTn⟩, fun b hb => by
            rcases List.mem_cons.mp hb with h | h
            · rw [h]; exact ha1
            · exact hTs b h, z, v, hz⟩
          simp only [List.length_cons] at this
          omega
        exact ⟨fun q => key (vB a) (Or.inr ⟨rfl, by rw [q]; exact hT⟩), fun q => key (vA a) (Or.inl ⟨rfl, by rw [q]; exact hT⟩)⟩
      have hTv : ∀ a, s a = true → a ∉ T → vA a ≠ v ∧ vB a ≠ v := by
        intro a ha1 ha2
        have key : ∀ z, eu_tr vA vB v [a] z → False := fun z hz => by
          have := hmax (T ++ [a]) ⟨by
            rw [List.nodup_append]
            refine ⟨hTn, List.nodup_cons.mpr ⟨by simp, List.nodup_nil⟩, fun b hb c hc e => ?_⟩
            rw [List.mem_singleton.mp hc] at e
            exact ha2 (e ▸ hb), fun b hb => by
            rcases List.mem_append.mp hb with h | h
            · exact hTs b h
            · rw [List.mem_singleton.mp h]; exact ha1, u, z, (eu_append _ _ _ _).mpr ⟨v, hT, hz⟩⟩
          simp only [List.length_append, List.length_singleton] at this
          omega
        exact ⟨fun q => key (vB a) (Or.inl ⟨q, rfl⟩), fun q => key (vA a) (Or.inr ⟨q, rfl⟩)⟩
      have hru : eu_dg vA vB N (fun a => s a && !eu_ls T a) u = 0 := eu_dg_zero (fun a ha => hTu a ((hr a).mp ha).1 ((hr a).mp ha).2)
      have hrv : eu_dg vA vB N (fun a => s a && !eu_ls T a) v = 0 := eu_dg_zero (fun a ha => hTv a ((hr a).mp ha).1 ((hr a).mp ha).2)
      have hyu : y ≠ u := fun q => by rw [q, hru] at hry; omega
      have hyv : y ≠ v := fun q => by rw [q, hrv] at hry; omega
      have hpT := fun z => eu_parity (vA := vA) (vB := vB) (N := N) z T u v hTn (fun a ha => hN a (hTs a ha)) hT
      have p1 := hpT y
      have p2 := hpT u
      have p3 := hpT v
      rw [eu_i_ne (Ne.symm hyu), eu_i_ne (Ne.symm hyv)] at p1
      rw [eu_i_self, eu_i_ne (Ne.symm huv)] at p2
      rw [eu_i_ne huv, eu_i_self] at p3
      have o1 : eu_dg vA vB N s y % 2 = 1 := by rw [hsplitT y]; omega
      have o2 : eu_dg vA vB N s u % 2 = 1 := by rw [hsplitT u, hru]; omega
      have o3 : eu_dg vA vB N s v % 2 = 1 := by rw [hsplitT v, hrv]; omega
      obtain ⟨a, b, hab⟩ := hodd
      by_cases ya : y = a
      · by_cases ub : u = b
        · have := hab v (fun q => hyv (ya.trans q.symm)) (fun q => huv (ub.trans q.symm)); omega
        · have := hab u (fun q => hyu (ya.trans q.symm)) ub; omega
      · by_cases yb : y = b
        · by_cases ua : u = a
          · have := hab v (fun q => huv (ua.trans q.symm)) (fun q => hyv (yb.trans q.symm)); omega
          · have := hab u ua (fun q => hyu (yb.trans q.symm)); omega
        · have := hab y ya yb; omega
