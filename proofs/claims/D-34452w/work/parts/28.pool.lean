/-! POOLS BY NAMES: cells under names (kind, index): a list L of the living names, their addresses 'ad', their contents 'ct'; behind them the running methods' own cells T -/
section ZP
abbrev NM : Type := Nat × Nat
abbrev zp_W (L : List NM) (ad : NM → Nat) (ct : NM → va_E) : va_W := L.map (fun n => (ad n, ct n))
def PL (D : va_G) (A : Nat → Prop) (L : List NM) (ad : NM → Nat) (ct : NM → va_E) (T : va_W) (H : Heap) : Prop := L.Nodup ∧ va_P D clA (zp_W L ad ct ++ T) H ∧ va_D A (zp_W L ad ct ++ T)
variable {D : va_G} {A : Nat → Prop} {L : List NM} {ad : NM → Nat} {ct : NM → va_E} {T : va_W} {H : Heap}
theorem zp_idx {n : NM} (h : n ∈ L) : ∃ k : Nat, L[k]? = some n := List.getElem?_of_mem h
theorem zp_at0 {n : NM} {k : Nat} (h : L[k]? = some n) : (zp_W L ad ct)[k]? = some (ad n, ct n) := by
  show (L.map (fun n => (ad n, ct n)))[k]? = _
  rw [List.getElem?_map, h]; rfl
theorem zp_len : (zp_W L ad ct).length = L.length := List.length_map ..
theorem zp_at {n : NM} {k : Nat} (h : L[k]? = some n) : (zp_W L ad ct ++ T)[k]? = some (ad n, ct n) := by
  rw [List.getElem?_append_left (by rw [zp_len]; exact (List.getElem?_eq_some_iff.mp h).1)]
  exact zp_at0 h
theorem zp_tm {j : Nat} : (zp_W L ad ct ++ T)[L.length + j]? = T[j]? := by
  rw [List.getElem?_append_right (by rw [zp_len]; omega), zp_len, Nat.add_sub_cancel_left]
theorem zp_set0 {n : NM} {k : Nat} {e : va_E} (hd : L.Nodup) (h : L[k]? = some n) : (zp_W L ad ct).set k (ad n, e) = zp_W L ad (fun n' => if n' = n then e else ct n') := by
  apply List.ext_getElem?
  intro j
  show ((L.map (fun n' => (ad n', ct n'))).set k (ad n, e))[j]? = (L.map (fun n' => (ad n', if n' = n then e else ct n')))[j]?
  rw [List.getElem?_set, List.getElem?_map, List.getElem?_map]
  by_cases hj : k = j
  · subst hj
    have hk : k < L.length := (List.getElem?_eq_some_iff.mp h).1
    rw [if_pos rfl, h]
    simp [hk]
  · rw [if_neg hj]
    cases hx : L[j]? with
    | none => rfl
    | some x =>
      have hne : x ≠ n := by
        intro he
        subst he
        exact hj ((List.getElem?_inj (List.getElem?_eq_some_iff.mp h).1 hd).mp (h.trans hx.symm))
      simp [hne]
theorem zp_set {n : NM} {k : Nat} {e : va_E} (hd : L.Nodup) (h : L[k]? = some n) : (zp_W L ad ct ++ T).set k (ad n, e) = zp_W L ad (fun n' => if n' = n then e else ct n') ++ T := by
  rw [List.set_append_left _ _ (by rw [zp_len]; exact (List.getElem?_eq_some_iff.mp h).1), zp_set0 hd h]
theorem zp_setT {j : Nat} {x : Nat × va_E} : (zp_W L ad ct ++ T).set (L.length + j) x = zp_W L ad ct ++ T.set j x := by
  rw [List.set_append_right _ _ (by rw [zp_len]; omega), zp_len, Nat.add_sub_cancel_left]
theorem va_P.mem {cl : List vw_C} {ws : va_W} (h : va_P D cl ws H) {q : Nat × va_E} (hq : q ∈ ws) : va_at D cl q H := by
  obtain ⟨k, hk⟩ := List.getElem?_of_mem hq
  exact h k q hk
theorem va_P.ofm {cl : List vw_C} {ws : va_W} (h : ∀ q ∈ ws, va_at D cl q H) : va_P D cl ws H := fun _ q hk => h q (List.mem_of_getElem? hk)
theorem PL.cell (h : PL D A L ad ct T H) {n : NM} (hn : n ∈ L) : va_at D clA (ad n, ct n) H := by
  obtain ⟨k, hk⟩ := zp_idx hn
  exact h.2.1 k _ (zp_at hk)
theorem PL.own (h : PL D A L ad ct T H) {n : NM} (hn : n ∈ L) : A (ad n) := by
  obtain ⟨k, hk⟩ := zp_idx hn
  exact h.2.2.2 k _ (zp_at (ct := ct) hk)
theorem PL.inj (h : PL D A L ad ct T H) {a b : NM} (ha : a ∈ L) (hb : b ∈ L) (e : ad a = ad b) : a = b := by
  obtain ⟨i, hi⟩ := zp_idx ha
  obtain ⟨j, hj⟩ := zp_idx hb
  have := h.2.2.1 i j _ _ (zp_at (ct := ct) hi) (zp_at (ct := ct) hj) e
  subst this
  exact Option.some.inj (hi.symm.trans hj)
theorem PL.tP (h : PL D A L ad ct T H) : va_P D clA T H := fun k q hk => h.2.1 (L.length + k) q (by rw [zp_tm]; exact hk)
theorem PL.tD (h : PL D A L ad ct T H) : va_D A T := by
  refine ⟨fun i j p q hp hq e => ?_, fun k q hk => h.2.2.2 (L.length + k) q (by rw [zp_tm]; exact hk)⟩
  have := h.2.2.1 (L.length + i) (L.length + j) p q (by rw [zp_tm]; exact hp) (by rw [zp_tm]; exact hq) e
  omega
theorem PL.apart (h : PL D A L ad ct T H) {n : NM} (hn : n ∈ L) {q : Nat × va_E} (hq : q ∈ T) : ad n ≠ q.1 := by
  obtain ⟨i, hi⟩ := zp_idx hn
  obtain ⟨j, hj⟩ := List.getElem?_of_mem hq
  intro e
  have := h.2.2.1 i (L.length + j) _ q (zp_at (ct := ct) hi) (by rw [zp_tm]; exact hj) e
  have := (List.getElem?_eq_some_iff.mp hi).1
  omega
theorem PL.of (hd : L.Nodup) (h1 : ∀ n ∈ L, va_at D clA (ad n, ct n) H) (h2 : ∀ n ∈ L, A (ad n)) (h3 : ∀ a ∈ L, ∀ b ∈ L, ad a = ad b → a = b) (h4 : va_P D clA T H) (h5 : va_D A T) (h6 : ∀ n ∈ L, ∀ q ∈ T, ad n ≠ q.1) : PL D A L ad ct T H := by
  have key : ∀ (k : Nat) (q : Nat × va_E), (zp_W L ad ct)[k]? = some q → ∃ n, L[k]? = some n ∧ q = (ad n, ct n) := by
    intro k q hq
    have hq : (L.map (fun n => (ad n, ct n)))[k]? = some q := hq
    rw [List.getElem?_map] at hq
    cases hx : L[k]? with
    | none => rw [hx] at hq; cases hq
    | some x => rw [hx] at hq; exact ⟨x, rfl, (Option.some.inj hq).symm⟩
  refine ⟨hd, va_P.app ?_ h4, va_D.app ⟨?_, ?_⟩ h5 ?_⟩
  · intro k q hq
    obtain ⟨n, hn, rfl⟩ := key k q hq
    exact h1 n (List.mem_of_getElem? hn)
  · intro i j p q hp hq e
    obtain ⟨a, ha, rfl⟩ := key i p hp
    obtain ⟨b, hb, rfl⟩ := key j q hq
    have := h3 a (List.mem_of_getElem? ha) b (List.mem_of_getElem? hb) e
    subst this
    exact (List.getElem?_inj (List.getElem?_eq_some_iff.mp ha).1 hd).mp (ha.trans hb.symm)
  · intro k q hq
    obtain ⟨n, hn, rfl⟩ := key k q hq
    exact h2 n (List.mem_of_getElem? hn)
  · intro i j p q hp hq
    obtain ⟨n, hn, rfl⟩ := key i p hp
    exact h6 n (List.mem_of_getElem? hn) q (List.mem_of_getElem? hq)
/-- fewer names, fewer cells of the running methods, other contents and addresses that agree on them, another heap that agrees on their cells -/
theorem PL.to {L' : List NM} {ad' : NM → Nat} {ct' : NM → va_E} {A' : Nat → Prop} {H' : Heap} (h : PL D A L ad ct T H) (hd : L'.Nodup) (hL : ∀ n ∈ L', n ∈ L) (ha : ∀ n ∈ L', ad' n = ad n) (hc : ∀ n ∈ L', ct' n = ct n) (hA : ∀ q, A q → A' q) (hH : ∀ n ∈ L', H'[ad n]? = H[ad n]?) (hT : ∀ q ∈ T, H'[q.1]? = H[q.1]?) : PL D A' L' ad' ct' T H' := by
  refine PL.of hd (fun n hn => ?_) (fun n hn => ?_) (fun a ha1 b hb1 e => ?_) (va_P.ofm (fun q hq => (h.tP.mem hq).kept (hT q hq))) (h.tD.weaken (fun _ _ _ => hA _)) (fun n hn q hq => by rw [ha n hn]; exact h.apart (hL n hn) hq)
  · rw [ha n hn, hc n hn]
    exact (h.cell (hL n hn)).kept (hH n hn)
  · rw [ha n hn]
    exact hA _ (h.own (hL n hn))
  · rw [ha a ha1, ha b hb1] at e
    exact h.inj (hL a ha1) (hL b hb1) e
/-- the last cell of the running methods gets a name -/
theorem PL.name {n : NM} {q : Nat} {e : va_E} (h : PL D A L ad ct (T ++ [(q, e)]) H) (hn : n ∉ L) : PL D A (L ++ [n]) (fun n' => if n' = n then q else ad n') (fun n' => if n' = n then e else ct n') T H := by
  have hne : ∀ n' ∈ L, n' ≠ n := fun n' h1 h2 => hn (h2 ▸ h1)
  have hm : ∀ n' ∈ L ++ [n], n' ∈ L ∨ n' = n := fun n' h1 => (List.mem_append.mp h1).imp_right List.mem_singleton.mp
  have hq : ((q, e) : Nat × va_E) ∈ T ++ [(q, e)] := List.mem_append_right _ (List.mem_singleton.mpr rfl)
  have hD := h.tD
  have hx : ∀ t ∈ T, t.1 ≠ q := by
    intro t ht he
    obtain ⟨j, hj⟩ := List.getElem?_of_mem ht
    have hl := (List.getElem?_eq_some_iff.mp hj).1
    have := hD.1 j T.length t (q, e) (by rw [List.getElem?_append_left hl]; exact hj) (by simp) he
    omega
  refine PL.of ?_ ?_ ?_ ?_ ?_ ?_ ?_
  · rw [List.nodup_append]
    exact ⟨h.1, (by simp), fun a ha b hb => by rw [List.mem_singleton.mp hb]; exact hne a ha⟩
  · intro n' h1
    rcases hm n' h1 with h2 | rfl
    · rw [if_neg (hne n' h2), if_neg (hne n' h2)]; exact h.cell h2
    · rw [if_pos rfl, if_pos rfl]; exact h.tP.mem hq
  · intro n' h1
    rcases hm n' h1 with h2 | rfl
    · rw [if_neg (hne n' h2)]; exact h.own h2
    · rw [if_pos rfl]
      obtain ⟨j, hj⟩ := List.getElem?_of_mem hq
      exact hD.2 j _ hj
  · intro a ha b hb he
    rcases hm a ha with h1 | rfl <;> rcases hm b hb with h2 | rfl
    · rw [if_neg (hne a h1), if_neg (hne b h2)] at he; exact h.inj h1 h2 he
    · rw [if_neg (hne a h1), if_pos rfl] at he; exact absurd he (h.apart h1 hq)
    · rw [if_pos rfl, if_neg (hne b h2)] at he; exact absurd he.symm (h.apart h2 hq)
    · rfl
  · exact va_P.ofm (fun t ht => h.tP.mem (List.mem_append_left _ ht))
  · refine ⟨fun i j p r hp hr he => ?_, fun k r hr => ?_⟩
    · exact hD.1 i j p r (by rw [List.getElem?_append_left (List.getElem?_eq_some_iff.mp hp).1]; exact hp) (by rw [List.getElem?_append_left (List.getElem?_eq_some_iff.mp hr).1]; exact hr) he
    · exact hD.2 k r (by rw [List.getElem?_append_left (List.getElem?_eq_some_iff.mp hr).1]; exact hr)
  · intro n' h1 t ht
    rcases hm n' h1 with h2 | rfl
    · rw [if_neg (hne n' h2)]; exact h.apart h2 (List.mem_append_left _ ht)
    · rw [if_pos rfl]; exact (hx t ht).symm
/-- the running methods' last cells are forgotten -/
theorem PL.drop {T' : va_W} (h : PL D A L ad ct (T ++ T') H) : PL D A L ad ct T H := by
  have hD := h.tD
  refine PL.of h.1 (fun n hn => h.cell hn) (fun n hn => h.own hn) (fun a ha b hb e => h.inj ha hb e) (va_P.ofm (fun t ht => h.tP.mem (List.mem_append_left _ ht))) ⟨fun i j p r hp hr he => ?_, fun k r hr => ?_⟩ (fun n hn q hq => h.apart hn (List.mem_append_left _ hq))
  · exact hD.1 i j p r (by rw [List.getElem?_append_left (List.getElem?_eq_some_iff.mp hp).1]; exact hp) (by rw [List.getElem?_append_left (List.getElem?_eq_some_iff.mp hr).1]; exact hr) he
  · exact hD.2 k r (by rw [List.getElem?_append_left (List.getElem?_eq_some_iff.mp hr).1]; exact hr)
/-- a name dies -/
theorem PL.kill {L' : List NM} (h : PL D A L ad ct T H) (hd : L'.Nodup) (hL : ∀ n ∈ L', n ∈ L) : PL D A L' ad ct T H := h.to hd hL (fun _ _ => rfl) (fun _ _ => rfl) (fun _ h => h) (fun _ _ => rfl) (fun _ _ => rfl)
end ZP
