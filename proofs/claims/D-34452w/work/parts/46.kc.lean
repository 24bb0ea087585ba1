/-! CONSTANTS of the class: kinds, the deck -/
section ZC
variable {D : va_G} {dA : Nat → ClassId} {cn : Nat → Nat} {A : Nat → Prop} {H : Heap}
variable {p : Program} {l : Launch} {e : Env} {R : Room} {s : State} {m : MethodId} {args : Array Value} {below : List Frame} {meth : Method} {c : Code} {locs : List Loc} {cells slots : Nat} {Q : State → Prop}
variable {cc : ByteArray} {pc nL : Nat} {ls : Array Slot} {rest : List Value}
theorem xk_get (k idx : Nat) (hk : k < 5) (hq : Cond.fieldLink RX1 idx "Hexstead$Kind" (kdX.getD k "") "LHexstead$Kind;" ∈ lw_all) (S : CallFix p m c cc nL s args lw_all RX1) (hKX : KX D dA cn A s) (hS : va_S A s.heap H locs) (hdg : decode cc pc = .ok (.getstatic idx, 3))
    (kk : W p l e R s m args below meth c H locs cells slots Q (F0 m (pc + 3) ls (.ref (cn (3 + k)) :: rest))) : W p l e R s m args below meth c H locs cells slots Q (F0 m pc ls rest) :=
  va_gets S.1 S.2.1 (hKX.2.2.2.2.2.2.2.2.1 k hk).1 hS S.2.2.2.1 (S.2.2.2.2 _ hq) (fun _ h => h) hdg kk
theorem xk_deck (S : CallFix p m c cc nL s args lw_all RX1) (hKX : KX D dA cn A s) (hS : va_S A s.heap H locs) (hdg : decode cc pc = .ok (.getstatic 296, 3))
    (kk : W p l e R s m args below meth c H locs cells slots Q (F0 m (pc + 3) ls (.ref (cn 2) :: rest))) : W p l e R s m args below meth c H locs cells slots Q (F0 m pc ls rest) :=
  va_getsN S.1 S.2.1 hKX.2.2.2.2.2.2.1 hS S.2.2.2.1 (va_Nw.use (A := args) rfl (hKX.2.1.1 ("Hexstead", 296, "Hexstead$Kind", "DECK", "[LHexstead$Kind;", "Hexstead") (List.mem_of_getElem? (i := 4) rfl))) (fun _ h => h) hdg kk
theorem xk_dlen (S : CallFix p m c cc nL s args lw_all RX1) (hKX : KX D dA cn A s) (hS : va_S A s.heap H locs) (hdg : decode cc pc = .ok (.arraylength, 1))
    (kk : W p l e R s m args below meth c H locs cells slots Q (F0 m (pc + 1) ls (.int (nI 15) :: rest))) : W p l e R s m args below meth c H locs cells slots Q (F0 m pc ls (.ref (cn 2) :: rest)) :=
  va_tlen S.1 S.2.1 hKX.2.2.2.2.2.2.2.1 hS (v := nI 15) rfl hdg kk
theorem xk_dld (S : CallFix p m c cc nL s args lw_all RX1) (hKX : KX D dA cn A s) (hS : va_S A s.heap H locs) (i : Nat) (hi : i < 15) (hdg : decode cc pc = .ok (.aaload, 1))
    (kk : W p l e R s m args below meth c H locs cells slots Q (F0 m (pc + 1) ls (.ref (cn (3 + deckK i)) :: rest))) : W p l e R s m args below meth c H locs cells slots Q (F0 m pc ls (.int (nI i) :: .ref (cn 2) :: rest)) :=
  vb_tq S.1 S.2.1 hKX.2.2.2.2.2.2.2.1 hS (vp_in_nI hi (by decide)) (v := .ref (cn (3 + deckK i))) (by rw [nI_clamp (by omega)]) hdg kk
theorem xk_ne (S : CallFix p m c cc nL s args lw_all RX1) (hKX : KX D dA cn A s) (i j : Nat) (hi : i < 5) (hj : j < 5) {off : Int} {tgt : Nat} (hdg : decode cc pc = .ok (.if_acmp .ne off, 3)) (ht : (pc : Int) + off = (tgt : Int))
    (kt : ¬ i = j → W p l e R s m args below meth c H locs cells slots Q (F0 m tgt ls rest)) (kf : i = j → W p l e R s m args below meth c H locs cells slots Q (F0 m (pc + 3) ls rest)) : W p l e R s m args below meth c H locs cells slots Q (F0 m pc ls (.ref (cn (3 + j)) :: .ref (cn (3 + i)) :: rest)) :=
  lv_acmp_ne S.1 S.2.1 (rx := some (cn (3 + i))) (ry := some (cn (3 + j))) hdg ht (fun h => kt (fun q => h (by rw [q]))) (fun h => kf (hKX.2.2.2.2.2.2.2.2.2.1 i j hi hj (Option.some.inj h)))
end ZC
abbrev itC (pa : NM → Nat) (n i : Nat) : va_E := .inr (9, [.int (nI i), .int (mI i), .int (nI n), .ref (pa (11, 0))])
abbrev itM (pa : NM → Nat) (n i : Nat) : va_E := .inr (9, [.int (nI i), .int (mI i), .int (nI n), .ref (pa (14, 0))])
theorem itC_s {D : va_G} {dA : Nat → ClassId} {cn : Nat → Nat} {A : Nat → Prop} {pa : NM → Nat} {g : G} {T : va_W} {H : Heap} {t n i : Nat} (h : XS D dA cn A pa g (T ++ [(t, .inr (9, [.int (nI (i + 1)), .int (nI i), .int (nI n), .ref (pa (11, 0))]))]) H) : XS D dA cn A pa g (T ++ [(t, itC pa n (i + 1))]) H := by show XS D dA cn A pa g (T ++ [(t, .inr (9, [.int (nI (i + 1)), .int (mI (i + 1)), .int (nI n), .ref (pa (11, 0))]))]) H; rw [mI_succ]; exact h
theorem itM_s {D : va_G} {dA : Nat → ClassId} {cn : Nat → Nat} {A : Nat → Prop} {pa : NM → Nat} {g : G} {T : va_W} {H : Heap} {t n i : Nat} (h : XS D dA cn A pa g (T ++ [(t, .inr (9, [.int (nI (i + 1)), .int (nI i), .int (nI n), .ref (pa (14, 0))]))]) H) : XS D dA cn A pa g (T ++ [(t, itM pa n (i + 1))]) H := by show XS D dA cn A pa g (T ++ [(t, .inr (9, [.int (nI (i + 1)), .int (mI (i + 1)), .int (nI n), .ref (pa (14, 0))]))]) H; rw [mI_succ]; exact h
theorem zc_aretO {p : Program} {l : Launch} {e : Env} {R : Room} {s : State} {m : MethodId} {args : Array Value} {below : List Frame} {meth : Method} {c : Code} {H : Heap} {locs : List Loc} {cells slots mc ms : Nat} {cc : ByteArray} {pc : Nat} {ls : Array Slot} {A : Nat → Prop} {Post : Option Value → Heap → Prop} {n : String} {r r' : Option Nat} (e9 : r = r') (hq : Post (some (va_rf r')) H) (hS : va_S A s.heap H locs) (hx : p.tables.exec = Jvm.exec) (hb : c.code = cc) (hr : meth.sig.returnType = some (.object n)) (hlk : meth.locks = false) (hc : cells ≤ mc) (hs : slots ≤ ms) (hdg : decode cc pc = .ok (.areturn, 1)) :
    W p l e R s m args below meth c H locs cells slots (MQ below (zc_Q Post A) args s mc ms A) (F0 m pc ls [va_rf r]) := by
  subst e9
  cases r with
  | none => exact zc_aret (Or.inl ⟨_, rfl⟩) (Or.inl rfl) hq hS hx hb hr hlk hc hs hdg
  | some a => exact zc_aret (Or.inl ⟨_, rfl⟩) (Or.inr ⟨_, rfl⟩) hq hS hx hb hr hlk hc hs hdg
theorem opB_T {b : Bool} {a : Nat} (h : b = true) : opB b a = some a := by subst h; rfl
theorem opB_F {b : Bool} {a : Nat} (h : ¬ b = true) : opB b a = none := by cases b; rfl; exact absurd rfl h
