/-! THE GENERIC LAYER: contracts over a heap ('Ct'), calls, returns -/
def zc_mv (A : Nat → Prop) (K : State → Prop) : Prop := ∀ u U : State, u.WarmedH U.vm → (∀ q : Nat, q < u.heap.size → ¬ A q → U.heap[q]? = u.heap[q]?) → K u → K U
def zc_P (As : List Value) (H0 : Heap) (K : State → Prop) : Array Value → State → Prop := va_Pc As (fun U => U.heap = H0 ∧ K U)
def zc_Q (Post : Option Value → Heap → Prop) (A : Nat → Prop) : Array Value → State → Outcome → State → Prop := fun _ st oc t => (∃ v, oc = .returned v ∧ Post v t.heap) ∧ va_F A st t
/-- the contract of a method that returns: called with As over the heap H0, where K holds of the tables, it ends with Post; nothing old outside A is changed -/
def Ct (l : Launch) (y : MethodName) (ws : List Cond) (rm : Room) (A : Nat → Prop) (K : State → Prop) (As : List Value) (H0 : Heap) (Post : Option Value → Heap → Prop) : Prop := Met l y ws rm (zc_P As H0 K) (zc_Q Post A) rm.cells rm.slots A
theorem zc_blind {A : Nat → Prop} {K : State → Prop} {As : List Value} {H0 : Heap} (hm : zc_mv A K) : FrameBlind (zc_P As H0 K) := by
  intro a U g mk h
  obtain ⟨h1, h2, h3⟩ := h
  exact ⟨h1, h2, hm U (U.calling g mk a) (State.WarmedH.refl U) (fun _ _ _ => rfl) h3⟩
theorem zc_of {l : Launch} {y : MethodName} {rm : Room} {A : Nat → Prop} {K : State → Prop} {As : List Value} {H0 : Heap} {Post : Option Value → Heap → Prop} {cc : ByteArray} {maxL : Nat} {ret : Option FieldType} (own : String) (hcls : y.cls = own)
    (hy : plainName y.cls = true) (hlen : (lg_sl As).length ≤ maxL)
    (body : ∀ (p : Program) (e : Env) (s : State) (m : MethodId) (args : Array Value) (below : List Frame) (meth : Method) (c : Code), CallFix p m c cc maxL s args lw_all own → meth.sig.returnType = ret → meth.locks = false → meth.name = y.name → s.heap = H0 → K s →
      ∀ ls : Array Slot, lv_has ls maxL (lv_args 0 As) → W p l e rm s m args below meth c H0 [] 0 0 (MQ below (zc_Q Post A) args s rm.cells rm.slots A) (F0 m 0 ls [])) : Ct l y (ws_ y cc maxL ret) rm A K As H0 Post := by
  refine Met.ofW (cc := cc) (maxL := maxL) (ret := ret) hy rfl ?_
  intro p e s m args below meth c s₁ B hml hv
  obtain ⟨rfl, hh, hK⟩ := hv
  have hts := atoms_spec (ws := ws_ y cc maxL ret) B.pre
  have hts : ∀ w ∈ lw_all, w.before _ s = true := fun w h => hts w (List.mem_cons_of_mem _ h)
  have hown : s.vm.findClass own = some m.cls := by rw [← hcls]; exact findClass_of_methodNamed B.named
  have hl := lv_entry As (n := maxL) hlen
  rw [lg_entry_eq]
  have hgo := body p e s m _ below meth c ⟨B.exec, B.bytes, hml, hown, hts⟩ B.returns B.notSynchronized (name_of_methodNamed B.named B.method).1 hh hK _ hl
  rw [hh]
  exact hgo
section ZC
variable {p : Program} {l : Launch} {e : Env} {R : Room} {s : State} {m : MethodId} {args : Array Value} {below : List Frame} {meth : Method} {c : Code} {H : Heap} {locs : List Loc} {cells slots : Nat} {Q : State → Prop}
variable {cc : ByteArray} {pc nL : Nat} {ls : Array Slot} {rest st0 : List Value} {A A1 : Nat → Prop} {mc ms : Nat} {Post : Option Value → Heap → Prop} {K : State → Prop} {own : String}
theorem zc_start {H0 : Heap} (h : s.heap = H0) : va_S A s.heap H0 [] := by rw [h]; exact va_S.rf
theorem zc_zret {v : Int32} {ty : FieldType} (hq : Post (some (.int v)) H) (hS : va_S A s.heap H locs) (hx : p.tables.exec = Jvm.exec) (hb : c.code = cc) (hr : meth.sig.returnType = some ty) (hn : narrow ty (.int v) = .int v) (hlk : meth.locks = false) (hc : cells ≤ mc) (hs : slots ≤ ms) (hdg : decode cc pc = .ok (.ireturn, 1)) :
    W p l e R s m args below meth c H locs cells slots (MQ below (zc_Q Post A) args s mc ms A) (F0 m pc ls [.int v]) := by
  refine W.widen hc hs ?_
  exact W.zret hx hb hr hn (fun t ht hW => ⟨⟨_, rfl, by rw [ht]; exact hq⟩, hS.F ht⟩) hS.2.2 hdg hlk
theorem zc_iret {v : Int32} (hq : Post (some (.int v)) H) (hS : va_S A s.heap H locs) (hx : p.tables.exec = Jvm.exec) (hb : c.code = cc) (hr : meth.sig.returnType = some .int) (hlk : meth.locks = false) (hc : cells ≤ mc) (hs : slots ≤ ms) (hdg : decode cc pc = .ok (.ireturn, 1)) :
    W p l e R s m args below meth c H locs cells slots (MQ below (zc_Q Post A) args s mc ms A) (F0 m pc ls [.int v]) := by
  refine W.widen hc hs ?_
  exact W.iret hx hb hr (fun t ht hW => ⟨⟨_, rfl, by rw [ht]; exact hq⟩, hS.F ht⟩) hS.2.2 hdg hlk
theorem zc_vret (hq : Post none H) (hS : va_S A s.heap H locs) (hx : p.tables.exec = Jvm.exec) (hb : c.code = cc) (hr : meth.sig.returnType = none) (hlk : meth.locks = false) (hc : cells ≤ mc) (hs : slots ≤ ms) (hdg : decode cc pc = .ok (.return_, 1)) :
    W p l e R s m args below meth c H locs cells slots (MQ below (zc_Q Post A) args s mc ms A) (F0 m pc ls []) := by
  refine W.widen hc hs ?_
  exact W.vret hx hb hr (fun t ht hW => ⟨⟨_, rfl, by rw [ht]; exact hq⟩, hS.F ht⟩) hS.2.2 hdg hlk
theorem zc_aret {v : Value} {rt : FieldType} (hrt : (∃ n, rt = .object n) ∨ ∃ t, rt = .array t) (hv : v = .null ∨ ∃ a, v = .ref a) (hq : Post (some v) H) (hS : va_S A s.heap H locs) (hx : p.tables.exec = Jvm.exec) (hb : c.code = cc) (hr : meth.sig.returnType = some rt) (hlk : meth.locks = false) (hc : cells ≤ mc) (hs : slots ≤ ms) (hdg : decode cc pc = .ok (.areturn, 1)) :
    W p l e R s m args below meth c H locs cells slots (MQ below (zc_Q Post A) args s mc ms A) (F0 m pc ls [v]) := by
  refine W.widen hc hs ?_
  exact W.aret hx hb hr hrt hv (fun t ht hW => ⟨⟨_, rfl, by rw [ht]; exact hq⟩, hS.F ht⟩) hS.2.2 hdg hlk
theorem zc_run {a : Array Value} (hr : va_Run p l e R s m args below meth c H locs cells slots mc ms (F0 m pc ls st0) rest (zc_Q Post A1 a) A1) (hS : va_S A s.heap H locs) (hA : ∀ q, A1 q → A q)
    (kk : ∀ (v : Option Value) (H1 : Heap) (locs1 : List Loc), Post v H1 → H.size ≤ H1.size → (∀ q : Nat, q < H.size → ¬ A1 q → H1[q]? = H[q]?) → va_S A s.heap H1 locs1 → W p l e R s m args below meth c H1 locs1 (cells + mc) (slots + ms) Q (F0 m (pc + 3) ls (v.toList ++ rest))) :
    W p l e R s m args below meth c H locs cells slots Q (F0 m pc ls st0) := by
  intro T hT X
  obtain ⟨v, st₀, t, T', L, h0, X', hL, e1, e2, ⟨⟨v', hv, hp⟩, hz, hk⟩, st⟩ := hr T hT X
  cases hv
  rw [h0] at hz hk
  obtain ⟨t2, a1, b1⟩ := kk v T'.heap (locs ++ L) (by rw [e1]; exact hp) (by rw [e1]; exact hz) (fun q h1 h2 => by rw [e1]; exact hk q h1 h2)
    ⟨Nat.le_trans hS.1 (by rw [e1]; exact hz), fun q h1 h2 => by rw [e1, hk q (Nat.lt_of_lt_of_le h1 hS.1) (fun z => h2 (hA q z))]; exact hS.2.1 q h1 h2, fun q hq => by
      rcases List.mem_append.mp hq with h | h
      · exact hS.2.2 q h
      · exact hA _ (hL q h)⟩ T' rfl X'
  exact ⟨t2, st t2 a1, b1⟩
theorem zc_K (hm : zc_mv A K) (hK : K s) (hS : va_S A s.heap H locs) : ∀ U : State, U.heap = H → s.WarmedH U.vm → K U := fun U hU hW => hm s U hW (fun q h1 h2 => by rw [hU]; exact hS.2.1 q h1 h2) hK
/-- a call through an object -/
theorem zc_callV {y : MethodName} {bytes : ByteArray} {maxL n index : Nat} {ret : Option FieldType} {rm : Room} {C : String} {b : Addr} {As : List Value} (S : CallFix p m c cc nL s args lw_all own) (hM : Ct l y (ws_ y bytes maxL ret) rm A1 K (.ref b :: As) H Post)
    (hw : GoodIn lw_all (wsV own index C y (ws_ y bytes maxL ret))) (hd : y.cls = C ∧ y.cls ≠ "java/lang/invoke/MethodHandle" ∧ y.cls ≠ "java/lang/invoke/VarHandle" ∧ (parseMethodDescriptor y.desc).map (fun d => d.parameters.length) = some n)
    (hR : rm.frames + 1 ≤ R.frames ∧ 8 + (maxL + 11) + rm.locals ≤ R.locals) (hcs : cells + rm.cells ≤ R.cells ∧ slots + rm.slots ≤ R.slots) (hrecv : ∃ cell : Cell, H[b]? = some cell ∧ cell.vm.isStatics = false ∧ s.vm.findClass C = some cell.cls)
    (hm : zc_mv A1 K) (hK : ∀ U : State, U.heap = H → s.WarmedH U.vm → K U) (hS : va_S A s.heap H locs) (hA : ∀ q, A1 q → A q) (hn : As.length = n) (hsz : ls.size = nL) (hst : st0 = As.reverse ++ .ref b :: rest) (hcat : (rest.map fun v => v.category).sum ≤ 8) (hdg : decode cc pc = .ok (.invokevirtual index, 3))
    (kk : ∀ (v : Option Value) (H1 : Heap) (locs1 : List Loc), Post v H1 → H.size ≤ H1.size → (∀ q : Nat, q < H.size → ¬ A1 q → H1[q]? = H[q]?) → va_S A s.heap H1 locs1 → W p l e R s m args below meth c H1 locs1 (cells + rm.cells) (slots + rm.slots) Q (F0 m (pc + 3) ls (v.toList ++ rest))) :
    W p l e R s m args below meth c H locs cells slots Q (F0 m pc ls st0) :=
  zc_run (va_runV (As := As) (rest := rest) S (show Met l y (ws_ y bytes maxL ret) rm (zc_P (.ref b :: As) H K) (zc_Q Post A1) rm.cells rm.slots A1 from hM) (cwV n S.2.2.2.2 hw rfl rfl rfl hd hR) ⟨zc_blind hm, hrecv, fun U hU hW => ⟨rfl, hU, hK U hU hW⟩⟩ rfl hn hsz hst (lv_room hcat) hdg hcs) hS hA kk
/-- a static call -/
theorem zc_callS {y : MethodName} {bytes : ByteArray} {maxL n index : Nat} {ret : Option FieldType} {rm : Room} {As : List Value} (S : CallFix p m c cc nL s args lw_all own) (hM : Ct l y (ws_ y bytes maxL ret) rm A1 K As H Post)
    (hw : GoodIn lw_all (va_wsS own index y (ws_ y bytes maxL ret))) (hd : y.cls ≠ "java/lang/invoke/MethodHandle" ∧ y.cls ≠ "java/lang/invoke/VarHandle" ∧ (parseMethodDescriptor y.desc).map (fun d => d.parameters.length) = some n)
    (hR : rm.frames + 1 ≤ R.frames ∧ 8 + (maxL + 11) + rm.locals ≤ R.locals) (hcs : cells + rm.cells ≤ R.cells ∧ slots + rm.slots ≤ R.slots)
    (hm : zc_mv A1 K) (hK : ∀ U : State, U.heap = H → s.WarmedH U.vm → K U) (hS : va_S A s.heap H locs) (hA : ∀ q, A1 q → A q) (hn : As.length = n) (hsz : ls.size = nL) (hst : st0 = As.reverse ++ rest) (hcat : (rest.map fun v => v.category).sum ≤ 8) (hdg : decode cc pc = .ok (.invokestatic index, 3))
    (kk : ∀ (v : Option Value) (H1 : Heap) (locs1 : List Loc), Post v H1 → H.size ≤ H1.size → (∀ q : Nat, q < H.size → ¬ A1 q → H1[q]? = H[q]?) → va_S A s.heap H1 locs1 → W p l e R s m args below meth c H1 locs1 (cells + rm.cells) (slots + rm.slots) Q (F0 m (pc + 3) ls (v.toList ++ rest))) :
    W p l e R s m args below meth c H locs cells slots Q (F0 m pc ls st0) :=
  zc_run (va_runS (As := As) (rest := rest) S (show Met l y (ws_ y bytes maxL ret) rm (zc_P As H K) (zc_Q Post A1) rm.cells rm.slots A1 from hM) (va_cwS n S.2.2.2.2 hw rfl rfl rfl hd hR) ⟨zc_blind hm, fun U hU hW => ⟨rfl, hU, hK U hU hW⟩⟩ rfl hn hsz hst (lv_room hcat) hdg hcs) hS hA kk
/-- a constructor's call -/
theorem zc_callI {y : MethodName} {bytes : ByteArray} {maxL n index : Nat} {rm : Room} {b : Addr} {As : List Value} (S : CallFix p m c cc nL s args lw_all own) (hM : Ct l y (ws_ y bytes maxL none) rm A1 K (.ref b :: As) H Post)
    (hw : Cond.code y bytes maxL none ∈ lw_all) (hini : Cond.initialized y.cls ∈ lw_all) (hl : Cond.methodLink own index y ∈ lw_all) (hin : Cond.instanceMethod y ∈ lw_all) (hy : y.name = "<init>")
    (hd : y.cls ≠ "java/lang/invoke/MethodHandle" ∧ y.cls ≠ "java/lang/invoke/VarHandle" ∧ (parseMethodDescriptor y.desc).map (fun d => d.parameters.length) = some n)
    (hR : rm.frames + 1 ≤ R.frames ∧ 8 + (maxL + 11) + rm.locals ≤ R.locals) (hcs : cells + rm.cells ≤ R.cells ∧ slots + rm.slots ≤ R.slots)
    (hm : zc_mv A1 K) (hK : ∀ U : State, U.heap = H → s.WarmedH U.vm → K U) (hS : va_S A s.heap H locs) (hA : ∀ q, A1 q → A q) (hn : As.length = n) (hsz : ls.size = nL) (hst : st0 = As.reverse ++ .ref b :: rest) (hcat : (rest.map fun v => v.category).sum ≤ 8) (hdg : decode cc pc = .ok (.invokespecial index, 3))
    (kk : ∀ (v : Option Value) (H1 : Heap) (locs1 : List Loc), Post v H1 → H.size ≤ H1.size → (∀ q : Nat, q < H.size → ¬ A1 q → H1[q]? = H[q]?) → va_S A s.heap H1 locs1 → W p l e R s m args below meth c H1 locs1 (cells + rm.cells) (slots + rm.slots) Q (F0 m (pc + 3) ls (v.toList ++ rest))) :
    W p l e R s m args below meth c H locs cells slots Q (F0 m pc ls st0) :=
  zc_run (va_runI (As := As) (rest := rest) S (show Met l y (ws_ y bytes maxL none) rm (zc_P (.ref b :: As) H K) (zc_Q Post A1) rm.cells rm.slots A1 from hM) (cwI n S.2.2.2.2 (lw_meth hw) rfl rfl rfl (S.2.2.2.2 _ hini) (S.2.2.2.2 _ hl) (S.2.2.2.2 _ hin) hy hd hR) ⟨zc_blind hm, fun U hU hW => ⟨rfl, hU, hK U hU hW⟩⟩ rfl hn hsz hst (lv_room hcat) hdg hcs) hS hA kk
end ZC
