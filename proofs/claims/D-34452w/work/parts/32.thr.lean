/-! METHODS THAT THROW (printed by gen/mkthr.py): contracts that return or throw, calls of them, the three throws -/
def vc_X (XPost : String → Heap → Prop) (A : Nat → Prop) : String → State → State → Prop := fun E st t => XPost E t.heap ∧ va_F A st t
def vCt (l : Launch) (y : MethodName) (ws : List Cond) (rm : Room) (A : Nat → Prop) (K : State → Prop) (As : List Value) (H0 : Heap) (Post : Option Value → Heap → Prop) (XPost : String → Heap → Prop) : Prop := vx_Met l y ws rm (zc_P As H0 K) (zc_Q Post A) (vc_X XPost A) rm.cells rm.slots A
theorem vc_of {l : Launch} {y : MethodName} {rm : Room} {A : Nat → Prop} {K : State → Prop} {As : List Value} {H0 : Heap} {Post : Option Value → Heap → Prop} {XPost : String → Heap → Prop} {cc : ByteArray} {maxL : Nat} {ret : Option FieldType} (own : String) (hcls : y.cls = own)
    (hy : plainName y.cls = true) (hlen : (lg_sl As).length ≤ maxL)
    (body : ∀ (p : Program) (e : Env) (s : State) (m : MethodId) (args : Array Value) (below : List Frame) (meth : Method) (c : Code), CallFix p m c cc maxL s args lw_all own → meth.sig.returnType = ret → meth.locks = false → meth.name = y.name → (∀ x ∈ c.exceptionTable.toList, False) → s.heap = H0 → K s →
      ∀ ls : Array Slot, lv_has ls maxL (lv_args 0 As) → W p l e rm s m args below meth c H0 [] 0 0 (vx_MQ below (zc_Q Post A) (vc_X XPost A) args s rm.cells rm.slots A) (F0 m 0 ls [])) : vCt l y (ws_ y cc maxL ret) rm A K As H0 Post XPost := by
  refine vx_ofW (cc := cc) (maxL := maxL) (ret := ret) hy rfl ?_
  intro p e s m args below meth c s₁ B hml hno hv
  obtain ⟨rfl, hh, hK⟩ := hv
  have hts := atoms_spec (ws := ws_ y cc maxL ret) B.pre
  have hts : ∀ w ∈ lw_all, w.before _ s = true := fun w h => hts w (List.mem_cons_of_mem _ h)
  have hown : s.vm.findClass own = some m.cls := by rw [← hcls]; exact findClass_of_methodNamed B.named
  have hl := lv_entry As (n := maxL) hlen
  rw [lg_entry_eq]
  have hgo := body p e s m _ below meth c ⟨B.exec, B.bytes, hml, hown, hts⟩ B.returns B.notSynchronized (name_of_methodNamed B.named B.method).1 hno hh hK _ hl
  rw [hh]
  exact hgo
section ZV
variable {p : Program} {l : Launch} {e : Env} {R : Room} {s : State} {m : MethodId} {args : Array Value} {below : List Frame} {meth : Method} {c : Code} {H : Heap} {locs : List Loc} {cells slots : Nat} {Q : State → Prop}
variable {cc : ByteArray} {pc nL : Nat} {ls : Array Slot} {rest st0 : List Value} {A A1 : Nat → Prop} {mc ms : Nat} {Post Post1 : Option Value → Heap → Prop} {XPost XPost1 : String → Heap → Prop} {K : State → Prop} {own : String}
theorem vc_run {a : Array Value} (hr : vx_Run p l e R s m args below meth c H locs cells slots mc ms (F0 m pc ls st0) rest (zc_Q Post1 A1 a) (vc_X XPost1 A1) A1) (hS : va_S A s.heap H locs) (hA : ∀ q, A1 q → A q)
    (kx : ∀ (E : String) (ce : Cell) (q9 : Addr) (H1 : Heap) (locs1 : List Loc), XPost1 E H1 → H.size ≤ H1.size → (∀ q : Nat, q < H.size → ¬ A1 q → H1[q]? = H[q]?) → va_S A s.heap H1 locs1 → H1[q9]? = some ce → ce.vm = .none → s.vm.findClass E = some ce.cls → vx_W p l e R s m args below meth c H1 locs1 (cells + mc) (slots + ms) Q (F0 m pc ls rest) q9)
    (kk : ∀ (v : Option Value) (H1 : Heap) (locs1 : List Loc), Post1 v H1 → H.size ≤ H1.size → (∀ q : Nat, q < H.size → ¬ A1 q → H1[q]? = H[q]?) → va_S A s.heap H1 locs1 → W p l e R s m args below meth c H1 locs1 (cells + mc) (slots + ms) Q (F0 m (pc + 3) ls (v.toList ++ rest))) :
    W p l e R s m args below meth c H locs cells slots Q (F0 m pc ls st0) := by
  intro T hT X
  rcases hr T hT X with ⟨v, st₀, t, T', L, h0, X', hL, e1, e2, ⟨⟨v', hv, hp⟩, hF⟩, st⟩ | ⟨q, st₀, t, T', L, E, ce, h0, X', hL, e1, e2, ⟨hp, hF⟩, hce, hcv, hcl, st⟩
  · cases hv
    obtain ⟨k1, k2, k3⟩ := vx_keep h0 e1 hS (fun q _ h => hA q h) hA hL hF
    obtain ⟨t2, a1, b1⟩ := kk v T'.heap (locs ++ L) (by rw [e1]; exact hp) k1 k2 k3 T' rfl X'
    exact ⟨t2, st t2 a1, b1⟩
  · obtain ⟨k1, k2, k3⟩ := vx_keep h0 e1 hS (fun q _ h => hA q h) hA hL hF
    obtain ⟨t2, a1, b1⟩ := kx E ce q T'.heap (locs ++ L) (by rw [e1]; exact hp) k1 k2 k3 (by rw [e1]; exact hce) hcv hcl T' rfl X'
    exact ⟨t2, st.trans a1, b1⟩
/-- an exception goes on to the caller -/
theorem vc_pass {E : String} {ce : Cell} {q9 : Addr} (hno : ∀ x ∈ c.exceptionTable.toList, False) (hlk : meth.locks = false) (hq : XPost E H) (hS : va_S A s.heap H locs) (hcell : H[q9]? = some ce) (hv : ce.vm = .none) (hcl : s.vm.findClass E = some ce.cls) (hc : cells ≤ mc) (hs : slots ≤ ms) :
    vx_W p l e R s m args below meth c H locs cells slots (vx_MQ below (zc_Q Post A) (vc_X XPost A) args s mc ms A) (F0 m pc ls rest) q9 :=
  vx_out (fun x hx => (hno x hx).elim) hlk hcell hv hcl (fun t ht _ => ⟨by rw [ht]; exact hq, hS.F ht⟩) hS.2.2 hc hs
/-- a call through an object, of a method that may throw; nothing is caught here -/
theorem vc_callV {y : MethodName} {bytes : ByteArray} {maxL n index : Nat} {ret : Option FieldType} {rm : Room} {C : String} {b : Addr} {As : List Value} (S : CallFix p m c cc nL s args lw_all own) (hM : vCt l y (ws_ y bytes maxL ret) rm A1 K (.ref b :: As) H Post1 XPost1)
    (hw : GoodIn lw_all (wsV own index C y (ws_ y bytes maxL ret))) (hd : y.cls = C ∧ y.cls ≠ "java/lang/invoke/MethodHandle" ∧ y.cls ≠ "java/lang/invoke/VarHandle" ∧ (parseMethodDescriptor y.desc).map (fun d => d.parameters.length) = some n)
    (hR : rm.frames + 1 ≤ R.frames ∧ 8 + (maxL + 11) + rm.locals ≤ R.locals) (hcs : cells + rm.cells ≤ R.cells ∧ slots + rm.slots ≤ R.slots) (hrecv : ∃ cell : Cell, H[b]? = some cell ∧ cell.vm.isStatics = false ∧ s.vm.findClass C = some cell.cls)
    (hm : zc_mv A1 K) (hK : ∀ U : State, U.heap = H → s.WarmedH U.vm → K U) (hS : va_S A s.heap H locs) (hA : ∀ q, A1 q → A q) (hn : As.length = n) (hsz : ls.size = nL) (hst : st0 = As.reverse ++ .ref b :: rest) (hcat : (rest.map fun v => v.category).sum ≤ 8) (hdg : decode cc pc = .ok (.invokevirtual index, 3))
    (hno : ∀ x ∈ c.exceptionTable.toList, False) (hlk : meth.locks = false) (hX : ∀ (E : String) (H1 : Heap), XPost1 E H1 → XPost E H1) (hmc : cells + rm.cells ≤ mc) (hms : slots + rm.slots ≤ ms)
    (kk : ∀ (v : Option Value) (H1 : Heap) (locs1 : List Loc), Post1 v H1 → H.size ≤ H1.size → (∀ q : Nat, q < H.size → ¬ A1 q → H1[q]? = H[q]?) → va_S A s.heap H1 locs1 → W p l e R s m args below meth c H1 locs1 (cells + rm.cells) (slots + rm.slots) (vx_MQ below (zc_Q Post A) (vc_X XPost A) args s mc ms A) (F0 m (pc + 3) ls (v.toList ++ rest))) :
    W p l e R s m args below meth c H locs cells slots (vx_MQ below (zc_Q Post A) (vc_X XPost A) args s mc ms A) (F0 m pc ls st0) :=
  vc_run (vx_runV (As := As) (rest := rest) S (show vx_Met l y (ws_ y bytes maxL ret) rm (zc_P (.ref b :: As) H K) (zc_Q Post1 A1) (vc_X XPost1 A1) rm.cells rm.slots A1 from hM) (cwV n S.2.2.2.2 hw rfl rfl rfl hd hR) ⟨zc_blind hm, hrecv, fun U hU hW => ⟨rfl, hU, hK U hU hW⟩⟩ rfl hn hsz hst (lv_room hcat) hdg hcs) hS hA
    (fun E ce q9 H1 locs1 h1 _ _ h4 h5 h6 h7 => vc_pass hno hlk (hX E H1 h1) h4 h5 h6 h7 hmc hms) kk
/-- a static call of a method that may throw; nothing is caught here -/
theorem vc_callS {y : MethodName} {bytes : ByteArray} {maxL n index : Nat} {ret : Option FieldType} {rm : Room} {As : List Value} (S : CallFix p m c cc nL s args lw_all own) (hM : vCt l y (ws_ y bytes maxL ret) rm A1 K As H Post1 XPost1)
    (hw : GoodIn lw_all (va_wsS own index y (ws_ y bytes maxL ret))) (hd : y.cls ≠ "java/lang/invoke/MethodHandle" ∧ y.cls ≠ "java/lang/invoke/VarHandle" ∧ (parseMethodDescriptor y.desc).map (fun d => d.parameters.length) = some n)
    (hR : rm.frames + 1 ≤ R.frames ∧ 8 + (maxL + 11) + rm.locals ≤ R.locals) (hcs : cells + rm.cells ≤ R.cells ∧ slots + rm.slots ≤ R.slots)
    (hm : zc_mv A1 K) (hK : ∀ U : State, U.heap = H → s.WarmedH U.vm → K U) (hS : va_S A s.heap H locs) (hA : ∀ q, A1 q → A q) (hn : As.length = n) (hsz : ls.size = nL) (hst : st0 = As.reverse ++ rest) (hcat : (rest.map fun v => v.category).sum ≤ 8) (hdg : decode cc pc = .ok (.invokestatic index, 3))
    (hno : ∀ x ∈ c.exceptionTable.toList, False) (hlk : meth.locks = false) (hX : ∀ (E : String) (H1 : Heap), XPost1 E H1 → XPost E H1) (hmc : cells + rm.cells ≤ mc) (hms : slots + rm.slots ≤ ms)
    (kk : ∀ (v : Option Value) (H1 : Heap) (locs1 : List Loc), Post1 v H1 → H.size ≤ H1.size → (∀ q : Nat, q < H.size → ¬ A1 q → H1[q]? = H[q]?) → va_S A s.heap H1 locs1 → W p l e R s m args below meth c H1 locs1 (cells + rm.cells) (slots + rm.slots) (vx_MQ below (zc_Q Post A) (vc_X XPost A) args s mc ms A) (F0 m (pc + 3) ls (v.toList ++ rest))) :
    W p l e R s m args below meth c H locs cells slots (vx_MQ below (zc_Q Post A) (vc_X XPost A) args s mc ms A) (F0 m pc ls st0) :=
  vc_run (vx_runS (As := As) (rest := rest) S (show vx_Met l y (ws_ y bytes maxL ret) rm (zc_P As H K) (zc_Q Post1 A1) (vc_X XPost1 A1) rm.cells rm.slots A1 from hM) (va_cwS n S.2.2.2.2 hw rfl rfl rfl hd hR) ⟨zc_blind hm, fun U hU hW => ⟨rfl, hU, hK U hU hW⟩⟩ rfl hn hsz hst (lv_room hcat) hdg hcs) hS hA
    (fun E ce q9 H1 locs1 h1 _ _ h4 h5 h6 h7 => vc_pass hno hlk (hX E H1 h1) h4 h5 h6 h7 hmc hms) kk
set_option maxHeartbeats 4000000 in
set_option maxRecDepth 100000 in
theorem xt_at_IOOBE {cn : Nat → Nat} (hts : ∀ w ∈ lw_all, w.before args s = true) (hW : KW s) (hC : KC cn A s) : ∀ w ∈ vx_at0 RX1 203 "java/lang/IndexOutOfBoundsException" ["java/lang/RuntimeException", "java/lang/Exception"], w.before args s = true := by
  intro w hw
  obtain ⟨h1, h2⟩ := List.mem_filter.mp hw
  simp only [Bundle.ownAtoms0, Bundle.throwableAtoms, Bundle.chain0Atoms, Bundle.passAtoms, List.cons_append, List.nil_append, List.append_assoc, List.mem_cons, List.not_mem_nil, or_false] at h1
  rcases h1 with rfl | rfl | rfl | rfl | rfl | rfl | rfl | rfl | rfl | rfl | rfl | rfl | rfl | rfl | rfl | rfl | rfl | rfl | rfl | rfl | rfl | rfl | rfl | rfl | rfl | rfl | rfl | rfl | rfl | rfl | rfl | rfl | rfl | rfl | rfl | rfl | rfl | rfl | rfl | rfl | rfl | rfl | rfl | rfl | rfl | rfl | rfl | rfl | rfl | rfl | rfl | rfl | rfl
  · exact hts _ q77
  · exact hts _ q307
  · exact hts _ q261
  · exact hts _ q267
  · exact hts _ q270
  · exact hts _ q272
  · exact hts _ q308
  · exact hts _ q309
  · exact hts _ q104
  · exact hts _ q105
  · exact hts _ q255
  · exact hts _ q260
  · exact hts _ q268
  · exact hts _ q275
  · exact hts _ q301
  · exact hts _ q276
  · exact hts _ q302
  · exact hts _ q277
  · exact hts _ q303
  · exact hts _ q256
  · exact absurd h2 (by decide)
  · exact hts _ q258
  · exact absurd h2 (by decide)
  · exact hts _ q304
  · exact hts _ q335
  · exact hts _ q336
  · exact hts _ q337
  · exact hts _ q338
  · exact va_Nw.use rfl (hC.2.2.2.2.2.2.2.2.2.2.1 _ (List.mem_of_getElem? (i := 0) rfl))
  · exact hts _ q338
  · exact hts _ q339
  · exact hts _ q340
  · exact hts _ q341
  · exact va_Nw.use rfl (hC.2.2.2.2.2.2.2.2.2.2.1 _ (List.mem_of_getElem? (i := 1) rfl))
  · exact hts _ q341
  · exact hts _ q342
  · exact hts _ q343
  · exact hts _ q308
  · exact va_Nw.use rfl (hC.2.2.2.2.2.2.2.2.2.2.1 _ (List.mem_of_getElem? (i := 2) rfl))
  · exact hts _ q334
  · exact hts _ q326
  · exact va_Nw.use rfl (hW.2.2.1 _ (List.mem_of_getElem? (i := 7) rfl))
  · exact hts _ q328
  · exact hts _ q266
  · exact hts _ q329
  · exact hts _ q330
  · exact hts _ q331
  · exact hts _ q332
  · exact absurd h2 (by decide)
  · exact absurd h2 (by decide)
  · exact hts _ q306
  · exact hts _ q305
  · exact hts _ q333
set_option maxHeartbeats 4000000 in
set_option maxRecDepth 100000 in
theorem xt_ot_IOOBE : ∀ w ∈ Cond.classLink RX1 201 "java/lang/IndexOutOfBoundsException" :: Cond.initialized "java/lang/IndexOutOfBoundsException" :: vx_at0 RX1 203 "java/lang/IndexOutOfBoundsException" ["java/lang/RuntimeException", "java/lang/Exception"], vx_ot w = true := by
  intro w hw
  rcases List.mem_cons.mp hw with rfl | hw
  · rfl
  rcases List.mem_cons.mp hw with rfl | hw
  · rfl
  obtain ⟨h1, h2⟩ := List.mem_filter.mp hw
  simp only [Bundle.ownAtoms0, Bundle.throwableAtoms, Bundle.chain0Atoms, Bundle.passAtoms, List.cons_append, List.nil_append, List.append_assoc, List.mem_cons, List.not_mem_nil, or_false] at h1
  rcases h1 with rfl | rfl | rfl | rfl | rfl | rfl | rfl | rfl | rfl | rfl | rfl | rfl | rfl | rfl | rfl | rfl | rfl | rfl | rfl | rfl | rfl | rfl | rfl | rfl | rfl | rfl | rfl | rfl | rfl | rfl | rfl | rfl | rfl | rfl | rfl | rfl | rfl | rfl | rfl | rfl | rfl | rfl | rfl | rfl | rfl | rfl | rfl | rfl | rfl | rfl | rfl | rfl | rfl
  · rfl
  · rfl
  · rfl
  · rfl
  · rfl
  · rfl
  · rfl
  · rfl
  · rfl
  · rfl
  · rfl
  · rfl
  · rfl
  · rfl
  · rfl
  · rfl
  · rfl
  · rfl
  · rfl
  · rfl
  · exact absurd h2 (by decide)
  · rfl
  · exact absurd h2 (by decide)
  · rfl
  · rfl
  · rfl
  · rfl
  · rfl
  · rfl
  · rfl
  · rfl
  · rfl
  · rfl
  · rfl
  · rfl
  · rfl
  · rfl
  · rfl
  · rfl
  · rfl
  · rfl
  · rfl
  · rfl
  · rfl
  · rfl
  · rfl
  · rfl
  · rfl
  · exact absurd h2 (by decide)
  · exact absurd h2 (by decide)
  · rfl
  · rfl
  · rfl
/-- 'new java/lang/IndexOutOfBoundsException()' is thrown -/
theorem vc_throw_IOOBE {cn : Nat → Nat} (S : CallFix p m c cc nL s args lw_all RX1) (hfl : l.stackTraces = false) (hW : KW s) (hC : KC cn A s) (hS : va_S A s.heap H locs) (hsz : ls.size = nL)
    (d0 : decode cc pc = .ok (.new 201, 3)) (d3 : decode cc (pc + 3) = .ok (.dup, 1)) (d4 : decode cc (pc + 4) = .ok (.invokespecial 203, 3)) (d7 : decode cc (pc + 7) = .ok (.athrow, 1))
    (hno : ∀ x ∈ c.exceptionTable.toList, False) (hlk : meth.locks = false) (hf : 5 < R.frames) (hlo : (rest.map fun v => v.category).sum + 81 ≤ R.locals) (hcR : cells + 1 ≤ R.cells) (hsR : slots + 6 ≤ R.slots) (hmc : cells + 1 ≤ mc) (hms : slots + 6 ≤ ms)
    (hq : ∀ H1 : Heap, H.size ≤ H1.size → (∀ q : Nat, q < H.size → H1[q]? = H[q]?) → XPost "java/lang/IndexOutOfBoundsException" H1) :
    W p l e R s m args below meth c H locs cells slots (vx_MQ below (zc_Q Post A) (vc_X XPost A) args s mc ms A) (F0 m pc ls rest) :=
  vx_throw0 (names := ["java/lang/RuntimeException", "java/lang/Exception"]) S.1 S.2.1 hfl S.2.2.2.1 (by decide) (by decide) (S.2.2.2.2 _ q325) (S.2.2.2.2 _ q80) (xt_at_IOOBE S.2.2.2.2 hW hC) xt_ot_IOOBE hC.2.2.2.2.2.2.2.2.1 hC.2.2.2.2.2.2.2.2.2.1 hS (hsz.trans S.2.2.1.symm) d0 d3 d4 d7 (fun x hx => (hno x hx).elim) hf hlo hcR hsR hlk
    (fun t _ h1 h2 => ⟨hq t.heap h1 h2, Nat.le_trans hS.1 h1, fun q g1 g2 => by rw [h2 q (Nat.lt_of_lt_of_le g1 hS.1)]; exact hS.2.1 q g1 g2⟩) hS.2.2 hmc hms
set_option maxHeartbeats 4000000 in
set_option maxRecDepth 100000 in
theorem xt_at_IAE {cn : Nat → Nat} (hts : ∀ w ∈ lw_all, w.before args s = true) (hW : KW s) (hC : KC cn A s) : ∀ w ∈ vx_at0 RX1 210 "java/lang/IllegalArgumentException" ["java/lang/RuntimeException", "java/lang/Exception"], w.before args s = true := by
  intro w hw
  obtain ⟨h1, h2⟩ := List.mem_filter.mp hw
  simp only [Bundle.ownAtoms0, Bundle.throwableAtoms, Bundle.chain0Atoms, Bundle.passAtoms, List.cons_append, List.nil_append, List.append_assoc, List.mem_cons, List.not_mem_nil, or_false] at h1
  rcases h1 with rfl | rfl | rfl | rfl | rfl | rfl | rfl | rfl | rfl | rfl | rfl | rfl | rfl | rfl | rfl | rfl | rfl | rfl | rfl | rfl | rfl | rfl | rfl | rfl | rfl | rfl | rfl | rfl | rfl | rfl | rfl | rfl | rfl | rfl | rfl | rfl | rfl | rfl | rfl | rfl | rfl | rfl | rfl | rfl | rfl | rfl | rfl | rfl | rfl | rfl | rfl | rfl | rfl
  · exact hts _ q77
  · exact hts _ q307
  · exact hts _ q261
  · exact hts _ q267
  · exact hts _ q270
  · exact hts _ q272
  · exact hts _ q308
  · exact hts _ q309
  · exact hts _ q104
  · exact hts _ q105
  · exact hts _ q255
  · exact hts _ q260
  · exact hts _ q268
  · exact hts _ q275
  · exact hts _ q301
  · exact hts _ q276
  · exact hts _ q302
  · exact hts _ q277
  · exact hts _ q303
  · exact hts _ q256
  · exact absurd h2 (by decide)
  · exact hts _ q258
  · exact absurd h2 (by decide)
  · exact hts _ q304
  · exact hts _ q359
  · exact hts _ q360
  · exact hts _ q361
  · exact hts _ q338
  · exact va_Nw.use rfl (hC.2.2.2.2.2.2.2.2.2.2.1 _ (List.mem_of_getElem? (i := 0) rfl))
  · exact hts _ q338
  · exact hts _ q339
  · exact hts _ q340
  · exact hts _ q341
  · exact va_Nw.use rfl (hC.2.2.2.2.2.2.2.2.2.2.1 _ (List.mem_of_getElem? (i := 1) rfl))
  · exact hts _ q341
  · exact hts _ q342
  · exact hts _ q343
  · exact hts _ q308
  · exact va_Nw.use rfl (hC.2.2.2.2.2.2.2.2.2.2.1 _ (List.mem_of_getElem? (i := 2) rfl))
  · exact hts _ q358
  · exact hts _ q350
  · exact va_Nw.use rfl (hW.2.2.1 _ (List.mem_of_getElem? (i := 13) rfl))
  · exact hts _ q352
  · exact hts _ q264
  · exact hts _ q353
  · exact hts _ q354
  · exact hts _ q355
  · exact hts _ q356
  · exact absurd h2 (by decide)
  · exact absurd h2 (by decide)
  · exact hts _ q306
  · exact hts _ q305
  · exact hts _ q357
set_option maxHeartbeats 4000000 in
set_option maxRecDepth 100000 in
theorem xt_ot_IAE : ∀ w ∈ Cond.classLink RX1 208 "java/lang/IllegalArgumentException" :: Cond.initialized "java/lang/IllegalArgumentException" :: vx_at0 RX1 210 "java/lang/IllegalArgumentException" ["java/lang/RuntimeException", "java/lang/Exception"], vx_ot w = true := by
  intro w hw
  rcases List.mem_cons.mp hw with rfl | hw
  · rfl
  rcases List.mem_cons.mp hw with rfl | hw
  · rfl
  obtain ⟨h1, h2⟩ := List.mem_filter.mp hw
  simp only [Bundle.ownAtoms0, Bundle.throwableAtoms, Bundle.chain0Atoms, Bundle.passAtoms, List.cons_append, List.nil_append, List.append_assoc, List.mem_cons, List.not_mem_nil, or_false] at h1
  rcases h1 with rfl | rfl | rfl | rfl | rfl | rfl | rfl | rfl | rfl | rfl | rfl | rfl | rfl | rfl | rfl | rfl | rfl | rfl | rfl | rfl | rfl | rfl | rfl | rfl | rfl | rfl | rfl | rfl | rfl | rfl | rfl | rfl | rfl | rfl | rfl | rfl | rfl | rfl | rfl | rfl | rfl | rfl | rfl | rfl | rfl | rfl | rfl | rfl | rfl | rfl | rfl | rfl | rfl
  · rfl
  · rfl
  · rfl
  · rfl
  · rfl
  · rfl
  · rfl
  · rfl
  · rfl
  · rfl
  · rfl
  · rfl
  · rfl
  · rfl
  · rfl
  · rfl
  · rfl
  · rfl
  · rfl
  · rfl
  · exact absurd h2 (by decide)
  · rfl
  · exact absurd h2 (by decide)
  · rfl
  · rfl
  · rfl
  · rfl
  · rfl
  · rfl
  · rfl
  · rfl
  · rfl
  · rfl
  · rfl
  · rfl
  · rfl
  · rfl
  · rfl
  · rfl
  · rfl
  · rfl
  · rfl
  · rfl
  · rfl
  · rfl
  · rfl
  · rfl
  · rfl
  · exact absurd h2 (by decide)
  · exact absurd h2 (by decide)
  · rfl
  · rfl
  · rfl
/-- 'new java/lang/IllegalArgumentException()' is thrown -/
theorem vc_throw_IAE {cn : Nat → Nat} (S : CallFix p m c cc nL s args lw_all RX1) (hfl : l.stackTraces = false) (hW : KW s) (hC : KC cn A s) (hS : va_S A s.heap H locs) (hsz : ls.size = nL)
    (d0 : decode cc pc = .ok (.new 208, 3)) (d3 : decode cc (pc + 3) = .ok (.dup, 1)) (d4 : decode cc (pc + 4) = .ok (.invokespecial 210, 3)) (d7 : decode cc (pc + 7) = .ok (.athrow, 1))
    (hno : ∀ x ∈ c.exceptionTable.toList, False) (hlk : meth.locks = false) (hf : 5 < R.frames) (hlo : (rest.map fun v => v.category).sum + 81 ≤ R.locals) (hcR : cells + 1 ≤ R.cells) (hsR : slots + 6 ≤ R.slots) (hmc : cells + 1 ≤ mc) (hms : slots + 6 ≤ ms)
    (hq : ∀ H1 : Heap, H.size ≤ H1.size → (∀ q : Nat, q < H.size → H1[q]? = H[q]?) → XPost "java/lang/IllegalArgumentException" H1) :
    W p l e R s m args below meth c H locs cells slots (vx_MQ below (zc_Q Post A) (vc_X XPost A) args s mc ms A) (F0 m pc ls rest) :=
  vx_throw0 (names := ["java/lang/RuntimeException", "java/lang/Exception"]) S.1 S.2.1 hfl S.2.2.2.1 (by decide) (by decide) (S.2.2.2.2 _ q349) (S.2.2.2.2 _ q83) (xt_at_IAE S.2.2.2.2 hW hC) xt_ot_IAE hC.2.2.2.2.2.2.2.2.1 hC.2.2.2.2.2.2.2.2.2.1 hS (hsz.trans S.2.2.1.symm) d0 d3 d4 d7 (fun x hx => (hno x hx).elim) hf hlo hcR hsR hlk
    (fun t _ h1 h2 => ⟨hq t.heap h1 h2, Nat.le_trans hS.1 h1, fun q g1 g2 => by rw [h2 q (Nat.lt_of_lt_of_le g1 hS.1)]; exact hS.2.1 q g1 g2⟩) hS.2.2 hmc hms
set_option maxHeartbeats 4000000 in
set_option maxRecDepth 100000 in
theorem xt_at_ISE {cn : Nat → Nat} (hts : ∀ w ∈ lw_all, w.before args s = true) (hW : KW s) (hC : KC cn A s) : ∀ w ∈ vx_at0 RX1 213 "java/lang/IllegalStateException" ["java/lang/RuntimeException", "java/lang/Exception"], w.before args s = true := by
  intro w hw
  obtain ⟨h1, h2⟩ := List.mem_filter.mp hw
  simp only [Bundle.ownAtoms0, Bundle.throwableAtoms, Bundle.chain0Atoms, Bundle.passAtoms, List.cons_append, List.nil_append, List.append_assoc, List.mem_cons, List.not_mem_nil, or_false] at h1
  rcases h1 with rfl | rfl | rfl | rfl | rfl | rfl | rfl | rfl | rfl | rfl | rfl | rfl | rfl | rfl | rfl | rfl | rfl | rfl | rfl | rfl | rfl | rfl | rfl | rfl | rfl | rfl | rfl | rfl | rfl | rfl | rfl | rfl | rfl | rfl | rfl | rfl | rfl | rfl | rfl | rfl | rfl | rfl | rfl | rfl | rfl | rfl | rfl | rfl | rfl | rfl | rfl | rfl | rfl
  · exact hts _ q77
  · exact hts _ q307
  · exact hts _ q261
  · exact hts _ q267
  · exact hts _ q270
  · exact hts _ q272
  · exact hts _ q308
  · exact hts _ q309
  · exact hts _ q104
  · exact hts _ q105
  · exact hts _ q255
  · exact hts _ q260
  · exact hts _ q268
  · exact hts _ q275
  · exact hts _ q301
  · exact hts _ q276
  · exact hts _ q302
  · exact hts _ q277
  · exact hts _ q303
  · exact hts _ q256
  · exact absurd h2 (by decide)
  · exact hts _ q258
  · exact absurd h2 (by decide)
  · exact hts _ q304
  · exact hts _ q377
  · exact hts _ q378
  · exact hts _ q379
  · exact hts _ q338
  · exact va_Nw.use rfl (hC.2.2.2.2.2.2.2.2.2.2.1 _ (List.mem_of_getElem? (i := 0) rfl))
  · exact hts _ q338
  · exact hts _ q339
  · exact hts _ q340
  · exact hts _ q341
  · exact va_Nw.use rfl (hC.2.2.2.2.2.2.2.2.2.2.1 _ (List.mem_of_getElem? (i := 1) rfl))
  · exact hts _ q341
  · exact hts _ q342
  · exact hts _ q343
  · exact hts _ q308
  · exact va_Nw.use rfl (hC.2.2.2.2.2.2.2.2.2.2.1 _ (List.mem_of_getElem? (i := 2) rfl))
  · exact hts _ q376
  · exact hts _ q368
  · exact va_Nw.use rfl (hW.2.2.1 _ (List.mem_of_getElem? (i := 0) rfl))
  · exact hts _ q370
  · exact hts _ q265
  · exact hts _ q371
  · exact hts _ q372
  · exact hts _ q373
  · exact hts _ q374
  · exact absurd h2 (by decide)
  · exact absurd h2 (by decide)
  · exact hts _ q306
  · exact hts _ q305
  · exact hts _ q375
set_option maxHeartbeats 4000000 in
set_option maxRecDepth 100000 in
theorem xt_ot_ISE : ∀ w ∈ Cond.classLink RX1 211 "java/lang/IllegalStateException" :: Cond.initialized "java/lang/IllegalStateException" :: vx_at0 RX1 213 "java/lang/IllegalStateException" ["java/lang/RuntimeException", "java/lang/Exception"], vx_ot w = true := by
  intro w hw
  rcases List.mem_cons.mp hw with rfl | hw
  · rfl
  rcases List.mem_cons.mp hw with rfl | hw
  · rfl
  obtain ⟨h1, h2⟩ := List.mem_filter.mp hw
  simp only [Bundle.ownAtoms0, Bundle.throwableAtoms, Bundle.chain0Atoms, Bundle.passAtoms, List.cons_append, List.nil_append, List.append_assoc, List.mem_cons, List.not_mem_nil, or_false] at h1
  rcases h1 with rfl | rfl | rfl | rfl | rfl | rfl | rfl | rfl | rfl | rfl | rfl | rfl | rfl | rfl | rfl | rfl | rfl | rfl | rfl | rfl | rfl | rfl | rfl | rfl | rfl | rfl | rfl | rfl | rfl | rfl | rfl | rfl | rfl | rfl | rfl | rfl | rfl | rfl | rfl | rfl | rfl | rfl | rfl | rfl | rfl | rfl | rfl | rfl | rfl | rfl | rfl | rfl | rfl
  · rfl
  · rfl
  · rfl
  · rfl
  · rfl
  · rfl
  · rfl
  · rfl
  · rfl
  · rfl
  · rfl
  · rfl
  · rfl
  · rfl
  · rfl
  · rfl
  · rfl
  · rfl
  · rfl
  · rfl
  · exact absurd h2 (by decide)
  · rfl
  · exact absurd h2 (by decide)
  · rfl
  · rfl
  · rfl
  · rfl
  · rfl
  · rfl
  · rfl
  · rfl
  · rfl
  · rfl
  · rfl
  · rfl
  · rfl
  · rfl
  · rfl
  · rfl
  · rfl
  · rfl
  · rfl
  · rfl
  · rfl
  · rfl
  · rfl
  · rfl
  · rfl
  · exact absurd h2 (by decide)
  · exact absurd h2 (by decide)
  · rfl
  · rfl
  · rfl
/-- 'new java/lang/IllegalStateException()' is thrown -/
theorem vc_throw_ISE {cn : Nat → Nat} (S : CallFix p m c cc nL s args lw_all RX1) (hfl : l.stackTraces = false) (hW : KW s) (hC : KC cn A s) (hS : va_S A s.heap H locs) (hsz : ls.size = nL)
    (d0 : decode cc pc = .ok (.new 211, 3)) (d3 : decode cc (pc + 3) = .ok (.dup, 1)) (d4 : decode cc (pc + 4) = .ok (.invokespecial 213, 3)) (d7 : decode cc (pc + 7) = .ok (.athrow, 1))
    (hno : ∀ x ∈ c.exceptionTable.toList, False) (hlk : meth.locks = false) (hf : 5 < R.frames) (hlo : (rest.map fun v => v.category).sum + 81 ≤ R.locals) (hcR : cells + 1 ≤ R.cells) (hsR : slots + 6 ≤ R.slots) (hmc : cells + 1 ≤ mc) (hms : slots + 6 ≤ ms)
    (hq : ∀ H1 : Heap, H.size ≤ H1.size → (∀ q : Nat, q < H.size → H1[q]? = H[q]?) → XPost "java/lang/IllegalStateException" H1) :
    W p l e R s m args below meth c H locs cells slots (vx_MQ below (zc_Q Post A) (vc_X XPost A) args s mc ms A) (F0 m pc ls rest) :=
  vx_throw0 (names := ["java/lang/RuntimeException", "java/lang/Exception"]) S.1 S.2.1 hfl S.2.2.2.1 (by decide) (by decide) (S.2.2.2.2 _ q367) (S.2.2.2.2 _ q84) (xt_at_ISE S.2.2.2.2 hW hC) xt_ot_ISE hC.2.2.2.2.2.2.2.2.1 hC.2.2.2.2.2.2.2.2.2.1 hS (hsz.trans S.2.2.1.symm) d0 d3 d4 d7 (fun x hx => (hno x hx).elim) hf hlo hcR hsR hlk
    (fun t _ h1 h2 => ⟨hq t.heap h1 h2, Nat.le_trans hS.1 h1, fun q g1 g2 => by rw [h2 q (Nat.lt_of_lt_of_le g1 hS.1)]; exact hS.2.1 q g1 g2⟩) hS.2.2 hmc hms
end ZV
