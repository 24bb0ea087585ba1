/-! THE CALL Kind.points: on a kind, and on the one of a class of its own (Kind$1: no word says that it is initialized, and none is needed: its two instructions are walked) -/
theorem kp_back {l : Launch} {R : Room} {p : Program} {e : Env} {below : List Frame} {s : State} {sargs : Array Value} {y : MethodName} {bytes : ByteArray} {maxL W : Nat} (hy : plainName y.cls = true) (hexec : p.tables.exec = Jvm.exec)
    (d0 : decode bytes 0 = .ok (.iconst 1, 1)) (d1 : decode bytes 1 = .ok (.ireturn, 1)) (hframes : 1 ≤ R.frames) (hlocals : W + (maxL + 11) ≤ R.locals) :
    Back l R p e below s sargs y 3 W (fun A a => (Cond.code y bytes maxL (some .int)).before a A.U = true) (fun A _ v B => v = some (.int (nI 1)) ∧ B = A) := by
  intro m meth c A g ig mk a X hg hsize hdg hW hn hp
  obtain ⟨methY, cY, hmY, hcY, hbY, hlY, hrY, hlkY, -, -⟩ := Cond.code_spec hn hp
  have h : At A.U g.method c below := by rw [hg]; exact X.here
  have hplain : A.U.plainMethod mk := by
    refine State.plainMethod.of_name ?_
    intro k hk
    obtain ⟨k', hk', hn'⟩ := className_of_methodNamed hn
    cases hk.symm.trans hk'
    rw [hn']; exact hy
  refine ⟨some (.int (nI 1)), A, X, ⟨rfl, rfl⟩, ?_⟩
  rw [doInvoke_enter h.top [] hmY hcY hlkY (X.notFull hsize hframes (by rw [hlY]; omega))]
  have hE := h.enter (g := g) a hmY hcY hplain
  have hf := frames_entered (g := g) h.top (.java (entryFrame mk a cY.maxLocals))
  have hcg : ((A.U.setTop g).pushFrame (.java (entryFrame mk a cY.maxLocals))).code? g.method = some c := by
    have := h.code
    rw [State.code?_eq] at this ⊢
    simpa [State.pushFrame, State.setFrames] using this
  have hmV : ((A.U.setTop g).pushFrame (.java (entryFrame mk a cY.maxLocals))).vm.method? mk = some methY := by simpa [State.pushFrame, State.setFrames] using hmY
  have hback := setFrames_entered (g := g) h.top (.java (entryFrame mk a cY.maxLocals))
  generalize (A.U.setTop g).pushFrame (.java (entryFrame mk a cY.maxLocals)) = V at hE hf hcg hmV hback ⊢
  refine Steps.instr (c := cY) (show At V (entryFrame mk a cY.maxLocals).method cY below from hE) ?_
  simp [jvm, wpRun, exec, hE.top, hexec, hbY, d0, entryFrame]
  refine Steps.instr (c := cY) (show At V mk cY below from hE) ?_
  simp [jvm, wpRun, exec, hE.top, hexec, hbY, d1, entryFrame]
  refine ⟨methY, hmV, .int, hrY, fun acts => ?_⟩
  rw [doReturn_leave (g := g) (cg := c) (ig := ig) (len := 3) acts hf (f := { method := mk, pc := 1, locals := argsToLocals a cY.maxLocals, stack := [], locked := none }) hmV hlkY rfl rfl hcg hdg, hback, State.setTop_setTop]
  exact Steps.refl _
theorem lw_U {own : String} {idx : Nat} {C owner : String} {x y : MethodName} {b : ByteArray} {L : Nat} {r : Option FieldType} (h1 : Cond.methodLink own idx x ∈ lw_all) (h2 : Cond.sameMethod x.cls owner x.name x.desc ∈ lw_all) (h3 : Cond.selects C x y ∈ lw_all) (h4 : Cond.instanceMethod y ∈ lw_all) (h5 : Cond.initialized y.cls ∈ lw_all) (h6 : Cond.code y b L r ∈ lw_all) : GoodIn lw_all (va_wsU own idx C owner x y (ws_ y b L r)) := by
  refine lw_app ?_ (lw_meth h6)
  intro w hw
  simp only [List.mem_cons, List.not_mem_nil, or_false] at hw
  rcases hw with rfl | rfl | rfl | rfl | rfl
  · exact h1
  · exact h2
  · exact h3
  · exact h4
  · exact h5
section ZK
variable {D : va_G} {dA : Nat → ClassId} {cn : Nat → Nat} {A : Nat → Prop} {H : Heap}
variable {p : Program} {l : Launch} {e : Env} {R : Room} {s : State} {m : MethodId} {args : Array Value} {below : List Frame} {meth : Method} {c : Code} {locs : List Loc} {cells slots : Nat} {Q : State → Prop}
variable {cc : ByteArray} {pc nL : Nat} {ls : Array Slot} {rest : List Value}
theorem kk_cell (hKX : KX D dA cn A s) (hS : va_S A s.heap H locs) {k : Nat} (hk : k < 5) : ∃ cell : Cell, H[cn (3 + k)]? = some cell ∧ cell.vm.isStatics = false ∧ s.vm.findClass (kclX k) = some cell.cls := by
  obtain ⟨cell, h1, h2, h3, h4⟩ := (hKX.2.2.2.2.2.2.2.2.1 k hk).2.1
  exact ⟨cell, (hS.2.1 _ (Array.getElem?_eq_some_iff.mp h1).1 h4).trans h1, h2, h3⟩
theorem kI_kpoints (S : CallFix p m c cc nL s args lw_all RX1) (hKX : KX D dA cn A s) (hS : va_S A s.heap H locs) (k : Nat) (hk : k < 5) (hf : 1 + 1 ≤ R.frames) (hlo : 8 + (1 + 11) + 12 ≤ R.locals) (hsz : ls.size = nL) (hcat : (rest.map fun v => v.category).sum ≤ 8) (hq1 : cells ≤ R.cells) (hq2 : slots ≤ R.slots) (hdg : decode cc pc = .ok (.invokevirtual 173, 3))
    (kk : ∀ locs1 : List Loc, va_S A s.heap H locs1 → W p l e R s m args below meth c H locs1 cells slots Q (F0 m (pc + 3) ls (.int (nI (if k = 4 then 1 else 0)) :: rest))) : W p l e R s m args below meth c H locs cells slots Q (F0 m pc ls (.ref (cn (3 + k)) :: rest)) := by
  have hcell := kk_cell hKX hS hk
  by_cases h4 : k = 4
  · subst h4
    intro T hT X
    obtain ⟨cellB, hcB, hoB, hclB⟩ := hcell
    obtain ⟨v, vm₁, B, hW₁, X', ⟨rfl, rfl⟩, st⟩ := va_callVU X S.1 (own := RX1) (C := "Hexstead$Kind$1") (owner := "Hexstead$Kind") (index := 173) (x := ⟨"Hexstead$Kind", "points", "()I"⟩) (y := yX10_points) (bytes := cX10_points) (maxL := 1) (ret := some .int) S.2.2.2.1 (S.2.2.2.2 _ q629) (S.2.2.2.2 _ q632)
      (va_Decl.of (S.2.2.2.2 _ q630) (S.2.2.2.2 _ q636)) (by decide) (S.2.2.2.2 _ q633) (S.2.2.2.2 _ q634) (S.2.2.2.2 _ q635) (kp_back (R := R) (W := 8) (by decide) S.1 dX10_points_0 dX10_points_1 (by omega) (by omega)) (by rw [hT]; exact hcB) hoB hclB (g := F0 m pc ls (.ref (cn (3 + 4)) :: rest)) rfl (hsz.trans S.2.2.1.symm) (argsL := []) (rest := rest) (fun sig h => by
        have h9 : parseMethodDescriptor "()I" = some sig := h
        have h8 : (parseMethodDescriptor "()I").map (fun d => d.parameters.length) = some 0 := by decide +kernel
        rw [h9] at h8
        exact (Option.some.inj h8).symm) rfl (lv_room hcat) (by rw [S.2.1]; exact hdg)
      (fun vm₁ hW₁ => word_at (U := T.setVm vm₁) hW₁ (Or.inl rfl) (S.2.2.2.2 _ q635))
    obtain ⟨t, a, b⟩ := kk locs hS (T.setVm vm₁) hT X'
    exact ⟨t, st t a, b⟩
  · have hcl : kclX k = "Hexstead$Kind" := if_neg h4
    rw [hcl] at hcell
    rw [if_neg h4] at kk
    exact zc_callV (n := 0) (As := []) (rest := rest) S (c_X7_points l H (Post := fun v H1 => v = some (.int (nI 0)) ∧ H = H1) ⟨rfl, rfl⟩) (lw_V q629 q630 q631 q94 q636) (by decide +kernel) ⟨hf, hlo⟩ ⟨hq1, hq2⟩ hcell KX_mv (zc_K KX_mv hKX hS) hS (fun _ h => h) rfl hsz rfl hcat hdg (fun v H1 locs1 hp _ _ hS1 => by obtain ⟨rfl, rfl⟩ := hp; exact kk locs1 hS1)
theorem kI_kord (S : CallFix p m c cc nL s args lw_all RX1) (hKX : KX D dA cn A s) (hS : va_S A s.heap H locs) (k : Nat) (hk : k < 5) (hf : 1 + 1 ≤ R.frames) (hlo : 8 + (1 + 11) + 12 ≤ R.locals) (hsz : ls.size = nL) (hcat : (rest.map fun v => v.category).sum ≤ 8) (hq1 : cells ≤ R.cells) (hq2 : slots ≤ R.slots) (hdg : decode cc pc = .ok (.invokevirtual 303, 3))
    (kk : ∀ locs1 : List Loc, va_S A s.heap H locs1 → W p l e R s m args below meth c H locs1 cells slots Q (F0 m (pc + 3) ls (.int (nI k) :: rest))) : W p l e R s m args below meth c H locs cells slots Q (F0 m pc ls (.ref (cn (3 + k)) :: rest)) := by
  have hcell := kk_cell hKX hS hk
  have hM := c_J15_ordinal l (D := D) (dA := dA) (cn := cn) (A := A) hk H (Post := fun v H1 => v = some (.int (nI k)) ∧ H = H1) ⟨rfl, rfl⟩
  have hsel : Cond.selects (kclX k) ⟨"Hexstead$Kind", "ordinal", "()I"⟩ ⟨"java/lang/Enum", "ordinal", "()I"⟩ ∈ lw_all := by
    by_cases h4 : k = 4
    · rw [show kclX k = "Hexstead$Kind$1" from if_pos h4]; exact q814
    · rw [show kclX k = "Hexstead$Kind" from if_neg h4]; exact q813
  exact zc_run (va_runU (As := []) (rest := rest) S (show Met l yJ15_ordinal (ws_ yJ15_ordinal cJ15_ordinal 1 (some .int)) (rmF 1 0 0 12) (zc_P [.ref (cn (3 + k))] H (KX D dA cn A)) (zc_Q _ A) 0 0 A from hM) (va_cwU (own := RX1) (C := kclX k) (owner := "java/lang/Enum") (index := 303) (x := ⟨"Hexstead$Kind", "ordinal", "()I"⟩) 0 S.2.2.2.2 (lw_U q810 q811 hsel q815 q93 q816) rfl rfl rfl rfl (by decide +kernel) ⟨hf, hlo⟩) ⟨zc_blind KX_mv, hcell, fun U hU hW => ⟨rfl, hU, zc_K KX_mv hKX hS U hU hW⟩⟩ rfl rfl hsz rfl (lv_room hcat) hdg ⟨hq1, hq2⟩) hS (fun _ h => h) (fun v H1 locs1 hp _ _ hS1 => by obtain ⟨rfl, rfl⟩ := hp; exact kk locs1 hS1)
end ZK
