/-! an index out of bounds: the exception made, thrown, caught -/
section EXF
variable {e : Env} {s : State} {f : JFrame} {a : Addr}
/-- the search through a table of one entry that names a linked kind to which the object can be assigned -/
theorem ex_go {Q : Handler → Pre} {E : CtlPost} {d : Bool} {acts : List Action} {x : ExceptionTableEntry} {cT : ClassId} {cell : Cell} (hx : covers x f.pc = true) (h0 : x.catchType ≠ 0) (hg : (resolveClass f.method.cls x.catchType).Gives e.toSetting s.vm (.ok cT) (s.vm.noted f.method.cls x.catchType (.cls cT)))
    (hcell : s.heap[a]? = some cell) (hobj : ∀ k, cell.vm ≠ .statics k) (hk : ∃ k, (s.vm.noted f.method.cls x.catchType (.cls cT)).classes[cell.cls]? = some k) (hc : ∃ k, (s.vm.noted f.method.cls x.catchType (.cls cT)).classes[cT]? = some k) (hfit : (s.vm.noted f.method.cls x.catchType (.cls cT)).assignable cell.cls cT = true) :
    wp (findHandler.go f a [x]) Q E e d acts s ↔ Q (.found x.handlerPc) d acts (s.setVm (s.vm.noted f.method.cls x.catchType (.cls cT))) := by
  simp only [covers] at hx
  obtain ⟨ha, ht⟩ := hg.op (op := VmOp.resolveClass f.method.cls x.catchType) rfl
  obtain ⟨k1, hk1⟩ := hk
  obtain ⟨k2, hk2⟩ := hc
  simp [findHandler.go, hx, h0, ha, ht, hcell, hobj, hk1, hk2, hfit, VmOp.dirties, VmOp.acts]
theorem ex_step {r : List Frame} {pc : Nat} {vm₁ : Vm} (hfind : ∀ (Q : Handler → Pre) (E : CtlPost) (d : Bool) (acts : List Action), wp (findHandler f a) Q E e d acts s ↔ Q (.found pc) d acts (s.setVm vm₁)) :
    (stepThrowing e s a (.java f :: r)).Is ((s.setVm vm₁).setFrames (.java { f with pc := pc, stack := [.ref a] } :: r)) [] := by
  simp only [stepThrowing, searchFrame, vmDo]
  generalize hr : Sem.go _ e false [] s = res
  obtain ⟨as, rfl, ha⟩ := Sem.eq_ok_of hr (a := Handler.found pc) (s' := s.setVm vm₁) (acts' := []) (by simp [hfind _ _ _ _])
  exact ⟨rfl, ha⟩
theorem ex_steps {tb : Tables} {T target : State} {g : JFrame} {c : Code} {below : List Frame} (h : At T g.method c below) {pc : Nat} {vm₁ : Vm}
    (hfind : ∀ (Q : Handler → Pre) (E : CtlPost) (d : Bool) (acts : List Action), wp (findHandler g a) Q E e d acts ((T.setTop g).pushFrame (.throwing a)) ↔ Q (.found pc) d acts (((T.setTop g).pushFrame (.throwing a)).setVm vm₁))
    (hrest : Steps tb e below ((T.setVm vm₁).setTop { g with pc := pc, stack := [.ref a] }) target) : Steps tb e below ((T.setTop g).pushFrame (.throwing a)) target := by
  obtain ⟨hgo, hw⟩ := h.throwing a
  refine Steps.head hgo hw ?_
  rw [stepThread_throwing (frames_entered h.top _), (ex_step (s := (T.setTop g).pushFrame (.throwing a)) hfind).1]
  obtain ⟨g₀, hg⟩ := Option.isSome_iff_exists.mp h.top
  obtain ⟨r, hr⟩ := State.topJava?_eq_some.mp hg
  have hr' : (T.setVm vm₁).frames = .java g₀ :: r := hr
  have hsw : ∀ (F G : List Frame) (u : State), ((u.setFrames F).setVm vm₁).setFrames G = (u.setVm vm₁).setFrames G := fun F G u => by
    rw [show (u.setFrames F).setVm vm₁ = (u.setVm vm₁).setFrames F from rfl, State.setFrames_setFrames]
  rw [State.setTop_of_frames _ hr'] at hrest
  rw [hr, List.tail_cons, State.pushFrame, hsw, State.setTop_of_frames _ hr, hsw]
  exact hrest
end EXF
section EXS
variable {p : Program} {l : Launch} {e : Env} {R : Room} {s : State} {m : MethodId} {args : Array Value} {below : List Frame} {meth : Method} {c : Code} {T : State} {locs : List Loc} {cells slots : Nat}
/-- caught in the walked method, the catch's kind resolved now or before -/
theorem ex_caught (X : Stand p l e R s m args below meth c T locs cells slots) (a : Addr) {g : JFrame} (hg : g.method = m) {own name : String} (hown : s.vm.findClass own = some m.cls) (x : ExceptionTableEntry) (htab : c.exceptionTable.toList = [x]) (hx : covers x g.pc = true) (h0 : x.catchType ≠ 0)
    (hlink : (Cond.classLink own x.catchType name).before args s = true) {cell : Cell} (hcell : T.heap[a]? = some cell) (hobj : ∀ k, cell.vm ≠ .statics k) (hcls : s.vm.findClass name = some cell.cls) :
    ∃ vm₁ : Vm, Stand p l e R s m args below meth c (T.setVm vm₁) locs cells slots ∧ ∀ target, Steps p.tables e below ((T.setVm vm₁).setTop { g with pc := x.handlerPc, stack := [.ref a] }) target → Steps p.tables e below ((T.setTop g).pushFrame (.throwing a)) target := by
  have hpl : e.platform.magicAccessors = ({} : Platform).magicAccessors := by rw [X.admits.platform]
  obtain ⟨c0, hfc0, hlk⟩ := Cond.classLink_spec hown hlink e.platform hpl
  cases hfc0.symm.trans hcls
  obtain ⟨hg₁, hwarm₁, -⟩ := State.classEntry (e := e) X.warmed hlk
  obtain ⟨k0, hk0, -⟩ := Vm.findClass_spec hcls
  obtain ⟨k1, hk1, -⟩ := hwarm₁.alike.2.2 _ _ hk0
  refine ⟨_, X.noted hwarm₁, fun target h => ?_⟩
  have hat : At T g.method c below := by rw [hg]; exact X.here
  refine ex_steps hat (fun Q E d acts => ?_) h
  rw [W.findHandler_eq (meth := meth) (code := c) (by rw [Stand.throwing_vm, hg]; exact X.method') X.code, htab]
  have := ex_go (e := e) (s := (T.setTop g).pushFrame (.throwing a)) (f := g) (a := a) (x := x) (cT := cell.cls) (Q := Q) (E := E) (d := d) (acts := acts) hx h0 (by rw [hg, Stand.throwing_vm]; exact hg₁) (by rw [Stand.throwing_heap]; exact hcell) hobj ⟨k1, by rw [Stand.throwing_vm, hg]; exact hk1⟩ ⟨k1, by rw [Stand.throwing_vm, hg]; exact hk1⟩ (as_self _ _)
  rw [Stand.throwing_vm, hg] at this
  exact this
end EXS
def exA : List Cond := Bundle.messageArmAtoms "java/lang/ArrayIndexOutOfBoundsException" ["java/lang/IndexOutOfBoundsException", "java/lang/RuntimeException", "java/lang/Exception"]
def exT : String := "java/lang/Throwable"
section EXM
variable {p : Program} {l : Launch} {e : Env} {R : Room} {s : State} {m₀ : MethodId} {args : Array Value} {below : List Frame} {meth : Method} {c : Code} {T' : State} {locs : List Loc} {cells slots : Nat}
set_option maxHeartbeats 2000000 in
/-- the note 'throw a new ..' runs: the text, the object, its constructor; then the note 'throwing' lies over the frame -/
theorem ex_at (X : Stand p l e R s m₀ args below meth c T' locs cells slots) (hexec : p.tables.exec = Jvm.exec) (htr : e.platform.stackTraces = false) {text : String} (h : ∀ a ∈ exA, a.before args s = true)
    (hlocs : ∀ x ∈ locs, ∀ cell, s.heap[x.base]? = some cell → cell.vm.isStatics = false)
    (htext : (text == notModelled) = false) (hbytes : (stringBytes (stringToUtf16 text)).size ≤ 212)
    {g : JFrame} (hg : g.method = m₀) (hsize : g.locals.size = c.maxLocals) (hRframes : 8 ≤ R.frames) (hRlocals : 2 * g.monitorRoom + (g.stack.map fun v => v.category).sum + 10240 ≤ R.locals) (hRcells : cells + 3 ≤ R.cells) (hRslots : slots + 222 ≤ R.slots) :
    ∃ (T1 : State) (L : List Loc) (n : Nat) (ce : Cell), n ≤ slots + 222 ∧ Stand p l e R s m₀ args below meth c T1 (locs ++ L) (cells + 3) n ∧ (∀ y ∈ L, y.base = T'.heap.size + 2) ∧ T1.heap.size = T'.heap.size + 3 ∧ (∀ q : Nat, q < T'.heap.size → T1.heap[q]? = T'.heap[q]?) ∧
      T1.heap[T'.heap.size + 2]? = some ce ∧ (∀ k, ce.vm ≠ .statics k) ∧ s.vm.findClass "java/lang/ArrayIndexOutOfBoundsException" = some ce.cls ∧
      ∀ target, Steps p.tables e below ((T1.setTop g).pushFrame (.throwing (T'.heap.size + 2))) target → Steps p.tables e below ((T'.setTop g).pushFrame (.throwNew "java/lang/ArrayIndexOutOfBoundsException" (some text) none)) target := by
  have howns : e.platform.frameOwnsMonitors = true := by rw [X.admits.platform]
  have hfin : e.platform.finalization = false := by rw [X.admits.platform]
  have hpl : e.platform.magicAccessors = ({} : Platform).magicAccessors := by rw [X.admits.platform]
  have hlimit : ¬ (stringBytes (stringToUtf16 text)).size > e.platform.arrayLengthLimit := by rw [Launch.admits_arrayLengthLimit X.admits]; omega
  have hheap : ¬ (stringBytes (stringToUtf16 text)).size * componentBytes .byte > e.platform.maxHeapBytes := by rw [Launch.admits_maxHeapBytes X.admits]; show ¬ _ * 1 > 536870912; omega
  have at' : ∀ x, x ∈ exA → x.holds args s none s [] = true := fun x hx => h x hx
  obtain ⟨Th, Z0, L, -, Y⟩ := ThrowableC.of_atoms (args := args) howns hfin hpl (fun x hx => h x (by simp [exA, Bundle.messageArmAtoms, hx]))
  obtain ⟨Z, Ms, LZ, LM, hnZ⟩ := Init0T.ofS_atoms (args := args) hpl L Y (fun x hx => h x (by simp [exA, Bundle.messageArmAtoms, hx]))
  obtain ⟨P1, Ps, hlen, L1, hL, hP1m, hlink1, hlink⟩ := Bundle.chainS (args := args) hpl hnZ ["java/lang/IndexOutOfBoundsException", "java/lang/RuntimeException", "java/lang/Exception"] "java/lang/ArrayIndexOutOfBoundsException" (by decide +kernel) (by decide +kernel) (fun x hx => h x (by simp [exA, Bundle.messageArmAtoms, hx]))
  obtain ⟨Zs, LZs, hn4, hfitv, hfitc⟩ := StringT.of_atoms (args := args) (fun x hx => h x (by simp [exA, Bundle.messageArmAtoms, hx]))
  have hfound : s.vm.findClass "java/lang/ArrayIndexOutOfBoundsException" = some P1.m.cls := findClass_of_methodNamed hP1m
  obtain ⟨c1, kX, hc1, hk, hord, -, -, hn6⟩ := Cond.instantiable_spec (at' (.instantiable "java/lang/ArrayIndexOutOfBoundsException" 6) (by simp [exA, Bundle.messageArmAtoms]))
  cases Option.some.inj (hc1.symm.trans hfound)
  have hinit := Cond.initialized_spec hfound hk (at' (.initialized "java/lang/ArrayIndexOutOfBoundsException") (by simp [exA, Bundle.messageArmAtoms]))
  have hctor : kX.findMethod "<init>" "(Ljava/lang/String;)V" = some P1.m.idx := findMethod_of_methodNamed hP1m hk
  have hsel0 : selectMethod e.platform s.vm P1.m.cls Th.fill0 = .method Th.fill0 := by
    obtain ⟨c2, r2, m2, q1, q2, q3, q4, -⟩ := Cond.selects_spec (at' (.selects "java/lang/ArrayIndexOutOfBoundsException" Bundle.tFill0 Bundle.tFill0) (by simp [exA, Bundle.messageArmAtoms]))
    cases Option.some.inj (q1.symm.trans hfound)
    cases Option.some.inj (q2.symm.trans (State.methodFound?_of_named Y.fill0 (by decide)))
    cases Option.some.inj (q3.symm.trans Y.fill0)
    rw [Launch.admits_selectMethod X.admits]; exact q4
  have hselF : selectMethod e.platform s.vm P1.m.cls Th.fill = .method Th.fill := by
    obtain ⟨c2, r2, m2, q1, q2, q3, q4, -⟩ := Cond.selects_spec (at' (.selects "java/lang/ArrayIndexOutOfBoundsException" Bundle.tFill Bundle.tFill) (by simp [exA, Bundle.messageArmAtoms]))
    cases Option.some.inj (q1.symm.trans hfound)
    cases Option.some.inj (q2.symm.trans (State.methodFound?_of_named Y.fill (by decide)))
    cases Option.some.inj (q3.symm.trans Y.fill)
    rw [Launch.admits_selectMethod X.admits]; exact q4
  obtain ⟨cellS0, hcS0, hiss⟩ := Y.statics
  obtain ⟨u0, hu0⟩ := Cond.staticRefV Y.unassigned L.unassignedStatic L.statics hcS0 hiss (at' (.isRef (.static Bundle.tN "UNASSIGNED_STACK" Bundle.steD)) (by simp [exA, Bundle.messageArmAtoms]))
  obtain ⟨sen, hsen⟩ := Cond.staticRefV Y.sentinel L.sentinelStatic L.statics hcS0 hiss (at' (.isRef (.static Bundle.tN "SUPPRESSED_SENTINEL" Bundle.listD)) (by simp [exA, Bundle.messageArmAtoms]))
  obtain ⟨ci198, i198, fB, hk198, hg198, ha198, hsB, -, hnB, htB, hffB⟩ := Cond.ownField (t := .object "java/lang/Object") Y.found L.cls (by decide +kernel) (at' (.fieldLink Bundle.tN 198 Bundle.tN "backtrace" "Ljava/lang/Object;") (by simp [exA, Bundle.messageArmAtoms])) (at' (.lays Bundle.tN Bundle.tN "backtrace" "Ljava/lang/Object;") (by simp [exA, Bundle.messageArmAtoms])) e.platform hpl
  obtain ⟨cellS, hcellS, heS, -, hkeep⟩ := X.same.2.2.2.2.2 Th.aS cellS0 hcS0
  have hcellS : T'.heap[Th.aS]? = some cellS := hcellS
  have hnot : ∀ i, (⟨Th.aS, i⟩ : Loc) ∉ locs := fun i hmem => by
    have := hlocs _ hmem cellS0 hcS0
    rw [hiss] at this; cases this
  have hknownS : cellS.vm ≠ .unknown := by
    rw [heS]; intro hu
    rw [show cellS0.vm = .unknown from hu] at hiss
    cases hiss
  obtain ⟨iM, hffM⟩ := Y.msg
  obtain ⟨tyC, dC, hdC, hdnC⟩ := Cond.laysAt hfound hk Y.cause (at' (.lays "java/lang/ArrayIndexOutOfBoundsException" Bundle.tN "cause" "Ljava/lang/Throwable;") (by simp [exA, Bundle.messageArmAtoms]))
  obtain ⟨tyS, dS, hdS, hdnS⟩ := Cond.laysAt hfound hk Y.stack (at' (.lays "java/lang/ArrayIndexOutOfBoundsException" Bundle.tN "stackTrace" Bundle.steD) (by simp [exA, Bundle.messageArmAtoms]))
  obtain ⟨tyP, dP, hdP, hdnP⟩ := Cond.laysAt hfound hk Y.supp (at' (.lays "java/lang/ArrayIndexOutOfBoundsException" Bundle.tN "suppressedExceptions" Bundle.listD) (by simp [exA, Bundle.messageArmAtoms]))
  obtain ⟨tyM, dM, hdM, hdnM⟩ := Cond.laysAt hfound hk hffM (at' (.lays "java/lang/ArrayIndexOutOfBoundsException" Bundle.tN "detailMessage" "Ljava/lang/String;") (by simp [exA, Bundle.messageArmAtoms]))
  obtain ⟨tyB, dB, hdB, hdnB⟩ := Cond.laysAt hfound hk hffB (at' (.lays "java/lang/ArrayIndexOutOfBoundsException" Bundle.tN "backtrace" "Ljava/lang/Object;") (by simp [exA, Bundle.messageArmAtoms]))
  have bC := Cond.laysApart hdB hdC hdnB hdnC (by rw [hnB, Y.causeName]; decide)
  have bS := Cond.laysApart hdB hdS hdnB hdnS (by rw [hnB, Y.stackName]; decide)
  have bP := Cond.laysApart hdB hdP hdnB hdnP (by rw [hnB, Y.suppName]; decide)
  have hskip : SkipFacts Th e.platform s (fun u => u) u0 ((preparedCellV Th.toThrowableT (freshCell P1.m.cls kX) (T'.heap.size + 2) u0 sen).withEntry T'.cur) :=
    ⟨{ ci198 := ci198, i198 := i198, fBack := fB }, ⟨hk198, hg198, ha198, hsB⟩, by
      have := fresh_default (c := P1.m.cls) tyB
      rw [htB] at this
      simpa [preparedCellV, Cell.setSlot, Cell.withEntry, Array.getElem?_setIfInBounds, bC, bS, bP, bC.symm, bS.symm, bP.symm, defaultValue] using this, fun _ _ => rfl⟩
  have hat : At T' g.method c below := by rw [hg]; exact X.here
  have hlen3 : Ps.length = 3 := hlen
  obtain ⟨hbeyond, hfreeW⟩ := X.vmMayThrow hsize (.throwNew "java/lang/ArrayIndexOutOfBoundsException" (some text) none) (fun f hf => by cases hf) rfl hRlocals
  have hfr' : T'.frames.length + Ps.length + 4 < (e.platform.stackLimits T'.me).1 := by have := X.framesAbove (show 7 < R.frames by omega); omega
  have hwd' : (stackUse (.java g :: T'.frames.tail)).2 + 13 * Ps.length + 55 ≤ (e.platform.stackLimits T'.me).2 := by have := X.stackAbove hsize (K := 13 * Ps.length + 55) (by omega); omega
  have hslots : T'.slotsUsed + (stringBytes (stringToUtf16 text)).size + Zs.kS.instanceTypes.size + kX.instanceTypes.size ≤ e.platform.maxSlots := by have := X.slotsAbove hRslots; omega
  obtain ⟨vm', hW', st⟩ := Steps.vmThrowsMessageColdByV p (s₀ := s) (S := T') (g := g) hat hexec Th L Z LZ Ms LM X.warmed (t := T'.cur) rfl Zs LZs P1 L1 Ps hL hlink1 hlink (by decide) (by decide) hfound hk hinit hord hctor
    (Launch.admits_hotImplicitExceptions X.admits) hbeyond hfreeW htext hlimit hheap (X.cellsAbove hRcells) hslots (hfitv _) (hfitc _)
    (Nn := fun u => u) heapOnly_id (fun _ _ => rfl) (fun _ => rfl) (fun u x y => setCell_twice _ _ _ _) (fun _ => Nat.le_refl _) (cN := ((preparedCellV Th.toThrowableT (freshCell P1.m.cls kX) (T'.heap.size + 2) u0 sen).withEntry T'.cur))
    hsel0 hcellS hknownS (by rw [hkeep _ (hnot _)]; exact hu0) (Takes.of_laid hk hord tyS (by rw [Y.stackType]; exact fits_refV_array _ u0)) (fun _ hu => hu) (fun _ hu => hu) rfl rfl rfl (by simp [preparedCellV, Cell.setSlot, Cell.withEntry]) hskip (fun _ _ hA hW _ hroom _ hrest => L.nativeOff p htr hA hW hroom hrest) hselF (by rw [hkeep _ (hnot _)]; exact hsen)
    (Takes.of_laid hk hord tyC (by rw [Y.causeType]; rfl)) (Takes.of_laid hk hord tyP (by rw [Y.suppType]; exact fits_refV_object _ sen)) (Takes.of_laid hk hord tyM (by rw [Y.msgType]; rfl)) Y.objLocals rfl hfr' hwd'
  rw [plainBareV_eq Th.toThrowableT (T'.heap.size + 2) u0 sen (.ref (T'.heap.size + 1)) T'.cur rfl rfl] at st
  obtain ⟨-, -, w3, w4, w5, -, -⟩ := withThrown_facts e.platform T' Zs text P1.m.cls kX
  have X3 := ((X.pushed (bytesOf Zs.cB (stringToUtf16 text))).pushed (stringAt Zs.cS Zs.kS Zs.fv Zs.fc (stringToUtf16 text) T'.heap.size)).pushed (freshCell P1.m.cls kX)
  rw [← withString_eq] at X3
  have X4 := X3.noted hW'
  have ha : (T'.heap.size + 2) < ((withThrown T' Zs text P1.m.cls kX).setVm vm').heap.size := by show _ < (withThrown T' Zs text P1.m.cls kX).heap.size; rw [w3]; omega
  have hcell : ((withThrown T' Zs text P1.m.cls kX).setVm vm').heap[(T'.heap.size + 2)]? = some (freshCell P1.m.cls kX) := w4
  have X5 := ((((X4.stored hcell Th.fCause.slot (.ref (T'.heap.size + 2))).storedAgain ha Th.fStack.slot u0.v).storedAgain ha Th.fSupp.slot sen.v).storedAgain ha Th.fStack.slot u0.v).storedAgain ha Th.fMsg.slot (.ref (T'.heap.size + 1))
  have b1 : (bytesOf Zs.cB (stringToUtf16 text)).slots.size = (stringBytes (stringToUtf16 text)).size := by
    rw [(Cell.writeAll_facts _ _).2.2]; simp [bytes0]
  have b2 : (stringAt Zs.cS Zs.kS Zs.fv Zs.fc (stringToUtf16 text) T'.heap.size).slots.size = 4 := by simp [string0, Cell.setSlot, hn4]
  have b3 : (freshCell P1.m.cls kX).slots.size = 6 := by simp [hn6]
  have hU := heapAt_setCell_self (s := (withThrown T' Zs text P1.m.cls kX).setVm vm') (plainBareV Th.toThrowableT (freshCell P1.m.cls kX) (T'.heap.size + 2) u0 sen (.ref (T'.heap.size + 1))) ha
  refine ⟨_, [⟨T'.heap.size + 2, Th.fCause.slot⟩, ⟨T'.heap.size + 2, Th.fStack.slot⟩, ⟨T'.heap.size + 2, Th.fSupp.slot⟩, ⟨T'.heap.size + 2, Th.fStack.slot⟩, ⟨T'.heap.size + 2, Th.fMsg.slot⟩], _, _, ?_, by simpa [List.append_assoc] using X5, ?_, ?_, ?_, hU, ?_, ?_, ?_⟩
  · rw [b1, b2]
    simp only [hn6]
    omega
  · intro y hy
    simp only [List.mem_cons, List.not_mem_nil, or_false] at hy
    rcases hy with rfl | rfl | rfl | rfl | rfl <;> rfl
  · rw [size_setCell]
    exact w3
  · intro q hq
    rw [heapAt_setCell_ne _ (show T'.heap.size + 2 ≠ q by omega)]
    exact w5 q hq
  · intro k hk'
    simp [plainBareV, preparedCellV, Cell.setSlot] at hk'
  · rw [hfound]
    simp [plainBareV, preparedCellV, Cell.setSlot]
  · intro target hrest
    refine st _ ?_
    obtain ⟨g₁, hfrM⟩ := X5.frames_eq
    have hUf : ((((withThrown T' Zs text P1.m.cls kX).setVm vm').setCell (T'.heap.size + 2) (plainBareV Th.toThrowableT (freshCell P1.m.cls kX) (T'.heap.size + 2) u0 sen (.ref (T'.heap.size + 1)))).setTop g).pushFrame (.throwing (T'.heap.size + 2)) = (((withThrown T' Zs text P1.m.cls kX).setVm vm').setCell (T'.heap.size + 2) (plainBareV Th.toThrowableT (freshCell P1.m.cls kX) (T'.heap.size + 2) u0 sen (.ref (T'.heap.size + 1)))).setFrames (.throwing (T'.heap.size + 2) :: .java g :: below) := by
      rw [State.pushFrame, State.frames_setTop _ hfrM, State.setTop_of_frames _ hfrM, State.setFrames_setFrames]
    rw [X.tail, ← hUf]
    exact hrest
end EXM
