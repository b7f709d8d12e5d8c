/-! A native that throws: System.arraycopy -/
set_option maxRecDepth 100000
section CPY
variable {p : Program} {l : Launch} {e : Env} {R : Room} {s : State} {m₀ : MethodId} {args : Array Value} {below : List Frame} {meth : Method} {c : Code} {W : State} {locs : List Loc} {cells slots : Nat}
set_option maxHeartbeats 1000000 in
/-- a native throws cls with a message, no traces kept (turned from vx_vmAt) -/
theorem c_msgAt (X : Stand p l e R s m₀ args below meth c W locs cells slots) (hexec : p.tables.exec = Jvm.exec) (htr : e.platform.stackTraces = false) {cls : String} {names : List String} {text : String}
    (hcls : Bundle.fit cls = true) (hnames : ∀ n ∈ names, Bundle.fit n = true) (hsoe : (cls == "java/lang/StackOverflowError") = false) (hoom : (cls == "java/lang/OutOfMemoryError") = false)
    (h : ∀ a ∈ Bundle.messageArmAtoms cls names, a.before args s = true)
    (hlocs : ∀ x ∈ locs, ∀ cell, s.heap[x.base]? = some cell → cell.vm.isStatics = false)
    (htext : (text == notModelled) = false) (hlimit : ¬ (stringBytes (stringToUtf16 text)).size > e.platform.arrayLengthLimit) (hheap : ¬ (stringBytes (stringToUtf16 text)).size * componentBytes .byte > e.platform.maxHeapBytes)
    {g : JFrame} (hsize : g.locals.size = c.maxLocals) {nf : NFrame} (hnf : nf.words = 0)
    (hRframes : names.length + 5 < R.frames) (hRlocals : 2 * g.monitorRoom + (g.stack.map fun v => v.category).sum + 10240 ≤ R.locals) (hshort : 13 * names.length + 55 ≤ 10240)
    (hRcells : cells + 3 ≤ R.cells) (hRslots : slots + ((stringBytes (stringToUtf16 text)).size + 4 + 6) ≤ R.slots) :
    ∃ (S : State) (q : Addr) (ce : Cell), Steps p.tables e below (W.setFrames (.throwNew cls (some text) none :: .native nf :: .java g :: below)) (S.setFrames (.throwing q :: .native nf :: .java g :: below)) ∧
      Stand p l e R s m₀ args below meth c S locs (cells + 3) (slots + ((stringBytes (stringToUtf16 text)).size + 4 + 6)) ∧ S.heap[q]? = some ce ∧ s.vm.findClass cls = some ce.cls ∧ ce.vm = .none := by
  have howns : e.platform.frameOwnsMonitors = true := by rw [X.admits.platform]
  have hfin : e.platform.finalization = false := by rw [X.admits.platform]
  have hpl : e.platform.magicAccessors = ({} : Platform).magicAccessors := by rw [X.admits.platform]
  have a : ∀ x, x ∈ Bundle.messageArmAtoms cls names → x.holds args s none s [] = true := fun x hx => h x hx
  obtain ⟨T, Z0, L, -, Y⟩ := ThrowableC.of_atoms (args := args) howns hfin hpl (fun x hx => h x (by simp [Bundle.messageArmAtoms, hx]))
  obtain ⟨Z, M, LZ, LM, hnZ⟩ := Init0T.ofS_atoms (args := args) hpl L Y (fun x hx => h x (by simp [Bundle.messageArmAtoms, hx]))
  obtain ⟨P1, Ps, hlen, L1, hL, hP1m, hlink1, hlink⟩ := Bundle.chainS (args := args) hpl hnZ names cls hcls hnames (fun x hx => h x (by simp [Bundle.messageArmAtoms, hx]))
  obtain ⟨Zs, LZs, hn4, hfitv, hfitc⟩ := StringT.of_atoms (args := args) (fun x hx => h x (by simp [Bundle.messageArmAtoms, hx]))
  have hfound : s.vm.findClass cls = some P1.m.cls := findClass_of_methodNamed hP1m
  obtain ⟨c1, kX, hc1, hk, hord, -, -, hn6⟩ := Cond.instantiable_spec (a (.instantiable cls 6) (by simp [Bundle.messageArmAtoms]))
  cases Option.some.inj (hc1.symm.trans hfound)
  have hinit := Cond.initialized_spec hfound hk (a (.initialized cls) (by simp [Bundle.messageArmAtoms]))
  have hctor : kX.findMethod "<init>" "(Ljava/lang/String;)V" = some P1.m.idx := findMethod_of_methodNamed hP1m hk
  have hsel0 : selectMethod e.platform s.vm P1.m.cls T.fill0 = .method T.fill0 := by
    obtain ⟨c2, r2, m2, q1, q2, q3, q4, -⟩ := Cond.selects_spec (a (.selects cls Bundle.tFill0 Bundle.tFill0) (by simp [Bundle.messageArmAtoms]))
    cases Option.some.inj (q1.symm.trans hfound)
    cases Option.some.inj (q2.symm.trans (State.methodFound?_of_named Y.fill0 (by decide)))
    cases Option.some.inj (q3.symm.trans Y.fill0)
    rw [Launch.admits_selectMethod X.admits]; exact q4
  have hselF : selectMethod e.platform s.vm P1.m.cls T.fill = .method T.fill := by
    obtain ⟨c2, r2, m2, q1, q2, q3, q4, -⟩ := Cond.selects_spec (a (.selects cls Bundle.tFill Bundle.tFill) (by simp [Bundle.messageArmAtoms]))
    cases Option.some.inj (q1.symm.trans hfound)
    cases Option.some.inj (q2.symm.trans (State.methodFound?_of_named Y.fill (by decide)))
    cases Option.some.inj (q3.symm.trans Y.fill)
    rw [Launch.admits_selectMethod X.admits]; exact q4
  obtain ⟨cellS0, hcS0, hiss⟩ := Y.statics
  obtain ⟨u0, hu0⟩ := Cond.staticRefV Y.unassigned L.unassignedStatic L.statics hcS0 hiss (a (.isRef (.static Bundle.tN "UNASSIGNED_STACK" Bundle.steD)) (by simp [Bundle.messageArmAtoms]))
  obtain ⟨sen, hsen⟩ := Cond.staticRefV Y.sentinel L.sentinelStatic L.statics hcS0 hiss (a (.isRef (.static Bundle.tN "SUPPRESSED_SENTINEL" Bundle.listD)) (by simp [Bundle.messageArmAtoms]))
  obtain ⟨ci198, i198, fB, hk198, hg198, ha198, hsB, -, hnB, htB, hffB⟩ := Cond.ownField (t := .object "java/lang/Object") Y.found L.cls (by decide +kernel) (a (.fieldLink Bundle.tN 198 Bundle.tN "backtrace" "Ljava/lang/Object;") (by simp [Bundle.messageArmAtoms])) (a (.lays Bundle.tN Bundle.tN "backtrace" "Ljava/lang/Object;") (by simp [Bundle.messageArmAtoms])) e.platform hpl
  obtain ⟨cellS, hcS', heS, -, hkeep⟩ := X.same.2.2.2.2.2 T.aS cellS0 hcS0
  have hcellS : W.heap[T.aS]? = some cellS := hcS'
  have hout' : ∀ i, (⟨T.aS, i⟩ : Loc) ∉ locs := fun i hmem => by
    have := hlocs _ hmem cellS0 hcS0
    rw [hiss] at this; cases this
  have hknownS : cellS.vm ≠ .unknown := by
    rw [heS]; intro hu
    rw [show cellS0.vm = .unknown from hu] at hiss
    cases hiss
  have hvU : cellS.slots[T.fUnassigned.slot]? = some u0.v := by rw [hkeep _ (hout' _)]; exact hu0
  have hvSen : cellS.slots[T.fSentinel.slot]? = some sen.v := by rw [hkeep _ (hout' _)]; exact hsen
  obtain ⟨iM, hffM⟩ := Y.msg
  obtain ⟨tyC, dC, hdC, hdnC⟩ := Cond.laysAt hfound hk Y.cause (a (.lays cls Bundle.tN "cause" "Ljava/lang/Throwable;") (by simp [Bundle.messageArmAtoms]))
  obtain ⟨tyS, dS, hdS, hdnS⟩ := Cond.laysAt hfound hk Y.stack (a (.lays cls Bundle.tN "stackTrace" Bundle.steD) (by simp [Bundle.messageArmAtoms]))
  obtain ⟨tyP, dP, hdP, hdnP⟩ := Cond.laysAt hfound hk Y.supp (a (.lays cls Bundle.tN "suppressedExceptions" Bundle.listD) (by simp [Bundle.messageArmAtoms]))
  obtain ⟨tyM, dM, hdM, hdnM⟩ := Cond.laysAt hfound hk hffM (a (.lays cls Bundle.tN "detailMessage" "Ljava/lang/String;") (by simp [Bundle.messageArmAtoms]))
  obtain ⟨tyB, dB, hdB, hdnB⟩ := Cond.laysAt hfound hk hffB (a (.lays cls Bundle.tN "backtrace" "Ljava/lang/Object;") (by simp [Bundle.messageArmAtoms]))
  have bC := Cond.laysApart hdB hdC hdnB hdnC (by rw [hnB, Y.causeName]; decide)
  have bS := Cond.laysApart hdB hdS hdnB hdnS (by rw [hnB, Y.stackName]; decide)
  have bP := Cond.laysApart hdB hdP hdnB hdnP (by rw [hnB, Y.suppName]; decide)
  have hbk : ((preparedCellV T.toThrowableT (freshCell P1.m.cls kX) (W.heap.size + 2) u0 sen).withEntry W.cur).slots[fB.slot]? = some .null := by
    have := fresh_default (c := P1.m.cls) tyB
    rw [htB] at this
    simpa [preparedCellV, Cell.setSlot, Cell.withEntry, Array.getElem?_setIfInBounds, bC, bS, bP, bC.symm, bS.symm, bP.symm, defaultValue] using this
  have tkC := Takes.of_laid (v := .ref (W.heap.size + 2)) hk hord tyC (by rw [Y.causeType]; rfl)
  have tkS := Takes.of_laid (v := u0.v) hk hord tyS (by rw [Y.stackType]; exact fits_refV_array _ u0)
  have tkP := Takes.of_laid (v := sen.v) hk hord tyP (by rw [Y.suppType]; exact fits_refV_object _ sen)
  have tkM := Takes.of_laid (v := .ref (W.heap.size + 1)) hk hord tyM (by rw [Y.msgType]; rfl)
  have hskip : SkipFacts T e.platform s (fun u => u) u0 ((preparedCellV T.toThrowableT (freshCell P1.m.cls kX) (W.heap.size + 2) u0 sen).withEntry W.cur) := ⟨{ ci198 := ci198, i198 := i198, fBack := fB }, ⟨hk198, hg198, ha198, hsB⟩, hbk, fun _ _ => rfl⟩
  obtain ⟨vm', X5, st, -⟩ := X.nativeThrowsMessageColdBareV hexec hsize hnf T L Z LZ M LM Zs LZs P1 L1 Ps hL hlink1 hlink hsoe hoom hfound hk hinit hord hctor htext hlimit hheap (hfitv _) (hfitc _)
    hsel0 hselF hcellS hknownS hvU hvSen tkC tkS tkP tkM Y.objLocals hskip (fun _ _ hA hW _ hroom _ hrest => L.nativeOff p htr hA hW hroom hrest) (by omega) hRlocals (by omega) hRcells (by rw [hn4, hn6]; omega)
  have b1 : (bytesOf Zs.cB (stringToUtf16 text)).slots.size = (stringBytes (stringToUtf16 text)).size := by
    rw [(Cell.writeAll_facts _ _).2.2]; simp [bytes0]
  have b2 : (stringAt Zs.cS Zs.kS Zs.fv Zs.fc (stringToUtf16 text) W.heap.size).slots.size = 4 := by simp [string0, Cell.setSlot, hn4]
  have b3 : (freshCell P1.m.cls kX).slots.size = 6 := by simp [hn6]
  rw [b1, b2, b3] at X5
  have e9 : slots + (stringBytes (stringToUtf16 text)).size + 4 + 6 = slots + ((stringBytes (stringToUtf16 text)).size + 4 + 6) := by omega
  rw [e9] at X5
  have ha : (W.heap.size + 2) < ((withThrown W Zs text P1.m.cls kX).setVm vm').heap.size := by
    obtain ⟨-, -, w3, -, -, -, -⟩ := withThrown_facts e.platform W Zs text P1.m.cls kX
    show _ < (withThrown W Zs text P1.m.cls kX).heap.size; rw [w3]; omega
  refine ⟨_, W.heap.size + 2, _, st, X5.forget (fun y hy => ?_), heapAt_setCell_self _ ha, hfound, rfl⟩
  simp only [List.mem_cons, List.not_mem_nil, or_false] at hy
  have hge : s.heap.size ≤ W.heap.size := X.same.2.1
  rcases hy with rfl | rfl | rfl | rfl | rfl <;> exact Nat.le_trans hge (Nat.le_add_right _ 2)

/-- over any frames: the machine's note becomes the constructor's call -/
theorem c_start {tb : Tables} {S target : State} {base : List Frame} (h : Jvm.Over S base below) {cls : String} {cX : ClassId} {kX : Class} {i : Nat}
    (hsoe : (cls == "java/lang/StackOverflowError") = false) (hoom : (cls == "java/lang/OutOfMemoryError") = false)
    (hfound : S.vm.findClass cls = some cX) (hk : S.vm.classes[cX]? = some kX) (hinit : kX.init = .initialized) (hord : kX.kind = .ordinary) (hhot : e.platform.hotImplicitExceptions = false)
    (hb : e.platform.stackBeyond ((((S.setFrames (.throwNew cls none none :: base)).threads[S.cur]?).map (·.stackBytes)).getD 0) (S.setFrames (.throwNew cls none none :: base)).frames = false)
    (hf : e.platform.vmThrowRoom ≤ e.platform.stackFree ((((S.setFrames (.throwNew cls none none :: base)).threads[S.cur]?).map (·.stackBytes)).getD 0) (S.setFrames (.throwNew cls none none :: base)).frames)
    (hctor : kX.findMethod "<init>" "()V" = some i) (hcells : S.heap.size + 1 ≤ e.platform.maxCells) (hslots : S.slotsUsed + kX.instanceTypes.size ≤ e.platform.maxSlots)
    (hr : Steps tb e below (doInvoke e ((S.pushCell (freshCell cX kX)).setFrames (.thenThrow S.heap.size :: base)) [] ⟨cX, i⟩ #[.ref S.heap.size]).1 target) :
    Steps tb e below (S.setFrames (.throwNew cls none none :: base)) target := by
  obtain ⟨mid, hmid⟩ := h.above
  have f0 : (S.setFrames (.throwNew cls none none :: base)).frames = .throwNew cls none none :: base := State.frames_setFrames _ h.cur
  refine Steps.head ⟨h.running, by simpa using h.runnable, by simpa using h.alone⟩ ⟨.throwNew cls none none :: mid, by rw [f0, hmid]; rfl, by simp, by simp⟩ ?_
  rw [stepThread_throwNew f0, stepThrowNew_plain (s := S.setFrames (.throwNew cls none none :: base)) (c := cX) (k := kX) (i := i) hsoe hoom hfound hk hinit hord hhot hb hf hctor hcells hslots]
  have e1 : ((S.setFrames (.throwNew cls none none :: base)).pushCell (freshCell cX kX)).setFrames (.thenThrow (S.setFrames (.throwNew cls none none :: base)).heap.size :: base) = (S.pushCell (freshCell cX kX)).setFrames (.thenThrow S.heap.size :: base) := by
    rw [State.pushCell_setFrames, State.setFrames_setFrames]; rfl
  rw [e1]
  exact hr
/-- the constructor's frame above -/
theorem c_in {V : State} {base : List Frame} (h : Jvm.Over V base below) (a : Addr) {m : MethodId} {mt : Method} {code : Code} (hm : V.vm.method? m = some mt) (hc : mt.code = some code) (hplain : V.plainMethod m) :
    (V.setFrames (.thenThrow a :: base)).frames = .thenThrow a :: base ∧ At ((V.setFrames (.thenThrow a :: base)).pushFrame (.java (pass0J m a 0 []))) m code below ∧
      ((V.setFrames (.thenThrow a :: base)).pushFrame (.java (pass0J m a 0 []))).frames = .java (pass0J m a 0 []) :: .thenThrow a :: base := by
  obtain ⟨mid, hmid⟩ := h.above
  have f0 : (V.setFrames (.thenThrow a :: base)).frames = .thenThrow a :: base := State.frames_setFrames _ h.cur
  have hcur := State.cur_lt_of_frames f0
  have f1 : ((V.setFrames (.thenThrow a :: base)).pushFrame (.java (pass0J m a 0 []))).frames = .java (pass0J m a 0 []) :: (V.setFrames (.thenThrow a :: base)).frames := State.frames_setFrames _ hcur
  exact ⟨f0, At.pushOn _ ⟨h.running, by simpa using h.runnable, by simpa using h.alone⟩ hcur ⟨.thenThrow a :: mid, by rw [f0, hmid]; rfl⟩ hm hc hplain, by rw [f1, f0]⟩
/-- the constructor's end: the object is thrown -/
theorem c_out {tb : Tables} [Ours tb] {V target : State} {base : List Frame} (h : Jvm.Over V base below) (hexec : tb.exec = Jvm.exec) {H : State → State} (hH : HeapOnly H) (a : Addr) {m : MethodId} {mt : Method} {code : Code}
    (hm : V.vm.method? m = some mt) (hc : mt.code = some code) (hplain : V.plainMethod m) (hl : mt.locks = false) (h4 : decode code.code 4 = .ok (.return_, 1)) (hr : Steps tb e below ((H V).setFrames (.throwing a :: base)) target) :
    Steps tb e below ((H ((V.setFrames (.thenThrow a :: base)).pushFrame (.java (pass0J m a 0 [])))).setTop (pass0J m a 4 [])) target := by
  obtain ⟨f0, hI, fI⟩ := c_in h a hm hc hplain
  obtain ⟨mid, hmid⟩ := h.above
  have hB : At (H ((V.setFrames (.thenThrow a :: base)).pushFrame (.java (pass0J m a 0 [])))) m code below := hH.at_ hI
  have fH : (H ((V.setFrames (.thenThrow a :: base)).pushFrame (.java (pass0J m a 0 [])))).frames = .java (pass0J m a 0 []) :: .thenThrow a :: base := by rw [hH.frames]; exact fI
  jvm_step hB [hexec, h4, return_.wp_sem]
  intro acts2
  rw [ret_to (t := H ((V.setFrames (.thenThrow a :: base)).pushFrame (.java (pass0J m a 0 [])))) (f := pass0J m a 4 []) (f₀ := pass0J m a 0 []) (below := .thenThrow a :: base) (fs := .thenThrow a :: base) (meth := mt) fH (by rw [hH.vm]; exact hm) hl rfl rfl rfl acts2]
  have f1 : ((H ((V.setFrames (.thenThrow a :: base)).pushFrame (.java (pass0J m a 0 [])))).setFrames (.thenThrow a :: base)).frames = .thenThrow a :: base := State.frames_setFrames _ (State.cur_lt_of_frames fH)
  refine Steps.head ⟨hB.running, by simpa using hB.runnable, by simpa using hB.alone⟩ ⟨.thenThrow a :: mid, by rw [f1, hmid]; rfl, by simp, by simp⟩ ?_
  rw [stepThread_thenThrow f1]
  show Steps tb e below (((H ((V.setFrames (.thenThrow a :: base)).pushFrame (.java (pass0J m a 0 [])))).setFrames (.thenThrow a :: base)).setFrames (.throwing a :: base)) target
  rw [State.setFrames_setFrames, State.pushFrame, hH.setFrames, hH.setFrames, State.setFrames_setFrames, State.setFrames_setFrames]
  exact hr

/-- the constructor, from its call to the throw -/
theorem c_cold {tb : Tables} [Ours tb] {V : State} {base : List Frame} (h : Jvm.Over V base below) (hexec : tb.exec = Jvm.exec) {H : State → State} (hH : HeapOnly H) (P1 : PassC) (L1 : P1.Links0 e.platform s) (hW : s.WarmedH V.vm) (a : Addr)
    (hroom : e.platform.stackFull (((V.setFrames (.thenThrow a :: base)).threads[(V.setFrames (.thenThrow a :: base)).cur]?).getD { frames := [] }) (V.setFrames (.thenThrow a :: base)).frames 1 = false)
    (hsup : ∀ vm1, s.WarmedH vm1 → At (((V.setVm vm1).setFrames (.thenThrow a :: base)).pushFrame (.java (pass0J P1.m a 0 []))) P1.m P1.code below → ∃ vm2, s.WarmedH vm2 ∧ ∀ t' : State,
      Steps tb e below ((H (((V.setVm vm2).setFrames (.thenThrow a :: base)).pushFrame (.java (pass0J P1.m a 0 [])))).setTop (pass0J P1.m a 4 [])) t' →
      Steps tb e below (doInvoke e ((((V.setVm vm1).setFrames (.thenThrow a :: base)).pushFrame (.java (pass0J P1.m a 0 []))).setTop (pass0J P1.m a 1 [])) [] P1.sup #[.ref a]).1 t') :
    ∃ vm', s.WarmedH vm' ∧ ∀ target, Steps tb e below ((H (V.setVm vm')).setFrames (.throwing a :: base)) target → Steps tb e below (doInvoke e (V.setFrames (.thenThrow a :: base)) [] P1.m #[.ref a]).1 target := by
  have hmV := hW.methodAt L1.method
  obtain ⟨f0, hI, fI⟩ := c_in h a hmV L1.code (hW.plainAt L1.plain)
  obtain ⟨vm1, hW1, st1⟩ := Steps.invokeInitCold (tb := tb) (s₀ := s) (U := (V.setFrames (.thenThrow a :: base)).pushFrame (.java (pass0J P1.m a 0 []))) (f := pass0J P1.m a 1 [.ref a]) (args := []) (rest := []) (a := a) hI hexec L1.at1 hW L1.links L1.right L1.notHandle L1.cls L1.file L1.pool
    L1.supClass L1.supMethod L1.supName L1.supStatic L1.supAbstract L1.supFound L1.supParams.symm rfl
  obtain ⟨vm2, hW2, st2⟩ := hsup vm1 hW1 (hI.setVm (hW.alike.symm.trans hW1.alike))
  refine ⟨vm2, hW2, fun target hr => ?_⟩
  rw [(doInvoke_java (s := V.setFrames (.thenThrow a :: base)) (e := e) (acts := []) (args := #[.ref a]) (meth := P1.meth) (code := P1.code) hmV L1.code L1.locks (by rw [L1.locals]; exact hroom)).1, L1.locals]
  show Steps tb e below ((V.setFrames (.thenThrow a :: base)).pushFrame (.java (pass0J P1.m a 0 []))) target
  rw [← State.setTop_self (s := (V.setFrames (.thenThrow a :: base)).pushFrame (.java (pass0J P1.m a 0 []))) (State.topJava?_of_frames fI)]
  jvm_step hI [hexec, L1.at0, Value.isRef]
  exact st1 target (st2 target (c_out (V := V.setVm vm2) (h.setVm (hW.alike.symm.trans hW2.alike)) hexec hH a (hW2.methodAt L1.method) L1.code (hW2.plainAt (U := V.setVm vm2) L1.plain) L1.locks L1.at4 hr))
set_option maxHeartbeats 1000000 in
/-- NullPointerException's object, over any frames, no traces kept -/
theorem c_npeOver (p : Program) {S : State} {base : List Frame} (h : Jvm.Over S base below) (hexec : p.tables.exec = Jvm.exec) (htr : e.platform.stackTraces = false)
    (T : ThrowableC) (L : T.Links e.platform s) (Z : Init0T) (LZ : Z.Laid T.toThrowableT) (N : NpeC) (LN : N.Links T e.platform s) (hW : s.WarmedH S.vm)
    (P1 : PassC) (L1 : P1.Links0 e.platform s) (Ps : List PassC) (hL : ∀ P, P ∈ Ps → P.Links0 e.platform s) (hlink1 : P1.sup = firstOf (Z.m T.toThrowableT) (Ps.map (·.toPassT))) (hlink : PassesOn (Z.m T.toThrowableT) (Ps.map (·.toPassT)))
    {kX : Class} (hfound : s.vm.findClass "java/lang/NullPointerException" = some P1.m.cls) (hk : s.vm.classes[P1.m.cls]? = some kX) (hinit : kX.init = .initialized) (hord : kX.kind = .ordinary) (hctor : kX.findMethod "<init>" "()V" = some P1.m.idx) (hhot : e.platform.hotImplicitExceptions = false)
    (hb : e.platform.stackBeyond ((((S.setFrames (.throwNew "java/lang/NullPointerException" none none :: base)).threads[S.cur]?).map (·.stackBytes)).getD 0) (S.setFrames (.throwNew "java/lang/NullPointerException" none none :: base)).frames = false)
    (hf : e.platform.vmThrowRoom ≤ e.platform.stackFree ((((S.setFrames (.throwNew "java/lang/NullPointerException" none none :: base)).threads[S.cur]?).map (·.stackBytes)).getD 0) (S.setFrames (.throwNew "java/lang/NullPointerException" none none :: base)).frames)
    (hcells : S.heap.size + 1 ≤ e.platform.maxCells) (hslots : S.slotsUsed + kX.instanceTypes.size ≤ e.platform.maxSlots) {u0 sen : RefV} {cellS : Cell}
    (hsel0 : selectMethod e.platform s.vm P1.m.cls T.fill0 = .method T.fill0) (hselF : selectMethod e.platform s.vm P1.m.cls T.fill = .method N.fill)
    (hcellS : S.heap[T.aS]? = some cellS) (hknownS : cellS.vm ≠ .unknown) (hvU : cellS.slots[T.fUnassigned.slot]? = some u0.v) (hvSen : cellS.slots[T.fSentinel.slot]? = some sen.v)
    (hv0 : (freshCell P1.m.cls kX).slots[N.fState.slot]? = some (.int 0)) (hneC : T.fCause.slot ≠ N.fState.slot) (hneSt : T.fStack.slot ≠ N.fState.slot) (hneP : T.fSupp.slot ≠ N.fState.slot)
    (htC : Takes s (freshCell P1.m.cls kX) T.fCause (.ref S.heap.size)) (htS : Takes s (freshCell P1.m.cls kX) T.fStack u0.v) (htP : Takes s (freshCell P1.m.cls kX) T.fSupp sen.v) (ht1 : Takes s (freshCell P1.m.cls kX) N.fState (.int 1)) (hobjLocals : T.codeObj.maxLocals = 1)
    (hskip : SkipFacts T e.platform s (fun u => u) u0 ((npeCell N.toNpeT (preparedCellV T.toThrowableT (freshCell P1.m.cls kX) S.heap.size u0 sen) S.cur).withEntry S.cur))
    {lim : Nat × Nat} (hlim : e.platform.stackLimits S.me = lim) (hframes : base.length + Ps.length + 5 < lim.1) (hwords : (stackUse base).2 + 13 * Ps.length + 68 ≤ lim.2) :
    ∃ vm', s.WarmedH vm' ∧ ∀ target, Steps p.tables e below ((((S.pushCell (freshCell P1.m.cls kX)).setVm vm').setCell S.heap.size (npeBareV T.toThrowableT N.toNpeT (freshCell P1.m.cls kX) S.heap.size u0 sen)).setFrames (.throwing S.heap.size :: base)) target →
      Steps p.tables e below (S.setFrames (.throwNew "java/lang/NullPointerException" none none :: base)) target := by
  obtain ⟨kX', hk', he'⟩ := hW.alike.2.2 _ _ hk
  have hty : kX'.instanceTypes = kX.instanceTypes := by rw [he']
  have hfr : freshCell P1.m.cls kX' = freshCell P1.m.cls kX := by
    show ({ cls := P1.m.cls, slots := kX'.instanceTypes.map defaultValue, vm := .none } : Cell) = _
    rw [hty]
  have hltS : T.aS < S.heap.size := (Array.getElem?_eq_some_iff.mp hcellS).1
  have hV : Jvm.Over (S.pushCell (freshCell P1.m.cls kX)) base below := (Jvm.Over.pushCell_iff _).mpr h
  have hcS : (S.pushCell (freshCell P1.m.cls kX)).heap[T.aS]? = some cellS := by
    rw [← hcellS]; simp [State.pushCell, Array.getElem?_push, Nat.ne_of_lt hltS]
  have hcN : (S.pushCell (freshCell P1.m.cls kX)).heap[S.heap.size]? = some (freshCell P1.m.cls kX) := State.heap_pushCell_size S _
  have hWV : s.WarmedH (S.pushCell (freshCell P1.m.cls kX)).vm := hW
  have hlimV : e.platform.stackLimits (S.pushCell (freshCell P1.m.cls kX)).me = lim := hlim
  have hcurV : (S.pushCell (freshCell P1.m.cls kX)).cur = S.cur := rfl
  suffices hs : ∃ vm', s.WarmedH vm' ∧ ∀ target, Steps p.tables e below ((((S.pushCell (freshCell P1.m.cls kX)).setVm vm').setCell S.heap.size (npeBareV T.toThrowableT N.toNpeT (freshCell P1.m.cls kX) S.heap.size u0 sen)).setFrames (.throwing S.heap.size :: base)) target →
      Steps p.tables e below (doInvoke e ((S.pushCell (freshCell P1.m.cls kX)).setFrames (.thenThrow S.heap.size :: base)) [] P1.m #[.ref S.heap.size]).1 target by
    obtain ⟨vm', hW', st⟩ := hs
    refine ⟨vm', hW', fun target hr => c_start h (cX := P1.m.cls) (kX := kX') (i := P1.m.idx) (by decide) (by decide) (by rw [hW.alike.findClass]; exact hfound) hk' (by rw [he']; exact hinit) (by rw [he']; exact hord) hhot hb hf (by rw [he']; exact hctor) hcells (by rw [hty]; exact hslots) ?_⟩
    rw [hfr]
    exact st target hr
  generalize (S.pushCell (freshCell P1.m.cls kX)) = V at hV hcS hcN hWV hlimV hcurV ⊢
  rw [← npeBareV_eq T.toThrowableT N.toNpeT S.heap.size u0 sen S.cur rfl rfl]
  obtain ⟨f0, -, -⟩ := c_in hV S.heap.size (hWV.methodAt L1.method) L1.code (hWV.plainAt L1.plain)
  have hlimN : e.platform.stackLimits (V.setFrames (.thenThrow S.heap.size :: base)).me = lim := by rw [State.stackLimits_setFrames]; exact hlimV
  have hroom := roomAbove (pl := e.platform) (u := V.setFrames (.thenThrow S.heap.size :: base)) (vars := 1) (pushed := [.thenThrow S.heap.size]) (base := base) (free := 13 * Ps.length + 68) (lim := lim) f0 hlimN
    (by simp only [List.length_cons, List.length_nil]; omega) (by omega) (by rw [stackUse_light _ _ (fun f hf => by cases hf) rfl, stackUse_nil]; show 0 + 1 + 11 ≤ _; omega)
  refine c_cold hV hexec (H := fun u => u.setCell S.heap.size (((npeCell N.toNpeT (preparedCellV T.toThrowableT (freshCell P1.m.cls kX) S.heap.size u0 sen) S.cur).withEntry S.cur).setSlot T.fStack.slot u0.v).left.left) (heapOnly_id.thenSetCell S.heap.size _) P1 L1 hWV S.heap.size hroom (fun vm1 hW1 hI1 => ?_)
  rw [hlink1]
  obtain ⟨-, -, fI⟩ := c_in (hV.setVm (hWV.alike.symm.trans hW1.alike)) S.heap.size (hW1.methodAt L1.method) L1.code (hW1.plainAt (U := V.setVm vm1) L1.plain)
  have e1 : ∀ w : Vm, (((V.setVm vm1).setFrames (.thenThrow S.heap.size :: base)).pushFrame (.java (pass0J P1.m S.heap.size 0 []))).setVm w = ((V.setVm w).setFrames (.thenThrow S.heap.size :: base)).pushFrame (.java (pass0J P1.m S.heap.size 0 [])) := fun w => by rw [State.pushFrame_setVm, State.setFrames_setVm, State.setVm_twice]
  have x1 : (((V.setVm vm1).setFrames (.thenThrow S.heap.size :: base)).pushFrame (.java (pass0J P1.m S.heap.size 0 []))).heap[S.heap.size]? = some (freshCell P1.m.cls kX) := hcN
  have x2 : (((V.setVm vm1).setFrames (.thenThrow S.heap.size :: base)).pushFrame (.java (pass0J P1.m S.heap.size 0 []))).heap[T.aS]? = some cellS := hcS
  have x3 : (((V.setVm vm1).setFrames (.thenThrow S.heap.size :: base)).pushFrame (.java (pass0J P1.m S.heap.size 0 []))).cur = S.cur := hcurV
  have x4 : s.WarmedH (((V.setVm vm1).setFrames (.thenThrow S.heap.size :: base)).pushFrame (.java (pass0J P1.m S.heap.size 0 []))).vm := hW1
  have x5 : e.platform.stackLimits (((V.setVm vm1).setFrames (.thenThrow S.heap.size :: base)).pushFrame (.java (pass0J P1.m S.heap.size 0 []))).me = lim := by rw [State.stackLimits_pushFrame, State.stackLimits_setFrames]; exact hlimV
  suffices hs : ∃ vm2, s.WarmedH vm2 ∧ ∀ t' : State, Steps p.tables e below ((((((V.setVm vm1).setFrames (.thenThrow S.heap.size :: base)).pushFrame (.java (pass0J P1.m S.heap.size 0 []))).setVm vm2).setCell S.heap.size (((npeCell N.toNpeT (preparedCellV T.toThrowableT (freshCell P1.m.cls kX) S.heap.size u0 sen) S.cur).withEntry S.cur).setSlot T.fStack.slot u0.v).left.left).setTop (pass0J P1.m S.heap.size 4 [])) t' →
      Steps p.tables e below (doInvoke e ((((V.setVm vm1).setFrames (.thenThrow S.heap.size :: base)).pushFrame (.java (pass0J P1.m S.heap.size 0 []))).setTop (pass0J P1.m S.heap.size 1 [])) [] (firstOf (Z.m T.toThrowableT) (Ps.map (·.toPassT))) #[.ref S.heap.size]).1 t' by
    obtain ⟨vm2, hW2, st⟩ := hs
    exact ⟨vm2, hW2, fun t' h' => st t' (by rw [e1]; exact h')⟩
  clear e1
  generalize (((V.setVm vm1).setFrames (.thenThrow S.heap.size :: base)).pushFrame (.java (pass0J P1.m S.heap.size 0 []))) = Y at hI1 fI x1 x2 x3 x4 x5 ⊢
  exact Steps.initNpe0ColdByV p (V := Y) (g := pass0J P1.m S.heap.size 1 []) (c := P1.code) (self := S.heap.size) hI1 hexec T L Z LZ N LN x4 x3 (Nn := fun u => u) heapOnly_id (fun _ _ => rfl) (fun _ => rfl) (fun u x y => setCell_twice _ _ _ _) (fun _ => Nat.le_refl _) x1
    (by intro k hk'; cases hk') (by intro hk'; cases hk') rfl hk hsel0 x2 (Nat.ne_of_lt hltS) hknownS hvU hv0 hneC hneSt hneP htS ht1 (fun _ hu => hu) (fun _ hu => hu) rfl rfl rfl (by simp [npeCell, preparedCellV, Cell.setSlot, Cell.withEntry]) hskip
    (fun _ _ hA hW _ hroom _ hrest => L.nativeOff p htr hA hW hroom hrest) hselF hvSen htC htP hobjLocals Ps hL hlink (ig := .invokespecial P1.index) (len := 3) [] x5
    (by rw [fI]; simp only [List.length_cons]; omega)
    (by rw [fI, List.tail_cons, stackUse_java, stackUse_light _ _ (fun f hf => by cases hf) rfl]
        show (stackUse base).2 + (1 + 11 + 2 * 0 + operandWords []) + 13 * Ps.length + 55 ≤ lim.2
        simp only [operandWords, List.foldl_nil]
        omega)
    L1.at1
set_option maxHeartbeats 1000000 in
/-- a native throws NullPointerException, no traces kept (turned from vx_npeAt) -/
theorem c_npeAt (X : Stand p l e R s m₀ args below meth c W locs cells slots) (hexec : p.tables.exec = Jvm.exec) (htr : e.platform.stackTraces = false) {n : Nat}
    (h : ∀ a ∈ Bundle.npeArmAtoms n, a.before args s = true)
    (hlocs : ∀ x ∈ locs, ∀ cell, s.heap[x.base]? = some cell → cell.vm.isStatics = false)
    {g : JFrame} (hsize : g.locals.size = c.maxLocals) {nf : NFrame} (hnf : nf.words = 0)
    (hRframes : 8 < R.frames) (hRlocals : 2 * g.monitorRoom + (g.stack.map fun v => v.category).sum + 10240 ≤ R.locals)
    (hRcells : cells + 1 ≤ R.cells) (hRslots : slots + n ≤ R.slots) :
    ∃ (S : State) (q : Addr) (ce : Cell), Steps p.tables e below (W.setFrames (.throwNew "java/lang/NullPointerException" none none :: .native nf :: .java g :: below)) (S.setFrames (.throwing q :: .native nf :: .java g :: below)) ∧
      Stand p l e R s m₀ args below meth c S locs (cells + 1) (slots + n) ∧ S.heap[q]? = some ce ∧ s.vm.findClass "java/lang/NullPointerException" = some ce.cls ∧ ce.vm = .none := by
  have howns : e.platform.frameOwnsMonitors = true := by rw [X.admits.platform]
  have hfin : e.platform.finalization = false := by rw [X.admits.platform]
  have hpl : e.platform.magicAccessors = ({} : Platform).magicAccessors := by rw [X.admits.platform]
  have hpl2 : e.platform.arrayCloneIsPublic = true := by rw [X.admits.platform]
  have a' : ∀ x, x ∈ Bundle.npeArmAtoms n → x.holds args s none s [] = true := fun x hx => h x hx
  obtain ⟨T, Z, L, LZ, Y⟩ := ThrowableC.of_atoms (args := args) howns hfin hpl (fun x hx => h x (by simp [Bundle.npeArmAtoms, hx]))
  obtain ⟨N, LN, hcN, hnNF, hordN, hffS⟩ := NpeC.of_atoms (args := args) hpl hpl2 L Y (fun x hx => h x (by simp [Bundle.npeArmAtoms, hx]))
  obtain ⟨P1, L1, hP1m, hP1s⟩ := PassC.of_atoms (args := args) (s := s) hpl (X := Bundle.nN) (Y := Bundle.rN) (by decide) (by decide) LibCode.NullPointerException.Init0.at_0 LibCode.NullPointerException.Init0.at_1 LibCode.NullPointerException.Init0.at_4 (fun x hx => h x (by simp [Bundle.npeArmAtoms, hx]))
  obtain ⟨PR, LR, hPRm, hPRs⟩ := PassC.of_atoms (args := args) (s := s) hpl (X := Bundle.rN) (Y := Bundle.eN) (by decide) (by decide) LibCode.RuntimeException.Init0.at_0 LibCode.RuntimeException.Init0.at_1 LibCode.RuntimeException.Init0.at_4 (fun x hx => h x (by simp [Bundle.npeArmAtoms, hx]))
  obtain ⟨PE, LEx, hPEm, hPEs⟩ := PassC.of_atoms (args := args) (s := s) hpl (X := Bundle.eN) (Y := Bundle.tN) (by decide) (by decide) LibCode.Exception.Init0.at_0 LibCode.Exception.Init0.at_1 LibCode.Exception.Init0.at_4 (fun x hx => h x (by simp [Bundle.npeArmAtoms, hx]))
  have hfound : s.vm.findClass Bundle.nN = some P1.m.cls := findClass_of_methodNamed hP1m
  have ecls : N.cN = P1.m.cls := Option.some.inj (hcN.symm.trans hfound)
  have hk : s.vm.classes[P1.m.cls]? = some N.kN := by rw [← ecls]; exact LN.cls
  have hinit := Cond.initialized_spec hfound hk (a' (.initialized Bundle.nN) (by simp [Bundle.npeArmAtoms]))
  have hctor : N.kN.findMethod "<init>" "()V" = some P1.m.idx := findMethod_of_methodNamed hP1m hk
  obtain ⟨c1, k1, hc1, hk1, -, -, -, hn⟩ := Cond.instantiable_spec (a' (.instantiable Bundle.nN n) (by simp [Bundle.npeArmAtoms]))
  cases Option.some.inj (hc1.symm.trans hfound)
  cases Option.some.inj (hk1.symm.trans hk)
  have hfsz : (freshCell P1.m.cls N.kN).slots.size = n := by simp [hn]
  have hlink1 : P1.sup = PR.m := Option.some.inj (hP1s.symm.trans hPRm)
  have hlinkR : PR.sup = PE.m := Option.some.inj (hPRs.symm.trans hPEm)
  have hlinkE : PE.sup = Z.m T.toThrowableT := Option.some.inj (hPEs.symm.trans Y.init0)
  have hLs : ∀ P, P ∈ [PR, PE] → P.Links0 e.platform s := fun P hP => by
    simp only [List.mem_cons, List.not_mem_nil, or_false] at hP
    rcases hP with rfl | rfl
    · exact LR
    · exact LEx
  have hsel0 : selectMethod e.platform s.vm P1.m.cls T.fill0 = .method T.fill0 := by
    obtain ⟨c2, r2, m2, q1, q2, q3, q4, -⟩ := Cond.selects_spec (a' (.selects Bundle.nN Bundle.tFill0 Bundle.tFill0) (by simp [Bundle.npeArmAtoms]))
    cases Option.some.inj (q1.symm.trans hfound)
    cases Option.some.inj (q2.symm.trans (State.methodFound?_of_named Y.fill0 (by decide)))
    cases Option.some.inj (q3.symm.trans Y.fill0)
    rw [Launch.admits_selectMethod X.admits]; exact q4
  have hselF : selectMethod e.platform s.vm P1.m.cls T.fill = .method N.fill := by
    obtain ⟨c2, r2, m2, q1, q2, q3, q4, -⟩ := Cond.selects_spec (a' (.selects Bundle.nN Bundle.tFill Bundle.nFill) (by simp [Bundle.npeArmAtoms]))
    cases Option.some.inj (q1.symm.trans hfound)
    cases Option.some.inj (q2.symm.trans (State.methodFound?_of_named Y.fill (by decide)))
    cases Option.some.inj (q3.symm.trans hnNF)
    rw [Launch.admits_selectMethod X.admits]; exact q4
  obtain ⟨cellS0, hcS0, hiss⟩ := Y.statics
  obtain ⟨u0, hu0⟩ := Cond.staticRefV Y.unassigned L.unassignedStatic L.statics hcS0 hiss (a' (.isRef (.static Bundle.tN "UNASSIGNED_STACK" Bundle.steD)) (by simp [Bundle.npeArmAtoms]))
  obtain ⟨sen, hsen⟩ := Cond.staticRefV Y.sentinel L.sentinelStatic L.statics hcS0 hiss (a' (.isRef (.static Bundle.tN "SUPPRESSED_SENTINEL" Bundle.listD)) (by simp [Bundle.npeArmAtoms]))
  obtain ⟨ci198, i198, fB, hk198, hg198, ha198, hsB, -, hnB, htB, hffB⟩ := Cond.ownField (t := .object "java/lang/Object") Y.found L.cls (by decide +kernel) (a' (.fieldLink Bundle.tN 198 Bundle.tN "backtrace" Bundle.objD) (by simp [Bundle.npeArmAtoms])) (a' (.lays Bundle.tN Bundle.tN "backtrace" Bundle.objD) (by simp [Bundle.npeArmAtoms])) e.platform hpl
  obtain ⟨cellS, hcS', heS, -, hkeep⟩ := X.same.2.2.2.2.2 T.aS cellS0 hcS0
  have hcellS : W.heap[T.aS]? = some cellS := hcS'
  have hout' : ∀ i, (⟨T.aS, i⟩ : Loc) ∉ locs := fun i hmem => by
    have := hlocs _ hmem cellS0 hcS0
    rw [hiss] at this; cases this
  have hknownS : cellS.vm ≠ .unknown := by
    rw [heS]; intro hu
    rw [show cellS0.vm = .unknown from hu] at hiss
    cases hiss
  have hvU : cellS.slots[T.fUnassigned.slot]? = some u0.v := by rw [hkeep _ (hout' _)]; exact hu0
  have hvSen : cellS.slots[T.fSentinel.slot]? = some sen.v := by rw [hkeep _ (hout' _)]; exact hsen
  obtain ⟨tyC, dC, hdC, hdnC⟩ := Cond.laysAt hfound hk Y.cause (a' (.lays Bundle.nN Bundle.tN "cause" "Ljava/lang/Throwable;") (by simp [Bundle.npeArmAtoms]))
  obtain ⟨tyS, dS, hdS, hdnS⟩ := Cond.laysAt hfound hk Y.stack (a' (.lays Bundle.nN Bundle.tN "stackTrace" Bundle.steD) (by simp [Bundle.npeArmAtoms]))
  obtain ⟨tyP, dP, hdP, hdnP⟩ := Cond.laysAt hfound hk Y.supp (a' (.lays Bundle.nN Bundle.tN "suppressedExceptions" Bundle.listD) (by simp [Bundle.npeArmAtoms]))
  obtain ⟨tyX, dX, hdX, hdnX⟩ := Cond.laysAt hfound hk hffS (a' (.lays Bundle.nN Bundle.nN "extendedMessageState" "I") (by simp [Bundle.npeArmAtoms, Bundle.npeAtoms]))
  obtain ⟨hnX, htX⟩ := State.fieldFound?_type hffS (t := .int) (by decide +kernel)
  have xC := Cond.laysApart hdC hdX hdnC hdnX (by rw [hnX, Y.causeName]; decide)
  have xS := Cond.laysApart hdS hdX hdnS hdnX (by rw [hnX, Y.stackName]; decide)
  have xP := Cond.laysApart hdP hdX hdnP hdnX (by rw [hnX, Y.suppName]; decide)
  have hv0 : (freshCell P1.m.cls N.kN).slots[N.fState.slot]? = some (.int 0) := by
    have := fresh_default (c := P1.m.cls) tyX
    rw [htX] at this; exact this
  obtain ⟨tyB, dB, hdB, hdnB⟩ := Cond.laysAt hfound hk hffB (a' (.lays Bundle.nN Bundle.tN "backtrace" Bundle.objD) (by simp [Bundle.npeArmAtoms]))
  have bC := Cond.laysApart hdB hdC hdnB hdnC (by rw [hnB, Y.causeName]; decide)
  have bS := Cond.laysApart hdB hdS hdnB hdnS (by rw [hnB, Y.stackName]; decide)
  have bP := Cond.laysApart hdB hdP hdnB hdnP (by rw [hnB, Y.suppName]; decide)
  have bX := Cond.laysApart hdB hdX hdnB hdnX (by rw [hnB, hnX]; decide)
  have hbk : ((npeCell N.toNpeT (preparedCellV T.toThrowableT (freshCell P1.m.cls N.kN) W.heap.size u0 sen) W.cur).withEntry W.cur).slots[fB.slot]? = some .null := by
    have := fresh_default (c := P1.m.cls) tyB
    rw [htB] at this
    simpa [npeCell, preparedCellV, Cell.setSlot, Cell.withEntry, Array.getElem?_setIfInBounds, bC, bS, bP, bX, bC.symm, bS.symm, bP.symm, bX.symm, defaultValue] using this
  have tkC := Takes.of_laid (v := .ref W.heap.size) hk hordN tyC (by rw [Y.causeType]; rfl)
  have tkS := Takes.of_laid (v := u0.v) hk hordN tyS (by rw [Y.stackType]; exact fits_refV_array _ u0)
  have tkP := Takes.of_laid (v := sen.v) hk hordN tyP (by rw [Y.suppType]; exact fits_refV_object _ sen)
  have tkX := Takes.of_laid (v := .int 1) hk hordN tyX (by rw [htX]; rfl)
  have hskip : SkipFacts T e.platform s (fun u => u) u0 ((npeCell N.toNpeT (preparedCellV T.toThrowableT (freshCell P1.m.cls N.kN) W.heap.size u0 sen) W.cur).withEntry W.cur) := ⟨{ ci198 := ci198, i198 := i198, fBack := fB }, ⟨hk198, hg198, ha198, hsB⟩, hbk, fun _ _ => rfl⟩
  obtain ⟨hbeyond, hfreeW⟩ := X.vmMayThrowNative hsize hnf (.throwNew "java/lang/NullPointerException" none none) (fun f hf => by cases hf) rfl hRlocals
  obtain ⟨vm', hW', st⟩ := c_npeOver p (S := W) (X.overNative g nf) hexec htr T L Z LZ N LN X.warmed P1 L1 [PR, PE] hLs hlink1 ⟨hlinkR, hlinkE, trivial⟩ hfound hk hinit hordN hctor (Launch.admits_hotImplicitExceptions X.admits) hbeyond hfreeW
    (X.cellsAbove hRcells) (by have := X.slotsAbove hRslots; rw [hn]; exact this) hsel0 hselF hcellS hknownS hvU hvSen hv0 xC xS xP tkC tkS tkP tkX Y.objLocals hskip rfl
    (by have := X.framesAboveNative g nf (n := 7) (by omega); simp only [List.length_cons, List.length_nil] at this ⊢; omega) (by have := X.stackAboveNative hsize hnf (K := 13 * 2 + 68) (by omega); simpa using this)
  have X2 := (X.pushed (freshCell P1.m.cls N.kN)).noted hW'
  have hlt : W.heap.size < ((W.pushCell (freshCell P1.m.cls N.kN)).setVm vm').heap.size := by
    show W.heap.size < (W.pushCell (freshCell P1.m.cls N.kN)).heap.size
    rw [State.heap_size_pushCell]; omega
  have hcell : ((W.pushCell (freshCell P1.m.cls N.kN)).setVm vm').heap[W.heap.size]? = some (freshCell P1.m.cls N.kN) := State.heap_pushCell_size W _
  have X3 := ((((X2.stored hcell T.fCause.slot (.ref W.heap.size)).storedAgain hlt T.fStack.slot u0.v).storedAgain hlt T.fSupp.slot sen.v).storedAgain hlt N.fState.slot (.int 1)).storedAgain hlt T.fStack.slot u0.v
  simp only [List.append_assoc, List.cons_append, List.nil_append] at X3
  rw [hfsz] at X3
  refine ⟨_, W.heap.size, _, st _ (Steps.refl _), X3.forget (fun y hy => ?_), heapAt_setCell_self _ hlt, hfound, rfl⟩
  simp only [List.mem_cons, List.not_mem_nil, or_false] at hy
  have hge : s.heap.size ≤ W.heap.size := X.same.2.1
  rcases hy with rfl | rfl | rfl | rfl | rfl <;> exact hge

def c_facts (l : Launch) (p : Program) (e : Env) (R : Room) (s : State) (m₀ : MethodId) (args : Array Value) (below : List Frame) (meth : Method) (c : Code) (A : Nat → Prop) (H : Heap) (locs : List Loc) (cells slots : Nat) (g : JFrame) (cls : String) (msg : Option String) (U : State) : Prop :=
  ∀ nf : NFrame, nf.words = 0 → ∃ (S : State) (q : Addr) (ce : Cell), Steps p.tables e below (U.setFrames (.throwNew cls msg none :: .native nf :: .java g :: below)) (S.setFrames (.throwing q :: .native nf :: .java g :: below)) ∧
    Stand p l e R s m₀ args below meth c S locs cells slots ∧ H.size ≤ S.heap.size ∧ (∀ q : Nat, q < H.size → S.heap[q]? = H[q]?) ∧ va_S A s.heap S.heap locs ∧ S.heap[q]? = some ce ∧ ce.vm = .none ∧ s.vm.findClass cls = some ce.cls
variable {H : Heap}
theorem c_vm {pc : Nat} {ls : Array Slot} {rest : List Value} (hexec : p.tables.exec = Jvm.exec) (hl : l.stackTraces = false) {cls text : String} {names : List String} {nb : Nat} {A : Nat → Prop}
    (hcls : Bundle.fit cls = true) (hnames : ∀ n ∈ names, Bundle.fit n = true) (hsoe : (cls == "java/lang/StackOverflowError") = false) (hoom : (cls == "java/lang/OutOfMemoryError") = false)
    (hat : ∀ w ∈ vx_atM cls names, w.before args s = true) (hgood : ∀ w ∈ vx_atM cls names, vx_ot w = true)
    (hU : vx_Zq Bundle.tN "UNASSIGNED_STACK" Bundle.steD A s s.heap) (hN : vx_Zq Bundle.tN "SUPPRESSED_SENTINEL" Bundle.listD A s s.heap) (hS : va_S A s.heap H locs) (hsize : ls.size = c.maxLocals)
    (htext : (text == notModelled) = false) (hnb : (stringBytes (stringToUtf16 text)).size ≤ nb) (hnb1 : nb ≤ 1000)
    (hRframes : names.length + 5 < R.frames) (hRlocals : (rest.map fun v => v.category).sum + 10240 ≤ R.locals) (hshort : 13 * names.length + 55 ≤ 10240) (hRcells : cells + 3 ≤ R.cells) (hRslots : slots + (nb + 10) ≤ R.slots)
    (T : State) (hT : T.heap = H) (X : Stand p l e R s m₀ args below meth c T locs cells slots) : c_facts l p e R s m₀ args below meth c A H locs (cells + 3) (slots + (nb + 10)) (F0 m₀ pc ls rest) cls (some text) T := by
  intro nf hnf
  have htr : e.platform.stackTraces = false := (show e.platform.stackTraces = l.stackTraces by rw [X.admits.platform]).trans hl
  have Y := vx_rebase X (R' := { frames := R.frames, locals := R.locals, cells := 3, slots := nb + 10 }) (Nat.le_refl _) (Nat.le_refl _) hRcells hRslots
  have hhp : ((T.setVm s.vm).setFrames (.invoking m₀ args :: below)).heap = H := hT
  have hW0 : s.WarmedH ((T.setVm s.vm).setFrames (.invoking m₀ args :: below)).vm := State.WarmedH.refl s
  have hat' : ∀ w ∈ vx_atM cls names, w.before args ((T.setVm s.vm).setFrames (.invoking m₀ args :: below)) = true := fun w hw => vx_ot_at hW0 rfl (hgood w hw) (hat w hw)
  have hU' : vx_Zq Bundle.tN "UNASSIGNED_STACK" Bundle.steD A ((T.setVm s.vm).setFrames (.invoking m₀ args :: below)) ((T.setVm s.vm).setFrames (.invoking m₀ args :: below)).heap := by rw [hhp]; exact vx_Zq.moved hW0.alike (hU.kept hS.2.1)
  have hN' : vx_Zq Bundle.tN "SUPPRESSED_SENTINEL" Bundle.listD A ((T.setVm s.vm).setFrames (.invoking m₀ args :: below)) ((T.setVm s.vm).setFrames (.invoking m₀ args :: below)).heap := by rw [hhp]; exact vx_Zq.moved hW0.alike (hN.kept hS.2.1)
  obtain ⟨S, q, ce, st, Z, hce, hcl', hv⟩ := c_msgAt Y hexec htr (cls := cls) (names := names) (text := text) hcls hnames hsoe hoom (vx_own hat' (vx_isRefq hU'.1) (vx_isRefq hN'.1) hU'.2.word hN'.2.word) (fun x hx => nomatch hx) htext
    (by rw [Launch.admits_arrayLengthLimit X.admits]; omega) (by rw [Launch.admits_maxHeapBytes X.admits]; simp only [componentBytes]; omega)
    (g := F0 m₀ pc ls rest) hsize hnf hRframes (by show 2 * 0 + (rest.map fun v => v.category).sum + 10240 ≤ R.locals; omega) hshort (by show 0 + 3 ≤ 3; omega) (by show 0 + (_ + 4 + 6) ≤ nb + 10; omega)
  obtain ⟨f1, f2⟩ := vx_frame Z.same
  have f1' : H.size ≤ S.heap.size := by rw [← hT]; exact f1
  have f2' : ∀ q : Nat, q < H.size → S.heap[q]? = H[q]? := fun q hq => by
    rw [← hT]
    exact f2 q (by rw [← hT] at hq; exact hq) (fun z hz => nomatch hz)
  have X5 := vx_back9 X Y Z
  have X6 : Stand p l e R s m₀ args below meth c S locs (cells + 3) (slots + (nb + 10)) := { X5 with same := X5.same.mono (by omega) (by omega) }
  exact ⟨S, q, ce, st, X6, f1', f2', ⟨Nat.le_trans hS.1 f1', fun q h1 h2 => (f2' q (Nat.lt_of_lt_of_le h1 hS.1)).trans (hS.2.1 q h1 h2), hS.2.2⟩, hce, hv, hcl'⟩
theorem c_npe {pc : Nat} {ls : Array Slot} {rest : List Value} (hexec : p.tables.exec = Jvm.exec) (hl : l.stackTraces = false) {nb : Nat} {A : Nat → Prop}
    (hat : ∀ w ∈ vx_atN nb, w.before args s = true) (hgood : ∀ w ∈ vx_atN nb, vx_ot w = true)
    (hU : vx_Zq Bundle.tN "UNASSIGNED_STACK" Bundle.steD A s s.heap) (hN : vx_Zq Bundle.tN "SUPPRESSED_SENTINEL" Bundle.listD A s s.heap) (hS : va_S A s.heap H locs) (hsize : ls.size = c.maxLocals)
    (hRframes : 8 < R.frames) (hRlocals : (rest.map fun v => v.category).sum + 10240 ≤ R.locals) (hRcells : cells + 1 ≤ R.cells) (hRslots : slots + nb ≤ R.slots)
    (T : State) (hT : T.heap = H) (X : Stand p l e R s m₀ args below meth c T locs cells slots) : c_facts l p e R s m₀ args below meth c A H locs (cells + 1) (slots + nb) (F0 m₀ pc ls rest) "java/lang/NullPointerException" none T := by
  intro nf hnf
  have htr : e.platform.stackTraces = false := (show e.platform.stackTraces = l.stackTraces by rw [X.admits.platform]).trans hl
  have Y := vx_rebase X (R' := { frames := R.frames, locals := R.locals, cells := 1, slots := nb }) (Nat.le_refl _) (Nat.le_refl _) hRcells hRslots
  have hhp : ((T.setVm s.vm).setFrames (.invoking m₀ args :: below)).heap = H := hT
  have hW0 : s.WarmedH ((T.setVm s.vm).setFrames (.invoking m₀ args :: below)).vm := State.WarmedH.refl s
  have hat' : ∀ w ∈ vx_atN nb, w.before args ((T.setVm s.vm).setFrames (.invoking m₀ args :: below)) = true := fun w hw => vx_ot_at hW0 rfl (hgood w hw) (hat w hw)
  have hU' : vx_Zq Bundle.tN "UNASSIGNED_STACK" Bundle.steD A ((T.setVm s.vm).setFrames (.invoking m₀ args :: below)) ((T.setVm s.vm).setFrames (.invoking m₀ args :: below)).heap := by rw [hhp]; exact vx_Zq.moved hW0.alike (hU.kept hS.2.1)
  have hN' : vx_Zq Bundle.tN "SUPPRESSED_SENTINEL" Bundle.listD A ((T.setVm s.vm).setFrames (.invoking m₀ args :: below)) ((T.setVm s.vm).setFrames (.invoking m₀ args :: below)).heap := by rw [hhp]; exact vx_Zq.moved hW0.alike (hN.kept hS.2.1)
  obtain ⟨S, q, ce, st, Z, hce, hcl', hv⟩ := c_npeAt Y hexec htr (n := nb) (vx_own hat' (vx_isRefq hU'.1) (vx_isRefq hN'.1) hU'.2.word hN'.2.word) (fun x hx => nomatch hx)
    (g := F0 m₀ pc ls rest) hsize hnf hRframes (by show 2 * 0 + (rest.map fun v => v.category).sum + 10240 ≤ R.locals; omega) (by show 0 + 1 ≤ 1; omega) (by show 0 + nb ≤ nb; omega)
  obtain ⟨f1, f2⟩ := vx_frame Z.same
  have f1' : H.size ≤ S.heap.size := by rw [← hT]; exact f1
  have f2' : ∀ q : Nat, q < H.size → S.heap[q]? = H[q]? := fun q hq => by
    rw [← hT]
    exact f2 q (by rw [← hT] at hq; exact hq) (fun z hz => nomatch hz)
  have X5 := vx_back9 X Y Z
  have X6 : Stand p l e R s m₀ args below meth c S locs (cells + 1) (slots + nb) := { X5 with same := X5.same.mono (by omega) (by omega) }
  exact ⟨S, q, ce, st, X6, f1', f2', ⟨Nat.le_trans hS.1 f1', fun q h1 h2 => (f2' q (Nat.lt_of_lt_of_le h1 hS.1)).trans (hS.2.1 q h1 h2), hS.2.2⟩, hce, hv, hcl'⟩
end CPY
section CPN
variable {p : Program} {l : Launch} {e : Env} {R : Room} {s : State} {m₀ : MethodId} {args : Array Value} {below : List Frame} {meth : Method} {c : Code} {locs : List Loc} {cells slots : Nat} {H : Heap}
/-- arraycopy that throws: from the call to what is thrown over the caller -/
theorem c_native {cc : ByteArray} {pc : Nat} {ls : Array Slot} {rest : List Value} {Q : State → Prop} {A : Nat → Prop} (hexec : p.tables.exec = Jvm.exec) (hb : c.code = cc) {own : String} {index : Nat} (hown : s.vm.findClass own = some m₀.cls) (hlink : (Cond.methodLink own index arraycopyName).before args s = true) (hnat : (Cond.native arraycopyName).before args s = true) (hstat : (Cond.static arraycopyName).before args s = true) (hini : (Cond.initialized "java/lang/System").before args s = true)
    (hsize : ls.size = c.maxLocals) {v1 v2 : Value} {sp dp n : Int32} {cls : String} {msg : Option String} {kc ks : Nat} (hdg : decode cc pc = .ok (.invokestatic index, 3)) (hframes : 1 ≤ R.frames) (hlocals : (rest.map fun v => v.category).sum + (nativeFrameWords "java/lang/System" "arraycopy" 5 + 11) ≤ R.locals)
    (hseen : ∀ x : Method, x.isStatic = true → x.sig.parameters = [.object "java/lang/Object", .int, .object "java/lang/Object", .int, .int] → seenByNative x #[v1, .int sp, v2, .int dp, .int n] = #[v1, .int sp, v2, .int dp, .int n]) (hwords : operandWords [v1, .int sp, v2, .int dp, .int n] = 5)
    (hwp : ∀ (U : State) (fs : List Frame) (E : CtlPost), U.heap = H → s.vm.Alike U.vm → (∀ acts', E (.throwNew cls msg) acts' (U.setFrames fs)) → wp (Native.java_lang_System.arraycopy.sem #[v1, .int sp, v2, .int dp, .int n]) (fun _ _ _ _ => False) E e false [] (U.setFrames fs))
    (hmake : ∀ U : State, U.heap = H → Stand p l e R s m₀ args below meth c U locs cells slots → c_facts l p e R s m₀ args below meth c A H locs (cells + kc) (slots + ks) (F0 m₀ pc ls rest) cls msg U)
    (k : ∀ (H1 : Heap) (q : Addr) (ce : Cell), H.size ≤ H1.size → (∀ q : Nat, q < H.size → H1[q]? = H[q]?) → va_S A s.heap H1 locs → H1[q]? = some ce → ce.vm = .none → s.vm.findClass cls = some ce.cls → vx_W p l e R s m₀ args below meth c H1 locs (cells + kc) (slots + ks) Q (F0 m₀ pc ls rest) q) :
    W p l e R s m₀ args below meth c H locs cells slots Q (F0 m₀ pc ls (.int n :: .int dp :: v2 :: .int sp :: v1 :: rest)) := by
  intro T hT X
  obtain ⟨r, kS, methS, hnS, hmS, hkS, N⟩ := NativeOf.of_static hnat hstat (ps := [.object "java/lang/Object", .int, .object "java/lang/Object", .int, .int]) (ret := none) (by decide +kernel)
  have hinitS : kS.init = .initialized := Cond.initialized_spec (findClass_of_methodNamed hnS) hkS hini
  obtain ⟨vm', X', step⟩ := X.invokestatic hexec hown hlink hnS hmS N.static hkS hinitS (by decide) (g := F0 m₀ pc ls (.int n :: .int dp :: v2 :: .int sp :: v1 :: rest)) rfl (argsL := [v1, .int sp, v2, .int dp, .int n]) (rest := rest) (by rw [N.sig]; rfl) rfl (by rw [hb]; exact hdg)
  have hA' : s.vm.Alike vm' := X'.warmed.alike
  obtain ⟨kS', N'⟩ := N.alike hA'
  obtain ⟨S, q, ce, st, XS, h1, h2, h3, h4, h5, h6⟩ := hmake (T.setVm vm') hT X' { method := r, args := #[v1, .int sp, v2, .int dp, .int n], locked := none } rfl
  obtain ⟨t, a1, b1⟩ := k S.heap q ce h1 h2 h3 h4 h5 h6 S rfl XS
  refine ⟨t, step t (fun acts => ?_), b1⟩
  obtain ⟨g₀, hfr⟩ := X'.frames_eq
  obtain ⟨g₁, hfrS⟩ := XS.frames_eq
  have hU : ((T.setVm vm').setTop (F0 m₀ pc ls rest)).pushFrame (.native { method := r, args := #[v1, .int sp, v2, .int dp, .int n], locked := none }) = (T.setVm vm').setFrames (.native { method := r, args := #[v1, .int sp, v2, .int dp, .int n], locked := none } :: .java (F0 m₀ pc ls rest) :: below) := by
    rw [State.pushFrame, State.frames_setTop _ hfr, State.setTop_of_frames _ hfr, State.setFrames_setFrames]
  have hcur : (T.setVm vm').cur < (T.setVm vm').threads.size := State.cur_lt_of_frames hfr
  refine Steps.nativeThrowsNote (g := F0 m₀ pc ls rest) (c := c) (row := arraycopyRow) (cls := cls) (msg := msg) (T := id) X'.here acts N'.cls N'.meth N'.boot N'.native N'.noCode N'.noLock
    (by rw [N'.className, N'.name, N'.desc]; exact arraycopy_row p)
    (by rw [N'.className, N'.name]; show e.platform.stackFull _ _ (nativeFrameWords _ _ (operandWords [v1, .int sp, v2, .int dp, .int n])) = false; rw [hwords]; exact X'.notFull (g := F0 m₀ pc ls rest) hsize (vars := nativeFrameWords "java/lang/System" "arraycopy" 5) hframes (by show 2 * 0 + (rest.map fun v => v.category).sum + _ ≤ _; omega)) ?_ ?_
  · intro E hE
    rw [show seenByNative methS [v1, .int sp, v2, .int dp, .int n].toArray = #[v1, .int sp, v2, .int dp, .int n] from hseen _ N'.static N'.sig] at hE ⊢
    rw [hU] at hE ⊢
    rw [arraycopyRow_sem]
    exact hwp (T.setVm vm') _ E hT hA' hE
  · rw [show seenByNative methS [v1, .int sp, v2, .int dp, .int n].toArray = #[v1, .int sp, v2, .int dp, .int n] from hseen _ N'.static N'.sig]
    show Steps p.tables e below ((((T.setVm vm').setTop (F0 m₀ pc ls rest)).pushFrame (.native { method := r, args := #[v1, .int sp, v2, .int dp, .int n], locked := none })).pushFrame (.throwNew cls msg none)) t
    rw [hU, State.pushFrame, State.frames_setFrames _ hcur, State.setFrames_setFrames]
    refine st.trans (Steps.throwingLeavesNative ⟨XS.here.running, XS.here.runnable, XS.here.alone⟩ (State.cur_lt_of_frames hfrS) ⟨[.java (F0 m₀ pc ls rest)], rfl⟩ rfl rfl ?_)
    have hV : (S.setTop (F0 m₀ pc ls rest)).pushFrame (.throwing q) = S.setFrames (.throwing q :: .java (F0 m₀ pc ls rest) :: below) := by
      rw [State.pushFrame, State.frames_setTop _ hfrS, State.setTop_of_frames _ hfrS, State.setFrames_setFrames]
    rw [← hV]
    exact a1
end CPN
theorem xh_P {g : Nat → ClassId} {A : Nat → Prop} {s : State} {args : Array Value} (hts : ∀ w ∈ lw_all, w.before args s = true) (hX : XW g A s) : ∀ w ∈ vx_atN 8, w.before args s = true := by
  have e2 : (vx_atN 8).filter (fun w => !goodWord w) = [.castable "java/lang/RuntimeException" "java/lang/Throwable", .declares ⟨"java/lang/RuntimeException", "<init>", "()V"⟩, .declares ⟨"java/lang/Exception", "<init>", "()V"⟩, .declares ⟨"java/lang/Throwable", "<init>", "()V"⟩, .castable "java/lang/NullPointerException" "java/lang/NullPointerException"] := by decide +kernel
  refine vx_hat (B := [.castable "java/lang/RuntimeException" "java/lang/Throwable", .declares ⟨"java/lang/RuntimeException", "<init>", "()V"⟩, .declares ⟨"java/lang/Exception", "<init>", "()V"⟩, .declares ⟨"java/lang/Throwable", "<init>", "()V"⟩, .castable "java/lang/NullPointerException" "java/lang/NullPointerException"]) (fun w h => hts w (lw_in _ [80, 332, 272, 294, 297, 299, 333, 334, 116, 117, 266, 271, 295, 302, 326, 303, 327, 304, 328, 267, 269, 329, 291, 281, 282, 437, 439, 288, 289, 428, 429, 430, 431, 431, 432, 433, 434, 434, 435, 436, 333, 88, 286, 450, 280, 445, 446, 448, 300, 330, 443] (by decide +kernel) (by decide +kernel) w h)) (fun w h => by rw [e2] at h; exact h) ?_
  exact (vx_c (b_castC hX 4 rfl) (vx_c (xw_dec hX 5 rfl) (vx_c (xw_dec hX 6 rfl) (vx_c (xw_dec hX 7 rfl) (vx_c (b_castC hX 3 rfl) vx_n)))))
theorem xg_P : ∀ w ∈ vx_atN 8, vx_ot w = true := by decide +kernel
