/-! NULLPOINTEREXCEPTION OUT OF A NATIVE FRAME (written by gen/mknpe.py) -/
set_option maxRecDepth 100000
/-- the frame of a constructor's first step over the note that what it makes is thrown then -/
def sx_in (W : State) (a : Addr) (base : List Frame) (m : MethodId) : State := (W.setFrames (.thenThrow a :: base)).pushFrame (.java (pass0J m a 0 []))
theorem sx_inAt {below base : List Frame} {W : State} (h : Over W base below) (a : Addr) {m : MethodId} {x : Method} {c : Code} (h1 : W.vm.method? m = some x) (h2 : x.code = some c) (h3 : W.plainMethod m) :
    (W.setFrames (.thenThrow a :: base)).frames = .thenThrow a :: base ∧ At (sx_in W a base m) m c below ∧ (sx_in W a base m).frames = .java (pass0J m a 0 []) :: .thenThrow a :: base := by
  have e1 : (W.setFrames (.thenThrow a :: base)).frames = .thenThrow a :: base := State.frames_setFrames _ h.cur
  have e2 := State.cur_lt_of_frames e1
  refine ⟨e1, At.pushOn _ ⟨h.running, by simpa using h.runnable, by simpa using h.alone⟩ e2 ?_ h1 h2 h3, (State.frames_setFrames _ e2).trans (by rw [e1])⟩
  obtain ⟨mid, hm⟩ := h.above
  exact ⟨.thenThrow a :: mid, by rw [e1, hm]; rfl⟩
/-- a constructor without arguments, cold, over that note: its end is the throwing of what it made -/
theorem sx_ctor {tb : Tables} [Ours tb] {e : Env} {below base : List Frame} {s₀ W : State} (h : Over W base below) (hexec : tb.exec = Jvm.exec) {f : State → State} (hf : HeapOnly f) (P : PassC) (L : P.Links0 e.platform s₀) (hW : s₀.WarmedH W.vm) (a : Addr)
    (room : e.platform.stackFull (((W.setFrames (.thenThrow a :: base)).threads[(W.setFrames (.thenThrow a :: base)).cur]?).getD { frames := [] }) (W.setFrames (.thenThrow a :: base)).frames 1 = false)
    (sup : ∀ v, s₀.WarmedH v → At (sx_in (W.setVm v) a base P.m) P.m P.code below → ∃ v2, s₀.WarmedH v2 ∧ ∀ t, Steps tb e below ((f (sx_in (W.setVm v2) a base P.m)).setTop (pass0J P.m a 4 [])) t → Steps tb e below (doInvoke e ((sx_in (W.setVm v) a base P.m).setTop (pass0J P.m a 1 [])) [] P.sup #[.ref a]).1 t) :
    ∃ v, s₀.WarmedH v ∧ ∀ t, Steps tb e below ((f (W.setVm v)).setFrames (.throwing a :: base)) t → Steps tb e below (doInvoke e (W.setFrames (.thenThrow a :: base)) [] P.m #[.ref a]).1 t := by
  have hm := hW.methodAt L.method
  obtain ⟨-, i1, i2⟩ := sx_inAt h a hm L.code (hW.plainAt L.plain)
  obtain ⟨v1, w1, s1⟩ := Steps.invokeInitCold (tb := tb) (s₀ := s₀) (U := sx_in W a base P.m) (f := pass0J P.m a 1 [.ref a]) (args := []) (rest := []) (a := a) i1 hexec L.at1 hW L.links L.right L.notHandle L.cls L.file L.pool
    L.supClass L.supMethod L.supName L.supStatic L.supAbstract L.supFound L.supParams.symm rfl
  obtain ⟨v2, w2, s2⟩ := sup v1 w1 (i1.setVm (hW.alike.symm.trans w1.alike))
  refine ⟨v2, w2, fun t ht => ?_⟩
  rw [(doInvoke_java (s := W.setFrames (.thenThrow a :: base)) (e := e) (acts := []) (args := #[.ref a]) (meth := P.meth) (code := P.code) hm L.code L.locks (by rw [L.locals]; exact room)).1, L.locals]
  show Steps tb e below (sx_in W a base P.m) t
  rw [← State.setTop_self (s := sx_in W a base P.m) (State.topJava?_of_frames i2)]
  jvm_step i1 [hexec, L.at0, Value.isRef]
  refine s1 t (s2 t ?_)
  -- the return, then the throwing
  have hV := h.setVm (hW.alike.symm.trans w2.alike)
  have hm2 := w2.methodAt L.method
  obtain ⟨-, j1, j2⟩ := sx_inAt hV a hm2 L.code (w2.plainAt (U := W.setVm v2) L.plain)
  have hB : At (f (sx_in (W.setVm v2) a base P.m)) P.m P.code below := hf.at_ j1
  have hfr : (f (sx_in (W.setVm v2) a base P.m)).frames = .java (pass0J P.m a 0 []) :: .thenThrow a :: base := by rw [hf.frames]; exact j2
  jvm_step hB [hexec, L.at4, return_.wp_sem]
  intro acts2
  rw [ret_to (t := f (sx_in (W.setVm v2) a base P.m)) (f := pass0J P.m a 4 []) (f₀ := pass0J P.m a 0 []) (below := .thenThrow a :: base) (fs := .thenThrow a :: base) (meth := P.meth) hfr (by rw [hf.vm]; exact hm2) L.locks rfl rfl rfl acts2]
  have hc := State.cur_lt_of_frames hfr
  have hf1 : ((f (sx_in (W.setVm v2) a base P.m)).setFrames (.thenThrow a :: base)).frames = .thenThrow a :: base := State.frames_setFrames _ hc
  obtain ⟨mid, hmid⟩ := h.above
  refine Steps.head ⟨hB.running, by simpa using hB.runnable, by simpa using hB.alone⟩ ⟨.thenThrow a :: mid, by rw [hf1, hmid]; rfl, by simp, by simp⟩ ?_
  rw [stepThread_thenThrow hf1]
  have hsame : ∀ F, (f (sx_in (W.setVm v2) a base P.m)).setFrames F = (f (W.setVm v2)).setFrames F := by
    intro F
    unfold sx_in
    rw [State.pushFrame, hf.setFrames, hf.setFrames, State.setFrames_setFrames, State.setFrames_setFrames]
  show Steps tb e below (((f (sx_in (W.setVm v2) a base P.m)).setFrames (.thenThrow a :: base)).setFrames (.throwing a :: base)) t
  rw [State.setFrames_setFrames, hsame]
  exact ht
set_option maxHeartbeats 2000000 in
theorem sx_npeAt {p : Program} {l : Launch} {e : Env} {R : Room} {s : State} {m₀ : MethodId} {args : Array Value} {below : List Frame} {meth : Method} {c : Code} {W : State} {locs : List Loc} {cells slots : Nat}
    (X : Stand p l e R s m₀ args below meth c W locs cells slots) (hexec : p.tables.exec = Jvm.exec) (htr : e.platform.stackTraces = false) {n : Nat}
    (h : ∀ a ∈ Bundle.npeArmAtoms n, a.before args s = true)
    (hlocs : ∀ x ∈ locs, ∀ cell, s.heap[x.base]? = some cell → cell.vm.isStatics = false)
    {g : JFrame} (hsize : g.locals.size = c.maxLocals) {nf : NFrame} (hnf : nf.words = 0) (haw : nf.awaiting = false) (hlk : nf.locked = none)
    (hRframes : 8 < R.frames) (hRlocals : 2 * g.monitorRoom + (g.stack.map fun v => v.category).sum + 10240 ≤ R.locals)
    (hRcells : cells + 1 ≤ R.cells) (hRslots : slots + n ≤ R.slots) (hlocks : meth.locks = false) :
    ∃ (S : State) (q : Addr) (ce : Cell), (∀ target, Steps p.tables e below ((S.setTop g).pushFrame (.throwing q)) target → Steps p.tables e below (W.setFrames (.throwNew "java/lang/NullPointerException" none none :: .native nf :: .java g :: below)) target) ∧
      Stand p l e R s m₀ args below meth c S locs (cells + 1) (slots + n) ∧ S.heap[q]? = some ce ∧ s.vm.findClass "java/lang/NullPointerException" = some ce.cls ∧ ce.vm = .none := by
  have howns : e.platform.frameOwnsMonitors = true := by rw [X.admits.platform]
  have hfin : e.platform.finalization = false := by rw [X.admits.platform]
  have hpl : e.platform.magicAccessors = ({} : Platform).magicAccessors := by rw [X.admits.platform]
  have hpl2 : e.platform.arrayCloneIsPublic = true := by rw [X.admits.platform]
  have a' : ∀ x, x ∈ Bundle.npeArmAtoms n → x.holds args s none s [] = true := fun x hx => h x hx
  obtain ⟨T, Z, L, LZ, Y⟩ := ThrowableC.of_atoms (args := args) howns hfin hpl (fun x hx => h x (by simp [Bundle.npeArmAtoms, hx]))
  obtain ⟨N, LN, hcN, hnNF, hordN, hffS⟩ := NpeC.of_atoms (args := args) hpl hpl2 L Y (fun x hx => h x (by simp [Bundle.npeArmAtoms, hx]))
  obtain ⟨P1, L1, hP1m, hP1s⟩ := PassC.of_atoms (args := args) (s := s) hpl (X := Bundle.nN) (Y := Bundle.rN) (by decide) (by decide) LibCode.NullPointerException.Init0.at_0 LibCode.NullPointerException.Init0.at_1 LibCode.NullPointerException.Init0.at_4 (fun x hx => h x (by simp [Bundle.npeArmAtoms, hx]))
  obtain ⟨PR, LR, hPRm, hPRs⟩ := PassC.of_atoms (args := args) (s := s) hpl (X := Bundle.rN) (Y := Bundle.eN) (by decide) (by decide) LibCode.RuntimeException.Init0.at_0 LibCode.RuntimeException.Init0.at_1 LibCode.RuntimeException.Init0.at_4 (fun x hx => h x (by simp [Bundle.npeArmAtoms, hx]))
  obtain ⟨PE, LEx, hPEm, hPEs⟩ := PassC.of_atoms (args := args) (s := s) hpl (X := Bundle.eN) (Y := Bundle.tN) (by decide) (by decide) LibCode.Exception.Init0.at_0 LibCode.Exception.Init0.at_1 LibCode.Exception.Init0.at_4 (fun x hx => h x (by simp [Bundle.npeArmAtoms, hx]))
  have hfound : s.vm.findClass Bundle.nN = some P1.m.cls := findClass_of_methodNamed hP1m
  have ecls : N.cN = P1.m.cls := Option.some.inj (hcN.symm.trans hfound)
  have hk : s.vm.classes[P1.m.cls]? = some N.kN := by rw [← ecls]; exact LN.cls
  have hinit := Cond.initialized_spec hfound hk (a' (.initialized Bundle.nN) (by simp [Bundle.npeArmAtoms]))
  have hctor : N.kN.findMethod "<init>" "()V" = some P1.m.idx := findMethod_of_methodNamed hP1m hk
  obtain ⟨c1, k1, hc1, hk1, -, -, -, hn⟩ := Cond.instantiable_spec (a' (.instantiable Bundle.nN n) (by simp [Bundle.npeArmAtoms]))
  cases Option.some.inj (hc1.symm.trans hfound)
  cases Option.some.inj (hk1.symm.trans hk)
  have hfsz : (freshCell P1.m.cls N.kN).slots.size = n := by simp [hn]
  have hlink1 : P1.sup = PR.m := Option.some.inj (hP1s.symm.trans hPRm)
  have hlinkR : PR.sup = PE.m := Option.some.inj (hPRs.symm.trans hPEm)
  have hlinkE : PE.sup = Z.m T.toThrowableT := Option.some.inj (hPEs.symm.trans Y.init0)
  have hLs : ∀ P, P ∈ [PR, PE] → P.Links0 e.platform s := fun P hP => by
    simp only [List.mem_cons, List.not_mem_nil, or_false] at hP
    rcases hP with rfl | rfl
    · exact LR
    · exact LEx
  have hsel0 : selectMethod e.platform s.vm P1.m.cls T.fill0 = .method T.fill0 := by
    obtain ⟨c2, r2, m2, q1, q2, q3, q4, -⟩ := Cond.selects_spec (a' (.selects Bundle.nN Bundle.tFill0 Bundle.tFill0) (by simp [Bundle.npeArmAtoms]))
    cases Option.some.inj (q1.symm.trans hfound)
    cases Option.some.inj (q2.symm.trans (State.methodFound?_of_named Y.fill0 (by decide)))
    cases Option.some.inj (q3.symm.trans Y.fill0)
    rw [Launch.admits_selectMethod X.admits]; exact q4
  have hselF : selectMethod e.platform s.vm P1.m.cls T.fill = .method N.fill := by
    obtain ⟨c2, r2, m2, q1, q2, q3, q4, -⟩ := Cond.selects_spec (a' (.selects Bundle.nN Bundle.tFill Bundle.nFill) (by simp [Bundle.npeArmAtoms]))
    cases Option.some.inj (q1.symm.trans hfound)
    cases Option.some.inj (q2.symm.trans (State.methodFound?_of_named Y.fill (by decide)))
    cases Option.some.inj (q3.symm.trans hnNF)
    rw [Launch.admits_selectMethod X.admits]; exact q4
  obtain ⟨cellS0, hcS0, hiss⟩ := Y.statics
  obtain ⟨u0, hu0⟩ := Cond.staticRefV Y.unassigned L.unassignedStatic L.statics hcS0 hiss (a' (.isRef (.static Bundle.tN "UNASSIGNED_STACK" Bundle.steD)) (by simp [Bundle.npeArmAtoms]))
  obtain ⟨sen, hsen⟩ := Cond.staticRefV Y.sentinel L.sentinelStatic L.statics hcS0 hiss (a' (.isRef (.static Bundle.tN "SUPPRESSED_SENTINEL" Bundle.listD)) (by simp [Bundle.npeArmAtoms]))
  obtain ⟨ci198, i198, fB, hk198, hg198, ha198, hsB, -, hnB, htB, hffB⟩ := Cond.ownField (t := .object "java/lang/Object") Y.found L.cls (by decide +kernel) (a' (.fieldLink Bundle.tN 198 Bundle.tN "backtrace" Bundle.objD) (by simp [Bundle.npeArmAtoms])) (a' (.lays Bundle.tN Bundle.tN "backtrace" Bundle.objD) (by simp [Bundle.npeArmAtoms])) e.platform hpl
  obtain ⟨cellS, hcS', heS, -, hkeep⟩ := X.same.2.2.2.2.2 T.aS cellS0 hcS0
  have hcellS : W.heap[T.aS]? = some cellS := hcS'
  have hout' : ∀ i, (⟨T.aS, i⟩ : Loc) ∉ locs := fun i hmem => by
    have := hlocs _ hmem cellS0 hcS0
    rw [hiss] at this; cases this
  have hknownS : cellS.vm ≠ .unknown := by
    rw [heS]; intro hu
    rw [show cellS0.vm = .unknown from hu] at hiss
    cases hiss
  have hvU : cellS.slots[T.fUnassigned.slot]? = some u0.v := by rw [hkeep _ (hout' _)]; exact hu0
  have hvSen : cellS.slots[T.fSentinel.slot]? = some sen.v := by rw [hkeep _ (hout' _)]; exact hsen
  obtain ⟨tyC, dC, hdC, hdnC⟩ := Cond.laysAt hfound hk Y.cause (a' (.lays Bundle.nN Bundle.tN "cause" "Ljava/lang/Throwable;") (by simp [Bundle.npeArmAtoms]))
  obtain ⟨tyS, dS, hdS, hdnS⟩ := Cond.laysAt hfound hk Y.stack (a' (.lays Bundle.nN Bundle.tN "stackTrace" Bundle.steD) (by simp [Bundle.npeArmAtoms]))
  obtain ⟨tyP, dP, hdP, hdnP⟩ := Cond.laysAt hfound hk Y.supp (a' (.lays Bundle.nN Bundle.tN "suppressedExceptions" Bundle.listD) (by simp [Bundle.npeArmAtoms]))
  obtain ⟨tyX, dX, hdX, hdnX⟩ := Cond.laysAt hfound hk hffS (a' (.lays Bundle.nN Bundle.nN "extendedMessageState" "I") (by simp [Bundle.npeArmAtoms, Bundle.npeAtoms]))
  obtain ⟨hnX, htX⟩ := State.fieldFound?_type hffS (t := .int) (by decide +kernel)
  have xC := Cond.laysApart hdC hdX hdnC hdnX (by rw [hnX, Y.causeName]; decide)
  have xS := Cond.laysApart hdS hdX hdnS hdnX (by rw [hnX, Y.stackName]; decide)
  have xP := Cond.laysApart hdP hdX hdnP hdnX (by rw [hnX, Y.suppName]; decide)
  have hv0 : (freshCell P1.m.cls N.kN).slots[N.fState.slot]? = some (.int 0) := by
    have := fresh_default (c := P1.m.cls) tyX
    rw [htX] at this; exact this
  obtain ⟨tyB, dB, hdB, hdnB⟩ := Cond.laysAt hfound hk hffB (a' (.lays Bundle.nN Bundle.tN "backtrace" Bundle.objD) (by simp [Bundle.npeArmAtoms]))
  have bC := Cond.laysApart hdB hdC hdnB hdnC (by rw [hnB, Y.causeName]; decide)
  have bS := Cond.laysApart hdB hdS hdnB hdnS (by rw [hnB, Y.stackName]; decide)
  have bP := Cond.laysApart hdB hdP hdnB hdnP (by rw [hnB, Y.suppName]; decide)
  have bX := Cond.laysApart hdB hdX hdnB hdnX (by rw [hnB, hnX]; decide)
  have hbk : ((npeCell N.toNpeT (preparedCellV T.toThrowableT (freshCell P1.m.cls N.kN) W.heap.size u0 sen) W.cur).withEntry W.cur).slots[fB.slot]? = some .null := by
    have := fresh_default (c := P1.m.cls) tyB
    rw [htB] at this
    simpa [npeCell, preparedCellV, Cell.setSlot, Cell.withEntry, Array.getElem?_setIfInBounds, bC, bS, bP, bX, bC.symm, bS.symm, bP.symm, bX.symm, defaultValue] using this
  have tkC := Takes.of_laid (v := .ref W.heap.size) hk hordN tyC (by rw [Y.causeType]; rfl)
  have tkS := Takes.of_laid (v := u0.v) hk hordN tyS (by rw [Y.stackType]; exact fits_refV_array _ u0)
  have tkP := Takes.of_laid (v := sen.v) hk hordN tyP (by rw [Y.suppType]; exact fits_refV_object _ sen)
  have tkX := Takes.of_laid (v := .int 1) hk hordN tyX (by rw [htX]; rfl)
  have hskip : SkipFacts T e.platform s (fun u => u) u0 ((npeCell N.toNpeT (preparedCellV T.toThrowableT (freshCell P1.m.cls N.kN) W.heap.size u0 sen) W.cur).withEntry W.cur) := ⟨{ ci198 := ci198, i198 := i198, fBack := fB }, ⟨hk198, hg198, ha198, hsB⟩, hbk, fun _ _ => rfl⟩
  have hO := X.overNative g nf
  obtain ⟨hbeyond, hfreeW⟩ := X.vmMayThrowNative hsize hnf (.throwNew "java/lang/NullPointerException" none none) (fun f hf => by cases hf) rfl hRlocals
  obtain ⟨kX, hkX, heX⟩ := X.warmed.alike.2.2 _ _ hk
  have hfresh : freshCell P1.m.cls kX = freshCell P1.m.cls N.kN := by
    show ({ cls := P1.m.cls, slots := kX.instanceTypes.map defaultValue, vm := .none } : Cell) = _
    rw [show kX.instanceTypes = N.kN.instanceTypes by rw [heX]]
  have hltS : T.aS < W.heap.size := (Array.getElem?_eq_some_iff.mp hcellS).1
  have hO1 : Over (W.pushCell (freshCell P1.m.cls N.kN)) (.native nf :: .java g :: below) below := (Over.pushCell_iff _).mpr hO
  have w5 : (W.pushCell (freshCell P1.m.cls N.kN)).heap[T.aS]? = some cellS := by
    rw [← hcellS]
    simp [State.pushCell, Array.getElem?_push, Nat.ne_of_lt hltS]
  have w6 : (W.pushCell (freshCell P1.m.cls N.kN)).heap[W.heap.size]? = some (freshCell P1.m.cls N.kN) := State.heap_pushCell_size W _
  have hfr' : (Frame.native nf :: .java g :: below).length + 7 < (e.platform.stackLimits W.me).1 := by have := X.framesAboveNative g nf (n := 7) (by omega); omega
  have hwd' : (stackUse (.native nf :: .java g :: below)).2 + 94 ≤ (e.platform.stackLimits W.me).2 := by have := X.stackAboveNative hsize hnf (K := 94) (by omega); omega
  generalize hbase : (Frame.native nf :: .java g :: below) = base at hO hO1 hbeyond hfreeW hfr' hwd'
  have hfN := (sx_inAt hO1 W.heap.size (m := P1.m) (X.warmed.methodAt L1.method) L1.code (X.warmed.plainAt (U := W.pushCell (freshCell P1.m.cls N.kN)) L1.plain)).1
  have hroom := roomAbove (pl := e.platform) (u := (W.pushCell (freshCell P1.m.cls N.kN)).setFrames (.thenThrow W.heap.size :: base)) (vars := 1) (pushed := [.thenThrow W.heap.size]) (base := base) (free := 94) (lim := e.platform.stackLimits W.me) hfN (by rw [State.stackLimits_setFrames]; rfl)
    (by simp only [List.length_cons, List.length_nil]; omega) (by omega) (by rw [stackUse_light _ _ (fun f hf => by cases hf) rfl, stackUse_nil]; show 0 + 1 + 11 ≤ _; omega)
  obtain ⟨vm', hW', st⟩ := sx_ctor (tb := p.tables) (W := W.pushCell (freshCell P1.m.cls N.kN)) hO1 hexec (f := fun u => u.setCell W.heap.size (((npeCell N.toNpeT (preparedCellV T.toThrowableT (freshCell P1.m.cls N.kN) W.heap.size u0 sen) W.cur).withEntry W.cur).setSlot T.fStack.slot u0.v).left.left) (heapOnly_id.thenSetCell _ _) P1 L1 X.warmed W.heap.size hroom (fun v1 w1 hI1 => by
    obtain ⟨-, -, hfI⟩ := sx_inAt (hO1.setVm (X.warmed.alike.symm.trans w1.alike)) W.heap.size (m := P1.m) (w1.methodAt L1.method) L1.code (w1.plainAt (U := (W.pushCell (freshCell P1.m.cls N.kN)).setVm v1) L1.plain)
    have hXvm : ∀ w, (sx_in ((W.pushCell (freshCell P1.m.cls N.kN)).setVm v1) W.heap.size base P1.m).setVm w = sx_in ((W.pushCell (freshCell P1.m.cls N.kN)).setVm w) W.heap.size base P1.m := fun w => by
      unfold sx_in
      rw [State.pushFrame_setVm, State.setFrames_setVm, State.setVm_twice]
    have hXc : (sx_in ((W.pushCell (freshCell P1.m.cls N.kN)).setVm v1) W.heap.size base P1.m).heap[W.heap.size]? = some (freshCell P1.m.cls N.kN) := w6
    have hXS : (sx_in ((W.pushCell (freshCell P1.m.cls N.kN)).setVm v1) W.heap.size base P1.m).heap[T.aS]? = some cellS := w5
    have hXcur : (sx_in ((W.pushCell (freshCell P1.m.cls N.kN)).setVm v1) W.heap.size base P1.m).cur = W.cur := rfl
    have hXW : s.WarmedH (sx_in ((W.pushCell (freshCell P1.m.cls N.kN)).setVm v1) W.heap.size base P1.m).vm := w1
    have hXlim : e.platform.stackLimits (sx_in ((W.pushCell (freshCell P1.m.cls N.kN)).setVm v1) W.heap.size base P1.m).me = e.platform.stackLimits W.me := by
      unfold sx_in
      rw [State.stackLimits_pushFrame, State.stackLimits_setFrames]
      rfl
    rw [hlink1]
    suffices hs : ∃ vm2, s.WarmedH vm2 ∧ ∀ t' : State, Steps p.tables e below (((sx_in ((W.pushCell (freshCell P1.m.cls N.kN)).setVm v1) W.heap.size base P1.m).setVm vm2 |>.setCell W.heap.size (((npeCell N.toNpeT (preparedCellV T.toThrowableT (freshCell P1.m.cls N.kN) W.heap.size u0 sen) W.cur).withEntry W.cur).setSlot T.fStack.slot u0.v).left.left).setTop (pass0J P1.m W.heap.size 4 [])) t' →
        Steps p.tables e below (doInvoke e ((sx_in ((W.pushCell (freshCell P1.m.cls N.kN)).setVm v1) W.heap.size base P1.m).setTop (pass0J P1.m W.heap.size 1 [])) [] PR.m #[.ref W.heap.size]).1 t' by
      obtain ⟨vm2, q1, q2⟩ := hs
      exact ⟨vm2, q1, fun t' h' => q2 t' (by rw [hXvm]; exact h')⟩
    clear hXvm
    generalize sx_in ((W.pushCell (freshCell P1.m.cls N.kN)).setVm v1) W.heap.size base P1.m = V at hI1 hfI hXc hXS hXcur hXW hXlim ⊢
    exact Steps.initNpe0ColdByV p (V := V) (g := pass0J P1.m W.heap.size 1 []) (c := P1.code) (self := W.heap.size) hI1 hexec T L Z LZ N LN hXW hXcur (Nn := fun u => u) heapOnly_id (fun _ _ => rfl) (fun _ => rfl) (fun u x y => setCell_twice _ _ _ _) (fun _ => Nat.le_refl _) hXc (by intro k hk9; cases hk9) (by intro hk9; cases hk9) rfl hk hsel0 hXS (Nat.ne_of_lt hltS) hknownS hvU hv0 xC xS xP tkS tkX
      (cN := ((npeCell N.toNpeT (preparedCellV T.toThrowableT (freshCell P1.m.cls N.kN) W.heap.size u0 sen) W.cur).withEntry W.cur)) (fun _ hu => hu) (fun _ hu => hu) rfl rfl rfl (by simp [npeCell, preparedCellV, Cell.setSlot, Cell.withEntry]) hskip (fun _ _ hA hW _ hroom9 _ hrest => L.nativeOff p htr hA hW hroom9 hrest) hselF hvSen tkC tkP Y.objLocals [PR, PE] hLs ⟨hlinkR, hlinkE, trivial⟩ (ig := .invokespecial P1.index) (len := 3) [] hXlim
      (by rw [hfI]; simp only [List.length_cons, List.length_nil]; omega)
      (by
        rw [hfI, List.tail_cons, stackUse_java, stackUse_light _ _ (fun f hf => by cases hf) rfl]
        show (stackUse base).2 + (1 + 11 + 2 * 0 + operandWords []) + 13 * 2 + 55 ≤ _
        simp only [operandWords, List.foldl_nil]
        omega)
      L1.at1)
  have X2 := (X.pushed (freshCell P1.m.cls N.kN)).noted hW'
  have ha0 : W.heap.size < ((W.pushCell (freshCell P1.m.cls N.kN)).setVm vm').heap.size := by
    show W.heap.size < (W.pushCell (freshCell P1.m.cls N.kN)).heap.size
    rw [State.heap_size_pushCell]; omega
  have hcell : ((W.pushCell (freshCell P1.m.cls N.kN)).setVm vm').heap[W.heap.size]? = some (freshCell P1.m.cls N.kN) := w6
  have X3 := ((((X2.stored hcell T.fCause.slot (.ref W.heap.size)).storedAgain ha0 T.fStack.slot u0.v).storedAgain ha0 T.fSupp.slot sen.v).storedAgain ha0 N.fState.slot (.int 1)).storedAgain ha0 T.fStack.slot u0.v
  rw [npeBareV_eq T.toThrowableT N.toNpeT W.heap.size u0 sen W.cur rfl rfl] at st
  have start : ∀ t, Steps p.tables e below (((W.pushCell (freshCell P1.m.cls N.kN)).setVm vm' |>.setCell W.heap.size (npeBareV T.toThrowableT N.toNpeT (freshCell P1.m.cls N.kN) W.heap.size u0 sen)).setFrames (.throwing W.heap.size :: base)) t → Steps p.tables e below (W.setFrames (.throwNew "java/lang/NullPointerException" none none :: base)) t := by
    intro t ht
    obtain ⟨mid, hmid⟩ := hO.above
    have hf0 : (W.setFrames (.throwNew "java/lang/NullPointerException" none none :: base)).frames = .throwNew "java/lang/NullPointerException" none none :: base := State.frames_setFrames _ hO.cur
    refine Steps.head ⟨hO.running, by simpa using hO.runnable, by simpa using hO.alone⟩ ⟨.throwNew "java/lang/NullPointerException" none none :: mid, by rw [hf0, hmid]; rfl, by simp, by simp⟩ ?_
    rw [stepThread_throwNew hf0, stepThrowNew_plain (s := W.setFrames (.throwNew "java/lang/NullPointerException" none none :: base)) (c := P1.m.cls) (k := kX) (i := P1.m.idx) (by decide) (by decide) (by show W.vm.findClass _ = _; rw [X.warmed.alike.findClass]; exact hfound) hkX (by rw [heX]; exact hinit) (by rw [heX]; exact hordN)
      (Launch.admits_hotImplicitExceptions X.admits) hbeyond hfreeW (by rw [heX]; exact hctor) (X.cellsAbove hRcells) (by rw [show kX.instanceTypes = N.kN.instanceTypes by rw [heX], hn]; exact X.slotsAbove hRslots)]
    have hN : ((W.setFrames (.throwNew "java/lang/NullPointerException" none none :: base)).pushCell (freshCell P1.m.cls kX)).setFrames (.thenThrow ((W.setFrames (.throwNew "java/lang/NullPointerException" none none :: base)).heap.size) :: base) = (W.pushCell (freshCell P1.m.cls N.kN)).setFrames (.thenThrow W.heap.size :: base) := by
      rw [State.pushCell_setFrames, State.setFrames_setFrames, hfresh]
      rfl
    rw [hN]
    exact st t ht
  subst hbase
  have hlt : W.heap.size < ((W.pushCell (freshCell P1.m.cls N.kN)).setVm vm').heap.size := by
    show W.heap.size < (W.pushCell (freshCell P1.m.cls N.kN)).heap.size
    rw [State.heap_size_pushCell]; omega
  rw [hfsz] at X3
  simp only [List.append_assoc, List.cons_append, List.nil_append] at X3
  obtain ⟨g₁, hfrM⟩ := X3.frames_eq
  have hU : ((((W.pushCell (freshCell P1.m.cls N.kN)).setVm vm').setCell W.heap.size (npeBareV T.toThrowableT N.toNpeT (freshCell P1.m.cls N.kN) W.heap.size u0 sen)).setTop g).pushFrame (.throwing W.heap.size) = (((W.pushCell (freshCell P1.m.cls N.kN)).setVm vm').setCell W.heap.size (npeBareV T.toThrowableT N.toNpeT (freshCell P1.m.cls N.kN) W.heap.size u0 sen)).setFrames (.throwing W.heap.size :: .java g :: below) := by
    rw [State.pushFrame, State.frames_setTop _ hfrM, State.setTop_of_frames _ hfrM, State.setFrames_setFrames]
  refine ⟨_, W.heap.size, _, fun target ht => start _ (Steps.throwingLeavesNative ⟨X3.here.running, X3.here.runnable, X3.here.alone⟩ (State.cur_lt_of_frames hfrM) ⟨[.java g], rfl⟩ haw hlk (by rw [← hU]; exact ht)), X3.forget (fun y hy => ?_), heapAt_setCell_self _ hlt, hfound, rfl⟩
  simp only [List.mem_cons, List.not_mem_nil, or_false] at hy
  have hge : s.heap.size ≤ W.heap.size := X.same.2.1
  rcases hy with rfl | rfl | rfl | rfl | rfl <;> exact hge
section
variable {p : Program} {l : Launch} {e : Env} {R : Room} {s : State} {m : MethodId} {args : Array Value} {below : List Frame} {meth : Method} {c : Code} {H : Heap} {locs : List Loc} {cells slots : Nat}
theorem sx_npe {nf : NFrame} (hnf : nf.words = 0) (haw : nf.awaiting = false) (hlk : nf.locked = none) {pc : Nat} {ls : Array Slot} {rest : List Value} {Q : State → Prop} (hexec : p.tables.exec = Jvm.exec) (hl : l.stackTraces = false) {nb : Nat} {A : Nat → Prop}
    (hat : ∀ w ∈ vx_atN nb, w.before args s = true) (hgood : ∀ w ∈ vx_atN nb, vx_ot w = true)
    (hU : vx_Zq Bundle.tN "UNASSIGNED_STACK" Bundle.steD A s s.heap) (hN : vx_Zq Bundle.tN "SUPPRESSED_SENTINEL" Bundle.listD A s s.heap) (hS : va_S A s.heap H locs) (hsize : ls.size = c.maxLocals)
    (hRframes : 8 < R.frames) (hRlocals : (rest.map fun v => v.category).sum + 10240 ≤ R.locals) (hRcells : cells + 1 ≤ R.cells) (hRslots : slots + nb ≤ R.slots) (hlocks : meth.locks = false)
    (k : ∀ (H1 : Heap) (q9 : Addr) (ce : Cell), H.size ≤ H1.size → (∀ q : Nat, q < H.size → H1[q]? = H[q]?) → va_S A s.heap H1 locs → H1[q9]? = some ce → ce.vm = .none → s.vm.findClass "java/lang/NullPointerException" = some ce.cls → vx_W p l e R s m args below meth c H1 locs (cells + 1) (slots + nb) Q (F0 m pc ls rest) q9) :
    sx_Note p l e R s m args below meth c H locs cells slots Q nf (F0 m pc ls rest) "java/lang/NullPointerException" none := by
  intro T hT X
  have htr : e.platform.stackTraces = false := (show e.platform.stackTraces = l.stackTraces by rw [X.admits.platform]).trans hl
  have Y := vx_rebase X (R' := { frames := R.frames, locals := R.locals, cells := 1, slots := nb }) (Nat.le_refl _) (Nat.le_refl _) hRcells hRslots
  have hhp : ((T.setVm s.vm).setFrames (.invoking m args :: below)).heap = H := hT
  have hW0 : s.WarmedH ((T.setVm s.vm).setFrames (.invoking m args :: below)).vm := State.WarmedH.refl s
  have hat' : ∀ w ∈ vx_atN nb, w.before args ((T.setVm s.vm).setFrames (.invoking m args :: below)) = true := fun w hw => vx_ot_at hW0 rfl (hgood w hw) (hat w hw)
  have hU' : vx_Zq Bundle.tN "UNASSIGNED_STACK" Bundle.steD A ((T.setVm s.vm).setFrames (.invoking m args :: below)) ((T.setVm s.vm).setFrames (.invoking m args :: below)).heap := by rw [hhp]; exact vx_Zq.moved hW0.alike (hU.kept hS.2.1)
  have hN' : vx_Zq Bundle.tN "SUPPRESSED_SENTINEL" Bundle.listD A ((T.setVm s.vm).setFrames (.invoking m args :: below)) ((T.setVm s.vm).setFrames (.invoking m args :: below)).heap := by rw [hhp]; exact vx_Zq.moved hW0.alike (hN.kept hS.2.1)
  obtain ⟨S, q, ce, st, Z, hce, hcl', hv⟩ := sx_npeAt Y hexec htr (n := nb) (vx_own hat' (vx_isRefq hU'.1) (vx_isRefq hN'.1) hU'.2.word hN'.2.word) (fun x hx => nomatch hx)
    (g := F0 m pc ls rest) hsize hnf haw hlk hRframes (by show 2 * 0 + (rest.map fun v => v.category).sum + 10240 ≤ R.locals; omega) (by show 0 + 1 ≤ 1; omega) (by show 0 + nb ≤ nb; omega) hlocks
  obtain ⟨f1, f2⟩ := vx_frame Z.same
  have f1' : H.size ≤ S.heap.size := by rw [← hT]; exact f1
  have f2' : ∀ q : Nat, q < H.size → S.heap[q]? = H[q]? := fun q hq => by
    rw [← hT]
    exact f2 q (by rw [← hT] at hq; exact hq) (fun z hz => nomatch hz)
  have X5 := vx_back9 X Y Z
  have X6 : Stand p l e R s m args below meth c S locs (cells + 1) (slots + nb) := { X5 with same := X5.same.mono (by omega) (by omega) }
  obtain ⟨t, a1, b1⟩ := k S.heap q ce f1' f2' ⟨Nat.le_trans hS.1 f1', fun q h1 h2 => (f2' q (Nat.lt_of_lt_of_le h1 hS.1)).trans (hS.2.1 q h1 h2), hS.2.2⟩ hce hv hcl' S rfl X6
  exact ⟨t, st t a1, b1⟩
end
