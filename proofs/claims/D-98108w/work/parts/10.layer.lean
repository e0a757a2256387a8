/-! THE LAYER: an abstract world by numbered places over the kit's W, one row an instruction -/
set_option maxRecDepth 100000
abbrev zSt : Type := (Nat → Nat → Int32) × (Nat → Nat → Int64)
abbrev zCell : Type := Nat ⊕ (Nat × FieldType)
/-- addresses of the places, their shapes, the references, the class numbers -/
abbrev zGw : Type := (Nat → Nat) × (Nat → Option zCell) × (Nat → Nat → Option Nat) × va_G
abbrev TX3s : u_T := TX3
abbrev tyX3s : Nat → FieldType := tyX3
theorem tyX3s_ok : ∀ k, k < 5 → parseFieldDescriptor (TX3s k).2.2.1 = some (tyX3s k) := tyX3_ok
theorem in_X3s : ∀ w ∈ u_ws RX3 TX3s 5, w ∈ lw_all := in_X3
theorem nmX3s_0 : ∀ b, b < 5 → b ≠ 0 → (TX3s 0).2.1 ≠ (TX3s b).2.1 := by decide +kernel
theorem nmX3s_2 : ∀ b, b < 5 → b ≠ 2 → (TX3s 2).2.1 ≠ (TX3s b).2.1 := by decide +kernel
theorem nmX3s_3 : ∀ b, b < 5 → b ≠ 3 → (TX3s 3).2.1 ≠ (TX3s b).2.1 := by decide +kernel
theorem zapart {s : State} {args : Array Value} {C : String} {T : u_T} {N ci : Nat} {Ts : List Cond} {D : va_G} {cl : List vw_C} {tys : List (ClassId × FieldType)} (hts : ∀ w ∈ Ts, w.before args s = true) (hin : ∀ w ∈ u_ws C T N, w ∈ Ts) (ty : Nat → FieldType) (hty : ∀ k, k < N → parseFieldDescriptor (T k).2.2.1 = some (ty k)) {j : Nat} (hj : j < N) (hnm : ∀ b, b < N → b ≠ j → (T j).2.1 ≠ (T b).2.1) (hK : va_K D cl tys s) (hc : cl[ci]? = some (C, T, N)) : ∀ y, y < N → y ≠ j → (D.2 ci) j ≠ (D.2 ci) y := by
  intro y hy hne
  obtain ⟨hS, -⟩ := hK.1 ci _ hc
  obtain ⟨_, _, _, fa, hia, ea⟩ := hS j hj
  obtain ⟨_, _, _, fb, hib, eb⟩ := hS y hy
  rw [← ea, ← eb]
  refine u_apart (u_lays hts hin hj) (u_lays hts hin hy) hia hib ?_
  rw [(State.fieldFound?_type hia (hty j hj)).1, (State.fieldFound?_type hib (hty y hy)).1]
  exact hnm y hy hne
theorem zt_set {cell : Cell} {N : Nat} {iS : Nat → Nat} {V : Nat → Value} {k : Nat} (h : ∀ k, k < N → cell.slots[iS k]? = some (V k)) (hap : ∀ b, b < N → b ≠ k → iS k ≠ iS b) (hk : k < N) (v : Value) :
    ∀ j, j < N → (cell.setSlot (iS k) v).slots[iS j]? = some (updV V k v j) := by
  intro j hj
  by_cases hjk : j = k
  · subst hjk
    rw [Cell.slots_setSlot_self _ (k2_hasslot (h j hj))]
    simp [updV]
  · rw [slot_ne _ _ (hap j hj hjk), h j hj]
    simp [updV, hjk]
/-- the own classes -/
def zcl : List vw_C := [(RX0, TX0, 39), (RX1, TX1, 11), (RX2, TX2, 2), (RX3, TX3s, 5), (RX4, TX4, 1), (RX5, TX5, 58), (RX6, TX6, 7), (RX7, TX7, 8)]
def zft : Nat → Nat → FieldType := fun c => match c with
  | 0 => tyX0
  | 1 => tyX1
  | 2 => tyX2
  | 3 => tyX3s
  | 4 => tyX4
  | 5 => tyX5
  | 6 => tyX6
  | _ => tyX7
def zval (ty : FieldType) (ad : Nat → Nat) (r : Option Nat) (i : Int32) (l : Int64) : Value := match ty with
  | .long => .long l
  | .object _ => va_rf (r.map ad)
  | .array _ => va_rf (r.map ad)
  | _ => .int i
def zcellIs (G : zGw) (S : zSt) (s : State) (H : Heap) (k : Nat) : Prop := match G.2.1 k with
  | none => True
  | some (.inl ci) => ∃ r : vw_C, zcl[ci]? = some r ∧ t_OB (G.1 k) (G.2.2.2.1 ci) r.2.2 (G.2.2.2.2 ci) H (fun j => zval (zft ci j) G.1 (G.2.2.1 k j) (S.1 k j) (S.2 k j))
  | some (.inr a) => ∃ cA : ClassId, H[G.1 k]? = some (arrV cA a.1 (fun j => zval a.2 G.1 (G.2.2.1 k j) (S.1 k j) (S.2 k j))) ∧ ArrOfT s cA a.2 ∧ va_RA s cA a.2
def zhp (G : zGw) (S : zSt) (s : State) (H : Heap) : Prop := ∀ k, zcellIs G S s H k
def zap (G : zGw) : Prop := ∀ i j, G.2.1 i ≠ none → G.2.1 j ≠ none → G.1 i = G.1 j → i = j
def zkn (G : zGw) (s : State) : Prop := ∀ (c : Nat) (q : vw_C), zcl[c]? = some q → u_Kn s q.1 q.2.1 q.2.2 (G.2.2.2.1 c) (G.2.2.2.2 c)
def zA (G : zGw) (sz : Nat) : Nat → Prop := fun q => (∃ k, G.2.1 k ≠ none ∧ G.1 k = q) ∨ sz ≤ q
/-- words of nest mates -/
def znF : List (String × Nat × String × String × String × String) := [
  ("HiddenCube", 158, "HiddenCube$Town", "names", "I", "HiddenCube"), ("HiddenCube", 147, "HiddenCube$Town", "lines", "I", "HiddenCube"), ("HiddenCube", 178, "HiddenCube$Town", "letters", "[B", "HiddenCube"), ("HiddenCube", 175, "HiddenCube$Town", "lengths", "[I", "HiddenCube"),
  ("HiddenCube", 425, "HiddenCube$Town", "people", "[I", "HiddenCube"), ("HiddenCube", 456, "HiddenCube$Town", "from", "[I", "HiddenCube"), ("HiddenCube", 440, "HiddenCube$Town", "to", "[I", "HiddenCube"), ("HiddenCube", 192, "HiddenCube$Town", "shut", "[I", "HiddenCube"),
  ("HiddenCube", 419, "HiddenCube$Town", "persons", "I", "HiddenCube"), ("HiddenCube", 453, "HiddenCube$Town", "carriers", "I", "HiddenCube"), ("HiddenCube", 368, "HiddenCube$Town", "wardens", "I", "HiddenCube"),
  ("HiddenCube", 289, "HiddenCube$Without", "square", "I", "HiddenCube"), ("HiddenCube", 292, "HiddenCube$Without", "name", "I", "HiddenCube"), ("HiddenCube", 499, "HiddenCube$Slot", "row", "Ljava/lang/Object;", "HiddenCube"),
  ("HiddenCube", 152, "HiddenCube$Fault", "kind", "I", "HiddenCube"), ("HiddenCube", 155, "HiddenCube$Fault", "place", "I", "HiddenCube"),
  ("HiddenCube$Walk", 33, "HiddenCube$Town", "names", "I", "HiddenCube"), ("HiddenCube$Walk", 19, "HiddenCube", "town", "LHiddenCube$Town;", "HiddenCube"),
  ("HiddenCube$Reader", 113, "HiddenCube$Town", "names", "I", "HiddenCube"), ("HiddenCube$Reader", 188, "HiddenCube$Town", "lines", "I", "HiddenCube"), ("HiddenCube$Reader", 120, "HiddenCube$Town", "letters", "[B", "HiddenCube"), ("HiddenCube$Reader", 116, "HiddenCube$Town", "lengths", "[I", "HiddenCube"),
  ("HiddenCube$Reader", 175, "HiddenCube$Town", "people", "[I", "HiddenCube"), ("HiddenCube$Reader", 153, "HiddenCube$Town", "from", "[I", "HiddenCube"), ("HiddenCube$Reader", 148, "HiddenCube$Town", "to", "[I", "HiddenCube"), ("HiddenCube$Reader", 169, "HiddenCube$Town", "persons", "I", "HiddenCube"),
  ("HiddenCube$Reader", 150, "HiddenCube$Town", "carriers", "I", "HiddenCube"), ("HiddenCube$Reader", 156, "HiddenCube$Town", "wardens", "I", "HiddenCube"), ("HiddenCube$Reader", 44, "HiddenCube", "tape", "[B", "HiddenCube"), ("HiddenCube$Reader", 15, "HiddenCube", "taped", "I", "HiddenCube")]
def znM : List (String × Nat × MethodName × String) := [
  ("HiddenCube", 9, ⟨"HiddenCube$Town", "<init>", "()V"⟩, "HiddenCube"), ("HiddenCube", 26, ⟨"HiddenCube$Walk", "<init>", "(LHiddenCube;)V"⟩, "HiddenCube"), ("HiddenCube", 35, ⟨"HiddenCube$Without", "<init>", "(LHiddenCube;)V"⟩, "HiddenCube"), ("HiddenCube", 117, ⟨"HiddenCube$Slot", "<init>", "()V"⟩, "HiddenCube"),
  ("HiddenCube$Town", 35, ⟨"HiddenCube", "has", "(II)Z"⟩, "HiddenCube"), ("HiddenCube$Without", 7, ⟨"HiddenCube$Walk", "<init>", "(LHiddenCube;)V"⟩, "HiddenCube"), ("HiddenCube$Reader", 24, ⟨"HiddenCube$Town", "<init>", "()V"⟩, "HiddenCube"),
  ("HiddenCube$Reader", 48, ⟨"HiddenCube", "isIn", "(JJJ)Z"⟩, "HiddenCube"), ("HiddenCube$Reader", 159, ⟨"HiddenCube", "has", "(II)Z"⟩, "HiddenCube")]
/-- classes not castable, castable -/
def znC : List (String × String) := [("[S", "[B"), ("[I", "[B"), ("[I", "[S"), ("[J", "[B"), ("[J", "[S"), ("[J", "[I"), ("java/lang/ArrayIndexOutOfBoundsException", "java/lang/NullPointerException"), ("java/lang/ArrayStoreException", "java/lang/NullPointerException"), ("java/lang/ArrayIndexOutOfBoundsException", "java/lang/ArrayStoreException")]
def znY : List (String × String) := [("java/lang/NegativeArraySizeException", "java/lang/NegativeArraySizeException"), ("java/lang/ArrayIndexOutOfBoundsException", "java/lang/ArrayIndexOutOfBoundsException"), ("java/lang/ArrayIndexOutOfBoundsException", "java/lang/IndexOutOfBoundsException"), ("java/lang/ArrayStoreException", "java/lang/ArrayStoreException"), ("java/lang/NullPointerException", "java/lang/NullPointerException"), ("HiddenCube$Fault", "HiddenCube$Fault"), ("java/lang/RuntimeException", "java/lang/Throwable")]
def znD : List MethodName := [⟨"java/lang/Exception", "<init>", "()V"⟩, ⟨"java/lang/Exception", "<init>", "(Ljava/lang/String;)V"⟩, ⟨"java/lang/Throwable", "<init>", "()V"⟩, ⟨"java/lang/Throwable", "<init>", "(Ljava/lang/String;)V"⟩, ⟨"java/lang/Throwable", "fillInStackTrace", "()Ljava/lang/Throwable;"⟩, ⟨"java/lang/RuntimeException", "<init>", "()V"⟩, ⟨"java/lang/RuntimeException", "<init>", "(Ljava/lang/String;)V"⟩, ⟨"java/lang/IndexOutOfBoundsException", "<init>", "()V"⟩, ⟨"java/lang/IndexOutOfBoundsException", "<init>", "(Ljava/lang/String;)V"⟩]
def zNW (U : State) : Prop := (∀ q ∈ znF, va_Nw (.fieldLinkNest q.1 q.2.1 q.2.2.1 q.2.2.2.1 q.2.2.2.2.1 q.2.2.2.2.2) U) ∧ (∀ q ∈ znM, va_Nw (.methodLinkNest q.1 q.2.1 q.2.2.1 q.2.2.2) U) ∧ (∀ q ∈ znC, va_Nc q.1 q.2 U) ∧ (∀ q ∈ znY, va_Nw (.castable q.1 q.2) U) ∧ va_AO "HiddenCube$Slot" U ∧ va_AO "HiddenCube$Town" U ∧ (∀ q ∈ znD, va_Nw (.declares q) U)
theorem zNW_warm {s U : State} (hW : s.WarmedH U.vm) (h : zNW s) : zNW U := ⟨fun q hq => va_Nw.warmF hW (h.1 q hq), fun q hq => va_Nw.warmM hW (h.2.1 q hq), fun q hq => va_Nc.moved hW.alike (h.2.2.1 q hq), fun q hq => va_Nw.warmC hW (h.2.2.2.1 q hq), va_AO.moved hW.alike h.2.2.2.2.1, va_AO.moved hW.alike h.2.2.2.2.2.1, fun q hq => va_Nw.warmD hW (h.2.2.2.2.2.2 q hq)⟩
theorem zNW_same {u U : State} (hv : u.vm = U.vm) (h : zNW u) : zNW U := ⟨fun q hq => va_Nw.same rfl hv (h.1 q hq), fun q hq => va_Nw.same rfl hv (h.2.1 q hq), fun q hq => va_Nc.moved (by rw [hv]; exact Vm.Alike.refl _) (h.2.2.1 q hq), fun q hq => va_Nw.same rfl hv (h.2.2.2.1 q hq), va_AO.moved (by rw [hv]; exact Vm.Alike.refl _) h.2.2.2.2.1, va_AO.moved (by rw [hv]; exact Vm.Alike.refl _) h.2.2.2.2.2.1, fun q hq => va_Nw.same rfl hv (h.2.2.2.2.2.2 q hq)⟩
/-- what stands in the heap outside -/
def zEnv (A : Nat → Prop) (U : State) (H : Heap) : Prop := vx_Zq Bundle.tN "UNASSIGNED_STACK" Bundle.steD A U H ∧ vx_Zq Bundle.tN "SUPPRESSED_SENTINEL" Bundle.listD A U H
theorem zEnv_moved {A : Nat → Prop} {u U : State} {H : Heap} (hvm : u.vm.Alike U.vm) (h : zEnv A u H) : zEnv A U H := ⟨vx_Zq.moved hvm h.1, vx_Zq.moved hvm h.2⟩
theorem zEnv_kept {A : Nat → Prop} {U : State} {H H1 : Heap} (h : zEnv A U H) (hq : ∀ a : Nat, a < H.size → ¬ A a → H1[a]? = H[a]?) : zEnv A U H1 := ⟨vx_Zq.kept h.1 hq, vx_Zq.kept h.2 hq⟩
theorem zEnv_narrow {A B : Nat → Prop} {U : State} {H : Heap} (h : zEnv A U H) (hAB : ∀ q, B q → A q) : zEnv B U H := ⟨vx_Zq.narrow h.1 hAB, vx_Zq.narrow h.2 hAB⟩
/-- own class, code, locals, answer, depth, cells and slots that it may make, handlers -/
abbrev zMr : Type := String × ByteArray × Nat × Option FieldType × Nat × Nat × Nat × Option (List (Nat × Nat × Nat × Nat))
def zhh (M : zMr) : List (Nat × Nat × Nat × Nat) := match M.2.2.2.2.2.2.2 with
  | none => []
  | some hh => hh
def zcw (M : zMr) (y : MethodName) : Cond := match M.2.2.2.2.2.2.2 with
  | none => Cond.code y M.2.1 M.2.2.1 M.2.2.2.1
  | some hh => Cond.codeWith y M.2.1 M.2.2.1 M.2.2.2.1 hh
abbrev zCx : Type := Program × Launch × Env × Room × State × MethodId × Array Value × List Frame × Method × Code
def zrm (d mc ms : Nat) : Room := { frames := d, cells := mc, slots := ms, locals := 64 * d }
abbrev zRm (M : zMr) : Room := zrm M.2.2.2.2.1 M.2.2.2.2.2.1 M.2.2.2.2.2.2.1
def zlv (la : Array Slot) (nL : Nat) (ls : List (Option Value)) : Prop := la.size = nL ∧ lv_wf la ∧ ∀ (i : Nat) (v : Value), ls[i]? = some (some v) → la[i]? = some (.val v)
def zQR {ρ : Type} (inj : ρ → Option Value) (G : zGw) (res : ρ × zSt) (A : Nat → Prop) : Array Value → State → Outcome → State → Prop := fun _ st oc t => oc = .returned (inj res.1) ∧ zhp G res.2 t t.heap ∧ va_F A st t
def zok (M : zMr) (G : zGw) (X : zCx) : Prop := X.1.tables.exec = Jvm.exec ∧ X.2.2.2.2.2.2.2.2.2.code = M.2.1 ∧ X.2.2.2.2.2.2.2.2.2.maxLocals = M.2.2.1 ∧ X.2.2.2.2.1.vm.findClass M.1 = some X.2.2.2.2.2.1.cls ∧ (∀ w ∈ lw_all, w.before X.2.2.2.2.2.2.1 X.2.2.2.2.1 = true) ∧ (zNW X.2.2.2.2.1 ∧ zEnv (zA G X.2.2.2.2.1.heap.size) X.2.2.2.2.1 X.2.2.2.2.1.heap ∧ X.2.1.stackTraces = false ∧ X.2.2.2.2.2.2.2.2.2.exceptionTable.toList = tableOf (zhh M)) ∧ X.2.2.2.2.2.2.2.2.1.locks = false ∧ X.2.2.2.2.2.2.2.2.1.sig.returnType = M.2.2.2.1 ∧ zkn G X.2.2.2.2.1 ∧ zap G ∧ X.2.2.2.1 = zRm M
def Zm {ρ : Type} (X : zCx) (M : zMr) (inj : ρ → Option Value) (G : zGw) (cs : Nat × Nat) (res : ρ × zSt) (S : zSt) (pc : Nat) (ls : List (Option Value)) (st : List Value) (f : Option (ρ × zSt)) : Prop :=
  f = some res → zok M G X → ∀ (H : Heap) (locs : List Loc) (la : Array Slot), zhp G S X.2.2.2.2.1 H → zlv la M.2.2.1 ls → va_S (zA G X.2.2.2.2.1.heap.size) X.2.2.2.2.1.heap H locs →
    W X.1 X.2.1 X.2.2.1 X.2.2.2.1 X.2.2.2.2.1 X.2.2.2.2.2.1 X.2.2.2.2.2.2.1 X.2.2.2.2.2.2.2.1 X.2.2.2.2.2.2.2.2.1 X.2.2.2.2.2.2.2.2.2 H locs cs.1 cs.2 (MQ X.2.2.2.2.2.2.2.1 (zQR inj G res (zA G X.2.2.2.2.1.heap.size)) X.2.2.2.2.2.2.1 X.2.2.2.2.1 M.2.2.2.2.2.1 M.2.2.2.2.2.2.1 (zA G X.2.2.2.2.1.heap.size)) (F0 X.2.2.2.2.2.1 pc la st)
/-- a contract: every result of the pure function is the machine's -/
def Zc {ρ : Type} (M : zMr) (y : MethodName) (inj : ρ → Option Value) (G : zGw) (As : List Value) (F : zSt → Option (ρ × zSt)) : Prop :=
  ∀ (l : Launch) (S : zSt) (res : ρ × zSt) (sz : Nat), l.stackTraces = false → F S = some res → Met l y (zcw M y :: lw_all) (zRm M) (va_Pc As (fun U => U.heap.size = sz ∧ zhp G S U U.heap ∧ zkn G U ∧ zNW U ∧ zap G ∧ zEnv (zA G sz) U U.heap)) (zQR inj G res (zA G sz)) M.2.2.2.2.2.1 M.2.2.2.2.2.2.1 (zA G sz)
def zJI : Int32 → Option Value := fun v => some (.int v)
def zJL : Int64 → Option Value := fun v => some (.long v)
def zJV : Unit → Option Value := fun _ => none
/-! pure words -/
def loopC {α ρ : Type} (body : (α → Option ρ) → α → Option ρ) : Nat → α → Option ρ
  | 0, _ => none
  | n + 1, a => body (loopC body n) a
def zfuel : Nat := 1000000
def joinC {α ρ : Type} (k : α → ρ) (e : (α → ρ) → ρ) : ρ := e k
def chk {ρ : Type} (i : Int32) (n : Nat) (f : Option ρ) : Option ρ := if i < 0 ∨ n ≤ i.toNatClampNeg then none else f
def nz {ρ : Type} (y : Int32) (f : Option ρ) : Option ρ := if y = 0 then none else f
def nzL {ρ : Type} (y : Int64) (f : Option ρ) : Option ρ := if y = 0 then none else f
def sI (S : zSt) (k j : Nat) (x : Int32) : zSt := (fun a b => if a = k then (if b = j then x else S.1 a b) else S.1 a b, S.2)
def sL (S : zSt) (k j : Nat) (x : Int64) : zSt := (S.1, fun a b => if a = k then (if b = j then x else S.2 a b) else S.2 a b)
def l0 (n : Nat) (l : List (Nat × Value)) : List (Option Value) := (List.range n).map (fun i => l.lookup i)
def stk0 (ls : List (Option Value)) : Nat → List (Option Value)
  | 0 => ls
  | j + 1 => match ls[j]? with
    | some (some w) => if w.category = 2 then ls.set j none else ls
    | _ => ls
def stl (ls : List (Option Value)) (i : Nat) (v : Value) : List (Option Value) := if v.category = 2 then ((stk0 ls i).set i (some v)).set (i + 1) none else (stk0 ls i).set i (some v)
