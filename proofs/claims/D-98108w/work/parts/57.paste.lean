/-! HIDDENCUBE.paste (written by gen/mkpaste.py) -/
set_option maxRecDepth 100000
theorem ac_ase {t1 t2 : FieldType} (h1 : t1 = .byte ∨ t1 = .short ∨ t1 = .int ∨ t1 = .long) (h2 : t2 = .byte ∨ t2 = .short ∨ t2 = .int ∨ t2 = .long) : ((toString "arraycopy: type mismatch: can not copy " ++ toString (Native.java_lang_System.arraycopy.kindName t1) ++ toString "[] into " ++ toString (Native.java_lang_System.arraycopy.kindName t2) ++ toString "[]" : String) == notModelled) = false ∧ (stringBytes (stringToUtf16 (toString "arraycopy: type mismatch: can not copy " ++ toString (Native.java_lang_System.arraycopy.kindName t1) ++ toString "[] into " ++ toString (Native.java_lang_System.arraycopy.kindName t2) ++ toString "[]" : String))).size ≤ 400 := by
  rcases h1 with rfl | rfl | rfl | rfl <;> rcases h2 with rfl | rfl | rfl | rfl <;> exact ⟨by decide +kernel, by decide +kernel⟩
theorem ac_mod (w : String) : (("arraycopy: " ++ w) == notModelled) = false := by
  rw [beq_eq_false_iff_ne]
  intro h
  have h2 := congrArg String.toList h
  rw [String.toList_append] at h2
  have h4 : notModelled.toList = '\u0000' :: " a message that is not modelled".toList := by decide
  have h5 : "arraycopy: ".toList = 'a' :: "rraycopy: ".toList := by decide
  rw [h4, h5] at h2
  simp at h2
theorem slen_int {z : Int} (h1 : -(10 ^ 10) < z) (h2 : z < 10 ^ 10) : (toString z).toList.length ≤ 11 := by
  show (Int.repr z).toList.length ≤ 11
  cases h : z with
  | ofNat m =>
    rw [h] at h2
    have h2' : (m : Int) < 10 ^ 10 := h2
    have := nat_print (n := m) (by omega)
    show (toString m).toList.length ≤ 11
    omega
  | negSucc m =>
    rw [h] at h1
    have h1' : -(10 : Int) ^ 10 < -((m : Int) + 1) := by simpa [Int.negSucc_eq] using h1
    have := nat_print (n := m.succ) (by omega)
    show ("-" ++ toString m.succ).toList.length ≤ 11
    rw [String.toList_append, List.length_append]
    have h0 : "-".toList.length = 1 := by decide
    omega
theorem ac_bytes {w : String} (h : w.toList.length ≤ 89) : (stringBytes (stringToUtf16 ("arraycopy: " ++ w))).size ≤ 400 := by
  have b1 := stringBytes_size_le (stringToUtf16 ("arraycopy: " ++ w))
  have b2 := utf16_size_le ("arraycopy: " ++ w)
  have b3 : ("arraycopy: " ++ w).toList.length = 11 + w.toList.length := by
    rw [String.toList_append, List.length_append]
    rfl
  omega
theorem ac_kind (t : FieldType) : (Native.java_lang_System.arraycopy.kindName t).toList.length ≤ 12 := by
  cases t <;> first | decide | (show ("object array" : String).toList.length ≤ 12; decide)
theorem ac_int (x : Int32) : -(2 ^ 31 : Int) ≤ x.toInt ∧ x.toInt < 2 ^ 31 := ⟨Int32.le_toInt x, Int32.toInt_lt x⟩
theorem ac_nn {z : Int32} (hz : ¬ z < 0) : z.toInt = (z.toNatClampNeg : Int) := by
  have hz0 : (0 : Int) ≤ z.toInt := by
    have := Int32.not_lt.mp hz
    simpa using Int32.le_iff_toInt_le.mp this
  show z.toInt = ((z.toInt.toNat : Nat) : Int)
  omega
/-- out of bounds: there is a message, and it is not long -/
theorem ac_out {t1 t2 : FieldType} {n1 n2 : Nat} {sp dp n : Int32} (g1 : n1 ≤ 60) (g2 : n2 ≤ 60) (h : sp < 0 ∨ dp < 0 ∨ n < 0 ∨ n1 < sp.toNatClampNeg + n.toNatClampNeg ∨ n2 < dp.toNatClampNeg + n.toNatClampNeg) : ∃ w, copyFault t1 t2 n1 n2 sp dp n = some w ∧ w.toList.length ≤ 89 := by
  have k1 := ac_kind t1
  have k2 := ac_kind t2
  have p1 := nat_print (n := n1) (by omega)
  have p2 := nat_print (n := n2) (by omega)
  have i1 := int32_print sp
  have i2 := int32_print dp
  have i3 := int32_print n
  have r1 := ac_int sp
  have r2 := ac_int dp
  have r3 := ac_int n
  have s1 := slen_int (z := sp.toInt + n.toInt) (by omega) (by omega)
  have s2 := slen_int (z := dp.toInt + n.toInt) (by omega) (by omega)
  have e1 : (toString "source index ").toList.length = 13 := by decide
  have e2 : (toString " out of bounds for ").toList.length = 19 := by decide
  have e3 : (toString "destination index ").toList.length = 18 := by decide
  have e4 : (toString "length ").toList.length = 7 := by decide
  have e5 : (toString " is negative").toList.length = 12 := by decide
  have e6 : (toString "last source index ").toList.length = 18 := by decide
  have e7 : (toString "last destination index ").toList.length = 23 := by decide
  have e8 : (toString "[").toList.length = 1 := by decide
  have e9 : (toString "]").toList.length = 1 := by decide
  have arr1 : (toString (toString (toString (Native.java_lang_System.arraycopy.kindName t1)) ++ toString "[" ++ toString n1 ++ toString "]" : String)).toList.length ≤ 24 := by
    show (Native.java_lang_System.arraycopy.kindName t1 ++ toString "[" ++ toString n1 ++ toString "]").toList.length ≤ 24
    simp only [String.toList_append, List.length_append]
    omega
  have arr2 : (toString (toString (toString (Native.java_lang_System.arraycopy.kindName t2)) ++ toString "[" ++ toString n2 ++ toString "]" : String)).toList.length ≤ 24 := by
    show (Native.java_lang_System.arraycopy.kindName t2 ++ toString "[" ++ toString n2 ++ toString "]").toList.length ≤ 24
    simp only [String.toList_append, List.length_append]
    omega
  unfold copyFault
  by_cases c1 : sp < 0
  · rw [if_pos c1]
    refine ⟨_, rfl, ?_⟩
    show (toString "source index " ++ toString sp ++ toString " out of bounds for " ++ (toString (Native.java_lang_System.arraycopy.kindName t1) ++ toString "[" ++ toString n1 ++ toString "]")).toList.length ≤ 89
    rw [String.toList_append, List.length_append, String.toList_append, List.length_append, String.toList_append, List.length_append]
    have : (toString (Native.java_lang_System.arraycopy.kindName t1) ++ toString "[" ++ toString n1 ++ toString "]").toList.length ≤ 24 := arr1
    omega
  rw [if_neg c1]
  by_cases c2 : dp < 0
  · rw [if_pos c2]
    refine ⟨_, rfl, ?_⟩
    show (toString "destination index " ++ toString dp ++ toString " out of bounds for " ++ (toString (Native.java_lang_System.arraycopy.kindName t2) ++ toString "[" ++ toString n2 ++ toString "]")).toList.length ≤ 89
    rw [String.toList_append, List.length_append, String.toList_append, List.length_append, String.toList_append, List.length_append]
    have : (toString (Native.java_lang_System.arraycopy.kindName t2) ++ toString "[" ++ toString n2 ++ toString "]").toList.length ≤ 24 := arr2
    omega
  rw [if_neg c2]
  by_cases c3 : n < 0
  · rw [if_pos c3]
    refine ⟨_, rfl, ?_⟩
    show (toString "length " ++ toString n ++ toString " is negative").toList.length ≤ 89
    rw [String.toList_append, List.length_append, String.toList_append, List.length_append]
    omega
  rw [if_neg c3]
  have q1 := ac_nn c1
  have q2 := ac_nn c2
  have q3 := ac_nn c3
  by_cases c4 : sp.toInt + n.toInt > n1
  · rw [if_pos c4]
    refine ⟨_, rfl, ?_⟩
    show (toString "last source index " ++ toString (sp.toInt + n.toInt) ++ toString " out of bounds for " ++ (toString (Native.java_lang_System.arraycopy.kindName t1) ++ toString "[" ++ toString n1 ++ toString "]")).toList.length ≤ 89
    rw [String.toList_append, List.length_append, String.toList_append, List.length_append, String.toList_append, List.length_append]
    have : (toString (Native.java_lang_System.arraycopy.kindName t1) ++ toString "[" ++ toString n1 ++ toString "]").toList.length ≤ 24 := arr1
    omega
  rw [if_neg c4]
  by_cases c5 : dp.toInt + n.toInt > n2
  · rw [if_pos c5]
    refine ⟨_, rfl, ?_⟩
    show (toString "last destination index " ++ toString (dp.toInt + n.toInt) ++ toString " out of bounds for " ++ (toString (Native.java_lang_System.arraycopy.kindName t2) ++ toString "[" ++ toString n2 ++ toString "]")).toList.length ≤ 89
    rw [String.toList_append, List.length_append, String.toList_append, List.length_append, String.toList_append, List.length_append]
    have : (toString (Native.java_lang_System.arraycopy.kindName t2) ++ toString "[" ++ toString n2 ++ toString "]").toList.length ≤ 24 := arr2
    omega
  exfalso
  rcases h with h | h | h | h | h
  · exact c1 h
  · exact c2 h
  · exact c3 h
  · omega
  · omega
theorem z_acN {ρ : Type} {X : zCx} {M : zMr} {inj : ρ → Option Value} {G : zGw} {cs : Nat × Nat} {res : ρ × zSt} {S : zSt} {pc : Nat} {ls : List (Option Value)} {st : List Value} {f : Option (ρ × zSt)} {idx : Nat} {sp dp n : Int32} {vs vd : Value} (hn9 : (vs = .null ∧ vd.isRef = true) ∨ ((∃ a, vs = .ref a) ∧ vd = .null)) (cs' : Nat × Nat) (hl : Cond.methodLink M.1 idx arraycopyName ∈ lw_all) (hd : 170 ≤ M.2.2.2.2.1) (hcat : (st.map fun v => v.category).sum ≤ 8) (hcs : (cs.1 + 1, cs.2 + 8) = cs') (hq : zcs cs' M = true) (d : decode M.2.1 pc = .ok (.invokestatic idx, 3))
    (name : String) (pre : List ExceptionTableEntry) (x : ExceptionTableEntry) (suf : List ExceptionTableEntry) (hsp : tableOf (zhh M) = pre ++ x :: suf) (hpass : ∀ z ∈ pre, covers z pc = false ∨ (z.catchType ≠ 0 ∧ ∃ nm : String, Cond.classLink M.1 z.catchType nm ∈ lw_all ∧ ("java/lang/NullPointerException", nm) ∈ znC)) (hx : covers x pc = true) (h0 : x.catchType ≠ 0) (hlink : Cond.classLink M.1 x.catchType name ∈ lw_all) (hcast : ("java/lang/NullPointerException", name) ∈ znY)
    (kk : ∀ q : Nat, Zm X M inj G cs' res S x.handlerPc ls [.ref q] f) : Zm X M inj G cs res S pc ls (.int n :: .int dp :: vd :: .int sp :: vs :: st) f := by
  subst hcs
  intro hf ho H locs la hp hl1 hS
  have hts := ho.2.2.2.2.1
  have hR : X.2.2.2.1 = zRm M := ho.2.2.2.2.2.2.2.2.2.2
  have hw : nativeFrameWords "java/lang/System" "arraycopy" 5 ≤ 60 := by decide +kernel
  have hP : ∀ z ∈ pre, covers z pc = false ∨ (z.catchType ≠ 0 ∧ ∃ nm : String, (Cond.classLink M.1 z.catchType nm).before X.2.2.2.2.2.2.1 X.2.2.2.2.1 = true ∧ va_Nc "java/lang/NullPointerException" nm X.2.2.2.2.1) := fun z hz9 => by
    rcases hpass z hz9 with h | ⟨h1, nm, h2, h3⟩
    · exact Or.inl h
    · exact Or.inr ⟨h1, nm, hts _ h2, ho.2.2.2.2.2.1.1.2.2.1 _ h3⟩
  have hvs : vs.isRef = true := by rcases hn9 with ⟨rfl, -⟩ | ⟨⟨a, rfl⟩, -⟩ <;> rfl
  have hvd : vd.isRef = true := by rcases hn9 with ⟨-, h⟩ | ⟨-, rfl⟩; exact h; rfl
  refine w_acopyX (E := "java/lang/NullPointerException") (msg := none) ho.1 ho.2.1 (by rw [ho.2.2.1]; exact hl1.1.symm) ho.2.2.2.1 (hts _ hl) (hts _ q962) (hts _ q961) (hts _ q168) hvs hvd (fun U fs hU hal E' hE => ?_) (by rw [hR]; show 1 ≤ M.2.2.2.2.1; omega) (by rw [hR]; show _ ≤ 64 * M.2.2.2.2.1; omega) d (fun nf n1 n2 n3 => ?_)
  · rcases hn9 with ⟨rfl, -⟩ | ⟨⟨a, rfl⟩, rfl⟩
    · exact Jvm.W.arraycopy_null1 _ _ _ _ (hE _)
    · exact Jvm.W.arraycopy_null2 _ _ _ _ (hE _)
  refine sx_npe n1 n2 n3 (nb := 8) (A := zA G X.2.2.2.2.1.heap.size) ho.1 ho.2.2.2.2.2.1.2.2.1 (zw_npe hts ho.2.2.2.2.2.1.1) zg_npe ho.2.2.2.2.2.1.2.1.1 ho.2.2.2.2.2.1.2.1.2 hS (hl1.1.trans ho.2.2.1.symm) ?_ ?_ ?_ ?_ ho.2.2.2.2.2.2.1 (fun H1 q9 ce h1 h2 h3 h4 h5 h6 => vx_catch (own := M.1) (name := name) ho.2.2.2.1 pre x suf (ho.2.2.2.2.2.1.2.2.2.trans hsp) hP hx h0 (hts _ hlink) ((ho.2.2.2.2.2.1.1.2.2.2.1 _ hcast).use rfl) h4 h5 h6 (kk q9 hf ho H1 locs la (zhp_grow h2 hp) hl1 h3))
  · rw [hR]; show 8 < M.2.2.2.2.1; omega
  · rw [hR]; show _ ≤ 64 * M.2.2.2.2.1; omega
  · rw [hR]; exact zcs1 hq
  · rw [hR]; exact zcs2 hq
theorem z_acS {ρ : Type} {X : zCx} {M : zMr} {inj : ρ → Option Value} {G : zGw} {cs : Nat × Nat} {res : ρ × zSt} {S : zSt} {pc : Nat} {ls : List (Option Value)} {st : List Value} {f : Option (ρ × zSt)} {idx : Nat} {sp dp n : Int32} (ka kb n0 m0 : Nat) (t0 t1 : FieldType) (ha : G.2.1 ka = some (.inr (n0, t0))) (hb : G.2.1 kb = some (.inr (m0, t1))) (g0 : t0 = .byte ∨ t0 = .short ∨ t0 = .int ∨ t0 = .long) (g1 : t1 = .byte ∨ t1 = .short ∨ t1 = .int ∨ t1 = .long) (hne : t0 ≠ t1) (cs' : Nat × Nat) (hl : Cond.methodLink M.1 idx arraycopyName ∈ lw_all) (hd : 170 ≤ M.2.2.2.2.1) (hcat : (st.map fun v => v.category).sum ≤ 8) (hcs : (cs.1 + 3, cs.2 + 410) = cs') (hq : zcs cs' M = true) (d : decode M.2.1 pc = .ok (.invokestatic idx, 3))
    (name : String) (pre : List ExceptionTableEntry) (x : ExceptionTableEntry) (suf : List ExceptionTableEntry) (hsp : tableOf (zhh M) = pre ++ x :: suf) (hpass : ∀ z ∈ pre, covers z pc = false ∨ (z.catchType ≠ 0 ∧ ∃ nm : String, Cond.classLink M.1 z.catchType nm ∈ lw_all ∧ ("java/lang/ArrayStoreException", nm) ∈ znC)) (hx : covers x pc = true) (h0 : x.catchType ≠ 0) (hlink : Cond.classLink M.1 x.catchType name ∈ lw_all) (hcast : ("java/lang/ArrayStoreException", name) ∈ znY)
    (kk : ∀ q : Nat, Zm X M inj G cs' res S x.handlerPc ls [.ref q] f) : Zm X M inj G cs res S pc ls (.int n :: .int dp :: .ref (G.1 kb) :: .int sp :: .ref (G.1 ka) :: st) f := by
  subst hcs
  intro hf ho H locs la hp hl1 hS
  have hts := ho.2.2.2.2.1
  have hR : X.2.2.2.1 = zRm M := ho.2.2.2.2.2.2.2.2.2.2
  have hw : nativeFrameWords "java/lang/System" "arraycopy" 5 ≤ 60 := by decide +kernel
  have hP : ∀ z ∈ pre, covers z pc = false ∨ (z.catchType ≠ 0 ∧ ∃ nm : String, (Cond.classLink M.1 z.catchType nm).before X.2.2.2.2.2.2.1 X.2.2.2.2.1 = true ∧ va_Nc "java/lang/ArrayStoreException" nm X.2.2.2.2.1) := fun z hz9 => by
    rcases hpass z hz9 with h | ⟨h1, nm, h2, h3⟩
    · exact Or.inl h
    · exact Or.inr ⟨h1, nm, hts _ h2, ho.2.2.2.2.2.1.1.2.2.1 _ h3⟩
  obtain ⟨cA, r1, r2, -⟩ := zhp_arr hp ha
  obtain ⟨cB, r4, r5, -⟩ := zhp_arr hp hb
  obtain ⟨-, k0, hk0, cm0, hkk0⟩ := r2 n0 (fun j => zval t0 G.1 (G.2.2.1 ka j) (S.1 ka j) (S.2 ka j))
  obtain ⟨-, k1, hk1, cm1, hkk1⟩ := r5 m0 (fun j => zval t1 G.1 (G.2.2.1 kb j) (S.1 kb j) (S.2 kb j))
  have hty : ((refKind t0 != refKind t1) || (!refKind t0 && t0 != t1)) = true := by
    rcases g0 with rfl | rfl | rfl | rfl <;> rcases g1 with rfl | rfl | rfl | rfl <;> first | rfl | exact absurd rfl hne
  refine w_acopyX (E := "java/lang/ArrayStoreException") (msg := some (toString "arraycopy: type mismatch: can not copy " ++ toString (Native.java_lang_System.arraycopy.kindName t0) ++ toString "[] into " ++ toString (Native.java_lang_System.arraycopy.kindName t1) ++ toString "[]" : String)) ho.1 ho.2.1 (by rw [ho.2.2.1]; exact hl1.1.symm) ho.2.2.2.1 (hts _ hl) (hts _ q962) (hts _ q961) (hts _ q168) rfl rfl (fun U fs hU hal E' hE => ?_) (by rw [hR]; show 1 ≤ M.2.2.2.2.1; omega) (by rw [hR]; show _ ≤ 64 * M.2.2.2.2.1; omega) d (fun nf n1 n2 n3 => ?_)
  · obtain ⟨c0, hc0, he0⟩ := hal.2.2 _ _ hk0
    obtain ⟨c1, hc1, he1⟩ := hal.2.2 _ _ hk1
    exact Jvm.W.arraycopy_types (s := U.setFrames fs) (by rw [show (U.setFrames fs).heap = H from hU]; exact r1) (by rw [show (U.setFrames fs).heap = H from hU]; exact r4) (fun _ h => by cases h) (fun _ h => by cases h) hc0 hc1 (by rw [he0]; exact hkk0) (by rw [he1]; exact hkk1) hty (hE _)
  refine sx_vm n1 n2 n3 (nb := 400) (A := zA G X.2.2.2.2.1.heap.size) (names := ["java/lang/RuntimeException", "java/lang/Exception"]) ho.1 ho.2.2.2.2.2.1.2.2.1 (by decide +kernel) (by decide +kernel) (by decide +kernel) (by decide +kernel) (zw_ase hts ho.2.2.2.2.2.1.1) zg_ase ho.2.2.2.2.2.1.2.1.1 ho.2.2.2.2.2.1.2.1.2 hS (hl1.1.trans ho.2.2.1.symm) (ac_ase g0 g1).1 (ac_ase g0 g1).2 (by decide) ?_ ?_ (by decide) ?_ ?_ ho.2.2.2.2.2.2.1 (fun H1 q9 ce h1 h2 h3 h4 h5 h6 => vx_catch (own := M.1) (name := name) ho.2.2.2.1 pre x suf (ho.2.2.2.2.2.1.2.2.2.trans hsp) hP hx h0 (hts _ hlink) ((ho.2.2.2.2.2.1.1.2.2.2.1 _ hcast).use rfl) h4 h5 h6 (kk q9 hf ho H1 locs la (zhp_grow h2 hp) hl1 h3))
  · rw [hR]; show _ < M.2.2.2.2.1; simp only [List.length_cons, List.length_nil]; omega
  · rw [hR]; show _ ≤ 64 * M.2.2.2.2.1; omega
  · rw [hR]; exact zcs1 hq
  · rw [hR]; exact zcs2 hq
theorem z_acB {ρ : Type} {X : zCx} {M : zMr} {inj : ρ → Option Value} {G : zGw} {cs : Nat × Nat} {res : ρ × zSt} {S : zSt} {pc : Nat} {ls : List (Option Value)} {st : List Value} {f : Option (ρ × zSt)} {idx : Nat} {sp dp n : Int32} (ka kb n0 m0 : Nat) (t0 t1 : FieldType) (ha : G.2.1 ka = some (.inr (n0, t0))) (hb : G.2.1 kb = some (.inr (m0, t1))) (g0 : refKind t0 = false) (hte : t0 = t1) (l0 : n0 ≤ 60) (l1 : m0 ≤ 60) (hout : sp < 0 ∨ dp < 0 ∨ n < 0 ∨ n0 < sp.toNatClampNeg + n.toNatClampNeg ∨ m0 < dp.toNatClampNeg + n.toNatClampNeg) (cs' : Nat × Nat) (hl : Cond.methodLink M.1 idx arraycopyName ∈ lw_all) (hd : 170 ≤ M.2.2.2.2.1) (hcat : (st.map fun v => v.category).sum ≤ 8) (hcs : (cs.1 + 3, cs.2 + 410) = cs') (hq : zcs cs' M = true) (d : decode M.2.1 pc = .ok (.invokestatic idx, 3))
    (name : String) (pre : List ExceptionTableEntry) (x : ExceptionTableEntry) (suf : List ExceptionTableEntry) (hsp : tableOf (zhh M) = pre ++ x :: suf) (hpass : ∀ z ∈ pre, covers z pc = false ∨ (z.catchType ≠ 0 ∧ ∃ nm : String, Cond.classLink M.1 z.catchType nm ∈ lw_all ∧ ("java/lang/ArrayIndexOutOfBoundsException", nm) ∈ znC)) (hx : covers x pc = true) (h0 : x.catchType ≠ 0) (hlink : Cond.classLink M.1 x.catchType name ∈ lw_all) (hcast : ("java/lang/ArrayIndexOutOfBoundsException", name) ∈ znY)
    (kk : ∀ q : Nat, Zm X M inj G cs' res S x.handlerPc ls [.ref q] f) : Zm X M inj G cs res S pc ls (.int n :: .int dp :: .ref (G.1 kb) :: .int sp :: .ref (G.1 ka) :: st) f := by
  subst hcs
  intro hf ho H locs la hp hl1 hS
  have hts := ho.2.2.2.2.1
  have hR : X.2.2.2.1 = zRm M := ho.2.2.2.2.2.2.2.2.2.2
  have hw : nativeFrameWords "java/lang/System" "arraycopy" 5 ≤ 60 := by decide +kernel
  have hP : ∀ z ∈ pre, covers z pc = false ∨ (z.catchType ≠ 0 ∧ ∃ nm : String, (Cond.classLink M.1 z.catchType nm).before X.2.2.2.2.2.2.1 X.2.2.2.2.1 = true ∧ va_Nc "java/lang/ArrayIndexOutOfBoundsException" nm X.2.2.2.2.1) := fun z hz9 => by
    rcases hpass z hz9 with h | ⟨h1, nm, h2, h3⟩
    · exact Or.inl h
    · exact Or.inr ⟨h1, nm, hts _ h2, ho.2.2.2.2.2.1.1.2.2.1 _ h3⟩
  obtain ⟨cA, r1, r2, -⟩ := zhp_arr hp ha
  obtain ⟨cB, r4, r5, -⟩ := zhp_arr hp hb
  obtain ⟨-, k0, hk0, cm0, hkk0⟩ := r2 n0 (fun j => zval t0 G.1 (G.2.2.1 ka j) (S.1 ka j) (S.2 ka j))
  obtain ⟨-, k1, hk1, cm1, hkk1⟩ := r5 m0 (fun j => zval t1 G.1 (G.2.2.1 kb j) (S.1 kb j) (S.2 kb j))
  obtain ⟨w, hw1, hw2⟩ := ac_out (t1 := t0) (t2 := t1) l0 l1 hout
  have hty : ((refKind t0 != refKind t1) || (!refKind t0 && t0 != t1)) = false := by
    subst hte
    simp
  refine w_acopyX (E := "java/lang/ArrayIndexOutOfBoundsException") (msg := some ("arraycopy: " ++ w)) ho.1 ho.2.1 (by rw [ho.2.2.1]; exact hl1.1.symm) ho.2.2.2.1 (hts _ hl) (hts _ q962) (hts _ q961) (hts _ q168) rfl rfl (fun U fs hU hal E' hE => ?_) (by rw [hR]; show 1 ≤ M.2.2.2.2.1; omega) (by rw [hR]; show _ ≤ 64 * M.2.2.2.2.1; omega) d (fun nf n1 n2 n3 => ?_)
  · obtain ⟨c0, hc0, he0⟩ := hal.2.2 _ _ hk0
    obtain ⟨c1, hc1, he1⟩ := hal.2.2 _ _ hk1
    exact Jvm.W.arraycopy_bounds (s := U.setFrames fs) (what := w) (by rw [show (U.setFrames fs).heap = H from hU]; exact r1) (by rw [show (U.setFrames fs).heap = H from hU]; exact r4) (fun _ h => by cases h) (fun _ h => by cases h) hc0 hc1 (by rw [he0]; exact hkk0) (by rw [he1]; exact hkk1) hty (by rw [arrV_size, arrV_size]; exact hw1) (hE _)
  refine sx_vm n1 n2 n3 (nb := 400) (A := zA G X.2.2.2.2.1.heap.size) (names := ["java/lang/IndexOutOfBoundsException", "java/lang/RuntimeException", "java/lang/Exception"]) ho.1 ho.2.2.2.2.2.1.2.2.1 (by decide +kernel) (by decide +kernel) (by decide +kernel) (by decide +kernel) (zw_aio hts ho.2.2.2.2.2.1.1) zg_aio ho.2.2.2.2.2.1.2.1.1 ho.2.2.2.2.2.1.2.1.2 hS (hl1.1.trans ho.2.2.1.symm) (ac_mod w) (ac_bytes hw2) (by decide) ?_ ?_ (by decide) ?_ ?_ ho.2.2.2.2.2.2.1 (fun H1 q9 ce h1 h2 h3 h4 h5 h6 => vx_catch (own := M.1) (name := name) ho.2.2.2.1 pre x suf (ho.2.2.2.2.2.1.2.2.2.trans hsp) hP hx h0 (hts _ hlink) ((ho.2.2.2.2.2.1.1.2.2.2.1 _ hcast).use rfl) h4 h5 h6 (kk q9 hf ho H1 locs la (zhp_grow h2 hp) hl1 h3))
  · rw [hR]; show _ < M.2.2.2.2.1; simp only [List.length_cons, List.length_nil]; omega
  · rw [hR]; show _ ≤ 64 * M.2.2.2.2.1; omega
  · rw [hR]; exact zcs1 hq
  · rw [hR]; exact zcs2 hq
theorem z_acT {ρ : Type} {X : zCx} {M : zMr} {inj : ρ → Option Value} {G : zGw} {cs : Nat × Nat} {res : ρ × zSt} {S : zSt} {pc : Nat} {ls : List (Option Value)} {st : List Value} {f : Option (ρ × zSt)} {idx : Nat} {sp dp n : Int32} {ty : FieldType} (ka kb n0 n1 : Nat) (ha : G.2.1 ka = some (.inr (n0, ty))) (hb : G.2.1 kb = some (.inr (n1, ty))) (hty : ∀ ad r i l, zval ty ad r i l = .int i) (hprim : refKind ty = false) (hl : Cond.methodLink M.1 idx arraycopyName ∈ lw_all) (hr : 2 ≤ M.2.2.2.2.1) (hcat : (st.map fun v => v.category).sum ≤ 8) (d : decode M.2.1 pc = .ok (.invokestatic idx, 3)) (hfit : ∀ i, i < n.toNatClampNeg → fits ty (.int (S.1 ka (sp.toNatClampNeg + i))) = true) (k : Zm X M inj G cs res (cpI S ka sp.toNatClampNeg kb dp.toNatClampNeg n.toNatClampNeg) (pc + 3) ls st f) : Zm X M inj G cs res S pc ls (.int n :: .int dp :: .ref (G.1 kb) :: .int sp :: .ref (G.1 ka) :: st) (acopy n0 n1 sp dp n f) := by
  intro hf ho H locs la hp hl1 hS
  unfold acopy at hf
  by_cases hc : sp < 0 ∨ dp < 0 ∨ n < 0 ∨ n0 < sp.toNatClampNeg + n.toNatClampNeg ∨ n1 < dp.toNatClampNeg + n.toNatClampNeg
  · rw [if_pos hc] at hf; cases hf
  rw [if_neg hc] at hf
  obtain ⟨cA, r1, r2, r3⟩ := zhp_arr hp ha
  obtain ⟨cB, r4, r5, r6⟩ := zhp_arr hp hb
  simp only [hty] at r1 r4
  have hneB : G.2.1 kb ≠ none := by rw [hb]; simp
  have hts := ho.2.2.2.2.1
  have hR : X.2.2.2.1 = zRm M := ho.2.2.2.2.2.2.2.2.2.2
  have hw : nativeFrameWords "java/lang/System" "arraycopy" 5 ≤ 60 := by decide +kernel
  refine w_acopyI ho.1 ho.2.1 (by rw [ho.2.2.1]; exact hl1.1.symm) ho.2.2.2.1 (hts _ hl) (hts _ q962) (hts _ q961) (hts _ q168) r1 r4 r2 r5 hprim (fun z => hc (Or.inl z)) (fun z => hc (Or.inr (Or.inl z))) (fun z => hc (Or.inr (Or.inr (Or.inl z)))) (by omega) (by omega) hfit (by rw [hR]; show 1 ≤ M.2.2.2.2.1; omega) (by rw [hR]; show _ ≤ 64 * M.2.2.2.2.1; omega) d ?_
  intro H1 L hL e1 e2 e3
  refine k hf ho H1 (locs ++ L) la (zhp_set ho.2.2.2.2.2.2.2.2.2.1 hneB hp e3 (fun a q => by funext b; simp [cpI, q]) (fun a q => rfl) ?_) hl1 ⟨by rw [e2]; exact hS.1, fun q h1 h2 => by
      rw [e3 q (fun z => h2 (by rw [z]; exact zA_in hneB))]
      exact hS.2.1 q h1 h2, fun q hq => by
      rcases List.mem_append.mp hq with h | h
      · exact hS.2.2 q h
      · rw [hL q h]; exact zA_in hneB⟩
  unfold zcellIs
  rw [hb]
  refine ⟨cB, ?_, r5, r6⟩
  rw [e1]
  congr 2
  funext j
  rw [hty]
  simp only [cpI, va_cpy, if_true]
theorem w_acopyL {p : Program} {l : Launch} {e : Env} {R : Room} {s : State} {m : MethodId} {args : Array Value} {below : List Frame} {meth : Method} {c : Code} {H : Heap} {locs : List Loc} {cells slots : Nat} {Q : State → Prop} {cc : ByteArray} {pc : Nat} {ls : Array Slot} {rest : List Value} (hexec : p.tables.exec = Jvm.exec) (hb : c.code = cc) (hml : c.maxLocals = ls.size) {own : String} {index : Nat} (hown : s.vm.findClass own = some m.cls) (hlink : (Cond.methodLink own index arraycopyName).before args s = true) (hnat : (Cond.native arraycopyName).before args s = true) (hstat : (Cond.static arraycopyName).before args s = true) (hini : (Cond.initialized "java/lang/System").before args s = true)
    {a0 a : Nat} {c0 c1 : ClassId} {n0 n1 : Nat} {f g : Nat → Int64} (hc0 : H[a0]? = some (arrV c0 n0 (fun j => .long (f j)))) (hc1 : H[a]? = some (arrV c1 n1 (fun j => .long (g j)))) (hA0 : ArrOfT s c0 .long) (hA1 : ArrOfT s c1 .long)
    {sp dp n : Int32} (h1 : ¬ sp < 0) (h2 : ¬ dp < 0) (h3 : ¬ n < 0) (h4 : sp.toNatClampNeg + n.toNatClampNeg ≤ n0) (h5 : dp.toNatClampNeg + n.toNatClampNeg ≤ n1)
    (hframes : 1 ≤ R.frames) (hlocals : (rest.map fun v => v.category).sum + (nativeFrameWords "java/lang/System" "arraycopy" 5 + 11) ≤ R.locals) (hdg : decode cc pc = .ok (.invokestatic index, 3))
    (kk : ∀ H1 : Heap, ∀ L : List Loc, (∀ q ∈ L, q.base = a) → H1[a]? = some (arrV c1 n1 (fun j => .long (va_cpy f g sp.toNatClampNeg dp.toNatClampNeg n.toNatClampNeg j))) → H1.size = H.size → (∀ q : Nat, q ≠ a → H1[q]? = H[q]?) → W p l e R s m args below meth c H1 (locs ++ L) cells slots Q (F0 m (pc + 3) ls rest)) : W p l e R s m args below meth c H locs cells slots Q (F0 m pc ls (.int n :: .int dp :: .ref a :: .int sp :: .ref a0 :: rest)) := by
  have nn : ∀ z : Int32, ¬ z < 0 → z.toInt = (z.toNatClampNeg : Int) := by
    intro z hz
    have hz0 : (0 : Int) ≤ z.toInt := by
      have := Int32.not_lt.mp hz
      simpa using Int32.le_iff_toInt_le.mp this
    show z.toInt = ((z.toInt.toNat : Nat) : Int)
    omega
  intro T hT X
  obtain ⟨-, k0, hk0, cm0, hkk0⟩ := hA0 n0 (fun j => .long (f j))
  obtain ⟨-, k1, hk1, cm1, hkk1⟩ := hA1 n1 (fun j => .long (g j))
  obtain ⟨vm', X', step⟩ := X.arraycopy hexec hown hlink hnat hstat hini (src := a0) (dst := a) (cs := arrV c0 n0 (fun j => .long (f j))) (cd := arrV c1 n1 (fun j => .long (g j))) (srcPos := sp) (destPos := dp) (n := n) (by rw [hT]; exact hc0) (by rw [hT]; exact hc1)
    (fun _ h => by cases h) (fun _ h => by cases h) (fun h => by cases h) (fun h => by cases h) hk0 hk1 hkk0 hkk1 rfl h1 h2 h3
    (by rw [nn sp h1, nn n h3, arrV_size]; omega)
    (by rw [nn dp h2, nn n h3, arrV_size]; omega)
    (fun vm₁ _ i hi => by
      have e : (arrV c0 n0 (fun j => Value.long (f j))).slots.getD (sp.toNatClampNeg + i) .null = .long (f (sp.toNatClampNeg + i)) := by
        rw [Array.getD_eq_getD_getElem?, arrV_read _ _ (by omega)]
        rfl
      refine ⟨?_, ?_⟩
      · rw [e]
        rfl
      · rw [e]
        exact trivial)
    (g := F0 m pc ls (.int n :: .int dp :: .ref a :: .int sp :: .ref a0 :: rest)) rfl (by rw [hml]) (rest := rest) rfl (by rw [hb]; exact hdg) hframes (by show 2 * 0 + _ + _ ≤ _; omega)
  have e1 : copied (arrV c0 n0 (fun j => .long (f j))) (arrV c1 n1 (fun j => .long (g j))) sp dp n = arrV c1 n1 (fun j => .long (va_cpy f g sp.toNatClampNeg dp.toNatClampNeg n.toNatClampNeg j)) := va_copied (fun z => .long z) c0 c1 f g h4
  rw [e1] at X' step
  have hl : a < H.size := (Array.getElem?_eq_some_iff.mp hc1).1
  have hheap : ((T.setVm vm').setCell a (arrV c1 n1 (fun j => .long (va_cpy f g sp.toNatClampNeg dp.toNatClampNeg n.toNatClampNeg j)))).heap = H.setIfInBounds a (arrV c1 n1 (fun j => .long (va_cpy f g sp.toNatClampNeg dp.toNatClampNeg n.toNatClampNeg j))) := by rw [← hT]; rfl
  obtain ⟨t, a1, b1⟩ := kk _ _ (fun q hq => by
      obtain ⟨i, -, hi⟩ := List.mem_map.mp hq
      rw [← hi]) (show (H.setIfInBounds a _)[a]? = some _ by simp [Array.getElem?_setIfInBounds, hl]) (by simp) (fun q hq => by simp [Array.getElem?_setIfInBounds, Ne.symm hq]) _ hheap X'
  exact ⟨t, step t a1, b1⟩
def cpL (S : zSt) (a sp b dp n : Nat) : zSt := (S.1, fun k j => if k = b then (if dp ≤ j ∧ j < dp + n then S.2 a (sp + (j - dp)) else S.2 k j) else S.2 k j)
theorem z_acL {ρ : Type} {X : zCx} {M : zMr} {inj : ρ → Option Value} {G : zGw} {cs : Nat × Nat} {res : ρ × zSt} {S : zSt} {pc : Nat} {ls : List (Option Value)} {st : List Value} {f : Option (ρ × zSt)} {idx : Nat} {sp dp n : Int32} (ka kb n0 n1 : Nat) (ha : G.2.1 ka = some (.inr (n0, .long))) (hb : G.2.1 kb = some (.inr (n1, .long))) (hl : Cond.methodLink M.1 idx arraycopyName ∈ lw_all) (hr : 2 ≤ M.2.2.2.2.1) (hcat : (st.map fun v => v.category).sum ≤ 8) (d : decode M.2.1 pc = .ok (.invokestatic idx, 3)) (k : Zm X M inj G cs res (cpL S ka sp.toNatClampNeg kb dp.toNatClampNeg n.toNatClampNeg) (pc + 3) ls st f) : Zm X M inj G cs res S pc ls (.int n :: .int dp :: .ref (G.1 kb) :: .int sp :: .ref (G.1 ka) :: st) (acopy n0 n1 sp dp n f) := by
  intro hf ho H locs la hp hl1 hS
  unfold acopy at hf
  by_cases hc : sp < 0 ∨ dp < 0 ∨ n < 0 ∨ n0 < sp.toNatClampNeg + n.toNatClampNeg ∨ n1 < dp.toNatClampNeg + n.toNatClampNeg
  · rw [if_pos hc] at hf; cases hf
  rw [if_neg hc] at hf
  obtain ⟨cA, r1, r2, r3⟩ := zhp_arr hp ha
  obtain ⟨cB, r4, r5, r6⟩ := zhp_arr hp hb
  have hty : ∀ (ad : Nat → Nat) (r : Option Nat) (i : Int32) (l : Int64), zval .long ad r i l = .long l := fun _ _ _ _ => rfl
  simp only [hty] at r1 r4
  have hneB : G.2.1 kb ≠ none := by rw [hb]; simp
  have hts := ho.2.2.2.2.1
  have hR : X.2.2.2.1 = zRm M := ho.2.2.2.2.2.2.2.2.2.2
  have hw : nativeFrameWords "java/lang/System" "arraycopy" 5 ≤ 60 := by decide +kernel
  refine w_acopyL ho.1 ho.2.1 (by rw [ho.2.2.1]; exact hl1.1.symm) ho.2.2.2.1 (hts _ hl) (hts _ q962) (hts _ q961) (hts _ q168) r1 r4 r2 r5 (fun z => hc (Or.inl z)) (fun z => hc (Or.inr (Or.inl z))) (fun z => hc (Or.inr (Or.inr (Or.inl z)))) (by omega) (by omega) (by rw [hR]; show 1 ≤ M.2.2.2.2.1; omega) (by rw [hR]; show _ ≤ 64 * M.2.2.2.2.1; omega) d ?_
  intro H1 L hL e1 e2 e3
  refine k hf ho H1 (locs ++ L) la (zhp_set ho.2.2.2.2.2.2.2.2.2.1 hneB hp e3 (fun a q => rfl) (fun a q => by funext b; simp [cpL, q]) ?_) hl1 ⟨by rw [e2]; exact hS.1, fun q h1 h2 => by
      rw [e3 q (fun z => h2 (by rw [z]; exact zA_in hneB))]
      exact hS.2.1 q h1 h2, fun q hq => by
      rcases List.mem_append.mp hq with h | h
      · exact hS.2.2 q h
      · rw [hL q h]; exact zA_in hneB⟩
  unfold zcellIs
  rw [hb]
  refine ⟨cB, ?_, r5, r6⟩
  rw [e1]
  congr 2
  funext j
  rw [hty]
  simp only [cpL, va_cpy, if_true]
theorem z_rowG {ρ : Type} {X : zCx} {M : zMr} {inj : ρ → Option Value} {G : zGw} {cs : Nat × Nat} {res : ρ × zSt} {S : zSt} {pc : Nat} {ls : List (Option Value)} {st : List Value} {f : Option (ρ × zSt)} {V : zSV} {i : Nat} {q : Nat × FieldType} (hV : zGV G V) (hi : i < 4) (hq : V i = some q) (hM : M.1 = "HiddenCube") (d : decode M.2.1 pc = .ok (.getfield 499, 3)) (k : Zm X M inj G cs res S (pc + 3) ls (.ref (G.1 (44 + i)) :: st) f) : Zm X M inj G cs res S pc ls (.ref (G.1 (40 + i)) :: st) f := by
  have h := hV i hi
  rw [hq] at h
  exact z_getN (v := .ref (G.1 (44 + i))) (40 + i) 4 0 h.1 rfl in_X4 (by decide) (by rw [hM]; exact List.mem_of_getElem? (i := 13) rfl) (by rw [h.2.2.1]; rfl) d k
theorem z_rowGN {ρ : Type} {X : zCx} {M : zMr} {inj : ρ → Option Value} {G : zGw} {cs : Nat × Nat} {res : ρ × zSt} {S : zSt} {pc : Nat} {ls : List (Option Value)} {st : List Value} {f : Option (ρ × zSt)} {V : zSV} {i : Nat} (hV : zGV G V) (hi : i < 4) (hq : V i = none) (hM : M.1 = "HiddenCube") (d : decode M.2.1 pc = .ok (.getfield 499, 3)) (k : Zm X M inj G cs res S (pc + 3) ls (.null :: st) f) : Zm X M inj G cs res S pc ls (.ref (G.1 (40 + i)) :: st) f := by
  have h := hV i hi
  rw [hq] at h
  exact z_getN (v := .null) (40 + i) 4 0 h.1 rfl in_X4 (by decide) (by rw [hM]; exact List.mem_of_getElem? (i := 13) rfl) (by rw [h.2.2]; rfl) d k
abbrev mX0_paste : zMr := ("HiddenCube", cX0_paste, 7, some .int, 170, 3, 410, some [(17, 44, 45, 398), (17, 44, 50, 519), (17, 44, 55, 521)])
/-- what arraycopy from row i to row j comes to -/
def F_pst (p q : Option (Nat × FieldType)) (i j : Nat) (a2 a4 a5 : Int32) (S : zSt) : Option (Int32 × zSt) := match p, q with
  | some x, some y => if x.2 = y.2 then (if a2 < 0 ∨ a4 < 0 ∨ a5 < 0 ∨ x.1 < a2.toNatClampNeg + a5.toNatClampNeg ∨ y.1 < a4.toNatClampNeg + a5.toNatClampNeg then some (-7, S) else if x.2 = .long then some (0, cpL S (44 + i) a2.toNatClampNeg (44 + j) a4.toNatClampNeg a5.toNatClampNeg) else if (List.range a5.toNatClampNeg).all (fun k => fits x.2 (.int (S.1 (44 + i) (a2.toNatClampNeg + k)))) = true then some (0, cpI S (44 + i) a2.toNatClampNeg (44 + j) a4.toNatClampNeg a5.toNatClampNeg) else none) else some (-8, S)
  | _, _ => some (-6, S)
def F_X0_paste (V : zSV) (a1 a2 a3 a4 a5 : Int32) (S : zSt) : Option (Int32 × zSt) :=
  zbind (F_X0_isSlot a1 S) (fun r S1 => if r = 0 then some (-2, S1) else zbind (F_X0_isSlot a3 S1) (fun r2 S2 => if r2 = 0 then some (-2, S2) else chk a1 4 (chk a3 4 (F_pst (V a1.toNatClampNeg) (V a3.toNatClampNeg) a1.toNatClampNeg a3.toNatClampNeg a2 a4 a5 S2))))
theorem mv_X0_paste : ZVW mX0_paste yX0_paste 5 := ⟨q1371, q1372, q150, q1373, rfl, by decide, by decide, by decide +kernel⟩
theorem ct_X0_paste {G : zGw} (hG : zGC G) {V : zSV} (hV : zGV G V) (a1 a2 a3 a4 a5 : Int32) : Zc mX0_paste yX0_paste zJI G [.ref (G.1 0), .int a1, .int a2, .int a3, .int a4, .int a5] (F_X0_paste V a1 a2 a3 a4 a5) := by
  refine Zc_ofW [some (.ref (G.1 0)), some (.int a1), some (.int a2), some (.int a3), some (.int a4), some (.int a5), none] (by decide) rfl _ rfl (Nat.le_of_ble_eq_true rfl) rfl (fun X S res => ?_)
  unfold F_X0_paste
  refine z_iload_n (pc := 0) 1 dX0_paste_0 rfl rfl ?_
  refine z_callSi (pc := 1) _ _ (ct_X0_isSlot _) mv_X0_isSlot q1121 rfl (Nat.le_of_ble_eq_true rfl) (Nat.le_of_ble_eq_true rfl) rfl rfl (Nat.le_of_ble_eq_true rfl) dX0_paste_1 (fun r1 S1 => ?_)
  refine z_if_eq (pc := 4) 14 dX0_paste_4 rfl ?_ ?_
  · refine z_bipush (pc := 14) (v := (-2)) dX0_paste_14 (by decide) ?_
    exact z_iret rfl dX0_paste_16 rfl
  refine z_iload_n (pc := 7) 3 dX0_paste_7 rfl rfl ?_
  refine z_callSi (pc := 8) _ _ (ct_X0_isSlot _) mv_X0_isSlot q1121 rfl (Nat.le_of_ble_eq_true rfl) (Nat.le_of_ble_eq_true rfl) rfl rfl (Nat.le_of_ble_eq_true rfl) dX0_paste_8 (fun r2 S2 => ?_)
  refine z_if_ne (pc := 11) 17 dX0_paste_11 rfl ?_ (z_bipush (pc := 14) (v := (-2)) dX0_paste_14 (by decide) (z_iret rfl dX0_paste_16 rfl))
  refine z_aload_n (pc := 17) 0 dX0_paste_17 rfl rfl ?_
  refine gf_X0_C_118_0 hG (pc := 18) dX0_paste_18 ?_
  refine z_iload_n (pc := 21) 1 dX0_paste_21 rfl rfl ?_
  refine z_chk (fun h1 => ?_)
  have hi : a1.toNatClampNeg < 4 := Nat.not_le.mp fun q => h1 (Or.inr q)
  refine z_aaloadV (pc := 22) hG hV h1 dX0_paste_22 ?_
  have key : ∀ (vs : Value), (V a1.toNatClampNeg = none ∧ vs = .null) ∨ (∃ x, V a1.toNatClampNeg = some x ∧ vs = .ref (G.1 (44 + a1.toNatClampNeg))) → Zm X mX0_paste zJI G (0, 0) res S2 26 [some (.ref (G.1 0)), some (.int a1), some (.int a2), some (.int a3), some (.int a4), some (.int a5), none] [vs] (chk a3 4 (F_pst (V a1.toNatClampNeg) (V a3.toNatClampNeg) a1.toNatClampNeg a3.toNatClampNeg a2 a4 a5 S2)) := by
    intro vs hvs
    refine z_iload_n (pc := 26) 2 dX0_paste_26 rfl rfl ?_
    refine z_aload_n (pc := 27) 0 dX0_paste_27 rfl rfl ?_
    refine gf_X0_C_118_0 hG (pc := 28) dX0_paste_28 ?_
    refine z_iload_n (pc := 31) 3 dX0_paste_31 rfl rfl ?_
    refine z_chk (fun h3 => ?_)
    have hj : a3.toNatClampNeg < 4 := Nat.not_le.mp fun q => h3 (Or.inr q)
    refine z_aaloadV (pc := 32) hG hV h3 dX0_paste_32 ?_
    have hnull : ∀ vd : Value, ((vs = .null ∧ vd.isRef = true) ∨ ((∃ a, vs = .ref a) ∧ vd = .null)) → Zm X mX0_paste zJI G (0, 0) res S2 36 [some (.ref (G.1 0)), some (.int a1), some (.int a2), some (.int a3), some (.int a4), some (.int a5), none] [vd, .int a2, vs] (some (-6, S2)) := by
      intro vd hn9
      refine z_iload (pc := 36) dX0_paste_36 rfl ?_
      refine z_iload (pc := 38) dX0_paste_38 rfl ?_
      refine z_acN (pc := 40) hn9 (1, 8) q960 (Nat.le_of_ble_eq_true rfl) (Nat.le_of_ble_eq_true rfl) rfl rfl dX0_paste_40 "java/lang/NullPointerException" [] ⟨17, 44, 45, 398⟩ _ rfl (fun z hz => by cases hz) rfl (by decide) q1094 (List.mem_of_getElem? (i := 4) rfl) (fun q => ?_)
      refine z_astore (pc := 45) dX0_paste_45 (Nat.le_of_ble_eq_true rfl) rfl ?_
      refine z_bipush (pc := 47) (v := (-6)) dX0_paste_47 (by decide) ?_
      exact z_iret rfl dX0_paste_49 rfl
    cases hy : V a3.toNatClampNeg with
    | none =>
      refine z_rowGN (pc := 33) hV hj hy rfl dX0_paste_33 ?_
      have hf : F_pst (V a1.toNatClampNeg) none a1.toNatClampNeg a3.toNatClampNeg a2 a4 a5 S2 = some (-6, S2) := by
        unfold F_pst
        cases V a1.toNatClampNeg <;> rfl
      rw [hf]
      refine hnull .null ?_
      rcases hvs with ⟨-, rfl⟩ | ⟨x, -, rfl⟩
      · exact Or.inl ⟨rfl, rfl⟩
      · exact Or.inr ⟨⟨_, rfl⟩, rfl⟩
    | some y =>
      refine z_rowG (pc := 33) hV hj hy rfl dX0_paste_33 ?_
      rcases hvs with ⟨hx, rfl⟩ | ⟨x, hx, rfl⟩
      · rw [hx]
        exact hnull _ (Or.inl ⟨rfl, rfl⟩)
      · rw [hx]
        have kx := hV _ hi
        rw [hx] at kx
        have ky := hV _ hj
        rw [hy] at ky
        obtain ⟨n0, t0⟩ := x
        obtain ⟨m0, t1⟩ := y
        unfold F_pst
        refine z_iload (pc := 36) dX0_paste_36 rfl ?_
        refine z_iload (pc := 38) dX0_paste_38 rfl ?_
        dsimp only
        by_cases hte : t0 = t1
        · rw [if_pos hte]
          subst hte
          have hprim : refKind t0 = false := by rcases kx.2.2.2.2.1 with h | h | h | h <;> (have h : t0 = _ := h; subst h; rfl)
          by_cases hout : a2 < 0 ∨ a4 < 0 ∨ a5 < 0 ∨ n0 < a2.toNatClampNeg + a5.toNatClampNeg ∨ m0 < a4.toNatClampNeg + a5.toNatClampNeg
          · rw [if_pos hout]
            refine z_acB (pc := 40) (44 + a1.toNatClampNeg) (44 + a3.toNatClampNeg) n0 m0 t0 t0 kx.2.2.2.1 ky.2.2.2.1 hprim rfl kx.2.2.2.2.2 ky.2.2.2.2.2 hout (3, 410) q960 (Nat.le_of_ble_eq_true rfl) (Nat.le_of_ble_eq_true rfl) rfl rfl dX0_paste_40 "java/lang/IndexOutOfBoundsException" [⟨17, 44, 45, 398⟩, ⟨17, 44, 50, 519⟩] ⟨17, 44, 55, 521⟩ _ rfl (fun z hz => ?_) rfl (by decide) q1388 (List.mem_of_getElem? (i := 2) rfl) (fun q => ?_)
            · simp only [List.mem_cons, List.not_mem_nil, or_false] at hz
              rcases hz with rfl | rfl
              · exact Or.inr ⟨by decide, _, q1094, by decide⟩
              · exact Or.inr ⟨by decide, _, q1374, by decide⟩
            · refine z_astore (pc := 55) dX0_paste_55 (Nat.le_of_ble_eq_true rfl) rfl ?_
              refine z_bipush (pc := 57) (v := (-7)) dX0_paste_57 (by decide) ?_
              exact z_iret rfl dX0_paste_59 rfl
          · rw [if_neg hout]
            by_cases hlong : t0 = .long
            · rw [if_pos hlong]
              subst hlong
              have hac : some ((0 : Int32), cpL S2 (44 + a1.toNatClampNeg) a2.toNatClampNeg (44 + a3.toNatClampNeg) a4.toNatClampNeg a5.toNatClampNeg) = acopy n0 m0 a2 a4 a5 (some ((0 : Int32), cpL S2 (44 + a1.toNatClampNeg) a2.toNatClampNeg (44 + a3.toNatClampNeg) a4.toNatClampNeg a5.toNatClampNeg)) := by unfold acopy; rw [if_neg hout]
              rw [hac]
              refine z_acL (pc := 40) (44 + a1.toNatClampNeg) (44 + a3.toNatClampNeg) n0 m0 kx.2.2.2.1 ky.2.2.2.1 q960 (Nat.le_of_ble_eq_true rfl) (Nat.le_of_ble_eq_true rfl) dX0_paste_40 ?_
              refine z_iconst (pc := 43) (v := 0) dX0_paste_43 (by decide) ?_
              exact z_iret rfl dX0_paste_44 rfl
            · rw [if_neg hlong]
              by_cases hfit : (List.range a5.toNatClampNeg).all (fun k => fits t0 (.int (S2.1 (44 + a1.toNatClampNeg) (a2.toNatClampNeg + k)))) = true
              · rw [if_pos hfit]
                have hac : some ((0 : Int32), cpI S2 (44 + a1.toNatClampNeg) a2.toNatClampNeg (44 + a3.toNatClampNeg) a4.toNatClampNeg a5.toNatClampNeg) = acopy n0 m0 a2 a4 a5 (some ((0 : Int32), cpI S2 (44 + a1.toNatClampNeg) a2.toNatClampNeg (44 + a3.toNatClampNeg) a4.toNatClampNeg a5.toNatClampNeg)) := by unfold acopy; rw [if_neg hout]
                rw [hac]
                refine z_acT (pc := 40) (44 + a1.toNatClampNeg) (44 + a3.toNatClampNeg) n0 m0 kx.2.2.2.1 ky.2.2.2.1 (by rcases kx.2.2.2.2.1 with h | h | h | h <;> (have h : t0 = _ := h; subst h; first | (intro _ _ _ _; rfl) | exact absurd rfl hlong)) hprim q960 (Nat.le_of_ble_eq_true rfl) (Nat.le_of_ble_eq_true rfl) dX0_paste_40 (fun i hi9 => List.all_eq_true.mp hfit i (List.mem_range.mpr hi9)) ?_
                refine z_iconst (pc := 43) (v := 0) dX0_paste_43 (by decide) ?_
                exact z_iret rfl dX0_paste_44 rfl
              · rw [if_neg hfit]
                exact fun h => by cases h
        · rw [if_neg hte]
          refine z_acS (pc := 40) (44 + a1.toNatClampNeg) (44 + a3.toNatClampNeg) n0 m0 t0 t1 kx.2.2.2.1 ky.2.2.2.1 kx.2.2.2.2.1 ky.2.2.2.2.1 hte (3, 410) q960 (Nat.le_of_ble_eq_true rfl) (Nat.le_of_ble_eq_true rfl) rfl rfl dX0_paste_40 "java/lang/ArrayStoreException" [⟨17, 44, 45, 398⟩] ⟨17, 44, 50, 519⟩ _ rfl (fun z hz => ?_) rfl (by decide) q1374 (List.mem_of_getElem? (i := 3) rfl) (fun q => ?_)
          · simp only [List.mem_cons, List.not_mem_nil, or_false] at hz
            rcases hz with rfl
            exact Or.inr ⟨by decide, _, q1094, by decide⟩
          · refine z_astore (pc := 50) dX0_paste_50 (Nat.le_of_ble_eq_true rfl) rfl ?_
            refine z_bipush (pc := 52) (v := (-8)) dX0_paste_52 (by decide) ?_
            exact z_iret rfl dX0_paste_54 rfl
  cases hx : V a1.toNatClampNeg with
  | none =>
    refine z_rowGN (pc := 23) hV hi hx rfl dX0_paste_23 ?_
    have := key .null (Or.inl ⟨hx, rfl⟩)
    rw [hx] at this
    exact this
  | some x =>
    refine z_rowG (pc := 23) hV hi hx rfl dX0_paste_23 ?_
    have := key (.ref (G.1 (44 + a1.toNatClampNeg))) (Or.inr ⟨x, hx, rfl⟩)
    rw [hx] at this
    exact this
