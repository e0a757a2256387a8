/-! THROWS -/
set_option maxRecDepth 100000
theorem zw_npe {args : Array Value} {s : State} (h : ∀ w ∈ lw_all, w.before args s = true) (hN : zNW s) : ∀ w ∈ vx_atN 8, w.before args s = true :=
  vx_hat (B := [(Jvm.Cond.castable "java/lang/RuntimeException" "java/lang/Throwable"), (Jvm.Cond.declares ({ cls := "java/lang/RuntimeException", name := "<init>", desc := "()V" } : Jvm.MethodName)), (Jvm.Cond.declares ({ cls := "java/lang/Exception", name := "<init>", desc := "()V" } : Jvm.MethodName)), (Jvm.Cond.declares ({ cls := "java/lang/Throwable", name := "<init>", desc := "()V" } : Jvm.MethodName)), (Jvm.Cond.castable "java/lang/NullPointerException" "java/lang/NullPointerException")]) (fun w hw => h w (lw_in ((vx_atN 8).filter goodWord) [164, 583, 592, 611, 614, 616, 584, 585, 181, 182, 586, 591, 612, 632, 573, 633, 575, 634, 577, 587, 589, 579, 608, 598, 599, 1104, 1106, 605, 606, 1095, 1096, 1097, 1098, 1098, 1099, 1100, 1101, 1101, 1102, 1103, 584, 170, 603, 1119, 597, 1112, 1113, 1115, 582, 581, 1110] (by decide +kernel) (by decide +kernel) w hw)) (by decide +kernel) (vx_c ((hN.2.2.2.1 ("java/lang/RuntimeException", "java/lang/Throwable") (by decide)).use rfl) (vx_c ((hN.2.2.2.2.2.2 _ (by decide)).use rfl) (vx_c ((hN.2.2.2.2.2.2 _ (by decide)).use rfl) (vx_c ((hN.2.2.2.2.2.2 _ (by decide)).use rfl) (vx_c ((hN.2.2.2.1 ("java/lang/NullPointerException", "java/lang/NullPointerException") (by decide)).use rfl) vx_n)))))
theorem zg_npe : ∀ w ∈ vx_atN 8, vx_ot w = true := by decide +kernel
theorem zw_aio {args : Array Value} {s : State} (h : ∀ w ∈ lw_all, w.before args s = true) (hN : zNW s) : ∀ w ∈ vx_atM "java/lang/ArrayIndexOutOfBoundsException" ["java/lang/IndexOutOfBoundsException", "java/lang/RuntimeException", "java/lang/Exception"], w.before args s = true :=
  vx_hat (B := [(Jvm.Cond.declares ({ cls := "java/lang/IndexOutOfBoundsException", name := "<init>", desc := "(Ljava/lang/String;)V" } : Jvm.MethodName)), (Jvm.Cond.declares ({ cls := "java/lang/RuntimeException", name := "<init>", desc := "(Ljava/lang/String;)V" } : Jvm.MethodName)), (Jvm.Cond.declares ({ cls := "java/lang/Exception", name := "<init>", desc := "(Ljava/lang/String;)V" } : Jvm.MethodName)), (Jvm.Cond.declares ({ cls := "java/lang/Throwable", name := "<init>", desc := "(Ljava/lang/String;)V" } : Jvm.MethodName)), (Jvm.Cond.castable "java/lang/ArrayIndexOutOfBoundsException" "java/lang/ArrayIndexOutOfBoundsException")]) (fun w hw => h w (lw_in ((vx_atM "java/lang/ArrayIndexOutOfBoundsException" ["java/lang/IndexOutOfBoundsException", "java/lang/RuntimeException", "java/lang/Exception"]).filter goodWord) [164, 583, 592, 611, 614, 616, 584, 585, 181, 182, 586, 591, 612, 632, 573, 633, 575, 634, 577, 587, 589, 579, 1321, 1322, 631, 579, 1349, 1350, 1351, 1352, 1352, 1353, 1354, 1315, 1315, 1316, 1317, 1318, 1318, 1319, 1320, 1321, 160, 1332, 245, 1333, 1335, 1334, 1336, 173, 1348, 1365, 594, 1357, 1358, 1360, 1356, 582, 581, 1355] (by decide +kernel) (by decide +kernel) w hw)) (by decide +kernel) (vx_c ((hN.2.2.2.2.2.2 _ (by decide)).use rfl) (vx_c ((hN.2.2.2.2.2.2 _ (by decide)).use rfl) (vx_c ((hN.2.2.2.2.2.2 _ (by decide)).use rfl) (vx_c ((hN.2.2.2.2.2.2 _ (by decide)).use rfl) (vx_c ((hN.2.2.2.1 ("java/lang/ArrayIndexOutOfBoundsException", "java/lang/ArrayIndexOutOfBoundsException") (by decide)).use rfl) vx_n)))))
theorem zg_aio : ∀ w ∈ vx_atM "java/lang/ArrayIndexOutOfBoundsException" ["java/lang/IndexOutOfBoundsException", "java/lang/RuntimeException", "java/lang/Exception"], vx_ot w = true := by decide +kernel
theorem zw_nas {args : Array Value} {s : State} (h : ∀ w ∈ lw_all, w.before args s = true) (hN : zNW s) : ∀ w ∈ vx_atM "java/lang/NegativeArraySizeException" ["java/lang/RuntimeException", "java/lang/Exception"], w.before args s = true :=
  vx_hat (B := [(Jvm.Cond.declares ({ cls := "java/lang/RuntimeException", name := "<init>", desc := "(Ljava/lang/String;)V" } : Jvm.MethodName)), (Jvm.Cond.declares ({ cls := "java/lang/Exception", name := "<init>", desc := "(Ljava/lang/String;)V" } : Jvm.MethodName)), (Jvm.Cond.declares ({ cls := "java/lang/Throwable", name := "<init>", desc := "(Ljava/lang/String;)V" } : Jvm.MethodName)), (Jvm.Cond.castable "java/lang/NegativeArraySizeException" "java/lang/NegativeArraySizeException")]) (fun w hw => h w (lw_in ((vx_atM "java/lang/NegativeArraySizeException" ["java/lang/RuntimeException", "java/lang/Exception"]).filter goodWord) [164, 583, 592, 611, 614, 616, 584, 585, 181, 182, 586, 591, 612, 632, 573, 633, 575, 634, 577, 587, 589, 579, 1321, 1322, 631, 579, 1312, 1313, 1314, 1315, 1315, 1316, 1317, 1318, 1318, 1319, 1320, 1321, 160, 1332, 245, 1333, 1335, 1334, 1336, 171, 1311, 1331, 596, 1325, 1326, 1328, 1324, 582, 581, 1323] (by decide +kernel) (by decide +kernel) w hw)) (by decide +kernel) (vx_c ((hN.2.2.2.2.2.2 _ (by decide)).use rfl) (vx_c ((hN.2.2.2.2.2.2 _ (by decide)).use rfl) (vx_c ((hN.2.2.2.2.2.2 _ (by decide)).use rfl) (vx_c ((hN.2.2.2.1 ("java/lang/NegativeArraySizeException", "java/lang/NegativeArraySizeException") (by decide)).use rfl) vx_n))))
theorem zg_nas : ∀ w ∈ vx_atM "java/lang/NegativeArraySizeException" ["java/lang/RuntimeException", "java/lang/Exception"], vx_ot w = true := by decide +kernel
theorem zw_ase {args : Array Value} {s : State} (h : ∀ w ∈ lw_all, w.before args s = true) (hN : zNW s) : ∀ w ∈ vx_atM "java/lang/ArrayStoreException" ["java/lang/RuntimeException", "java/lang/Exception"], w.before args s = true :=
  vx_hat (B := [(Jvm.Cond.declares ({ cls := "java/lang/RuntimeException", name := "<init>", desc := "(Ljava/lang/String;)V" } : Jvm.MethodName)), (Jvm.Cond.declares ({ cls := "java/lang/Exception", name := "<init>", desc := "(Ljava/lang/String;)V" } : Jvm.MethodName)), (Jvm.Cond.declares ({ cls := "java/lang/Throwable", name := "<init>", desc := "(Ljava/lang/String;)V" } : Jvm.MethodName)), (Jvm.Cond.castable "java/lang/ArrayStoreException" "java/lang/ArrayStoreException")]) (fun w hw => h w (lw_in ((vx_atM "java/lang/ArrayStoreException" ["java/lang/RuntimeException", "java/lang/Exception"]).filter goodWord) [164, 583, 592, 611, 614, 616, 584, 585, 181, 182, 586, 591, 612, 632, 573, 633, 575, 634, 577, 587, 589, 579, 1321, 1322, 631, 579, 1376, 1377, 1378, 1315, 1315, 1316, 1317, 1318, 1318, 1319, 1320, 1321, 160, 1332, 245, 1333, 1335, 1334, 1336, 174, 1375, 1387, 595, 1381, 1382, 1384, 1380, 582, 581, 1379] (by decide +kernel) (by decide +kernel) w hw)) (by decide +kernel) (vx_c ((hN.2.2.2.2.2.2 _ (by decide)).use rfl) (vx_c ((hN.2.2.2.2.2.2 _ (by decide)).use rfl) (vx_c ((hN.2.2.2.2.2.2 _ (by decide)).use rfl) (vx_c ((hN.2.2.2.1 ("java/lang/ArrayStoreException", "java/lang/ArrayStoreException") (by decide)).use rfl) vx_n))))
theorem zg_ase : ∀ w ∈ vx_atM "java/lang/ArrayStoreException" ["java/lang/RuntimeException", "java/lang/Exception"], vx_ot w = true := by decide +kernel
/-- the world is kept where only new cells came -/
theorem zhp_grow {G : zGw} {S : zSt} {s : State} {H H1 : Heap} (h : ∀ q : Nat, q < H.size → H1[q]? = H[q]?) (hp : zhp G S s H) : zhp G S s H1 := by
  intro k
  have hk := hp k
  revert hk
  unfold zcellIs
  cases G.2.1 k with
  | none => exact id
  | some w =>
    cases w with
    | inl ci =>
      rintro ⟨r, h1, h2⟩
      refine ⟨r, h1, h2.kept (h _ ?_)⟩
      obtain ⟨cell, q1, -⟩ := h2
      exact (Array.getElem?_eq_some_iff.mp q1).1
    | inr a =>
      rintro ⟨cA, h1, h2⟩
      exact ⟨cA, by rw [h _ (Array.getElem?_eq_some_iff.mp h1).1]; exact h1, h2⟩
/-- as Zm, with any end -/
def Zq {ρ : Type} (X : zCx) (M : zMr) (Q : zCx → ρ × zSt → State → Prop) (G : zGw) (cs : Nat × Nat) (res : ρ × zSt) (S : zSt) (pc : Nat) (ls : List (Option Value)) (st : List Value) (f : Option (ρ × zSt)) : Prop :=
  f = some res → zok M G X → ∀ (H : Heap) (locs : List Loc) (la : Array Slot), zhp G S X.2.2.2.2.1 H → zlv la M.2.2.1 ls → va_S (zA G X.2.2.2.2.1.heap.size) X.2.2.2.2.1.heap H locs →
    W X.1 X.2.1 X.2.2.1 X.2.2.2.1 X.2.2.2.2.1 X.2.2.2.2.2.1 X.2.2.2.2.2.2.1 X.2.2.2.2.2.2.2.1 X.2.2.2.2.2.2.2.2.1 X.2.2.2.2.2.2.2.2.2 H locs cs.1 cs.2 (Q X res) (F0 X.2.2.2.2.2.1 pc la st)
theorem zq_aload_n {ρ : Type} {X : zCx} {M : zMr} {Q : zCx → ρ × zSt → State → Prop} {G : zGw} {cs : Nat × Nat} {res : ρ × zSt} {S : zSt} {pc : Nat} {ls : List (Option Value)} {st : List Value} {f : Option (ρ × zSt)} {n : Fin 4} {v : Nat} (i : Nat) (d : decode M.2.1 pc = .ok (.aload_n n, 1)) (hi : (n : Nat) = i) (hv : ls[i]? = some (some (.ref v))) (k : Zq X M Q G cs res S (pc + 1) ls (.ref v :: st) f) : Zq X M Q G cs res S pc ls st f :=
  fun hf ho H locs la hp hl hS => lv_aload_n ho.1 ho.2.1 d hi (hl.2.2 _ _ hv) (k hf ho H locs la hp hl hS)
theorem zq_iload_n {ρ : Type} {X : zCx} {M : zMr} {Q : zCx → ρ × zSt → State → Prop} {G : zGw} {cs : Nat × Nat} {res : ρ × zSt} {S : zSt} {pc : Nat} {ls : List (Option Value)} {st : List Value} {f : Option (ρ × zSt)} {n : Fin 4} {v : Int32} (i : Nat) (d : decode M.2.1 pc = .ok (.iload_n n, 1)) (hi : (n : Nat) = i) (hv : ls[i]? = some (some (.int v))) (k : Zq X M Q G cs res S (pc + 1) ls (.int v :: st) f) : Zq X M Q G cs res S pc ls st f :=
  fun hf ho H locs la hp hl hS => lv_iload_n ho.1 ho.2.1 d hi (hl.2.2 _ _ hv) (k hf ho H locs la hp hl hS)
theorem zq_lload_n {ρ : Type} {X : zCx} {M : zMr} {Q : zCx → ρ × zSt → State → Prop} {G : zGw} {cs : Nat × Nat} {res : ρ × zSt} {S : zSt} {pc : Nat} {ls : List (Option Value)} {st : List Value} {f : Option (ρ × zSt)} {n : Fin 4} {v : Int64} (i : Nat) (d : decode M.2.1 pc = .ok (.lload_n n, 1)) (hi : (n : Nat) = i) (hv : ls[i]? = some (some (.long v))) (k : Zq X M Q G cs res S (pc + 1) ls (.long v :: st) f) : Zq X M Q G cs res S pc ls st f :=
  fun hf ho H locs la hp hl hS => lv_lload_n ho.1 ho.2.1 d hi (hl.2.2 _ _ hv) (k hf ho H locs la hp hl hS)
theorem zq_get {ρ : Type} {X : zCx} {M : zMr} {Q : zCx → ρ × zSt → State → Prop} {G : zGw} {cs : Nat × Nat} {res : ρ × zSt} {S : zSt} {pc : Nat} {ls : List (Option Value)} {st : List Value} {f : Option (ρ × zSt)} {C : String} {T : u_T} {N idx : Nat} {v : Value} (kp ci j : Nat) (hsh : G.2.1 kp = some (.inl ci)) (hc : zcl[ci]? = some (C, T, N)) (hin : ∀ w ∈ u_ws C T N, w ∈ lw_all) (hj : j < N) (hl : Cond.fieldLink M.1 idx (T j).1 (T j).2.1 (T j).2.2.1 ∈ lw_all) (hv : zval (zft ci j) G.1 (G.2.2.1 kp j) (S.1 kp j) (S.2 kp j) = v) (d : decode M.2.1 pc = .ok (.getfield idx, 3)) (k : Zq X M Q G cs res S (pc + 3) ls (v :: st) f) : Zq X M Q G cs res S pc ls (.ref (G.1 kp) :: st) f := by
  intro hf ho H locs la hp hl1 hS
  obtain ⟨cell, q1, q2, q3, q4⟩ := zhp_obj hp hsh hc
  obtain ⟨hS1, hfc, kC, hkC, hkind⟩ := ho.2.2.2.2.2.2.2.2.1 ci _ hc
  obtain ⟨cf, kf, fi, f, hi, hsl⟩ := hS1 j hj
  refine W.getf ho.1 ho.2.1 ho.2.2.2.1 (ho.2.2.2.2.1 _ hl) hi (u_facts hfc hkC (u_lays ho.2.2.2.2.1 hin hj) hi).1 q1 (by rw [q3]; exact fun h => by cases h) (v := v) ?_ rfl rfl d (k hf ho H locs la hp hl1 hS)
  rw [hsl]
  exact (q4 j hj).trans (congrArg some hv)
theorem zq_getRow {ρ : Type} {X : zCx} {M : zMr} {Q : zCx → ρ × zSt → State → Prop} {G : zGw} {cs : Nat × Nat} {res : ρ × zSt} {S : zSt} {pc : Nat} {ls : List (Option Value)} {st : List Value} {f : Option (ρ × zSt)} {V : zSV} {i : Nat} {q : Nat × FieldType} (hV : zGV G V) (hi : i < 4) (hq : V i = some q) (d : decode M.2.1 pc = .ok (.getfield 7, 3)) (k : Zq X M Q G cs res S (pc + 3) ls (.ref (G.1 (44 + i)) :: st) f) (hM : M.1 = "HiddenCube$Slot" := by rfl) : Zq X M Q G cs res S pc ls (.ref (G.1 (40 + i)) :: st) f := by
  have h := hV i hi
  rw [hq] at h
  exact zq_get (40 + i) 4 0 h.1 rfl in_X4 (by decide) (by rw [hM]; exact q289) (by rw [h.2.2.1]; rfl) d k
theorem zq_getRowN {ρ : Type} {X : zCx} {M : zMr} {Q : zCx → ρ × zSt → State → Prop} {G : zGw} {cs : Nat × Nat} {res : ρ × zSt} {S : zSt} {pc : Nat} {ls : List (Option Value)} {st : List Value} {f : Option (ρ × zSt)} {V : zSV} {i : Nat} (hV : zGV G V) (hi : i < 4) (hq : V i = none) (d : decode M.2.1 pc = .ok (.getfield 7, 3)) (k : Zq X M Q G cs res S (pc + 3) ls (.null :: st) f) (hM : M.1 = "HiddenCube$Slot" := by rfl) : Zq X M Q G cs res S pc ls (.ref (G.1 (40 + i)) :: st) f := by
  have h := hV i hi
  rw [hq] at h
  exact zq_get (40 + i) 4 0 h.1 rfl in_X4 (by decide) (by rw [hM]; exact q289) (by rw [h.2.2]; rfl) d k
theorem zq_instNull {ρ : Type} {X : zCx} {M : zMr} {Q : zCx → ρ × zSt → State → Prop} {G : zGw} {cs : Nat × Nat} {res : ρ × zSt} {S : zSt} {pc : Nat} {ls : List (Option Value)} {st : List Value} {f : Option (ρ × zSt)} {idx : Nat} (d : decode M.2.1 pc = .ok (.instanceof idx, 3)) (k : Zq X M Q G cs res S (pc + 3) ls (.int 0 :: st) f) : Zq X M Q G cs res S pc ls (.null :: st) f :=
  fun hf ho H locs la hp hl1 hS => lv_instN ho.1 ho.2.1 d (k hf ho H locs la hp hl1 hS)
theorem zq_instNo {ρ : Type} {X : zCx} {M : zMr} {Q : zCx → ρ × zSt → State → Prop} {G : zGw} {cs : Nat × Nat} {res : ρ × zSt} {S : zSt} {pc : Nat} {ls : List (Option Value)} {st : List Value} {f : Option (ρ × zSt)} {idx : Nat} (kp n : Nat) (ty : FieldType) (C nm : String) (hsh : G.2.1 kp = some (.inr (n, ty))) (hnm : ∀ (s : State) (cA : ClassId), va_RA s cA ty → s.vm.findClass C = some cA) (hc : (C, nm) ∈ znC) (hl : Cond.classLink M.1 idx nm ∈ lw_all) (d : decode M.2.1 pc = .ok (.instanceof idx, 3)) (k : Zq X M Q G cs res S (pc + 3) ls (.int 0 :: st) f) : Zq X M Q G cs res S pc ls (.ref (G.1 kp) :: st) f :=
  fun hf ho H locs la hp hl1 hS => va_instNo ho.1 ho.2.1 ho.2.2.2.1 (ho.2.2.2.2.1 _ hl) (ho.2.2.2.2.2.1.1.2.2.1 _ hc) (zarr_rec hp hsh hnm) d (k hf ho H locs la hp hl1 hS)
theorem zq_instYes {ρ : Type} {X : zCx} {M : zMr} {Q : zCx → ρ × zSt → State → Prop} {G : zGw} {cs : Nat × Nat} {res : ρ × zSt} {S : zSt} {pc : Nat} {ls : List (Option Value)} {st : List Value} {f : Option (ρ × zSt)} {idx : Nat} (kp n : Nat) (ty : FieldType) (nm : String) (hsh : G.2.1 kp = some (.inr (n, ty))) (hnm : ∀ (s : State) (cA : ClassId), va_RA s cA ty → s.vm.findClass nm = some cA) (hl : Cond.classLink M.1 idx nm ∈ lw_all) (d : decode M.2.1 pc = .ok (.instanceof idx, 3)) (k : Zq X M Q G cs res S (pc + 3) ls (.int 1 :: st) f) : Zq X M Q G cs res S pc ls (.ref (G.1 kp) :: st) f := by
  intro hf ho H locs la hp hl1 hS
  obtain ⟨cell, h1, h2, h3⟩ := zarr_rec hp hsh hnm
  intro T hT Y
  obtain ⟨vm', X', stp⟩ := Y.instanceofYes ho.1 ho.2.2.2.1 (ho.2.2.2.2.1 _ hl) (by rw [hT]; exact h1) h2 h3 (va_asg _ _) (g := F0 _ pc la (.ref (G.1 kp) :: st)) rfl rfl (by rw [ho.2.1]; exact d)
  obtain ⟨t, a1, b1⟩ := k hf ho H locs la hp hl1 hS (T.setVm vm') hT X'
  exact ⟨t, stp t a1, b1⟩
theorem zq_castArr {ρ : Type} {X : zCx} {M : zMr} {Q : zCx → ρ × zSt → State → Prop} {G : zGw} {cs : Nat × Nat} {res : ρ × zSt} {S : zSt} {pc : Nat} {ls : List (Option Value)} {st : List Value} {f : Option (ρ × zSt)} {idx : Nat} (kp n : Nat) (ty : FieldType) (nm : String) (hsh : G.2.1 kp = some (.inr (n, ty))) (hnm : ∀ (s : State) (cA : ClassId), va_RA s cA ty → s.vm.findClass nm = some cA) (hl : Cond.classLink M.1 idx nm ∈ lw_all) (d : decode M.2.1 pc = .ok (.checkcast idx, 3)) (k : Zq X M Q G cs res S (pc + 3) ls (.ref (G.1 kp) :: st) f) : Zq X M Q G cs res S pc ls (.ref (G.1 kp) :: st) f := by
  intro hf ho H locs la hp hl1 hS
  obtain ⟨cell, h1, h2, h3⟩ := zarr_rec hp hsh hnm
  intro T hT Y
  obtain ⟨vm', X', stp⟩ := Y.checkcastYes ho.1 ho.2.2.2.1 (ho.2.2.2.2.1 _ hl) (by rw [hT]; exact h1) h2 h3 (va_asg _ _) (g := F0 _ pc la (.ref (G.1 kp) :: st)) rfl rfl (by rw [ho.2.1]; exact d)
  obtain ⟨t, a1, b1⟩ := k hf ho H locs la hp hl1 hS (T.setVm vm') hT X'
  exact ⟨t, stp t a1, b1⟩
theorem zq_ifd_eq {ρ : Type} {X : zCx} {M : zMr} {Q : zCx → ρ × zSt → State → Prop} {G : zGw} {cs : Nat × Nat} {res : ρ × zSt} {S : zSt} {pc : Nat} {ls : List (Option Value)} {st : List Value} {f : Option (ρ × zSt)} {a : Int32} {off : Int} (tgt : Nat) (d : decode M.2.1 pc = .ok (.ifCond .eq off, 3)) (ht : (pc : Int) + off = (tgt : Int)) (k1 : (a = 0) → Zq X M Q G cs res S tgt ls st f) (k2 : ¬ (a = 0) → Zq X M Q G cs res S (pc + 3) ls st f) : Zq X M Q G cs res S pc ls (.int a :: st) f :=
  fun hf ho H locs la hp hl hS => lv_if_eq ho.1 ho.2.1 d ht (fun c => k1 c hf ho H locs la hp hl hS) (fun c => k2 c hf ho H locs la hp hl hS)
theorem zq_ifd_ne {ρ : Type} {X : zCx} {M : zMr} {Q : zCx → ρ × zSt → State → Prop} {G : zGw} {cs : Nat × Nat} {res : ρ × zSt} {S : zSt} {pc : Nat} {ls : List (Option Value)} {st : List Value} {f : Option (ρ × zSt)} {a : Int32} {off : Int} (tgt : Nat) (d : decode M.2.1 pc = .ok (.ifCond .ne off, 3)) (ht : (pc : Int) + off = (tgt : Int)) (k1 : ¬ (a = 0) → Zq X M Q G cs res S tgt ls st f) (k2 : (a = 0) → Zq X M Q G cs res S (pc + 3) ls st f) : Zq X M Q G cs res S pc ls (.int a :: st) f :=
  fun hf ho H locs la hp hl hS => lv_if_ne ho.1 ho.2.1 d ht (fun c => k1 c hf ho H locs la hp hl hS) (fun c => k2 c hf ho H locs la hp hl hS)
theorem zq_goto {ρ : Type} {X : zCx} {M : zMr} {Q : zCx → ρ × zSt → State → Prop} {G : zGw} {cs : Nat × Nat} {res : ρ × zSt} {S : zSt} {pc : Nat} {ls : List (Option Value)} {st : List Value} {f : Option (ρ × zSt)} {off : Int} (tgt : Nat) (d : decode M.2.1 pc = .ok (.goto off, 3)) (ht : (pc : Int) + off = (tgt : Int)) (k : Zq X M Q G cs res S tgt ls st f) : Zq X M Q G cs res S pc ls st f :=
  fun hf ho H locs la hp hl hS => lv_goto ho.1 ho.2.1 d ht (k hf ho H locs la hp hl hS)
theorem zq_iconst {ρ : Type} {X : zCx} {M : zMr} {Q : zCx → ρ × zSt → State → Prop} {G : zGw} {cs : Nat × Nat} {res : ρ × zSt} {S : zSt} {pc : Nat} {ls : List (Option Value)} {st : List Value} {f : Option (ρ × zSt)} {n : Int} {v : Int32} (d : decode M.2.1 pc = .ok (.iconst n, 1)) (hv : Int32.ofInt n = v) (k : Zq X M Q G cs res S (pc + 1) ls (.int v :: st) f) : Zq X M Q G cs res S pc ls st f :=
  fun hf ho H locs la hp hl hS => lv_iconst ho.1 ho.2.1 d hv (k hf ho H locs la hp hl hS)
theorem zq_l2i {ρ : Type} {X : zCx} {M : zMr} {Q : zCx → ρ × zSt → State → Prop} {G : zGw} {cs : Nat × Nat} {res : ρ × zSt} {S : zSt} {pc : Nat} {ls : List (Option Value)} {st : List Value} {f : Option (ρ × zSt)} {a : Int64} (d : decode M.2.1 pc = .ok (.l2i, 1)) (k : Zq X M Q G cs res S (pc + 1) ls (.int a.toInt32 :: st) f) : Zq X M Q G cs res S pc ls (.long a :: st) f :=
  fun hf ho H locs la hp hl hS => lv_l2i ho.1 ho.2.1 d rfl (k hf ho H locs la hp hl hS)
theorem zq_i2b {ρ : Type} {X : zCx} {M : zMr} {Q : zCx → ρ × zSt → State → Prop} {G : zGw} {cs : Nat × Nat} {res : ρ × zSt} {S : zSt} {pc : Nat} {ls : List (Option Value)} {st : List Value} {f : Option (ρ × zSt)} {a : Int32} (d : decode M.2.1 pc = .ok (.i2b, 1)) (k : Zq X M Q G cs res S (pc + 1) ls (.int a.toInt8.toInt32 :: st) f) : Zq X M Q G cs res S pc ls (.int a :: st) f :=
  fun hf ho H locs la hp hl hS => lv_i2b ho.1 ho.2.1 d rfl (k hf ho H locs la hp hl hS)
theorem zq_i2s {ρ : Type} {X : zCx} {M : zMr} {Q : zCx → ρ × zSt → State → Prop} {G : zGw} {cs : Nat × Nat} {res : ρ × zSt} {S : zSt} {pc : Nat} {ls : List (Option Value)} {st : List Value} {f : Option (ρ × zSt)} {a : Int32} (d : decode M.2.1 pc = .ok (.i2s, 1)) (k : Zq X M Q G cs res S (pc + 1) ls (.int a.toInt16.toInt32 :: st) f) : Zq X M Q G cs res S pc ls (.int a :: st) f :=
  fun hf ho H locs la hp hl hS => lv_i2s ho.1 ho.2.1 d rfl (k hf ho H locs la hp hl hS)
theorem zq_icmpd_ne {ρ : Type} {X : zCx} {M : zMr} {Q : zCx → ρ × zSt → State → Prop} {G : zGw} {cs : Nat × Nat} {res : ρ × zSt} {S : zSt} {pc : Nat} {ls : List (Option Value)} {st : List Value} {f : Option (ρ × zSt)} {a b : Int32} {off : Int} (tgt : Nat) (d : decode M.2.1 pc = .ok (.if_icmp .ne off, 3)) (ht : (pc : Int) + off = (tgt : Int)) (k1 : ¬ (a = b) → Zq X M Q G cs res S tgt ls st f) (k2 : (a = b) → Zq X M Q G cs res S (pc + 3) ls st f) : Zq X M Q G cs res S pc ls (.int b :: .int a :: st) f :=
  fun hf ho H locs la hp hl hS => lv_icmp_ne ho.1 ho.2.1 d ht (fun c => k1 c hf ho H locs la hp hl hS) (fun c => k2 c hf ho H locs la hp hl hS)
theorem zq_none {ρ : Type} {X : zCx} {M : zMr} {Q : zCx → ρ × zSt → State → Prop} {G : zGw} {cs : Nat × Nat} {res : ρ × zSt} {S : zSt} {pc : Nat} {ls : List (Option Value)} {st : List Value} : Zq X M Q G cs res S pc ls st none := fun hf => by cases hf
theorem zq_castNull {ρ : Type} {X : zCx} {M : zMr} {Q : zCx → ρ × zSt → State → Prop} {G : zGw} {cs : Nat × Nat} {res : ρ × zSt} {S : zSt} {pc : Nat} {ls : List (Option Value)} {st : List Value} {f : Option (ρ × zSt)} {idx : Nat} (d : decode M.2.1 pc = .ok (.checkcast idx, 3)) (k : Zq X M Q G cs res S (pc + 3) ls (.null :: st) f) : Zq X M Q G cs res S pc ls (.null :: st) f :=
  fun hf ho H locs la hp hl1 hS => lv_castN ho.1 ho.2.1 d (k hf ho H locs la hp hl1 hS)
def zXC (E : String) (G : zGw) (S' : zSt) (A : Nat → Prop) : String → State → State → Prop := fun E' st t => E' = E ∧ zhp G S' t t.heap ∧ va_F A st t
def zNo : Array Value → State → Outcome → State → Prop := fun _ _ _ _ => False
/-- the end: E is thrown -/
def zQt (E : String) (M : zMr) (G : zGw) : zCx → Unit × zSt → State → Prop := fun X res =>
  vx_MQ X.2.2.2.2.2.2.2.1 zNo (zXC E G res.2 (zA G X.2.2.2.2.1.heap.size)) X.2.2.2.2.2.2.1 X.2.2.2.2.1 M.2.2.2.2.2.1 M.2.2.2.2.2.2.1 (zA G X.2.2.2.2.1.heap.size)
theorem zt_out {X : zCx} {M : zMr} {E : String} {G : zGw} {k n : Nat} {res : Unit × zSt} {S : zSt} {pc : Nat} {la : Array Slot} {rest : List Value} {H H1 : Heap} {locs : List Loc} {q9 : Addr} {ce : Cell} (ho : zok M G X) (hh : M.2.2.2.2.2.2.2 = none) (hf : some ((), S) = some res) (hp : zhp G S X.2.2.2.2.1 H) (hg : ∀ q : Nat, q < H.size → H1[q]? = H[q]?) (hS : va_S (zA G X.2.2.2.2.1.heap.size) X.2.2.2.2.1.heap H1 locs)
    (hce : H1[q9]? = some ce) (hv : ce.vm = .none) (hcl : X.2.2.2.2.1.vm.findClass E = some ce.cls) (hc : k ≤ M.2.2.2.2.2.1) (hs : n ≤ M.2.2.2.2.2.2.1) :
    vx_W X.1 X.2.1 X.2.2.1 X.2.2.2.1 X.2.2.2.2.1 X.2.2.2.2.2.1 X.2.2.2.2.2.2.1 X.2.2.2.2.2.2.2.1 X.2.2.2.2.2.2.2.2.1 X.2.2.2.2.2.2.2.2.2 H1 locs k n (zQt E M G X res) (F0 X.2.2.2.2.2.1 pc la rest) q9 := by
  cases hf
  refine vx_out (fun x hx => ?_) ho.2.2.2.2.2.2.1 hce hv hcl (fun t ht hA => ⟨rfl, ?_, hS.F ht⟩) hS.2.2 hc hs
  · have h := ho.2.2.2.2.2.1.2.2.2
    unfold zhh at h
    rw [hh] at h
    rw [h] at hx
    cases hx
  · rw [ht]
    exact zhp_moved hA (zhp_grow hg hp)
theorem zt_npe {X : zCx} {M : zMr} {G : zGw} {cs : Nat × Nat} {res : Unit × zSt} {S : zSt} {pc : Nat} {ls : List (Option Value)} {la : Array Slot} {rest : List Value} {H : Heap} {locs : List Loc} (ho : zok M G X) (hh : M.2.2.2.2.2.2.2 = none) (hf : some ((), S) = some res) (hp : zhp G S X.2.2.2.2.1 H) (hl : zlv la M.2.2.1 ls) (hS : va_S (zA G X.2.2.2.2.1.heap.size) X.2.2.2.2.1.heap H locs)
    (hd : 170 ≤ M.2.2.2.2.1) (hcat : (rest.map fun v => v.category).sum ≤ 8) (hc : cs.1 + 1 ≤ M.2.2.2.2.2.1) (hs : cs.2 + 8 ≤ M.2.2.2.2.2.2.1) :
    vx_NoteN X.1 X.2.1 X.2.2.1 X.2.2.2.1 X.2.2.2.2.1 X.2.2.2.2.2.1 X.2.2.2.2.2.2.1 X.2.2.2.2.2.2.2.1 X.2.2.2.2.2.2.2.2.1 X.2.2.2.2.2.2.2.2.2 H locs cs.1 cs.2 (zQt "java/lang/NullPointerException" M G X res) (F0 X.2.2.2.2.2.1 pc la rest) := by
  have hR : X.2.2.2.1 = zRm M := ho.2.2.2.2.2.2.2.2.2.2
  refine vx_npe (nb := 8) (A := zA G X.2.2.2.2.1.heap.size) ho.1 ho.2.2.2.2.2.1.2.2.1 (zw_npe ho.2.2.2.2.1 ho.2.2.2.2.2.1.1) zg_npe ho.2.2.2.2.2.1.2.1.1 ho.2.2.2.2.2.1.2.1.2 hS (hl.1.trans ho.2.2.1.symm) ?_ ?_ ?_ ?_ ho.2.2.2.2.2.2.1 (fun H1 q9 ce h1 h2 h3 h4 h5 h6 => zt_out ho hh hf hp h2 h3 h4 h5 h6 hc hs)
  · rw [hR]; show 7 < M.2.2.2.2.1; omega
  · rw [hR]; show _ ≤ 64 * M.2.2.2.2.1; omega
  · rw [hR]; exact hc
  · rw [hR]; exact hs
theorem zt_aio {X : zCx} {M : zMr} {G : zGw} {cs : Nat × Nat} {res : Unit × zSt} {S : zSt} {pc : Nat} {ls : List (Option Value)} {la : Array Slot} {rest : List Value} {H : Heap} {locs : List Loc} {i : Int32} {n : Nat} (hn : n < 2 ^ 31) (ho : zok M G X) (hh : M.2.2.2.2.2.2.2 = none) (hf : some ((), S) = some res) (hp : zhp G S X.2.2.2.2.1 H) (hl : zlv la M.2.2.1 ls) (hS : va_S (zA G X.2.2.2.2.1.heap.size) X.2.2.2.2.1.heap H locs)
    (hd : 170 ≤ M.2.2.2.2.1) (hcat : (rest.map fun v => v.category).sum ≤ 8) (hc : cs.1 + 3 ≤ M.2.2.2.2.2.1) (hs : cs.2 + 222 ≤ M.2.2.2.2.2.2.1) :
    vx_Note X.1 X.2.1 X.2.2.1 X.2.2.2.1 X.2.2.2.2.1 X.2.2.2.2.2.1 X.2.2.2.2.2.2.1 X.2.2.2.2.2.2.2.1 X.2.2.2.2.2.2.2.2.1 X.2.2.2.2.2.2.2.2.2 H locs cs.1 cs.2 (zQt "java/lang/ArrayIndexOutOfBoundsException" M G X res) (F0 X.2.2.2.2.2.1 pc la rest) "java/lang/ArrayIndexOutOfBoundsException" (toString "Index " ++ toString i ++ toString " out of bounds for length " ++ toString n : String) := by
  have hR : X.2.2.2.1 = zRm M := ho.2.2.2.2.2.2.2.2.2.2
  refine vx_vm (nb := 212) (A := zA G X.2.2.2.2.1.heap.size) (names := ["java/lang/IndexOutOfBoundsException", "java/lang/RuntimeException", "java/lang/Exception"]) ho.1 ho.2.2.2.2.2.1.2.2.1 (by decide +kernel) (by decide +kernel) (by decide +kernel) (by decide +kernel) (zw_aio ho.2.2.2.2.1 ho.2.2.2.2.2.1.1) zg_aio ho.2.2.2.2.2.1.2.1.1 ho.2.2.2.2.2.1.2.1.2 hS (hl.1.trans ho.2.2.1.symm) (index_text_modelled i n) (index_text_bytes i hn) (by decide) ?_ ?_ (by decide) ?_ ?_ ho.2.2.2.2.2.2.1 (fun H1 q9 ce h1 h2 h3 h4 h5 h6 => zt_out ho hh hf hp h2 h3 h4 h5 h6 hc hs)
  · rw [hR]; show _ < M.2.2.2.2.1; simp only [List.length_cons, List.length_nil]; omega
  · rw [hR]; show _ ≤ 64 * M.2.2.2.2.1; omega
  · rw [hR]; exact hc
  · rw [hR]; exact hs
theorem zt_nas {X : zCx} {M : zMr} {G : zGw} {cs : Nat × Nat} {res : Unit × zSt} {S : zSt} {pc : Nat} {ls : List (Option Value)} {la : Array Slot} {rest : List Value} {H : Heap} {locs : List Loc} {n : Int32} (hn : n < 0) (ho : zok M G X) (hh : M.2.2.2.2.2.2.2 = none) (hf : some ((), S) = some res) (hp : zhp G S X.2.2.2.2.1 H) (hl : zlv la M.2.2.1 ls) (hS : va_S (zA G X.2.2.2.2.1.heap.size) X.2.2.2.2.1.heap H locs)
    (hd : 170 ≤ M.2.2.2.2.1) (hcat : (rest.map fun v => v.category).sum ≤ 8) (hc : cs.1 + 3 ≤ M.2.2.2.2.2.1) (hs : cs.2 + 54 ≤ M.2.2.2.2.2.2.1) :
    vx_Note X.1 X.2.1 X.2.2.1 X.2.2.2.1 X.2.2.2.2.1 X.2.2.2.2.2.1 X.2.2.2.2.2.2.1 X.2.2.2.2.2.2.2.1 X.2.2.2.2.2.2.2.2.1 X.2.2.2.2.2.2.2.2.2 H locs cs.1 cs.2 (zQt "java/lang/NegativeArraySizeException" M G X res) (F0 X.2.2.2.2.2.1 pc la rest) "java/lang/NegativeArraySizeException" (toString n : String) := by
  have hR : X.2.2.2.1 = zRm M := ho.2.2.2.2.2.2.2.2.2.2
  refine vx_vm (nb := 44) (A := zA G X.2.2.2.2.1.heap.size) (names := ["java/lang/RuntimeException", "java/lang/Exception"]) ho.1 ho.2.2.2.2.2.1.2.2.1 (by decide +kernel) (by decide +kernel) (by decide +kernel) (by decide +kernel) (zw_nas ho.2.2.2.2.1 ho.2.2.2.2.2.1.1) zg_nas ho.2.2.2.2.2.1.2.1.1 ho.2.2.2.2.2.1.2.1.2 hS (hl.1.trans ho.2.2.1.symm) (negative_text_modelled hn) (negative_text_bytes n) (by decide) ?_ ?_ (by decide) ?_ ?_ ho.2.2.2.2.2.2.1 (fun H1 q9 ce h1 h2 h3 h4 h5 h6 => zt_out ho hh hf hp h2 h3 h4 h5 h6 hc hs)
  · rw [hR]; show _ < M.2.2.2.2.1; simp only [List.length_cons, List.length_nil]; omega
  · rw [hR]; show _ ≤ 64 * M.2.2.2.2.1; omega
  · rw [hR]; exact hc
  · rw [hR]; exact hs
/-- a contract: the method throws E -/
def Zx (M : zMr) (y : MethodName) (E : String) (G : zGw) (As : List Value) (F : zSt → Option (Unit × zSt)) : Prop :=
  ∀ (l : Launch) (S : zSt) (res : Unit × zSt) (sz : Nat), l.stackTraces = false → F S = some res → vx_Met l y (zcw M y :: lw_all) (zRm M) (va_Pc As (fun U => U.heap.size = sz ∧ zhp G S U U.heap ∧ zkn G U ∧ zNW U ∧ zap G ∧ zEnv (zA G sz) U U.heap)) zNo (zXC E G res.2 (zA G sz)) M.2.2.2.2.2.1 M.2.2.2.2.2.2.1 (zA G sz)
theorem Zx_of {M : zMr} {y : MethodName} {E : String} {G : zGw} {As : List Value} {F : zSt → Option (Unit × zSt)} (ls0 : List (Option Value)) (hy : plainName y.cls = true) (hM : M.1 = y.cls) (hH : M.2.2.2.2.2.2.2 = none) (hlen : (lg_sl As).length ≤ M.2.2.1) (hls : l0 M.2.2.1 (lv_args 0 As) = ls0) (h : ∀ X S res, Zq X M (zQt E M G) G (0, 0) res S 0 ls0 [] (F S)) : Zx M y E G As F := by
  intro l S res sz hfl hF
  have hcw : zcw M y = Cond.code y M.2.1 M.2.2.1 M.2.2.2.1 := by unfold zcw; rw [hH]
  rw [hcw]
  refine vx_ofW (cc := M.2.1) (maxL := M.2.2.1) (ret := M.2.2.2.1) hy rfl ?_
  intro p e s m args below meth c s₁ B hml htab hv
  obtain ⟨rfl, hsz, hP, hK, hN, hA, hE⟩ := hv
  have hts := atoms_spec (ws := ws_ y M.2.1 M.2.2.1 M.2.2.2.1) B.pre
  have hts : ∀ w ∈ lw_all, w.before As.toArray s = true := fun w h => hts w (List.mem_cons_of_mem _ h)
  have hown : s.vm.findClass M.1 = some m.cls := by rw [hM]; exact findClass_of_methodNamed B.named
  subst hsz
  have hl := lv_entry As (n := M.2.2.1) hlen
  rw [lg_entry_eq]
  generalize (lg_sl As ++ List.replicate (M.2.2.1 - (lg_sl As).length) Slot.unset).toArray = la at hl ⊢
  have hx : zok M G (p, l, e, zRm M, s, m, As.toArray, below, meth, c) := ⟨B.exec, B.bytes, hml, hown, hts, ⟨hN, hE, hfl, by
    obtain ⟨meth9, c9, h1, h2, -, -, -, -, h7, -⟩ := Cond.code_spec B.named (atoms_spec (ws := ws_ y M.2.1 M.2.2.1 M.2.2.2.1) B.pre _ List.mem_cons_self)
    cases Option.some.inj (h1.symm.trans B.method)
    cases Option.some.inj (h2.symm.trans (Stand.of_body B).code)
    rw [Array.isEmpty_iff.mp h7]
    unfold zhh
    rw [hH]
    rfl⟩, B.notSynchronized, B.returns, hK, hA, rfl⟩
  refine h (p, l, e, zRm M, s, m, As.toArray, below, meth, c) S res hF hx s.heap [] la hP ⟨hl.1, hl.2.1, fun i v hi => ?_⟩ va_S.rf
  subst hls
  unfold l0 at hi
  rw [List.getElem?_map] at hi
  obtain ⟨q, hq1, hq2⟩ := Option.map_eq_some_iff.mp hi
  have hq : q = i := by
    have := List.getElem?_eq_some_iff.mp hq1
    obtain ⟨h3, h4⟩ := this
    rw [List.getElem_range] at h4
    exact h4.symm
  subst hq
  exact hl.2.2 (q, v) (List.mem_iff_getElem?.mpr (by
    have : (q, v) ∈ lv_args 0 As := by
      revert hq2
      generalize lv_args 0 As = L
      induction L with
      | nil => intro h; cases h
      | cons a t ih =>
        intro h
        obtain ⟨a1, a2⟩ := a
        rw [List.lookup_cons] at h
        split at h
        · rename_i hb
          have e1 : q = a1 := by simpa using hb
          cases h
          rw [e1]
          exact List.mem_cons_self
        · exact List.mem_cons_of_mem _ (ih h)
    exact List.getElem?_of_mem this))
theorem zt_after {p : Program} {l : Launch} {e : Env} {R : Room} {s : State} {m : MethodId} {args : Array Value} {below : List Frame} {meth : Method} {c : Code} {H : Heap} {locs : List Loc} {Q : State → Prop} {pc : Nat} {la : Array Slot} {rest st : List Value} {a : Array Value} {G : zGw} {E : String} {S' : zSt} {cells slots mc ms : Nat}
    (hr : vx_Run p l e R s m args below meth c H locs cells slots mc ms (F0 m pc la st) rest (zNo a) (zXC E G S' (zA G H.size)) (zA G H.size)) (hS : va_S (zA G s.heap.size) s.heap H locs)
    (kx : ∀ (H1 : Heap) (locs1 : List Loc) (q : Addr) (ce : Cell), zhp G S' s H1 → va_S (zA G s.heap.size) s.heap H1 locs1 → H1[q]? = some ce → ce.vm = .none → s.vm.findClass E = some ce.cls → vx_W p l e R s m args below meth c H1 locs1 (cells + mc) (slots + ms) Q (F0 m pc la rest) q) : W p l e R s m args below meth c H locs cells slots Q (F0 m pc la st) := by
  intro T hT X
  rcases hr T hT X with ⟨v, st₀, t, T', L, h0, X', hL, e1, e2, hno, stp⟩ | ⟨q, st₀, t, T', L, E', ce, h0, X', hL, e1, e2, ⟨hE, hz, hF1, hF2⟩, hce, hcv, hcl, stp⟩
  · exact hno.elim
  · subst hE
    rw [h0] at hF1 hF2
    have hsub : ∀ q, zA G H.size q → zA G s.heap.size q := fun q hq => zA_sub hS.1 hq
    have hal : t.vm.Alike s.vm := by rw [← e2]; exact X'.warmed.alike.symm
    obtain ⟨t2, a1, b1⟩ := kx T'.heap (locs ++ L) q ce (by rw [e1]; exact zhp_moved hal hz) ⟨Nat.le_trans hS.1 (by rw [e1]; exact hF1), fun q h1 h2 => by
        rw [e1, hF2 q (Nat.lt_of_lt_of_le h1 hS.1) (fun z => h2 (hsub q z))]
        exact hS.2.1 q h1 h2, fun q hq => by
        rcases List.mem_append.mp hq with h | h
        · exact hS.2.2 q h
        · exact hsub _ (hL q h)⟩ (by rw [e1]; exact hce) hcv hcl T' rfl X'
    exact ⟨t2, stp.trans a1, b1⟩
/-- the callee throws E, and the row x of this method's table takes it -/
theorem z_callVt {ρ : Type} {X : zCx} {M : zMr} {inj : ρ → Option Value} {G : zGw} {cs : Nat × Nat} {res : ρ × zSt} {S : zSt} {pc : Nat} {ls : List (Option Value)} {Mc : zMr} {yc : MethodName} {E : String} {Fc : zSt → Option (Unit × zSt)} {f : Option (ρ × zSt)} {S' : zSt} {idx : Nat} {st : List Value} (As rest : List Value) (kp ci : Nat) (hct : Zx Mc yc E G (.ref (G.1 kp) :: As) Fc) (hF : Fc S = some ((), S')) (hmv : ZV Mc yc As.length) (hl : Cond.methodLink M.1 idx yc ∈ lw_all) (hst : st = As.reverse ++ .ref (G.1 kp) :: rest) (hsh : G.2.1 kp = some (.inl ci)) (hcn : (zcl[ci]?).map Prod.fst = some Mc.1) (hd : Mc.2.2.2.2.1 + 1 ≤ M.2.2.2.2.1) (hL : Mc.2.2.1 ≤ 45) (hz : Mc.2.2.2.2.2.2.2 = none) (hq1 : cs.1 + Mc.2.2.2.2.2.1 ≤ M.2.2.2.2.2.1) (hq2 : cs.2 + Mc.2.2.2.2.2.2.1 ≤ M.2.2.2.2.2.2.1) (hcat : (rest.map fun v => v.category).sum ≤ 8) (d : decode M.2.1 pc = .ok (.invokevirtual idx, 3))
    (name : String) (pre : List ExceptionTableEntry) (x : ExceptionTableEntry) (suf : List ExceptionTableEntry) (hsp : tableOf (zhh M) = pre ++ x :: suf) (hpass : ∀ z ∈ pre, covers z pc = false ∨ (z.catchType ≠ 0 ∧ ∃ nm : String, Cond.classLink M.1 z.catchType nm ∈ lw_all ∧ (E, nm) ∈ znC)) (hx : covers x pc = true) (h0 : x.catchType ≠ 0) (hlink : Cond.classLink M.1 x.catchType name ∈ lw_all) (hcast : (E, name) ∈ znY)
    (kk : ∀ q : Nat, Zm X M inj G (cs.1 + Mc.2.2.2.2.2.1, cs.2 + Mc.2.2.2.2.2.2.1) res S' x.handlerPc ls [.ref q] f) : Zm X M inj G cs res S pc ls st f := by
  intro hf ho H locs la hp hl1 hS
  obtain ⟨p, l, e, R, s, m, args, below, meth, c⟩ := X
  have hR : R = zRm M := ho.2.2.2.2.2.2.2.2.2.2
  subst hR
  have hcwc : zcw Mc yc = Cond.code yc Mc.2.1 Mc.2.2.1 Mc.2.2.2.1 := by unfold zcw; rw [hz]
  have hctl := hct l S ((), S') H.size ho.2.2.2.2.2.1.2.2.1 hF
  rw [hcwc] at hctl
  subst hst
  obtain ⟨m1, m2, m3, m4, m5, m6, m7, m8⟩ := hmv
  obtain ⟨q, hq3, hq4⟩ := Option.map_eq_some_iff.mp hcn
  obtain ⟨C, T9, N9⟩ := q
  have hC : C = Mc.1 := hq4
  subst hC
  have hob := zhp_obj hp hsh hq3
  have hkn := ho.2.2.2.2.2.2.2.2.1
  have hrec : ∃ cell : Cell, H[G.1 kp]? = some cell ∧ cell.vm.isStatics = false ∧ s.vm.findClass Mc.1 = some cell.cls := by
    obtain ⟨cell, g1, g2, g3, -⟩ := hob
    exact ⟨cell, g1, by rw [g3]; rfl, by rw [g2]; exact (hkn ci _ hq3).2.1⟩
  refine zt_after (vx_runV (As := As) (rest := rest) ⟨ho.1, ho.2.1, ho.2.2.1, ho.2.2.2.1, ho.2.2.2.2.1⟩ hctl (cwV As.length ho.2.2.2.2.1 (lw_V hl m1 m2 m3 m4) rfl rfl rfl ⟨m5, m6, m7, m8⟩ (z_room hd hL)) ⟨z_blind, hrec, z_pre hp hkn ho.2.2.2.2.2.1.1 ho.2.2.2.2.2.2.2.2.2.1 ho.2.2.2.2.2.1.2.1 hS⟩ rfl rfl hl1.1 rfl (lv_room hcat) d ⟨hq1, hq2⟩) hS ?_
  intro H1 locs1 q9 ce hp1 hS1 hce hcv hcl
  refine vx_catch (own := M.1) (name := name) ho.2.2.2.1 pre x suf (ho.2.2.2.2.2.1.2.2.2.trans hsp) (fun z hz9 => ?_) hx h0 (ho.2.2.2.2.1 _ hlink) ((ho.2.2.2.2.2.1.1.2.2.2.1 _ hcast).use rfl) hce hcv hcl (kk q9 hf ho H1 locs1 la hp1 hl1 hS1)
  rcases hpass z hz9 with h | ⟨h1, nm, h2, h3⟩
  · exact Or.inl h
  · exact Or.inr ⟨h1, nm, ho.2.2.2.2.1 _ h2, ho.2.2.2.2.2.1.1.2.2.1 _ h3⟩
theorem zt_alenN {X : zCx} {M : zMr} {G : zGw} {cs : Nat × Nat} {res : Unit × zSt} {S : zSt} {pc : Nat} {ls : List (Option Value)} {st : List Value} (hh : M.2.2.2.2.2.2.2 = none) (hd : 170 ≤ M.2.2.2.2.1) (hcat : (st.map fun v => v.category).sum ≤ 8) (hc : cs.1 + 1 ≤ M.2.2.2.2.2.1) (hs : cs.2 + 8 ≤ M.2.2.2.2.2.2.1) (d : decode M.2.1 pc = .ok (.arraylength, 1)) : Zq X M (zQt "java/lang/NullPointerException" M G) G cs res S pc ls (.null :: st) (some ((), S)) :=
  fun hf ho _ _ _ hp hl hS => vx_arraylengthN ho.1 ho.2.1 d (zt_npe ho hh hf hp hl hS hd hcat hc hs)
theorem zt_lastoreN {X : zCx} {M : zMr} {G : zGw} {cs : Nat × Nat} {res : Unit × zSt} {S : zSt} {pc : Nat} {ls : List (Option Value)} {st : List Value} {x : Int64} {i : Int32} (hh : M.2.2.2.2.2.2.2 = none) (hd : 170 ≤ M.2.2.2.2.1) (hcat : (st.map fun v => v.category).sum ≤ 8) (hc : cs.1 + 1 ≤ M.2.2.2.2.2.1) (hs : cs.2 + 8 ≤ M.2.2.2.2.2.2.1) (d : decode M.2.1 pc = .ok (.lastore, 1)) : Zq X M (zQt "java/lang/NullPointerException" M G) G cs res S pc ls (.long x :: .int i :: .null :: st) (some ((), S)) :=
  fun hf ho _ _ _ hp hl hS => vx_lastoreN ho.1 ho.2.1 d (zt_npe ho hh hf hp hl hS hd hcat hc hs)
abbrev mX4_sizeT : zMr := ("HiddenCube$Slot", cX4_size, 1, some .int, 170, 1, 8, none)
abbrev mX4_putT : zMr := ("HiddenCube$Slot", cX4_put, 4, none, 170, 3, 222, none)
abbrev mX4_putN : zMr := ("HiddenCube$Slot", cX4_put, 4, none, 170, 1, 8, none)
theorem mv_X4_sizeT : ZV mX4_sizeT yX4_size 0 := mv_X4_size
theorem mv_X4_putT : ZV mX4_putT yX4_put 2 := mv_X4_put
theorem mv_X4_putN : ZV mX4_putN yX4_put 2 := mv_X4_put
theorem cx_X4_size {G : zGw} {V : zSV} {i : Nat} (hV : zGV G V) (hi : i < 4) (hq : V i = none) : Zx mX4_sizeT yX4_size "java/lang/NullPointerException" G [.ref (G.1 (40 + i))] (fun S => some ((), S)) := by
  refine Zx_of [some (.ref (G.1 (40 + i)))] (by decide) rfl rfl (Nat.le_of_ble_eq_true rfl) rfl (fun X S res => ?_)
  refine zq_aload_n (pc := 0) 0 dX4_size_0 rfl rfl ?_
  refine zq_getRowN (pc := 1) hV hi hq dX4_size_1 ?_
  refine zq_instNull (pc := 4) dX4_size_4 ?_
  refine zq_ifd_eq (pc := 7) 21 dX4_size_7 rfl (fun _ => ?_) (fun c => absurd rfl c)
  refine zq_aload_n (pc := 21) 0 dX4_size_21 rfl rfl ?_
  refine zq_getRowN (pc := 22) hV hi hq dX4_size_22 ?_
  refine zq_instNull (pc := 25) dX4_size_25 ?_
  refine zq_ifd_eq (pc := 28) 42 dX4_size_28 rfl (fun _ => ?_) (fun c => absurd rfl c)
  refine zq_aload_n (pc := 42) 0 dX4_size_42 rfl rfl ?_
  refine zq_getRowN (pc := 43) hV hi hq dX4_size_43 ?_
  refine zq_instNull (pc := 46) dX4_size_46 ?_
  refine zq_ifd_eq (pc := 49) 63 dX4_size_49 rfl (fun _ => ?_) (fun c => absurd rfl c)
  refine zq_aload_n (pc := 63) 0 dX4_size_63 rfl rfl ?_
  refine zq_getRowN (pc := 64) hV hi hq dX4_size_64 ?_
  refine zq_castNull (pc := 67) dX4_size_67 ?_
  exact zt_alenN rfl (Nat.le_refl _) (by decide) (Nat.le_refl _) (Nat.le_refl _) dX4_size_70
theorem cx_X4_putN {G : zGw} {V : zSV} {i : Nat} (hV : zGV G V) (hi : i < 4) (hq : V i = none) (a1 : Int32) (a2 : Int64) : Zx mX4_putN yX4_put "java/lang/NullPointerException" G [.ref (G.1 (40 + i)), .int a1, .long a2] (fun S => some ((), S)) := by
  refine Zx_of [some (.ref (G.1 (40 + i))), some (.int a1), some (.long a2), none] (by decide) rfl rfl (Nat.le_of_ble_eq_true rfl) rfl (fun X S res => ?_)
  refine zq_aload_n (pc := 0) 0 dX4_put_0 rfl rfl ?_
  refine zq_getRowN (pc := 1) hV hi hq dX4_put_1 ?_
  refine zq_instNull (pc := 4) dX4_put_4 ?_
  refine zq_ifd_eq (pc := 7) 25 dX4_put_7 rfl (fun _ => ?_) (fun c => absurd rfl c)
  refine zq_aload_n (pc := 25) 0 dX4_put_25 rfl rfl ?_
  refine zq_getRowN (pc := 26) hV hi hq dX4_put_26 ?_
  refine zq_instNull (pc := 29) dX4_put_29 ?_
  refine zq_ifd_eq (pc := 32) 50 dX4_put_32 rfl (fun _ => ?_) (fun c => absurd rfl c)
  refine zq_aload_n (pc := 50) 0 dX4_put_50 rfl rfl ?_
  refine zq_getRowN (pc := 51) hV hi hq dX4_put_51 ?_
  refine zq_instNull (pc := 54) dX4_put_54 ?_
  refine zq_ifd_eq (pc := 57) 74 dX4_put_57 rfl (fun _ => ?_) (fun c => absurd rfl c)
  refine zq_aload_n (pc := 74) 0 dX4_put_74 rfl rfl ?_
  refine zq_getRowN (pc := 75) hV hi hq dX4_put_75 ?_
  refine zq_castNull (pc := 78) dX4_put_78 ?_
  refine zq_iload_n (pc := 81) 1 dX4_put_81 rfl rfl ?_
  refine zq_lload_n (pc := 82) 2 dX4_put_82 rfl rfl ?_
  exact zt_lastoreN rfl (Nat.le_refl _) (by decide) (Nat.le_refl _) (Nat.le_refl _) dX4_put_83
theorem zt_iastoreO {X : zCx} {M : zMr} {G : zGw} {cs : Nat × Nat} {res : Unit × zSt} {S : zSt} {pc : Nat} {ls : List (Option Value)} {st : List Value} {x : Int32} {i : Int32} (kp n : Nat) (hsh : G.2.1 kp = some (.inr (n, .int))) (hn : n ≤ 60) (hout : ¬ vp_in i n) (hh : M.2.2.2.2.2.2.2 = none) (hd : 170 ≤ M.2.2.2.2.1) (hcat : (st.map fun v => v.category).sum ≤ 8) (hc : cs.1 + 3 ≤ M.2.2.2.2.2.1) (hs : cs.2 + 222 ≤ M.2.2.2.2.2.2.1) (d : decode M.2.1 pc = .ok (.iastore, 1)) : Zq X M (zQt "java/lang/ArrayIndexOutOfBoundsException" M G) G cs res S pc ls (.int x :: .int i :: .ref (G.1 kp) :: st) (some ((), S)) := by
  intro hf ho H locs la hp hl hS
  obtain ⟨cA, r1, r2, r3⟩ := zhp_arr hp hsh
  intro T hT Y
  obtain ⟨t, stp, q⟩ := zt_aio (pc := pc) (rest := st) (i := i) (n := n) (by omega) ho hh hf hp hl hS hd hcat hc hs T hT Y
  refine ⟨t, ?_, q⟩
  have h1 := Y.iastoreOut ho.1 (by rw [hT]; exact r1) (r2 n _) (j := i) (by show (i < 0 ∨ (arrV _ _ _).slots.size ≤ _); rw [arrV_size]; exact Classical.byContradiction hout) (g := F0 _ pc la (.int x :: .int i :: .ref (G.1 kp) :: st)) rfl (rest := st) rfl (by rw [ho.2.1]; exact d) t
  simp only [arrV_size] at h1
  exact h1 stp
theorem zt_bastoreO {X : zCx} {M : zMr} {G : zGw} {cs : Nat × Nat} {res : Unit × zSt} {S : zSt} {pc : Nat} {ls : List (Option Value)} {st : List Value} {x : Int32} {i : Int32} (kp n : Nat) (hsh : G.2.1 kp = some (.inr (n, .byte))) (hn : n ≤ 60) (hout : ¬ vp_in i n) (hh : M.2.2.2.2.2.2.2 = none) (hd : 170 ≤ M.2.2.2.2.1) (hcat : (st.map fun v => v.category).sum ≤ 8) (hc : cs.1 + 3 ≤ M.2.2.2.2.2.1) (hs : cs.2 + 222 ≤ M.2.2.2.2.2.2.1) (d : decode M.2.1 pc = .ok (.bastore, 1)) : Zq X M (zQt "java/lang/ArrayIndexOutOfBoundsException" M G) G cs res S pc ls (.int x :: .int i :: .ref (G.1 kp) :: st) (some ((), S)) := by
  intro hf ho H locs la hp hl hS
  obtain ⟨cA, r1, r2, r3⟩ := zhp_arr hp hsh
  intro T hT Y
  obtain ⟨t, stp, q⟩ := zt_aio (pc := pc) (rest := st) (i := i) (n := n) (by omega) ho hh hf hp hl hS hd hcat hc hs T hT Y
  refine ⟨t, ?_, q⟩
  have h1 := Y.bastoreOut ho.1 (by rw [hT]; exact r1) (r2 n _) (j := i) (by show (i < 0 ∨ (arrV _ _ _).slots.size ≤ _); rw [arrV_size]; exact Classical.byContradiction hout) (g := F0 _ pc la (.int x :: .int i :: .ref (G.1 kp) :: st)) rfl (rest := st) rfl (by rw [ho.2.1]; exact d) t
  simp only [arrV_size] at h1
  exact h1 stp
theorem zt_sastoreO {X : zCx} {M : zMr} {G : zGw} {cs : Nat × Nat} {res : Unit × zSt} {S : zSt} {pc : Nat} {ls : List (Option Value)} {st : List Value} {x : Int32} {i : Int32} (kp n : Nat) (hsh : G.2.1 kp = some (.inr (n, .short))) (hn : n ≤ 60) (hout : ¬ vp_in i n) (hh : M.2.2.2.2.2.2.2 = none) (hd : 170 ≤ M.2.2.2.2.1) (hcat : (st.map fun v => v.category).sum ≤ 8) (hc : cs.1 + 3 ≤ M.2.2.2.2.2.1) (hs : cs.2 + 222 ≤ M.2.2.2.2.2.2.1) (d : decode M.2.1 pc = .ok (.sastore, 1)) : Zq X M (zQt "java/lang/ArrayIndexOutOfBoundsException" M G) G cs res S pc ls (.int x :: .int i :: .ref (G.1 kp) :: st) (some ((), S)) := by
  intro hf ho H locs la hp hl hS
  obtain ⟨cA, r1, r2, r3⟩ := zhp_arr hp hsh
  intro T hT Y
  obtain ⟨t, stp, q⟩ := zt_aio (pc := pc) (rest := st) (i := i) (n := n) (by omega) ho hh hf hp hl hS hd hcat hc hs T hT Y
  refine ⟨t, ?_, q⟩
  have h1 := Y.sastoreOut ho.1 (by rw [hT]; exact r1) (r2 n _) (j := i) (by show (i < 0 ∨ (arrV _ _ _).slots.size ≤ _); rw [arrV_size]; exact Classical.byContradiction hout) (g := F0 _ pc la (.int x :: .int i :: .ref (G.1 kp) :: st)) rfl (rest := st) rfl (by rw [ho.2.1]; exact d) t
  simp only [arrV_size] at h1
  exact h1 stp
theorem zt_lastoreO {X : zCx} {M : zMr} {G : zGw} {cs : Nat × Nat} {res : Unit × zSt} {S : zSt} {pc : Nat} {ls : List (Option Value)} {st : List Value} {x : Int64} {i : Int32} (kp n : Nat) (hsh : G.2.1 kp = some (.inr (n, .long))) (hn : n ≤ 60) (hout : ¬ vp_in i n) (hh : M.2.2.2.2.2.2.2 = none) (hd : 170 ≤ M.2.2.2.2.1) (hcat : (st.map fun v => v.category).sum ≤ 8) (hc : cs.1 + 3 ≤ M.2.2.2.2.2.1) (hs : cs.2 + 222 ≤ M.2.2.2.2.2.2.1) (d : decode M.2.1 pc = .ok (.lastore, 1)) : Zq X M (zQt "java/lang/ArrayIndexOutOfBoundsException" M G) G cs res S pc ls (.long x :: .int i :: .ref (G.1 kp) :: st) (some ((), S)) := by
  intro hf ho H locs la hp hl hS
  obtain ⟨cA, r1, r2, r3⟩ := zhp_arr hp hsh
  intro T hT Y
  obtain ⟨t, stp, q⟩ := zt_aio (pc := pc) (rest := st) (i := i) (n := n) (by omega) ho hh hf hp hl hS hd hcat hc hs T hT Y
  refine ⟨t, ?_, q⟩
  have h1 := Y.lastoreOut ho.1 (by rw [hT]; exact r1) (r2 n _) (j := i) (by show (i < 0 ∨ (arrV _ _ _).slots.size ≤ _); rw [arrV_size]; exact Classical.byContradiction hout) (g := F0 _ pc la (.long x :: .int i :: .ref (G.1 kp) :: st)) rfl (rest := st) rfl (by rw [ho.2.1]; exact d) t
  simp only [arrV_size] at h1
  exact h1 stp
theorem cx_X4_putT {G : zGw} {V : zSV} {i n : Nat} {ty : FieldType} (hV : zGV G V) (hi : i < 4) (hq : V i = some (n, ty)) (a1 : Int32) (a2 : Int64) (hout : ¬ vp_in a1 n) : Zx mX4_putT yX4_put "java/lang/ArrayIndexOutOfBoundsException" G [.ref (G.1 (40 + i)), .int a1, .long a2] (fun S => some ((), S)) := by
  refine Zx_of [some (.ref (G.1 (40 + i))), some (.int a1), some (.long a2), none] (by decide) rfl rfl (Nat.le_of_ble_eq_true rfl) rfl (fun X S res => ?_)
  have h := hV i hi
  rw [hq] at h
  obtain ⟨-, -, -, hsh, hty, hn⟩ := h
  rcases hty with e | e | e | e
  · have e : ty = .byte := e
    subst e
    refine zq_aload_n (pc := 0) 0 dX4_put_0 rfl rfl ?_
    refine zq_getRow (pc := 1) hV hi hq dX4_put_1 ?_
    refine zq_instYes (pc := 4) (44 + i) n .byte "[B" hsh znmB q1128 dX4_put_4 ?_
    refine zq_ifd_eq (pc := 7) 25 dX4_put_7 rfl (fun c => absurd c (by decide)) (fun _ => ?_)
    refine zq_aload_n (pc := 10) 0 dX4_put_10 rfl rfl ?_
    refine zq_getRow (pc := 11) hV hi hq dX4_put_11 ?_
    refine zq_castArr (pc := 14) (44 + i) n .byte "[B" hsh znmB q1128 dX4_put_14 ?_
    refine zq_iload_n (pc := 17) 1 dX4_put_17 rfl rfl ?_
    refine zq_lload_n (pc := 18) 2 dX4_put_18 rfl rfl ?_
    refine zq_l2i (pc := 19) dX4_put_19 ?_
    refine zq_i2b (pc := 20) dX4_put_20 ?_
    exact zt_bastoreO (44 + i) n hsh hn hout rfl (Nat.le_refl _) (by decide) (Nat.le_refl _) (Nat.le_refl _) dX4_put_21
  · have e : ty = .short := e
    subst e
    refine zq_aload_n (pc := 0) 0 dX4_put_0 rfl rfl ?_
    refine zq_getRow (pc := 1) hV hi hq dX4_put_1 ?_
    refine zq_instNo (pc := 4) (44 + i) n .short "[S" "[B" hsh znmS (by decide) q1128 dX4_put_4 ?_
    refine zq_ifd_eq (pc := 7) 25 dX4_put_7 rfl (fun _ => ?_) (fun c => absurd rfl c)
    refine zq_aload_n (pc := 25) 0 dX4_put_25 rfl rfl ?_
    refine zq_getRow (pc := 26) hV hi hq dX4_put_26 ?_
    refine zq_instYes (pc := 29) (44 + i) n .short "[S" hsh znmS q1129 dX4_put_29 ?_
    refine zq_ifd_eq (pc := 32) 50 dX4_put_32 rfl (fun c => absurd c (by decide)) (fun _ => ?_)
    refine zq_aload_n (pc := 35) 0 dX4_put_35 rfl rfl ?_
    refine zq_getRow (pc := 36) hV hi hq dX4_put_36 ?_
    refine zq_castArr (pc := 39) (44 + i) n .short "[S" hsh znmS q1129 dX4_put_39 ?_
    refine zq_iload_n (pc := 42) 1 dX4_put_42 rfl rfl ?_
    refine zq_lload_n (pc := 43) 2 dX4_put_43 rfl rfl ?_
    refine zq_l2i (pc := 44) dX4_put_44 ?_
    refine zq_i2s (pc := 45) dX4_put_45 ?_
    exact zt_sastoreO (44 + i) n hsh hn hout rfl (Nat.le_refl _) (by decide) (Nat.le_refl _) (Nat.le_refl _) dX4_put_46
  · have e : ty = .int := e
    subst e
    refine zq_aload_n (pc := 0) 0 dX4_put_0 rfl rfl ?_
    refine zq_getRow (pc := 1) hV hi hq dX4_put_1 ?_
    refine zq_instNo (pc := 4) (44 + i) n .int "[I" "[B" hsh znmI (by decide) q1128 dX4_put_4 ?_
    refine zq_ifd_eq (pc := 7) 25 dX4_put_7 rfl (fun _ => ?_) (fun c => absurd rfl c)
    refine zq_aload_n (pc := 25) 0 dX4_put_25 rfl rfl ?_
    refine zq_getRow (pc := 26) hV hi hq dX4_put_26 ?_
    refine zq_instNo (pc := 29) (44 + i) n .int "[I" "[S" hsh znmI (by decide) q1129 dX4_put_29 ?_
    refine zq_ifd_eq (pc := 32) 50 dX4_put_32 rfl (fun _ => ?_) (fun c => absurd rfl c)
    refine zq_aload_n (pc := 50) 0 dX4_put_50 rfl rfl ?_
    refine zq_getRow (pc := 51) hV hi hq dX4_put_51 ?_
    refine zq_instYes (pc := 54) (44 + i) n .int "[I" hsh znmI q1130 dX4_put_54 ?_
    refine zq_ifd_eq (pc := 57) 74 dX4_put_57 rfl (fun c => absurd c (by decide)) (fun _ => ?_)
    refine zq_aload_n (pc := 60) 0 dX4_put_60 rfl rfl ?_
    refine zq_getRow (pc := 61) hV hi hq dX4_put_61 ?_
    refine zq_castArr (pc := 64) (44 + i) n .int "[I" hsh znmI q1130 dX4_put_64 ?_
    refine zq_iload_n (pc := 67) 1 dX4_put_67 rfl rfl ?_
    refine zq_lload_n (pc := 68) 2 dX4_put_68 rfl rfl ?_
    refine zq_l2i (pc := 69) dX4_put_69 ?_
    exact zt_iastoreO (44 + i) n hsh hn hout rfl (Nat.le_refl _) (by decide) (Nat.le_refl _) (Nat.le_refl _) dX4_put_70
  · have e : ty = .long := e
    subst e
    refine zq_aload_n (pc := 0) 0 dX4_put_0 rfl rfl ?_
    refine zq_getRow (pc := 1) hV hi hq dX4_put_1 ?_
    refine zq_instNo (pc := 4) (44 + i) n .long "[J" "[B" hsh znmJ (by decide) q1128 dX4_put_4 ?_
    refine zq_ifd_eq (pc := 7) 25 dX4_put_7 rfl (fun _ => ?_) (fun c => absurd rfl c)
    refine zq_aload_n (pc := 25) 0 dX4_put_25 rfl rfl ?_
    refine zq_getRow (pc := 26) hV hi hq dX4_put_26 ?_
    refine zq_instNo (pc := 29) (44 + i) n .long "[J" "[S" hsh znmJ (by decide) q1129 dX4_put_29 ?_
    refine zq_ifd_eq (pc := 32) 50 dX4_put_32 rfl (fun _ => ?_) (fun c => absurd rfl c)
    refine zq_aload_n (pc := 50) 0 dX4_put_50 rfl rfl ?_
    refine zq_getRow (pc := 51) hV hi hq dX4_put_51 ?_
    refine zq_instNo (pc := 54) (44 + i) n .long "[J" "[I" hsh znmJ (by decide) q1130 dX4_put_54 ?_
    refine zq_ifd_eq (pc := 57) 74 dX4_put_57 rfl (fun _ => ?_) (fun c => absurd rfl c)
    refine zq_aload_n (pc := 74) 0 dX4_put_74 rfl rfl ?_
    refine zq_getRow (pc := 75) hV hi hq dX4_put_75 ?_
    refine zq_castArr (pc := 78) (44 + i) n .long "[J" hsh znmJ q1131 dX4_put_78 ?_
    refine zq_iload_n (pc := 81) 1 dX4_put_81 rfl rfl ?_
    refine zq_lload_n (pc := 82) 2 dX4_put_82 rfl rfl ?_
    exact zt_lastoreO (44 + i) n hsh hn hout rfl (Nat.le_refl _) (by decide) (Nat.le_refl _) (Nat.le_refl _) dX4_put_83
theorem zt_newaO {X : zCx} {M : zMr} {G : zGw} {cs : Nat × Nat} {res : Unit × zSt} {S : zSt} {pc : Nat} {ls : List (Option Value)} {st : List Value} {n : Int32} {atype : ArrayType} (hn : n < 0) (hh : M.2.2.2.2.2.2.2 = none) (hd : 170 ≤ M.2.2.2.2.1) (hcat : (st.map fun v => v.category).sum ≤ 8) (hc : cs.1 + 3 ≤ M.2.2.2.2.2.1) (hs : cs.2 + 54 ≤ M.2.2.2.2.2.2.1) (d : decode M.2.1 pc = .ok (.newarray atype, 2)) : Zq X M (zQt "java/lang/NegativeArraySizeException" M G) G cs res S pc ls (.int n :: st) (some ((), S)) :=
  fun hf ho _ _ _ hp hl hS => vx_newarrayZ ho.1 ho.2.1 hn d (fun tx htx => by subst htx; exact zt_nas hn ho hh hf hp hl hS hd hcat hc hs)
abbrev mX4_makeT : zMr := ("HiddenCube$Slot", cX4_make, 3, none, 170, 3, 54, none)
theorem cx_X4_makeT {G : zGw} {i : Nat} (a1 a2 : Int32) (hneg : a2 < 0) : Zx mX4_makeT yX4_make "java/lang/NegativeArraySizeException" G [.ref (G.1 (40 + i)), .int a1, .int a2] (fun S => some ((), S)) := by
  refine Zx_of [some (.ref (G.1 (40 + i))), some (.int a1), some (.int a2)] (by decide) rfl rfl (Nat.le_of_ble_eq_true rfl) rfl (fun X S res => ?_)
  refine zq_aload_n (pc := 0) 0 dX4_make_0 rfl rfl ?_
  refine zq_iload_n (pc := 1) 1 dX4_make_1 rfl rfl ?_
  refine zq_ifd_ne (pc := 2) 11 dX4_make_2 rfl (fun _ => ?_) (fun _ => ?_)
  · refine zq_iload_n (pc := 11) 1 dX4_make_11 rfl rfl ?_
    refine zq_iconst (pc := 12) (v := 1) dX4_make_12 (by decide) ?_
    refine zq_icmpd_ne (pc := 13) 22 dX4_make_13 rfl (fun _ => ?_) (fun _ => ?_)
    · refine zq_iload_n (pc := 22) 1 dX4_make_22 rfl rfl ?_
      refine zq_iconst (pc := 23) (v := 2) dX4_make_23 (by decide) ?_
      refine zq_icmpd_ne (pc := 24) 33 dX4_make_24 rfl (fun _ => ?_) (fun _ => ?_)
      · refine zq_iload_n (pc := 33) 2 dX4_make_33 rfl rfl ?_
        exact zt_newaO hneg rfl (Nat.le_refl _) (Nat.le_of_ble_eq_true rfl) (Nat.le_refl _) (Nat.le_refl _) dX4_make_34
      · refine zq_iload_n (pc := 27) 2 dX4_make_27 rfl rfl ?_
        exact zt_newaO hneg rfl (Nat.le_refl _) (Nat.le_of_ble_eq_true rfl) (Nat.le_refl _) (Nat.le_refl _) dX4_make_28
    · refine zq_iload_n (pc := 16) 2 dX4_make_16 rfl rfl ?_
      exact zt_newaO hneg rfl (Nat.le_refl _) (Nat.le_of_ble_eq_true rfl) (Nat.le_refl _) (Nat.le_refl _) dX4_make_17
  · refine zq_iload_n (pc := 5) 2 dX4_make_5 rfl rfl ?_
    exact zt_newaO hneg rfl (Nat.le_refl _) (Nat.le_of_ble_eq_true rfl) (Nat.le_refl _) (Nat.le_refl _) dX4_make_6
