/-! THE SLOTS -/
set_option maxRecDepth 100000
abbrev zSV : Type := Nat → Option (Nat × FieldType)
/-- slot objects at places 40.., their rows, where there are any, at 44.. -/
def zGV (G : zGw) (V : zSV) : Prop := ∀ i, i < 4 → G.2.1 (40 + i) = some (.inl 4) ∧ G.2.2.1 37 i = some (40 + i) ∧ match V i with
  | none => G.2.2.1 (40 + i) 0 = none
  | some q => G.2.2.1 (40 + i) 0 = some (44 + i) ∧ G.2.1 (44 + i) = some (.inr q) ∧ (q.2 = .byte ∨ q.2 = .short ∨ q.2 = .int ∨ q.2 = .long) ∧ q.1 ≤ 60
theorem zarr_rec {G : zGw} {S : zSt} {s : State} {H : Heap} {kp n : Nat} {ty : FieldType} {nm : String} (hp : zhp G S s H) (hsh : G.2.1 kp = some (.inr (n, ty))) (hnm : ∀ (s : State) (cA : ClassId), va_RA s cA ty → s.vm.findClass nm = some cA) : ∃ cell : Cell, H[G.1 kp]? = some cell ∧ cell.vm.isStatics = false ∧ s.vm.findClass nm = some cell.cls := by
  obtain ⟨cA, r1, r2, r3⟩ := zhp_arr hp hsh
  exact ⟨_, r1, rfl, hnm s cA r3⟩
theorem z_instNo {ρ : Type} {X : zCx} {M : zMr} {inj : ρ → Option Value} {G : zGw} {cs : Nat × Nat} {res : ρ × zSt} {S : zSt} {pc : Nat} {ls : List (Option Value)} {st : List Value} {f : Option (ρ × zSt)} {idx : Nat} (kp n : Nat) (ty : FieldType) (C nm : String) (hsh : G.2.1 kp = some (.inr (n, ty))) (hnm : ∀ (s : State) (cA : ClassId), va_RA s cA ty → s.vm.findClass C = some cA) (hc : (C, nm) ∈ znC) (hl : Cond.classLink M.1 idx nm ∈ lw_all) (d : decode M.2.1 pc = .ok (.instanceof idx, 3)) (k : Zm X M inj G cs res S (pc + 3) ls (.int 0 :: st) f) : Zm X M inj G cs res S pc ls (.ref (G.1 kp) :: st) f :=
  fun hf ho H locs la hp hl1 hS => va_instNo ho.1 ho.2.1 ho.2.2.2.1 (ho.2.2.2.2.1 _ hl) (ho.2.2.2.2.2.1.1.2.2.1 _ hc) (zarr_rec hp hsh hnm) d (k hf ho H locs la hp hl1 hS)
theorem z_instYes {ρ : Type} {X : zCx} {M : zMr} {inj : ρ → Option Value} {G : zGw} {cs : Nat × Nat} {res : ρ × zSt} {S : zSt} {pc : Nat} {ls : List (Option Value)} {st : List Value} {f : Option (ρ × zSt)} {idx : Nat} (kp n : Nat) (ty : FieldType) (nm : String) (hsh : G.2.1 kp = some (.inr (n, ty))) (hnm : ∀ (s : State) (cA : ClassId), va_RA s cA ty → s.vm.findClass nm = some cA) (hl : Cond.classLink M.1 idx nm ∈ lw_all) (d : decode M.2.1 pc = .ok (.instanceof idx, 3)) (k : Zm X M inj G cs res S (pc + 3) ls (.int 1 :: st) f) : Zm X M inj G cs res S pc ls (.ref (G.1 kp) :: st) f := by
  intro hf ho H locs la hp hl1 hS
  obtain ⟨cell, h1, h2, h3⟩ := zarr_rec hp hsh hnm
  intro T hT Y
  obtain ⟨vm', X', stp⟩ := Y.instanceofYes ho.1 ho.2.2.2.1 (ho.2.2.2.2.1 _ hl) (by rw [hT]; exact h1) h2 h3 (va_asg _ _) (g := F0 _ pc la (.ref (G.1 kp) :: st)) rfl rfl (by rw [ho.2.1]; exact d)
  obtain ⟨t, a1, b1⟩ := k hf ho H locs la hp hl1 hS (T.setVm vm') hT X'
  exact ⟨t, stp t a1, b1⟩
theorem z_castArr {ρ : Type} {X : zCx} {M : zMr} {inj : ρ → Option Value} {G : zGw} {cs : Nat × Nat} {res : ρ × zSt} {S : zSt} {pc : Nat} {ls : List (Option Value)} {st : List Value} {f : Option (ρ × zSt)} {idx : Nat} (kp n : Nat) (ty : FieldType) (nm : String) (hsh : G.2.1 kp = some (.inr (n, ty))) (hnm : ∀ (s : State) (cA : ClassId), va_RA s cA ty → s.vm.findClass nm = some cA) (hl : Cond.classLink M.1 idx nm ∈ lw_all) (d : decode M.2.1 pc = .ok (.checkcast idx, 3)) (k : Zm X M inj G cs res S (pc + 3) ls (.ref (G.1 kp) :: st) f) : Zm X M inj G cs res S pc ls (.ref (G.1 kp) :: st) f := by
  intro hf ho H locs la hp hl1 hS
  obtain ⟨cell, h1, h2, h3⟩ := zarr_rec hp hsh hnm
  intro T hT Y
  obtain ⟨vm', X', stp⟩ := Y.checkcastYes ho.1 ho.2.2.2.1 (ho.2.2.2.2.1 _ hl) (by rw [hT]; exact h1) h2 h3 (va_asg _ _) (g := F0 _ pc la (.ref (G.1 kp) :: st)) rfl rfl (by rw [ho.2.1]; exact d)
  obtain ⟨t, a1, b1⟩ := k hf ho H locs la hp hl1 hS (T.setVm vm') hT X'
  exact ⟨t, stp t a1, b1⟩
theorem z_instNull {ρ : Type} {X : zCx} {M : zMr} {inj : ρ → Option Value} {G : zGw} {cs : Nat × Nat} {res : ρ × zSt} {S : zSt} {pc : Nat} {ls : List (Option Value)} {st : List Value} {f : Option (ρ × zSt)} {idx : Nat} (d : decode M.2.1 pc = .ok (.instanceof idx, 3)) (k : Zm X M inj G cs res S (pc + 3) ls (.int 0 :: st) f) : Zm X M inj G cs res S pc ls (.null :: st) f :=
  fun hf ho H locs la hp hl1 hS => lv_instN ho.1 ho.2.1 d (k hf ho H locs la hp hl1 hS)
/-- an array of references is read -/
theorem z_aaload {ρ : Type} {X : zCx} {M : zMr} {inj : ρ → Option Value} {G : zGw} {cs : Nat × Nat} {res : ρ × zSt} {S : zSt} {pc : Nat} {ls : List (Option Value)} {st : List Value} {f : Option (ρ × zSt)} {i : Int32} (kp n q : Nat) (C : String) (hsh : G.2.1 kp = some (.inr (n, .object C))) (hin : vp_in i n) (hr : G.2.2.1 kp i.toNatClampNeg = some q) (d : decode M.2.1 pc = .ok (.aaload, 1)) (k : Zm X M inj G cs res S (pc + 1) ls (.ref (G.1 q) :: st) f) : Zm X M inj G cs res S pc ls (.int i :: .ref (G.1 kp) :: st) f := by
  intro hf ho H locs la hp hl hS
  obtain ⟨cA, r1, r2, r3⟩ := zhp_arr hp hsh
  have hlt : i.toNatClampNeg < n := Nat.not_le.mp fun q => hin (Or.inr q)
  exact W.aald (v := .ref (G.1 q)) (ty := .object C) ho.1 ho.2.1 r1 (r2 n _) rfl (fun q => by cases q) (by show ¬ (i < 0 ∨ (arrV _ _ _).slots.size ≤ _); rw [arrV_size]; exact hin) (by rw [arrV_read _ _ hlt]; simp only [zval, hr]; rfl) rfl rfl d (k hf ho H locs la hp hl hS)
theorem z_aaloadV {ρ : Type} {X : zCx} {M : zMr} {inj : ρ → Option Value} {G : zGw} {cs : Nat × Nat} {res : ρ × zSt} {S : zSt} {pc : Nat} {ls : List (Option Value)} {st : List Value} {f : Option (ρ × zSt)} {V : zSV} {i : Int32} (hG : zGC G) (hV : zGV G V) (hin : vp_in i 4) (d : decode M.2.1 pc = .ok (.aaload, 1)) (k : Zm X M inj G cs res S (pc + 1) ls (.ref (G.1 (40 + i.toNatClampNeg)) :: st) f) : Zm X M inj G cs res S pc ls (.int i :: .ref (G.1 37) :: st) f := z_aaload 37 4 (40 + i.toNatClampNeg) "HiddenCube$Slot" (zGC_s37 hG) hin (hV i.toNatClampNeg (Nat.not_le.mp fun q => hin (Or.inr q))).2.1 d k
theorem z_getRow {ρ : Type} {X : zCx} {M : zMr} {inj : ρ → Option Value} {G : zGw} {cs : Nat × Nat} {res : ρ × zSt} {S : zSt} {pc : Nat} {ls : List (Option Value)} {st : List Value} {f : Option (ρ × zSt)} {V : zSV} {i : Nat} {q : Nat × FieldType} (hV : zGV G V) (hi : i < 4) (hq : V i = some q) (d : decode M.2.1 pc = .ok (.getfield 7, 3)) (k : Zm X M inj G cs res S (pc + 3) ls (.ref (G.1 (44 + i)) :: st) f) (hM : M.1 = "HiddenCube$Slot" := by rfl) : Zm X M inj G cs res S pc ls (.ref (G.1 (40 + i)) :: st) f := by
  have h := hV i hi
  rw [hq] at h
  exact z_get (40 + i) 4 0 h.1 rfl in_X4 (by decide) (by rw [hM]; exact q289) (by rw [h.2.2.1]; rfl) d k
theorem z_getRowN {ρ : Type} {X : zCx} {M : zMr} {inj : ρ → Option Value} {G : zGw} {cs : Nat × Nat} {res : ρ × zSt} {S : zSt} {pc : Nat} {ls : List (Option Value)} {st : List Value} {f : Option (ρ × zSt)} {V : zSV} {i : Nat} (hV : zGV G V) (hi : i < 4) (hq : V i = none) (d : decode M.2.1 pc = .ok (.getfield 7, 3)) (k : Zm X M inj G cs res S (pc + 3) ls (.null :: st) f) (hM : M.1 = "HiddenCube$Slot" := by rfl) : Zm X M inj G cs res S pc ls (.ref (G.1 (40 + i)) :: st) f := by
  have h := hV i hi
  rw [hq] at h
  exact z_get (40 + i) 4 0 h.1 rfl in_X4 (by decide) (by rw [hM]; exact q289) (by rw [h.2.2]; rfl) d k
theorem znmB (s : State) (cA : ClassId) (h : va_RA s cA .byte) : s.vm.findClass "[B" = some cA := va_nm_byte h
theorem znmS (s : State) (cA : ClassId) (h : va_RA s cA .short) : s.vm.findClass "[S" = some cA := va_nm_short h
theorem znmI (s : State) (cA : ClassId) (h : va_RA s cA .int) : s.vm.findClass "[I" = some cA := va_nm_int h
theorem znmJ (s : State) (cA : ClassId) (h : va_RA s cA .long) : s.vm.findClass "[J" = some cA := va_nm_long h
def F_X4_size (V : zSV) (i : Nat) (S : zSt) : Option (Int32 × zSt) := match V i with
  | none => none
  | some q => some (Int32.ofNat q.1, S)
def F_X4_at (V : zSV) (i : Nat) (a1 : Int32) (S : zSt) : Option (Int64 × zSt) := match V i with
  | none => none
  | some q => chk a1 q.1 (some (if q.2 = .long then S.2 (44 + i) a1.toNatClampNeg else (S.1 (44 + i) a1.toNatClampNeg).toInt64, S))
def F_X4_put (V : zSV) (i : Nat) (a1 : Int32) (a2 : Int64) (S : zSt) : Option (Unit × zSt) := match V i with
  | none => none
  | some q => chk a1 q.1 (some ((), if q.2 = .byte then sI S (44 + i) a1.toNatClampNeg a2.toInt32.toInt8.toInt32.toInt8.toInt32 else if q.2 = .short then sI S (44 + i) a1.toNatClampNeg a2.toInt32.toInt16.toInt32.toInt16.toInt32 else if q.2 = .int then sI S (44 + i) a1.toNatClampNeg a2.toInt32 else sL S (44 + i) a1.toNatClampNeg a2))
abbrev mX4_size : zMr := ("HiddenCube$Slot", cX4_size, 1, some .int, 1, 0, 0, none)
abbrev mX4_at : zMr := ("HiddenCube$Slot", cX4_at, 2, some .long, 1, 0, 0, none)
abbrev mX4_put : zMr := ("HiddenCube$Slot", cX4_put, 4, none, 1, 0, 0, none)
theorem mv_X4_size : ZV mX4_size yX4_size 0 := ⟨q1125, q1126, q154, q1127, rfl, by decide, by decide, by decide +kernel⟩
theorem mv_X4_at : ZV mX4_at yX4_at 1 := ⟨q1133, q1134, q154, q1135, rfl, by decide, by decide, by decide +kernel⟩
theorem mv_X4_put : ZV mX4_put yX4_put 2 := ⟨q1367, q1368, q154, q1369, rfl, by decide, by decide, by decide +kernel⟩
theorem ct_X4_size {G : zGw} {V : zSV} {i : Nat} (hV : zGV G V) (hi : i < 4) : Zc mX4_size yX4_size zJI G [.ref (G.1 (40 + i))] (F_X4_size V i) := by
  refine Zc_of [some (.ref (G.1 (40 + i)))] (by decide) rfl rfl (Nat.le_of_ble_eq_true rfl) rfl (fun X S res => ?_)
  unfold F_X4_size
  have h := hV i hi
  cases hq : V i with
  | none => exact z_none
  | some q =>
    rw [hq] at h
    obtain ⟨n, ty⟩ := q
    obtain ⟨-, -, -, hsh, hty, -⟩ := h
    rcases hty with e | e | e | e
    · have e : ty = .byte := e
      subst e
      refine z_aload_n (pc := 0) 0 dX4_size_0 rfl rfl ?_
      refine z_getRow (pc := 1) hV hi hq dX4_size_1 ?_
      refine z_instYes (pc := 4) (44 + i) n .byte "[B" hsh znmB q1128 dX4_size_4 ?_
      refine z_ifd_eq (pc := 7) 21 dX4_size_7 rfl (fun c => absurd c (by decide)) (fun _ => ?_)
      refine z_aload_n (pc := 10) 0 dX4_size_10 rfl rfl ?_
      refine z_getRow (pc := 11) hV hi hq dX4_size_11 ?_
      refine z_castArr (pc := 14) (44 + i) n .byte "[B" hsh znmB q1128 dX4_size_14 ?_
      refine z_alen (pc := 17) (44 + i) n .byte hsh (v := Int32.ofNat n) rfl dX4_size_17 ?_
      refine z_goto (pc := 18) 71 dX4_size_18 rfl ?_
      exact z_iret rfl dX4_size_71 rfl
    · have e : ty = .short := e
      subst e
      refine z_aload_n (pc := 0) 0 dX4_size_0 rfl rfl ?_
      refine z_getRow (pc := 1) hV hi hq dX4_size_1 ?_
      refine z_instNo (pc := 4) (44 + i) n .short "[S" "[B" hsh znmS (by decide) q1128 dX4_size_4 ?_
      refine z_ifd_eq (pc := 7) 21 dX4_size_7 rfl (fun _ => ?_) (fun c => absurd rfl c)
      refine z_aload_n (pc := 21) 0 dX4_size_21 rfl rfl ?_
      refine z_getRow (pc := 22) hV hi hq dX4_size_22 ?_
      refine z_instYes (pc := 25) (44 + i) n .short "[S" hsh znmS q1129 dX4_size_25 ?_
      refine z_ifd_eq (pc := 28) 42 dX4_size_28 rfl (fun c => absurd c (by decide)) (fun _ => ?_)
      refine z_aload_n (pc := 31) 0 dX4_size_31 rfl rfl ?_
      refine z_getRow (pc := 32) hV hi hq dX4_size_32 ?_
      refine z_castArr (pc := 35) (44 + i) n .short "[S" hsh znmS q1129 dX4_size_35 ?_
      refine z_alen (pc := 38) (44 + i) n .short hsh (v := Int32.ofNat n) rfl dX4_size_38 ?_
      refine z_goto (pc := 39) 71 dX4_size_39 rfl ?_
      exact z_iret rfl dX4_size_71 rfl
    · have e : ty = .int := e
      subst e
      refine z_aload_n (pc := 0) 0 dX4_size_0 rfl rfl ?_
      refine z_getRow (pc := 1) hV hi hq dX4_size_1 ?_
      refine z_instNo (pc := 4) (44 + i) n .int "[I" "[B" hsh znmI (by decide) q1128 dX4_size_4 ?_
      refine z_ifd_eq (pc := 7) 21 dX4_size_7 rfl (fun _ => ?_) (fun c => absurd rfl c)
      refine z_aload_n (pc := 21) 0 dX4_size_21 rfl rfl ?_
      refine z_getRow (pc := 22) hV hi hq dX4_size_22 ?_
      refine z_instNo (pc := 25) (44 + i) n .int "[I" "[S" hsh znmI (by decide) q1129 dX4_size_25 ?_
      refine z_ifd_eq (pc := 28) 42 dX4_size_28 rfl (fun _ => ?_) (fun c => absurd rfl c)
      refine z_aload_n (pc := 42) 0 dX4_size_42 rfl rfl ?_
      refine z_getRow (pc := 43) hV hi hq dX4_size_43 ?_
      refine z_instYes (pc := 46) (44 + i) n .int "[I" hsh znmI q1130 dX4_size_46 ?_
      refine z_ifd_eq (pc := 49) 63 dX4_size_49 rfl (fun c => absurd c (by decide)) (fun _ => ?_)
      refine z_aload_n (pc := 52) 0 dX4_size_52 rfl rfl ?_
      refine z_getRow (pc := 53) hV hi hq dX4_size_53 ?_
      refine z_castArr (pc := 56) (44 + i) n .int "[I" hsh znmI q1130 dX4_size_56 ?_
      refine z_alen (pc := 59) (44 + i) n .int hsh (v := Int32.ofNat n) rfl dX4_size_59 ?_
      refine z_goto (pc := 60) 71 dX4_size_60 rfl ?_
      exact z_iret rfl dX4_size_71 rfl
    · have e : ty = .long := e
      subst e
      refine z_aload_n (pc := 0) 0 dX4_size_0 rfl rfl ?_
      refine z_getRow (pc := 1) hV hi hq dX4_size_1 ?_
      refine z_instNo (pc := 4) (44 + i) n .long "[J" "[B" hsh znmJ (by decide) q1128 dX4_size_4 ?_
      refine z_ifd_eq (pc := 7) 21 dX4_size_7 rfl (fun _ => ?_) (fun c => absurd rfl c)
      refine z_aload_n (pc := 21) 0 dX4_size_21 rfl rfl ?_
      refine z_getRow (pc := 22) hV hi hq dX4_size_22 ?_
      refine z_instNo (pc := 25) (44 + i) n .long "[J" "[S" hsh znmJ (by decide) q1129 dX4_size_25 ?_
      refine z_ifd_eq (pc := 28) 42 dX4_size_28 rfl (fun _ => ?_) (fun c => absurd rfl c)
      refine z_aload_n (pc := 42) 0 dX4_size_42 rfl rfl ?_
      refine z_getRow (pc := 43) hV hi hq dX4_size_43 ?_
      refine z_instNo (pc := 46) (44 + i) n .long "[J" "[I" hsh znmJ (by decide) q1130 dX4_size_46 ?_
      refine z_ifd_eq (pc := 49) 63 dX4_size_49 rfl (fun _ => ?_) (fun c => absurd rfl c)
      refine z_aload_n (pc := 63) 0 dX4_size_63 rfl rfl ?_
      refine z_getRow (pc := 64) hV hi hq dX4_size_64 ?_
      refine z_castArr (pc := 67) (44 + i) n .long "[J" hsh znmJ q1131 dX4_size_67 ?_
      refine z_alen (pc := 70) (44 + i) n .long hsh (v := Int32.ofNat n) rfl dX4_size_70 ?_
      exact z_iret rfl dX4_size_71 rfl
theorem ct_X4_at {G : zGw} {V : zSV} {i : Nat} (hV : zGV G V) (hi : i < 4) (a1 : Int32) : Zc mX4_at yX4_at zJL G [.ref (G.1 (40 + i)), .int a1] (F_X4_at V i a1) := by
  refine Zc_of [some (.ref (G.1 (40 + i))), some (.int a1)] (by decide) rfl rfl (Nat.le_of_ble_eq_true rfl) rfl (fun X S res => ?_)
  unfold F_X4_at
  have h := hV i hi
  cases hq : V i with
  | none => exact z_none
  | some q =>
    rw [hq] at h
    obtain ⟨n, ty⟩ := q
    obtain ⟨-, -, -, hsh, hty, -⟩ := h
    refine z_chk (fun h1 => ?_)
    rcases hty with e | e | e | e
    · have e : ty = .byte := e
      subst e
      rw [show (if (FieldType.byte = .long) then S.2 (44 + i) a1.toNatClampNeg else (S.1 (44 + i) a1.toNatClampNeg).toInt64) = (S.1 (44 + i) a1.toNatClampNeg).toInt64 from rfl]
      refine z_aload_n (pc := 0) 0 dX4_at_0 rfl rfl ?_
      refine z_getRow (pc := 1) hV hi hq dX4_at_1 ?_
      refine z_instYes (pc := 4) (44 + i) n .byte "[B" hsh znmB q1128 dX4_at_4 ?_
      refine z_ifd_eq (pc := 7) 23 dX4_at_7 rfl (fun c => absurd c (by decide)) (fun _ => ?_)
      refine z_aload_n (pc := 10) 0 dX4_at_10 rfl rfl ?_
      refine z_getRow (pc := 11) hV hi hq dX4_at_11 ?_
      refine z_castArr (pc := 14) (44 + i) n .byte "[B" hsh znmB q1128 dX4_at_14 ?_
      refine z_iload_n (pc := 17) 1 dX4_at_17 rfl rfl ?_
      refine z_baload (pc := 18) (44 + i) n hsh h1 dX4_at_18 ?_
      refine z_i2l (pc := 19) dX4_at_19 ?_
      refine z_goto (pc := 20) 78 dX4_at_20 rfl ?_
      exact z_lret rfl dX4_at_78 rfl
    · have e : ty = .short := e
      subst e
      rw [show (if (FieldType.short = .long) then S.2 (44 + i) a1.toNatClampNeg else (S.1 (44 + i) a1.toNatClampNeg).toInt64) = (S.1 (44 + i) a1.toNatClampNeg).toInt64 from rfl]
      refine z_aload_n (pc := 0) 0 dX4_at_0 rfl rfl ?_
      refine z_getRow (pc := 1) hV hi hq dX4_at_1 ?_
      refine z_instNo (pc := 4) (44 + i) n .short "[S" "[B" hsh znmS (by decide) q1128 dX4_at_4 ?_
      refine z_ifd_eq (pc := 7) 23 dX4_at_7 rfl (fun _ => ?_) (fun c => absurd rfl c)
      refine z_aload_n (pc := 23) 0 dX4_at_23 rfl rfl ?_
      refine z_getRow (pc := 24) hV hi hq dX4_at_24 ?_
      refine z_instYes (pc := 27) (44 + i) n .short "[S" hsh znmS q1129 dX4_at_27 ?_
      refine z_ifd_eq (pc := 30) 46 dX4_at_30 rfl (fun c => absurd c (by decide)) (fun _ => ?_)
      refine z_aload_n (pc := 33) 0 dX4_at_33 rfl rfl ?_
      refine z_getRow (pc := 34) hV hi hq dX4_at_34 ?_
      refine z_castArr (pc := 37) (44 + i) n .short "[S" hsh znmS q1129 dX4_at_37 ?_
      refine z_iload_n (pc := 40) 1 dX4_at_40 rfl rfl ?_
      refine z_saload (pc := 41) (44 + i) n hsh h1 dX4_at_41 ?_
      refine z_i2l (pc := 42) dX4_at_42 ?_
      refine z_goto (pc := 43) 78 dX4_at_43 rfl ?_
      exact z_lret rfl dX4_at_78 rfl
    · have e : ty = .int := e
      subst e
      rw [show (if (FieldType.int = .long) then S.2 (44 + i) a1.toNatClampNeg else (S.1 (44 + i) a1.toNatClampNeg).toInt64) = (S.1 (44 + i) a1.toNatClampNeg).toInt64 from rfl]
      refine z_aload_n (pc := 0) 0 dX4_at_0 rfl rfl ?_
      refine z_getRow (pc := 1) hV hi hq dX4_at_1 ?_
      refine z_instNo (pc := 4) (44 + i) n .int "[I" "[B" hsh znmI (by decide) q1128 dX4_at_4 ?_
      refine z_ifd_eq (pc := 7) 23 dX4_at_7 rfl (fun _ => ?_) (fun c => absurd rfl c)
      refine z_aload_n (pc := 23) 0 dX4_at_23 rfl rfl ?_
      refine z_getRow (pc := 24) hV hi hq dX4_at_24 ?_
      refine z_instNo (pc := 27) (44 + i) n .int "[I" "[S" hsh znmI (by decide) q1129 dX4_at_27 ?_
      refine z_ifd_eq (pc := 30) 46 dX4_at_30 rfl (fun _ => ?_) (fun c => absurd rfl c)
      refine z_aload_n (pc := 46) 0 dX4_at_46 rfl rfl ?_
      refine z_getRow (pc := 47) hV hi hq dX4_at_47 ?_
      refine z_instYes (pc := 50) (44 + i) n .int "[I" hsh znmI q1130 dX4_at_50 ?_
      refine z_ifd_eq (pc := 53) 69 dX4_at_53 rfl (fun c => absurd c (by decide)) (fun _ => ?_)
      refine z_aload_n (pc := 56) 0 dX4_at_56 rfl rfl ?_
      refine z_getRow (pc := 57) hV hi hq dX4_at_57 ?_
      refine z_castArr (pc := 60) (44 + i) n .int "[I" hsh znmI q1130 dX4_at_60 ?_
      refine z_iload_n (pc := 63) 1 dX4_at_63 rfl rfl ?_
      refine z_iaload (pc := 64) (44 + i) n hsh h1 dX4_at_64 ?_
      refine z_i2l (pc := 65) dX4_at_65 ?_
      refine z_goto (pc := 66) 78 dX4_at_66 rfl ?_
      exact z_lret rfl dX4_at_78 rfl
    · have e : ty = .long := e
      subst e
      rw [show (if (FieldType.long = .long) then S.2 (44 + i) a1.toNatClampNeg else (S.1 (44 + i) a1.toNatClampNeg).toInt64) = S.2 (44 + i) a1.toNatClampNeg from rfl]
      refine z_aload_n (pc := 0) 0 dX4_at_0 rfl rfl ?_
      refine z_getRow (pc := 1) hV hi hq dX4_at_1 ?_
      refine z_instNo (pc := 4) (44 + i) n .long "[J" "[B" hsh znmJ (by decide) q1128 dX4_at_4 ?_
      refine z_ifd_eq (pc := 7) 23 dX4_at_7 rfl (fun _ => ?_) (fun c => absurd rfl c)
      refine z_aload_n (pc := 23) 0 dX4_at_23 rfl rfl ?_
      refine z_getRow (pc := 24) hV hi hq dX4_at_24 ?_
      refine z_instNo (pc := 27) (44 + i) n .long "[J" "[S" hsh znmJ (by decide) q1129 dX4_at_27 ?_
      refine z_ifd_eq (pc := 30) 46 dX4_at_30 rfl (fun _ => ?_) (fun c => absurd rfl c)
      refine z_aload_n (pc := 46) 0 dX4_at_46 rfl rfl ?_
      refine z_getRow (pc := 47) hV hi hq dX4_at_47 ?_
      refine z_instNo (pc := 50) (44 + i) n .long "[J" "[I" hsh znmJ (by decide) q1130 dX4_at_50 ?_
      refine z_ifd_eq (pc := 53) 69 dX4_at_53 rfl (fun _ => ?_) (fun c => absurd rfl c)
      refine z_aload_n (pc := 69) 0 dX4_at_69 rfl rfl ?_
      refine z_getRow (pc := 70) hV hi hq dX4_at_70 ?_
      refine z_castArr (pc := 73) (44 + i) n .long "[J" hsh znmJ q1131 dX4_at_73 ?_
      refine z_iload_n (pc := 76) 1 dX4_at_76 rfl rfl ?_
      refine z_laload (pc := 77) (44 + i) n hsh h1 dX4_at_77 ?_
      exact z_lret rfl dX4_at_78 rfl
theorem ct_X4_put {G : zGw} {V : zSV} {i : Nat} (hV : zGV G V) (hi : i < 4) (a1 : Int32) (a2 : Int64) : Zc mX4_put yX4_put zJV G [.ref (G.1 (40 + i)), .int a1, .long a2] (F_X4_put V i a1 a2) := by
  refine Zc_of [some (.ref (G.1 (40 + i))), some (.int a1), some (.long a2), none] (by decide) rfl rfl (Nat.le_of_ble_eq_true rfl) rfl (fun X S res => ?_)
  unfold F_X4_put
  have h := hV i hi
  cases hq : V i with
  | none => exact z_none
  | some q =>
    rw [hq] at h
    obtain ⟨n, ty⟩ := q
    obtain ⟨-, -, -, hsh, hty, -⟩ := h
    refine z_chk (fun h1 => ?_)
    rcases hty with e | e | e | e
    · have e : ty = .byte := e
      subst e
      refine z_aload_n (pc := 0) 0 dX4_put_0 rfl rfl ?_
      refine z_getRow (pc := 1) hV hi hq dX4_put_1 ?_
      refine z_instYes (pc := 4) (44 + i) n .byte "[B" hsh znmB q1128 dX4_put_4 ?_
      refine z_ifd_eq (pc := 7) 25 dX4_put_7 rfl (fun c => absurd c (by decide)) (fun _ => ?_)
      refine z_aload_n (pc := 10) 0 dX4_put_10 rfl rfl ?_
      refine z_getRow (pc := 11) hV hi hq dX4_put_11 ?_
      refine z_castArr (pc := 14) (44 + i) n .byte "[B" hsh znmB q1128 dX4_put_14 ?_
      refine z_iload_n (pc := 17) 1 dX4_put_17 rfl rfl ?_
      refine z_lload_n (pc := 18) 2 dX4_put_18 rfl rfl ?_
      refine z_l2i (pc := 19) dX4_put_19 ?_
      refine z_i2b (pc := 20) dX4_put_20 ?_
      refine z_bastore (pc := 21) (44 + i) n hsh h1 dX4_put_21 ?_
      refine z_goto (pc := 22) 84 dX4_put_22 rfl ?_
      exact z_vret rfl dX4_put_84 rfl
    · have e : ty = .short := e
      subst e
      refine z_aload_n (pc := 0) 0 dX4_put_0 rfl rfl ?_
      refine z_getRow (pc := 1) hV hi hq dX4_put_1 ?_
      refine z_instNo (pc := 4) (44 + i) n .short "[S" "[B" hsh znmS (by decide) q1128 dX4_put_4 ?_
      refine z_ifd_eq (pc := 7) 25 dX4_put_7 rfl (fun _ => ?_) (fun c => absurd rfl c)
      refine z_aload_n (pc := 25) 0 dX4_put_25 rfl rfl ?_
      refine z_getRow (pc := 26) hV hi hq dX4_put_26 ?_
      refine z_instYes (pc := 29) (44 + i) n .short "[S" hsh znmS q1129 dX4_put_29 ?_
      refine z_ifd_eq (pc := 32) 50 dX4_put_32 rfl (fun c => absurd c (by decide)) (fun _ => ?_)
      refine z_aload_n (pc := 35) 0 dX4_put_35 rfl rfl ?_
      refine z_getRow (pc := 36) hV hi hq dX4_put_36 ?_
      refine z_castArr (pc := 39) (44 + i) n .short "[S" hsh znmS q1129 dX4_put_39 ?_
      refine z_iload_n (pc := 42) 1 dX4_put_42 rfl rfl ?_
      refine z_lload_n (pc := 43) 2 dX4_put_43 rfl rfl ?_
      refine z_l2i (pc := 44) dX4_put_44 ?_
      refine z_i2s (pc := 45) dX4_put_45 ?_
      refine z_sastore (pc := 46) (44 + i) n hsh h1 dX4_put_46 ?_
      refine z_goto (pc := 47) 84 dX4_put_47 rfl ?_
      exact z_vret rfl dX4_put_84 rfl
    · have e : ty = .int := e
      subst e
      refine z_aload_n (pc := 0) 0 dX4_put_0 rfl rfl ?_
      refine z_getRow (pc := 1) hV hi hq dX4_put_1 ?_
      refine z_instNo (pc := 4) (44 + i) n .int "[I" "[B" hsh znmI (by decide) q1128 dX4_put_4 ?_
      refine z_ifd_eq (pc := 7) 25 dX4_put_7 rfl (fun _ => ?_) (fun c => absurd rfl c)
      refine z_aload_n (pc := 25) 0 dX4_put_25 rfl rfl ?_
      refine z_getRow (pc := 26) hV hi hq dX4_put_26 ?_
      refine z_instNo (pc := 29) (44 + i) n .int "[I" "[S" hsh znmI (by decide) q1129 dX4_put_29 ?_
      refine z_ifd_eq (pc := 32) 50 dX4_put_32 rfl (fun _ => ?_) (fun c => absurd rfl c)
      refine z_aload_n (pc := 50) 0 dX4_put_50 rfl rfl ?_
      refine z_getRow (pc := 51) hV hi hq dX4_put_51 ?_
      refine z_instYes (pc := 54) (44 + i) n .int "[I" hsh znmI q1130 dX4_put_54 ?_
      refine z_ifd_eq (pc := 57) 74 dX4_put_57 rfl (fun c => absurd c (by decide)) (fun _ => ?_)
      refine z_aload_n (pc := 60) 0 dX4_put_60 rfl rfl ?_
      refine z_getRow (pc := 61) hV hi hq dX4_put_61 ?_
      refine z_castArr (pc := 64) (44 + i) n .int "[I" hsh znmI q1130 dX4_put_64 ?_
      refine z_iload_n (pc := 67) 1 dX4_put_67 rfl rfl ?_
      refine z_lload_n (pc := 68) 2 dX4_put_68 rfl rfl ?_
      refine z_l2i (pc := 69) dX4_put_69 ?_
      refine z_iastore (pc := 70) (44 + i) n hsh h1 dX4_put_70 ?_
      refine z_goto (pc := 71) 84 dX4_put_71 rfl ?_
      exact z_vret rfl dX4_put_84 rfl
    · have e : ty = .long := e
      subst e
      refine z_aload_n (pc := 0) 0 dX4_put_0 rfl rfl ?_
      refine z_getRow (pc := 1) hV hi hq dX4_put_1 ?_
      refine z_instNo (pc := 4) (44 + i) n .long "[J" "[B" hsh znmJ (by decide) q1128 dX4_put_4 ?_
      refine z_ifd_eq (pc := 7) 25 dX4_put_7 rfl (fun _ => ?_) (fun c => absurd rfl c)
      refine z_aload_n (pc := 25) 0 dX4_put_25 rfl rfl ?_
      refine z_getRow (pc := 26) hV hi hq dX4_put_26 ?_
      refine z_instNo (pc := 29) (44 + i) n .long "[J" "[S" hsh znmJ (by decide) q1129 dX4_put_29 ?_
      refine z_ifd_eq (pc := 32) 50 dX4_put_32 rfl (fun _ => ?_) (fun c => absurd rfl c)
      refine z_aload_n (pc := 50) 0 dX4_put_50 rfl rfl ?_
      refine z_getRow (pc := 51) hV hi hq dX4_put_51 ?_
      refine z_instNo (pc := 54) (44 + i) n .long "[J" "[I" hsh znmJ (by decide) q1130 dX4_put_54 ?_
      refine z_ifd_eq (pc := 57) 74 dX4_put_57 rfl (fun _ => ?_) (fun c => absurd rfl c)
      refine z_aload_n (pc := 74) 0 dX4_put_74 rfl rfl ?_
      refine z_getRow (pc := 75) hV hi hq dX4_put_75 ?_
      refine z_castArr (pc := 78) (44 + i) n .long "[J" hsh znmJ q1131 dX4_put_78 ?_
      refine z_iload_n (pc := 81) 1 dX4_put_81 rfl rfl ?_
      refine z_lload_n (pc := 82) 2 dX4_put_82 rfl rfl ?_
      refine z_lastore (pc := 83) (44 + i) n hsh h1 dX4_put_83 ?_
      exact z_vret rfl dX4_put_84 rfl
