/-! ROW (written by gen/mkrow.py) -/
set_option maxRecDepth 100000
theorem Zg_ofW {ρ : Type} {M : zMr} {y : MethodName} {inj : ρ → zGw → Option Value} {K : zGw → Prop} {G : zGw} {As : List Value} {F : zSt → Option (ρ × zSt)} (ls0 : List (Option Value)) (hy : plainName y.cls = true) (hM : M.1 = y.cls) (hh : List (Nat × Nat × Nat × Nat)) (hH : M.2.2.2.2.2.2.2 = some hh) (hlen : (lg_sl As).length ≤ M.2.2.1) (hls : l0 M.2.2.1 (lv_args 0 As) = ls0) (h : ∀ X S res, Zz X M (zA G X.2.2.2.2.1.heap.size, y.name) (zQg inj M G K) G (0, 0) res S 0 ls0 [] (F S)) : Zg M y inj G K As F := by
  intro l S res sz hfl hF
  have hcw : zcw M y = Cond.codeWith y M.2.1 M.2.2.1 M.2.2.2.1 hh := by unfold zcw; rw [hH]
  rw [hcw]
  refine va_MetW (cc := M.2.1) (maxL := M.2.2.1) (ret := M.2.2.2.1) hy rfl ?_
  intro p e s m args below meth c s₁ B hml hv
  obtain ⟨rfl, hsz, hP, hK, hN, hA, hE⟩ := hv
  have hts := atoms_spec (ws := wsW_ y M.2.1 M.2.2.1 M.2.2.2.1 hh) B.pre
  have hts : ∀ w ∈ lw_all, w.before As.toArray s = true := fun w h => hts w (List.mem_cons_of_mem _ h)
  have hown : s.vm.findClass M.1 = some m.cls := by rw [hM]; exact findClass_of_methodNamed B.named
  subst hsz
  have hl := lv_entry As (n := M.2.2.1) hlen
  rw [lg_entry_eq]
  generalize (lg_sl As ++ List.replicate (M.2.2.1 - (lg_sl As).length) Slot.unset).toArray = la at hl ⊢
  have hx : zok M G (p, l, e, zRm M, s, m, As.toArray, below, meth, c) := ⟨B.exec, B.bytes, hml, hown, hts, ⟨hN, hE, hfl, by
    unfold zhh
    rw [hH]
    exact vx_table (x := y) B (atoms_spec (ws := wsW_ y M.2.1 M.2.2.1 M.2.2.2.1 hh) B.pre _ List.mem_cons_self)⟩, B.notSynchronized, B.returns, hK, hA, rfl⟩
  refine h (p, l, e, zRm M, s, m, As.toArray, below, meth, c) S res hF hx ⟨fun k hk => Or.inl ⟨k, hk, rfl⟩, fun q hq => Or.inr hq, hE, (name_of_methodNamed B.named B.method).1⟩ s.heap [] la hP ⟨hl.1, hl.2.1, fun i v hi => ?_⟩ va_S.rf
  subst hls
  unfold l0 at hi
  rw [List.getElem?_map] at hi
  obtain ⟨q, hq1, hq2⟩ := Option.map_eq_some_iff.mp hi
  have hq : q = i := by
    have := List.getElem?_eq_some_iff.mp hq1
    obtain ⟨h3, h4⟩ := this
    rw [List.getElem_range] at h4
    exact h4.symm
  subst hq
  exact hl.2.2 (q, v) (List.mem_iff_getElem?.mpr (by
    have : (q, v) ∈ lv_args 0 As := by
      revert hq2
      generalize lv_args 0 As = L
      induction L with
      | nil => intro h; cases h
      | cons a t ih =>
        intro h
        obtain ⟨a1, a2⟩ := a
        rw [List.lookup_cons] at h
        split at h
        · rename_i hb
          have e1 : q = a1 := by simpa using hb
          cases h
          rw [e1]
          exact List.mem_cons_self
        · exact List.mem_cons_of_mem _ (ih h)
    exact List.getElem?_of_mem this))

def wty (a : Int32) : FieldType := if a = 0 then .byte else if a = 1 then .short else if a = 2 then .int else .long
def gW (G : zGw) (i a n : Nat) (ty : FieldType) : zGw := gR (gA G 80 a (.inr (n, ty))) (40 + i) 0 (some 80)
abbrev mX4_make : zMr := ("HiddenCube$Slot", cX4_make, 3, none, 1, 1, 60, none)
theorem mv_X4_make : ZV mX4_make yX4_make 2 := ⟨q1338, q1339, q154, q1340, rfl, by decide, by decide, by decide +kernel⟩
theorem mv_X4_makeT : ZV mX4_makeT yX4_make 2 := mv_X4_make
section
variable {ρ : Type} {X : zCx} {M : zMr} {A : (Nat → Prop) × String} {Q : zCx → ρ × zSt → State → Prop} {G : zGw} {cs : Nat × Nat} {res : ρ × zSt} {S : zSt} {pc : Nat} {ls : List (Option Value)} {st : List Value} {f : Option (ρ × zSt)}
theorem zz_widen {cs' : Nat × Nat} (h1 : cs.1 ≤ cs'.1) (h2 : cs.2 ≤ cs'.2) (k : Zz X M A Q G cs' res S pc ls st f) : Zz X M A Q G cs res S pc ls st f :=
  fun hf ho hA H locs la hp hl1 hS => W.widen h1 h2 (k hf ho hA H locs la hp hl1 hS)
theorem zz_refeq {x y : Nat} {v : Value} (h : x = y) (k : Zz X M A Q G cs res S pc ls (v :: .ref y :: st) f) : Zz X M A Q G cs res S pc ls (v :: .ref x :: st) f := h ▸ k
end
theorem cg_X4_make {G : zGw} {i : Nat} (hcd : zcd G) (hsh : G.2.1 (40 + i) = some (.inl 4)) (hi : i < 4) (hf80 : G.2.1 80 = none) (a1 a2 : Int32) (hn : ¬ a2 < 0) (hN : a2.toNatClampNeg ≤ 60) : Zg mX4_make yX4_make (fun _ _ => none) G (fun G' => ∃ a, G' = gW G i a a2.toNatClampNeg (wty a1)) [.ref (G.1 (40 + i)), .int a1, .int a2] (fun S => some ((), sZ S 80)) := by
  refine Zg_of [some (.ref (G.1 (40 + i))), some (.int a1), some (.int a2)] (by decide) rfl rfl (Nat.le_of_ble_eq_true rfl) rfl (fun X S res => ?_)
  refine zz_aload_n (pc := 0) 0 dX4_make_0 rfl rfl ?_
  refine zz_iload_n (pc := 1) 1 dX4_make_1 rfl rfl ?_
  refine zz_ifd_ne (pc := 2) 11 dX4_make_2 rfl (fun h0 => ?_) (fun h0 => ?_)
  · refine zz_iload_n (pc := 11) 1 dX4_make_11 rfl rfl ?_
    refine zz_iconst (pc := 12) (v := 1) dX4_make_12 (by decide) ?_
    refine zz_icmpd_ne (pc := 13) 22 dX4_make_13 rfl (fun h1 => ?_) (fun h1 => ?_)
    · refine zz_iload_n (pc := 22) 1 dX4_make_22 rfl rfl ?_
      refine zz_iconst (pc := 23) (v := 2) dX4_make_23 (by decide) ?_
      refine zz_icmpd_ne (pc := 24) 33 dX4_make_24 rfl (fun h2 => ?_) (fun h2 => ?_)
      · refine zz_iload_n (pc := 33) 2 dX4_make_33 rfl rfl ?_
        have hw : wty a1 = .long := by unfold wty; rw [if_neg h0, if_neg h1, if_neg h2]
        refine zz_widen (cs' := (0, 60 - a2.toNatClampNeg)) (Nat.zero_le _) (Nat.zero_le _) ?_
        refine zz_newa (pc := 34) (n := a2) (N := a2.toNatClampNeg) (atype := .long) (1, 60) 80 hcd hf80 rfl q1342 hn rfl (by show a2.toNatClampNeg * 8 ≤ 536870912; omega) (by show (0 + 1, 60 - a2.toNatClampNeg + a2.toNatClampNeg) = (1, 60); rw [Nat.sub_add_cancel hN]) rfl dX4_make_34 (fun a => ?_)
        have hne : 40 + i ≠ 80 := by omega
        refine zz_refeq (gA_ad (k := 80) (a := a) (w := .inr (a2.toNatClampNeg, newarray.typeOf .long)) hne).symm ?_
        refine zz_putR (pc := 36) (G := gA G 80 a (.inr (a2.toNatClampNeg, newarray.typeOf .long))) tyX4 (40 + i) 4 0 80 ((gA_ne hne).trans hsh) rfl in_X4 tyX4_ok (fun b hb9 hbj => by omega) (by decide) q289 (Or.inl rfl) rfl rfl dX4_make_36 ?_
        exact zz_gvret (fun _ => rfl) rfl rfl ⟨a, by rw [hw]; rfl⟩ dX4_make_39 rfl
      · refine zz_iload_n (pc := 27) 2 dX4_make_27 rfl rfl ?_
        have hw : wty a1 = .int := by unfold wty; rw [if_neg h0, if_neg h1, if_pos h2]
        refine zz_widen (cs' := (0, 60 - a2.toNatClampNeg)) (Nat.zero_le _) (Nat.zero_le _) ?_
        refine zz_newa (pc := 28) (n := a2) (N := a2.toNatClampNeg) (atype := .int) (1, 60) 80 hcd hf80 rfl q246 hn rfl (by show a2.toNatClampNeg * 4 ≤ 536870912; omega) (by show (0 + 1, 60 - a2.toNatClampNeg + a2.toNatClampNeg) = (1, 60); rw [Nat.sub_add_cancel hN]) rfl dX4_make_28 (fun a => ?_)
        refine zz_goto (pc := 30) 36 dX4_make_30 rfl ?_
        have hne : 40 + i ≠ 80 := by omega
        refine zz_refeq (gA_ad (k := 80) (a := a) (w := .inr (a2.toNatClampNeg, newarray.typeOf .int)) hne).symm ?_
        refine zz_putR (pc := 36) (G := gA G 80 a (.inr (a2.toNatClampNeg, newarray.typeOf .int))) tyX4 (40 + i) 4 0 80 ((gA_ne hne).trans hsh) rfl in_X4 tyX4_ok (fun b hb9 hbj => by omega) (by decide) q289 (Or.inl rfl) rfl rfl dX4_make_36 ?_
        exact zz_gvret (fun _ => rfl) rfl rfl ⟨a, by rw [hw]; rfl⟩ dX4_make_39 rfl
    · refine zz_iload_n (pc := 16) 2 dX4_make_16 rfl rfl ?_
      have hw : wty a1 = .short := by unfold wty; rw [if_neg h0, if_pos h1]
      refine zz_widen (cs' := (0, 60 - a2.toNatClampNeg)) (Nat.zero_le _) (Nat.zero_le _) ?_
      refine zz_newa (pc := 17) (n := a2) (N := a2.toNatClampNeg) (atype := .short) (1, 60) 80 hcd hf80 rfl q1341 hn rfl (by show a2.toNatClampNeg * 2 ≤ 536870912; omega) (by show (0 + 1, 60 - a2.toNatClampNeg + a2.toNatClampNeg) = (1, 60); rw [Nat.sub_add_cancel hN]) rfl dX4_make_17 (fun a => ?_)
      refine zz_goto (pc := 19) 36 dX4_make_19 rfl ?_
      have hne : 40 + i ≠ 80 := by omega
      refine zz_refeq (gA_ad (k := 80) (a := a) (w := .inr (a2.toNatClampNeg, newarray.typeOf .short)) hne).symm ?_
      refine zz_putR (pc := 36) (G := gA G 80 a (.inr (a2.toNatClampNeg, newarray.typeOf .short))) tyX4 (40 + i) 4 0 80 ((gA_ne hne).trans hsh) rfl in_X4 tyX4_ok (fun b hb9 hbj => by omega) (by decide) q289 (Or.inl rfl) rfl rfl dX4_make_36 ?_
      exact zz_gvret (fun _ => rfl) rfl rfl ⟨a, by rw [hw]; rfl⟩ dX4_make_39 rfl
  · refine zz_iload_n (pc := 5) 2 dX4_make_5 rfl rfl ?_
    have hw : wty a1 = .byte := by unfold wty; rw [if_pos h0]
    refine zz_widen (cs' := (0, 60 - a2.toNatClampNeg)) (Nat.zero_le _) (Nat.zero_le _) ?_
    refine zz_newa (pc := 6) (n := a2) (N := a2.toNatClampNeg) (atype := .byte) (1, 60) 80 hcd hf80 rfl q245 hn rfl (by show a2.toNatClampNeg * 1 ≤ 536870912; omega) (by show (0 + 1, 60 - a2.toNatClampNeg + a2.toNatClampNeg) = (1, 60); rw [Nat.sub_add_cancel hN]) rfl dX4_make_6 (fun a => ?_)
    refine zz_goto (pc := 8) 36 dX4_make_8 rfl ?_
    have hne : 40 + i ≠ 80 := by omega
    refine zz_refeq (gA_ad (k := 80) (a := a) (w := .inr (a2.toNatClampNeg, newarray.typeOf .byte)) hne).symm ?_
    refine zz_putR (pc := 36) (G := gA G 80 a (.inr (a2.toNatClampNeg, newarray.typeOf .byte))) tyX4 (40 + i) 4 0 80 ((gA_ne hne).trans hsh) rfl in_X4 tyX4_ok (fun b hb9 hbj => by omega) (by decide) q289 (Or.inl rfl) rfl rfl dX4_make_36 ?_
    exact zz_gvret (fun _ => rfl) rfl rfl ⟨a, by rw [hw]; rfl⟩ dX4_make_39 rfl
/-- one place told anew: a slot's row out of 80 -/
def pR (i k : Nat) : Nat := if k = 44 + i then 80 else k
def vU (V : zSV) (i : Nat) (q : Nat × FieldType) : zSV := fun j => if j = i then some q else V j
section
variable {ad : Nat → Nat} {V : zSV} {I : Nat → Bool} {D : va_G} {i a n : Nat} {ty : FieldType}
theorem gW_lo {k : Nat} (h : k < 80) : (gW (cG ad V I D) i a n ty).1 k = ad k ∧ (gW (cG ad V I D) i a n ty).2.1 k = cSh V I k ∧ ∀ f, (gW (cG ad V I D) i a n ty).2.2.1 k f = if k = 40 + i ∧ f = 0 then some 80 else cRf V I k f := by
  have h0 : k ≠ 80 := by omega
  refine ⟨if_neg h0, if_neg h0, fun f => ?_⟩
  show (if k = 40 + i then (if f = 0 then some 80 else (if k = 80 then none else cRf V I k f)) else (if k = 80 then none else cRf V I k f)) = _
  rw [if_neg h0]
  by_cases h1 : k = 40 + i <;> by_cases h2 : f = 0 <;> simp [h1, h2]
theorem cSh_vU (hi : i < 4) {k : Nat} (hk : k ≠ 44 + i) : cSh (vU V i (n, ty)) I k = cSh V I k := by
  unfold cSh
  by_cases h44 : k < 44
  · rw [if_pos h44, if_pos h44]
  · by_cases h48 : k < 48
    · have : vU V i (n, ty) (k - 44) = V (k - 44) := if_neg (by omega)
      rw [if_neg h44, if_neg h44, if_pos h48, if_pos h48, this]
    · rw [if_neg h44, if_neg h44, if_neg h48, if_neg h48]
theorem cSh_vUi (hi : i < 4) : cSh (vU V i (n, ty)) I (44 + i) = some (.inr (n, ty)) := by
  unfold cSh
  rw [if_neg (by omega), if_pos (by omega), show 44 + i - 44 = i from by omega]
  have : vU V i (n, ty) i = some (n, ty) := if_pos rfl
  rw [this]; rfl
theorem pR_sh (hi : i < 4) : ∀ k, (cG (fun k => (gW (cG ad V I D) i a n ty).1 (pR i k)) (vU V i (n, ty)) I D).2.1 k ≠ none → (cG (fun k => (gW (cG ad V I D) i a n ty).1 (pR i k)) (vU V i (n, ty)) I D).2.1 k = (gW (cG ad V I D) i a n ty).2.1 (pR i k) ∧ (cG (fun k => (gW (cG ad V I D) i a n ty).1 (pR i k)) (vU V i (n, ty)) I D).1 k = (gW (cG ad V I D) i a n ty).1 (pR i k) := by
  intro k hk
  refine ⟨?_, rfl⟩
  show cSh (vU V i (n, ty)) I k = _
  by_cases h : k = 44 + i
  · subst h
    have e : pR i (44 + i) = 80 := if_pos rfl
    rw [e, cSh_vUi hi]
    rfl
  · have e : pR i k = k := if_neg h
    have h80 : k < 80 := Nat.not_le.mp fun e => hk (cSh_hi (by omega))
    rw [e, (gW_lo h80).2.1, cSh_vU hi h]
theorem pR_inj : ∀ x y, (cG (fun k => (gW (cG ad V I D) i a n ty).1 (pR i k)) (vU V i (n, ty)) I D).2.1 x ≠ none → (cG (fun k => (gW (cG ad V I D) i a n ty).1 (pR i k)) (vU V i (n, ty)) I D).2.1 y ≠ none → pR i x = pR i y → x = y := by
  intro x y hi hj he
  have h1 : x < 74 := Nat.not_le.mp fun e => hi (cSh_hi e)
  have h2 : y < 74 := Nat.not_le.mp fun e => hj (cSh_hi e)
  unfold pR at he
  split at he <;> split at he <;> omega
theorem cRf_row {k f q : Nat} (hi : i < 4) (h : cRf V I k f = some q) : q ≠ 44 + i ∨ (k = 40 + i ∧ f = 0) := by
  unfold cRf at h
  split at h
  · split at h
    · cases h; exact Or.inl (by omega)
    · cases h
  split at h
  · split at h
    · cases h; exact Or.inl (by omega)
    · cases h
  split at h
  · have := (cRl_lo h).1
    exact Or.inl (by omega)
  split at h
  · split at h
    · rename_i h1
      cases h
      by_cases e : k = 40 + i
      · exact Or.inr ⟨e, h1.1⟩
      · exact Or.inl (by omega)
    · cases h
  split at h
  · cases h; exact Or.inl (by omega)
  · cases h
theorem pR_ref (hi : i < 4) {k f : Nat} (hk : cSh (vU V i (n, ty)) I k ≠ none) (hk2 : k ≠ 44 + i) : (cRf (vU V i (n, ty)) I k f).map (fun k => (gW (cG ad V I D) i a n ty).1 (pR i k)) = ((gW (cG ad V I D) i a n ty).2.2.1 (pR i k) f).map (gW (cG ad V I D) i a n ty).1 := by
  have e : pR i k = k := if_neg hk2
  have h80 : k < 80 := Nat.not_le.mp fun e => hk (cSh_hi (by omega))
  rw [e, (gW_lo h80).2.2]
  by_cases hr : k = 40 + i ∧ f = 0
  · rw [if_pos hr, hr.1, hr.2]
    have h1 : cRf (vU V i (n, ty)) I (40 + i) 0 = some (44 + i) := by
      unfold cRf
      rw [if_neg (by omega), if_neg (by omega), if_neg (by omega), if_pos (by omega), show 40 + i - 40 = i from by omega]
      have : vU V i (n, ty) i = some (n, ty) := if_pos rfl
      rw [this, if_pos ⟨rfl, rfl⟩]
      congr 1; omega
    rw [h1]
    show some ((gW (cG ad V I D) i a n ty).1 (pR i (44 + i))) = some ((gW (cG ad V I D) i a n ty).1 80)
    have e2 : pR i (44 + i) = 80 := if_pos rfl
    rw [e2]
  · rw [if_neg hr]
    have h1 : cRf (vU V i (n, ty)) I k f = cRf V I k f := by
      unfold cRf
      by_cases h40 : 40 ≤ k ∧ k < 44
      · by_cases h2 : k = 40 + i
        · have : f ≠ 0 := fun e => hr ⟨h2, e⟩
          simp only [this, false_and, if_false]
        · have : vU V i (n, ty) (k - 40) = V (k - 40) := if_neg (by omega)
          rw [this]
      · by_cases h3 : k < 40
        · simp only [if_pos h3]
        · have h4 : ¬ k < 44 := by omega
          simp only [if_neg h4]
    rw [h1]
    cases hq : cRf V I k f with
    | none => rfl
    | some q =>
      have e3 : pR i q = q := if_neg (by rcases cRf_row hi hq with h | h; exact h; exact absurd h hr)
      show some ((gW (cG ad V I D) i a n ty).1 (pR i q)) = some ((gW (cG ad V I D) i a n ty).1 q)
      rw [e3]
theorem pR_O (hi : i < 4) : ∀ k ci, (cG (fun k => (gW (cG ad V I D) i a n ty).1 (pR i k)) (vU V i (n, ty)) I D).2.1 k = some (.inl ci) → ∀ r, zcl[ci]? = some r → ∀ f, f < r.2.2 → zrft (zft ci f) = true → ((cG (fun k => (gW (cG ad V I D) i a n ty).1 (pR i k)) (vU V i (n, ty)) I D).2.2.1 k f).map (cG (fun k => (gW (cG ad V I D) i a n ty).1 (pR i k)) (vU V i (n, ty)) I D).1 = ((gW (cG ad V I D) i a n ty).2.2.1 (pR i k) f).map (gW (cG ad V I D) i a n ty).1 := by
  intro k ci hk r hr f hf hz
  have hk : cSh (vU V i (n, ty)) I k = some (.inl ci) := hk
  refine pR_ref hi (by rw [hk]; simp) (fun e => ?_)
  rw [e, cSh_vUi hi] at hk
  cases hk
theorem pR_A (hi : i < 4) (hty : zrft ty = false) : ∀ k m ty', (cG (fun k => (gW (cG ad V I D) i a n ty).1 (pR i k)) (vU V i (n, ty)) I D).2.1 k = some (.inr (m, ty')) → zrft ty' = true → ∀ f, f < m → ((cG (fun k => (gW (cG ad V I D) i a n ty).1 (pR i k)) (vU V i (n, ty)) I D).2.2.1 k f).map (cG (fun k => (gW (cG ad V I D) i a n ty).1 (pR i k)) (vU V i (n, ty)) I D).1 = ((gW (cG ad V I D) i a n ty).2.2.1 (pR i k) f).map (gW (cG ad V I D) i a n ty).1 := by
  intro k m ty' hk hz f hf
  have hk : cSh (vU V i (n, ty)) I k = some (.inr (m, ty')) := hk
  refine pR_ref hi (by rw [hk]; simp) (fun e => ?_)
  rw [e, cSh_vUi hi] at hk
  cases hk
  rw [hty] at hz
  cases hz
end
theorem wty_r {a : Int32} : zrft (wty a) = false := by
  unfold wty
  split
  · rfl
  split
  · rfl
  split <;> rfl
abbrev mX0_row : zMr := ("HiddenCube", cX0_row, 5, some .int, 171, 3, 60, some [(28, 40, 41, 511)])
theorem mv_X0_row : ZVW mX0_row yX0_row 3 := ⟨q1307, q1308, q150, q1309, rfl, by decide, by decide, by decide +kernel⟩
/-- a row that isn't made -/
def F_X0_rowN (a1 a2 a3 : Int32) (S : zSt) : Option (Int32 × zSt) :=
  zbind (F_X0_isSlot a1 S) (fun r2 S1 =>
  if r2 = 0 then (some ((-2), S1)) else (zbind (F_X0_isIn ((a2).toInt64) 0 3 S1) (fun r4 S3 =>
  if r4 = 0 then (some ((-2), S3)) else (if a3 ≤ 60 then (chk a1 4 (if a3 < 0 then some ((-3), S3) else none)) else some ((-2), S3)))))
/-- a row that is made -/
def F_X0_row (a1 a2 a3 : Int32) (S : zSt) : Option (Int32 × zSt) :=
  zbind (F_X0_isSlot a1 S) (fun r2 S1 =>
  if r2 = 0 then none else (zbind (F_X0_isIn ((a2).toInt64) 0 3 S1) (fun r4 S3 =>
  if r4 = 0 then none else (if a3 ≤ 60 then (chk a1 4 ((some ((), sZ S3 80) : Option (Unit × zSt)).bind (fun r5 => some (0, rS (pR a1.toNatClampNeg) r5.2)))) else none))))
theorem ct_X0_rowN {G : zGw} (hG : zGC G) {V : zSV} (hV : zGV G V) (a1 a2 a3 : Int32) : Zc mX0_row yX0_row zJI G [.ref (G.1 0), .int a1, .int a2, .int a3] (F_X0_rowN a1 a2 a3) := by
  refine Zc_ofW [some (.ref (G.1 0)), some (.int a1), some (.int a2), some (.int a3), none] (by decide) rfl _ rfl (Nat.le_of_ble_eq_true rfl) rfl (fun X S res => ?_)
  unfold F_X0_rowN
  refine z_iload_n (pc := 0) 1 dX0_row_0 rfl rfl ?_
  refine z_callSi (pc := 1) _ _ (ct_X0_isSlot _) mv_X0_isSlot q1121 rfl (Nat.le_of_ble_eq_true rfl) (Nat.le_of_ble_eq_true rfl) rfl rfl (Nat.le_of_ble_eq_true rfl) dX0_row_1 (fun r2 S1 => ?_)
  refine z_if_eq (pc := 4) 25 dX0_row_4 rfl ?_ ?_
  · refine z_bipush (pc := 25) (v := (-2)) dX0_row_25 (by decide) ?_
    exact z_iret rfl dX0_row_27 rfl
  · refine z_iload_n (pc := 7) 2 dX0_row_7 rfl rfl ?_
    refine z_i2l (pc := 8) dX0_row_8 ?_
    refine z_lconst (pc := 9) (v := 0) dX0_row_9 (by decide) ?_
    refine z_ldc2 (pc := 10) (v := 3) dX0_row_10 q1024 ?_
    refine z_callSi (pc := 13) _ _ (ct_X0_isIn _ _ _) mv_X0_isIn q429 rfl (Nat.le_of_ble_eq_true rfl) (Nat.le_of_ble_eq_true rfl) rfl rfl (Nat.le_of_ble_eq_true rfl) dX0_row_13 (fun r4 S3 => ?_)
    refine z_if_eq (pc := 16) 25 dX0_row_16 rfl ?_ ?_
    · refine z_bipush (pc := 25) (v := (-2)) dX0_row_25 (by decide) ?_
      exact z_iret rfl dX0_row_27 rfl
    · refine z_iload_n (pc := 19) 3 dX0_row_19 rfl rfl ?_
      refine z_bipush (pc := 20) (v := 60) dX0_row_20 (by decide) ?_
      refine z_icmp_le (pc := 22) 28 dX0_row_22 rfl ?_ ?_
      · refine z_aload_n (pc := 28) 0 dX0_row_28 rfl rfl ?_
        refine gf_X0_C_118_0 hG (pc := 29) dX0_row_29 ?_
        refine z_iload_n (pc := 32) 1 dX0_row_32 rfl rfl ?_
        refine z_chk (fun h4 => ?_)
        have hlt : a1.toNatClampNeg < 4 := Nat.not_le.mp fun q => h4 (Or.inr q)
        refine z_aaloadV (pc := 33) hG hV h4 dX0_row_33 ?_
        refine z_iload_n (pc := 34) 2 dX0_row_34 rfl rfl ?_
        refine z_iload_n (pc := 35) 3 dX0_row_35 rfl rfl ?_
        by_cases hneg : a3 < 0
        · rw [if_pos hneg]
          refine z_callVt (pc := 36) _ _ (40 + (a1).toNatClampNeg) 4 (cx_X4_makeT a2 a3 hneg) rfl mv_X4_makeT q1337 rfl (hV _ hlt).1 rfl (Nat.le_of_ble_eq_true rfl) (Nat.le_of_ble_eq_true rfl) rfl (Nat.le_of_ble_eq_true rfl) (Nat.le_of_ble_eq_true rfl) (Nat.le_of_ble_eq_true rfl) dX0_row_36 "java/lang/NegativeArraySizeException" [] ⟨28, 40, 41, 511⟩ [] rfl (by intro z hz; cases hz) rfl (by decide) q1310 (by decide) (fun q9 => ?_)
          refine z_astore (pc := 41) dX0_row_41 (Nat.le_of_ble_eq_true rfl) rfl ?_
          refine z_bipush (pc := 43) (v := (-3)) dX0_row_43 (by decide) ?_
          exact z_iret rfl dX0_row_45 rfl
        · rw [if_neg hneg]
          exact z_none
      · refine z_bipush (pc := 25) (v := (-2)) dX0_row_25 (by decide) ?_
        exact z_iret rfl dX0_row_27 rfl
theorem cg_X0_row {ad : Nat → Nat} {V : zSV} {I : Nat → Bool} {D : va_G} (hVk : zVok V) (a1 a2 a3 : Int32) (hn : ¬ a3 < 0) (hN : a3.toNatClampNeg ≤ 60) : Zg mX0_row yX0_row zJIg (cG ad V I D) (fun G' => ∃ ad', ad' 0 = ad 0 ∧ G' = cG ad' (vU V a1.toNatClampNeg (a3.toNatClampNeg, wty a2)) I D) [.ref ((cG ad V I D).1 0), .int a1, .int a2, .int a3] (F_X0_row a1 a2 a3) := by
  have hG : zGC (cG ad V I D) := zGC_c
  have hV : zGV (cG ad V I D) V := zGV_c hVk
  refine Zg_ofW [some (.ref ((cG ad V I D).1 0)), some (.int a1), some (.int a2), some (.int a3), none] (by decide) rfl _ rfl (Nat.le_of_ble_eq_true rfl) rfl (fun X S res => ?_)
  unfold F_X0_row
  refine zz_iload_n (pc := 0) 1 dX0_row_0 rfl rfl ?_
  refine zz_callSi (pc := 1) _ _ (ct_X0_isSlot _) mv_X0_isSlot q1121 rfl (Nat.le_of_ble_eq_true rfl) (Nat.le_of_ble_eq_true rfl) rfl rfl (Nat.le_of_ble_eq_true rfl) dX0_row_1 (fun r2 S1 => ?_)
  refine zz_if_eq (pc := 4) 25 dX0_row_4 rfl ?_ ?_
  · exact zz_none
  · refine zz_iload_n (pc := 7) 2 dX0_row_7 rfl rfl ?_
    refine zz_i2l (pc := 8) dX0_row_8 ?_
    refine zz_lconst (pc := 9) (v := 0) dX0_row_9 (by decide) ?_
    refine zz_ldc2 (pc := 10) (v := 3) dX0_row_10 q1024 ?_
    refine zz_callSi (pc := 13) _ _ (ct_X0_isIn _ _ _) mv_X0_isIn q429 rfl (Nat.le_of_ble_eq_true rfl) (Nat.le_of_ble_eq_true rfl) rfl rfl (Nat.le_of_ble_eq_true rfl) dX0_row_13 (fun r4 S3 => ?_)
    refine zz_if_eq (pc := 16) 25 dX0_row_16 rfl ?_ ?_
    · exact zz_none
    · refine zz_iload_n (pc := 19) 3 dX0_row_19 rfl rfl ?_
      refine zz_bipush (pc := 20) (v := 60) dX0_row_20 (by decide) ?_
      refine zz_icmp_le (pc := 22) 28 dX0_row_22 rfl ?_ ?_
      · refine zz_aload_n (pc := 28) 0 dX0_row_28 rfl rfl ?_
        refine zz_get (pc := 29) (v := .ref ((cG ad V I D).1 37)) 0 0 37 (zGC_s0 hG) rfl in_X0 (by decide) q336 (zval_rf rfl (hG.2 (0, 37, 37) (by decide))) dX0_row_29 ?_
        refine zz_iload_n (pc := 32) 1 dX0_row_32 rfl rfl ?_
        refine zz_chk (fun h4 => ?_)
        have hlt : a1.toNatClampNeg < 4 := Nat.not_le.mp fun q => h4 (Or.inr q)
        refine zz_aaloadV (pc := 33) hG hV h4 dX0_row_33 ?_
        refine zz_iload_n (pc := 34) 2 dX0_row_34 rfl rfl ?_
        refine zz_iload_n (pc := 35) 3 dX0_row_35 rfl rfl ?_
        have ct := cg_X4_make (G := cG ad V I D) (i := a1.toNatClampNeg) zcd_c (cSh_slot hlt) hlt (cG_hi 80 (by decide)) a2 a3 hn hN
        refine zz_callGV (pc := 36) (cs := (0, 0)) (idx := 508) (M := mX0_row) (1, 60) [.int a2, .int a3] [] (40 + a1.toNatClampNeg) ct 4 (cSh_slot hlt) rfl mv_X4_make q1337 rfl (Nat.le_of_ble_eq_true rfl) (Nat.le_of_ble_eq_true rfl) rfl rfl rfl (Nat.le_of_ble_eq_true rfl) dX0_row_36 (fun G1 r3 S3' hK => ?_)
        obtain ⟨a, rfl⟩ := hK
        refine zz_iconst (pc := 39) (v := 0) dX0_row_39 (by decide) ?_
        exact zz_giretR (pR a1.toNatClampNeg) (cG _ (vU V a1.toNatClampNeg (a3.toNatClampNeg, wty a2)) I D) (rS (pR a1.toNatClampNeg) S3') rfl (fun _ _ => ⟨rfl, rfl⟩) (pR_sh hlt) (pR_O hlt) (pR_A hlt wty_r) pR_inj (fun _ => rfl) rfl rfl ⟨_, (by show (Prod.fst (_ : zGw)) (pR _ 0) = _; rw [show pR a1.toNatClampNeg 0 = 0 from if_neg (by omega)]; rfl), rfl⟩ dX0_row_40 rfl
      · exact zz_none
