/-! WITHOUT: two fields of one name -/
set_option maxRecDepth 100000
theorem zhp_setG {G G' : zGw} {S : zSt} {s : State} {H H' : Heap} {k : Nat} (h1 : G'.1 = G.1) (h2 : G'.2.1 = G.2.1) (h3 : ∀ a, a ≠ k → G'.2.2.1 a = G.2.2.1 a) (h4 : G'.2.2.2 = G.2.2.2) (hap : zap G) (hk : G.2.1 k ≠ none) (h : zhp G S s H) (ho : ∀ q, q ≠ G.1 k → H'[q]? = H[q]?) (hc : zcellIs G' S s H' k) : zhp G' S s H' := by
  intro a
  by_cases e : a = k
  · rw [e]; exact hc
  · have hx := h a
    unfold zcellIs at hx ⊢
    rw [h2, h1, h3 a e, h4]
    cases hs : G.2.1 a with
    | none => trivial
    | some c =>
      rw [hs] at hx
      have hq : G.1 a ≠ G.1 k := fun z => e (hap a k (by rw [hs]; simp) hk z)
      cases c with
      | inl ci =>
        obtain ⟨r0, r1, r2⟩ := hx
        exact ⟨r0, r1, r2.kept (ho _ hq)⟩
      | inr x =>
        obtain ⟨cA, r1, r2⟩ := hx
        exact ⟨cA, (ho _ hq).trans r1, r2⟩
section
variable {ρ : Type} {X : zCx} {M : zMr} {A : (Nat → Prop) × String} {Q : zCx → ρ × zSt → State → Prop} {G : zGw} {cs : Nat × Nat} {res : ρ × zSt} {S : zSt} {pc : Nat} {ls : List (Option Value)} {st : List Value} {f : Option (ρ × zSt)}
theorem zz_putW {idx : Nat} (kp q j j' : Nat) (hjj : (j = 4 ∧ j' = 1) ∨ (j = 1 ∧ j' = 4)) (hsh : G.2.1 kp = some (.inl 3)) (hl : Cond.fieldLink M.1 idx (TX3 j).1 (TX3 j).2.1 (TX3 j).2.2.1 ∈ lw_all) (hin2 : A.2 = "<init>") (hdecl : (TX3 j).1 = M.1) (d : decode M.2.1 pc = .ok (.putfield idx, 3)) (k1 : Zz X M A Q (gR G kp j (some q)) cs res S (pc + 3) ls st f) (k2 : Zz X M A Q (gR (gR G kp j (some q)) kp j' (some q)) cs res S (pc + 3) ls st f) : Zz X M A Q G cs res S pc ls (.ref (G.1 q) :: .ref (G.1 kp) :: st) f := by
  intro hf ho hA H locs la hp hl1 hS
  have hc : zcl[3]? = some (RX3, TX3s, 5) := rfl
  obtain ⟨cell, q1, q2, q3, q4⟩ := zhp_obj hp hsh hc
  obtain ⟨hS1, hfc, kC, hkC, hkind⟩ := ho.2.2.2.2.2.2.2.2.1 3 _ hc
  have hj : j < 5 := by omega
  obtain ⟨cf, kf, fi, fd, hi, hsl⟩ := hS1 j hj
  have hlay := ho.2.2.2.2.1 _ (in_X3s _ (u_in_lay hj))
  have hst := (u_facts hfc hkC (u_lays ho.2.2.2.2.1 in_X3s hj) hi).1
  have hne : G.2.1 kp ≠ none := by rw [hsh]; simp
  have hdj := tyX3_ok j hj
  have hty : tyX3 j = .object "HiddenCube" := by rcases hjj with ⟨e, -⟩ | ⟨e, -⟩ <;> subst e <;> rfl
  have hap : ∀ b, b < 5 → b ≠ j → b ≠ j' → G.2.2.2.2 3 j ≠ G.2.2.2.2 3 b := by
    intro b hb n1 n2
    obtain ⟨_, _, _, fb, hib, eb⟩ := hS1 b hb
    rw [← hsl, ← eb]
    refine u_apart (u_lays ho.2.2.2.2.1 in_X3s hj) (u_lays ho.2.2.2.2.1 in_X3s hb) hi hib ?_
    rw [(State.fieldFound?_type hi hdj).1, (State.fieldFound?_type hib (tyX3_ok b hb)).1]
    rcases hjj with ⟨e, e'⟩ | ⟨e, e'⟩ <;> subst e <;> subst e' <;> (have : b = 0 ∨ b = 2 ∨ b = 3 := by omega) <;> rcases this with h | h | h <;> subst h <;> decide +kernel
  have hfin : (TX3s j).2.2.2 = true := by rcases hjj with ⟨e, -⟩ | ⟨e, -⟩ <;> subst e <;> rfl
  have fin : ∀ H' : Heap, H'[G.1 kp]? = some (cell.setSlot fd.slot (.ref (G.1 q))) → H'.size = H.size → (∀ x, x ≠ G.1 kp → H'[x]? = H[x]?) → W X.1 X.2.1 X.2.2.1 X.2.2.2.1 X.2.2.2.2.1 X.2.2.2.2.2.1 X.2.2.2.2.2.2.1 X.2.2.2.2.2.2.2.1 X.2.2.2.2.2.2.2.2.1 X.2.2.2.2.2.2.2.2.2 H' (locs ++ [⟨G.1 kp, fd.slot⟩]) cs.1 cs.2 (Q X res) (F0 X.2.2.2.2.2.1 (pc + 3) la st) := by
    intro H' e1 e2 e3
    rw [hsl] at e1 ⊢
    have hins : (cell.setSlot (G.2.2.2.2 3 j) (.ref (G.1 q))).slots[G.2.2.2.2 3 j]? = some (.ref (G.1 q)) := Cell.slots_setSlot_self _ (k2_hasslot (q4 j hj))
    by_cases hs : G.2.2.2.2 3 j = G.2.2.2.2 3 j'
    · refine k2 hf (zok_to (A := A) ho ⟨hA.1, hA.2.1, hA.2.2.1, hA.2.2.2⟩ rfl ho.2.2.2.2.2.2.2.2.2.1) ⟨hA.1, hA.2.1, hA.2.2.1, hA.2.2.2⟩ H' _ la (zhp_setG (G := G) (k := kp) rfl rfl (fun a ha => by funext b; simp [gR, ha]) rfl ho.2.2.2.2.2.2.2.2.2.1 hne hp e3 ?_) hl1 (hS.put e2 e3 (hA.1 _ hne))
      unfold zcellIs
      have hs2 : (gR (gR G kp j (some q)) kp j' (some q)).2.1 kp = some (.inl 3) := hsh
      rw [hs2]
      refine ⟨_, hc, ⟨_, e1, q2, q3, fun b hb => ?_⟩⟩
      by_cases hbj : b = j
      · subst hbj
        refine hins.trans (congrArg some ?_)
        have : (gR (gR G kp b (some q)) kp j' (some q)).2.2.1 kp b = some q := by simp [gR]
        exact ((congrArg (fun r => zval (tyX3 b) G.1 r (S.1 kp b) (S.2 kp b)) this).trans (zrft_val (ty := tyX3 b) (by rw [hty]; rfl))).symm
      · by_cases hbj' : b = j'
        · subst hbj'
          have hi2 := hins
          rw [hs] at hi2
          show (cell.setSlot (G.2.2.2.2 3 j) (.ref (G.1 q))).slots[G.2.2.2.2 3 b]? = _
          rw [hs]
          refine hi2.trans (congrArg some ?_)
          have : (gR (gR G kp j (some q)) kp b (some q)).2.2.1 kp b = some q := by simp [gR]
          have hty2 : tyX3 b = .object "HiddenCube" := by rcases hjj with ⟨-, e⟩ | ⟨-, e⟩ <;> subst e <;> rfl
          exact ((congrArg (fun r => zval (tyX3 b) G.1 r (S.1 kp b) (S.2 kp b)) this).trans (zrft_val (ty := tyX3 b) (by rw [hty2]; rfl))).symm
        · refine (slot_ne _ _ (hap b hb hbj hbj')).trans ((q4 b hb).trans (congrArg some ?_))
          have : (gR (gR G kp j (some q)) kp j' (some q)).2.2.1 kp b = G.2.2.1 kp b := by simp [gR, hbj, hbj']
          exact (congrArg (fun r => zval (tyX3 b) G.1 r (S.1 kp b) (S.2 kp b)) this).symm
    · refine k1 hf (zok_to (A := A) ho ⟨hA.1, hA.2.1, hA.2.2.1, hA.2.2.2⟩ rfl ho.2.2.2.2.2.2.2.2.2.1) ⟨hA.1, hA.2.1, hA.2.2.1, hA.2.2.2⟩ H' _ la (zhp_setR ho.2.2.2.2.2.2.2.2.2.1 hne hp e3 ?_) hl1 (hS.put e2 e3 (hA.1 _ hne))
      unfold zcellIs
      have hs2 : (gR G kp j (some q)).2.1 kp = some (.inl 3) := hsh
      rw [hs2]
      refine ⟨_, hc, ⟨_, e1, q2, q3, fun b hb => ?_⟩⟩
      by_cases hbj : b = j
      · subst hbj
        refine hins.trans (congrArg some ?_)
        have : (gR G kp b (some q)).2.2.1 kp b = some q := by simp [gR]
        exact ((congrArg (fun r => zval (tyX3 b) G.1 r (S.1 kp b) (S.2 kp b)) this).trans (zrft_val (ty := tyX3 b) (by rw [hty]; rfl))).symm
      · have hbs : G.2.2.2.2 3 j ≠ G.2.2.2.2 3 b := by
          by_cases h : b = j'
          · rw [h]; exact hs
          · exact hap b hb hbj h
        refine (slot_ne _ _ hbs).trans ((q4 b hb).trans (congrArg some ?_))
        have : (gR G kp j (some q)).2.2.1 kp b = G.2.2.1 kp b := by simp [gR, hbj]
        exact (congrArg (fun r => zval (tyX3 b) G.1 r (S.1 kp b) (S.2 kp b)) this).symm
  unfold u_lay at hlay
  rw [if_pos hfin] at hlay
  have hcf : X.2.2.2.2.2.1.cls = cf := by
    obtain ⟨_, _, c', _, _, _, -, -, hf', -, -, -, hown2, -⟩ := Cond.laysFinal_spec hlay
    have e1 : c' = cf := by have := hi.symm.trans hf'; simp at this; exact this.1.symm
    rw [hdecl] at hown2
    rw [← e1]; exact Option.some.inj (ho.2.2.2.1.symm.trans hown2)
  have h6 := u_fits hfc hkC hkind (Or.inr hlay) hi hdj (v := .ref (G.1 q)) (by rw [hty]; rfl) (by rw [hty]; rfl)
  exact W.putFinK ho.1 ho.2.1 ho.2.2.2.1 (ho.2.2.2.2.1 _ hl) hi hst hcf (hA.2.2.2.trans hin2) (by rw [q2]; exact h6) q1 q3 (by rw [hsl]; exact k2_hasslot (q4 j hj)) rfl rfl d fin
end
theorem gR_eq {G : zGw} {k i j q : Nat} (h : G.2.2.1 k j = some q) : gR (gR G k i (some q)) k j (some q) = gR G k i (some q) := by
  unfold gR
  congr 3
  funext a b
  by_cases ha : a = k
  · by_cases hb : b = j
    · subst ha; subst hb; simp [h]
    · simp [ha, hb]
  · simp [ha]
theorem gR_idem {G : zGw} {k i q : Nat} : gR (gR G k i (some q)) k i (some q) = gR G k i (some q) := by
  unfold gR
  congr 3
  funext a b
  by_cases ha : a = k <;> by_cases hb : b = i <;> simp [ha, hb]
abbrev mX2_init_10 : zMr := ("HiddenCube$Walk", cX2_init, 2, none, 3, 1, 32, none)
def gX2_init_10 (G : zGw) (a1 : Nat) : zGw := gR (gA (gR G 10 1 (some 0)) 11 a1 (.inr (32, .int))) 10 0 (some 11)
def F_X2_init_10 (S : zSt) : Option (Unit × zSt) := some ((), sZ S 11)
theorem mv_X2_init_10 : ZI mX2_init_10 yX2_init 1 := ⟨q250, q152, q251, rfl, rfl, by decide, by decide, by decide +kernel⟩
theorem cg_X2_init_10 {G : zGw} (hcd : zcd G) (hb : G.2.1 10 = some (.inl 3)) (hp0 : G.2.1 0 ≠ none) (hf11 : G.2.1 11 = none) (hw : G.2.2.1 10 4 = some 0) : Zg mX2_init_10 yX2_init (fun _ _ => none) G (fun G' => ∃ a1, G' = gX2_init_10 G a1) [.ref (G.1 10), .ref (G.1 0)] F_X2_init_10 := by
  refine Zg_of [some (.ref (G.1 10)), some (.ref (G.1 0))] (by decide) rfl rfl (Nat.le_of_ble_eq_true rfl) rfl (fun X S res => ?_)
  unfold F_X2_init_10
  refine zz_aload_n (pc := 0) 0 dX2_init_0 rfl rfl ?_
  refine zz_aload_n (pc := 1) 1 dX2_init_1 rfl rfl ?_
  have hr3 := zcd_gR (k := 10) (i := 1) (q := some 0) (fun x hx => by cases hx; exact hp0) hcd
  have key : Zz X mX2_init_10 (zA G X.2.2.2.2.1.heap.size, yX2_init.name) (zQg (fun _ _ => none) mX2_init_10 G (fun G' => ∃ a1, G' = gX2_init_10 G a1)) (gR G 10 1 (some 0)) (0, 0) res S 5 [some (.ref (G.1 10)), some (.ref (G.1 0))] [] (some ((), sZ S 11)) := by
    refine zz_aload_n (pc := 5) 0 dX2_init_5 rfl rfl ?_
    refine zz_objInit (pc := 6) (kp := 10) q252 zq_oi1 zq_oi2 (Nat.le_of_ble_eq_true rfl) (Nat.le_of_ble_eq_true rfl) dX2_init_6 ?_
    refine zz_aload_n (pc := 9) 0 dX2_init_9 rfl rfl ?_
    refine zz_bipush (pc := 10) (v := (32)) dX2_init_10 (by decide) ?_
    refine zz_newa (pc := 12) (n := 32) (N := 32) (atype := .int) (1, 32) 11 hr3 hf11 rfl q246 (by decide) (by decide) (by decide) rfl rfl dX2_init_12 (fun a1 => ?_)
    refine zz_putR (pc := 14) tyX3s 10 3 0 11 hb rfl in_X3s tyX3s_ok nmX3s_0 (by decide) q253 (by first | exact Or.inl rfl | exact Or.inr ⟨rfl, rfl, rfl⟩) rfl rfl dX2_init_14 ?_
    exact zz_gvret (fun _ => rfl) rfl rfl ⟨a1, rfl⟩ dX2_init_17 rfl
  refine zz_putW (pc := 2) 10 0 1 4 (Or.inr ⟨rfl, rfl⟩) hb q255 rfl rfl dX2_init_2 key ?_
  rw [gR_eq hw]
  exact key
abbrev mX3_init_10 : zMr := ("HiddenCube$Without", cX3_init, 2, none, 5, 1, 32, none)
def gX3_init_10 (G : zGw) (a1 : Nat) : zGw := gX2_init_10 (gR G 10 4 (some 0)) a1
theorem mv_X3_init_10 : ZI mX3_init_10 yX3_init 1 := ⟨q264, q153, q265, rfl, rfl, by decide, by decide, by decide +kernel⟩
theorem cg_X3_init_10 {G : zGw} (hcd : zcd G) (hb : G.2.1 10 = some (.inl 3)) (hp0 : G.2.1 0 ≠ none) (hf11 : G.2.1 11 = none) : Zg mX3_init_10 yX3_init (fun _ _ => none) G (fun G' => ∃ a1, G' = gX3_init_10 G a1) [.ref (G.1 10), .ref (G.1 0)] F_X2_init_10 := by
  refine Zg_of [some (.ref (G.1 10)), some (.ref (G.1 0))] (by decide) rfl rfl (Nat.le_of_ble_eq_true rfl) rfl (fun X S res => ?_)
  refine zz_aload_n (pc := 0) 0 dX3_init_0 rfl rfl ?_
  refine zz_aload_n (pc := 1) 1 dX3_init_1 rfl rfl ?_
  have h1 := zcd_gR (k := 10) (i := 4) (q := some 0) (fun x hx => by cases hx; exact hp0) hcd
  have h2 := zcd_gR (k := 10) (i := 1) (q := some 0) (fun x hx => by cases hx; exact hp0) h1
  refine zz_putW (pc := 2) 10 0 4 1 (Or.inl ⟨rfl, rfl⟩) hb q271 rfl rfl dX3_init_2 ?_ ?_
  · refine zz_aload_n (pc := 5) 0 dX3_init_5 rfl rfl ?_
    refine zz_aload_n (pc := 6) 1 dX3_init_6 rfl rfl ?_
    refine zz_callGN (pc := 7) (idx := 7) (M := mX3_init_10) (G := gR G 10 4 (some 0)) (k := fun r => some r) (1, 32) [.ref ((gR G 10 4 (some 0)).1 0)] [] 10 (cg_X2_init_10 (G := gR G 10 4 (some 0)) h1 hb hp0 hf11 rfl) mv_X2_init_10 (List.mem_of_getElem? (i := 5) rfl) rfl (Nat.le_of_ble_eq_true rfl) (Nat.le_of_ble_eq_true rfl) rfl rfl rfl (Nat.le_of_ble_eq_true rfl) dX3_init_7 (fun G' r S' hK => ?_)
    obtain ⟨a1, rfl⟩ := hK
    exact zz_gvret (fun _ => rfl) rfl rfl ⟨a1, rfl⟩ dX3_init_10 rfl
  · refine zz_aload_n (pc := 5) 0 dX3_init_5 rfl rfl ?_
    refine zz_aload_n (pc := 6) 1 dX3_init_6 rfl rfl ?_
    refine zz_callGN (pc := 7) (idx := 7) (M := mX3_init_10) (G := gR (gR G 10 4 (some 0)) 10 1 (some 0)) (k := fun r => some r) (1, 32) [.ref ((gR (gR G 10 4 (some 0)) 10 1 (some 0)).1 0)] [] 10 (cg_X2_init_10 (G := gR (gR G 10 4 (some 0)) 10 1 (some 0)) h2 hb hp0 hf11 rfl) mv_X2_init_10 (List.mem_of_getElem? (i := 5) rfl) rfl (Nat.le_of_ble_eq_true rfl) (Nat.le_of_ble_eq_true rfl) rfl rfl rfl (Nat.le_of_ble_eq_true rfl) dX3_init_7 (fun G' r S' hK => ?_)
    obtain ⟨a1, rfl⟩ := hK
    refine zz_gvret (fun _ => rfl) rfl rfl ⟨a1, ?_⟩ dX3_init_10 rfl
    unfold gX3_init_10 gX2_init_10
    rw [gR_idem]
