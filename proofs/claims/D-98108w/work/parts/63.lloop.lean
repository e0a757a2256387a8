/-! THE LAW's LOOP, out of the plain law (written by gen/mklloop.py) -/
set_option maxRecDepth 100000
abbrev zRl : Type := zSV → (Nat → Bool) → zSt → zSt → Prop
def St1 {ρ : Type} (Rel : zRl) (V : zSV) (I : Nat → Bool) (fc fm : Option (ρ × zSt)) : Prop := ∃ r a b, fc = some (r, a) ∧ fm = some (r, b) ∧ Rel V I a b
def OP_slots (Rel : zRl) : Prop := ∀ {V I a b}, Rel V I a b → zVok V
def OP_start (Rel : zRl) : Prop := ∀ {a b}, F_X0_init (sZ sE 0) = some ((), a) → F_X5_init_0 (sZ sE 0) = some ((), b) → Rel V0 I0 a b
def OP_begins (Rel : zRl) : Prop := (∃ a, F_X0_init (sZ sE 0) = some ((), a)) ∧ ∃ b, F_X5_init_0 (sZ sE 0) = some ((), b)
def OP_op_feed (Rel : zRl) : Prop := ∀ {V I a b}, Rel V I a b → ∀ (a1 : Int32) (a2 : Int32) (a3 : Int32) (a4 : Int32) (a5 : Int32), St1 Rel V I (F_X0_feed a1 a2 a3 a4 a5 a) (F_X5_feed a1 a2 a3 a4 a5 b)
def OP_op_end (Rel : zRl) : Prop := ∀ {V I a b}, Rel V I a b → ∀ (a1 : Int32), St1 Rel V I (F_X0_end a1 a) (F_X5_end a1 b)
def OP_op_town (Rel : zRl) : Prop := ∀ {V I a b}, Rel V I a b → St1 Rel V I (F_X0_town  a) (F_X5_town  b)
def OP_op_fault (Rel : zRl) : Prop := ∀ {V I a b}, Rel V I a b → ∀ (a1 : Int32), St1 Rel V I (F_X0_fault a1 a) (F_X5_fault a1 b)
def OP_op_letter (Rel : zRl) : Prop := ∀ {V I a b}, Rel V I a b → ∀ (a1 : Int32) (a2 : Int32), St1 Rel V I (F_X0_letter a1 a2 a) (F_X5_letter a1 a2 b)
def OP_op_open (Rel : zRl) : Prop := ∀ {V I a b}, Rel V I a b → ∀ (a1 : Int32) (a2 : Int32), St1 Rel V I (F_X0_open a1 a2 a) (F_X5_open a1 a2 b)
def OP_op_step (Rel : zRl) : Prop := ∀ {V I a b}, Rel V I a b → ∀ (a1 : Int32) (a2 : Int32), St1 Rel V I (F_X0_step a1 a2 a) (F_X5_step a1 a2 b)
def OP_op_shut (Rel : zRl) : Prop := ∀ {V I a b}, Rel V I a b → ∀ (a1 : Int32) (a2 : Int32) (a3 : Int32), St1 Rel V I (F_X0_shut a1 a2 a3 a) (F_X5_shut a1 a2 a3 b)
def OP_op_ways (Rel : zRl) : Prop := ∀ {V I a b}, Rel V I a b → ∀ (a1 : Int32), St1 Rel V I (F_X0_ways a1 a) (F_X5_ways a1 b)
def OP_op_opposite (Rel : zRl) : Prop := ∀ {V I a b}, Rel V I a b → ∀ (a1 : Int32), St1 Rel V I (F_X0_opposite a1 a) (F_X5_opposite a1 b)
def OP_op_apart (Rel : zRl) : Prop := ∀ {V I a b}, Rel V I a b → ∀ (a1 : Int32) (a2 : Int32), St1 Rel V I (F_X0_apart a1 a2 a) (F_X5_apart a1 a2 b)
def OP_op_streets (Rel : zRl) : Prop := ∀ {V I a b}, Rel V I a b → ∀ (a1 : Int32), St1 Rel V I (F_X0_streets a1 a) (F_X5_streets a1 b)
def OP_op_far (Rel : zRl) : Prop := ∀ {V I a b}, Rel V I a b → ∀ (a1 : Int32) (a2 : Int32), St1 Rel V I (F_X0_far a1 a2 a) (F_X5_far a1 a2 b)
def OP_op_many (Rel : zRl) : Prop := ∀ {V I a b}, Rel V I a b → ∀ (a1 : Int32) (a2 : Int32), St1 Rel V I (F_X0_many a1 a2 a) (F_X5_many a1 a2 b)
def OP_op_goes (Rel : zRl) : Prop := ∀ {V I a b}, Rel V I a b → ∀ (a1 : Int32) (a2 : Int32) (a3 : Int32), St1 Rel V I (F_X0_goes a1 a2 a3 a) (F_X5_goes a1 a2 a3 b)
def OP_op_led (Rel : zRl) : Prop := ∀ {V I a b}, Rel V I a b → ∀ (a1 : Int32) (a2 : Int32) (a3 : Int32), St1 Rel V I (F_X0_led a1 a2 a3 a) (F_X5_led a1 a2 a3 b)
def OP_op_farthest (Rel : zRl) : Prop := ∀ {V I a b}, Rel V I a b → ∀ (a1 : Int32) (a2 : Int32), St1 Rel V I (F_X0_farthest a1 a2 a) (F_X5_farthest a1 a2 b)
def OP_op_width (Rel : zRl) : Prop := ∀ {V I a b}, Rel V I a b → St1 Rel V I (F_X0_width  a) (F_X5_width  b)
def OP_op_within (Rel : zRl) : Prop := ∀ {V I a b}, Rel V I a b → ∀ (a1 : Int32) (a2 : Int32), St1 Rel V I (F_X0_within a1 a2 a) (F_X5_within a1 a2 b)
def OP_op_apartWays (Rel : zRl) : Prop := ∀ {V I a b}, Rel V I a b → ∀ (a1 : Int32) (a2 : Int32) (a3 : Int32), St1 Rel V I (F_X0_apartWays a1 a2 a3 a) (F_X5_apartWays a1 a2 a3 b)
def OP_op_side (Rel : zRl) : Prop := ∀ {V I a b}, Rel V I a b → ∀ (a1 : Int32) (a2 : Int32), St1 Rel V I (F_X0_side a1 a2 a) (F_X5_side a1 a2 b)
def OP_op_parts (Rel : zRl) : Prop := ∀ {V I a b}, Rel V I a b → St1 Rel V I (F_X0_parts  a) (F_X5_parts  b)
def OP_op_part (Rel : zRl) : Prop := ∀ {V I a b}, Rel V I a b → ∀ (a1 : Int32), St1 Rel V I (F_X0_part a1 a) (F_X5_part a1 b)
def OP_op_bridges (Rel : zRl) : Prop := ∀ {V I a b}, Rel V I a b → St1 Rel V I (F_X0_bridges  a) (F_X5_bridges  b)
def OP_op_bridge (Rel : zRl) : Prop := ∀ {V I a b}, Rel V I a b → ∀ (a1 : Int32) (a2 : Int32), St1 Rel V I (F_X0_bridge a1 a2 a) (F_X5_bridge a1 a2 b)
def OP_op_joins (Rel : zRl) : Prop := ∀ {V I a b}, Rel V I a b → St1 Rel V I (F_X0_joins  a) (F_X5_joins  b)
def OP_op_fours (Rel : zRl) : Prop := ∀ {V I a b}, Rel V I a b → St1 Rel V I (F_X0_fours  a) (F_X5_fours  b)
def OP_op_walls (Rel : zRl) : Prop := ∀ {V I a b}, Rel V I a b → ∀ (a1 : Int32), St1 Rel V I (F_X0_walls a1 a) (F_X5_walls a1 b)
def OP_op_wall (Rel : zRl) : Prop := ∀ {V I a b}, Rel V I a b → ∀ (a1 : Int32) (a2 : Int32), St1 Rel V I (F_X0_wall a1 a2 a) (F_X5_wall a1 a2 b)
def OP_op_rounds (Rel : zRl) : Prop := ∀ {V I a b}, Rel V I a b → St1 Rel V I (F_X0_rounds  a) (F_X5_rounds  b)
def OP_op_round (Rel : zRl) : Prop := ∀ {V I a b}, Rel V I a b → ∀ (a1 : Int32), St1 Rel V I (F_X0_round a1 a) (F_X5_round a1 b)
def OP_op_by (Rel : zRl) : Prop := ∀ {V I a b}, Rel V I a b → ∀ (a1 : Int32), St1 Rel V I (F_X0_by a1 a) (F_X5_by a1 b)
def OP_op_even (Rel : zRl) : Prop := ∀ {V I a b}, Rel V I a b → St1 Rel V I (F_X0_even  a) (F_X5_even  b)
def OP_op_unlike (Rel : zRl) : Prop := ∀ {V I a b}, Rel V I a b → St1 Rel V I (F_X0_unlike  a) (F_X5_unlike  b)
def OP_op_turnings (Rel : zRl) : Prop := ∀ {V I a b}, Rel V I a b → St1 Rel V I (F_X0_turnings  a) (F_X5_turnings  b)
def OP_op_orbit (Rel : zRl) : Prop := ∀ {V I a b}, Rel V I a b → ∀ (a1 : Int32), St1 Rel V I (F_X0_orbit a1 a) (F_X5_orbit a1 b)
def OP_op_still (Rel : zRl) : Prop := ∀ {V I a b}, Rel V I a b → ∀ (a1 : Int32), St1 Rel V I (F_X0_still a1 a) (F_X5_still a1 b)
def OP_op_colours (Rel : zRl) : Prop := ∀ {V I a b}, Rel V I a b → ∀ (a1 : Int32), St1 Rel V I (F_X0_colours a1 a) (F_X5_colours a1 b)
def OP_op_bare (Rel : zRl) : Prop := ∀ {V I a b}, Rel V I a b → St1 Rel V I (F_X0_bare  a) (F_X5_bare  b)
def OP_op_warden (Rel : zRl) : Prop := ∀ {V I a b}, Rel V I a b → ∀ (a1 : Int32) (a2 : Int32), St1 Rel V I (F_X0_warden a1 a2 a) (F_X5_warden a1 a2 b)
def OP_op_fewest (Rel : zRl) : Prop := ∀ {V I a b}, Rel V I a b → ∀ (a1 : Int32), St1 Rel V I (F_X0_fewest a1 a) (F_X5_fewest a1 b)
def OP_op_perfect (Rel : zRl) : Prop := ∀ {V I a b}, Rel V I a b → St1 Rel V I (F_X0_perfect  a) (F_X5_perfect  b)
def OP_op_more (Rel : zRl) : Prop := ∀ {V I a b}, Rel V I a b → St1 Rel V I (F_X0_more  a) (F_X5_more  b)
def OP_op_code (Rel : zRl) : Prop := ∀ {V I a b}, Rel V I a b → ∀ (a1 : Int32), St1 Rel V I (F_X0_code V a1 a) (F_X5_code a1 b)
def OP_op_heard (Rel : zRl) : Prop := ∀ {V I a b}, Rel V I a b → ∀ (a1 : Int32) (a2 : Int32), St1 Rel V I (F_X0_heard V a1 a2 a) (F_X5_heard a1 a2 b)
def OP_op_told (Rel : zRl) : Prop := ∀ {V I a b}, Rel V I a b → ∀ (a1 : Int32) (a2 : Int32), St1 Rel V I (F_X0_told V a1 a2 a) (F_X5_told a1 a2 b)
def OP_op_biggest (Rel : zRl) : Prop := ∀ {V I a b}, Rel V I a b → ∀ (a1 : Int32), St1 Rel V I (F_X0_biggest a1 a) (F_X5_biggest a1 b)
def OP_op_shadow (Rel : zRl) : Prop := ∀ {V I a b}, Rel V I a b → ∀ (a1 : Int32) (a2 : Int32), St1 Rel V I (F_X0_shadow a1 a2 a) (F_X5_shadow a1 a2 b)
def OP_op_crossings (Rel : zRl) : Prop := ∀ {V I a b}, Rel V I a b → ∀ (a1 : Int32), St1 Rel V I (F_X0_crossings V a1 a) (F_X5_crossings a1 b)
def OP_op_drawing (Rel : zRl) : Prop := ∀ {V I a b}, Rel V I a b → St1 Rel V I (F_X0_drawing  a) (F_X5_drawing  b)
def OP_op_person (Rel : zRl) : Prop := ∀ {V I a b}, Rel V I a b → ∀ (a1 : Int32), St1 Rel V I (F_X0_person a1 a) (F_X5_person a1 b)
def OP_op_moves (Rel : zRl) : Prop := ∀ {V I a b}, Rel V I a b → ∀ (a1 : Int32) (a2 : Int32), St1 Rel V I (F_X0_moves a1 a2 a) (F_X5_moves a1 a2 b)
def OP_op_met (Rel : zRl) : Prop := ∀ {V I a b}, Rel V I a b → ∀ (a1 : Int32), St1 Rel V I (F_X0_met V a1 a) (F_X5_met a1 b)
def OP_op_sure (Rel : zRl) : Prop := ∀ {V I a b}, Rel V I a b → ∀ (a1 : Int32) (a2 : Int32), St1 Rel V I (F_X0_sure V a1 a2 a) (F_X5_sure a1 a2 b)
def OP_op_comes (Rel : zRl) : Prop := ∀ {V I a b}, Rel V I a b → ∀ (a1 : Int32), St1 Rel V I (F_X0_comes a1 a) (F_X5_comes a1 b)
def OP_op_post (Rel : zRl) : Prop := ∀ {V I a b}, Rel V I a b → ∀ (a1 : Int32), St1 Rel V I (F_X0_post a1 a) (F_X5_post a1 b)
def OP_op_at (Rel : zRl) : Prop := ∀ {V I a b}, Rel V I a b → ∀ (a1 : Int32) (a2 : Int32), St1 Rel V I (F_X0_at a1 a2 a) (F_X5_at a1 a2 b)
def OP_op_clash (Rel : zRl) : Prop := ∀ {V I a b}, Rel V I a b → St1 Rel V I (F_X0_clash  a) (F_X5_clash  b)
def OP_op_law (Rel : zRl) : Prop := ∀ {V I a b}, Rel V I a b → ∀ (a1 : Int32), St1 Rel V I (F_X0_law a1 a) (F_X5_law a1 b)
def OP_op_flood (Rel : zRl) : Prop := ∀ {V I a b}, Rel V I a b → ∀ (a1 : Int32) (a2 : Int32) (a3 : Int32), St1 Rel V I (F_X0_flood a1 a2 a3 a) (F_X5_flood a1 a2 a3 b)
def OP_op_day (Rel : zRl) : Prop := ∀ {V I a b}, Rel V I a b → ∀ (a1 : Int32) (a2 : Int32), St1 Rel V I (F_X0_day a1 a2 a) (F_X5_day a1 a2 b)
def OP_op_chance (Rel : zRl) : Prop := ∀ {V I a b}, Rel V I a b → ∀ (a1 : Int32) (a2 : Int32) (a3 : Int32) (a4 : Int32) (a5 : Int32), St1 Rel V I (F_X0_chance a1 a2 a3 a4 a5 a) (F_X5_chance a1 a2 a3 a4 a5 b)
def OP_op_count (Rel : zRl) : Prop := ∀ {V I a b}, Rel V I a b → ∀ (a1 : Int32), St1 Rel V I (F_X0_count V a1 a) (F_X5_count a1 b)
def OP_op_keep (Rel : zRl) : Prop := ∀ {V I a b}, Rel V I a b → ∀ (a1 : Int32), St1 Rel V (iU I a1.toNatClampNeg) (F_X0_keep a1 a) (F_X5_keep a1 b) ∨ St1 Rel V I (F_oI a1 a) (F_X5_keep a1 b)
def OP_op_back (Rel : zRl) : Prop := ∀ {V I a b}, Rel V I a b → ∀ (a1 : Int32), (I a1.toNatClampNeg = false ∧ St1 Rel V I (F_X0_backN a1 a) (F_X5_back a1 b)) ∨ (a1.toNatClampNeg = 0 ∧ I 0 = true ∧ St1 Rel V I (F_X0_back0 a1 a) (F_X5_back a1 b)) ∨ (a1.toNatClampNeg = 1 ∧ I 1 = true ∧ St1 Rel V I (F_X0_back1 a1 a) (F_X5_back a1 b)) ∨ (a1.toNatClampNeg = 2 ∧ I 2 = true ∧ St1 Rel V I (F_X0_back2 a1 a) (F_X5_back a1 b)) ∨ St1 Rel V I (F_oI a1 a) (F_X5_back a1 b)
def OP_op_row (Rel : zRl) : Prop := ∀ {V I a b}, Rel V I a b → ∀ (a1 : Int32) (a2 : Int32) (a3 : Int32), (¬ a3 < 0 ∧ a3.toNatClampNeg ≤ 60 ∧ St1 Rel (vU V a1.toNatClampNeg (a3.toNatClampNeg, wty a2)) I (F_X0_row a1 a2 a3 a) (F_X5_row a1 a2 a3 b)) ∨ St1 Rel V I (F_X0_rowN a1 a2 a3 a) (F_X5_row a1 a2 a3 b)
def OP_op_write (Rel : zRl) : Prop := ∀ {V I a b}, Rel V I a b → ∀ (a1 : Int32) (a2 : Int32) (a3 : Int64), St1 Rel V I (F_X0_write V a1 a2 a3 a) (F_X5_write a1 a2 a3 b)
def OP_op_paste (Rel : zRl) : Prop := ∀ {V I a b}, Rel V I a b → ∀ (a1 : Int32) (a2 : Int32) (a3 : Int32) (a4 : Int32) (a5 : Int32), St1 Rel V I (F_X0_paste V a1 a2 a3 a4 a5 a) (F_X5_paste a1 a2 a3 a4 a5 b)
/-- what the plain law owes: related states answer alike, and stay related -/
def LawOK (Rel : zRl) : Prop := OP_slots Rel ∧ OP_start Rel ∧ OP_begins Rel ∧ OP_op_feed Rel ∧ OP_op_end Rel ∧ OP_op_town Rel ∧ OP_op_fault Rel ∧ OP_op_letter Rel ∧ OP_op_open Rel ∧ OP_op_step Rel ∧ OP_op_shut Rel ∧ OP_op_ways Rel ∧ OP_op_opposite Rel ∧ OP_op_apart Rel ∧ OP_op_streets Rel ∧ OP_op_far Rel ∧ OP_op_many Rel ∧ OP_op_goes Rel ∧ OP_op_led Rel ∧ OP_op_farthest Rel ∧ OP_op_width Rel ∧ OP_op_within Rel ∧ OP_op_apartWays Rel ∧ OP_op_side Rel ∧ OP_op_parts Rel ∧ OP_op_part Rel ∧ OP_op_bridges Rel ∧ OP_op_bridge Rel ∧ OP_op_joins Rel ∧ OP_op_fours Rel ∧ OP_op_walls Rel ∧ OP_op_wall Rel ∧ OP_op_rounds Rel ∧ OP_op_round Rel ∧ OP_op_by Rel ∧ OP_op_even Rel ∧ OP_op_unlike Rel ∧ OP_op_turnings Rel ∧ OP_op_orbit Rel ∧ OP_op_still Rel ∧ OP_op_colours Rel ∧ OP_op_bare Rel ∧ OP_op_warden Rel ∧ OP_op_fewest Rel ∧ OP_op_perfect Rel ∧ OP_op_more Rel ∧ OP_op_code Rel ∧ OP_op_heard Rel ∧ OP_op_told Rel ∧ OP_op_biggest Rel ∧ OP_op_shadow Rel ∧ OP_op_crossings Rel ∧ OP_op_drawing Rel ∧ OP_op_person Rel ∧ OP_op_moves Rel ∧ OP_op_met Rel ∧ OP_op_sure Rel ∧ OP_op_comes Rel ∧ OP_op_post Rel ∧ OP_op_at Rel ∧ OP_op_clash Rel ∧ OP_op_law Rel ∧ OP_op_flood Rel ∧ OP_op_day Rel ∧ OP_op_chance Rel ∧ OP_op_count Rel ∧ OP_op_keep Rel ∧ OP_op_back Rel ∧ OP_op_row Rel ∧ OP_op_write Rel ∧ OP_op_paste Rel
theorem LawOK.slots {Rel : zRl} (h : LawOK Rel) : OP_slots Rel := h.1
theorem LawOK.start {Rel : zRl} (h : LawOK Rel) : OP_start Rel := h.2.1
theorem LawOK.begins {Rel : zRl} (h : LawOK Rel) : OP_begins Rel := h.2.2.1
theorem LawOK.op_feed {Rel : zRl} (h : LawOK Rel) : OP_op_feed Rel := h.2.2.2.1
theorem LawOK.op_end {Rel : zRl} (h : LawOK Rel) : OP_op_end Rel := h.2.2.2.2.1
theorem LawOK.op_town {Rel : zRl} (h : LawOK Rel) : OP_op_town Rel := h.2.2.2.2.2.1
theorem LawOK.op_fault {Rel : zRl} (h : LawOK Rel) : OP_op_fault Rel := h.2.2.2.2.2.2.1
theorem LawOK.op_letter {Rel : zRl} (h : LawOK Rel) : OP_op_letter Rel := h.2.2.2.2.2.2.2.1
theorem LawOK.op_open {Rel : zRl} (h : LawOK Rel) : OP_op_open Rel := h.2.2.2.2.2.2.2.2.1
theorem LawOK.op_step {Rel : zRl} (h : LawOK Rel) : OP_op_step Rel := h.2.2.2.2.2.2.2.2.2.1
theorem LawOK.op_shut {Rel : zRl} (h : LawOK Rel) : OP_op_shut Rel := h.2.2.2.2.2.2.2.2.2.2.1
theorem LawOK.op_ways {Rel : zRl} (h : LawOK Rel) : OP_op_ways Rel := h.2.2.2.2.2.2.2.2.2.2.2.1
theorem LawOK.op_opposite {Rel : zRl} (h : LawOK Rel) : OP_op_opposite Rel := h.2.2.2.2.2.2.2.2.2.2.2.2.1
theorem LawOK.op_apart {Rel : zRl} (h : LawOK Rel) : OP_op_apart Rel := h.2.2.2.2.2.2.2.2.2.2.2.2.2.1
theorem LawOK.op_streets {Rel : zRl} (h : LawOK Rel) : OP_op_streets Rel := h.2.2.2.2.2.2.2.2.2.2.2.2.2.2.1
theorem LawOK.op_far {Rel : zRl} (h : LawOK Rel) : OP_op_far Rel := h.2.2.2.2.2.2.2.2.2.2.2.2.2.2.2.1
theorem LawOK.op_many {Rel : zRl} (h : LawOK Rel) : OP_op_many Rel := h.2.2.2.2.2.2.2.2.2.2.2.2.2.2.2.2.1
theorem LawOK.op_goes {Rel : zRl} (h : LawOK Rel) : OP_op_goes Rel := h.2.2.2.2.2.2.2.2.2.2.2.2.2.2.2.2.2.1
theorem LawOK.op_led {Rel : zRl} (h : LawOK Rel) : OP_op_led Rel := h.2.2.2.2.2.2.2.2.2.2.2.2.2.2.2.2.2.2.1
theorem LawOK.op_farthest {Rel : zRl} (h : LawOK Rel) : OP_op_farthest Rel := h.2.2.2.2.2.2.2.2.2.2.2.2.2.2.2.2.2.2.2.1
theorem LawOK.op_width {Rel : zRl} (h : LawOK Rel) : OP_op_width Rel := h.2.2.2.2.2.2.2.2.2.2.2.2.2.2.2.2.2.2.2.2.1
theorem LawOK.op_within {Rel : zRl} (h : LawOK Rel) : OP_op_within Rel := h.2.2.2.2.2.2.2.2.2.2.2.2.2.2.2.2.2.2.2.2.2.1
theorem LawOK.op_apartWays {Rel : zRl} (h : LawOK Rel) : OP_op_apartWays Rel := h.2.2.2.2.2.2.2.2.2.2.2.2.2.2.2.2.2.2.2.2.2.2.1
theorem LawOK.op_side {Rel : zRl} (h : LawOK Rel) : OP_op_side Rel := h.2.2.2.2.2.2.2.2.2.2.2.2.2.2.2.2.2.2.2.2.2.2.2.1
theorem LawOK.op_parts {Rel : zRl} (h : LawOK Rel) : OP_op_parts Rel := h.2.2.2.2.2.2.2.2.2.2.2.2.2.2.2.2.2.2.2.2.2.2.2.2.1
theorem LawOK.op_part {Rel : zRl} (h : LawOK Rel) : OP_op_part Rel := h.2.2.2.2.2.2.2.2.2.2.2.2.2.2.2.2.2.2.2.2.2.2.2.2.2.1
theorem LawOK.op_bridges {Rel : zRl} (h : LawOK Rel) : OP_op_bridges Rel := h.2.2.2.2.2.2.2.2.2.2.2.2.2.2.2.2.2.2.2.2.2.2.2.2.2.2.1
theorem LawOK.op_bridge {Rel : zRl} (h : LawOK Rel) : OP_op_bridge Rel := h.2.2.2.2.2.2.2.2.2.2.2.2.2.2.2.2.2.2.2.2.2.2.2.2.2.2.2.1
theorem LawOK.op_joins {Rel : zRl} (h : LawOK Rel) : OP_op_joins Rel := h.2.2.2.2.2.2.2.2.2.2.2.2.2.2.2.2.2.2.2.2.2.2.2.2.2.2.2.2.1
theorem LawOK.op_fours {Rel : zRl} (h : LawOK Rel) : OP_op_fours Rel := h.2.2.2.2.2.2.2.2.2.2.2.2.2.2.2.2.2.2.2.2.2.2.2.2.2.2.2.2.2.1
theorem LawOK.op_walls {Rel : zRl} (h : LawOK Rel) : OP_op_walls Rel := h.2.2.2.2.2.2.2.2.2.2.2.2.2.2.2.2.2.2.2.2.2.2.2.2.2.2.2.2.2.2.1
theorem LawOK.op_wall {Rel : zRl} (h : LawOK Rel) : OP_op_wall Rel := h.2.2.2.2.2.2.2.2.2.2.2.2.2.2.2.2.2.2.2.2.2.2.2.2.2.2.2.2.2.2.2.1
theorem LawOK.op_rounds {Rel : zRl} (h : LawOK Rel) : OP_op_rounds Rel := h.2.2.2.2.2.2.2.2.2.2.2.2.2.2.2.2.2.2.2.2.2.2.2.2.2.2.2.2.2.2.2.2.1
theorem LawOK.op_round {Rel : zRl} (h : LawOK Rel) : OP_op_round Rel := h.2.2.2.2.2.2.2.2.2.2.2.2.2.2.2.2.2.2.2.2.2.2.2.2.2.2.2.2.2.2.2.2.2.1
theorem LawOK.op_by {Rel : zRl} (h : LawOK Rel) : OP_op_by Rel := h.2.2.2.2.2.2.2.2.2.2.2.2.2.2.2.2.2.2.2.2.2.2.2.2.2.2.2.2.2.2.2.2.2.2.1
theorem LawOK.op_even {Rel : zRl} (h : LawOK Rel) : OP_op_even Rel := h.2.2.2.2.2.2.2.2.2.2.2.2.2.2.2.2.2.2.2.2.2.2.2.2.2.2.2.2.2.2.2.2.2.2.2.1
theorem LawOK.op_unlike {Rel : zRl} (h : LawOK Rel) : OP_op_unlike Rel := h.2.2.2.2.2.2.2.2.2.2.2.2.2.2.2.2.2.2.2.2.2.2.2.2.2.2.2.2.2.2.2.2.2.2.2.2.1
theorem LawOK.op_turnings {Rel : zRl} (h : LawOK Rel) : OP_op_turnings Rel := h.2.2.2.2.2.2.2.2.2.2.2.2.2.2.2.2.2.2.2.2.2.2.2.2.2.2.2.2.2.2.2.2.2.2.2.2.2.1
theorem LawOK.op_orbit {Rel : zRl} (h : LawOK Rel) : OP_op_orbit Rel := h.2.2.2.2.2.2.2.2.2.2.2.2.2.2.2.2.2.2.2.2.2.2.2.2.2.2.2.2.2.2.2.2.2.2.2.2.2.2.1
theorem LawOK.op_still {Rel : zRl} (h : LawOK Rel) : OP_op_still Rel := h.2.2.2.2.2.2.2.2.2.2.2.2.2.2.2.2.2.2.2.2.2.2.2.2.2.2.2.2.2.2.2.2.2.2.2.2.2.2.2.1
theorem LawOK.op_colours {Rel : zRl} (h : LawOK Rel) : OP_op_colours Rel := h.2.2.2.2.2.2.2.2.2.2.2.2.2.2.2.2.2.2.2.2.2.2.2.2.2.2.2.2.2.2.2.2.2.2.2.2.2.2.2.2.1
theorem LawOK.op_bare {Rel : zRl} (h : LawOK Rel) : OP_op_bare Rel := h.2.2.2.2.2.2.2.2.2.2.2.2.2.2.2.2.2.2.2.2.2.2.2.2.2.2.2.2.2.2.2.2.2.2.2.2.2.2.2.2.2.1
theorem LawOK.op_warden {Rel : zRl} (h : LawOK Rel) : OP_op_warden Rel := h.2.2.2.2.2.2.2.2.2.2.2.2.2.2.2.2.2.2.2.2.2.2.2.2.2.2.2.2.2.2.2.2.2.2.2.2.2.2.2.2.2.2.1
theorem LawOK.op_fewest {Rel : zRl} (h : LawOK Rel) : OP_op_fewest Rel := h.2.2.2.2.2.2.2.2.2.2.2.2.2.2.2.2.2.2.2.2.2.2.2.2.2.2.2.2.2.2.2.2.2.2.2.2.2.2.2.2.2.2.2.1
theorem LawOK.op_perfect {Rel : zRl} (h : LawOK Rel) : OP_op_perfect Rel := h.2.2.2.2.2.2.2.2.2.2.2.2.2.2.2.2.2.2.2.2.2.2.2.2.2.2.2.2.2.2.2.2.2.2.2.2.2.2.2.2.2.2.2.2.1
theorem LawOK.op_more {Rel : zRl} (h : LawOK Rel) : OP_op_more Rel := h.2.2.2.2.2.2.2.2.2.2.2.2.2.2.2.2.2.2.2.2.2.2.2.2.2.2.2.2.2.2.2.2.2.2.2.2.2.2.2.2.2.2.2.2.2.1
theorem LawOK.op_code {Rel : zRl} (h : LawOK Rel) : OP_op_code Rel := h.2.2.2.2.2.2.2.2.2.2.2.2.2.2.2.2.2.2.2.2.2.2.2.2.2.2.2.2.2.2.2.2.2.2.2.2.2.2.2.2.2.2.2.2.2.2.1
theorem LawOK.op_heard {Rel : zRl} (h : LawOK Rel) : OP_op_heard Rel := h.2.2.2.2.2.2.2.2.2.2.2.2.2.2.2.2.2.2.2.2.2.2.2.2.2.2.2.2.2.2.2.2.2.2.2.2.2.2.2.2.2.2.2.2.2.2.2.1
theorem LawOK.op_told {Rel : zRl} (h : LawOK Rel) : OP_op_told Rel := h.2.2.2.2.2.2.2.2.2.2.2.2.2.2.2.2.2.2.2.2.2.2.2.2.2.2.2.2.2.2.2.2.2.2.2.2.2.2.2.2.2.2.2.2.2.2.2.2.1
theorem LawOK.op_biggest {Rel : zRl} (h : LawOK Rel) : OP_op_biggest Rel := h.2.2.2.2.2.2.2.2.2.2.2.2.2.2.2.2.2.2.2.2.2.2.2.2.2.2.2.2.2.2.2.2.2.2.2.2.2.2.2.2.2.2.2.2.2.2.2.2.2.1
theorem LawOK.op_shadow {Rel : zRl} (h : LawOK Rel) : OP_op_shadow Rel := h.2.2.2.2.2.2.2.2.2.2.2.2.2.2.2.2.2.2.2.2.2.2.2.2.2.2.2.2.2.2.2.2.2.2.2.2.2.2.2.2.2.2.2.2.2.2.2.2.2.2.1
theorem LawOK.op_crossings {Rel : zRl} (h : LawOK Rel) : OP_op_crossings Rel := h.2.2.2.2.2.2.2.2.2.2.2.2.2.2.2.2.2.2.2.2.2.2.2.2.2.2.2.2.2.2.2.2.2.2.2.2.2.2.2.2.2.2.2.2.2.2.2.2.2.2.2.1
theorem LawOK.op_drawing {Rel : zRl} (h : LawOK Rel) : OP_op_drawing Rel := h.2.2.2.2.2.2.2.2.2.2.2.2.2.2.2.2.2.2.2.2.2.2.2.2.2.2.2.2.2.2.2.2.2.2.2.2.2.2.2.2.2.2.2.2.2.2.2.2.2.2.2.2.1
theorem LawOK.op_person {Rel : zRl} (h : LawOK Rel) : OP_op_person Rel := h.2.2.2.2.2.2.2.2.2.2.2.2.2.2.2.2.2.2.2.2.2.2.2.2.2.2.2.2.2.2.2.2.2.2.2.2.2.2.2.2.2.2.2.2.2.2.2.2.2.2.2.2.2.1
theorem LawOK.op_moves {Rel : zRl} (h : LawOK Rel) : OP_op_moves Rel := h.2.2.2.2.2.2.2.2.2.2.2.2.2.2.2.2.2.2.2.2.2.2.2.2.2.2.2.2.2.2.2.2.2.2.2.2.2.2.2.2.2.2.2.2.2.2.2.2.2.2.2.2.2.2.1
theorem LawOK.op_met {Rel : zRl} (h : LawOK Rel) : OP_op_met Rel := h.2.2.2.2.2.2.2.2.2.2.2.2.2.2.2.2.2.2.2.2.2.2.2.2.2.2.2.2.2.2.2.2.2.2.2.2.2.2.2.2.2.2.2.2.2.2.2.2.2.2.2.2.2.2.2.1
theorem LawOK.op_sure {Rel : zRl} (h : LawOK Rel) : OP_op_sure Rel := h.2.2.2.2.2.2.2.2.2.2.2.2.2.2.2.2.2.2.2.2.2.2.2.2.2.2.2.2.2.2.2.2.2.2.2.2.2.2.2.2.2.2.2.2.2.2.2.2.2.2.2.2.2.2.2.2.1
theorem LawOK.op_comes {Rel : zRl} (h : LawOK Rel) : OP_op_comes Rel := h.2.2.2.2.2.2.2.2.2.2.2.2.2.2.2.2.2.2.2.2.2.2.2.2.2.2.2.2.2.2.2.2.2.2.2.2.2.2.2.2.2.2.2.2.2.2.2.2.2.2.2.2.2.2.2.2.2.1
theorem LawOK.op_post {Rel : zRl} (h : LawOK Rel) : OP_op_post Rel := h.2.2.2.2.2.2.2.2.2.2.2.2.2.2.2.2.2.2.2.2.2.2.2.2.2.2.2.2.2.2.2.2.2.2.2.2.2.2.2.2.2.2.2.2.2.2.2.2.2.2.2.2.2.2.2.2.2.2.1
theorem LawOK.op_at {Rel : zRl} (h : LawOK Rel) : OP_op_at Rel := h.2.2.2.2.2.2.2.2.2.2.2.2.2.2.2.2.2.2.2.2.2.2.2.2.2.2.2.2.2.2.2.2.2.2.2.2.2.2.2.2.2.2.2.2.2.2.2.2.2.2.2.2.2.2.2.2.2.2.2.1
theorem LawOK.op_clash {Rel : zRl} (h : LawOK Rel) : OP_op_clash Rel := h.2.2.2.2.2.2.2.2.2.2.2.2.2.2.2.2.2.2.2.2.2.2.2.2.2.2.2.2.2.2.2.2.2.2.2.2.2.2.2.2.2.2.2.2.2.2.2.2.2.2.2.2.2.2.2.2.2.2.2.2.1
theorem LawOK.op_law {Rel : zRl} (h : LawOK Rel) : OP_op_law Rel := h.2.2.2.2.2.2.2.2.2.2.2.2.2.2.2.2.2.2.2.2.2.2.2.2.2.2.2.2.2.2.2.2.2.2.2.2.2.2.2.2.2.2.2.2.2.2.2.2.2.2.2.2.2.2.2.2.2.2.2.2.2.1
theorem LawOK.op_flood {Rel : zRl} (h : LawOK Rel) : OP_op_flood Rel := h.2.2.2.2.2.2.2.2.2.2.2.2.2.2.2.2.2.2.2.2.2.2.2.2.2.2.2.2.2.2.2.2.2.2.2.2.2.2.2.2.2.2.2.2.2.2.2.2.2.2.2.2.2.2.2.2.2.2.2.2.2.2.1
theorem LawOK.op_day {Rel : zRl} (h : LawOK Rel) : OP_op_day Rel := h.2.2.2.2.2.2.2.2.2.2.2.2.2.2.2.2.2.2.2.2.2.2.2.2.2.2.2.2.2.2.2.2.2.2.2.2.2.2.2.2.2.2.2.2.2.2.2.2.2.2.2.2.2.2.2.2.2.2.2.2.2.2.2.1
theorem LawOK.op_chance {Rel : zRl} (h : LawOK Rel) : OP_op_chance Rel := h.2.2.2.2.2.2.2.2.2.2.2.2.2.2.2.2.2.2.2.2.2.2.2.2.2.2.2.2.2.2.2.2.2.2.2.2.2.2.2.2.2.2.2.2.2.2.2.2.2.2.2.2.2.2.2.2.2.2.2.2.2.2.2.2.1
theorem LawOK.op_count {Rel : zRl} (h : LawOK Rel) : OP_op_count Rel := h.2.2.2.2.2.2.2.2.2.2.2.2.2.2.2.2.2.2.2.2.2.2.2.2.2.2.2.2.2.2.2.2.2.2.2.2.2.2.2.2.2.2.2.2.2.2.2.2.2.2.2.2.2.2.2.2.2.2.2.2.2.2.2.2.2.1
theorem LawOK.op_keep {Rel : zRl} (h : LawOK Rel) : OP_op_keep Rel := h.2.2.2.2.2.2.2.2.2.2.2.2.2.2.2.2.2.2.2.2.2.2.2.2.2.2.2.2.2.2.2.2.2.2.2.2.2.2.2.2.2.2.2.2.2.2.2.2.2.2.2.2.2.2.2.2.2.2.2.2.2.2.2.2.2.2.1
theorem LawOK.op_back {Rel : zRl} (h : LawOK Rel) : OP_op_back Rel := h.2.2.2.2.2.2.2.2.2.2.2.2.2.2.2.2.2.2.2.2.2.2.2.2.2.2.2.2.2.2.2.2.2.2.2.2.2.2.2.2.2.2.2.2.2.2.2.2.2.2.2.2.2.2.2.2.2.2.2.2.2.2.2.2.2.2.2.1
theorem LawOK.op_row {Rel : zRl} (h : LawOK Rel) : OP_op_row Rel := h.2.2.2.2.2.2.2.2.2.2.2.2.2.2.2.2.2.2.2.2.2.2.2.2.2.2.2.2.2.2.2.2.2.2.2.2.2.2.2.2.2.2.2.2.2.2.2.2.2.2.2.2.2.2.2.2.2.2.2.2.2.2.2.2.2.2.2.2.1
theorem LawOK.op_write {Rel : zRl} (h : LawOK Rel) : OP_op_write Rel := h.2.2.2.2.2.2.2.2.2.2.2.2.2.2.2.2.2.2.2.2.2.2.2.2.2.2.2.2.2.2.2.2.2.2.2.2.2.2.2.2.2.2.2.2.2.2.2.2.2.2.2.2.2.2.2.2.2.2.2.2.2.2.2.2.2.2.2.2.2.1
theorem LawOK.op_paste {Rel : zRl} (h : LawOK Rel) : OP_op_paste Rel := h.2.2.2.2.2.2.2.2.2.2.2.2.2.2.2.2.2.2.2.2.2.2.2.2.2.2.2.2.2.2.2.2.2.2.2.2.2.2.2.2.2.2.2.2.2.2.2.2.2.2.2.2.2.2.2.2.2.2.2.2.2.2.2.2.2.2.2.2.2.2
section
variable {X : zCx} {Q : State → Prop} {e9 : zRe} {D : va_G} {b L : Nat} {xs : Nat → Int32} {Rel : zRl}
theorem l_cmp {L n : Nat} (hL : L ≤ 384) (hn : n ≤ 390) : (Int32.ofNat L - 6 < Int32.ofNat n) ↔ L < n + 6 := by
  have e1 : (Int32.ofNat L).toInt = (L : Int) := Int32.toInt_ofNat_of_lt (by omega)
  have e2 : (Int32.ofNat n).toInt = (n : Int) := Int32.toInt_ofNat_of_lt (by omega)
  have e3 : (Int32.ofNat L - 6).toInt = (L : Int) - 6 := by
    rw [Int32.toInt_sub, e1]
    show ((L : Int) - 6).bmod (2 ^ 32) = _
    rw [Int.bmod_def]
    split <;> omega
  rw [Int32.lt_iff_toInt_lt, e2, e3]
  omega
/-- what the loop keeps -/
def lH (Rel : zRl) (X : zCx) (Q : State → Prop) (D : va_G) (Gm : zGw) (b n : Nat) (cs : Nat × Nat) (pc : Nat) : Prop := ∀ (ad : Nat → Nat) (V : zSV) (I : Nat → Bool) (Sc Sm : zSt), Rel V I Sc Sm → Zl X Q (cG ad V I D) Gm Sc Sm cs pc (lls b (ad 0) (Gm.1 0) n) []
theorem lst_feed (hP : LawOK Rel) (hC : lC e9 D X b L xs) {Gm : zGw} (hGm : zGM Gm) (hDm : Gm.2.2.2 = D) {n : Nat} (hn : n + 6 ≤ L) {cs : Nat × Nat} (hcs1 : cs.1 + 20 ≤ 1200384) (hcs2 : cs.2 + 1000 ≤ 5488810) (kk : lH Rel X Q D Gm b n (cs.1 + 10, cs.2 + 410) 2215) : lH Rel X Q D Gm b n cs 320 := by
  intro ad V I Sc Sm hR
  have hV := hP.slots hR
  obtain ⟨r, a, b9, h1, h2, h3⟩ := hP.op_feed hR (xs (n + 1)) (xs (n + 2)) (xs (n + 3)) (xs (n + 4)) (xs (n + 5))
  exact lop_feed hC hV hGm hDm hn hcs1 hcs2 h1 h2 (kk _ _ _ _ _ h3)
theorem lst_end (hP : LawOK Rel) (hC : lC e9 D X b L xs) {Gm : zGw} (hGm : zGM Gm) (hDm : Gm.2.2.2 = D) {n : Nat} (hn : n + 6 ≤ L) {cs : Nat × Nat} (hcs1 : cs.1 + 20 ≤ 1200384) (hcs2 : cs.2 + 1000 ≤ 5488810) (kk : lH Rel X Q D Gm b n (cs.1 + 10, cs.2 + 410) 2215) : lH Rel X Q D Gm b n cs 383 := by
  intro ad V I Sc Sm hR
  have hV := hP.slots hR
  obtain ⟨r, a, b9, h1, h2, h3⟩ := hP.op_end hR (xs (n + 1))
  exact lop_end hC hV hGm hDm hn hcs1 hcs2 h1 h2 (kk _ _ _ _ _ h3)
theorem lst_town (hP : LawOK Rel) (hC : lC e9 D X b L xs) {Gm : zGw} (hGm : zGM Gm) (hDm : Gm.2.2.2 = D) {n : Nat} (hn : n + 6 ≤ L) {cs : Nat × Nat} (hcs1 : cs.1 + 20 ≤ 1200384) (hcs2 : cs.2 + 1000 ≤ 5488810) (kk : lH Rel X Q D Gm b n (cs.1 + 10, cs.2 + 410) 2215) : lH Rel X Q D Gm b n cs 406 := by
  intro ad V I Sc Sm hR
  have hV := hP.slots hR
  obtain ⟨r, a, b9, h1, h2, h3⟩ := hP.op_town hR
  exact lop_town hC hV hGm hDm hn hcs1 hcs2 h1 h2 (fun ad' => kk _ _ _ _ _ h3)
theorem lst_fault (hP : LawOK Rel) (hC : lC e9 D X b L xs) {Gm : zGw} (hGm : zGM Gm) (hDm : Gm.2.2.2 = D) {n : Nat} (hn : n + 6 ≤ L) {cs : Nat × Nat} (hcs1 : cs.1 + 20 ≤ 1200384) (hcs2 : cs.2 + 1000 ≤ 5488810) (kk : lH Rel X Q D Gm b n (cs.1 + 10, cs.2 + 410) 2215) : lH Rel X Q D Gm b n cs 419 := by
  intro ad V I Sc Sm hR
  have hV := hP.slots hR
  obtain ⟨r, a, b9, h1, h2, h3⟩ := hP.op_fault hR (xs (n + 1))
  exact lop_fault hC hV hGm hDm hn hcs1 hcs2 h1 h2 (kk _ _ _ _ _ h3)
theorem lst_letter (hP : LawOK Rel) (hC : lC e9 D X b L xs) {Gm : zGw} (hGm : zGM Gm) (hDm : Gm.2.2.2 = D) {n : Nat} (hn : n + 6 ≤ L) {cs : Nat × Nat} (hcs1 : cs.1 + 20 ≤ 1200384) (hcs2 : cs.2 + 1000 ≤ 5488810) (kk : lH Rel X Q D Gm b n (cs.1 + 10, cs.2 + 410) 2215) : lH Rel X Q D Gm b n cs 442 := by
  intro ad V I Sc Sm hR
  have hV := hP.slots hR
  obtain ⟨r, a, b9, h1, h2, h3⟩ := hP.op_letter hR (xs (n + 1)) (xs (n + 2))
  exact lop_letter hC hV hGm hDm hn hcs1 hcs2 h1 h2 (kk _ _ _ _ _ h3)
theorem lst_open (hP : LawOK Rel) (hC : lC e9 D X b L xs) {Gm : zGw} (hGm : zGM Gm) (hDm : Gm.2.2.2 = D) {n : Nat} (hn : n + 6 ≤ L) {cs : Nat × Nat} (hcs1 : cs.1 + 20 ≤ 1200384) (hcs2 : cs.2 + 1000 ≤ 5488810) (kk : lH Rel X Q D Gm b n (cs.1 + 10, cs.2 + 410) 2215) : lH Rel X Q D Gm b n cs 475 := by
  intro ad V I Sc Sm hR
  have hV := hP.slots hR
  obtain ⟨r, a, b9, h1, h2, h3⟩ := hP.op_open hR (xs (n + 1)) (xs (n + 2))
  exact lop_open hC hV hGm hDm hn hcs1 hcs2 h1 h2 (kk _ _ _ _ _ h3)
theorem lst_step (hP : LawOK Rel) (hC : lC e9 D X b L xs) {Gm : zGw} (hGm : zGM Gm) (hDm : Gm.2.2.2 = D) {n : Nat} (hn : n + 6 ≤ L) {cs : Nat × Nat} (hcs1 : cs.1 + 20 ≤ 1200384) (hcs2 : cs.2 + 1000 ≤ 5488810) (kk : lH Rel X Q D Gm b n (cs.1 + 10, cs.2 + 410) 2215) : lH Rel X Q D Gm b n cs 508 := by
  intro ad V I Sc Sm hR
  have hV := hP.slots hR
  obtain ⟨r, a, b9, h1, h2, h3⟩ := hP.op_step hR (xs (n + 1)) (xs (n + 2))
  exact lop_step hC hV hGm hDm hn hcs1 hcs2 h1 h2 (kk _ _ _ _ _ h3)
theorem lst_shut (hP : LawOK Rel) (hC : lC e9 D X b L xs) {Gm : zGw} (hGm : zGM Gm) (hDm : Gm.2.2.2 = D) {n : Nat} (hn : n + 6 ≤ L) {cs : Nat × Nat} (hcs1 : cs.1 + 20 ≤ 1200384) (hcs2 : cs.2 + 1000 ≤ 5488810) (kk : lH Rel X Q D Gm b n (cs.1 + 10, cs.2 + 410) 2215) : lH Rel X Q D Gm b n cs 541 := by
  intro ad V I Sc Sm hR
  have hV := hP.slots hR
  obtain ⟨r, a, b9, h1, h2, h3⟩ := hP.op_shut hR (xs (n + 1)) (xs (n + 2)) (xs (n + 3))
  exact lop_shut hC hV hGm hDm hn hcs1 hcs2 h1 h2 (kk _ _ _ _ _ h3)
theorem lst_ways (hP : LawOK Rel) (hC : lC e9 D X b L xs) {Gm : zGw} (hGm : zGM Gm) (hDm : Gm.2.2.2 = D) {n : Nat} (hn : n + 6 ≤ L) {cs : Nat × Nat} (hcs1 : cs.1 + 20 ≤ 1200384) (hcs2 : cs.2 + 1000 ≤ 5488810) (kk : lH Rel X Q D Gm b n (cs.1 + 10, cs.2 + 410) 2215) : lH Rel X Q D Gm b n cs 584 := by
  intro ad V I Sc Sm hR
  have hV := hP.slots hR
  obtain ⟨r, a, b9, h1, h2, h3⟩ := hP.op_ways hR (xs (n + 1))
  exact lop_ways hC hV hGm hDm hn hcs1 hcs2 h1 h2 (kk _ _ _ _ _ h3)
theorem lst_opposite (hP : LawOK Rel) (hC : lC e9 D X b L xs) {Gm : zGw} (hGm : zGM Gm) (hDm : Gm.2.2.2 = D) {n : Nat} (hn : n + 6 ≤ L) {cs : Nat × Nat} (hcs1 : cs.1 + 20 ≤ 1200384) (hcs2 : cs.2 + 1000 ≤ 5488810) (kk : lH Rel X Q D Gm b n (cs.1 + 10, cs.2 + 410) 2215) : lH Rel X Q D Gm b n cs 607 := by
  intro ad V I Sc Sm hR
  have hV := hP.slots hR
  obtain ⟨r, a, b9, h1, h2, h3⟩ := hP.op_opposite hR (xs (n + 1))
  exact lop_opposite hC hV hGm hDm hn hcs1 hcs2 h1 h2 (kk _ _ _ _ _ h3)
theorem lst_apart (hP : LawOK Rel) (hC : lC e9 D X b L xs) {Gm : zGw} (hGm : zGM Gm) (hDm : Gm.2.2.2 = D) {n : Nat} (hn : n + 6 ≤ L) {cs : Nat × Nat} (hcs1 : cs.1 + 20 ≤ 1200384) (hcs2 : cs.2 + 1000 ≤ 5488810) (kk : lH Rel X Q D Gm b n (cs.1 + 10, cs.2 + 410) 2215) : lH Rel X Q D Gm b n cs 630 := by
  intro ad V I Sc Sm hR
  have hV := hP.slots hR
  obtain ⟨r, a, b9, h1, h2, h3⟩ := hP.op_apart hR (xs (n + 1)) (xs (n + 2))
  exact lop_apart hC hV hGm hDm hn hcs1 hcs2 h1 h2 (kk _ _ _ _ _ h3)
theorem lst_streets (hP : LawOK Rel) (hC : lC e9 D X b L xs) {Gm : zGw} (hGm : zGM Gm) (hDm : Gm.2.2.2 = D) {n : Nat} (hn : n + 6 ≤ L) {cs : Nat × Nat} (hcs1 : cs.1 + 20 ≤ 1200384) (hcs2 : cs.2 + 1000 ≤ 5488810) (kk : lH Rel X Q D Gm b n (cs.1 + 10, cs.2 + 410) 2215) : lH Rel X Q D Gm b n cs 663 := by
  intro ad V I Sc Sm hR
  have hV := hP.slots hR
  obtain ⟨r, a, b9, h1, h2, h3⟩ := hP.op_streets hR (xs (n + 1))
  exact lop_streets hC hV hGm hDm hn hcs1 hcs2 h1 h2 (kk _ _ _ _ _ h3)
theorem lst_far (hP : LawOK Rel) (hC : lC e9 D X b L xs) {Gm : zGw} (hGm : zGM Gm) (hDm : Gm.2.2.2 = D) {n : Nat} (hn : n + 6 ≤ L) {cs : Nat × Nat} (hcs1 : cs.1 + 20 ≤ 1200384) (hcs2 : cs.2 + 1000 ≤ 5488810) (kk : lH Rel X Q D Gm b n (cs.1 + 10, cs.2 + 410) 2215) : lH Rel X Q D Gm b n cs 686 := by
  intro ad V I Sc Sm hR
  have hV := hP.slots hR
  obtain ⟨r, a, b9, h1, h2, h3⟩ := hP.op_far hR (xs (n + 1)) (xs (n + 2))
  exact lop_far hC hV hGm hDm hn hcs1 hcs2 h1 h2 (kk _ _ _ _ _ h3)
theorem lst_many (hP : LawOK Rel) (hC : lC e9 D X b L xs) {Gm : zGw} (hGm : zGM Gm) (hDm : Gm.2.2.2 = D) {n : Nat} (hn : n + 6 ≤ L) {cs : Nat × Nat} (hcs1 : cs.1 + 20 ≤ 1200384) (hcs2 : cs.2 + 1000 ≤ 5488810) (kk : lH Rel X Q D Gm b n (cs.1 + 10, cs.2 + 410) 2215) : lH Rel X Q D Gm b n cs 719 := by
  intro ad V I Sc Sm hR
  have hV := hP.slots hR
  obtain ⟨r, a, b9, h1, h2, h3⟩ := hP.op_many hR (xs (n + 1)) (xs (n + 2))
  exact lop_many hC hV hGm hDm hn hcs1 hcs2 h1 h2 (kk _ _ _ _ _ h3)
theorem lst_goes (hP : LawOK Rel) (hC : lC e9 D X b L xs) {Gm : zGw} (hGm : zGM Gm) (hDm : Gm.2.2.2 = D) {n : Nat} (hn : n + 6 ≤ L) {cs : Nat × Nat} (hcs1 : cs.1 + 20 ≤ 1200384) (hcs2 : cs.2 + 1000 ≤ 5488810) (kk : lH Rel X Q D Gm b n (cs.1 + 10, cs.2 + 410) 2215) : lH Rel X Q D Gm b n cs 752 := by
  intro ad V I Sc Sm hR
  have hV := hP.slots hR
  obtain ⟨r, a, b9, h1, h2, h3⟩ := hP.op_goes hR (xs (n + 1)) (xs (n + 2)) (xs (n + 3))
  exact lop_goes hC hV hGm hDm hn hcs1 hcs2 h1 h2 (kk _ _ _ _ _ h3)
theorem lst_led (hP : LawOK Rel) (hC : lC e9 D X b L xs) {Gm : zGw} (hGm : zGM Gm) (hDm : Gm.2.2.2 = D) {n : Nat} (hn : n + 6 ≤ L) {cs : Nat × Nat} (hcs1 : cs.1 + 20 ≤ 1200384) (hcs2 : cs.2 + 1000 ≤ 5488810) (kk : lH Rel X Q D Gm b n (cs.1 + 10, cs.2 + 410) 2215) : lH Rel X Q D Gm b n cs 795 := by
  intro ad V I Sc Sm hR
  have hV := hP.slots hR
  obtain ⟨r, a, b9, h1, h2, h3⟩ := hP.op_led hR (xs (n + 1)) (xs (n + 2)) (xs (n + 3))
  exact lop_led hC hV hGm hDm hn hcs1 hcs2 h1 h2 (kk _ _ _ _ _ h3)
theorem lst_farthest (hP : LawOK Rel) (hC : lC e9 D X b L xs) {Gm : zGw} (hGm : zGM Gm) (hDm : Gm.2.2.2 = D) {n : Nat} (hn : n + 6 ≤ L) {cs : Nat × Nat} (hcs1 : cs.1 + 20 ≤ 1200384) (hcs2 : cs.2 + 1000 ≤ 5488810) (kk : lH Rel X Q D Gm b n (cs.1 + 10, cs.2 + 410) 2215) : lH Rel X Q D Gm b n cs 838 := by
  intro ad V I Sc Sm hR
  have hV := hP.slots hR
  obtain ⟨r, a, b9, h1, h2, h3⟩ := hP.op_farthest hR (xs (n + 1)) (xs (n + 2))
  exact lop_farthest hC hV hGm hDm hn hcs1 hcs2 h1 h2 (kk _ _ _ _ _ h3)
theorem lst_width (hP : LawOK Rel) (hC : lC e9 D X b L xs) {Gm : zGw} (hGm : zGM Gm) (hDm : Gm.2.2.2 = D) {n : Nat} (hn : n + 6 ≤ L) {cs : Nat × Nat} (hcs1 : cs.1 + 20 ≤ 1200384) (hcs2 : cs.2 + 1000 ≤ 5488810) (kk : lH Rel X Q D Gm b n (cs.1 + 10, cs.2 + 410) 2215) : lH Rel X Q D Gm b n cs 871 := by
  intro ad V I Sc Sm hR
  have hV := hP.slots hR
  obtain ⟨r, a, b9, h1, h2, h3⟩ := hP.op_width hR 
  exact lop_width hC hV hGm hDm hn hcs1 hcs2 h1 h2 (kk _ _ _ _ _ h3)
theorem lst_within (hP : LawOK Rel) (hC : lC e9 D X b L xs) {Gm : zGw} (hGm : zGM Gm) (hDm : Gm.2.2.2 = D) {n : Nat} (hn : n + 6 ≤ L) {cs : Nat × Nat} (hcs1 : cs.1 + 20 ≤ 1200384) (hcs2 : cs.2 + 1000 ≤ 5488810) (kk : lH Rel X Q D Gm b n (cs.1 + 10, cs.2 + 410) 2215) : lH Rel X Q D Gm b n cs 884 := by
  intro ad V I Sc Sm hR
  have hV := hP.slots hR
  obtain ⟨r, a, b9, h1, h2, h3⟩ := hP.op_within hR (xs (n + 1)) (xs (n + 2))
  exact lop_within hC hV hGm hDm hn hcs1 hcs2 h1 h2 (kk _ _ _ _ _ h3)
theorem lst_apartWays (hP : LawOK Rel) (hC : lC e9 D X b L xs) {Gm : zGw} (hGm : zGM Gm) (hDm : Gm.2.2.2 = D) {n : Nat} (hn : n + 6 ≤ L) {cs : Nat × Nat} (hcs1 : cs.1 + 20 ≤ 1200384) (hcs2 : cs.2 + 1000 ≤ 5488810) (kk : lH Rel X Q D Gm b n (cs.1 + 10, cs.2 + 410) 2215) : lH Rel X Q D Gm b n cs 917 := by
  intro ad V I Sc Sm hR
  have hV := hP.slots hR
  obtain ⟨r, a, b9, h1, h2, h3⟩ := hP.op_apartWays hR (xs (n + 1)) (xs (n + 2)) (xs (n + 3))
  exact lop_apartWays hC hV hGm hDm hn hcs1 hcs2 h1 h2 (kk _ _ _ _ _ h3)
theorem lst_side (hP : LawOK Rel) (hC : lC e9 D X b L xs) {Gm : zGw} (hGm : zGM Gm) (hDm : Gm.2.2.2 = D) {n : Nat} (hn : n + 6 ≤ L) {cs : Nat × Nat} (hcs1 : cs.1 + 20 ≤ 1200384) (hcs2 : cs.2 + 1000 ≤ 5488810) (kk : lH Rel X Q D Gm b n (cs.1 + 10, cs.2 + 410) 2215) : lH Rel X Q D Gm b n cs 960 := by
  intro ad V I Sc Sm hR
  have hV := hP.slots hR
  obtain ⟨r, a, b9, h1, h2, h3⟩ := hP.op_side hR (xs (n + 1)) (xs (n + 2))
  exact lop_side hC hV hGm hDm hn hcs1 hcs2 h1 h2 (kk _ _ _ _ _ h3)
theorem lst_parts (hP : LawOK Rel) (hC : lC e9 D X b L xs) {Gm : zGw} (hGm : zGM Gm) (hDm : Gm.2.2.2 = D) {n : Nat} (hn : n + 6 ≤ L) {cs : Nat × Nat} (hcs1 : cs.1 + 20 ≤ 1200384) (hcs2 : cs.2 + 1000 ≤ 5488810) (kk : lH Rel X Q D Gm b n (cs.1 + 10, cs.2 + 410) 2215) : lH Rel X Q D Gm b n cs 993 := by
  intro ad V I Sc Sm hR
  have hV := hP.slots hR
  obtain ⟨r, a, b9, h1, h2, h3⟩ := hP.op_parts hR 
  exact lop_parts hC hV hGm hDm hn hcs1 hcs2 h1 h2 (kk _ _ _ _ _ h3)
theorem lst_part (hP : LawOK Rel) (hC : lC e9 D X b L xs) {Gm : zGw} (hGm : zGM Gm) (hDm : Gm.2.2.2 = D) {n : Nat} (hn : n + 6 ≤ L) {cs : Nat × Nat} (hcs1 : cs.1 + 20 ≤ 1200384) (hcs2 : cs.2 + 1000 ≤ 5488810) (kk : lH Rel X Q D Gm b n (cs.1 + 10, cs.2 + 410) 2215) : lH Rel X Q D Gm b n cs 1006 := by
  intro ad V I Sc Sm hR
  have hV := hP.slots hR
  obtain ⟨r, a, b9, h1, h2, h3⟩ := hP.op_part hR (xs (n + 1))
  exact lop_part hC hV hGm hDm hn hcs1 hcs2 h1 h2 (kk _ _ _ _ _ h3)
theorem lst_bridges (hP : LawOK Rel) (hC : lC e9 D X b L xs) {Gm : zGw} (hGm : zGM Gm) (hDm : Gm.2.2.2 = D) {n : Nat} (hn : n + 6 ≤ L) {cs : Nat × Nat} (hcs1 : cs.1 + 20 ≤ 1200384) (hcs2 : cs.2 + 1000 ≤ 5488810) (kk : lH Rel X Q D Gm b n (cs.1 + 10, cs.2 + 410) 2215) : lH Rel X Q D Gm b n cs 1029 := by
  intro ad V I Sc Sm hR
  have hV := hP.slots hR
  obtain ⟨r, a, b9, h1, h2, h3⟩ := hP.op_bridges hR 
  exact lop_bridges hC hV hGm hDm hn hcs1 hcs2 h1 h2 (kk _ _ _ _ _ h3)
theorem lst_bridge (hP : LawOK Rel) (hC : lC e9 D X b L xs) {Gm : zGw} (hGm : zGM Gm) (hDm : Gm.2.2.2 = D) {n : Nat} (hn : n + 6 ≤ L) {cs : Nat × Nat} (hcs1 : cs.1 + 20 ≤ 1200384) (hcs2 : cs.2 + 1000 ≤ 5488810) (kk : lH Rel X Q D Gm b n (cs.1 + 10, cs.2 + 410) 2215) : lH Rel X Q D Gm b n cs 1042 := by
  intro ad V I Sc Sm hR
  have hV := hP.slots hR
  obtain ⟨r, a, b9, h1, h2, h3⟩ := hP.op_bridge hR (xs (n + 1)) (xs (n + 2))
  exact lop_bridge hC hV hGm hDm hn hcs1 hcs2 h1 h2 (kk _ _ _ _ _ h3)
theorem lst_joins (hP : LawOK Rel) (hC : lC e9 D X b L xs) {Gm : zGw} (hGm : zGM Gm) (hDm : Gm.2.2.2 = D) {n : Nat} (hn : n + 6 ≤ L) {cs : Nat × Nat} (hcs1 : cs.1 + 20 ≤ 1200384) (hcs2 : cs.2 + 1000 ≤ 5488810) (kk : lH Rel X Q D Gm b n (cs.1 + 10, cs.2 + 410) 2215) : lH Rel X Q D Gm b n cs 1075 := by
  intro ad V I Sc Sm hR
  have hV := hP.slots hR
  obtain ⟨r, a, b9, h1, h2, h3⟩ := hP.op_joins hR 
  exact lop_joins hC hV hGm hDm hn hcs1 hcs2 h1 h2 (kk _ _ _ _ _ h3)
theorem lst_fours (hP : LawOK Rel) (hC : lC e9 D X b L xs) {Gm : zGw} (hGm : zGM Gm) (hDm : Gm.2.2.2 = D) {n : Nat} (hn : n + 6 ≤ L) {cs : Nat × Nat} (hcs1 : cs.1 + 20 ≤ 1200384) (hcs2 : cs.2 + 1000 ≤ 5488810) (kk : lH Rel X Q D Gm b n (cs.1 + 10, cs.2 + 410) 2215) : lH Rel X Q D Gm b n cs 1088 := by
  intro ad V I Sc Sm hR
  have hV := hP.slots hR
  obtain ⟨r, a, b9, h1, h2, h3⟩ := hP.op_fours hR 
  exact lop_fours hC hV hGm hDm hn hcs1 hcs2 h1 h2 (kk _ _ _ _ _ h3)
theorem lst_walls (hP : LawOK Rel) (hC : lC e9 D X b L xs) {Gm : zGw} (hGm : zGM Gm) (hDm : Gm.2.2.2 = D) {n : Nat} (hn : n + 6 ≤ L) {cs : Nat × Nat} (hcs1 : cs.1 + 20 ≤ 1200384) (hcs2 : cs.2 + 1000 ≤ 5488810) (kk : lH Rel X Q D Gm b n (cs.1 + 10, cs.2 + 410) 2215) : lH Rel X Q D Gm b n cs 1101 := by
  intro ad V I Sc Sm hR
  have hV := hP.slots hR
  obtain ⟨r, a, b9, h1, h2, h3⟩ := hP.op_walls hR (xs (n + 1))
  exact lop_walls hC hV hGm hDm hn hcs1 hcs2 h1 h2 (kk _ _ _ _ _ h3)
theorem lst_wall (hP : LawOK Rel) (hC : lC e9 D X b L xs) {Gm : zGw} (hGm : zGM Gm) (hDm : Gm.2.2.2 = D) {n : Nat} (hn : n + 6 ≤ L) {cs : Nat × Nat} (hcs1 : cs.1 + 20 ≤ 1200384) (hcs2 : cs.2 + 1000 ≤ 5488810) (kk : lH Rel X Q D Gm b n (cs.1 + 10, cs.2 + 410) 2215) : lH Rel X Q D Gm b n cs 1124 := by
  intro ad V I Sc Sm hR
  have hV := hP.slots hR
  obtain ⟨r, a, b9, h1, h2, h3⟩ := hP.op_wall hR (xs (n + 1)) (xs (n + 2))
  exact lop_wall hC hV hGm hDm hn hcs1 hcs2 h1 h2 (kk _ _ _ _ _ h3)
theorem lst_rounds (hP : LawOK Rel) (hC : lC e9 D X b L xs) {Gm : zGw} (hGm : zGM Gm) (hDm : Gm.2.2.2 = D) {n : Nat} (hn : n + 6 ≤ L) {cs : Nat × Nat} (hcs1 : cs.1 + 20 ≤ 1200384) (hcs2 : cs.2 + 1000 ≤ 5488810) (kk : lH Rel X Q D Gm b n (cs.1 + 10, cs.2 + 410) 2215) : lH Rel X Q D Gm b n cs 1157 := by
  intro ad V I Sc Sm hR
  have hV := hP.slots hR
  obtain ⟨r, a, b9, h1, h2, h3⟩ := hP.op_rounds hR 
  exact lop_rounds hC hV hGm hDm hn hcs1 hcs2 h1 h2 (kk _ _ _ _ _ h3)
theorem lst_round (hP : LawOK Rel) (hC : lC e9 D X b L xs) {Gm : zGw} (hGm : zGM Gm) (hDm : Gm.2.2.2 = D) {n : Nat} (hn : n + 6 ≤ L) {cs : Nat × Nat} (hcs1 : cs.1 + 20 ≤ 1200384) (hcs2 : cs.2 + 1000 ≤ 5488810) (kk : lH Rel X Q D Gm b n (cs.1 + 10, cs.2 + 410) 2215) : lH Rel X Q D Gm b n cs 1170 := by
  intro ad V I Sc Sm hR
  have hV := hP.slots hR
  obtain ⟨r, a, b9, h1, h2, h3⟩ := hP.op_round hR (xs (n + 1))
  exact lop_round hC hV hGm hDm hn hcs1 hcs2 h1 h2 (kk _ _ _ _ _ h3)
theorem lst_by (hP : LawOK Rel) (hC : lC e9 D X b L xs) {Gm : zGw} (hGm : zGM Gm) (hDm : Gm.2.2.2 = D) {n : Nat} (hn : n + 6 ≤ L) {cs : Nat × Nat} (hcs1 : cs.1 + 20 ≤ 1200384) (hcs2 : cs.2 + 1000 ≤ 5488810) (kk : lH Rel X Q D Gm b n (cs.1 + 10, cs.2 + 410) 2215) : lH Rel X Q D Gm b n cs 1193 := by
  intro ad V I Sc Sm hR
  have hV := hP.slots hR
  obtain ⟨r, a, b9, h1, h2, h3⟩ := hP.op_by hR (xs (n + 1))
  exact lop_by hC hV hGm hDm hn hcs1 hcs2 h1 h2 (kk _ _ _ _ _ h3)
theorem lst_even (hP : LawOK Rel) (hC : lC e9 D X b L xs) {Gm : zGw} (hGm : zGM Gm) (hDm : Gm.2.2.2 = D) {n : Nat} (hn : n + 6 ≤ L) {cs : Nat × Nat} (hcs1 : cs.1 + 20 ≤ 1200384) (hcs2 : cs.2 + 1000 ≤ 5488810) (kk : lH Rel X Q D Gm b n (cs.1 + 10, cs.2 + 410) 2215) : lH Rel X Q D Gm b n cs 1216 := by
  intro ad V I Sc Sm hR
  have hV := hP.slots hR
  obtain ⟨r, a, b9, h1, h2, h3⟩ := hP.op_even hR 
  exact lop_even hC hV hGm hDm hn hcs1 hcs2 h1 h2 (kk _ _ _ _ _ h3)
theorem lst_unlike (hP : LawOK Rel) (hC : lC e9 D X b L xs) {Gm : zGw} (hGm : zGM Gm) (hDm : Gm.2.2.2 = D) {n : Nat} (hn : n + 6 ≤ L) {cs : Nat × Nat} (hcs1 : cs.1 + 20 ≤ 1200384) (hcs2 : cs.2 + 1000 ≤ 5488810) (kk : lH Rel X Q D Gm b n (cs.1 + 10, cs.2 + 410) 2215) : lH Rel X Q D Gm b n cs 1229 := by
  intro ad V I Sc Sm hR
  have hV := hP.slots hR
  obtain ⟨r, a, b9, h1, h2, h3⟩ := hP.op_unlike hR 
  exact lop_unlike hC hV hGm hDm hn hcs1 hcs2 h1 h2 (kk _ _ _ _ _ h3)
theorem lst_turnings (hP : LawOK Rel) (hC : lC e9 D X b L xs) {Gm : zGw} (hGm : zGM Gm) (hDm : Gm.2.2.2 = D) {n : Nat} (hn : n + 6 ≤ L) {cs : Nat × Nat} (hcs1 : cs.1 + 20 ≤ 1200384) (hcs2 : cs.2 + 1000 ≤ 5488810) (kk : lH Rel X Q D Gm b n (cs.1 + 10, cs.2 + 410) 2215) : lH Rel X Q D Gm b n cs 1242 := by
  intro ad V I Sc Sm hR
  have hV := hP.slots hR
  obtain ⟨r, a, b9, h1, h2, h3⟩ := hP.op_turnings hR 
  exact lop_turnings hC hV hGm hDm hn hcs1 hcs2 h1 h2 (kk _ _ _ _ _ h3)
theorem lst_orbit (hP : LawOK Rel) (hC : lC e9 D X b L xs) {Gm : zGw} (hGm : zGM Gm) (hDm : Gm.2.2.2 = D) {n : Nat} (hn : n + 6 ≤ L) {cs : Nat × Nat} (hcs1 : cs.1 + 20 ≤ 1200384) (hcs2 : cs.2 + 1000 ≤ 5488810) (kk : lH Rel X Q D Gm b n (cs.1 + 10, cs.2 + 410) 2215) : lH Rel X Q D Gm b n cs 1255 := by
  intro ad V I Sc Sm hR
  have hV := hP.slots hR
  obtain ⟨r, a, b9, h1, h2, h3⟩ := hP.op_orbit hR (xs (n + 1))
  exact lop_orbit hC hV hGm hDm hn hcs1 hcs2 h1 h2 (kk _ _ _ _ _ h3)
theorem lst_still (hP : LawOK Rel) (hC : lC e9 D X b L xs) {Gm : zGw} (hGm : zGM Gm) (hDm : Gm.2.2.2 = D) {n : Nat} (hn : n + 6 ≤ L) {cs : Nat × Nat} (hcs1 : cs.1 + 20 ≤ 1200384) (hcs2 : cs.2 + 1000 ≤ 5488810) (kk : lH Rel X Q D Gm b n (cs.1 + 10, cs.2 + 410) 2215) : lH Rel X Q D Gm b n cs 1278 := by
  intro ad V I Sc Sm hR
  have hV := hP.slots hR
  obtain ⟨r, a, b9, h1, h2, h3⟩ := hP.op_still hR (xs (n + 1))
  exact lop_still hC hV hGm hDm hn hcs1 hcs2 h1 h2 (kk _ _ _ _ _ h3)
theorem lst_colours (hP : LawOK Rel) (hC : lC e9 D X b L xs) {Gm : zGw} (hGm : zGM Gm) (hDm : Gm.2.2.2 = D) {n : Nat} (hn : n + 6 ≤ L) {cs : Nat × Nat} (hcs1 : cs.1 + 20 ≤ 1200384) (hcs2 : cs.2 + 1000 ≤ 5488810) (kk : lH Rel X Q D Gm b n (cs.1 + 10, cs.2 + 410) 2215) : lH Rel X Q D Gm b n cs 1301 := by
  intro ad V I Sc Sm hR
  have hV := hP.slots hR
  obtain ⟨r, a, b9, h1, h2, h3⟩ := hP.op_colours hR (xs (n + 1))
  exact lop_colours hC hV hGm hDm hn hcs1 hcs2 h1 h2 (kk _ _ _ _ _ h3)
theorem lst_bare (hP : LawOK Rel) (hC : lC e9 D X b L xs) {Gm : zGw} (hGm : zGM Gm) (hDm : Gm.2.2.2 = D) {n : Nat} (hn : n + 6 ≤ L) {cs : Nat × Nat} (hcs1 : cs.1 + 20 ≤ 1200384) (hcs2 : cs.2 + 1000 ≤ 5488810) (kk : lH Rel X Q D Gm b n (cs.1 + 10, cs.2 + 410) 2215) : lH Rel X Q D Gm b n cs 1325 := by
  intro ad V I Sc Sm hR
  have hV := hP.slots hR
  obtain ⟨r, a, b9, h1, h2, h3⟩ := hP.op_bare hR 
  exact lop_bare hC hV hGm hDm hn hcs1 hcs2 h1 h2 (kk _ _ _ _ _ h3)
theorem lst_warden (hP : LawOK Rel) (hC : lC e9 D X b L xs) {Gm : zGw} (hGm : zGM Gm) (hDm : Gm.2.2.2 = D) {n : Nat} (hn : n + 6 ≤ L) {cs : Nat × Nat} (hcs1 : cs.1 + 20 ≤ 1200384) (hcs2 : cs.2 + 1000 ≤ 5488810) (kk : lH Rel X Q D Gm b n (cs.1 + 10, cs.2 + 410) 2215) : lH Rel X Q D Gm b n cs 1338 := by
  intro ad V I Sc Sm hR
  have hV := hP.slots hR
  obtain ⟨r, a, b9, h1, h2, h3⟩ := hP.op_warden hR (xs (n + 1)) (xs (n + 2))
  exact lop_warden hC hV hGm hDm hn hcs1 hcs2 h1 h2 (kk _ _ _ _ _ h3)
theorem lst_fewest (hP : LawOK Rel) (hC : lC e9 D X b L xs) {Gm : zGw} (hGm : zGM Gm) (hDm : Gm.2.2.2 = D) {n : Nat} (hn : n + 6 ≤ L) {cs : Nat × Nat} (hcs1 : cs.1 + 20 ≤ 1200384) (hcs2 : cs.2 + 1000 ≤ 5488810) (kk : lH Rel X Q D Gm b n (cs.1 + 10, cs.2 + 410) 2215) : lH Rel X Q D Gm b n cs 1371 := by
  intro ad V I Sc Sm hR
  have hV := hP.slots hR
  obtain ⟨r, a, b9, h1, h2, h3⟩ := hP.op_fewest hR (xs (n + 1))
  exact lop_fewest hC hV hGm hDm hn hcs1 hcs2 h1 h2 (kk _ _ _ _ _ h3)
theorem lst_perfect (hP : LawOK Rel) (hC : lC e9 D X b L xs) {Gm : zGw} (hGm : zGM Gm) (hDm : Gm.2.2.2 = D) {n : Nat} (hn : n + 6 ≤ L) {cs : Nat × Nat} (hcs1 : cs.1 + 20 ≤ 1200384) (hcs2 : cs.2 + 1000 ≤ 5488810) (kk : lH Rel X Q D Gm b n (cs.1 + 10, cs.2 + 410) 2215) : lH Rel X Q D Gm b n cs 1394 := by
  intro ad V I Sc Sm hR
  have hV := hP.slots hR
  obtain ⟨r, a, b9, h1, h2, h3⟩ := hP.op_perfect hR 
  exact lop_perfect hC hV hGm hDm hn hcs1 hcs2 h1 h2 (kk _ _ _ _ _ h3)
theorem lst_more (hP : LawOK Rel) (hC : lC e9 D X b L xs) {Gm : zGw} (hGm : zGM Gm) (hDm : Gm.2.2.2 = D) {n : Nat} (hn : n + 6 ≤ L) {cs : Nat × Nat} (hcs1 : cs.1 + 20 ≤ 1200384) (hcs2 : cs.2 + 1000 ≤ 5488810) (kk : lH Rel X Q D Gm b n (cs.1 + 10, cs.2 + 410) 2215) : lH Rel X Q D Gm b n cs 1407 := by
  intro ad V I Sc Sm hR
  have hV := hP.slots hR
  obtain ⟨r, a, b9, h1, h2, h3⟩ := hP.op_more hR 
  exact lop_more hC hV hGm hDm hn hcs1 hcs2 h1 h2 (kk _ _ _ _ _ h3)
theorem lst_code (hP : LawOK Rel) (hC : lC e9 D X b L xs) {Gm : zGw} (hGm : zGM Gm) (hDm : Gm.2.2.2 = D) {n : Nat} (hn : n + 6 ≤ L) {cs : Nat × Nat} (hcs1 : cs.1 + 20 ≤ 1200384) (hcs2 : cs.2 + 1000 ≤ 5488810) (kk : lH Rel X Q D Gm b n (cs.1 + 10, cs.2 + 410) 2215) : lH Rel X Q D Gm b n cs 1420 := by
  intro ad V I Sc Sm hR
  have hV := hP.slots hR
  obtain ⟨r, a, b9, h1, h2, h3⟩ := hP.op_code hR (xs (n + 1))
  exact lop_code hC hV hGm hDm hn hcs1 hcs2 h1 h2 (kk _ _ _ _ _ h3)
theorem lst_heard (hP : LawOK Rel) (hC : lC e9 D X b L xs) {Gm : zGw} (hGm : zGM Gm) (hDm : Gm.2.2.2 = D) {n : Nat} (hn : n + 6 ≤ L) {cs : Nat × Nat} (hcs1 : cs.1 + 20 ≤ 1200384) (hcs2 : cs.2 + 1000 ≤ 5488810) (kk : lH Rel X Q D Gm b n (cs.1 + 10, cs.2 + 410) 2215) : lH Rel X Q D Gm b n cs 1443 := by
  intro ad V I Sc Sm hR
  have hV := hP.slots hR
  obtain ⟨r, a, b9, h1, h2, h3⟩ := hP.op_heard hR (xs (n + 1)) (xs (n + 2))
  exact lop_heard hC hV hGm hDm hn hcs1 hcs2 h1 h2 (kk _ _ _ _ _ h3)
theorem lst_told (hP : LawOK Rel) (hC : lC e9 D X b L xs) {Gm : zGw} (hGm : zGM Gm) (hDm : Gm.2.2.2 = D) {n : Nat} (hn : n + 6 ≤ L) {cs : Nat × Nat} (hcs1 : cs.1 + 20 ≤ 1200384) (hcs2 : cs.2 + 1000 ≤ 5488810) (kk : lH Rel X Q D Gm b n (cs.1 + 10, cs.2 + 410) 2215) : lH Rel X Q D Gm b n cs 1476 := by
  intro ad V I Sc Sm hR
  have hV := hP.slots hR
  obtain ⟨r, a, b9, h1, h2, h3⟩ := hP.op_told hR (xs (n + 1)) (xs (n + 2))
  exact lop_told hC hV hGm hDm hn hcs1 hcs2 h1 h2 (kk _ _ _ _ _ h3)
theorem lst_biggest (hP : LawOK Rel) (hC : lC e9 D X b L xs) {Gm : zGw} (hGm : zGM Gm) (hDm : Gm.2.2.2 = D) {n : Nat} (hn : n + 6 ≤ L) {cs : Nat × Nat} (hcs1 : cs.1 + 20 ≤ 1200384) (hcs2 : cs.2 + 1000 ≤ 5488810) (kk : lH Rel X Q D Gm b n (cs.1 + 10, cs.2 + 410) 2215) : lH Rel X Q D Gm b n cs 1509 := by
  intro ad V I Sc Sm hR
  have hV := hP.slots hR
  obtain ⟨r, a, b9, h1, h2, h3⟩ := hP.op_biggest hR (xs (n + 1))
  exact lop_biggest hC hV hGm hDm hn hcs1 hcs2 h1 h2 (kk _ _ _ _ _ h3)
theorem lst_shadow (hP : LawOK Rel) (hC : lC e9 D X b L xs) {Gm : zGw} (hGm : zGM Gm) (hDm : Gm.2.2.2 = D) {n : Nat} (hn : n + 6 ≤ L) {cs : Nat × Nat} (hcs1 : cs.1 + 20 ≤ 1200384) (hcs2 : cs.2 + 1000 ≤ 5488810) (kk : lH Rel X Q D Gm b n (cs.1 + 10, cs.2 + 410) 2215) : lH Rel X Q D Gm b n cs 1532 := by
  intro ad V I Sc Sm hR
  have hV := hP.slots hR
  obtain ⟨r, a, b9, h1, h2, h3⟩ := hP.op_shadow hR (xs (n + 1)) (xs (n + 2))
  exact lop_shadow hC hV hGm hDm hn hcs1 hcs2 h1 h2 (kk _ _ _ _ _ h3)
theorem lst_crossings (hP : LawOK Rel) (hC : lC e9 D X b L xs) {Gm : zGw} (hGm : zGM Gm) (hDm : Gm.2.2.2 = D) {n : Nat} (hn : n + 6 ≤ L) {cs : Nat × Nat} (hcs1 : cs.1 + 20 ≤ 1200384) (hcs2 : cs.2 + 1000 ≤ 5488810) (kk : lH Rel X Q D Gm b n (cs.1 + 10, cs.2 + 410) 2215) : lH Rel X Q D Gm b n cs 1565 := by
  intro ad V I Sc Sm hR
  have hV := hP.slots hR
  obtain ⟨r, a, b9, h1, h2, h3⟩ := hP.op_crossings hR (xs (n + 1))
  exact lop_crossings hC hV hGm hDm hn hcs1 hcs2 h1 h2 (kk _ _ _ _ _ h3)
theorem lst_drawing (hP : LawOK Rel) (hC : lC e9 D X b L xs) {Gm : zGw} (hGm : zGM Gm) (hDm : Gm.2.2.2 = D) {n : Nat} (hn : n + 6 ≤ L) {cs : Nat × Nat} (hcs1 : cs.1 + 20 ≤ 1200384) (hcs2 : cs.2 + 1000 ≤ 5488810) (kk : lH Rel X Q D Gm b n (cs.1 + 10, cs.2 + 410) 2215) : lH Rel X Q D Gm b n cs 1588 := by
  intro ad V I Sc Sm hR
  have hV := hP.slots hR
  obtain ⟨r, a, b9, h1, h2, h3⟩ := hP.op_drawing hR 
  exact lop_drawing hC hV hGm hDm hn hcs1 hcs2 h1 h2 (kk _ _ _ _ _ h3)
theorem lst_person (hP : LawOK Rel) (hC : lC e9 D X b L xs) {Gm : zGw} (hGm : zGM Gm) (hDm : Gm.2.2.2 = D) {n : Nat} (hn : n + 6 ≤ L) {cs : Nat × Nat} (hcs1 : cs.1 + 20 ≤ 1200384) (hcs2 : cs.2 + 1000 ≤ 5488810) (kk : lH Rel X Q D Gm b n (cs.1 + 10, cs.2 + 410) 2215) : lH Rel X Q D Gm b n cs 1601 := by
  intro ad V I Sc Sm hR
  have hV := hP.slots hR
  obtain ⟨r, a, b9, h1, h2, h3⟩ := hP.op_person hR (xs (n + 1))
  exact lop_person hC hV hGm hDm hn hcs1 hcs2 h1 h2 (kk _ _ _ _ _ h3)
theorem lst_moves (hP : LawOK Rel) (hC : lC e9 D X b L xs) {Gm : zGw} (hGm : zGM Gm) (hDm : Gm.2.2.2 = D) {n : Nat} (hn : n + 6 ≤ L) {cs : Nat × Nat} (hcs1 : cs.1 + 20 ≤ 1200384) (hcs2 : cs.2 + 1000 ≤ 5488810) (kk : lH Rel X Q D Gm b n (cs.1 + 10, cs.2 + 410) 2215) : lH Rel X Q D Gm b n cs 1624 := by
  intro ad V I Sc Sm hR
  have hV := hP.slots hR
  obtain ⟨r, a, b9, h1, h2, h3⟩ := hP.op_moves hR (xs (n + 1)) (xs (n + 2))
  exact lop_moves hC hV hGm hDm hn hcs1 hcs2 h1 h2 (kk _ _ _ _ _ h3)
theorem lst_met (hP : LawOK Rel) (hC : lC e9 D X b L xs) {Gm : zGw} (hGm : zGM Gm) (hDm : Gm.2.2.2 = D) {n : Nat} (hn : n + 6 ≤ L) {cs : Nat × Nat} (hcs1 : cs.1 + 20 ≤ 1200384) (hcs2 : cs.2 + 1000 ≤ 5488810) (kk : lH Rel X Q D Gm b n (cs.1 + 10, cs.2 + 410) 2215) : lH Rel X Q D Gm b n cs 1657 := by
  intro ad V I Sc Sm hR
  have hV := hP.slots hR
  obtain ⟨r, a, b9, h1, h2, h3⟩ := hP.op_met hR (xs (n + 1))
  exact lop_met hC hV hGm hDm hn hcs1 hcs2 h1 h2 (kk _ _ _ _ _ h3)
theorem lst_sure (hP : LawOK Rel) (hC : lC e9 D X b L xs) {Gm : zGw} (hGm : zGM Gm) (hDm : Gm.2.2.2 = D) {n : Nat} (hn : n + 6 ≤ L) {cs : Nat × Nat} (hcs1 : cs.1 + 20 ≤ 1200384) (hcs2 : cs.2 + 1000 ≤ 5488810) (kk : lH Rel X Q D Gm b n (cs.1 + 10, cs.2 + 410) 2215) : lH Rel X Q D Gm b n cs 1680 := by
  intro ad V I Sc Sm hR
  have hV := hP.slots hR
  obtain ⟨r, a, b9, h1, h2, h3⟩ := hP.op_sure hR (xs (n + 1)) (xs (n + 2))
  exact lop_sure hC hV hGm hDm hn hcs1 hcs2 h1 h2 (kk _ _ _ _ _ h3)
theorem lst_comes (hP : LawOK Rel) (hC : lC e9 D X b L xs) {Gm : zGw} (hGm : zGM Gm) (hDm : Gm.2.2.2 = D) {n : Nat} (hn : n + 6 ≤ L) {cs : Nat × Nat} (hcs1 : cs.1 + 20 ≤ 1200384) (hcs2 : cs.2 + 1000 ≤ 5488810) (kk : lH Rel X Q D Gm b n (cs.1 + 10, cs.2 + 410) 2215) : lH Rel X Q D Gm b n cs 1713 := by
  intro ad V I Sc Sm hR
  have hV := hP.slots hR
  obtain ⟨r, a, b9, h1, h2, h3⟩ := hP.op_comes hR (xs (n + 1))
  exact lop_comes hC hV hGm hDm hn hcs1 hcs2 h1 h2 (kk _ _ _ _ _ h3)
theorem lst_post (hP : LawOK Rel) (hC : lC e9 D X b L xs) {Gm : zGw} (hGm : zGM Gm) (hDm : Gm.2.2.2 = D) {n : Nat} (hn : n + 6 ≤ L) {cs : Nat × Nat} (hcs1 : cs.1 + 20 ≤ 1200384) (hcs2 : cs.2 + 1000 ≤ 5488810) (kk : lH Rel X Q D Gm b n (cs.1 + 10, cs.2 + 410) 2215) : lH Rel X Q D Gm b n cs 1736 := by
  intro ad V I Sc Sm hR
  have hV := hP.slots hR
  obtain ⟨r, a, b9, h1, h2, h3⟩ := hP.op_post hR (xs (n + 1))
  exact lop_post hC hV hGm hDm hn hcs1 hcs2 h1 h2 (kk _ _ _ _ _ h3)
theorem lst_at (hP : LawOK Rel) (hC : lC e9 D X b L xs) {Gm : zGw} (hGm : zGM Gm) (hDm : Gm.2.2.2 = D) {n : Nat} (hn : n + 6 ≤ L) {cs : Nat × Nat} (hcs1 : cs.1 + 20 ≤ 1200384) (hcs2 : cs.2 + 1000 ≤ 5488810) (kk : lH Rel X Q D Gm b n (cs.1 + 10, cs.2 + 410) 2215) : lH Rel X Q D Gm b n cs 1759 := by
  intro ad V I Sc Sm hR
  have hV := hP.slots hR
  obtain ⟨r, a, b9, h1, h2, h3⟩ := hP.op_at hR (xs (n + 1)) (xs (n + 2))
  exact lop_at hC hV hGm hDm hn hcs1 hcs2 h1 h2 (kk _ _ _ _ _ h3)
theorem lst_clash (hP : LawOK Rel) (hC : lC e9 D X b L xs) {Gm : zGw} (hGm : zGM Gm) (hDm : Gm.2.2.2 = D) {n : Nat} (hn : n + 6 ≤ L) {cs : Nat × Nat} (hcs1 : cs.1 + 20 ≤ 1200384) (hcs2 : cs.2 + 1000 ≤ 5488810) (kk : lH Rel X Q D Gm b n (cs.1 + 10, cs.2 + 410) 2215) : lH Rel X Q D Gm b n cs 1792 := by
  intro ad V I Sc Sm hR
  have hV := hP.slots hR
  obtain ⟨r, a, b9, h1, h2, h3⟩ := hP.op_clash hR 
  exact lop_clash hC hV hGm hDm hn hcs1 hcs2 h1 h2 (kk _ _ _ _ _ h3)
theorem lst_law (hP : LawOK Rel) (hC : lC e9 D X b L xs) {Gm : zGw} (hGm : zGM Gm) (hDm : Gm.2.2.2 = D) {n : Nat} (hn : n + 6 ≤ L) {cs : Nat × Nat} (hcs1 : cs.1 + 20 ≤ 1200384) (hcs2 : cs.2 + 1000 ≤ 5488810) (kk : lH Rel X Q D Gm b n (cs.1 + 10, cs.2 + 410) 2215) : lH Rel X Q D Gm b n cs 1805 := by
  intro ad V I Sc Sm hR
  have hV := hP.slots hR
  obtain ⟨r, a, b9, h1, h2, h3⟩ := hP.op_law hR (xs (n + 1))
  exact lop_law hC hV hGm hDm hn hcs1 hcs2 h1 h2 (kk _ _ _ _ _ h3)
theorem lst_flood (hP : LawOK Rel) (hC : lC e9 D X b L xs) {Gm : zGw} (hGm : zGM Gm) (hDm : Gm.2.2.2 = D) {n : Nat} (hn : n + 6 ≤ L) {cs : Nat × Nat} (hcs1 : cs.1 + 20 ≤ 1200384) (hcs2 : cs.2 + 1000 ≤ 5488810) (kk : lH Rel X Q D Gm b n (cs.1 + 10, cs.2 + 410) 2215) : lH Rel X Q D Gm b n cs 1828 := by
  intro ad V I Sc Sm hR
  have hV := hP.slots hR
  obtain ⟨r, a, b9, h1, h2, h3⟩ := hP.op_flood hR (xs (n + 1)) (xs (n + 2)) (xs (n + 3))
  exact lop_flood hC hV hGm hDm hn hcs1 hcs2 h1 h2 (kk _ _ _ _ _ h3)
theorem lst_day (hP : LawOK Rel) (hC : lC e9 D X b L xs) {Gm : zGw} (hGm : zGM Gm) (hDm : Gm.2.2.2 = D) {n : Nat} (hn : n + 6 ≤ L) {cs : Nat × Nat} (hcs1 : cs.1 + 20 ≤ 1200384) (hcs2 : cs.2 + 1000 ≤ 5488810) (kk : lH Rel X Q D Gm b n (cs.1 + 10, cs.2 + 410) 2215) : lH Rel X Q D Gm b n cs 1871 := by
  intro ad V I Sc Sm hR
  have hV := hP.slots hR
  obtain ⟨r, a, b9, h1, h2, h3⟩ := hP.op_day hR (xs (n + 1)) (xs (n + 2))
  exact lop_day hC hV hGm hDm hn hcs1 hcs2 h1 h2 (kk _ _ _ _ _ h3)
theorem lst_chance (hP : LawOK Rel) (hC : lC e9 D X b L xs) {Gm : zGw} (hGm : zGM Gm) (hDm : Gm.2.2.2 = D) {n : Nat} (hn : n + 6 ≤ L) {cs : Nat × Nat} (hcs1 : cs.1 + 20 ≤ 1200384) (hcs2 : cs.2 + 1000 ≤ 5488810) (kk : lH Rel X Q D Gm b n (cs.1 + 10, cs.2 + 410) 2215) : lH Rel X Q D Gm b n cs 1904 := by
  intro ad V I Sc Sm hR
  have hV := hP.slots hR
  obtain ⟨r, a, b9, h1, h2, h3⟩ := hP.op_chance hR (xs (n + 1)) (xs (n + 2)) (xs (n + 3)) (xs (n + 4)) (xs (n + 5))
  exact lop_chance hC hV hGm hDm hn hcs1 hcs2 h1 h2 (kk _ _ _ _ _ h3)
theorem lst_count (hP : LawOK Rel) (hC : lC e9 D X b L xs) {Gm : zGw} (hGm : zGM Gm) (hDm : Gm.2.2.2 = D) {n : Nat} (hn : n + 6 ≤ L) {cs : Nat × Nat} (hcs1 : cs.1 + 20 ≤ 1200384) (hcs2 : cs.2 + 1000 ≤ 5488810) (kk : lH Rel X Q D Gm b n (cs.1 + 10, cs.2 + 410) 2215) : lH Rel X Q D Gm b n cs 1967 := by
  intro ad V I Sc Sm hR
  have hV := hP.slots hR
  obtain ⟨r, a, b9, h1, h2, h3⟩ := hP.op_count hR (xs (n + 1))
  exact lop_count hC hV hGm hDm hn hcs1 hcs2 h1 h2 (kk _ _ _ _ _ h3)
theorem lst_keep (hP : LawOK Rel) (hC : lC e9 D X b L xs) {Gm : zGw} (hGm : zGM Gm) (hDm : Gm.2.2.2 = D) {n : Nat} (hn : n + 6 ≤ L) {cs : Nat × Nat} (hcs1 : cs.1 + 20 ≤ 1200384) (hcs2 : cs.2 + 1000 ≤ 5488810) (kk : lH Rel X Q D Gm b n (cs.1 + 10, cs.2 + 410) 2215) : lH Rel X Q D Gm b n cs 1990 := by
  intro ad V I Sc Sm hR
  have hV := hP.slots hR
  rcases hP.op_keep hR (xs (n + 1)) with ⟨r, a, b9, h1, h2, h3⟩ | ⟨r, a, b9, h1, h2, h3⟩
  · exact lop_keep hC hV hGm hDm hn hcs1 hcs2 h1 h2 (fun ad' => kk _ _ _ _ _ h3)
  · exact lop_keepO hC hV hGm hDm hn hcs1 hcs2 h1 h2 (kk _ _ _ _ _ h3)
theorem lst_back (hP : LawOK Rel) (hC : lC e9 D X b L xs) {Gm : zGw} (hGm : zGM Gm) (hDm : Gm.2.2.2 = D) {n : Nat} (hn : n + 6 ≤ L) {cs : Nat × Nat} (hcs1 : cs.1 + 20 ≤ 1200384) (hcs2 : cs.2 + 1000 ≤ 5488810) (kk : lH Rel X Q D Gm b n (cs.1 + 10, cs.2 + 410) 2215) : lH Rel X Q D Gm b n cs 2013 := by
  intro ad V I Sc Sm hR
  have hV := hP.slots hR
  rcases hP.op_back hR (xs (n + 1)) with ⟨hI, r, a, b9, h1, h2, h3⟩ | ⟨ha, hI, r, a, b9, h1, h2, h3⟩ | ⟨ha, hI, r, a, b9, h1, h2, h3⟩ | ⟨ha, hI, r, a, b9, h1, h2, h3⟩ | ⟨r, a, b9, h1, h2, h3⟩
  · exact lop_backN hC hV hGm hDm hn hcs1 hcs2 hI h1 h2 (kk _ _ _ _ _ h3)
  · exact lop_back0 hC hV hGm hDm hn hcs1 hcs2 ha hI h1 h2 (fun ad' => kk _ _ _ _ _ h3)
  · exact lop_back1 hC hV hGm hDm hn hcs1 hcs2 ha hI h1 h2 (fun ad' => kk _ _ _ _ _ h3)
  · exact lop_back2 hC hV hGm hDm hn hcs1 hcs2 ha hI h1 h2 (fun ad' => kk _ _ _ _ _ h3)
  · exact lop_backO hC hV hGm hDm hn hcs1 hcs2 h1 h2 (kk _ _ _ _ _ h3)
theorem lst_row (hP : LawOK Rel) (hC : lC e9 D X b L xs) {Gm : zGw} (hGm : zGM Gm) (hDm : Gm.2.2.2 = D) {n : Nat} (hn : n + 6 ≤ L) {cs : Nat × Nat} (hcs1 : cs.1 + 20 ≤ 1200384) (hcs2 : cs.2 + 1000 ≤ 5488810) (kk : lH Rel X Q D Gm b n (cs.1 + 10, cs.2 + 410) 2215) : lH Rel X Q D Gm b n cs 2036 := by
  intro ad V I Sc Sm hR
  have hV := hP.slots hR
  rcases hP.op_row hR (xs (n + 1)) (xs (n + 2)) (xs (n + 3)) with ⟨g1, g2, r, a, b9, h1, h2, h3⟩ | ⟨r, a, b9, h1, h2, h3⟩
  · exact lop_row hC hV hGm hDm hn hcs1 hcs2 g1 g2 h1 h2 (fun ad' => kk _ _ _ _ _ h3)
  · exact lop_rowN hC hV hGm hDm hn hcs1 hcs2 h1 h2 (kk _ _ _ _ _ h3)
theorem lst_write (hP : LawOK Rel) (hC : lC e9 D X b L xs) {Gm : zGw} (hGm : zGM Gm) (hDm : Gm.2.2.2 = D) {n : Nat} (hn : n + 6 ≤ L) {cs : Nat × Nat} (hcs1 : cs.1 + 20 ≤ 1200384) (hcs2 : cs.2 + 1000 ≤ 5488810) (kk : lH Rel X Q D Gm b n (cs.1 + 10, cs.2 + 410) 2215) : lH Rel X Q D Gm b n cs 2079 := by
  intro ad V I Sc Sm hR
  have hV := hP.slots hR
  obtain ⟨r, a, b9, h1, h2, h3⟩ := hP.op_write hR (xs (n + 1)) (xs (n + 2)) (lgA (xs (n + 3)) (xs (n + 4)))
  exact lop_write hC hV hGm hDm hn hcs1 hcs2 h1 h2 (kk _ _ _ _ _ h3)
theorem lst_paste (hP : LawOK Rel) (hC : lC e9 D X b L xs) {Gm : zGw} (hGm : zGM Gm) (hDm : Gm.2.2.2 = D) {n : Nat} (hn : n + 6 ≤ L) {cs : Nat × Nat} (hcs1 : cs.1 + 20 ≤ 1200384) (hcs2 : cs.2 + 1000 ≤ 5488810) (kk : lH Rel X Q D Gm b n (cs.1 + 10, cs.2 + 410) 2215) : lH Rel X Q D Gm b n cs 2152 := by
  intro ad V I Sc Sm hR
  have hV := hP.slots hR
  obtain ⟨r, a, b9, h1, h2, h3⟩ := hP.op_paste hR (xs (n + 1)) (xs (n + 2)) (xs (n + 3)) (xs (n + 4)) (xs (n + 5))
  exact lop_paste hC hV hGm hDm hn hcs1 hcs2 h1 h2 (kk _ _ _ _ _ h3)
theorem l_turn (hC : lC e9 D X b L xs) {Gm : zGw} {n : Nat} (hn : n + 6 ≤ L) {cs : Nat × Nat} (kk : lH Rel X Q D Gm b (n + 6) cs 18) : lH Rel X Q D Gm b n cs 2215 := by
  intro ad V I Sc Sm hR
  refine l_iinc (pc := 2215) (i := 3) (w := Int32.ofNat (n + 6)) hC dL_law_2215 rfl (Int32.ofNat_add n 6).symm (by decide) rfl ?_
  refine l_goto (pc := 2218) hC 18 dL_law_2218 rfl ?_
  exact kk ad V I Sc Sm hR
theorem l_end (hC : lC e9 D X b L xs) (kk : ∀ (H : Heap) (la : Array Slot), W X.1 X.2.1 X.2.2.1 X.2.2.2.1 X.2.2.2.2.1 X.2.2.2.2.2.1 X.2.2.2.2.2.2.1 X.2.2.2.2.2.2.2.1 X.2.2.2.2.2.2.2.2.1 X.2.2.2.2.2.2.2.2.2 H [] 1200384 5488810 Q (F0 X.2.2.2.2.2.1 2222 la [.int 1])) {Gm : zGw} {n : Nat} {cs : Nat × Nat} (h1 : cs.1 ≤ 1200384) (h2 : cs.2 ≤ 5488810) : lH Rel X Q D Gm b n cs 2221 := by
  intro ad V I Sc Sm hR
  refine l_iconst (pc := 2221) (v := 1) hC dL_law_2221 (by decide) ?_
  intro H locs la hI hl
  exact va_forget (fun q hq => hI.2.2.2.2.2.2.2.2.2 q hq) (W.widen h1 h2 (kk H la))
theorem law_loop (hP : LawOK Rel) (hC : lC e9 D X b L xs) (kk : ∀ (H : Heap) (la : Array Slot), W X.1 X.2.1 X.2.2.1 X.2.2.2.1 X.2.2.2.2.1 X.2.2.2.2.2.1 X.2.2.2.2.2.2.1 X.2.2.2.2.2.2.2.1 X.2.2.2.2.2.2.2.2.1 X.2.2.2.2.2.2.2.2.2 H [] 1200384 5488810 Q (F0 X.2.2.2.2.2.1 2222 la [.int 1])) {Gm : zGw} (hGm : zGM Gm) (hDm : Gm.2.2.2 = D) : ∀ (u n : Nat) (cs : Nat × Nat), n ≤ L + 5 → L + 6 - n ≤ u → cs.1 + 10 * u ≤ 1000000 → cs.2 + 410 * u ≤ 5000000 → lH Rel X Q D Gm b n cs 18 := by
  intro u
  induction u with
  | zero => intro n cs h1 h2; omega
  | succ u ih =>
    intro n cs h1 h2 h3 h4 ad V I Sc Sm hR
    have hL := hC.2.2.2.2.2.2.2.2.2.2.2.2.2
    refine l_iload (pc := 18) hC 3 dL_law_18 rfl rfl ?_
    refine l_aload (pc := 19) hC 0 dL_law_19 rfl rfl ?_
    refine l_len (pc := 20) hC dL_law_20 ?_
    refine l_bipush (pc := 21) (v := 6) hC dL_law_21 (by decide) ?_
    refine l_isub (pc := 23) hC dL_law_23 ?_
    refine l_icmp_gt (pc := 24) hC 2221 dL_law_24 rfl (fun h => ?_) (fun h => ?_)
    · exact l_end hC kk (by omega) (by omega) ad V I Sc Sm hR
    · have hn : n + 6 ≤ L := by
        rw [l_cmp hL (by omega)] at h
        omega
      have h8 := l_ofNat (n := n) (by omega)
      refine l_aload (pc := 27) hC 0 dL_law_27 rfl rfl ?_
      refine l_iload (pc := 28) hC 3 dL_law_28 rfl rfl ?_
      refine l_ld (pc := 29) hC h8.1 h8.2 (by omega) dL_law_29 ?_
      refine l_bipush (pc := 30) (v := 127) hC dL_law_30 (by decide) ?_
      refine l_iand (pc := 32) hC dL_law_32 ?_
      have hT : ∀ cs' : Nat × Nat, cs'.1 ≤ cs.1 + 10 → cs'.2 ≤ cs.2 + 410 → lH Rel X Q D Gm b n cs' 2215 := fun cs' g1 g2 => l_turn hC hn (ih (n + 6) cs' (by omega) (by omega) (by omega) (by omega))
      have hN := hT (cs.1 + 10, cs.2 + 410) (Nat.le_refl _) (Nat.le_refl _)
      have c1 : cs.1 + 20 ≤ 1200384 := by omega
      have c2 : cs.2 + 1000 ≤ 5488810 := by omega
      refine l_switch (pc := 33) hC 2215 dL_law_33 rfl (fun _ => hT cs (by omega) (by omega) ad V I Sc Sm hR) (fun i hi hi2 => ?_)
      match i, hi2 with
      | 0, _ => exact ⟨287, 320, rfl, rfl, lst_feed hP hC hGm hDm hn c1 c2 hN ad V I Sc Sm hR⟩
      | 1, _ => exact ⟨350, 383, rfl, rfl, lst_end hP hC hGm hDm hn c1 c2 hN ad V I Sc Sm hR⟩
      | 2, _ => exact ⟨373, 406, rfl, rfl, lst_town hP hC hGm hDm hn c1 c2 hN ad V I Sc Sm hR⟩
      | 3, _ => exact ⟨386, 419, rfl, rfl, lst_fault hP hC hGm hDm hn c1 c2 hN ad V I Sc Sm hR⟩
      | 4, _ => exact ⟨409, 442, rfl, rfl, lst_letter hP hC hGm hDm hn c1 c2 hN ad V I Sc Sm hR⟩
      | 5, _ => exact ⟨442, 475, rfl, rfl, lst_open hP hC hGm hDm hn c1 c2 hN ad V I Sc Sm hR⟩
      | 6, _ => exact ⟨475, 508, rfl, rfl, lst_step hP hC hGm hDm hn c1 c2 hN ad V I Sc Sm hR⟩
      | 7, _ => exact ⟨508, 541, rfl, rfl, lst_shut hP hC hGm hDm hn c1 c2 hN ad V I Sc Sm hR⟩
      | 8, _ => exact ⟨551, 584, rfl, rfl, lst_ways hP hC hGm hDm hn c1 c2 hN ad V I Sc Sm hR⟩
      | 9, _ => exact ⟨574, 607, rfl, rfl, lst_opposite hP hC hGm hDm hn c1 c2 hN ad V I Sc Sm hR⟩
      | 10, _ => exact ⟨597, 630, rfl, rfl, lst_apart hP hC hGm hDm hn c1 c2 hN ad V I Sc Sm hR⟩
      | 11, _ => exact ⟨630, 663, rfl, rfl, lst_streets hP hC hGm hDm hn c1 c2 hN ad V I Sc Sm hR⟩
      | 12, _ => exact ⟨653, 686, rfl, rfl, lst_far hP hC hGm hDm hn c1 c2 hN ad V I Sc Sm hR⟩
      | 13, _ => exact ⟨686, 719, rfl, rfl, lst_many hP hC hGm hDm hn c1 c2 hN ad V I Sc Sm hR⟩
      | 14, _ => exact ⟨719, 752, rfl, rfl, lst_goes hP hC hGm hDm hn c1 c2 hN ad V I Sc Sm hR⟩
      | 15, _ => exact ⟨762, 795, rfl, rfl, lst_led hP hC hGm hDm hn c1 c2 hN ad V I Sc Sm hR⟩
      | 16, _ => exact ⟨805, 838, rfl, rfl, lst_farthest hP hC hGm hDm hn c1 c2 hN ad V I Sc Sm hR⟩
      | 17, _ => exact ⟨838, 871, rfl, rfl, lst_width hP hC hGm hDm hn c1 c2 hN ad V I Sc Sm hR⟩
      | 18, _ => exact ⟨851, 884, rfl, rfl, lst_within hP hC hGm hDm hn c1 c2 hN ad V I Sc Sm hR⟩
      | 19, _ => exact ⟨884, 917, rfl, rfl, lst_apartWays hP hC hGm hDm hn c1 c2 hN ad V I Sc Sm hR⟩
      | 20, _ => exact ⟨927, 960, rfl, rfl, lst_side hP hC hGm hDm hn c1 c2 hN ad V I Sc Sm hR⟩
      | 21, _ => exact ⟨960, 993, rfl, rfl, lst_parts hP hC hGm hDm hn c1 c2 hN ad V I Sc Sm hR⟩
      | 22, _ => exact ⟨973, 1006, rfl, rfl, lst_part hP hC hGm hDm hn c1 c2 hN ad V I Sc Sm hR⟩
      | 23, _ => exact ⟨996, 1029, rfl, rfl, lst_bridges hP hC hGm hDm hn c1 c2 hN ad V I Sc Sm hR⟩
      | 24, _ => exact ⟨1009, 1042, rfl, rfl, lst_bridge hP hC hGm hDm hn c1 c2 hN ad V I Sc Sm hR⟩
      | 25, _ => exact ⟨1042, 1075, rfl, rfl, lst_joins hP hC hGm hDm hn c1 c2 hN ad V I Sc Sm hR⟩
      | 26, _ => exact ⟨1055, 1088, rfl, rfl, lst_fours hP hC hGm hDm hn c1 c2 hN ad V I Sc Sm hR⟩
      | 27, _ => exact ⟨1068, 1101, rfl, rfl, lst_walls hP hC hGm hDm hn c1 c2 hN ad V I Sc Sm hR⟩
      | 28, _ => exact ⟨1091, 1124, rfl, rfl, lst_wall hP hC hGm hDm hn c1 c2 hN ad V I Sc Sm hR⟩
      | 29, _ => exact ⟨1124, 1157, rfl, rfl, lst_rounds hP hC hGm hDm hn c1 c2 hN ad V I Sc Sm hR⟩
      | 30, _ => exact ⟨1137, 1170, rfl, rfl, lst_round hP hC hGm hDm hn c1 c2 hN ad V I Sc Sm hR⟩
      | 31, _ => exact ⟨1160, 1193, rfl, rfl, lst_by hP hC hGm hDm hn c1 c2 hN ad V I Sc Sm hR⟩
      | 32, _ => exact ⟨1183, 1216, rfl, rfl, lst_even hP hC hGm hDm hn c1 c2 hN ad V I Sc Sm hR⟩
      | 33, _ => exact ⟨1196, 1229, rfl, rfl, lst_unlike hP hC hGm hDm hn c1 c2 hN ad V I Sc Sm hR⟩
      | 34, _ => exact ⟨1209, 1242, rfl, rfl, lst_turnings hP hC hGm hDm hn c1 c2 hN ad V I Sc Sm hR⟩
      | 35, _ => exact ⟨1222, 1255, rfl, rfl, lst_orbit hP hC hGm hDm hn c1 c2 hN ad V I Sc Sm hR⟩
      | 36, _ => exact ⟨1245, 1278, rfl, rfl, lst_still hP hC hGm hDm hn c1 c2 hN ad V I Sc Sm hR⟩
      | 37, _ => exact ⟨1268, 1301, rfl, rfl, lst_colours hP hC hGm hDm hn c1 c2 hN ad V I Sc Sm hR⟩
      | 38, _ => exact ⟨1292, 1325, rfl, rfl, lst_bare hP hC hGm hDm hn c1 c2 hN ad V I Sc Sm hR⟩
      | 39, _ => exact ⟨1305, 1338, rfl, rfl, lst_warden hP hC hGm hDm hn c1 c2 hN ad V I Sc Sm hR⟩
      | 40, _ => exact ⟨1338, 1371, rfl, rfl, lst_fewest hP hC hGm hDm hn c1 c2 hN ad V I Sc Sm hR⟩
      | 41, _ => exact ⟨1361, 1394, rfl, rfl, lst_perfect hP hC hGm hDm hn c1 c2 hN ad V I Sc Sm hR⟩
      | 42, _ => exact ⟨1374, 1407, rfl, rfl, lst_more hP hC hGm hDm hn c1 c2 hN ad V I Sc Sm hR⟩
      | 43, _ => exact ⟨1387, 1420, rfl, rfl, lst_code hP hC hGm hDm hn c1 c2 hN ad V I Sc Sm hR⟩
      | 44, _ => exact ⟨1410, 1443, rfl, rfl, lst_heard hP hC hGm hDm hn c1 c2 hN ad V I Sc Sm hR⟩
      | 45, _ => exact ⟨1443, 1476, rfl, rfl, lst_told hP hC hGm hDm hn c1 c2 hN ad V I Sc Sm hR⟩
      | 46, _ => exact ⟨1476, 1509, rfl, rfl, lst_biggest hP hC hGm hDm hn c1 c2 hN ad V I Sc Sm hR⟩
      | 47, _ => exact ⟨1499, 1532, rfl, rfl, lst_shadow hP hC hGm hDm hn c1 c2 hN ad V I Sc Sm hR⟩
      | 48, _ => exact ⟨1532, 1565, rfl, rfl, lst_crossings hP hC hGm hDm hn c1 c2 hN ad V I Sc Sm hR⟩
      | 49, _ => exact ⟨1555, 1588, rfl, rfl, lst_drawing hP hC hGm hDm hn c1 c2 hN ad V I Sc Sm hR⟩
      | 50, _ => exact ⟨1568, 1601, rfl, rfl, lst_person hP hC hGm hDm hn c1 c2 hN ad V I Sc Sm hR⟩
      | 51, _ => exact ⟨1591, 1624, rfl, rfl, lst_moves hP hC hGm hDm hn c1 c2 hN ad V I Sc Sm hR⟩
      | 52, _ => exact ⟨1624, 1657, rfl, rfl, lst_met hP hC hGm hDm hn c1 c2 hN ad V I Sc Sm hR⟩
      | 53, _ => exact ⟨1647, 1680, rfl, rfl, lst_sure hP hC hGm hDm hn c1 c2 hN ad V I Sc Sm hR⟩
      | 54, _ => exact ⟨1680, 1713, rfl, rfl, lst_comes hP hC hGm hDm hn c1 c2 hN ad V I Sc Sm hR⟩
      | 55, _ => exact ⟨1703, 1736, rfl, rfl, lst_post hP hC hGm hDm hn c1 c2 hN ad V I Sc Sm hR⟩
      | 56, _ => exact ⟨1726, 1759, rfl, rfl, lst_at hP hC hGm hDm hn c1 c2 hN ad V I Sc Sm hR⟩
      | 57, _ => exact ⟨1759, 1792, rfl, rfl, lst_clash hP hC hGm hDm hn c1 c2 hN ad V I Sc Sm hR⟩
      | 58, _ => exact ⟨1772, 1805, rfl, rfl, lst_law hP hC hGm hDm hn c1 c2 hN ad V I Sc Sm hR⟩
      | 59, _ => exact ⟨1795, 1828, rfl, rfl, lst_flood hP hC hGm hDm hn c1 c2 hN ad V I Sc Sm hR⟩
      | 60, _ => exact ⟨1838, 1871, rfl, rfl, lst_day hP hC hGm hDm hn c1 c2 hN ad V I Sc Sm hR⟩
      | 61, _ => exact ⟨1871, 1904, rfl, rfl, lst_chance hP hC hGm hDm hn c1 c2 hN ad V I Sc Sm hR⟩
      | 62, _ => exact ⟨1934, 1967, rfl, rfl, lst_count hP hC hGm hDm hn c1 c2 hN ad V I Sc Sm hR⟩
      | 63, _ => exact ⟨1957, 1990, rfl, rfl, lst_keep hP hC hGm hDm hn c1 c2 hN ad V I Sc Sm hR⟩
      | 64, _ => exact ⟨1980, 2013, rfl, rfl, lst_back hP hC hGm hDm hn c1 c2 hN ad V I Sc Sm hR⟩
      | 65, _ => exact ⟨2003, 2036, rfl, rfl, lst_row hP hC hGm hDm hn c1 c2 hN ad V I Sc Sm hR⟩
      | 66, _ => exact ⟨2046, 2079, rfl, rfl, lst_write hP hC hGm hDm hn c1 c2 hN ad V I Sc Sm hR⟩
      | 67, _ => exact ⟨2119, 2152, rfl, rfl, lst_paste hP hC hGm hDm hn c1 c2 hN ad V I Sc Sm hR⟩
      | i + 68, hi3 => omega
end
