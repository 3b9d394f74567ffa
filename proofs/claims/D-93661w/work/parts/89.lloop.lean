/-! printed by gen/law.py: what the plain law gives, and the law's loop over it -/
/-- growth of one call -/
def Gr (σ σ1 : CS) : Prop := cZ σ1 ≤ cZ σ + 9000 ∧ cS σ1 ≤ cS σ + 100000
def LI (T : Nat × Nat) (a0 : Nat) (Rel : CS → MS → Prop) : Prop :=
  (∀ {σ : CS} {mm : MS}, Rel σ mm → kd σ a0 2 = true) ∧
  (∀ {σ : CS} {mm : MS} {z : Nat}, Rel σ mm → cZ σ ≤ z → Rel (bz σ z) mm) ∧
  (∀ {σ : CS} {mm : MS}, Rel σ mm → ∀ (p1 : Int64) (p2 : Int32), ∃ (r : Int32) (σ1 : CS) (mm1 : MS), fX0_feed a0 p1 p2 σ = some (r, σ1) ∧ fX4_feed p1 p2 mm = some (r, mm1) ∧ Rel σ1 mm1 ∧ Gr σ σ1) ∧
  (∀ {σ : CS} {mm : MS}, Rel σ mm → ∀ (_ : Unit), ∃ (r : Int32) (σ1 : CS) (mm1 : MS), fX0_port T a0 σ = some (r, σ1) ∧ fX4_port mm = some (r, mm1) ∧ Rel σ1 mm1 ∧ Gr σ σ1) ∧
  (∀ {σ : CS} {mm : MS}, Rel σ mm → ∀ (p1 : Int32) (p2 : Int32), ∃ (r : Int32) (σ1 : CS) (mm1 : MS), fX0_told a0 p1 p2 σ = some (r, σ1) ∧ (fX4_told p1 p2 mm = some r ∧ mm1 = mm) ∧ Rel σ1 mm1 ∧ Gr σ σ1) ∧
  (∀ {σ : CS} {mm : MS}, Rel σ mm → ∀ (p1 : Int32) (p2 : Int32) (p3 : Int32) (p4 : Int32), ∃ (r : Int32) (σ1 : CS) (mm1 : MS), fX0_holds a0 p1 p2 p3 p4 σ = some (r, σ1) ∧ fX4_holds p1 p2 p3 p4 mm = some (r, mm1) ∧ Rel σ1 mm1 ∧ Gr σ σ1) ∧
  (∀ {σ : CS} {mm : MS}, Rel σ mm → ∀ (p1 : Int32) (p2 : Int32) (p3 : Int32), ∃ (r : Int32) (σ1 : CS) (mm1 : MS), fX0_ship T a0 p1 p2 p3 σ = some (r, σ1) ∧ fX4_ship p1 p2 p3 mm = some (r, mm1) ∧ Rel σ1 mm1 ∧ Gr σ σ1) ∧
  (∀ {σ : CS} {mm : MS}, Rel σ mm → ∀ (p1 : Int32) (p2 : Int32), ∃ (r : Int32) (σ1 : CS) (mm1 : MS), fX0_says a0 p1 p2 σ = some (r, σ1) ∧ fX4_says p1 p2 mm = some (r, mm1) ∧ Rel σ1 mm1 ∧ Gr σ σ1) ∧
  (∀ {σ : CS} {mm : MS}, Rel σ mm → ∀ (p1 : Int32) (p2 : Int32), ∃ (r : Int32) (σ1 : CS) (mm1 : MS), fX0_late a0 p1 p2 σ = some (r, σ1) ∧ fX4_late p1 p2 mm = some (r, mm1) ∧ Rel σ1 mm1 ∧ Gr σ σ1) ∧
  (∀ {σ : CS} {mm : MS}, Rel σ mm → ∀ (p1 : Int32) (p2 : Int32), ∃ (r : Int32) (σ1 : CS) (mm1 : MS), fX0_of a0 p1 p2 σ = some (r, σ1) ∧ (fX4_of p1 p2 mm = some r ∧ mm1 = mm) ∧ Rel σ1 mm1 ∧ Gr σ σ1) ∧
  (∀ {σ : CS} {mm : MS}, Rel σ mm → ∀ (p1 : Int32) (p2 : Int32), ∃ (r : Int32) (σ1 : CS) (mm1 : MS), fX0_days a0 p1 p2 σ = some (r, σ1) ∧ fX4_days p1 p2 mm = some (r, mm1) ∧ Rel σ1 mm1 ∧ Gr σ σ1) ∧
  (∀ {σ : CS} {mm : MS}, Rel σ mm → ∀ (p1 : Int32), ∃ (r : Int32) (σ1 : CS) (mm1 : MS), fX0_look a0 p1 σ = some (r, σ1) ∧ fX4_look p1 mm = some (r, mm1) ∧ Rel σ1 mm1 ∧ Gr σ σ1) ∧
  (∀ {σ : CS} {mm : MS}, Rel σ mm → ∀ (p1 : Int32), ∃ (r : Int64) (σ1 : CS) (mm1 : MS), fX0_harm a0 p1 σ = some (r, σ1) ∧ fX4_harm p1 mm = some (r, mm1) ∧ Rel σ1 mm1 ∧ Gr σ σ1) ∧
  (∀ {σ : CS} {mm : MS}, Rel σ mm → ∀ (p1 : Int32) (p2 : Int32), ∃ (r : Int32) (σ1 : CS) (mm1 : MS), fX0_rule T a0 p1 p2 σ = some (r, σ1) ∧ fX4_rule p1 p2 mm = some (r, mm1) ∧ Rel σ1 mm1 ∧ Gr σ σ1) ∧
  (∀ {σ : CS} {mm : MS}, Rel σ mm → ∀ (p1 : Int32) (p2 : Int32), ∃ (r : Int32) (σ1 : CS) (mm1 : MS), fX0_row a0 p1 p2 σ = some (r, σ1) ∧ fX4_row p1 p2 mm = some (r, mm1) ∧ Rel σ1 mm1 ∧ Gr σ σ1) ∧
  (∀ {σ : CS} {mm : MS}, Rel σ mm → ∀ (p1 : Int32) (p2 : Int32) (p3 : Int32), ∃ (r : Int32) (σ1 : CS) (mm1 : MS), fX0_lets a0 p1 p2 p3 σ = some (r, σ1) ∧ fX4_lets p1 p2 p3 mm = some (r, mm1) ∧ Rel σ1 mm1 ∧ Gr σ σ1) ∧
  (∀ {σ : CS} {mm : MS}, Rel σ mm → ∀ (p1 : Int32) (p2 : Int32), ∃ (r : Int64) (σ1 : CS) (mm1 : MS), fX0_mean a0 p1 p2 σ = some (r, σ1) ∧ fX4_mean p1 p2 mm = some (r, mm1) ∧ Rel σ1 mm1 ∧ Gr σ σ1) ∧
  (∀ {σ : CS} {mm : MS}, Rel σ mm → ∀ (p1 : Int32) (p2 : Int32) (p3 : Int32) (p4 : Int32), ∃ (r : Int64) (σ1 : CS) (mm1 : MS), fX0_best a0 p1 p2 p3 p4 σ = some (r, σ1) ∧ fX4_best p1 p2 p3 p4 mm = some (r, mm1) ∧ Rel σ1 mm1 ∧ Gr σ σ1) ∧
  (∀ {σ : CS} {mm : MS}, Rel σ mm → ∀ (p1 : Int32) (p2 : Int32), ∃ (r : Int32) (σ1 : CS) (mm1 : MS), fX0_plain a0 p1 p2 σ = some (r, σ1) ∧ fX4_plain p1 p2 mm = some (r, mm1) ∧ Rel σ1 mm1 ∧ Gr σ σ1) ∧
  (∀ {σ : CS} {mm : MS}, Rel σ mm → ∀ (p1 : Int32), ∃ (r : Int64) (σ1 : CS) (mm1 : MS), fX0_loses a0 p1 σ = some (r, σ1) ∧ fX4_loses p1 mm = some (r, mm1) ∧ Rel σ1 mm1 ∧ Gr σ σ1) ∧
  (∀ {σ : CS} {mm : MS}, Rel σ mm → ∀ (p1 : Int32) (p2 : Int32), ∃ (r : Int32) (σ1 : CS) (mm1 : MS), fX0_judged a0 p1 p2 σ = some (r, σ1) ∧ fX4_judged p1 p2 mm = some (r, mm1) ∧ Rel σ1 mm1 ∧ Gr σ σ1) ∧
  (∀ {σ : CS} {mm : MS}, Rel σ mm → ∀ (p1 : Int32) (p2 : Int32), ∃ (r : Int32) (σ1 : CS) (mm1 : MS), fX0_room a0 p1 p2 σ = some (r, σ1) ∧ fX4_room p1 p2 mm = some (r, mm1) ∧ Rel σ1 mm1 ∧ Gr σ σ1) ∧
  (∀ {σ : CS} {mm : MS}, Rel σ mm → ∀ (p1 : Int32) (p2 : Int32), ∃ (r : Int32) (σ1 : CS) (mm1 : MS), fX0_lies a0 p1 p2 σ = some (r, σ1) ∧ fX4_lies p1 p2 mm = some (r, mm1) ∧ Rel σ1 mm1 ∧ Gr σ σ1) ∧
  (∀ {σ : CS} {mm : MS}, Rel σ mm → ∀ (p1 : Int32) (p2 : Int32), ∃ (r : Int32) (σ1 : CS) (mm1 : MS), fX0_fine a0 p1 p2 σ = some (r, σ1) ∧ fX4_fine p1 p2 mm = some (r, mm1) ∧ Rel σ1 mm1 ∧ Gr σ σ1) ∧
  (∀ {σ : CS} {mm : MS}, Rel σ mm → ∀ (p1 : Int32) (p2 : Int32) (p3 : Int32), ∃ (r : Int32) (σ1 : CS) (mm1 : MS), fX0_rest a0 p1 p2 p3 σ = some (r, σ1) ∧ fX4_rest p1 p2 p3 mm = some (r, mm1) ∧ Rel σ1 mm1 ∧ Gr σ σ1) ∧
  (∀ {σ : CS} {mm : MS}, Rel σ mm → ∀ (p1 : Int32), ∃ (r : Int32) (σ1 : CS) (mm1 : MS), fX0_matter a0 p1 σ = some (r, σ1) ∧ fX4_matter p1 mm = some (r, mm1) ∧ Rel σ1 mm1 ∧ Gr σ σ1) ∧
  (∀ {σ : CS} {mm : MS}, Rel σ mm → ∀ (p1 : Int32), ∃ (r : Int32) (σ1 : CS) (mm1 : MS), fX0_edge a0 p1 σ = some (r, σ1) ∧ fX4_edge p1 mm = some (r, mm1) ∧ Rel σ1 mm1 ∧ Gr σ σ1) ∧
  (∀ {σ : CS} {mm : MS}, Rel σ mm → ∀ (p1 : Int32) (p2 : Int32) (p3 : Int32), ∃ (r : Int32) (σ1 : CS) (mm1 : MS), fX0_run a0 p1 p2 p3 σ = some (r, σ1) ∧ fX4_run p1 p2 p3 mm = some (r, mm1) ∧ Rel σ1 mm1 ∧ Gr σ σ1) ∧
  (∀ {σ : CS} {mm : MS}, Rel σ mm → ∀ (p1 : Int32) (p2 : Int32) (p3 : Int32), ∃ (r : Int32) (σ1 : CS) (mm1 : MS), fX0_act a0 p1 p2 p3 σ = some (r, σ1) ∧ fX4_act p1 p2 p3 mm = some (r, mm1) ∧ Rel σ1 mm1 ∧ Gr σ σ1) ∧
  (∀ {σ : CS} {mm : MS}, Rel σ mm → ∀ (p1 : Int32), ∃ (r : Int32) (σ1 : CS) (mm1 : MS), fX0_trace a0 p1 σ = some (r, σ1) ∧ (fX4_trace p1 mm = some r ∧ mm1 = mm) ∧ Rel σ1 mm1 ∧ Gr σ σ1) ∧
  (∀ {σ : CS} {mm : MS}, Rel σ mm → ∀ (p1 : Int32) (p2 : Int32), ∃ (r : Int32) (σ1 : CS) (mm1 : MS), fX0_as a0 p1 p2 σ = some (r, σ1) ∧ (fX4_as p1 p2 mm = some r ∧ mm1 = mm) ∧ Rel σ1 mm1 ∧ Gr σ σ1) ∧
  (∀ {σ : CS} {mm : MS}, Rel σ mm → ∀ (_ : Unit), ∃ (r : Int32) (σ1 : CS) (mm1 : MS), fX0_image a0 σ = some (r, σ1) ∧ fX4_image mm = some (r, mm1) ∧ Rel σ1 mm1 ∧ Gr σ σ1) ∧
  (∀ {σ : CS} {mm : MS}, Rel σ mm → ∀ (_ : Unit), ∃ (r : Int32) (σ1 : CS) (mm1 : MS), fX0_undo a0 σ = some (r, σ1) ∧ fX4_undo mm = some (r, mm1) ∧ Rel σ1 mm1 ∧ Gr σ σ1) ∧
  (∀ {σ : CS} {mm : MS}, Rel σ mm → ∀ (p1 : Int32), ∃ (r : Int32) (σ1 : CS) (mm1 : MS), fX0_count a0 p1 σ = some (r, σ1) ∧ (fX4_count p1 mm = some r ∧ mm1 = mm) ∧ Rel σ1 mm1 ∧ Gr σ σ1)
theorem LI.obj {T : Nat × Nat} {a0 : Nat} {Rel : CS → MS → Prop} (h : LI T a0 Rel) : ∀ {σ : CS} {mm : MS}, Rel σ mm → kd σ a0 2 = true := h.1
theorem LI.bump {T : Nat × Nat} {a0 : Nat} {Rel : CS → MS → Prop} (h : LI T a0 Rel) : ∀ {σ : CS} {mm : MS} {z : Nat}, Rel σ mm → cZ σ ≤ z → Rel (bz σ z) mm := h.2.1
theorem LI.x_feed {T : Nat × Nat} {a0 : Nat} {Rel : CS → MS → Prop} (h : LI T a0 Rel) : ∀ {σ : CS} {mm : MS}, Rel σ mm → ∀ (p1 : Int64) (p2 : Int32), ∃ (r : Int32) (σ1 : CS) (mm1 : MS), fX0_feed a0 p1 p2 σ = some (r, σ1) ∧ fX4_feed p1 p2 mm = some (r, mm1) ∧ Rel σ1 mm1 ∧ Gr σ σ1 := h.2.2.1
theorem LI.x_port {T : Nat × Nat} {a0 : Nat} {Rel : CS → MS → Prop} (h : LI T a0 Rel) : ∀ {σ : CS} {mm : MS}, Rel σ mm → ∀ (_ : Unit), ∃ (r : Int32) (σ1 : CS) (mm1 : MS), fX0_port T a0 σ = some (r, σ1) ∧ fX4_port mm = some (r, mm1) ∧ Rel σ1 mm1 ∧ Gr σ σ1 := h.2.2.2.1
theorem LI.x_told {T : Nat × Nat} {a0 : Nat} {Rel : CS → MS → Prop} (h : LI T a0 Rel) : ∀ {σ : CS} {mm : MS}, Rel σ mm → ∀ (p1 : Int32) (p2 : Int32), ∃ (r : Int32) (σ1 : CS) (mm1 : MS), fX0_told a0 p1 p2 σ = some (r, σ1) ∧ (fX4_told p1 p2 mm = some r ∧ mm1 = mm) ∧ Rel σ1 mm1 ∧ Gr σ σ1 := h.2.2.2.2.1
theorem LI.x_holds {T : Nat × Nat} {a0 : Nat} {Rel : CS → MS → Prop} (h : LI T a0 Rel) : ∀ {σ : CS} {mm : MS}, Rel σ mm → ∀ (p1 : Int32) (p2 : Int32) (p3 : Int32) (p4 : Int32), ∃ (r : Int32) (σ1 : CS) (mm1 : MS), fX0_holds a0 p1 p2 p3 p4 σ = some (r, σ1) ∧ fX4_holds p1 p2 p3 p4 mm = some (r, mm1) ∧ Rel σ1 mm1 ∧ Gr σ σ1 := h.2.2.2.2.2.1
theorem LI.x_ship {T : Nat × Nat} {a0 : Nat} {Rel : CS → MS → Prop} (h : LI T a0 Rel) : ∀ {σ : CS} {mm : MS}, Rel σ mm → ∀ (p1 : Int32) (p2 : Int32) (p3 : Int32), ∃ (r : Int32) (σ1 : CS) (mm1 : MS), fX0_ship T a0 p1 p2 p3 σ = some (r, σ1) ∧ fX4_ship p1 p2 p3 mm = some (r, mm1) ∧ Rel σ1 mm1 ∧ Gr σ σ1 := h.2.2.2.2.2.2.1
theorem LI.x_says {T : Nat × Nat} {a0 : Nat} {Rel : CS → MS → Prop} (h : LI T a0 Rel) : ∀ {σ : CS} {mm : MS}, Rel σ mm → ∀ (p1 : Int32) (p2 : Int32), ∃ (r : Int32) (σ1 : CS) (mm1 : MS), fX0_says a0 p1 p2 σ = some (r, σ1) ∧ fX4_says p1 p2 mm = some (r, mm1) ∧ Rel σ1 mm1 ∧ Gr σ σ1 := h.2.2.2.2.2.2.2.1
theorem LI.x_late {T : Nat × Nat} {a0 : Nat} {Rel : CS → MS → Prop} (h : LI T a0 Rel) : ∀ {σ : CS} {mm : MS}, Rel σ mm → ∀ (p1 : Int32) (p2 : Int32), ∃ (r : Int32) (σ1 : CS) (mm1 : MS), fX0_late a0 p1 p2 σ = some (r, σ1) ∧ fX4_late p1 p2 mm = some (r, mm1) ∧ Rel σ1 mm1 ∧ Gr σ σ1 := h.2.2.2.2.2.2.2.2.1
theorem LI.x_of {T : Nat × Nat} {a0 : Nat} {Rel : CS → MS → Prop} (h : LI T a0 Rel) : ∀ {σ : CS} {mm : MS}, Rel σ mm → ∀ (p1 : Int32) (p2 : Int32), ∃ (r : Int32) (σ1 : CS) (mm1 : MS), fX0_of a0 p1 p2 σ = some (r, σ1) ∧ (fX4_of p1 p2 mm = some r ∧ mm1 = mm) ∧ Rel σ1 mm1 ∧ Gr σ σ1 := h.2.2.2.2.2.2.2.2.2.1
theorem LI.x_days {T : Nat × Nat} {a0 : Nat} {Rel : CS → MS → Prop} (h : LI T a0 Rel) : ∀ {σ : CS} {mm : MS}, Rel σ mm → ∀ (p1 : Int32) (p2 : Int32), ∃ (r : Int32) (σ1 : CS) (mm1 : MS), fX0_days a0 p1 p2 σ = some (r, σ1) ∧ fX4_days p1 p2 mm = some (r, mm1) ∧ Rel σ1 mm1 ∧ Gr σ σ1 := h.2.2.2.2.2.2.2.2.2.2.1
theorem LI.x_look {T : Nat × Nat} {a0 : Nat} {Rel : CS → MS → Prop} (h : LI T a0 Rel) : ∀ {σ : CS} {mm : MS}, Rel σ mm → ∀ (p1 : Int32), ∃ (r : Int32) (σ1 : CS) (mm1 : MS), fX0_look a0 p1 σ = some (r, σ1) ∧ fX4_look p1 mm = some (r, mm1) ∧ Rel σ1 mm1 ∧ Gr σ σ1 := h.2.2.2.2.2.2.2.2.2.2.2.1
theorem LI.x_harm {T : Nat × Nat} {a0 : Nat} {Rel : CS → MS → Prop} (h : LI T a0 Rel) : ∀ {σ : CS} {mm : MS}, Rel σ mm → ∀ (p1 : Int32), ∃ (r : Int64) (σ1 : CS) (mm1 : MS), fX0_harm a0 p1 σ = some (r, σ1) ∧ fX4_harm p1 mm = some (r, mm1) ∧ Rel σ1 mm1 ∧ Gr σ σ1 := h.2.2.2.2.2.2.2.2.2.2.2.2.1
theorem LI.x_rule {T : Nat × Nat} {a0 : Nat} {Rel : CS → MS → Prop} (h : LI T a0 Rel) : ∀ {σ : CS} {mm : MS}, Rel σ mm → ∀ (p1 : Int32) (p2 : Int32), ∃ (r : Int32) (σ1 : CS) (mm1 : MS), fX0_rule T a0 p1 p2 σ = some (r, σ1) ∧ fX4_rule p1 p2 mm = some (r, mm1) ∧ Rel σ1 mm1 ∧ Gr σ σ1 := h.2.2.2.2.2.2.2.2.2.2.2.2.2.1
theorem LI.x_row {T : Nat × Nat} {a0 : Nat} {Rel : CS → MS → Prop} (h : LI T a0 Rel) : ∀ {σ : CS} {mm : MS}, Rel σ mm → ∀ (p1 : Int32) (p2 : Int32), ∃ (r : Int32) (σ1 : CS) (mm1 : MS), fX0_row a0 p1 p2 σ = some (r, σ1) ∧ fX4_row p1 p2 mm = some (r, mm1) ∧ Rel σ1 mm1 ∧ Gr σ σ1 := h.2.2.2.2.2.2.2.2.2.2.2.2.2.2.1
theorem LI.x_lets {T : Nat × Nat} {a0 : Nat} {Rel : CS → MS → Prop} (h : LI T a0 Rel) : ∀ {σ : CS} {mm : MS}, Rel σ mm → ∀ (p1 : Int32) (p2 : Int32) (p3 : Int32), ∃ (r : Int32) (σ1 : CS) (mm1 : MS), fX0_lets a0 p1 p2 p3 σ = some (r, σ1) ∧ fX4_lets p1 p2 p3 mm = some (r, mm1) ∧ Rel σ1 mm1 ∧ Gr σ σ1 := h.2.2.2.2.2.2.2.2.2.2.2.2.2.2.2.1
theorem LI.x_mean {T : Nat × Nat} {a0 : Nat} {Rel : CS → MS → Prop} (h : LI T a0 Rel) : ∀ {σ : CS} {mm : MS}, Rel σ mm → ∀ (p1 : Int32) (p2 : Int32), ∃ (r : Int64) (σ1 : CS) (mm1 : MS), fX0_mean a0 p1 p2 σ = some (r, σ1) ∧ fX4_mean p1 p2 mm = some (r, mm1) ∧ Rel σ1 mm1 ∧ Gr σ σ1 := h.2.2.2.2.2.2.2.2.2.2.2.2.2.2.2.2.1
theorem LI.x_best {T : Nat × Nat} {a0 : Nat} {Rel : CS → MS → Prop} (h : LI T a0 Rel) : ∀ {σ : CS} {mm : MS}, Rel σ mm → ∀ (p1 : Int32) (p2 : Int32) (p3 : Int32) (p4 : Int32), ∃ (r : Int64) (σ1 : CS) (mm1 : MS), fX0_best a0 p1 p2 p3 p4 σ = some (r, σ1) ∧ fX4_best p1 p2 p3 p4 mm = some (r, mm1) ∧ Rel σ1 mm1 ∧ Gr σ σ1 := h.2.2.2.2.2.2.2.2.2.2.2.2.2.2.2.2.2.1
theorem LI.x_plain {T : Nat × Nat} {a0 : Nat} {Rel : CS → MS → Prop} (h : LI T a0 Rel) : ∀ {σ : CS} {mm : MS}, Rel σ mm → ∀ (p1 : Int32) (p2 : Int32), ∃ (r : Int32) (σ1 : CS) (mm1 : MS), fX0_plain a0 p1 p2 σ = some (r, σ1) ∧ fX4_plain p1 p2 mm = some (r, mm1) ∧ Rel σ1 mm1 ∧ Gr σ σ1 := h.2.2.2.2.2.2.2.2.2.2.2.2.2.2.2.2.2.2.1
theorem LI.x_loses {T : Nat × Nat} {a0 : Nat} {Rel : CS → MS → Prop} (h : LI T a0 Rel) : ∀ {σ : CS} {mm : MS}, Rel σ mm → ∀ (p1 : Int32), ∃ (r : Int64) (σ1 : CS) (mm1 : MS), fX0_loses a0 p1 σ = some (r, σ1) ∧ fX4_loses p1 mm = some (r, mm1) ∧ Rel σ1 mm1 ∧ Gr σ σ1 := h.2.2.2.2.2.2.2.2.2.2.2.2.2.2.2.2.2.2.2.1
theorem LI.x_judged {T : Nat × Nat} {a0 : Nat} {Rel : CS → MS → Prop} (h : LI T a0 Rel) : ∀ {σ : CS} {mm : MS}, Rel σ mm → ∀ (p1 : Int32) (p2 : Int32), ∃ (r : Int32) (σ1 : CS) (mm1 : MS), fX0_judged a0 p1 p2 σ = some (r, σ1) ∧ fX4_judged p1 p2 mm = some (r, mm1) ∧ Rel σ1 mm1 ∧ Gr σ σ1 := h.2.2.2.2.2.2.2.2.2.2.2.2.2.2.2.2.2.2.2.2.1
theorem LI.x_room {T : Nat × Nat} {a0 : Nat} {Rel : CS → MS → Prop} (h : LI T a0 Rel) : ∀ {σ : CS} {mm : MS}, Rel σ mm → ∀ (p1 : Int32) (p2 : Int32), ∃ (r : Int32) (σ1 : CS) (mm1 : MS), fX0_room a0 p1 p2 σ = some (r, σ1) ∧ fX4_room p1 p2 mm = some (r, mm1) ∧ Rel σ1 mm1 ∧ Gr σ σ1 := h.2.2.2.2.2.2.2.2.2.2.2.2.2.2.2.2.2.2.2.2.2.1
theorem LI.x_lies {T : Nat × Nat} {a0 : Nat} {Rel : CS → MS → Prop} (h : LI T a0 Rel) : ∀ {σ : CS} {mm : MS}, Rel σ mm → ∀ (p1 : Int32) (p2 : Int32), ∃ (r : Int32) (σ1 : CS) (mm1 : MS), fX0_lies a0 p1 p2 σ = some (r, σ1) ∧ fX4_lies p1 p2 mm = some (r, mm1) ∧ Rel σ1 mm1 ∧ Gr σ σ1 := h.2.2.2.2.2.2.2.2.2.2.2.2.2.2.2.2.2.2.2.2.2.2.1
theorem LI.x_fine {T : Nat × Nat} {a0 : Nat} {Rel : CS → MS → Prop} (h : LI T a0 Rel) : ∀ {σ : CS} {mm : MS}, Rel σ mm → ∀ (p1 : Int32) (p2 : Int32), ∃ (r : Int32) (σ1 : CS) (mm1 : MS), fX0_fine a0 p1 p2 σ = some (r, σ1) ∧ fX4_fine p1 p2 mm = some (r, mm1) ∧ Rel σ1 mm1 ∧ Gr σ σ1 := h.2.2.2.2.2.2.2.2.2.2.2.2.2.2.2.2.2.2.2.2.2.2.2.1
theorem LI.x_rest {T : Nat × Nat} {a0 : Nat} {Rel : CS → MS → Prop} (h : LI T a0 Rel) : ∀ {σ : CS} {mm : MS}, Rel σ mm → ∀ (p1 : Int32) (p2 : Int32) (p3 : Int32), ∃ (r : Int32) (σ1 : CS) (mm1 : MS), fX0_rest a0 p1 p2 p3 σ = some (r, σ1) ∧ fX4_rest p1 p2 p3 mm = some (r, mm1) ∧ Rel σ1 mm1 ∧ Gr σ σ1 := h.2.2.2.2.2.2.2.2.2.2.2.2.2.2.2.2.2.2.2.2.2.2.2.2.1
theorem LI.x_matter {T : Nat × Nat} {a0 : Nat} {Rel : CS → MS → Prop} (h : LI T a0 Rel) : ∀ {σ : CS} {mm : MS}, Rel σ mm → ∀ (p1 : Int32), ∃ (r : Int32) (σ1 : CS) (mm1 : MS), fX0_matter a0 p1 σ = some (r, σ1) ∧ fX4_matter p1 mm = some (r, mm1) ∧ Rel σ1 mm1 ∧ Gr σ σ1 := h.2.2.2.2.2.2.2.2.2.2.2.2.2.2.2.2.2.2.2.2.2.2.2.2.2.1
theorem LI.x_edge {T : Nat × Nat} {a0 : Nat} {Rel : CS → MS → Prop} (h : LI T a0 Rel) : ∀ {σ : CS} {mm : MS}, Rel σ mm → ∀ (p1 : Int32), ∃ (r : Int32) (σ1 : CS) (mm1 : MS), fX0_edge a0 p1 σ = some (r, σ1) ∧ fX4_edge p1 mm = some (r, mm1) ∧ Rel σ1 mm1 ∧ Gr σ σ1 := h.2.2.2.2.2.2.2.2.2.2.2.2.2.2.2.2.2.2.2.2.2.2.2.2.2.2.1
theorem LI.x_run {T : Nat × Nat} {a0 : Nat} {Rel : CS → MS → Prop} (h : LI T a0 Rel) : ∀ {σ : CS} {mm : MS}, Rel σ mm → ∀ (p1 : Int32) (p2 : Int32) (p3 : Int32), ∃ (r : Int32) (σ1 : CS) (mm1 : MS), fX0_run a0 p1 p2 p3 σ = some (r, σ1) ∧ fX4_run p1 p2 p3 mm = some (r, mm1) ∧ Rel σ1 mm1 ∧ Gr σ σ1 := h.2.2.2.2.2.2.2.2.2.2.2.2.2.2.2.2.2.2.2.2.2.2.2.2.2.2.2.1
theorem LI.x_act {T : Nat × Nat} {a0 : Nat} {Rel : CS → MS → Prop} (h : LI T a0 Rel) : ∀ {σ : CS} {mm : MS}, Rel σ mm → ∀ (p1 : Int32) (p2 : Int32) (p3 : Int32), ∃ (r : Int32) (σ1 : CS) (mm1 : MS), fX0_act a0 p1 p2 p3 σ = some (r, σ1) ∧ fX4_act p1 p2 p3 mm = some (r, mm1) ∧ Rel σ1 mm1 ∧ Gr σ σ1 := h.2.2.2.2.2.2.2.2.2.2.2.2.2.2.2.2.2.2.2.2.2.2.2.2.2.2.2.2.1
theorem LI.x_trace {T : Nat × Nat} {a0 : Nat} {Rel : CS → MS → Prop} (h : LI T a0 Rel) : ∀ {σ : CS} {mm : MS}, Rel σ mm → ∀ (p1 : Int32), ∃ (r : Int32) (σ1 : CS) (mm1 : MS), fX0_trace a0 p1 σ = some (r, σ1) ∧ (fX4_trace p1 mm = some r ∧ mm1 = mm) ∧ Rel σ1 mm1 ∧ Gr σ σ1 := h.2.2.2.2.2.2.2.2.2.2.2.2.2.2.2.2.2.2.2.2.2.2.2.2.2.2.2.2.2.1
theorem LI.x_as {T : Nat × Nat} {a0 : Nat} {Rel : CS → MS → Prop} (h : LI T a0 Rel) : ∀ {σ : CS} {mm : MS}, Rel σ mm → ∀ (p1 : Int32) (p2 : Int32), ∃ (r : Int32) (σ1 : CS) (mm1 : MS), fX0_as a0 p1 p2 σ = some (r, σ1) ∧ (fX4_as p1 p2 mm = some r ∧ mm1 = mm) ∧ Rel σ1 mm1 ∧ Gr σ σ1 := h.2.2.2.2.2.2.2.2.2.2.2.2.2.2.2.2.2.2.2.2.2.2.2.2.2.2.2.2.2.2.1
theorem LI.x_image {T : Nat × Nat} {a0 : Nat} {Rel : CS → MS → Prop} (h : LI T a0 Rel) : ∀ {σ : CS} {mm : MS}, Rel σ mm → ∀ (_ : Unit), ∃ (r : Int32) (σ1 : CS) (mm1 : MS), fX0_image a0 σ = some (r, σ1) ∧ fX4_image mm = some (r, mm1) ∧ Rel σ1 mm1 ∧ Gr σ σ1 := h.2.2.2.2.2.2.2.2.2.2.2.2.2.2.2.2.2.2.2.2.2.2.2.2.2.2.2.2.2.2.2.1
theorem LI.x_undo {T : Nat × Nat} {a0 : Nat} {Rel : CS → MS → Prop} (h : LI T a0 Rel) : ∀ {σ : CS} {mm : MS}, Rel σ mm → ∀ (_ : Unit), ∃ (r : Int32) (σ1 : CS) (mm1 : MS), fX0_undo a0 σ = some (r, σ1) ∧ fX4_undo mm = some (r, mm1) ∧ Rel σ1 mm1 ∧ Gr σ σ1 := h.2.2.2.2.2.2.2.2.2.2.2.2.2.2.2.2.2.2.2.2.2.2.2.2.2.2.2.2.2.2.2.2.1
theorem LI.x_count {T : Nat × Nat} {a0 : Nat} {Rel : CS → MS → Prop} (h : LI T a0 Rel) : ∀ {σ : CS} {mm : MS}, Rel σ mm → ∀ (p1 : Int32), ∃ (r : Int32) (σ1 : CS) (mm1 : MS), fX0_count a0 p1 σ = some (r, σ1) ∧ (fX4_count p1 mm = some r ∧ mm1 = mm) ∧ Rel σ1 mm1 ∧ Gr σ σ1 := h.2.2.2.2.2.2.2.2.2.2.2.2.2.2.2.2.2.2.2.2.2.2.2.2.2.2.2.2.2.2.2.2.2
theorem lgcr (r : Int64) : lg_cmp r r = 0 := by
  unfold lg_cmp
  rw [if_neg (by simp), if_pos rfl]
theorem l_preMT {s : State} {D : va_G} {dA : Nat → ClassId} {T : Nat × Nat} {Tq : Tk} {z : Nat} {σ : CS} {mm : MS} {H : Heap} {locs : List Loc} (hk : kc (lE0 D dA T s.heap.size) s) (hH : LWP D dA T s.heap.size z σ mm H) (hS : va_S (fun q => s.heap.size ≤ q) s.heap H locs) (hMT : ∀ (U : State) (H : Heap), s.heap.size ≤ H.size → (∀ q : Nat, q < s.heap.size → H[q]? = s.heap[q]?) → U.heap = H → s.WarmedH U.vm → MT Tq (adz z) U) {As : List Value} : PreV s H RX4 (adz z 0) (mPcT D dA (adz z) Tq mm As) As := by
  refine ⟨fun a U g mk q => by obtain ⟨q0, q1, q2, q3⟩ := q; exact ⟨q0, q1, va_K.moved (u := U) (U := U.calling g mk a) (Vm.Alike.refl U.vm) q2, q3.blind⟩, va_recv hk.1 hH.2.1.1 (ci := 0) (q0 := 0) rfl rfl, fun U hU hW => ⟨rfl, by rw [hU]; exact hH.2.1, va_K.moved hW.alike hk.1, hMT U H hS.1 (fun q hq => hS.2.1 q hq (Nat.not_le.mpr hq)) hU hW⟩⟩
set_option maxHeartbeats 4000000 in
set_option maxRecDepth 100000 in
theorem law_feed {p : Program} {e : Env} {s : State} {m : MethodId} {below : List Frame} {meth : Method} {c : Code} {l : Launch} {b L : Nat} {xs : Nat → Int32} {D : va_G} {dA : Nat → ClassId} {T : Nat × Nat} {Tq : Tk} {z a0 : Nat} {Rel : CS → MS → Prop} (C0 : lw_At p s m meth c b L xs) (hk : kc (lE0 D dA T s.heap.size) s) (hMT : ∀ (U : State) (H : Heap), s.heap.size ≤ H.size → (∀ q : Nat, q < s.heap.size → H[q]? = s.heap[q]?) → U.heap = H → s.WarmedH U.vm → MT Tq (adz z) U) (I : LI T a0 Rel) {i3 : Int32} (hin : ∀ k : Int32, 0 ≤ k.toInt → k.toInt ≤ 4 → vp_in (i3 + k) L) {cells slots : Nat} (hce : cells + 9000 ≤ 601024) (hsl : slots + 100000 ≤ 7293034) {σ : CS} {mm : MS} {H : Heap} {locs : List Loc} {ls : Array Slot} (hH : LWP D dA T s.heap.size z σ mm H) (hR : Rel σ mm) (hS : va_S (fun q => s.heap.size ≤ q) s.heap H locs) (hl : lv_has ls 4 [(0, .ref b), (1, .ref a0), (2, .ref (adz z 0)), (3, .int i3)])
    (hback : ∀ (σ1 : CS) (mm1 : MS) (H1 : Heap) (locs1 : List Loc) (k n : Nat), LWP D dA T s.heap.size z σ1 mm1 H1 → Rel σ1 mm1 → va_S (fun q => s.heap.size ≤ q) s.heap H1 locs1 → k ≤ 9000 → n ≤ 100000 → W p l e room_1 s m #[Value.ref b] below meth c H1 locs1 (cells + k) (slots + n) (lw_Z below #[Value.ref b] s) (F0 m 1226 ls [])) : W p l e room_1 s m #[Value.ref b] below meth c H locs cells slots (lw_Z below #[Value.ref b] s) (F0 m 176 ls []) := by
  obtain ⟨hx, hb, hr, hml, hown, hts, hX, hbl, hlocks, hgv⟩ := C0
  have hbA : ¬ s.heap.size ≤ b := Nat.not_le.mpr hbl
  have hall : ∀ w ∈ lw_all, w.before #[Value.ref b] s = true := fun w h => hts w (lw_all_tbl h)
  have hg2 := I.obj hR
  obtain ⟨r, σ1, mm1, hf, hm, hR1, hgr⟩ := I.x_feed hR (((xs (i3 + 1).toNatClampNeg).toInt64 <<< ((32:Int32).toInt64 &&& 63)) ||| ((xs (i3 + 2).toNatClampNeg).toInt64 &&& 4294967295)) (xs (i3 + 3).toNatClampNeg)
  have hmono := (mX0_feed l (lE D dA T s.heap.size z) hf).1
  refine lv_aload_n hx hb dL_law_176 rfl (lv_at hl 1 rfl) ?_
  refine lv_aload_n hx hb dL_law_177 rfl (lv_at hl 0 rfl) ?_
  refine lv_iload_n hx hb dL_law_178 rfl (lv_at hl 3 rfl) ?_
  refine lv_iconst (v := (1:Int32)) hx hb dL_law_179 (by decide) ?_
  refine lv_iadd hx hb dL_law_180 ?_
  refine va_sld hx hb hX hbl hbA hS (hin 1 (by decide) (by decide)) dL_law_181 ?_
  refine lv_i2l hx hb dL_law_182 rfl ?_
  refine lv_bipush (v := (32:Int32)) hx hb dL_law_183 (by decide) ?_
  refine lv_lshl hx hb dL_law_185 rfl ?_
  refine lv_aload_n hx hb dL_law_186 rfl (lv_at hl 0 rfl) ?_
  refine lv_iload_n hx hb dL_law_187 rfl (lv_at hl 3 rfl) ?_
  refine lv_iconst (v := (2:Int32)) hx hb dL_law_188 (by decide) ?_
  refine lv_iadd hx hb dL_law_189 ?_
  refine va_sld hx hb hX hbl hbA hS (hin 2 (by decide) (by decide)) dL_law_190 ?_
  refine lv_i2l hx hb dL_law_191 rfl ?_
  refine lv_ldc2 (v := (4294967295:Int64)) hx hb hown (hall _ q1754) dL_law_192 ?_
  refine lv_land hx hb dL_law_195 ?_
  refine lv_lor hx hb dL_law_196 ?_
  refine lv_aload_n hx hb dL_law_197 rfl (lv_at hl 0 rfl) ?_
  refine lv_iload_n hx hb dL_law_198 rfl (lv_at hl 3 rfl) ?_
  refine lv_iconst (v := (3:Int32)) hx hb dL_law_199 (by decide) ?_
  refine lv_iadd hx hb dL_law_200 ?_
  refine va_sld hx hb hX hbl hbA hS (hin 3 (by decide) (by decide)) dL_law_201 ?_
  refine LcallC (v := some (.int r)) (rest := []) hH hS (va_runV (C := RX0) (As := [.long (((xs (i3 + 1).toNatClampNeg).toInt64 <<< ((32:Int32).toInt64 &&& 63)) ||| ((xs (i3 + 2).toNatClampNeg).toInt64 &&& 4294967295)), .int (xs (i3 + 3).toNatClampNeg)]) ⟨hx, hb, hml, hown, hall⟩ (mX0_feed l (lE D dA T s.heap.size z) hf).2 (cwV 2 hall (lw_V q315 q316 q317 q88 q318) rfl rfl rfl (by decide +kernel) ⟨Nat.le_of_ble_eq_true rfl, Nat.le_of_ble_eq_true rfl⟩) (l_preV (ci := 1) hk hH hS hg2 rfl) rfl rfl hl.1 rfl (lv_room (Nat.le_of_ble_eq_true rfl)) dL_law_202 ⟨by show cells + _ ≤ 601024; have := hgr.1; omega, by show slots + _ ≤ 7293034; have := hgr.2; omega⟩) (fun H1 locs1 hH hS => ?_)
  refine lv_aload_n hx hb dL_law_205 rfl (lv_at hl 2 rfl) ?_
  refine lv_aload_n hx hb dL_law_206 rfl (lv_at hl 0 rfl) ?_
  refine lv_iload_n hx hb dL_law_207 rfl (lv_at hl 3 rfl) ?_
  refine lv_iconst (v := (1:Int32)) hx hb dL_law_208 (by decide) ?_
  refine lv_iadd hx hb dL_law_209 ?_
  refine va_sld hx hb hX hbl hbA hS (hin 1 (by decide) (by decide)) dL_law_210 ?_
  refine lv_i2l hx hb dL_law_211 rfl ?_
  refine lv_bipush (v := (32:Int32)) hx hb dL_law_212 (by decide) ?_
  refine lv_lshl hx hb dL_law_214 rfl ?_
  refine lv_aload_n hx hb dL_law_215 rfl (lv_at hl 0 rfl) ?_
  refine lv_iload_n hx hb dL_law_216 rfl (lv_at hl 3 rfl) ?_
  refine lv_iconst (v := (2:Int32)) hx hb dL_law_217 (by decide) ?_
  refine lv_iadd hx hb dL_law_218 ?_
  refine va_sld hx hb hX hbl hbA hS (hin 2 (by decide) (by decide)) dL_law_219 ?_
  refine lv_i2l hx hb dL_law_220 rfl ?_
  refine lv_ldc2 (v := (4294967295:Int64)) hx hb hown (hall _ q1754) dL_law_221 ?_
  refine lv_land hx hb dL_law_224 ?_
  refine lv_lor hx hb dL_law_225 ?_
  refine lv_aload_n hx hb dL_law_226 rfl (lv_at hl 0 rfl) ?_
  refine lv_iload_n hx hb dL_law_227 rfl (lv_at hl 3 rfl) ?_
  refine lv_iconst (v := (3:Int32)) hx hb dL_law_228 (by decide) ?_
  refine lv_iadd hx hb dL_law_229 ?_
  refine va_sld hx hb hX hbl hbA hS (hin 3 (by decide) (by decide)) dL_law_230 ?_
  refine LcallI (r := r) (rest := [.int r]) hk.1 hH hS (va_runV (C := RX4) (As := [.long (((xs (i3 + 1).toNatClampNeg).toInt64 <<< ((32:Int32).toInt64 &&& 63)) ||| ((xs (i3 + 2).toNatClampNeg).toInt64 &&& 4294967295)), .int (xs (i3 + 3).toNatClampNeg)]) ⟨hx, hb, hml, hown, hall⟩ (mX4_feed l D dA (adz z) hm) (cwV 2 hall (lw_V q1364 q1365 q1366 q95 q1367) rfl rfl rfl (by decide +kernel) ⟨Nat.le_of_ble_eq_true rfl, Nat.le_of_ble_eq_true rfl⟩) (l_preM hk hH) rfl rfl hl.1 rfl (lv_room (Nat.le_of_ble_eq_true rfl)) dL_law_231 ⟨by show cells + _ + 0 ≤ 601024; have := hgr.1; omega, by show slots + _ + 0 ≤ 7293034; have := hgr.2; omega⟩) (fun H2 locs2 hH hz2 hS => ?_)
  refine lv_icmp_eq (tgt := 1226) hx hb dL_law_234 (by decide) (fun _ => ?_) (fun h => absurd rfl h)
  exact hback _ _ _ _ _ _ hH (I.bump hR1 hz2) hS (by have := hgr.1; omega) (by have := hgr.2; omega)
set_option maxHeartbeats 4000000 in
set_option maxRecDepth 100000 in
theorem law_port {p : Program} {e : Env} {s : State} {m : MethodId} {below : List Frame} {meth : Method} {c : Code} {l : Launch} {b L : Nat} {xs : Nat → Int32} {D : va_G} {dA : Nat → ClassId} {T : Nat × Nat} {Tq : Tk} {z a0 : Nat} {Rel : CS → MS → Prop} (C0 : lw_At p s m meth c b L xs) (hk : kc (lE0 D dA T s.heap.size) s) (hMT : ∀ (U : State) (H : Heap), s.heap.size ≤ H.size → (∀ q : Nat, q < s.heap.size → H[q]? = s.heap[q]?) → U.heap = H → s.WarmedH U.vm → MT Tq (adz z) U) (I : LI T a0 Rel) {i3 : Int32} (hin : ∀ k : Int32, 0 ≤ k.toInt → k.toInt ≤ 4 → vp_in (i3 + k) L) {cells slots : Nat} (hce : cells + 9000 ≤ 601024) (hsl : slots + 100000 ≤ 7293034) {σ : CS} {mm : MS} {H : Heap} {locs : List Loc} {ls : Array Slot} (hH : LWP D dA T s.heap.size z σ mm H) (hR : Rel σ mm) (hS : va_S (fun q => s.heap.size ≤ q) s.heap H locs) (hl : lv_has ls 4 [(0, .ref b), (1, .ref a0), (2, .ref (adz z 0)), (3, .int i3)])
    (hback : ∀ (σ1 : CS) (mm1 : MS) (H1 : Heap) (locs1 : List Loc) (k n : Nat), LWP D dA T s.heap.size z σ1 mm1 H1 → Rel σ1 mm1 → va_S (fun q => s.heap.size ≤ q) s.heap H1 locs1 → k ≤ 9000 → n ≤ 100000 → W p l e room_1 s m #[Value.ref b] below meth c H1 locs1 (cells + k) (slots + n) (lw_Z below #[Value.ref b] s) (F0 m 1226 ls [])) : W p l e room_1 s m #[Value.ref b] below meth c H locs cells slots (lw_Z below #[Value.ref b] s) (F0 m 239 ls []) := by
  obtain ⟨hx, hb, hr, hml, hown, hts, hX, hbl, hlocks, hgv⟩ := C0
  have hbA : ¬ s.heap.size ≤ b := Nat.not_le.mpr hbl
  have hall : ∀ w ∈ lw_all, w.before #[Value.ref b] s = true := fun w h => hts w (lw_all_tbl h)
  have hg2 := I.obj hR
  obtain ⟨r, σ1, mm1, hf, hm, hR1, hgr⟩ := I.x_port hR ()
  have hmono := (mX0_port l (lE D dA T s.heap.size z) hf).1
  refine lv_aload_n hx hb dL_law_239 rfl (lv_at hl 1 rfl) ?_
  have hln : ∀ sig, parseMethodDescriptor yX0_port.desc = some sig → ([] : List Value).length = sig.parameters.length := fun sig h => by
    have h2 : (parseMethodDescriptor yX0_port.desc).map (fun d => d.parameters.length) = some 0 := by decide +kernel
    rw [h] at h2
    exact (Option.some.inj h2).symm
  refine LcallC (v := some (.int r)) (rest := []) hH hS (runVW (C := RX0) (As := []) hx hb hml hown (mX0_port l (lE D dA T s.heap.size z) hf).2 rfl rfl (Nat.le_of_ble_eq_true rfl) (Nat.le_of_ble_eq_true rfl) (pay_in hall (lw_methW q325)) List.mem_cons_self (fun a1 U hW => word_at hW (good_of_word rfl) (hall _ q88)) (hall _ q322) (hall _ q323) (hall _ q324) (by decide) hln (l_preV (ci := 1) hk hH hS hg2 rfl) rfl hl.1 rfl (lv_room (Nat.le_of_ble_eq_true rfl)) dL_law_240 ⟨by show cells + _ ≤ 601024; have := hgr.1; omega, by show slots + _ ≤ 7293034; have := hgr.2; omega⟩) (fun H1 locs1 hH hS => ?_)
  refine lv_aload_n hx hb dL_law_243 rfl (lv_at hl 2 rfl) ?_
  refine LcallI (r := r) (rest := [.int r]) hk.1 hH hS (va_runV (C := RX4) (As := []) ⟨hx, hb, hml, hown, hall⟩ (mX4_port l D dA (adz z) Tq hm) (cwV 0 hall (lw_V q1372 q1373 q1374 q95 q1375) rfl rfl rfl (by decide +kernel) ⟨Nat.le_of_ble_eq_true rfl, Nat.le_of_ble_eq_true rfl⟩) (l_preMT hk hH hS hMT) rfl rfl hl.1 rfl (lv_room (Nat.le_of_ble_eq_true rfl)) dL_law_244 ⟨by show cells + _ + 0 ≤ 601024; have := hgr.1; omega, by show slots + _ + 0 ≤ 7293034; have := hgr.2; omega⟩) (fun H2 locs2 hH hz2 hS => ?_)
  refine lv_icmp_eq (tgt := 1226) hx hb dL_law_247 (by decide) (fun _ => ?_) (fun h => absurd rfl h)
  exact hback _ _ _ _ _ _ hH (I.bump hR1 hz2) hS (by have := hgr.1; omega) (by have := hgr.2; omega)
set_option maxHeartbeats 4000000 in
set_option maxRecDepth 100000 in
theorem law_told {p : Program} {e : Env} {s : State} {m : MethodId} {below : List Frame} {meth : Method} {c : Code} {l : Launch} {b L : Nat} {xs : Nat → Int32} {D : va_G} {dA : Nat → ClassId} {T : Nat × Nat} {Tq : Tk} {z a0 : Nat} {Rel : CS → MS → Prop} (C0 : lw_At p s m meth c b L xs) (hk : kc (lE0 D dA T s.heap.size) s) (hMT : ∀ (U : State) (H : Heap), s.heap.size ≤ H.size → (∀ q : Nat, q < s.heap.size → H[q]? = s.heap[q]?) → U.heap = H → s.WarmedH U.vm → MT Tq (adz z) U) (I : LI T a0 Rel) {i3 : Int32} (hin : ∀ k : Int32, 0 ≤ k.toInt → k.toInt ≤ 4 → vp_in (i3 + k) L) {cells slots : Nat} (hce : cells + 9000 ≤ 601024) (hsl : slots + 100000 ≤ 7293034) {σ : CS} {mm : MS} {H : Heap} {locs : List Loc} {ls : Array Slot} (hH : LWP D dA T s.heap.size z σ mm H) (hR : Rel σ mm) (hS : va_S (fun q => s.heap.size ≤ q) s.heap H locs) (hl : lv_has ls 4 [(0, .ref b), (1, .ref a0), (2, .ref (adz z 0)), (3, .int i3)])
    (hback : ∀ (σ1 : CS) (mm1 : MS) (H1 : Heap) (locs1 : List Loc) (k n : Nat), LWP D dA T s.heap.size z σ1 mm1 H1 → Rel σ1 mm1 → va_S (fun q => s.heap.size ≤ q) s.heap H1 locs1 → k ≤ 9000 → n ≤ 100000 → W p l e room_1 s m #[Value.ref b] below meth c H1 locs1 (cells + k) (slots + n) (lw_Z below #[Value.ref b] s) (F0 m 1226 ls [])) : W p l e room_1 s m #[Value.ref b] below meth c H locs cells slots (lw_Z below #[Value.ref b] s) (F0 m 252 ls []) := by
  obtain ⟨hx, hb, hr, hml, hown, hts, hX, hbl, hlocks, hgv⟩ := C0
  have hbA : ¬ s.heap.size ≤ b := Nat.not_le.mpr hbl
  have hall : ∀ w ∈ lw_all, w.before #[Value.ref b] s = true := fun w h => hts w (lw_all_tbl h)
  have hg2 := I.obj hR
  obtain ⟨r, σ1, mm1, hf, hm, hR1, hgr⟩ := I.x_told hR (xs (i3 + 1).toNatClampNeg) (xs (i3 + 2).toNatClampNeg)
  have hmono := (mX0_told l (lE D dA T s.heap.size z) hf).1
  obtain ⟨hm, rfl⟩ := hm
  refine lv_aload_n hx hb dL_law_252 rfl (lv_at hl 1 rfl) ?_
  refine lv_aload_n hx hb dL_law_253 rfl (lv_at hl 0 rfl) ?_
  refine lv_iload_n hx hb dL_law_254 rfl (lv_at hl 3 rfl) ?_
  refine lv_iconst (v := (1:Int32)) hx hb dL_law_255 (by decide) ?_
  refine lv_iadd hx hb dL_law_256 ?_
  refine va_sld hx hb hX hbl hbA hS (hin 1 (by decide) (by decide)) dL_law_257 ?_
  refine lv_aload_n hx hb dL_law_258 rfl (lv_at hl 0 rfl) ?_
  refine lv_iload_n hx hb dL_law_259 rfl (lv_at hl 3 rfl) ?_
  refine lv_iconst (v := (2:Int32)) hx hb dL_law_260 (by decide) ?_
  refine lv_iadd hx hb dL_law_261 ?_
  refine va_sld hx hb hX hbl hbA hS (hin 2 (by decide) (by decide)) dL_law_262 ?_
  refine LcallC (v := some (.int r)) (rest := []) hH hS (va_runV (C := RX0) (As := [.int (xs (i3 + 1).toNatClampNeg), .int (xs (i3 + 2).toNatClampNeg)]) ⟨hx, hb, hml, hown, hall⟩ (mX0_told l (lE D dA T s.heap.size z) hf).2 (cwV 2 hall (lw_V q597 q598 q599 q88 q600) rfl rfl rfl (by decide +kernel) ⟨Nat.le_of_ble_eq_true rfl, Nat.le_of_ble_eq_true rfl⟩) (l_preV (ci := 1) hk hH hS hg2 rfl) rfl rfl hl.1 rfl (lv_room (Nat.le_of_ble_eq_true rfl)) dL_law_263 ⟨by show cells + _ ≤ 601024; have := hgr.1; omega, by show slots + _ ≤ 7293034; have := hgr.2; omega⟩) (fun H1 locs1 hH hS => ?_)
  refine lv_aload_n hx hb dL_law_266 rfl (lv_at hl 2 rfl) ?_
  refine lv_aload_n hx hb dL_law_267 rfl (lv_at hl 0 rfl) ?_
  refine lv_iload_n hx hb dL_law_268 rfl (lv_at hl 3 rfl) ?_
  refine lv_iconst (v := (1:Int32)) hx hb dL_law_269 (by decide) ?_
  refine lv_iadd hx hb dL_law_270 ?_
  refine va_sld hx hb hX hbl hbA hS (hin 1 (by decide) (by decide)) dL_law_271 ?_
  refine lv_aload_n hx hb dL_law_272 rfl (lv_at hl 0 rfl) ?_
  refine lv_iload_n hx hb dL_law_273 rfl (lv_at hl 3 rfl) ?_
  refine lv_iconst (v := (2:Int32)) hx hb dL_law_274 (by decide) ?_
  refine lv_iadd hx hb dL_law_275 ?_
  refine va_sld hx hb hX hbl hbA hS (hin 2 (by decide) (by decide)) dL_law_276 ?_
  refine LcallI (r := r) (rest := [.int r]) hk.1 hH hS (va_runV (C := RX4) (As := [.int (xs (i3 + 1).toNatClampNeg), .int (xs (i3 + 2).toNatClampNeg)]) ⟨hx, hb, hml, hown, hall⟩ (mX4_told l D dA (adz z) hm) (cwV 2 hall (lw_V q1483 q1484 q1485 q95 q1486) rfl rfl rfl (by decide +kernel) ⟨Nat.le_of_ble_eq_true rfl, Nat.le_of_ble_eq_true rfl⟩) (l_preM hk hH) rfl rfl hl.1 rfl (lv_room (Nat.le_of_ble_eq_true rfl)) dL_law_277 ⟨by show cells + _ + 0 ≤ 601024; have := hgr.1; omega, by show slots + _ + 0 ≤ 7293034; have := hgr.2; omega⟩) (fun H2 locs2 hH hz2 hS => ?_)
  refine lv_icmp_eq (tgt := 1226) hx hb dL_law_280 (by decide) (fun _ => ?_) (fun h => absurd rfl h)
  exact hback _ _ _ _ _ _ hH (I.bump hR1 hz2) hS (by have := hgr.1; omega) (by have := hgr.2; omega)
set_option maxHeartbeats 4000000 in
set_option maxRecDepth 100000 in
theorem law_holds {p : Program} {e : Env} {s : State} {m : MethodId} {below : List Frame} {meth : Method} {c : Code} {l : Launch} {b L : Nat} {xs : Nat → Int32} {D : va_G} {dA : Nat → ClassId} {T : Nat × Nat} {Tq : Tk} {z a0 : Nat} {Rel : CS → MS → Prop} (C0 : lw_At p s m meth c b L xs) (hk : kc (lE0 D dA T s.heap.size) s) (hMT : ∀ (U : State) (H : Heap), s.heap.size ≤ H.size → (∀ q : Nat, q < s.heap.size → H[q]? = s.heap[q]?) → U.heap = H → s.WarmedH U.vm → MT Tq (adz z) U) (I : LI T a0 Rel) {i3 : Int32} (hin : ∀ k : Int32, 0 ≤ k.toInt → k.toInt ≤ 4 → vp_in (i3 + k) L) {cells slots : Nat} (hce : cells + 9000 ≤ 601024) (hsl : slots + 100000 ≤ 7293034) {σ : CS} {mm : MS} {H : Heap} {locs : List Loc} {ls : Array Slot} (hH : LWP D dA T s.heap.size z σ mm H) (hR : Rel σ mm) (hS : va_S (fun q => s.heap.size ≤ q) s.heap H locs) (hl : lv_has ls 4 [(0, .ref b), (1, .ref a0), (2, .ref (adz z 0)), (3, .int i3)])
    (hback : ∀ (σ1 : CS) (mm1 : MS) (H1 : Heap) (locs1 : List Loc) (k n : Nat), LWP D dA T s.heap.size z σ1 mm1 H1 → Rel σ1 mm1 → va_S (fun q => s.heap.size ≤ q) s.heap H1 locs1 → k ≤ 9000 → n ≤ 100000 → W p l e room_1 s m #[Value.ref b] below meth c H1 locs1 (cells + k) (slots + n) (lw_Z below #[Value.ref b] s) (F0 m 1226 ls [])) : W p l e room_1 s m #[Value.ref b] below meth c H locs cells slots (lw_Z below #[Value.ref b] s) (F0 m 285 ls []) := by
  obtain ⟨hx, hb, hr, hml, hown, hts, hX, hbl, hlocks, hgv⟩ := C0
  have hbA : ¬ s.heap.size ≤ b := Nat.not_le.mpr hbl
  have hall : ∀ w ∈ lw_all, w.before #[Value.ref b] s = true := fun w h => hts w (lw_all_tbl h)
  have hg2 := I.obj hR
  obtain ⟨r, σ1, mm1, hf, hm, hR1, hgr⟩ := I.x_holds hR (xs (i3 + 1).toNatClampNeg) (xs (i3 + 2).toNatClampNeg) (xs (i3 + 3).toNatClampNeg) (xs (i3 + 4).toNatClampNeg)
  have hmono := (mX0_holds l (lE D dA T s.heap.size z) hf).1
  refine lv_aload_n hx hb dL_law_285 rfl (lv_at hl 1 rfl) ?_
  refine lv_aload_n hx hb dL_law_286 rfl (lv_at hl 0 rfl) ?_
  refine lv_iload_n hx hb dL_law_287 rfl (lv_at hl 3 rfl) ?_
  refine lv_iconst (v := (1:Int32)) hx hb dL_law_288 (by decide) ?_
  refine lv_iadd hx hb dL_law_289 ?_
  refine va_sld hx hb hX hbl hbA hS (hin 1 (by decide) (by decide)) dL_law_290 ?_
  refine lv_aload_n hx hb dL_law_291 rfl (lv_at hl 0 rfl) ?_
  refine lv_iload_n hx hb dL_law_292 rfl (lv_at hl 3 rfl) ?_
  refine lv_iconst (v := (2:Int32)) hx hb dL_law_293 (by decide) ?_
  refine lv_iadd hx hb dL_law_294 ?_
  refine va_sld hx hb hX hbl hbA hS (hin 2 (by decide) (by decide)) dL_law_295 ?_
  refine lv_aload_n hx hb dL_law_296 rfl (lv_at hl 0 rfl) ?_
  refine lv_iload_n hx hb dL_law_297 rfl (lv_at hl 3 rfl) ?_
  refine lv_iconst (v := (3:Int32)) hx hb dL_law_298 (by decide) ?_
  refine lv_iadd hx hb dL_law_299 ?_
  refine va_sld hx hb hX hbl hbA hS (hin 3 (by decide) (by decide)) dL_law_300 ?_
  refine lv_aload_n hx hb dL_law_301 rfl (lv_at hl 0 rfl) ?_
  refine lv_iload_n hx hb dL_law_302 rfl (lv_at hl 3 rfl) ?_
  refine lv_iconst (v := (4:Int32)) hx hb dL_law_303 (by decide) ?_
  refine lv_iadd hx hb dL_law_304 ?_
  refine va_sld hx hb hX hbl hbA hS (hin 4 (by decide) (by decide)) dL_law_305 ?_
  refine LcallC (v := some (.int r)) (rest := []) hH hS (va_runV (C := RX0) (As := [.int (xs (i3 + 1).toNatClampNeg), .int (xs (i3 + 2).toNatClampNeg), .int (xs (i3 + 3).toNatClampNeg), .int (xs (i3 + 4).toNatClampNeg)]) ⟨hx, hb, hml, hown, hall⟩ (mX0_holds l (lE D dA T s.heap.size z) hf).2 (cwV 4 hall (lw_V q620 q621 q622 q88 q623) rfl rfl rfl (by decide +kernel) ⟨Nat.le_of_ble_eq_true rfl, Nat.le_of_ble_eq_true rfl⟩) (l_preV (ci := 1) hk hH hS hg2 rfl) rfl rfl hl.1 rfl (lv_room (Nat.le_of_ble_eq_true rfl)) dL_law_306 ⟨by show cells + _ ≤ 601024; have := hgr.1; omega, by show slots + _ ≤ 7293034; have := hgr.2; omega⟩) (fun H1 locs1 hH hS => ?_)
  refine lv_aload_n hx hb dL_law_309 rfl (lv_at hl 2 rfl) ?_
  refine lv_aload_n hx hb dL_law_310 rfl (lv_at hl 0 rfl) ?_
  refine lv_iload_n hx hb dL_law_311 rfl (lv_at hl 3 rfl) ?_
  refine lv_iconst (v := (1:Int32)) hx hb dL_law_312 (by decide) ?_
  refine lv_iadd hx hb dL_law_313 ?_
  refine va_sld hx hb hX hbl hbA hS (hin 1 (by decide) (by decide)) dL_law_314 ?_
  refine lv_aload_n hx hb dL_law_315 rfl (lv_at hl 0 rfl) ?_
  refine lv_iload_n hx hb dL_law_316 rfl (lv_at hl 3 rfl) ?_
  refine lv_iconst (v := (2:Int32)) hx hb dL_law_317 (by decide) ?_
  refine lv_iadd hx hb dL_law_318 ?_
  refine va_sld hx hb hX hbl hbA hS (hin 2 (by decide) (by decide)) dL_law_319 ?_
  refine lv_aload_n hx hb dL_law_320 rfl (lv_at hl 0 rfl) ?_
  refine lv_iload_n hx hb dL_law_321 rfl (lv_at hl 3 rfl) ?_
  refine lv_iconst (v := (3:Int32)) hx hb dL_law_322 (by decide) ?_
  refine lv_iadd hx hb dL_law_323 ?_
  refine va_sld hx hb hX hbl hbA hS (hin 3 (by decide) (by decide)) dL_law_324 ?_
  refine lv_aload_n hx hb dL_law_325 rfl (lv_at hl 0 rfl) ?_
  refine lv_iload_n hx hb dL_law_326 rfl (lv_at hl 3 rfl) ?_
  refine lv_iconst (v := (4:Int32)) hx hb dL_law_327 (by decide) ?_
  refine lv_iadd hx hb dL_law_328 ?_
  refine va_sld hx hb hX hbl hbA hS (hin 4 (by decide) (by decide)) dL_law_329 ?_
  refine LcallI (r := r) (rest := [.int r]) hk.1 hH hS (va_runV (C := RX4) (As := [.int (xs (i3 + 1).toNatClampNeg), .int (xs (i3 + 2).toNatClampNeg), .int (xs (i3 + 3).toNatClampNeg), .int (xs (i3 + 4).toNatClampNeg)]) ⟨hx, hb, hml, hown, hall⟩ (mX4_holds l D dA (adz z) hm) (cwV 4 hall (lw_V q1491 q1492 q1493 q95 q1494) rfl rfl rfl (by decide +kernel) ⟨Nat.le_of_ble_eq_true rfl, Nat.le_of_ble_eq_true rfl⟩) (l_preM hk hH) rfl rfl hl.1 rfl (lv_room (Nat.le_of_ble_eq_true rfl)) dL_law_330 ⟨by show cells + _ + 0 ≤ 601024; have := hgr.1; omega, by show slots + _ + 0 ≤ 7293034; have := hgr.2; omega⟩) (fun H2 locs2 hH hz2 hS => ?_)
  refine lv_icmp_eq (tgt := 1226) hx hb dL_law_333 (by decide) (fun _ => ?_) (fun h => absurd rfl h)
  exact hback _ _ _ _ _ _ hH (I.bump hR1 hz2) hS (by have := hgr.1; omega) (by have := hgr.2; omega)
set_option maxHeartbeats 4000000 in
set_option maxRecDepth 100000 in
theorem law_ship {p : Program} {e : Env} {s : State} {m : MethodId} {below : List Frame} {meth : Method} {c : Code} {l : Launch} {b L : Nat} {xs : Nat → Int32} {D : va_G} {dA : Nat → ClassId} {T : Nat × Nat} {Tq : Tk} {z a0 : Nat} {Rel : CS → MS → Prop} (C0 : lw_At p s m meth c b L xs) (hk : kc (lE0 D dA T s.heap.size) s) (hMT : ∀ (U : State) (H : Heap), s.heap.size ≤ H.size → (∀ q : Nat, q < s.heap.size → H[q]? = s.heap[q]?) → U.heap = H → s.WarmedH U.vm → MT Tq (adz z) U) (I : LI T a0 Rel) {i3 : Int32} (hin : ∀ k : Int32, 0 ≤ k.toInt → k.toInt ≤ 4 → vp_in (i3 + k) L) {cells slots : Nat} (hce : cells + 9000 ≤ 601024) (hsl : slots + 100000 ≤ 7293034) {σ : CS} {mm : MS} {H : Heap} {locs : List Loc} {ls : Array Slot} (hH : LWP D dA T s.heap.size z σ mm H) (hR : Rel σ mm) (hS : va_S (fun q => s.heap.size ≤ q) s.heap H locs) (hl : lv_has ls 4 [(0, .ref b), (1, .ref a0), (2, .ref (adz z 0)), (3, .int i3)])
    (hback : ∀ (σ1 : CS) (mm1 : MS) (H1 : Heap) (locs1 : List Loc) (k n : Nat), LWP D dA T s.heap.size z σ1 mm1 H1 → Rel σ1 mm1 → va_S (fun q => s.heap.size ≤ q) s.heap H1 locs1 → k ≤ 9000 → n ≤ 100000 → W p l e room_1 s m #[Value.ref b] below meth c H1 locs1 (cells + k) (slots + n) (lw_Z below #[Value.ref b] s) (F0 m 1226 ls [])) : W p l e room_1 s m #[Value.ref b] below meth c H locs cells slots (lw_Z below #[Value.ref b] s) (F0 m 338 ls []) := by
  obtain ⟨hx, hb, hr, hml, hown, hts, hX, hbl, hlocks, hgv⟩ := C0
  have hbA : ¬ s.heap.size ≤ b := Nat.not_le.mpr hbl
  have hall : ∀ w ∈ lw_all, w.before #[Value.ref b] s = true := fun w h => hts w (lw_all_tbl h)
  have hg2 := I.obj hR
  obtain ⟨r, σ1, mm1, hf, hm, hR1, hgr⟩ := I.x_ship hR (xs (i3 + 1).toNatClampNeg) (xs (i3 + 2).toNatClampNeg) (xs (i3 + 3).toNatClampNeg)
  have hmono := (mX0_ship l (lE D dA T s.heap.size z) hf).1
  refine lv_aload_n hx hb dL_law_338 rfl (lv_at hl 1 rfl) ?_
  refine lv_aload_n hx hb dL_law_339 rfl (lv_at hl 0 rfl) ?_
  refine lv_iload_n hx hb dL_law_340 rfl (lv_at hl 3 rfl) ?_
  refine lv_iconst (v := (1:Int32)) hx hb dL_law_341 (by decide) ?_
  refine lv_iadd hx hb dL_law_342 ?_
  refine va_sld hx hb hX hbl hbA hS (hin 1 (by decide) (by decide)) dL_law_343 ?_
  refine lv_aload_n hx hb dL_law_344 rfl (lv_at hl 0 rfl) ?_
  refine lv_iload_n hx hb dL_law_345 rfl (lv_at hl 3 rfl) ?_
  refine lv_iconst (v := (2:Int32)) hx hb dL_law_346 (by decide) ?_
  refine lv_iadd hx hb dL_law_347 ?_
  refine va_sld hx hb hX hbl hbA hS (hin 2 (by decide) (by decide)) dL_law_348 ?_
  refine lv_aload_n hx hb dL_law_349 rfl (lv_at hl 0 rfl) ?_
  refine lv_iload_n hx hb dL_law_350 rfl (lv_at hl 3 rfl) ?_
  refine lv_iconst (v := (3:Int32)) hx hb dL_law_351 (by decide) ?_
  refine lv_iadd hx hb dL_law_352 ?_
  refine va_sld hx hb hX hbl hbA hS (hin 3 (by decide) (by decide)) dL_law_353 ?_
  refine LcallC (v := some (.int r)) (rest := []) hH hS (va_runV (C := RX0) (As := [.int (xs (i3 + 1).toNatClampNeg), .int (xs (i3 + 2).toNatClampNeg), .int (xs (i3 + 3).toNatClampNeg)]) ⟨hx, hb, hml, hown, hall⟩ (mX0_ship l (lE D dA T s.heap.size z) hf).2 (cwV 3 hall (lw_V q660 q661 q662 q88 q663) rfl rfl rfl (by decide +kernel) ⟨Nat.le_of_ble_eq_true rfl, Nat.le_of_ble_eq_true rfl⟩) (l_preV (ci := 1) hk hH hS hg2 rfl) rfl rfl hl.1 rfl (lv_room (Nat.le_of_ble_eq_true rfl)) dL_law_354 ⟨by show cells + _ ≤ 601024; have := hgr.1; omega, by show slots + _ ≤ 7293034; have := hgr.2; omega⟩) (fun H1 locs1 hH hS => ?_)
  refine lv_aload_n hx hb dL_law_357 rfl (lv_at hl 2 rfl) ?_
  refine lv_aload_n hx hb dL_law_358 rfl (lv_at hl 0 rfl) ?_
  refine lv_iload_n hx hb dL_law_359 rfl (lv_at hl 3 rfl) ?_
  refine lv_iconst (v := (1:Int32)) hx hb dL_law_360 (by decide) ?_
  refine lv_iadd hx hb dL_law_361 ?_
  refine va_sld hx hb hX hbl hbA hS (hin 1 (by decide) (by decide)) dL_law_362 ?_
  refine lv_aload_n hx hb dL_law_363 rfl (lv_at hl 0 rfl) ?_
  refine lv_iload_n hx hb dL_law_364 rfl (lv_at hl 3 rfl) ?_
  refine lv_iconst (v := (2:Int32)) hx hb dL_law_365 (by decide) ?_
  refine lv_iadd hx hb dL_law_366 ?_
  refine va_sld hx hb hX hbl hbA hS (hin 2 (by decide) (by decide)) dL_law_367 ?_
  refine lv_aload_n hx hb dL_law_368 rfl (lv_at hl 0 rfl) ?_
  refine lv_iload_n hx hb dL_law_369 rfl (lv_at hl 3 rfl) ?_
  refine lv_iconst (v := (3:Int32)) hx hb dL_law_370 (by decide) ?_
  refine lv_iadd hx hb dL_law_371 ?_
  refine va_sld hx hb hX hbl hbA hS (hin 3 (by decide) (by decide)) dL_law_372 ?_
  refine LcallI (r := r) (rest := [.int r]) hk.1 hH hS (va_runV (C := RX4) (As := [.int (xs (i3 + 1).toNatClampNeg), .int (xs (i3 + 2).toNatClampNeg), .int (xs (i3 + 3).toNatClampNeg)]) ⟨hx, hb, hml, hown, hall⟩ (mX4_ship l D dA (adz z) hm) (cwV 3 hall (lw_V q1499 q1500 q1501 q95 q1502) rfl rfl rfl (by decide +kernel) ⟨Nat.le_of_ble_eq_true rfl, Nat.le_of_ble_eq_true rfl⟩) (l_preM hk hH) rfl rfl hl.1 rfl (lv_room (Nat.le_of_ble_eq_true rfl)) dL_law_373 ⟨by show cells + _ + 0 ≤ 601024; have := hgr.1; omega, by show slots + _ + 0 ≤ 7293034; have := hgr.2; omega⟩) (fun H2 locs2 hH hz2 hS => ?_)
  refine lv_icmp_eq (tgt := 1226) hx hb dL_law_376 (by decide) (fun _ => ?_) (fun h => absurd rfl h)
  exact hback _ _ _ _ _ _ hH (I.bump hR1 hz2) hS (by have := hgr.1; omega) (by have := hgr.2; omega)
set_option maxHeartbeats 4000000 in
set_option maxRecDepth 100000 in
theorem law_says {p : Program} {e : Env} {s : State} {m : MethodId} {below : List Frame} {meth : Method} {c : Code} {l : Launch} {b L : Nat} {xs : Nat → Int32} {D : va_G} {dA : Nat → ClassId} {T : Nat × Nat} {Tq : Tk} {z a0 : Nat} {Rel : CS → MS → Prop} (C0 : lw_At p s m meth c b L xs) (hk : kc (lE0 D dA T s.heap.size) s) (hMT : ∀ (U : State) (H : Heap), s.heap.size ≤ H.size → (∀ q : Nat, q < s.heap.size → H[q]? = s.heap[q]?) → U.heap = H → s.WarmedH U.vm → MT Tq (adz z) U) (I : LI T a0 Rel) {i3 : Int32} (hin : ∀ k : Int32, 0 ≤ k.toInt → k.toInt ≤ 4 → vp_in (i3 + k) L) {cells slots : Nat} (hce : cells + 9000 ≤ 601024) (hsl : slots + 100000 ≤ 7293034) {σ : CS} {mm : MS} {H : Heap} {locs : List Loc} {ls : Array Slot} (hH : LWP D dA T s.heap.size z σ mm H) (hR : Rel σ mm) (hS : va_S (fun q => s.heap.size ≤ q) s.heap H locs) (hl : lv_has ls 4 [(0, .ref b), (1, .ref a0), (2, .ref (adz z 0)), (3, .int i3)])
    (hback : ∀ (σ1 : CS) (mm1 : MS) (H1 : Heap) (locs1 : List Loc) (k n : Nat), LWP D dA T s.heap.size z σ1 mm1 H1 → Rel σ1 mm1 → va_S (fun q => s.heap.size ≤ q) s.heap H1 locs1 → k ≤ 9000 → n ≤ 100000 → W p l e room_1 s m #[Value.ref b] below meth c H1 locs1 (cells + k) (slots + n) (lw_Z below #[Value.ref b] s) (F0 m 1226 ls [])) : W p l e room_1 s m #[Value.ref b] below meth c H locs cells slots (lw_Z below #[Value.ref b] s) (F0 m 381 ls []) := by
  obtain ⟨hx, hb, hr, hml, hown, hts, hX, hbl, hlocks, hgv⟩ := C0
  have hbA : ¬ s.heap.size ≤ b := Nat.not_le.mpr hbl
  have hall : ∀ w ∈ lw_all, w.before #[Value.ref b] s = true := fun w h => hts w (lw_all_tbl h)
  have hg2 := I.obj hR
  obtain ⟨r, σ1, mm1, hf, hm, hR1, hgr⟩ := I.x_says hR (xs (i3 + 1).toNatClampNeg) (xs (i3 + 2).toNatClampNeg)
  have hmono := (mX0_says l (lE D dA T s.heap.size z) hf).1
  refine lv_aload_n hx hb dL_law_381 rfl (lv_at hl 1 rfl) ?_
  refine lv_aload_n hx hb dL_law_382 rfl (lv_at hl 0 rfl) ?_
  refine lv_iload_n hx hb dL_law_383 rfl (lv_at hl 3 rfl) ?_
  refine lv_iconst (v := (1:Int32)) hx hb dL_law_384 (by decide) ?_
  refine lv_iadd hx hb dL_law_385 ?_
  refine va_sld hx hb hX hbl hbA hS (hin 1 (by decide) (by decide)) dL_law_386 ?_
  refine lv_aload_n hx hb dL_law_387 rfl (lv_at hl 0 rfl) ?_
  refine lv_iload_n hx hb dL_law_388 rfl (lv_at hl 3 rfl) ?_
  refine lv_iconst (v := (2:Int32)) hx hb dL_law_389 (by decide) ?_
  refine lv_iadd hx hb dL_law_390 ?_
  refine va_sld hx hb hX hbl hbA hS (hin 2 (by decide) (by decide)) dL_law_391 ?_
  refine LcallC (v := some (.int r)) (rest := []) hH hS (va_runV (C := RX0) (As := [.int (xs (i3 + 1).toNatClampNeg), .int (xs (i3 + 2).toNatClampNeg)]) ⟨hx, hb, hml, hown, hall⟩ (mX0_says l (lE D dA T s.heap.size z) hf).2 (cwV 2 hall (lw_V q699 q700 q701 q88 q702) rfl rfl rfl (by decide +kernel) ⟨Nat.le_of_ble_eq_true rfl, Nat.le_of_ble_eq_true rfl⟩) (l_preV (ci := 1) hk hH hS hg2 rfl) rfl rfl hl.1 rfl (lv_room (Nat.le_of_ble_eq_true rfl)) dL_law_392 ⟨by show cells + _ ≤ 601024; have := hgr.1; omega, by show slots + _ ≤ 7293034; have := hgr.2; omega⟩) (fun H1 locs1 hH hS => ?_)
  refine lv_aload_n hx hb dL_law_395 rfl (lv_at hl 2 rfl) ?_
  refine lv_aload_n hx hb dL_law_396 rfl (lv_at hl 0 rfl) ?_
  refine lv_iload_n hx hb dL_law_397 rfl (lv_at hl 3 rfl) ?_
  refine lv_iconst (v := (1:Int32)) hx hb dL_law_398 (by decide) ?_
  refine lv_iadd hx hb dL_law_399 ?_
  refine va_sld hx hb hX hbl hbA hS (hin 1 (by decide) (by decide)) dL_law_400 ?_
  refine lv_aload_n hx hb dL_law_401 rfl (lv_at hl 0 rfl) ?_
  refine lv_iload_n hx hb dL_law_402 rfl (lv_at hl 3 rfl) ?_
  refine lv_iconst (v := (2:Int32)) hx hb dL_law_403 (by decide) ?_
  refine lv_iadd hx hb dL_law_404 ?_
  refine va_sld hx hb hX hbl hbA hS (hin 2 (by decide) (by decide)) dL_law_405 ?_
  refine LcallI (r := r) (rest := [.int r]) hk.1 hH hS (va_runV (C := RX4) (As := [.int (xs (i3 + 1).toNatClampNeg), .int (xs (i3 + 2).toNatClampNeg)]) ⟨hx, hb, hml, hown, hall⟩ (mX4_says l D dA (adz z) hm) (cwV 2 hall (lw_V q1528 q1529 q1530 q95 q1531) rfl rfl rfl (by decide +kernel) ⟨Nat.le_of_ble_eq_true rfl, Nat.le_of_ble_eq_true rfl⟩) (l_preM hk hH) rfl rfl hl.1 rfl (lv_room (Nat.le_of_ble_eq_true rfl)) dL_law_406 ⟨by show cells + _ + 0 ≤ 601024; have := hgr.1; omega, by show slots + _ + 0 ≤ 7293034; have := hgr.2; omega⟩) (fun H2 locs2 hH hz2 hS => ?_)
  refine lv_icmp_eq (tgt := 1226) hx hb dL_law_409 (by decide) (fun _ => ?_) (fun h => absurd rfl h)
  exact hback _ _ _ _ _ _ hH (I.bump hR1 hz2) hS (by have := hgr.1; omega) (by have := hgr.2; omega)
set_option maxHeartbeats 4000000 in
set_option maxRecDepth 100000 in
theorem law_late {p : Program} {e : Env} {s : State} {m : MethodId} {below : List Frame} {meth : Method} {c : Code} {l : Launch} {b L : Nat} {xs : Nat → Int32} {D : va_G} {dA : Nat → ClassId} {T : Nat × Nat} {Tq : Tk} {z a0 : Nat} {Rel : CS → MS → Prop} (C0 : lw_At p s m meth c b L xs) (hk : kc (lE0 D dA T s.heap.size) s) (hMT : ∀ (U : State) (H : Heap), s.heap.size ≤ H.size → (∀ q : Nat, q < s.heap.size → H[q]? = s.heap[q]?) → U.heap = H → s.WarmedH U.vm → MT Tq (adz z) U) (I : LI T a0 Rel) {i3 : Int32} (hin : ∀ k : Int32, 0 ≤ k.toInt → k.toInt ≤ 4 → vp_in (i3 + k) L) {cells slots : Nat} (hce : cells + 9000 ≤ 601024) (hsl : slots + 100000 ≤ 7293034) {σ : CS} {mm : MS} {H : Heap} {locs : List Loc} {ls : Array Slot} (hH : LWP D dA T s.heap.size z σ mm H) (hR : Rel σ mm) (hS : va_S (fun q => s.heap.size ≤ q) s.heap H locs) (hl : lv_has ls 4 [(0, .ref b), (1, .ref a0), (2, .ref (adz z 0)), (3, .int i3)])
    (hback : ∀ (σ1 : CS) (mm1 : MS) (H1 : Heap) (locs1 : List Loc) (k n : Nat), LWP D dA T s.heap.size z σ1 mm1 H1 → Rel σ1 mm1 → va_S (fun q => s.heap.size ≤ q) s.heap H1 locs1 → k ≤ 9000 → n ≤ 100000 → W p l e room_1 s m #[Value.ref b] below meth c H1 locs1 (cells + k) (slots + n) (lw_Z below #[Value.ref b] s) (F0 m 1226 ls [])) : W p l e room_1 s m #[Value.ref b] below meth c H locs cells slots (lw_Z below #[Value.ref b] s) (F0 m 414 ls []) := by
  obtain ⟨hx, hb, hr, hml, hown, hts, hX, hbl, hlocks, hgv⟩ := C0
  have hbA : ¬ s.heap.size ≤ b := Nat.not_le.mpr hbl
  have hall : ∀ w ∈ lw_all, w.before #[Value.ref b] s = true := fun w h => hts w (lw_all_tbl h)
  have hg2 := I.obj hR
  obtain ⟨r, σ1, mm1, hf, hm, hR1, hgr⟩ := I.x_late hR (xs (i3 + 1).toNatClampNeg) (xs (i3 + 2).toNatClampNeg)
  have hmono := (mX0_late l (lE D dA T s.heap.size z) hf).1
  refine lv_aload_n hx hb dL_law_414 rfl (lv_at hl 1 rfl) ?_
  refine lv_aload_n hx hb dL_law_415 rfl (lv_at hl 0 rfl) ?_
  refine lv_iload_n hx hb dL_law_416 rfl (lv_at hl 3 rfl) ?_
  refine lv_iconst (v := (1:Int32)) hx hb dL_law_417 (by decide) ?_
  refine lv_iadd hx hb dL_law_418 ?_
  refine va_sld hx hb hX hbl hbA hS (hin 1 (by decide) (by decide)) dL_law_419 ?_
  refine lv_aload_n hx hb dL_law_420 rfl (lv_at hl 0 rfl) ?_
  refine lv_iload_n hx hb dL_law_421 rfl (lv_at hl 3 rfl) ?_
  refine lv_iconst (v := (2:Int32)) hx hb dL_law_422 (by decide) ?_
  refine lv_iadd hx hb dL_law_423 ?_
  refine va_sld hx hb hX hbl hbA hS (hin 2 (by decide) (by decide)) dL_law_424 ?_
  refine LcallC (v := some (.int r)) (rest := []) hH hS (va_runV (C := RX0) (As := [.int (xs (i3 + 1).toNatClampNeg), .int (xs (i3 + 2).toNatClampNeg)]) ⟨hx, hb, hml, hown, hall⟩ (mX0_late l (lE D dA T s.heap.size z) hf).2 (cwV 2 hall (lw_V q712 q713 q714 q88 q715) rfl rfl rfl (by decide +kernel) ⟨Nat.le_of_ble_eq_true rfl, Nat.le_of_ble_eq_true rfl⟩) (l_preV (ci := 1) hk hH hS hg2 rfl) rfl rfl hl.1 rfl (lv_room (Nat.le_of_ble_eq_true rfl)) dL_law_425 ⟨by show cells + _ ≤ 601024; have := hgr.1; omega, by show slots + _ ≤ 7293034; have := hgr.2; omega⟩) (fun H1 locs1 hH hS => ?_)
  refine lv_aload_n hx hb dL_law_428 rfl (lv_at hl 2 rfl) ?_
  refine lv_aload_n hx hb dL_law_429 rfl (lv_at hl 0 rfl) ?_
  refine lv_iload_n hx hb dL_law_430 rfl (lv_at hl 3 rfl) ?_
  refine lv_iconst (v := (1:Int32)) hx hb dL_law_431 (by decide) ?_
  refine lv_iadd hx hb dL_law_432 ?_
  refine va_sld hx hb hX hbl hbA hS (hin 1 (by decide) (by decide)) dL_law_433 ?_
  refine lv_aload_n hx hb dL_law_434 rfl (lv_at hl 0 rfl) ?_
  refine lv_iload_n hx hb dL_law_435 rfl (lv_at hl 3 rfl) ?_
  refine lv_iconst (v := (2:Int32)) hx hb dL_law_436 (by decide) ?_
  refine lv_iadd hx hb dL_law_437 ?_
  refine va_sld hx hb hX hbl hbA hS (hin 2 (by decide) (by decide)) dL_law_438 ?_
  refine LcallI (r := r) (rest := [.int r]) hk.1 hH hS (va_runV (C := RX4) (As := [.int (xs (i3 + 1).toNatClampNeg), .int (xs (i3 + 2).toNatClampNeg)]) ⟨hx, hb, hml, hown, hall⟩ (mX4_late l D dA (adz z) hm) (cwV 2 hall (lw_V q1536 q1537 q1538 q95 q1539) rfl rfl rfl (by decide +kernel) ⟨Nat.le_of_ble_eq_true rfl, Nat.le_of_ble_eq_true rfl⟩) (l_preM hk hH) rfl rfl hl.1 rfl (lv_room (Nat.le_of_ble_eq_true rfl)) dL_law_439 ⟨by show cells + _ + 0 ≤ 601024; have := hgr.1; omega, by show slots + _ + 0 ≤ 7293034; have := hgr.2; omega⟩) (fun H2 locs2 hH hz2 hS => ?_)
  refine lv_icmp_eq (tgt := 1226) hx hb dL_law_442 (by decide) (fun _ => ?_) (fun h => absurd rfl h)
  exact hback _ _ _ _ _ _ hH (I.bump hR1 hz2) hS (by have := hgr.1; omega) (by have := hgr.2; omega)
set_option maxHeartbeats 4000000 in
set_option maxRecDepth 100000 in
theorem law_of {p : Program} {e : Env} {s : State} {m : MethodId} {below : List Frame} {meth : Method} {c : Code} {l : Launch} {b L : Nat} {xs : Nat → Int32} {D : va_G} {dA : Nat → ClassId} {T : Nat × Nat} {Tq : Tk} {z a0 : Nat} {Rel : CS → MS → Prop} (C0 : lw_At p s m meth c b L xs) (hk : kc (lE0 D dA T s.heap.size) s) (hMT : ∀ (U : State) (H : Heap), s.heap.size ≤ H.size → (∀ q : Nat, q < s.heap.size → H[q]? = s.heap[q]?) → U.heap = H → s.WarmedH U.vm → MT Tq (adz z) U) (I : LI T a0 Rel) {i3 : Int32} (hin : ∀ k : Int32, 0 ≤ k.toInt → k.toInt ≤ 4 → vp_in (i3 + k) L) {cells slots : Nat} (hce : cells + 9000 ≤ 601024) (hsl : slots + 100000 ≤ 7293034) {σ : CS} {mm : MS} {H : Heap} {locs : List Loc} {ls : Array Slot} (hH : LWP D dA T s.heap.size z σ mm H) (hR : Rel σ mm) (hS : va_S (fun q => s.heap.size ≤ q) s.heap H locs) (hl : lv_has ls 4 [(0, .ref b), (1, .ref a0), (2, .ref (adz z 0)), (3, .int i3)])
    (hback : ∀ (σ1 : CS) (mm1 : MS) (H1 : Heap) (locs1 : List Loc) (k n : Nat), LWP D dA T s.heap.size z σ1 mm1 H1 → Rel σ1 mm1 → va_S (fun q => s.heap.size ≤ q) s.heap H1 locs1 → k ≤ 9000 → n ≤ 100000 → W p l e room_1 s m #[Value.ref b] below meth c H1 locs1 (cells + k) (slots + n) (lw_Z below #[Value.ref b] s) (F0 m 1226 ls [])) : W p l e room_1 s m #[Value.ref b] below meth c H locs cells slots (lw_Z below #[Value.ref b] s) (F0 m 447 ls []) := by
  obtain ⟨hx, hb, hr, hml, hown, hts, hX, hbl, hlocks, hgv⟩ := C0
  have hbA : ¬ s.heap.size ≤ b := Nat.not_le.mpr hbl
  have hall : ∀ w ∈ lw_all, w.before #[Value.ref b] s = true := fun w h => hts w (lw_all_tbl h)
  have hg2 := I.obj hR
  obtain ⟨r, σ1, mm1, hf, hm, hR1, hgr⟩ := I.x_of hR (xs (i3 + 1).toNatClampNeg) (xs (i3 + 2).toNatClampNeg)
  have hmono := (mX0_of l (lE D dA T s.heap.size z) hf).1
  obtain ⟨hm, rfl⟩ := hm
  refine lv_aload_n hx hb dL_law_447 rfl (lv_at hl 1 rfl) ?_
  refine lv_aload_n hx hb dL_law_448 rfl (lv_at hl 0 rfl) ?_
  refine lv_iload_n hx hb dL_law_449 rfl (lv_at hl 3 rfl) ?_
  refine lv_iconst (v := (1:Int32)) hx hb dL_law_450 (by decide) ?_
  refine lv_iadd hx hb dL_law_451 ?_
  refine va_sld hx hb hX hbl hbA hS (hin 1 (by decide) (by decide)) dL_law_452 ?_
  refine lv_aload_n hx hb dL_law_453 rfl (lv_at hl 0 rfl) ?_
  refine lv_iload_n hx hb dL_law_454 rfl (lv_at hl 3 rfl) ?_
  refine lv_iconst (v := (2:Int32)) hx hb dL_law_455 (by decide) ?_
  refine lv_iadd hx hb dL_law_456 ?_
  refine va_sld hx hb hX hbl hbA hS (hin 2 (by decide) (by decide)) dL_law_457 ?_
  refine LcallC (v := some (.int r)) (rest := []) hH hS (va_runV (C := RX0) (As := [.int (xs (i3 + 1).toNatClampNeg), .int (xs (i3 + 2).toNatClampNeg)]) ⟨hx, hb, hml, hown, hall⟩ (mX0_of l (lE D dA T s.heap.size z) hf).2 (cwV 2 hall (lw_V q720 q721 q722 q88 q723) rfl rfl rfl (by decide +kernel) ⟨Nat.le_of_ble_eq_true rfl, Nat.le_of_ble_eq_true rfl⟩) (l_preV (ci := 1) hk hH hS hg2 rfl) rfl rfl hl.1 rfl (lv_room (Nat.le_of_ble_eq_true rfl)) dL_law_458 ⟨by show cells + _ ≤ 601024; have := hgr.1; omega, by show slots + _ ≤ 7293034; have := hgr.2; omega⟩) (fun H1 locs1 hH hS => ?_)
  refine lv_aload_n hx hb dL_law_461 rfl (lv_at hl 2 rfl) ?_
  refine lv_aload_n hx hb dL_law_462 rfl (lv_at hl 0 rfl) ?_
  refine lv_iload_n hx hb dL_law_463 rfl (lv_at hl 3 rfl) ?_
  refine lv_iconst (v := (1:Int32)) hx hb dL_law_464 (by decide) ?_
  refine lv_iadd hx hb dL_law_465 ?_
  refine va_sld hx hb hX hbl hbA hS (hin 1 (by decide) (by decide)) dL_law_466 ?_
  refine lv_aload_n hx hb dL_law_467 rfl (lv_at hl 0 rfl) ?_
  refine lv_iload_n hx hb dL_law_468 rfl (lv_at hl 3 rfl) ?_
  refine lv_iconst (v := (2:Int32)) hx hb dL_law_469 (by decide) ?_
  refine lv_iadd hx hb dL_law_470 ?_
  refine va_sld hx hb hX hbl hbA hS (hin 2 (by decide) (by decide)) dL_law_471 ?_
  refine LcallI (r := r) (rest := [.int r]) hk.1 hH hS (va_runV (C := RX4) (As := [.int (xs (i3 + 1).toNatClampNeg), .int (xs (i3 + 2).toNatClampNeg)]) ⟨hx, hb, hml, hown, hall⟩ (mX4_of l D dA (adz z) hm) (cwV 2 hall (lw_V q1540 q1541 q1542 q95 q1543) rfl rfl rfl (by decide +kernel) ⟨Nat.le_of_ble_eq_true rfl, Nat.le_of_ble_eq_true rfl⟩) (l_preM hk hH) rfl rfl hl.1 rfl (lv_room (Nat.le_of_ble_eq_true rfl)) dL_law_472 ⟨by show cells + _ + 0 ≤ 601024; have := hgr.1; omega, by show slots + _ + 0 ≤ 7293034; have := hgr.2; omega⟩) (fun H2 locs2 hH hz2 hS => ?_)
  refine lv_icmp_eq (tgt := 1226) hx hb dL_law_475 (by decide) (fun _ => ?_) (fun h => absurd rfl h)
  exact hback _ _ _ _ _ _ hH (I.bump hR1 hz2) hS (by have := hgr.1; omega) (by have := hgr.2; omega)
set_option maxHeartbeats 4000000 in
set_option maxRecDepth 100000 in
theorem law_days {p : Program} {e : Env} {s : State} {m : MethodId} {below : List Frame} {meth : Method} {c : Code} {l : Launch} {b L : Nat} {xs : Nat → Int32} {D : va_G} {dA : Nat → ClassId} {T : Nat × Nat} {Tq : Tk} {z a0 : Nat} {Rel : CS → MS → Prop} (C0 : lw_At p s m meth c b L xs) (hk : kc (lE0 D dA T s.heap.size) s) (hMT : ∀ (U : State) (H : Heap), s.heap.size ≤ H.size → (∀ q : Nat, q < s.heap.size → H[q]? = s.heap[q]?) → U.heap = H → s.WarmedH U.vm → MT Tq (adz z) U) (I : LI T a0 Rel) {i3 : Int32} (hin : ∀ k : Int32, 0 ≤ k.toInt → k.toInt ≤ 4 → vp_in (i3 + k) L) {cells slots : Nat} (hce : cells + 9000 ≤ 601024) (hsl : slots + 100000 ≤ 7293034) {σ : CS} {mm : MS} {H : Heap} {locs : List Loc} {ls : Array Slot} (hH : LWP D dA T s.heap.size z σ mm H) (hR : Rel σ mm) (hS : va_S (fun q => s.heap.size ≤ q) s.heap H locs) (hl : lv_has ls 4 [(0, .ref b), (1, .ref a0), (2, .ref (adz z 0)), (3, .int i3)])
    (hback : ∀ (σ1 : CS) (mm1 : MS) (H1 : Heap) (locs1 : List Loc) (k n : Nat), LWP D dA T s.heap.size z σ1 mm1 H1 → Rel σ1 mm1 → va_S (fun q => s.heap.size ≤ q) s.heap H1 locs1 → k ≤ 9000 → n ≤ 100000 → W p l e room_1 s m #[Value.ref b] below meth c H1 locs1 (cells + k) (slots + n) (lw_Z below #[Value.ref b] s) (F0 m 1226 ls [])) : W p l e room_1 s m #[Value.ref b] below meth c H locs cells slots (lw_Z below #[Value.ref b] s) (F0 m 480 ls []) := by
  obtain ⟨hx, hb, hr, hml, hown, hts, hX, hbl, hlocks, hgv⟩ := C0
  have hbA : ¬ s.heap.size ≤ b := Nat.not_le.mpr hbl
  have hall : ∀ w ∈ lw_all, w.before #[Value.ref b] s = true := fun w h => hts w (lw_all_tbl h)
  have hg2 := I.obj hR
  obtain ⟨r, σ1, mm1, hf, hm, hR1, hgr⟩ := I.x_days hR (xs (i3 + 1).toNatClampNeg) (xs (i3 + 2).toNatClampNeg)
  have hmono := (mX0_days l (lE D dA T s.heap.size z) hf).1
  refine lv_aload_n hx hb dL_law_480 rfl (lv_at hl 1 rfl) ?_
  refine lv_aload_n hx hb dL_law_481 rfl (lv_at hl 0 rfl) ?_
  refine lv_iload_n hx hb dL_law_482 rfl (lv_at hl 3 rfl) ?_
  refine lv_iconst (v := (1:Int32)) hx hb dL_law_483 (by decide) ?_
  refine lv_iadd hx hb dL_law_484 ?_
  refine va_sld hx hb hX hbl hbA hS (hin 1 (by decide) (by decide)) dL_law_485 ?_
  refine lv_aload_n hx hb dL_law_486 rfl (lv_at hl 0 rfl) ?_
  refine lv_iload_n hx hb dL_law_487 rfl (lv_at hl 3 rfl) ?_
  refine lv_iconst (v := (2:Int32)) hx hb dL_law_488 (by decide) ?_
  refine lv_iadd hx hb dL_law_489 ?_
  refine va_sld hx hb hX hbl hbA hS (hin 2 (by decide) (by decide)) dL_law_490 ?_
  refine LcallC (v := some (.int r)) (rest := []) hH hS (va_runV (C := RX0) (As := [.int (xs (i3 + 1).toNatClampNeg), .int (xs (i3 + 2).toNatClampNeg)]) ⟨hx, hb, hml, hown, hall⟩ (mX0_days l (lE D dA T s.heap.size z) hf).2 (cwV 2 hall (lw_V q724 q725 q726 q88 q727) rfl rfl rfl (by decide +kernel) ⟨Nat.le_of_ble_eq_true rfl, Nat.le_of_ble_eq_true rfl⟩) (l_preV (ci := 1) hk hH hS hg2 rfl) rfl rfl hl.1 rfl (lv_room (Nat.le_of_ble_eq_true rfl)) dL_law_491 ⟨by show cells + _ ≤ 601024; have := hgr.1; omega, by show slots + _ ≤ 7293034; have := hgr.2; omega⟩) (fun H1 locs1 hH hS => ?_)
  refine lv_aload_n hx hb dL_law_494 rfl (lv_at hl 2 rfl) ?_
  refine lv_aload_n hx hb dL_law_495 rfl (lv_at hl 0 rfl) ?_
  refine lv_iload_n hx hb dL_law_496 rfl (lv_at hl 3 rfl) ?_
  refine lv_iconst (v := (1:Int32)) hx hb dL_law_497 (by decide) ?_
  refine lv_iadd hx hb dL_law_498 ?_
  refine va_sld hx hb hX hbl hbA hS (hin 1 (by decide) (by decide)) dL_law_499 ?_
  refine lv_aload_n hx hb dL_law_500 rfl (lv_at hl 0 rfl) ?_
  refine lv_iload_n hx hb dL_law_501 rfl (lv_at hl 3 rfl) ?_
  refine lv_iconst (v := (2:Int32)) hx hb dL_law_502 (by decide) ?_
  refine lv_iadd hx hb dL_law_503 ?_
  refine va_sld hx hb hX hbl hbA hS (hin 2 (by decide) (by decide)) dL_law_504 ?_
  refine LcallI (r := r) (rest := [.int r]) hk.1 hH hS (va_runV (C := RX4) (As := [.int (xs (i3 + 1).toNatClampNeg), .int (xs (i3 + 2).toNatClampNeg)]) ⟨hx, hb, hml, hown, hall⟩ (mX4_days l D dA (adz z) hm) (cwV 2 hall (lw_V q1544 q1545 q1546 q95 q1547) rfl rfl rfl (by decide +kernel) ⟨Nat.le_of_ble_eq_true rfl, Nat.le_of_ble_eq_true rfl⟩) (l_preM hk hH) rfl rfl hl.1 rfl (lv_room (Nat.le_of_ble_eq_true rfl)) dL_law_505 ⟨by show cells + _ + 0 ≤ 601024; have := hgr.1; omega, by show slots + _ + 0 ≤ 7293034; have := hgr.2; omega⟩) (fun H2 locs2 hH hz2 hS => ?_)
  refine lv_icmp_eq (tgt := 1226) hx hb dL_law_508 (by decide) (fun _ => ?_) (fun h => absurd rfl h)
  exact hback _ _ _ _ _ _ hH (I.bump hR1 hz2) hS (by have := hgr.1; omega) (by have := hgr.2; omega)
set_option maxHeartbeats 4000000 in
set_option maxRecDepth 100000 in
theorem law_look {p : Program} {e : Env} {s : State} {m : MethodId} {below : List Frame} {meth : Method} {c : Code} {l : Launch} {b L : Nat} {xs : Nat → Int32} {D : va_G} {dA : Nat → ClassId} {T : Nat × Nat} {Tq : Tk} {z a0 : Nat} {Rel : CS → MS → Prop} (C0 : lw_At p s m meth c b L xs) (hk : kc (lE0 D dA T s.heap.size) s) (hMT : ∀ (U : State) (H : Heap), s.heap.size ≤ H.size → (∀ q : Nat, q < s.heap.size → H[q]? = s.heap[q]?) → U.heap = H → s.WarmedH U.vm → MT Tq (adz z) U) (I : LI T a0 Rel) {i3 : Int32} (hin : ∀ k : Int32, 0 ≤ k.toInt → k.toInt ≤ 4 → vp_in (i3 + k) L) {cells slots : Nat} (hce : cells + 9000 ≤ 601024) (hsl : slots + 100000 ≤ 7293034) {σ : CS} {mm : MS} {H : Heap} {locs : List Loc} {ls : Array Slot} (hH : LWP D dA T s.heap.size z σ mm H) (hR : Rel σ mm) (hS : va_S (fun q => s.heap.size ≤ q) s.heap H locs) (hl : lv_has ls 4 [(0, .ref b), (1, .ref a0), (2, .ref (adz z 0)), (3, .int i3)])
    (hback : ∀ (σ1 : CS) (mm1 : MS) (H1 : Heap) (locs1 : List Loc) (k n : Nat), LWP D dA T s.heap.size z σ1 mm1 H1 → Rel σ1 mm1 → va_S (fun q => s.heap.size ≤ q) s.heap H1 locs1 → k ≤ 9000 → n ≤ 100000 → W p l e room_1 s m #[Value.ref b] below meth c H1 locs1 (cells + k) (slots + n) (lw_Z below #[Value.ref b] s) (F0 m 1226 ls [])) : W p l e room_1 s m #[Value.ref b] below meth c H locs cells slots (lw_Z below #[Value.ref b] s) (F0 m 513 ls []) := by
  obtain ⟨hx, hb, hr, hml, hown, hts, hX, hbl, hlocks, hgv⟩ := C0
  have hbA : ¬ s.heap.size ≤ b := Nat.not_le.mpr hbl
  have hall : ∀ w ∈ lw_all, w.before #[Value.ref b] s = true := fun w h => hts w (lw_all_tbl h)
  have hg2 := I.obj hR
  obtain ⟨r, σ1, mm1, hf, hm, hR1, hgr⟩ := I.x_look hR (xs (i3 + 1).toNatClampNeg)
  have hmono := (mX0_look l (lE D dA T s.heap.size z) hf).1
  refine lv_aload_n hx hb dL_law_513 rfl (lv_at hl 1 rfl) ?_
  refine lv_aload_n hx hb dL_law_514 rfl (lv_at hl 0 rfl) ?_
  refine lv_iload_n hx hb dL_law_515 rfl (lv_at hl 3 rfl) ?_
  refine lv_iconst (v := (1:Int32)) hx hb dL_law_516 (by decide) ?_
  refine lv_iadd hx hb dL_law_517 ?_
  refine va_sld hx hb hX hbl hbA hS (hin 1 (by decide) (by decide)) dL_law_518 ?_
  refine LcallC (v := some (.int r)) (rest := []) hH hS (va_runV (C := RX0) (As := [.int (xs (i3 + 1).toNatClampNeg)]) ⟨hx, hb, hml, hown, hall⟩ (mX0_look l (lE D dA T s.heap.size z) hf).2 (cwV 1 hall (lw_V q745 q746 q747 q88 q748) rfl rfl rfl (by decide +kernel) ⟨Nat.le_of_ble_eq_true rfl, Nat.le_of_ble_eq_true rfl⟩) (l_preV (ci := 1) hk hH hS hg2 rfl) rfl rfl hl.1 rfl (lv_room (Nat.le_of_ble_eq_true rfl)) dL_law_519 ⟨by show cells + _ ≤ 601024; have := hgr.1; omega, by show slots + _ ≤ 7293034; have := hgr.2; omega⟩) (fun H1 locs1 hH hS => ?_)
  refine lv_aload_n hx hb dL_law_522 rfl (lv_at hl 2 rfl) ?_
  refine lv_aload_n hx hb dL_law_523 rfl (lv_at hl 0 rfl) ?_
  refine lv_iload_n hx hb dL_law_524 rfl (lv_at hl 3 rfl) ?_
  refine lv_iconst (v := (1:Int32)) hx hb dL_law_525 (by decide) ?_
  refine lv_iadd hx hb dL_law_526 ?_
  refine va_sld hx hb hX hbl hbA hS (hin 1 (by decide) (by decide)) dL_law_527 ?_
  refine LcallI (r := r) (rest := [.int r]) hk.1 hH hS (va_runV (C := RX4) (As := [.int (xs (i3 + 1).toNatClampNeg)]) ⟨hx, hb, hml, hown, hall⟩ (mX4_look l D dA (adz z) hm) (cwV 1 hall (lw_V q1561 q1562 q1563 q95 q1564) rfl rfl rfl (by decide +kernel) ⟨Nat.le_of_ble_eq_true rfl, Nat.le_of_ble_eq_true rfl⟩) (l_preM hk hH) rfl rfl hl.1 rfl (lv_room (Nat.le_of_ble_eq_true rfl)) dL_law_528 ⟨by show cells + _ + 0 ≤ 601024; have := hgr.1; omega, by show slots + _ + 0 ≤ 7293034; have := hgr.2; omega⟩) (fun H2 locs2 hH hz2 hS => ?_)
  refine lv_icmp_eq (tgt := 1226) hx hb dL_law_531 (by decide) (fun _ => ?_) (fun h => absurd rfl h)
  exact hback _ _ _ _ _ _ hH (I.bump hR1 hz2) hS (by have := hgr.1; omega) (by have := hgr.2; omega)
set_option maxHeartbeats 4000000 in
set_option maxRecDepth 100000 in
theorem law_harm {p : Program} {e : Env} {s : State} {m : MethodId} {below : List Frame} {meth : Method} {c : Code} {l : Launch} {b L : Nat} {xs : Nat → Int32} {D : va_G} {dA : Nat → ClassId} {T : Nat × Nat} {Tq : Tk} {z a0 : Nat} {Rel : CS → MS → Prop} (C0 : lw_At p s m meth c b L xs) (hk : kc (lE0 D dA T s.heap.size) s) (hMT : ∀ (U : State) (H : Heap), s.heap.size ≤ H.size → (∀ q : Nat, q < s.heap.size → H[q]? = s.heap[q]?) → U.heap = H → s.WarmedH U.vm → MT Tq (adz z) U) (I : LI T a0 Rel) {i3 : Int32} (hin : ∀ k : Int32, 0 ≤ k.toInt → k.toInt ≤ 4 → vp_in (i3 + k) L) {cells slots : Nat} (hce : cells + 9000 ≤ 601024) (hsl : slots + 100000 ≤ 7293034) {σ : CS} {mm : MS} {H : Heap} {locs : List Loc} {ls : Array Slot} (hH : LWP D dA T s.heap.size z σ mm H) (hR : Rel σ mm) (hS : va_S (fun q => s.heap.size ≤ q) s.heap H locs) (hl : lv_has ls 4 [(0, .ref b), (1, .ref a0), (2, .ref (adz z 0)), (3, .int i3)])
    (hback : ∀ (σ1 : CS) (mm1 : MS) (H1 : Heap) (locs1 : List Loc) (k n : Nat), LWP D dA T s.heap.size z σ1 mm1 H1 → Rel σ1 mm1 → va_S (fun q => s.heap.size ≤ q) s.heap H1 locs1 → k ≤ 9000 → n ≤ 100000 → W p l e room_1 s m #[Value.ref b] below meth c H1 locs1 (cells + k) (slots + n) (lw_Z below #[Value.ref b] s) (F0 m 1226 ls [])) : W p l e room_1 s m #[Value.ref b] below meth c H locs cells slots (lw_Z below #[Value.ref b] s) (F0 m 536 ls []) := by
  obtain ⟨hx, hb, hr, hml, hown, hts, hX, hbl, hlocks, hgv⟩ := C0
  have hbA : ¬ s.heap.size ≤ b := Nat.not_le.mpr hbl
  have hall : ∀ w ∈ lw_all, w.before #[Value.ref b] s = true := fun w h => hts w (lw_all_tbl h)
  have hg2 := I.obj hR
  obtain ⟨r, σ1, mm1, hf, hm, hR1, hgr⟩ := I.x_harm hR (xs (i3 + 1).toNatClampNeg)
  have hmono := (mX0_harm l (lE D dA T s.heap.size z) hf).1
  refine lv_aload_n hx hb dL_law_536 rfl (lv_at hl 1 rfl) ?_
  refine lv_aload_n hx hb dL_law_537 rfl (lv_at hl 0 rfl) ?_
  refine lv_iload_n hx hb dL_law_538 rfl (lv_at hl 3 rfl) ?_
  refine lv_iconst (v := (1:Int32)) hx hb dL_law_539 (by decide) ?_
  refine lv_iadd hx hb dL_law_540 ?_
  refine va_sld hx hb hX hbl hbA hS (hin 1 (by decide) (by decide)) dL_law_541 ?_
  refine LcallC (v := some (.long r)) (rest := []) hH hS (va_runV (C := RX0) (As := [.int (xs (i3 + 1).toNatClampNeg)]) ⟨hx, hb, hml, hown, hall⟩ (mX0_harm l (lE D dA T s.heap.size z) hf).2 (cwV 1 hall (lw_V q753 q754 q755 q88 q756) rfl rfl rfl (by decide +kernel) ⟨Nat.le_of_ble_eq_true rfl, Nat.le_of_ble_eq_true rfl⟩) (l_preV (ci := 1) hk hH hS hg2 rfl) rfl rfl hl.1 rfl (lv_room (Nat.le_of_ble_eq_true rfl)) dL_law_542 ⟨by show cells + _ ≤ 601024; have := hgr.1; omega, by show slots + _ ≤ 7293034; have := hgr.2; omega⟩) (fun H1 locs1 hH hS => ?_)
  refine lv_aload_n hx hb dL_law_545 rfl (lv_at hl 2 rfl) ?_
  refine lv_aload_n hx hb dL_law_546 rfl (lv_at hl 0 rfl) ?_
  refine lv_iload_n hx hb dL_law_547 rfl (lv_at hl 3 rfl) ?_
  refine lv_iconst (v := (1:Int32)) hx hb dL_law_548 (by decide) ?_
  refine lv_iadd hx hb dL_law_549 ?_
  refine va_sld hx hb hX hbl hbA hS (hin 1 (by decide) (by decide)) dL_law_550 ?_
  refine LcallL (r := r) (rest := [.long r]) hk.1 hH hS (va_runV (C := RX4) (As := [.int (xs (i3 + 1).toNatClampNeg)]) ⟨hx, hb, hml, hown, hall⟩ (mX4_harm l D dA (adz z) hm) (cwV 1 hall (lw_V q1569 q1570 q1571 q95 q1572) rfl rfl rfl (by decide +kernel) ⟨Nat.le_of_ble_eq_true rfl, Nat.le_of_ble_eq_true rfl⟩) (l_preM hk hH) rfl rfl hl.1 rfl (lv_room (Nat.le_of_ble_eq_true rfl)) dL_law_551 ⟨by show cells + _ + 0 ≤ 601024; have := hgr.1; omega, by show slots + _ + 0 ≤ 7293034; have := hgr.2; omega⟩) (fun H2 locs2 hH hz2 hS => ?_)
  refine W.lcmp hx hb dL_law_554 ?_
  refine lv_if_eq (tgt := 1226) hx hb dL_law_555 (by decide) (fun _ => ?_) (fun h => absurd (lgcr r) h)
  exact hback _ _ _ _ _ _ hH (I.bump hR1 hz2) hS (by have := hgr.1; omega) (by have := hgr.2; omega)
set_option maxHeartbeats 4000000 in
set_option maxRecDepth 100000 in
theorem law_rule {p : Program} {e : Env} {s : State} {m : MethodId} {below : List Frame} {meth : Method} {c : Code} {l : Launch} {b L : Nat} {xs : Nat → Int32} {D : va_G} {dA : Nat → ClassId} {T : Nat × Nat} {Tq : Tk} {z a0 : Nat} {Rel : CS → MS → Prop} (C0 : lw_At p s m meth c b L xs) (hk : kc (lE0 D dA T s.heap.size) s) (hMT : ∀ (U : State) (H : Heap), s.heap.size ≤ H.size → (∀ q : Nat, q < s.heap.size → H[q]? = s.heap[q]?) → U.heap = H → s.WarmedH U.vm → MT Tq (adz z) U) (I : LI T a0 Rel) {i3 : Int32} (hin : ∀ k : Int32, 0 ≤ k.toInt → k.toInt ≤ 4 → vp_in (i3 + k) L) {cells slots : Nat} (hce : cells + 9000 ≤ 601024) (hsl : slots + 100000 ≤ 7293034) {σ : CS} {mm : MS} {H : Heap} {locs : List Loc} {ls : Array Slot} (hH : LWP D dA T s.heap.size z σ mm H) (hR : Rel σ mm) (hS : va_S (fun q => s.heap.size ≤ q) s.heap H locs) (hl : lv_has ls 4 [(0, .ref b), (1, .ref a0), (2, .ref (adz z 0)), (3, .int i3)])
    (hback : ∀ (σ1 : CS) (mm1 : MS) (H1 : Heap) (locs1 : List Loc) (k n : Nat), LWP D dA T s.heap.size z σ1 mm1 H1 → Rel σ1 mm1 → va_S (fun q => s.heap.size ≤ q) s.heap H1 locs1 → k ≤ 9000 → n ≤ 100000 → W p l e room_1 s m #[Value.ref b] below meth c H1 locs1 (cells + k) (slots + n) (lw_Z below #[Value.ref b] s) (F0 m 1226 ls [])) : W p l e room_1 s m #[Value.ref b] below meth c H locs cells slots (lw_Z below #[Value.ref b] s) (F0 m 560 ls []) := by
  obtain ⟨hx, hb, hr, hml, hown, hts, hX, hbl, hlocks, hgv⟩ := C0
  have hbA : ¬ s.heap.size ≤ b := Nat.not_le.mpr hbl
  have hall : ∀ w ∈ lw_all, w.before #[Value.ref b] s = true := fun w h => hts w (lw_all_tbl h)
  have hg2 := I.obj hR
  obtain ⟨r, σ1, mm1, hf, hm, hR1, hgr⟩ := I.x_rule hR (xs (i3 + 1).toNatClampNeg) (xs (i3 + 2).toNatClampNeg)
  have hmono := (mX0_rule l (lE D dA T s.heap.size z) hf).1
  refine lv_aload_n hx hb dL_law_560 rfl (lv_at hl 1 rfl) ?_
  refine lv_aload_n hx hb dL_law_561 rfl (lv_at hl 0 rfl) ?_
  refine lv_iload_n hx hb dL_law_562 rfl (lv_at hl 3 rfl) ?_
  refine lv_iconst (v := (1:Int32)) hx hb dL_law_563 (by decide) ?_
  refine lv_iadd hx hb dL_law_564 ?_
  refine va_sld hx hb hX hbl hbA hS (hin 1 (by decide) (by decide)) dL_law_565 ?_
  refine lv_aload_n hx hb dL_law_566 rfl (lv_at hl 0 rfl) ?_
  refine lv_iload_n hx hb dL_law_567 rfl (lv_at hl 3 rfl) ?_
  refine lv_iconst (v := (2:Int32)) hx hb dL_law_568 (by decide) ?_
  refine lv_iadd hx hb dL_law_569 ?_
  refine va_sld hx hb hX hbl hbA hS (hin 2 (by decide) (by decide)) dL_law_570 ?_
  refine LcallC (v := some (.int r)) (rest := []) hH hS (va_runV (C := RX0) (As := [.int (xs (i3 + 1).toNatClampNeg), .int (xs (i3 + 2).toNatClampNeg)]) ⟨hx, hb, hml, hown, hall⟩ (mX0_rule l (lE D dA T s.heap.size z) hf).2 (cwV 2 hall (lw_V q766 q767 q768 q88 q769) rfl rfl rfl (by decide +kernel) ⟨Nat.le_of_ble_eq_true rfl, Nat.le_of_ble_eq_true rfl⟩) (l_preV (ci := 1) hk hH hS hg2 rfl) rfl rfl hl.1 rfl (lv_room (Nat.le_of_ble_eq_true rfl)) dL_law_571 ⟨by show cells + _ ≤ 601024; have := hgr.1; omega, by show slots + _ ≤ 7293034; have := hgr.2; omega⟩) (fun H1 locs1 hH hS => ?_)
  refine lv_aload_n hx hb dL_law_574 rfl (lv_at hl 2 rfl) ?_
  refine lv_aload_n hx hb dL_law_575 rfl (lv_at hl 0 rfl) ?_
  refine lv_iload_n hx hb dL_law_576 rfl (lv_at hl 3 rfl) ?_
  refine lv_iconst (v := (1:Int32)) hx hb dL_law_577 (by decide) ?_
  refine lv_iadd hx hb dL_law_578 ?_
  refine va_sld hx hb hX hbl hbA hS (hin 1 (by decide) (by decide)) dL_law_579 ?_
  refine lv_aload_n hx hb dL_law_580 rfl (lv_at hl 0 rfl) ?_
  refine lv_iload_n hx hb dL_law_581 rfl (lv_at hl 3 rfl) ?_
  refine lv_iconst (v := (2:Int32)) hx hb dL_law_582 (by decide) ?_
  refine lv_iadd hx hb dL_law_583 ?_
  refine va_sld hx hb hX hbl hbA hS (hin 2 (by decide) (by decide)) dL_law_584 ?_
  refine LcallI (r := r) (rest := [.int r]) hk.1 hH hS (va_runV (C := RX4) (As := [.int (xs (i3 + 1).toNatClampNeg), .int (xs (i3 + 2).toNatClampNeg)]) ⟨hx, hb, hml, hown, hall⟩ (mX4_rule l D dA (adz z) hm) (cwV 2 hall (lw_V q1580 q1581 q1582 q95 q1583) rfl rfl rfl (by decide +kernel) ⟨Nat.le_of_ble_eq_true rfl, Nat.le_of_ble_eq_true rfl⟩) (l_preM hk hH) rfl rfl hl.1 rfl (lv_room (Nat.le_of_ble_eq_true rfl)) dL_law_585 ⟨by show cells + _ + 0 ≤ 601024; have := hgr.1; omega, by show slots + _ + 0 ≤ 7293034; have := hgr.2; omega⟩) (fun H2 locs2 hH hz2 hS => ?_)
  refine lv_icmp_eq (tgt := 1226) hx hb dL_law_588 (by decide) (fun _ => ?_) (fun h => absurd rfl h)
  exact hback _ _ _ _ _ _ hH (I.bump hR1 hz2) hS (by have := hgr.1; omega) (by have := hgr.2; omega)
set_option maxHeartbeats 4000000 in
set_option maxRecDepth 100000 in
theorem law_row {p : Program} {e : Env} {s : State} {m : MethodId} {below : List Frame} {meth : Method} {c : Code} {l : Launch} {b L : Nat} {xs : Nat → Int32} {D : va_G} {dA : Nat → ClassId} {T : Nat × Nat} {Tq : Tk} {z a0 : Nat} {Rel : CS → MS → Prop} (C0 : lw_At p s m meth c b L xs) (hk : kc (lE0 D dA T s.heap.size) s) (hMT : ∀ (U : State) (H : Heap), s.heap.size ≤ H.size → (∀ q : Nat, q < s.heap.size → H[q]? = s.heap[q]?) → U.heap = H → s.WarmedH U.vm → MT Tq (adz z) U) (I : LI T a0 Rel) {i3 : Int32} (hin : ∀ k : Int32, 0 ≤ k.toInt → k.toInt ≤ 4 → vp_in (i3 + k) L) {cells slots : Nat} (hce : cells + 9000 ≤ 601024) (hsl : slots + 100000 ≤ 7293034) {σ : CS} {mm : MS} {H : Heap} {locs : List Loc} {ls : Array Slot} (hH : LWP D dA T s.heap.size z σ mm H) (hR : Rel σ mm) (hS : va_S (fun q => s.heap.size ≤ q) s.heap H locs) (hl : lv_has ls 4 [(0, .ref b), (1, .ref a0), (2, .ref (adz z 0)), (3, .int i3)])
    (hback : ∀ (σ1 : CS) (mm1 : MS) (H1 : Heap) (locs1 : List Loc) (k n : Nat), LWP D dA T s.heap.size z σ1 mm1 H1 → Rel σ1 mm1 → va_S (fun q => s.heap.size ≤ q) s.heap H1 locs1 → k ≤ 9000 → n ≤ 100000 → W p l e room_1 s m #[Value.ref b] below meth c H1 locs1 (cells + k) (slots + n) (lw_Z below #[Value.ref b] s) (F0 m 1226 ls [])) : W p l e room_1 s m #[Value.ref b] below meth c H locs cells slots (lw_Z below #[Value.ref b] s) (F0 m 593 ls []) := by
  obtain ⟨hx, hb, hr, hml, hown, hts, hX, hbl, hlocks, hgv⟩ := C0
  have hbA : ¬ s.heap.size ≤ b := Nat.not_le.mpr hbl
  have hall : ∀ w ∈ lw_all, w.before #[Value.ref b] s = true := fun w h => hts w (lw_all_tbl h)
  have hg2 := I.obj hR
  obtain ⟨r, σ1, mm1, hf, hm, hR1, hgr⟩ := I.x_row hR (xs (i3 + 1).toNatClampNeg) (xs (i3 + 2).toNatClampNeg)
  have hmono := (mX0_row l (lE D dA T s.heap.size z) hf).1
  refine lv_aload_n hx hb dL_law_593 rfl (lv_at hl 1 rfl) ?_
  refine lv_aload_n hx hb dL_law_594 rfl (lv_at hl 0 rfl) ?_
  refine lv_iload_n hx hb dL_law_595 rfl (lv_at hl 3 rfl) ?_
  refine lv_iconst (v := (1:Int32)) hx hb dL_law_596 (by decide) ?_
  refine lv_iadd hx hb dL_law_597 ?_
  refine va_sld hx hb hX hbl hbA hS (hin 1 (by decide) (by decide)) dL_law_598 ?_
  refine lv_aload_n hx hb dL_law_599 rfl (lv_at hl 0 rfl) ?_
  refine lv_iload_n hx hb dL_law_600 rfl (lv_at hl 3 rfl) ?_
  refine lv_iconst (v := (2:Int32)) hx hb dL_law_601 (by decide) ?_
  refine lv_iadd hx hb dL_law_602 ?_
  refine va_sld hx hb hX hbl hbA hS (hin 2 (by decide) (by decide)) dL_law_603 ?_
  refine LcallC (v := some (.int r)) (rest := []) hH hS (va_runV (C := RX0) (As := [.int (xs (i3 + 1).toNatClampNeg), .int (xs (i3 + 2).toNatClampNeg)]) ⟨hx, hb, hml, hown, hall⟩ (mX0_row l (lE D dA T s.heap.size z) hf).2 (cwV 2 hall (lw_V q894 q895 q896 q88 q897) rfl rfl rfl (by decide +kernel) ⟨Nat.le_of_ble_eq_true rfl, Nat.le_of_ble_eq_true rfl⟩) (l_preV (ci := 1) hk hH hS hg2 rfl) rfl rfl hl.1 rfl (lv_room (Nat.le_of_ble_eq_true rfl)) dL_law_604 ⟨by show cells + _ ≤ 601024; have := hgr.1; omega, by show slots + _ ≤ 7293034; have := hgr.2; omega⟩) (fun H1 locs1 hH hS => ?_)
  refine lv_aload_n hx hb dL_law_607 rfl (lv_at hl 2 rfl) ?_
  refine lv_aload_n hx hb dL_law_608 rfl (lv_at hl 0 rfl) ?_
  refine lv_iload_n hx hb dL_law_609 rfl (lv_at hl 3 rfl) ?_
  refine lv_iconst (v := (1:Int32)) hx hb dL_law_610 (by decide) ?_
  refine lv_iadd hx hb dL_law_611 ?_
  refine va_sld hx hb hX hbl hbA hS (hin 1 (by decide) (by decide)) dL_law_612 ?_
  refine lv_aload_n hx hb dL_law_613 rfl (lv_at hl 0 rfl) ?_
  refine lv_iload_n hx hb dL_law_614 rfl (lv_at hl 3 rfl) ?_
  refine lv_iconst (v := (2:Int32)) hx hb dL_law_615 (by decide) ?_
  refine lv_iadd hx hb dL_law_616 ?_
  refine va_sld hx hb hX hbl hbA hS (hin 2 (by decide) (by decide)) dL_law_617 ?_
  refine LcallI (r := r) (rest := [.int r]) hk.1 hH hS (va_runV (C := RX4) (As := [.int (xs (i3 + 1).toNatClampNeg), .int (xs (i3 + 2).toNatClampNeg)]) ⟨hx, hb, hml, hown, hall⟩ (mX4_row l D dA (adz z) hm) (cwV 2 hall (lw_V q1584 q1585 q1586 q95 q1587) rfl rfl rfl (by decide +kernel) ⟨Nat.le_of_ble_eq_true rfl, Nat.le_of_ble_eq_true rfl⟩) (l_preM hk hH) rfl rfl hl.1 rfl (lv_room (Nat.le_of_ble_eq_true rfl)) dL_law_618 ⟨by show cells + _ + 0 ≤ 601024; have := hgr.1; omega, by show slots + _ + 0 ≤ 7293034; have := hgr.2; omega⟩) (fun H2 locs2 hH hz2 hS => ?_)
  refine lv_icmp_eq (tgt := 1226) hx hb dL_law_621 (by decide) (fun _ => ?_) (fun h => absurd rfl h)
  exact hback _ _ _ _ _ _ hH (I.bump hR1 hz2) hS (by have := hgr.1; omega) (by have := hgr.2; omega)
set_option maxHeartbeats 4000000 in
set_option maxRecDepth 100000 in
theorem law_lets {p : Program} {e : Env} {s : State} {m : MethodId} {below : List Frame} {meth : Method} {c : Code} {l : Launch} {b L : Nat} {xs : Nat → Int32} {D : va_G} {dA : Nat → ClassId} {T : Nat × Nat} {Tq : Tk} {z a0 : Nat} {Rel : CS → MS → Prop} (C0 : lw_At p s m meth c b L xs) (hk : kc (lE0 D dA T s.heap.size) s) (hMT : ∀ (U : State) (H : Heap), s.heap.size ≤ H.size → (∀ q : Nat, q < s.heap.size → H[q]? = s.heap[q]?) → U.heap = H → s.WarmedH U.vm → MT Tq (adz z) U) (I : LI T a0 Rel) {i3 : Int32} (hin : ∀ k : Int32, 0 ≤ k.toInt → k.toInt ≤ 4 → vp_in (i3 + k) L) {cells slots : Nat} (hce : cells + 9000 ≤ 601024) (hsl : slots + 100000 ≤ 7293034) {σ : CS} {mm : MS} {H : Heap} {locs : List Loc} {ls : Array Slot} (hH : LWP D dA T s.heap.size z σ mm H) (hR : Rel σ mm) (hS : va_S (fun q => s.heap.size ≤ q) s.heap H locs) (hl : lv_has ls 4 [(0, .ref b), (1, .ref a0), (2, .ref (adz z 0)), (3, .int i3)])
    (hback : ∀ (σ1 : CS) (mm1 : MS) (H1 : Heap) (locs1 : List Loc) (k n : Nat), LWP D dA T s.heap.size z σ1 mm1 H1 → Rel σ1 mm1 → va_S (fun q => s.heap.size ≤ q) s.heap H1 locs1 → k ≤ 9000 → n ≤ 100000 → W p l e room_1 s m #[Value.ref b] below meth c H1 locs1 (cells + k) (slots + n) (lw_Z below #[Value.ref b] s) (F0 m 1226 ls [])) : W p l e room_1 s m #[Value.ref b] below meth c H locs cells slots (lw_Z below #[Value.ref b] s) (F0 m 626 ls []) := by
  obtain ⟨hx, hb, hr, hml, hown, hts, hX, hbl, hlocks, hgv⟩ := C0
  have hbA : ¬ s.heap.size ≤ b := Nat.not_le.mpr hbl
  have hall : ∀ w ∈ lw_all, w.before #[Value.ref b] s = true := fun w h => hts w (lw_all_tbl h)
  have hg2 := I.obj hR
  obtain ⟨r, σ1, mm1, hf, hm, hR1, hgr⟩ := I.x_lets hR (xs (i3 + 1).toNatClampNeg) (xs (i3 + 2).toNatClampNeg) (xs (i3 + 3).toNatClampNeg)
  have hmono := (mX0_lets l (lE D dA T s.heap.size z) hf).1
  refine lv_aload_n hx hb dL_law_626 rfl (lv_at hl 1 rfl) ?_
  refine lv_aload_n hx hb dL_law_627 rfl (lv_at hl 0 rfl) ?_
  refine lv_iload_n hx hb dL_law_628 rfl (lv_at hl 3 rfl) ?_
  refine lv_iconst (v := (1:Int32)) hx hb dL_law_629 (by decide) ?_
  refine lv_iadd hx hb dL_law_630 ?_
  refine va_sld hx hb hX hbl hbA hS (hin 1 (by decide) (by decide)) dL_law_631 ?_
  refine lv_aload_n hx hb dL_law_632 rfl (lv_at hl 0 rfl) ?_
  refine lv_iload_n hx hb dL_law_633 rfl (lv_at hl 3 rfl) ?_
  refine lv_iconst (v := (2:Int32)) hx hb dL_law_634 (by decide) ?_
  refine lv_iadd hx hb dL_law_635 ?_
  refine va_sld hx hb hX hbl hbA hS (hin 2 (by decide) (by decide)) dL_law_636 ?_
  refine lv_aload_n hx hb dL_law_637 rfl (lv_at hl 0 rfl) ?_
  refine lv_iload_n hx hb dL_law_638 rfl (lv_at hl 3 rfl) ?_
  refine lv_iconst (v := (3:Int32)) hx hb dL_law_639 (by decide) ?_
  refine lv_iadd hx hb dL_law_640 ?_
  refine va_sld hx hb hX hbl hbA hS (hin 3 (by decide) (by decide)) dL_law_641 ?_
  refine LcallC (v := some (.int r)) (rest := []) hH hS (va_runV (C := RX0) (As := [.int (xs (i3 + 1).toNatClampNeg), .int (xs (i3 + 2).toNatClampNeg), .int (xs (i3 + 3).toNatClampNeg)]) ⟨hx, hb, hml, hown, hall⟩ (mX0_lets l (lE D dA T s.heap.size z) hf).2 (cwV 3 hall (lw_V q902 q903 q904 q88 q905) rfl rfl rfl (by decide +kernel) ⟨Nat.le_of_ble_eq_true rfl, Nat.le_of_ble_eq_true rfl⟩) (l_preV (ci := 1) hk hH hS hg2 rfl) rfl rfl hl.1 rfl (lv_room (Nat.le_of_ble_eq_true rfl)) dL_law_642 ⟨by show cells + _ ≤ 601024; have := hgr.1; omega, by show slots + _ ≤ 7293034; have := hgr.2; omega⟩) (fun H1 locs1 hH hS => ?_)
  refine lv_aload_n hx hb dL_law_645 rfl (lv_at hl 2 rfl) ?_
  refine lv_aload_n hx hb dL_law_646 rfl (lv_at hl 0 rfl) ?_
  refine lv_iload_n hx hb dL_law_647 rfl (lv_at hl 3 rfl) ?_
  refine lv_iconst (v := (1:Int32)) hx hb dL_law_648 (by decide) ?_
  refine lv_iadd hx hb dL_law_649 ?_
  refine va_sld hx hb hX hbl hbA hS (hin 1 (by decide) (by decide)) dL_law_650 ?_
  refine lv_aload_n hx hb dL_law_651 rfl (lv_at hl 0 rfl) ?_
  refine lv_iload_n hx hb dL_law_652 rfl (lv_at hl 3 rfl) ?_
  refine lv_iconst (v := (2:Int32)) hx hb dL_law_653 (by decide) ?_
  refine lv_iadd hx hb dL_law_654 ?_
  refine va_sld hx hb hX hbl hbA hS (hin 2 (by decide) (by decide)) dL_law_655 ?_
  refine lv_aload_n hx hb dL_law_656 rfl (lv_at hl 0 rfl) ?_
  refine lv_iload_n hx hb dL_law_657 rfl (lv_at hl 3 rfl) ?_
  refine lv_iconst (v := (3:Int32)) hx hb dL_law_658 (by decide) ?_
  refine lv_iadd hx hb dL_law_659 ?_
  refine va_sld hx hb hX hbl hbA hS (hin 3 (by decide) (by decide)) dL_law_660 ?_
  refine LcallI (r := r) (rest := [.int r]) hk.1 hH hS (va_runV (C := RX4) (As := [.int (xs (i3 + 1).toNatClampNeg), .int (xs (i3 + 2).toNatClampNeg), .int (xs (i3 + 3).toNatClampNeg)]) ⟨hx, hb, hml, hown, hall⟩ (mX4_lets l D dA (adz z) hm) (cwV 3 hall (lw_V q1592 q1593 q1594 q95 q1595) rfl rfl rfl (by decide +kernel) ⟨Nat.le_of_ble_eq_true rfl, Nat.le_of_ble_eq_true rfl⟩) (l_preM hk hH) rfl rfl hl.1 rfl (lv_room (Nat.le_of_ble_eq_true rfl)) dL_law_661 ⟨by show cells + _ + 0 ≤ 601024; have := hgr.1; omega, by show slots + _ + 0 ≤ 7293034; have := hgr.2; omega⟩) (fun H2 locs2 hH hz2 hS => ?_)
  refine lv_icmp_eq (tgt := 1226) hx hb dL_law_664 (by decide) (fun _ => ?_) (fun h => absurd rfl h)
  exact hback _ _ _ _ _ _ hH (I.bump hR1 hz2) hS (by have := hgr.1; omega) (by have := hgr.2; omega)
set_option maxHeartbeats 4000000 in
set_option maxRecDepth 100000 in
theorem law_mean {p : Program} {e : Env} {s : State} {m : MethodId} {below : List Frame} {meth : Method} {c : Code} {l : Launch} {b L : Nat} {xs : Nat → Int32} {D : va_G} {dA : Nat → ClassId} {T : Nat × Nat} {Tq : Tk} {z a0 : Nat} {Rel : CS → MS → Prop} (C0 : lw_At p s m meth c b L xs) (hk : kc (lE0 D dA T s.heap.size) s) (hMT : ∀ (U : State) (H : Heap), s.heap.size ≤ H.size → (∀ q : Nat, q < s.heap.size → H[q]? = s.heap[q]?) → U.heap = H → s.WarmedH U.vm → MT Tq (adz z) U) (I : LI T a0 Rel) {i3 : Int32} (hin : ∀ k : Int32, 0 ≤ k.toInt → k.toInt ≤ 4 → vp_in (i3 + k) L) {cells slots : Nat} (hce : cells + 9000 ≤ 601024) (hsl : slots + 100000 ≤ 7293034) {σ : CS} {mm : MS} {H : Heap} {locs : List Loc} {ls : Array Slot} (hH : LWP D dA T s.heap.size z σ mm H) (hR : Rel σ mm) (hS : va_S (fun q => s.heap.size ≤ q) s.heap H locs) (hl : lv_has ls 4 [(0, .ref b), (1, .ref a0), (2, .ref (adz z 0)), (3, .int i3)])
    (hback : ∀ (σ1 : CS) (mm1 : MS) (H1 : Heap) (locs1 : List Loc) (k n : Nat), LWP D dA T s.heap.size z σ1 mm1 H1 → Rel σ1 mm1 → va_S (fun q => s.heap.size ≤ q) s.heap H1 locs1 → k ≤ 9000 → n ≤ 100000 → W p l e room_1 s m #[Value.ref b] below meth c H1 locs1 (cells + k) (slots + n) (lw_Z below #[Value.ref b] s) (F0 m 1226 ls [])) : W p l e room_1 s m #[Value.ref b] below meth c H locs cells slots (lw_Z below #[Value.ref b] s) (F0 m 669 ls []) := by
  obtain ⟨hx, hb, hr, hml, hown, hts, hX, hbl, hlocks, hgv⟩ := C0
  have hbA : ¬ s.heap.size ≤ b := Nat.not_le.mpr hbl
  have hall : ∀ w ∈ lw_all, w.before #[Value.ref b] s = true := fun w h => hts w (lw_all_tbl h)
  have hg2 := I.obj hR
  obtain ⟨r, σ1, mm1, hf, hm, hR1, hgr⟩ := I.x_mean hR (xs (i3 + 1).toNatClampNeg) (xs (i3 + 2).toNatClampNeg)
  have hmono := (mX0_mean l (lE D dA T s.heap.size z) hf).1
  refine lv_aload_n hx hb dL_law_669 rfl (lv_at hl 1 rfl) ?_
  refine lv_aload_n hx hb dL_law_670 rfl (lv_at hl 0 rfl) ?_
  refine lv_iload_n hx hb dL_law_671 rfl (lv_at hl 3 rfl) ?_
  refine lv_iconst (v := (1:Int32)) hx hb dL_law_672 (by decide) ?_
  refine lv_iadd hx hb dL_law_673 ?_
  refine va_sld hx hb hX hbl hbA hS (hin 1 (by decide) (by decide)) dL_law_674 ?_
  refine lv_aload_n hx hb dL_law_675 rfl (lv_at hl 0 rfl) ?_
  refine lv_iload_n hx hb dL_law_676 rfl (lv_at hl 3 rfl) ?_
  refine lv_iconst (v := (2:Int32)) hx hb dL_law_677 (by decide) ?_
  refine lv_iadd hx hb dL_law_678 ?_
  refine va_sld hx hb hX hbl hbA hS (hin 2 (by decide) (by decide)) dL_law_679 ?_
  refine LcallC (v := some (.long r)) (rest := []) hH hS (va_runV (C := RX0) (As := [.int (xs (i3 + 1).toNatClampNeg), .int (xs (i3 + 2).toNatClampNeg)]) ⟨hx, hb, hml, hown, hall⟩ (mX0_mean l (lE D dA T s.heap.size z) hf).2 (cwV 2 hall (lw_V q957 q958 q959 q88 q960) rfl rfl rfl (by decide +kernel) ⟨Nat.le_of_ble_eq_true rfl, Nat.le_of_ble_eq_true rfl⟩) (l_preV (ci := 1) hk hH hS hg2 rfl) rfl rfl hl.1 rfl (lv_room (Nat.le_of_ble_eq_true rfl)) dL_law_680 ⟨by show cells + _ ≤ 601024; have := hgr.1; omega, by show slots + _ ≤ 7293034; have := hgr.2; omega⟩) (fun H1 locs1 hH hS => ?_)
  refine lv_aload_n hx hb dL_law_683 rfl (lv_at hl 2 rfl) ?_
  refine lv_aload_n hx hb dL_law_684 rfl (lv_at hl 0 rfl) ?_
  refine lv_iload_n hx hb dL_law_685 rfl (lv_at hl 3 rfl) ?_
  refine lv_iconst (v := (1:Int32)) hx hb dL_law_686 (by decide) ?_
  refine lv_iadd hx hb dL_law_687 ?_
  refine va_sld hx hb hX hbl hbA hS (hin 1 (by decide) (by decide)) dL_law_688 ?_
  refine lv_aload_n hx hb dL_law_689 rfl (lv_at hl 0 rfl) ?_
  refine lv_iload_n hx hb dL_law_690 rfl (lv_at hl 3 rfl) ?_
  refine lv_iconst (v := (2:Int32)) hx hb dL_law_691 (by decide) ?_
  refine lv_iadd hx hb dL_law_692 ?_
  refine va_sld hx hb hX hbl hbA hS (hin 2 (by decide) (by decide)) dL_law_693 ?_
  refine LcallL (r := r) (rest := [.long r]) hk.1 hH hS (va_runV (C := RX4) (As := [.int (xs (i3 + 1).toNatClampNeg), .int (xs (i3 + 2).toNatClampNeg)]) ⟨hx, hb, hml, hown, hall⟩ (mX4_mean l D dA (adz z) hm) (cwV 2 hall (lw_V q1620 q1621 q1622 q95 q1623) rfl rfl rfl (by decide +kernel) ⟨Nat.le_of_ble_eq_true rfl, Nat.le_of_ble_eq_true rfl⟩) (l_preM hk hH) rfl rfl hl.1 rfl (lv_room (Nat.le_of_ble_eq_true rfl)) dL_law_694 ⟨by show cells + _ + 0 ≤ 601024; have := hgr.1; omega, by show slots + _ + 0 ≤ 7293034; have := hgr.2; omega⟩) (fun H2 locs2 hH hz2 hS => ?_)
  refine W.lcmp hx hb dL_law_697 ?_
  refine lv_if_eq (tgt := 1226) hx hb dL_law_698 (by decide) (fun _ => ?_) (fun h => absurd (lgcr r) h)
  exact hback _ _ _ _ _ _ hH (I.bump hR1 hz2) hS (by have := hgr.1; omega) (by have := hgr.2; omega)
set_option maxHeartbeats 4000000 in
set_option maxRecDepth 100000 in
theorem law_best {p : Program} {e : Env} {s : State} {m : MethodId} {below : List Frame} {meth : Method} {c : Code} {l : Launch} {b L : Nat} {xs : Nat → Int32} {D : va_G} {dA : Nat → ClassId} {T : Nat × Nat} {Tq : Tk} {z a0 : Nat} {Rel : CS → MS → Prop} (C0 : lw_At p s m meth c b L xs) (hk : kc (lE0 D dA T s.heap.size) s) (hMT : ∀ (U : State) (H : Heap), s.heap.size ≤ H.size → (∀ q : Nat, q < s.heap.size → H[q]? = s.heap[q]?) → U.heap = H → s.WarmedH U.vm → MT Tq (adz z) U) (I : LI T a0 Rel) {i3 : Int32} (hin : ∀ k : Int32, 0 ≤ k.toInt → k.toInt ≤ 4 → vp_in (i3 + k) L) {cells slots : Nat} (hce : cells + 9000 ≤ 601024) (hsl : slots + 100000 ≤ 7293034) {σ : CS} {mm : MS} {H : Heap} {locs : List Loc} {ls : Array Slot} (hH : LWP D dA T s.heap.size z σ mm H) (hR : Rel σ mm) (hS : va_S (fun q => s.heap.size ≤ q) s.heap H locs) (hl : lv_has ls 4 [(0, .ref b), (1, .ref a0), (2, .ref (adz z 0)), (3, .int i3)])
    (hback : ∀ (σ1 : CS) (mm1 : MS) (H1 : Heap) (locs1 : List Loc) (k n : Nat), LWP D dA T s.heap.size z σ1 mm1 H1 → Rel σ1 mm1 → va_S (fun q => s.heap.size ≤ q) s.heap H1 locs1 → k ≤ 9000 → n ≤ 100000 → W p l e room_1 s m #[Value.ref b] below meth c H1 locs1 (cells + k) (slots + n) (lw_Z below #[Value.ref b] s) (F0 m 1226 ls [])) : W p l e room_1 s m #[Value.ref b] below meth c H locs cells slots (lw_Z below #[Value.ref b] s) (F0 m 703 ls []) := by
  obtain ⟨hx, hb, hr, hml, hown, hts, hX, hbl, hlocks, hgv⟩ := C0
  have hbA : ¬ s.heap.size ≤ b := Nat.not_le.mpr hbl
  have hall : ∀ w ∈ lw_all, w.before #[Value.ref b] s = true := fun w h => hts w (lw_all_tbl h)
  have hg2 := I.obj hR
  obtain ⟨r, σ1, mm1, hf, hm, hR1, hgr⟩ := I.x_best hR (xs (i3 + 1).toNatClampNeg) (xs (i3 + 2).toNatClampNeg) (xs (i3 + 3).toNatClampNeg) (xs (i3 + 4).toNatClampNeg)
  have hmono := (mX0_best l (lE D dA T s.heap.size z) hf).1
  refine lv_aload_n hx hb dL_law_703 rfl (lv_at hl 1 rfl) ?_
  refine lv_aload_n hx hb dL_law_704 rfl (lv_at hl 0 rfl) ?_
  refine lv_iload_n hx hb dL_law_705 rfl (lv_at hl 3 rfl) ?_
  refine lv_iconst (v := (1:Int32)) hx hb dL_law_706 (by decide) ?_
  refine lv_iadd hx hb dL_law_707 ?_
  refine va_sld hx hb hX hbl hbA hS (hin 1 (by decide) (by decide)) dL_law_708 ?_
  refine lv_aload_n hx hb dL_law_709 rfl (lv_at hl 0 rfl) ?_
  refine lv_iload_n hx hb dL_law_710 rfl (lv_at hl 3 rfl) ?_
  refine lv_iconst (v := (2:Int32)) hx hb dL_law_711 (by decide) ?_
  refine lv_iadd hx hb dL_law_712 ?_
  refine va_sld hx hb hX hbl hbA hS (hin 2 (by decide) (by decide)) dL_law_713 ?_
  refine lv_aload_n hx hb dL_law_714 rfl (lv_at hl 0 rfl) ?_
  refine lv_iload_n hx hb dL_law_715 rfl (lv_at hl 3 rfl) ?_
  refine lv_iconst (v := (3:Int32)) hx hb dL_law_716 (by decide) ?_
  refine lv_iadd hx hb dL_law_717 ?_
  refine va_sld hx hb hX hbl hbA hS (hin 3 (by decide) (by decide)) dL_law_718 ?_
  refine lv_aload_n hx hb dL_law_719 rfl (lv_at hl 0 rfl) ?_
  refine lv_iload_n hx hb dL_law_720 rfl (lv_at hl 3 rfl) ?_
  refine lv_iconst (v := (4:Int32)) hx hb dL_law_721 (by decide) ?_
  refine lv_iadd hx hb dL_law_722 ?_
  refine va_sld hx hb hX hbl hbA hS (hin 4 (by decide) (by decide)) dL_law_723 ?_
  refine LcallC (v := some (.long r)) (rest := []) hH hS (va_runV (C := RX0) (As := [.int (xs (i3 + 1).toNatClampNeg), .int (xs (i3 + 2).toNatClampNeg), .int (xs (i3 + 3).toNatClampNeg), .int (xs (i3 + 4).toNatClampNeg)]) ⟨hx, hb, hml, hown, hall⟩ (mX0_best l (lE D dA T s.heap.size z) hf).2 (cwV 4 hall (lw_V q1002 q1003 q1004 q88 q1005) rfl rfl rfl (by decide +kernel) ⟨Nat.le_of_ble_eq_true rfl, Nat.le_of_ble_eq_true rfl⟩) (l_preV (ci := 1) hk hH hS hg2 rfl) rfl rfl hl.1 rfl (lv_room (Nat.le_of_ble_eq_true rfl)) dL_law_724 ⟨by show cells + _ ≤ 601024; have := hgr.1; omega, by show slots + _ ≤ 7293034; have := hgr.2; omega⟩) (fun H1 locs1 hH hS => ?_)
  refine lv_aload_n hx hb dL_law_727 rfl (lv_at hl 2 rfl) ?_
  refine lv_aload_n hx hb dL_law_728 rfl (lv_at hl 0 rfl) ?_
  refine lv_iload_n hx hb dL_law_729 rfl (lv_at hl 3 rfl) ?_
  refine lv_iconst (v := (1:Int32)) hx hb dL_law_730 (by decide) ?_
  refine lv_iadd hx hb dL_law_731 ?_
  refine va_sld hx hb hX hbl hbA hS (hin 1 (by decide) (by decide)) dL_law_732 ?_
  refine lv_aload_n hx hb dL_law_733 rfl (lv_at hl 0 rfl) ?_
  refine lv_iload_n hx hb dL_law_734 rfl (lv_at hl 3 rfl) ?_
  refine lv_iconst (v := (2:Int32)) hx hb dL_law_735 (by decide) ?_
  refine lv_iadd hx hb dL_law_736 ?_
  refine va_sld hx hb hX hbl hbA hS (hin 2 (by decide) (by decide)) dL_law_737 ?_
  refine lv_aload_n hx hb dL_law_738 rfl (lv_at hl 0 rfl) ?_
  refine lv_iload_n hx hb dL_law_739 rfl (lv_at hl 3 rfl) ?_
  refine lv_iconst (v := (3:Int32)) hx hb dL_law_740 (by decide) ?_
  refine lv_iadd hx hb dL_law_741 ?_
  refine va_sld hx hb hX hbl hbA hS (hin 3 (by decide) (by decide)) dL_law_742 ?_
  refine lv_aload_n hx hb dL_law_743 rfl (lv_at hl 0 rfl) ?_
  refine lv_iload_n hx hb dL_law_744 rfl (lv_at hl 3 rfl) ?_
  refine lv_iconst (v := (4:Int32)) hx hb dL_law_745 (by decide) ?_
  refine lv_iadd hx hb dL_law_746 ?_
  refine va_sld hx hb hX hbl hbA hS (hin 4 (by decide) (by decide)) dL_law_747 ?_
  refine LcallL (r := r) (rest := [.long r]) hk.1 hH hS (va_runV (C := RX4) (As := [.int (xs (i3 + 1).toNatClampNeg), .int (xs (i3 + 2).toNatClampNeg), .int (xs (i3 + 3).toNatClampNeg), .int (xs (i3 + 4).toNatClampNeg)]) ⟨hx, hb, hml, hown, hall⟩ (mX4_best l D dA (adz z) hm) (cwV 4 hall (lw_V q1632 q1633 q1634 q95 q1635) rfl rfl rfl (by decide +kernel) ⟨Nat.le_of_ble_eq_true rfl, Nat.le_of_ble_eq_true rfl⟩) (l_preM hk hH) rfl rfl hl.1 rfl (lv_room (Nat.le_of_ble_eq_true rfl)) dL_law_748 ⟨by show cells + _ + 0 ≤ 601024; have := hgr.1; omega, by show slots + _ + 0 ≤ 7293034; have := hgr.2; omega⟩) (fun H2 locs2 hH hz2 hS => ?_)
  refine W.lcmp hx hb dL_law_751 ?_
  refine lv_if_eq (tgt := 1226) hx hb dL_law_752 (by decide) (fun _ => ?_) (fun h => absurd (lgcr r) h)
  exact hback _ _ _ _ _ _ hH (I.bump hR1 hz2) hS (by have := hgr.1; omega) (by have := hgr.2; omega)
set_option maxHeartbeats 4000000 in
set_option maxRecDepth 100000 in
theorem law_plain {p : Program} {e : Env} {s : State} {m : MethodId} {below : List Frame} {meth : Method} {c : Code} {l : Launch} {b L : Nat} {xs : Nat → Int32} {D : va_G} {dA : Nat → ClassId} {T : Nat × Nat} {Tq : Tk} {z a0 : Nat} {Rel : CS → MS → Prop} (C0 : lw_At p s m meth c b L xs) (hk : kc (lE0 D dA T s.heap.size) s) (hMT : ∀ (U : State) (H : Heap), s.heap.size ≤ H.size → (∀ q : Nat, q < s.heap.size → H[q]? = s.heap[q]?) → U.heap = H → s.WarmedH U.vm → MT Tq (adz z) U) (I : LI T a0 Rel) {i3 : Int32} (hin : ∀ k : Int32, 0 ≤ k.toInt → k.toInt ≤ 4 → vp_in (i3 + k) L) {cells slots : Nat} (hce : cells + 9000 ≤ 601024) (hsl : slots + 100000 ≤ 7293034) {σ : CS} {mm : MS} {H : Heap} {locs : List Loc} {ls : Array Slot} (hH : LWP D dA T s.heap.size z σ mm H) (hR : Rel σ mm) (hS : va_S (fun q => s.heap.size ≤ q) s.heap H locs) (hl : lv_has ls 4 [(0, .ref b), (1, .ref a0), (2, .ref (adz z 0)), (3, .int i3)])
    (hback : ∀ (σ1 : CS) (mm1 : MS) (H1 : Heap) (locs1 : List Loc) (k n : Nat), LWP D dA T s.heap.size z σ1 mm1 H1 → Rel σ1 mm1 → va_S (fun q => s.heap.size ≤ q) s.heap H1 locs1 → k ≤ 9000 → n ≤ 100000 → W p l e room_1 s m #[Value.ref b] below meth c H1 locs1 (cells + k) (slots + n) (lw_Z below #[Value.ref b] s) (F0 m 1226 ls [])) : W p l e room_1 s m #[Value.ref b] below meth c H locs cells slots (lw_Z below #[Value.ref b] s) (F0 m 757 ls []) := by
  obtain ⟨hx, hb, hr, hml, hown, hts, hX, hbl, hlocks, hgv⟩ := C0
  have hbA : ¬ s.heap.size ≤ b := Nat.not_le.mpr hbl
  have hall : ∀ w ∈ lw_all, w.before #[Value.ref b] s = true := fun w h => hts w (lw_all_tbl h)
  have hg2 := I.obj hR
  obtain ⟨r, σ1, mm1, hf, hm, hR1, hgr⟩ := I.x_plain hR (xs (i3 + 1).toNatClampNeg) (xs (i3 + 2).toNatClampNeg)
  have hmono := (mX0_plain l (lE D dA T s.heap.size z) hf).1
  refine lv_aload_n hx hb dL_law_757 rfl (lv_at hl 1 rfl) ?_
  refine lv_aload_n hx hb dL_law_758 rfl (lv_at hl 0 rfl) ?_
  refine lv_iload_n hx hb dL_law_759 rfl (lv_at hl 3 rfl) ?_
  refine lv_iconst (v := (1:Int32)) hx hb dL_law_760 (by decide) ?_
  refine lv_iadd hx hb dL_law_761 ?_
  refine va_sld hx hb hX hbl hbA hS (hin 1 (by decide) (by decide)) dL_law_762 ?_
  refine lv_aload_n hx hb dL_law_763 rfl (lv_at hl 0 rfl) ?_
  refine lv_iload_n hx hb dL_law_764 rfl (lv_at hl 3 rfl) ?_
  refine lv_iconst (v := (2:Int32)) hx hb dL_law_765 (by decide) ?_
  refine lv_iadd hx hb dL_law_766 ?_
  refine va_sld hx hb hX hbl hbA hS (hin 2 (by decide) (by decide)) dL_law_767 ?_
  refine LcallC (v := some (.int r)) (rest := []) hH hS (va_runV (C := RX0) (As := [.int (xs (i3 + 1).toNatClampNeg), .int (xs (i3 + 2).toNatClampNeg)]) ⟨hx, hb, hml, hown, hall⟩ (mX0_plain l (lE D dA T s.heap.size z) hf).2 (cwV 2 hall (lw_V q1015 q1016 q1017 q88 q1018) rfl rfl rfl (by decide +kernel) ⟨Nat.le_of_ble_eq_true rfl, Nat.le_of_ble_eq_true rfl⟩) (l_preV (ci := 1) hk hH hS hg2 rfl) rfl rfl hl.1 rfl (lv_room (Nat.le_of_ble_eq_true rfl)) dL_law_768 ⟨by show cells + _ ≤ 601024; have := hgr.1; omega, by show slots + _ ≤ 7293034; have := hgr.2; omega⟩) (fun H1 locs1 hH hS => ?_)
  refine lv_aload_n hx hb dL_law_771 rfl (lv_at hl 2 rfl) ?_
  refine lv_aload_n hx hb dL_law_772 rfl (lv_at hl 0 rfl) ?_
  refine lv_iload_n hx hb dL_law_773 rfl (lv_at hl 3 rfl) ?_
  refine lv_iconst (v := (1:Int32)) hx hb dL_law_774 (by decide) ?_
  refine lv_iadd hx hb dL_law_775 ?_
  refine va_sld hx hb hX hbl hbA hS (hin 1 (by decide) (by decide)) dL_law_776 ?_
  refine lv_aload_n hx hb dL_law_777 rfl (lv_at hl 0 rfl) ?_
  refine lv_iload_n hx hb dL_law_778 rfl (lv_at hl 3 rfl) ?_
  refine lv_iconst (v := (2:Int32)) hx hb dL_law_779 (by decide) ?_
  refine lv_iadd hx hb dL_law_780 ?_
  refine va_sld hx hb hX hbl hbA hS (hin 2 (by decide) (by decide)) dL_law_781 ?_
  refine LcallI (r := r) (rest := [.int r]) hk.1 hH hS (va_runV (C := RX4) (As := [.int (xs (i3 + 1).toNatClampNeg), .int (xs (i3 + 2).toNatClampNeg)]) ⟨hx, hb, hml, hown, hall⟩ (mX4_plain l D dA (adz z) hm) (cwV 2 hall (lw_V q1636 q1637 q1638 q95 q1639) rfl rfl rfl (by decide +kernel) ⟨Nat.le_of_ble_eq_true rfl, Nat.le_of_ble_eq_true rfl⟩) (l_preM hk hH) rfl rfl hl.1 rfl (lv_room (Nat.le_of_ble_eq_true rfl)) dL_law_782 ⟨by show cells + _ + 0 ≤ 601024; have := hgr.1; omega, by show slots + _ + 0 ≤ 7293034; have := hgr.2; omega⟩) (fun H2 locs2 hH hz2 hS => ?_)
  refine lv_icmp_eq (tgt := 1226) hx hb dL_law_785 (by decide) (fun _ => ?_) (fun h => absurd rfl h)
  exact hback _ _ _ _ _ _ hH (I.bump hR1 hz2) hS (by have := hgr.1; omega) (by have := hgr.2; omega)
set_option maxHeartbeats 4000000 in
set_option maxRecDepth 100000 in
theorem law_loses {p : Program} {e : Env} {s : State} {m : MethodId} {below : List Frame} {meth : Method} {c : Code} {l : Launch} {b L : Nat} {xs : Nat → Int32} {D : va_G} {dA : Nat → ClassId} {T : Nat × Nat} {Tq : Tk} {z a0 : Nat} {Rel : CS → MS → Prop} (C0 : lw_At p s m meth c b L xs) (hk : kc (lE0 D dA T s.heap.size) s) (hMT : ∀ (U : State) (H : Heap), s.heap.size ≤ H.size → (∀ q : Nat, q < s.heap.size → H[q]? = s.heap[q]?) → U.heap = H → s.WarmedH U.vm → MT Tq (adz z) U) (I : LI T a0 Rel) {i3 : Int32} (hin : ∀ k : Int32, 0 ≤ k.toInt → k.toInt ≤ 4 → vp_in (i3 + k) L) {cells slots : Nat} (hce : cells + 9000 ≤ 601024) (hsl : slots + 100000 ≤ 7293034) {σ : CS} {mm : MS} {H : Heap} {locs : List Loc} {ls : Array Slot} (hH : LWP D dA T s.heap.size z σ mm H) (hR : Rel σ mm) (hS : va_S (fun q => s.heap.size ≤ q) s.heap H locs) (hl : lv_has ls 4 [(0, .ref b), (1, .ref a0), (2, .ref (adz z 0)), (3, .int i3)])
    (hback : ∀ (σ1 : CS) (mm1 : MS) (H1 : Heap) (locs1 : List Loc) (k n : Nat), LWP D dA T s.heap.size z σ1 mm1 H1 → Rel σ1 mm1 → va_S (fun q => s.heap.size ≤ q) s.heap H1 locs1 → k ≤ 9000 → n ≤ 100000 → W p l e room_1 s m #[Value.ref b] below meth c H1 locs1 (cells + k) (slots + n) (lw_Z below #[Value.ref b] s) (F0 m 1226 ls [])) : W p l e room_1 s m #[Value.ref b] below meth c H locs cells slots (lw_Z below #[Value.ref b] s) (F0 m 790 ls []) := by
  obtain ⟨hx, hb, hr, hml, hown, hts, hX, hbl, hlocks, hgv⟩ := C0
  have hbA : ¬ s.heap.size ≤ b := Nat.not_le.mpr hbl
  have hall : ∀ w ∈ lw_all, w.before #[Value.ref b] s = true := fun w h => hts w (lw_all_tbl h)
  have hg2 := I.obj hR
  obtain ⟨r, σ1, mm1, hf, hm, hR1, hgr⟩ := I.x_loses hR (xs (i3 + 1).toNatClampNeg)
  have hmono := (mX0_loses l (lE D dA T s.heap.size z) hf).1
  refine lv_aload_n hx hb dL_law_790 rfl (lv_at hl 1 rfl) ?_
  refine lv_aload_n hx hb dL_law_791 rfl (lv_at hl 0 rfl) ?_
  refine lv_iload_n hx hb dL_law_792 rfl (lv_at hl 3 rfl) ?_
  refine lv_iconst (v := (1:Int32)) hx hb dL_law_793 (by decide) ?_
  refine lv_iadd hx hb dL_law_794 ?_
  refine va_sld hx hb hX hbl hbA hS (hin 1 (by decide) (by decide)) dL_law_795 ?_
  refine LcallC (v := some (.long r)) (rest := []) hH hS (va_runV (C := RX0) (As := [.int (xs (i3 + 1).toNatClampNeg)]) ⟨hx, hb, hml, hown, hall⟩ (mX0_loses l (lE D dA T s.heap.size z) hf).2 (cwV 1 hall (lw_V q1028 q1029 q1030 q88 q1031) rfl rfl rfl (by decide +kernel) ⟨Nat.le_of_ble_eq_true rfl, Nat.le_of_ble_eq_true rfl⟩) (l_preV (ci := 1) hk hH hS hg2 rfl) rfl rfl hl.1 rfl (lv_room (Nat.le_of_ble_eq_true rfl)) dL_law_796 ⟨by show cells + _ ≤ 601024; have := hgr.1; omega, by show slots + _ ≤ 7293034; have := hgr.2; omega⟩) (fun H1 locs1 hH hS => ?_)
  refine lv_aload_n hx hb dL_law_799 rfl (lv_at hl 2 rfl) ?_
  refine lv_aload_n hx hb dL_law_800 rfl (lv_at hl 0 rfl) ?_
  refine lv_iload_n hx hb dL_law_801 rfl (lv_at hl 3 rfl) ?_
  refine lv_iconst (v := (1:Int32)) hx hb dL_law_802 (by decide) ?_
  refine lv_iadd hx hb dL_law_803 ?_
  refine va_sld hx hb hX hbl hbA hS (hin 1 (by decide) (by decide)) dL_law_804 ?_
  refine LcallL (r := r) (rest := [.long r]) hk.1 hH hS (va_runV (C := RX4) (As := [.int (xs (i3 + 1).toNatClampNeg)]) ⟨hx, hb, hml, hown, hall⟩ (mX4_loses l D dA (adz z) hm) (cwV 1 hall (lw_V q1644 q1645 q1646 q95 q1647) rfl rfl rfl (by decide +kernel) ⟨Nat.le_of_ble_eq_true rfl, Nat.le_of_ble_eq_true rfl⟩) (l_preM hk hH) rfl rfl hl.1 rfl (lv_room (Nat.le_of_ble_eq_true rfl)) dL_law_805 ⟨by show cells + _ + 0 ≤ 601024; have := hgr.1; omega, by show slots + _ + 0 ≤ 7293034; have := hgr.2; omega⟩) (fun H2 locs2 hH hz2 hS => ?_)
  refine W.lcmp hx hb dL_law_808 ?_
  refine lv_if_eq (tgt := 1226) hx hb dL_law_809 (by decide) (fun _ => ?_) (fun h => absurd (lgcr r) h)
  exact hback _ _ _ _ _ _ hH (I.bump hR1 hz2) hS (by have := hgr.1; omega) (by have := hgr.2; omega)
set_option maxHeartbeats 4000000 in
set_option maxRecDepth 100000 in
theorem law_judged {p : Program} {e : Env} {s : State} {m : MethodId} {below : List Frame} {meth : Method} {c : Code} {l : Launch} {b L : Nat} {xs : Nat → Int32} {D : va_G} {dA : Nat → ClassId} {T : Nat × Nat} {Tq : Tk} {z a0 : Nat} {Rel : CS → MS → Prop} (C0 : lw_At p s m meth c b L xs) (hk : kc (lE0 D dA T s.heap.size) s) (hMT : ∀ (U : State) (H : Heap), s.heap.size ≤ H.size → (∀ q : Nat, q < s.heap.size → H[q]? = s.heap[q]?) → U.heap = H → s.WarmedH U.vm → MT Tq (adz z) U) (I : LI T a0 Rel) {i3 : Int32} (hin : ∀ k : Int32, 0 ≤ k.toInt → k.toInt ≤ 4 → vp_in (i3 + k) L) {cells slots : Nat} (hce : cells + 9000 ≤ 601024) (hsl : slots + 100000 ≤ 7293034) {σ : CS} {mm : MS} {H : Heap} {locs : List Loc} {ls : Array Slot} (hH : LWP D dA T s.heap.size z σ mm H) (hR : Rel σ mm) (hS : va_S (fun q => s.heap.size ≤ q) s.heap H locs) (hl : lv_has ls 4 [(0, .ref b), (1, .ref a0), (2, .ref (adz z 0)), (3, .int i3)])
    (hback : ∀ (σ1 : CS) (mm1 : MS) (H1 : Heap) (locs1 : List Loc) (k n : Nat), LWP D dA T s.heap.size z σ1 mm1 H1 → Rel σ1 mm1 → va_S (fun q => s.heap.size ≤ q) s.heap H1 locs1 → k ≤ 9000 → n ≤ 100000 → W p l e room_1 s m #[Value.ref b] below meth c H1 locs1 (cells + k) (slots + n) (lw_Z below #[Value.ref b] s) (F0 m 1226 ls [])) : W p l e room_1 s m #[Value.ref b] below meth c H locs cells slots (lw_Z below #[Value.ref b] s) (F0 m 814 ls []) := by
  obtain ⟨hx, hb, hr, hml, hown, hts, hX, hbl, hlocks, hgv⟩ := C0
  have hbA : ¬ s.heap.size ≤ b := Nat.not_le.mpr hbl
  have hall : ∀ w ∈ lw_all, w.before #[Value.ref b] s = true := fun w h => hts w (lw_all_tbl h)
  have hg2 := I.obj hR
  obtain ⟨r, σ1, mm1, hf, hm, hR1, hgr⟩ := I.x_judged hR (xs (i3 + 1).toNatClampNeg) (xs (i3 + 2).toNatClampNeg)
  have hmono := (mX0_judged l (lE D dA T s.heap.size z) hf).1
  refine lv_aload_n hx hb dL_law_814 rfl (lv_at hl 1 rfl) ?_
  refine lv_aload_n hx hb dL_law_815 rfl (lv_at hl 0 rfl) ?_
  refine lv_iload_n hx hb dL_law_816 rfl (lv_at hl 3 rfl) ?_
  refine lv_iconst (v := (1:Int32)) hx hb dL_law_817 (by decide) ?_
  refine lv_iadd hx hb dL_law_818 ?_
  refine va_sld hx hb hX hbl hbA hS (hin 1 (by decide) (by decide)) dL_law_819 ?_
  refine lv_aload_n hx hb dL_law_820 rfl (lv_at hl 0 rfl) ?_
  refine lv_iload_n hx hb dL_law_821 rfl (lv_at hl 3 rfl) ?_
  refine lv_iconst (v := (2:Int32)) hx hb dL_law_822 (by decide) ?_
  refine lv_iadd hx hb dL_law_823 ?_
  refine va_sld hx hb hX hbl hbA hS (hin 2 (by decide) (by decide)) dL_law_824 ?_
  refine LcallC (v := some (.int r)) (rest := []) hH hS (va_runV (C := RX0) (As := [.int (xs (i3 + 1).toNatClampNeg), .int (xs (i3 + 2).toNatClampNeg)]) ⟨hx, hb, hml, hown, hall⟩ (mX0_judged l (lE D dA T s.heap.size z) hf).2 (cwV 2 hall (lw_V q1032 q1033 q1034 q88 q1035) rfl rfl rfl (by decide +kernel) ⟨Nat.le_of_ble_eq_true rfl, Nat.le_of_ble_eq_true rfl⟩) (l_preV (ci := 1) hk hH hS hg2 rfl) rfl rfl hl.1 rfl (lv_room (Nat.le_of_ble_eq_true rfl)) dL_law_825 ⟨by show cells + _ ≤ 601024; have := hgr.1; omega, by show slots + _ ≤ 7293034; have := hgr.2; omega⟩) (fun H1 locs1 hH hS => ?_)
  refine lv_aload_n hx hb dL_law_828 rfl (lv_at hl 2 rfl) ?_
  refine lv_aload_n hx hb dL_law_829 rfl (lv_at hl 0 rfl) ?_
  refine lv_iload_n hx hb dL_law_830 rfl (lv_at hl 3 rfl) ?_
  refine lv_iconst (v := (1:Int32)) hx hb dL_law_831 (by decide) ?_
  refine lv_iadd hx hb dL_law_832 ?_
  refine va_sld hx hb hX hbl hbA hS (hin 1 (by decide) (by decide)) dL_law_833 ?_
  refine lv_aload_n hx hb dL_law_834 rfl (lv_at hl 0 rfl) ?_
  refine lv_iload_n hx hb dL_law_835 rfl (lv_at hl 3 rfl) ?_
  refine lv_iconst (v := (2:Int32)) hx hb dL_law_836 (by decide) ?_
  refine lv_iadd hx hb dL_law_837 ?_
  refine va_sld hx hb hX hbl hbA hS (hin 2 (by decide) (by decide)) dL_law_838 ?_
  refine LcallI (r := r) (rest := [.int r]) hk.1 hH hS (va_runV (C := RX4) (As := [.int (xs (i3 + 1).toNatClampNeg), .int (xs (i3 + 2).toNatClampNeg)]) ⟨hx, hb, hml, hown, hall⟩ (mX4_judged l D dA (adz z) hm) (cwV 2 hall (lw_V q1648 q1649 q1650 q95 q1651) rfl rfl rfl (by decide +kernel) ⟨Nat.le_of_ble_eq_true rfl, Nat.le_of_ble_eq_true rfl⟩) (l_preM hk hH) rfl rfl hl.1 rfl (lv_room (Nat.le_of_ble_eq_true rfl)) dL_law_839 ⟨by show cells + _ + 0 ≤ 601024; have := hgr.1; omega, by show slots + _ + 0 ≤ 7293034; have := hgr.2; omega⟩) (fun H2 locs2 hH hz2 hS => ?_)
  refine lv_icmp_eq (tgt := 1226) hx hb dL_law_842 (by decide) (fun _ => ?_) (fun h => absurd rfl h)
  exact hback _ _ _ _ _ _ hH (I.bump hR1 hz2) hS (by have := hgr.1; omega) (by have := hgr.2; omega)
set_option maxHeartbeats 4000000 in
set_option maxRecDepth 100000 in
theorem law_room {p : Program} {e : Env} {s : State} {m : MethodId} {below : List Frame} {meth : Method} {c : Code} {l : Launch} {b L : Nat} {xs : Nat → Int32} {D : va_G} {dA : Nat → ClassId} {T : Nat × Nat} {Tq : Tk} {z a0 : Nat} {Rel : CS → MS → Prop} (C0 : lw_At p s m meth c b L xs) (hk : kc (lE0 D dA T s.heap.size) s) (hMT : ∀ (U : State) (H : Heap), s.heap.size ≤ H.size → (∀ q : Nat, q < s.heap.size → H[q]? = s.heap[q]?) → U.heap = H → s.WarmedH U.vm → MT Tq (adz z) U) (I : LI T a0 Rel) {i3 : Int32} (hin : ∀ k : Int32, 0 ≤ k.toInt → k.toInt ≤ 4 → vp_in (i3 + k) L) {cells slots : Nat} (hce : cells + 9000 ≤ 601024) (hsl : slots + 100000 ≤ 7293034) {σ : CS} {mm : MS} {H : Heap} {locs : List Loc} {ls : Array Slot} (hH : LWP D dA T s.heap.size z σ mm H) (hR : Rel σ mm) (hS : va_S (fun q => s.heap.size ≤ q) s.heap H locs) (hl : lv_has ls 4 [(0, .ref b), (1, .ref a0), (2, .ref (adz z 0)), (3, .int i3)])
    (hback : ∀ (σ1 : CS) (mm1 : MS) (H1 : Heap) (locs1 : List Loc) (k n : Nat), LWP D dA T s.heap.size z σ1 mm1 H1 → Rel σ1 mm1 → va_S (fun q => s.heap.size ≤ q) s.heap H1 locs1 → k ≤ 9000 → n ≤ 100000 → W p l e room_1 s m #[Value.ref b] below meth c H1 locs1 (cells + k) (slots + n) (lw_Z below #[Value.ref b] s) (F0 m 1226 ls [])) : W p l e room_1 s m #[Value.ref b] below meth c H locs cells slots (lw_Z below #[Value.ref b] s) (F0 m 847 ls []) := by
  obtain ⟨hx, hb, hr, hml, hown, hts, hX, hbl, hlocks, hgv⟩ := C0
  have hbA : ¬ s.heap.size ≤ b := Nat.not_le.mpr hbl
  have hall : ∀ w ∈ lw_all, w.before #[Value.ref b] s = true := fun w h => hts w (lw_all_tbl h)
  have hg2 := I.obj hR
  obtain ⟨r, σ1, mm1, hf, hm, hR1, hgr⟩ := I.x_room hR (xs (i3 + 1).toNatClampNeg) (xs (i3 + 2).toNatClampNeg)
  have hmono := (mX0_room l (lE D dA T s.heap.size z) hf).1
  refine lv_aload_n hx hb dL_law_847 rfl (lv_at hl 1 rfl) ?_
  refine lv_aload_n hx hb dL_law_848 rfl (lv_at hl 0 rfl) ?_
  refine lv_iload_n hx hb dL_law_849 rfl (lv_at hl 3 rfl) ?_
  refine lv_iconst (v := (1:Int32)) hx hb dL_law_850 (by decide) ?_
  refine lv_iadd hx hb dL_law_851 ?_
  refine va_sld hx hb hX hbl hbA hS (hin 1 (by decide) (by decide)) dL_law_852 ?_
  refine lv_aload_n hx hb dL_law_853 rfl (lv_at hl 0 rfl) ?_
  refine lv_iload_n hx hb dL_law_854 rfl (lv_at hl 3 rfl) ?_
  refine lv_iconst (v := (2:Int32)) hx hb dL_law_855 (by decide) ?_
  refine lv_iadd hx hb dL_law_856 ?_
  refine va_sld hx hb hX hbl hbA hS (hin 2 (by decide) (by decide)) dL_law_857 ?_
  refine LcallC (v := some (.int r)) (rest := []) hH hS (va_runV (C := RX0) (As := [.int (xs (i3 + 1).toNatClampNeg), .int (xs (i3 + 2).toNatClampNeg)]) ⟨hx, hb, hml, hown, hall⟩ (mX0_room l (lE D dA T s.heap.size z) hf).2 (cwV 2 hall (lw_V q1036 q1037 q1038 q88 q1039) rfl rfl rfl (by decide +kernel) ⟨Nat.le_of_ble_eq_true rfl, Nat.le_of_ble_eq_true rfl⟩) (l_preV (ci := 1) hk hH hS hg2 rfl) rfl rfl hl.1 rfl (lv_room (Nat.le_of_ble_eq_true rfl)) dL_law_858 ⟨by show cells + _ ≤ 601024; have := hgr.1; omega, by show slots + _ ≤ 7293034; have := hgr.2; omega⟩) (fun H1 locs1 hH hS => ?_)
  refine lv_aload_n hx hb dL_law_861 rfl (lv_at hl 2 rfl) ?_
  refine lv_aload_n hx hb dL_law_862 rfl (lv_at hl 0 rfl) ?_
  refine lv_iload_n hx hb dL_law_863 rfl (lv_at hl 3 rfl) ?_
  refine lv_iconst (v := (1:Int32)) hx hb dL_law_864 (by decide) ?_
  refine lv_iadd hx hb dL_law_865 ?_
  refine va_sld hx hb hX hbl hbA hS (hin 1 (by decide) (by decide)) dL_law_866 ?_
  refine lv_aload_n hx hb dL_law_867 rfl (lv_at hl 0 rfl) ?_
  refine lv_iload_n hx hb dL_law_868 rfl (lv_at hl 3 rfl) ?_
  refine lv_iconst (v := (2:Int32)) hx hb dL_law_869 (by decide) ?_
  refine lv_iadd hx hb dL_law_870 ?_
  refine va_sld hx hb hX hbl hbA hS (hin 2 (by decide) (by decide)) dL_law_871 ?_
  refine LcallI (r := r) (rest := [.int r]) hk.1 hH hS (va_runV (C := RX4) (As := [.int (xs (i3 + 1).toNatClampNeg), .int (xs (i3 + 2).toNatClampNeg)]) ⟨hx, hb, hml, hown, hall⟩ (mX4_room l D dA (adz z) hm) (cwV 2 hall (lw_V q1652 q1653 q1654 q95 q1655) rfl rfl rfl (by decide +kernel) ⟨Nat.le_of_ble_eq_true rfl, Nat.le_of_ble_eq_true rfl⟩) (l_preM hk hH) rfl rfl hl.1 rfl (lv_room (Nat.le_of_ble_eq_true rfl)) dL_law_872 ⟨by show cells + _ + 0 ≤ 601024; have := hgr.1; omega, by show slots + _ + 0 ≤ 7293034; have := hgr.2; omega⟩) (fun H2 locs2 hH hz2 hS => ?_)
  refine lv_icmp_eq (tgt := 1226) hx hb dL_law_875 (by decide) (fun _ => ?_) (fun h => absurd rfl h)
  exact hback _ _ _ _ _ _ hH (I.bump hR1 hz2) hS (by have := hgr.1; omega) (by have := hgr.2; omega)
set_option maxHeartbeats 4000000 in
set_option maxRecDepth 100000 in
theorem law_lies {p : Program} {e : Env} {s : State} {m : MethodId} {below : List Frame} {meth : Method} {c : Code} {l : Launch} {b L : Nat} {xs : Nat → Int32} {D : va_G} {dA : Nat → ClassId} {T : Nat × Nat} {Tq : Tk} {z a0 : Nat} {Rel : CS → MS → Prop} (C0 : lw_At p s m meth c b L xs) (hk : kc (lE0 D dA T s.heap.size) s) (hMT : ∀ (U : State) (H : Heap), s.heap.size ≤ H.size → (∀ q : Nat, q < s.heap.size → H[q]? = s.heap[q]?) → U.heap = H → s.WarmedH U.vm → MT Tq (adz z) U) (I : LI T a0 Rel) {i3 : Int32} (hin : ∀ k : Int32, 0 ≤ k.toInt → k.toInt ≤ 4 → vp_in (i3 + k) L) {cells slots : Nat} (hce : cells + 9000 ≤ 601024) (hsl : slots + 100000 ≤ 7293034) {σ : CS} {mm : MS} {H : Heap} {locs : List Loc} {ls : Array Slot} (hH : LWP D dA T s.heap.size z σ mm H) (hR : Rel σ mm) (hS : va_S (fun q => s.heap.size ≤ q) s.heap H locs) (hl : lv_has ls 4 [(0, .ref b), (1, .ref a0), (2, .ref (adz z 0)), (3, .int i3)])
    (hback : ∀ (σ1 : CS) (mm1 : MS) (H1 : Heap) (locs1 : List Loc) (k n : Nat), LWP D dA T s.heap.size z σ1 mm1 H1 → Rel σ1 mm1 → va_S (fun q => s.heap.size ≤ q) s.heap H1 locs1 → k ≤ 9000 → n ≤ 100000 → W p l e room_1 s m #[Value.ref b] below meth c H1 locs1 (cells + k) (slots + n) (lw_Z below #[Value.ref b] s) (F0 m 1226 ls [])) : W p l e room_1 s m #[Value.ref b] below meth c H locs cells slots (lw_Z below #[Value.ref b] s) (F0 m 880 ls []) := by
  obtain ⟨hx, hb, hr, hml, hown, hts, hX, hbl, hlocks, hgv⟩ := C0
  have hbA : ¬ s.heap.size ≤ b := Nat.not_le.mpr hbl
  have hall : ∀ w ∈ lw_all, w.before #[Value.ref b] s = true := fun w h => hts w (lw_all_tbl h)
  have hg2 := I.obj hR
  obtain ⟨r, σ1, mm1, hf, hm, hR1, hgr⟩ := I.x_lies hR (xs (i3 + 1).toNatClampNeg) (xs (i3 + 2).toNatClampNeg)
  have hmono := (mX0_lies l (lE D dA T s.heap.size z) hf).1
  refine lv_aload_n hx hb dL_law_880 rfl (lv_at hl 1 rfl) ?_
  refine lv_aload_n hx hb dL_law_881 rfl (lv_at hl 0 rfl) ?_
  refine lv_iload_n hx hb dL_law_882 rfl (lv_at hl 3 rfl) ?_
  refine lv_iconst (v := (1:Int32)) hx hb dL_law_883 (by decide) ?_
  refine lv_iadd hx hb dL_law_884 ?_
  refine va_sld hx hb hX hbl hbA hS (hin 1 (by decide) (by decide)) dL_law_885 ?_
  refine lv_aload_n hx hb dL_law_886 rfl (lv_at hl 0 rfl) ?_
  refine lv_iload_n hx hb dL_law_887 rfl (lv_at hl 3 rfl) ?_
  refine lv_iconst (v := (2:Int32)) hx hb dL_law_888 (by decide) ?_
  refine lv_iadd hx hb dL_law_889 ?_
  refine va_sld hx hb hX hbl hbA hS (hin 2 (by decide) (by decide)) dL_law_890 ?_
  refine LcallC (v := some (.int r)) (rest := []) hH hS (va_runV (C := RX0) (As := [.int (xs (i3 + 1).toNatClampNeg), .int (xs (i3 + 2).toNatClampNeg)]) ⟨hx, hb, hml, hown, hall⟩ (mX0_lies l (lE D dA T s.heap.size z) hf).2 (cwV 2 hall (lw_V q1040 q1041 q1042 q88 q1043) rfl rfl rfl (by decide +kernel) ⟨Nat.le_of_ble_eq_true rfl, Nat.le_of_ble_eq_true rfl⟩) (l_preV (ci := 1) hk hH hS hg2 rfl) rfl rfl hl.1 rfl (lv_room (Nat.le_of_ble_eq_true rfl)) dL_law_891 ⟨by show cells + _ ≤ 601024; have := hgr.1; omega, by show slots + _ ≤ 7293034; have := hgr.2; omega⟩) (fun H1 locs1 hH hS => ?_)
  refine lv_aload_n hx hb dL_law_894 rfl (lv_at hl 2 rfl) ?_
  refine lv_aload_n hx hb dL_law_895 rfl (lv_at hl 0 rfl) ?_
  refine lv_iload_n hx hb dL_law_896 rfl (lv_at hl 3 rfl) ?_
  refine lv_iconst (v := (1:Int32)) hx hb dL_law_897 (by decide) ?_
  refine lv_iadd hx hb dL_law_898 ?_
  refine va_sld hx hb hX hbl hbA hS (hin 1 (by decide) (by decide)) dL_law_899 ?_
  refine lv_aload_n hx hb dL_law_900 rfl (lv_at hl 0 rfl) ?_
  refine lv_iload_n hx hb dL_law_901 rfl (lv_at hl 3 rfl) ?_
  refine lv_iconst (v := (2:Int32)) hx hb dL_law_902 (by decide) ?_
  refine lv_iadd hx hb dL_law_903 ?_
  refine va_sld hx hb hX hbl hbA hS (hin 2 (by decide) (by decide)) dL_law_904 ?_
  refine LcallI (r := r) (rest := [.int r]) hk.1 hH hS (va_runV (C := RX4) (As := [.int (xs (i3 + 1).toNatClampNeg), .int (xs (i3 + 2).toNatClampNeg)]) ⟨hx, hb, hml, hown, hall⟩ (mX4_lies l D dA (adz z) hm) (cwV 2 hall (lw_V q1656 q1657 q1658 q95 q1659) rfl rfl rfl (by decide +kernel) ⟨Nat.le_of_ble_eq_true rfl, Nat.le_of_ble_eq_true rfl⟩) (l_preM hk hH) rfl rfl hl.1 rfl (lv_room (Nat.le_of_ble_eq_true rfl)) dL_law_905 ⟨by show cells + _ + 0 ≤ 601024; have := hgr.1; omega, by show slots + _ + 0 ≤ 7293034; have := hgr.2; omega⟩) (fun H2 locs2 hH hz2 hS => ?_)
  refine lv_icmp_eq (tgt := 1226) hx hb dL_law_908 (by decide) (fun _ => ?_) (fun h => absurd rfl h)
  exact hback _ _ _ _ _ _ hH (I.bump hR1 hz2) hS (by have := hgr.1; omega) (by have := hgr.2; omega)
set_option maxHeartbeats 4000000 in
set_option maxRecDepth 100000 in
theorem law_fine {p : Program} {e : Env} {s : State} {m : MethodId} {below : List Frame} {meth : Method} {c : Code} {l : Launch} {b L : Nat} {xs : Nat → Int32} {D : va_G} {dA : Nat → ClassId} {T : Nat × Nat} {Tq : Tk} {z a0 : Nat} {Rel : CS → MS → Prop} (C0 : lw_At p s m meth c b L xs) (hk : kc (lE0 D dA T s.heap.size) s) (hMT : ∀ (U : State) (H : Heap), s.heap.size ≤ H.size → (∀ q : Nat, q < s.heap.size → H[q]? = s.heap[q]?) → U.heap = H → s.WarmedH U.vm → MT Tq (adz z) U) (I : LI T a0 Rel) {i3 : Int32} (hin : ∀ k : Int32, 0 ≤ k.toInt → k.toInt ≤ 4 → vp_in (i3 + k) L) {cells slots : Nat} (hce : cells + 9000 ≤ 601024) (hsl : slots + 100000 ≤ 7293034) {σ : CS} {mm : MS} {H : Heap} {locs : List Loc} {ls : Array Slot} (hH : LWP D dA T s.heap.size z σ mm H) (hR : Rel σ mm) (hS : va_S (fun q => s.heap.size ≤ q) s.heap H locs) (hl : lv_has ls 4 [(0, .ref b), (1, .ref a0), (2, .ref (adz z 0)), (3, .int i3)])
    (hback : ∀ (σ1 : CS) (mm1 : MS) (H1 : Heap) (locs1 : List Loc) (k n : Nat), LWP D dA T s.heap.size z σ1 mm1 H1 → Rel σ1 mm1 → va_S (fun q => s.heap.size ≤ q) s.heap H1 locs1 → k ≤ 9000 → n ≤ 100000 → W p l e room_1 s m #[Value.ref b] below meth c H1 locs1 (cells + k) (slots + n) (lw_Z below #[Value.ref b] s) (F0 m 1226 ls [])) : W p l e room_1 s m #[Value.ref b] below meth c H locs cells slots (lw_Z below #[Value.ref b] s) (F0 m 913 ls []) := by
  obtain ⟨hx, hb, hr, hml, hown, hts, hX, hbl, hlocks, hgv⟩ := C0
  have hbA : ¬ s.heap.size ≤ b := Nat.not_le.mpr hbl
  have hall : ∀ w ∈ lw_all, w.before #[Value.ref b] s = true := fun w h => hts w (lw_all_tbl h)
  have hg2 := I.obj hR
  obtain ⟨r, σ1, mm1, hf, hm, hR1, hgr⟩ := I.x_fine hR (xs (i3 + 1).toNatClampNeg) (xs (i3 + 2).toNatClampNeg)
  have hmono := (mX0_fine l (lE D dA T s.heap.size z) hf).1
  refine lv_aload_n hx hb dL_law_913 rfl (lv_at hl 1 rfl) ?_
  refine lv_aload_n hx hb dL_law_914 rfl (lv_at hl 0 rfl) ?_
  refine lv_iload_n hx hb dL_law_915 rfl (lv_at hl 3 rfl) ?_
  refine lv_iconst (v := (1:Int32)) hx hb dL_law_916 (by decide) ?_
  refine lv_iadd hx hb dL_law_917 ?_
  refine va_sld hx hb hX hbl hbA hS (hin 1 (by decide) (by decide)) dL_law_918 ?_
  refine lv_aload_n hx hb dL_law_919 rfl (lv_at hl 0 rfl) ?_
  refine lv_iload_n hx hb dL_law_920 rfl (lv_at hl 3 rfl) ?_
  refine lv_iconst (v := (2:Int32)) hx hb dL_law_921 (by decide) ?_
  refine lv_iadd hx hb dL_law_922 ?_
  refine va_sld hx hb hX hbl hbA hS (hin 2 (by decide) (by decide)) dL_law_923 ?_
  refine LcallC (v := some (.int r)) (rest := []) hH hS (va_runV (C := RX0) (As := [.int (xs (i3 + 1).toNatClampNeg), .int (xs (i3 + 2).toNatClampNeg)]) ⟨hx, hb, hml, hown, hall⟩ (mX0_fine l (lE D dA T s.heap.size z) hf).2 (cwV 2 hall (lw_V q1049 q1050 q1051 q88 q1052) rfl rfl rfl (by decide +kernel) ⟨Nat.le_of_ble_eq_true rfl, Nat.le_of_ble_eq_true rfl⟩) (l_preV (ci := 1) hk hH hS hg2 rfl) rfl rfl hl.1 rfl (lv_room (Nat.le_of_ble_eq_true rfl)) dL_law_924 ⟨by show cells + _ ≤ 601024; have := hgr.1; omega, by show slots + _ ≤ 7293034; have := hgr.2; omega⟩) (fun H1 locs1 hH hS => ?_)
  refine lv_aload_n hx hb dL_law_927 rfl (lv_at hl 2 rfl) ?_
  refine lv_aload_n hx hb dL_law_928 rfl (lv_at hl 0 rfl) ?_
  refine lv_iload_n hx hb dL_law_929 rfl (lv_at hl 3 rfl) ?_
  refine lv_iconst (v := (1:Int32)) hx hb dL_law_930 (by decide) ?_
  refine lv_iadd hx hb dL_law_931 ?_
  refine va_sld hx hb hX hbl hbA hS (hin 1 (by decide) (by decide)) dL_law_932 ?_
  refine lv_aload_n hx hb dL_law_933 rfl (lv_at hl 0 rfl) ?_
  refine lv_iload_n hx hb dL_law_934 rfl (lv_at hl 3 rfl) ?_
  refine lv_iconst (v := (2:Int32)) hx hb dL_law_935 (by decide) ?_
  refine lv_iadd hx hb dL_law_936 ?_
  refine va_sld hx hb hX hbl hbA hS (hin 2 (by decide) (by decide)) dL_law_937 ?_
  refine LcallI (r := r) (rest := [.int r]) hk.1 hH hS (va_runV (C := RX4) (As := [.int (xs (i3 + 1).toNatClampNeg), .int (xs (i3 + 2).toNatClampNeg)]) ⟨hx, hb, hml, hown, hall⟩ (mX4_fine l D dA (adz z) hm) (cwV 2 hall (lw_V q1664 q1665 q1666 q95 q1667) rfl rfl rfl (by decide +kernel) ⟨Nat.le_of_ble_eq_true rfl, Nat.le_of_ble_eq_true rfl⟩) (l_preM hk hH) rfl rfl hl.1 rfl (lv_room (Nat.le_of_ble_eq_true rfl)) dL_law_938 ⟨by show cells + _ + 0 ≤ 601024; have := hgr.1; omega, by show slots + _ + 0 ≤ 7293034; have := hgr.2; omega⟩) (fun H2 locs2 hH hz2 hS => ?_)
  refine lv_icmp_eq (tgt := 1226) hx hb dL_law_941 (by decide) (fun _ => ?_) (fun h => absurd rfl h)
  exact hback _ _ _ _ _ _ hH (I.bump hR1 hz2) hS (by have := hgr.1; omega) (by have := hgr.2; omega)
set_option maxHeartbeats 4000000 in
set_option maxRecDepth 100000 in
theorem law_rest {p : Program} {e : Env} {s : State} {m : MethodId} {below : List Frame} {meth : Method} {c : Code} {l : Launch} {b L : Nat} {xs : Nat → Int32} {D : va_G} {dA : Nat → ClassId} {T : Nat × Nat} {Tq : Tk} {z a0 : Nat} {Rel : CS → MS → Prop} (C0 : lw_At p s m meth c b L xs) (hk : kc (lE0 D dA T s.heap.size) s) (hMT : ∀ (U : State) (H : Heap), s.heap.size ≤ H.size → (∀ q : Nat, q < s.heap.size → H[q]? = s.heap[q]?) → U.heap = H → s.WarmedH U.vm → MT Tq (adz z) U) (I : LI T a0 Rel) {i3 : Int32} (hin : ∀ k : Int32, 0 ≤ k.toInt → k.toInt ≤ 4 → vp_in (i3 + k) L) {cells slots : Nat} (hce : cells + 9000 ≤ 601024) (hsl : slots + 100000 ≤ 7293034) {σ : CS} {mm : MS} {H : Heap} {locs : List Loc} {ls : Array Slot} (hH : LWP D dA T s.heap.size z σ mm H) (hR : Rel σ mm) (hS : va_S (fun q => s.heap.size ≤ q) s.heap H locs) (hl : lv_has ls 4 [(0, .ref b), (1, .ref a0), (2, .ref (adz z 0)), (3, .int i3)])
    (hback : ∀ (σ1 : CS) (mm1 : MS) (H1 : Heap) (locs1 : List Loc) (k n : Nat), LWP D dA T s.heap.size z σ1 mm1 H1 → Rel σ1 mm1 → va_S (fun q => s.heap.size ≤ q) s.heap H1 locs1 → k ≤ 9000 → n ≤ 100000 → W p l e room_1 s m #[Value.ref b] below meth c H1 locs1 (cells + k) (slots + n) (lw_Z below #[Value.ref b] s) (F0 m 1226 ls [])) : W p l e room_1 s m #[Value.ref b] below meth c H locs cells slots (lw_Z below #[Value.ref b] s) (F0 m 946 ls []) := by
  obtain ⟨hx, hb, hr, hml, hown, hts, hX, hbl, hlocks, hgv⟩ := C0
  have hbA : ¬ s.heap.size ≤ b := Nat.not_le.mpr hbl
  have hall : ∀ w ∈ lw_all, w.before #[Value.ref b] s = true := fun w h => hts w (lw_all_tbl h)
  have hg2 := I.obj hR
  obtain ⟨r, σ1, mm1, hf, hm, hR1, hgr⟩ := I.x_rest hR (xs (i3 + 1).toNatClampNeg) (xs (i3 + 2).toNatClampNeg) (xs (i3 + 3).toNatClampNeg)
  have hmono := (mX0_rest l (lE D dA T s.heap.size z) hf).1
  refine lv_aload_n hx hb dL_law_946 rfl (lv_at hl 1 rfl) ?_
  refine lv_aload_n hx hb dL_law_947 rfl (lv_at hl 0 rfl) ?_
  refine lv_iload_n hx hb dL_law_948 rfl (lv_at hl 3 rfl) ?_
  refine lv_iconst (v := (1:Int32)) hx hb dL_law_949 (by decide) ?_
  refine lv_iadd hx hb dL_law_950 ?_
  refine va_sld hx hb hX hbl hbA hS (hin 1 (by decide) (by decide)) dL_law_951 ?_
  refine lv_aload_n hx hb dL_law_952 rfl (lv_at hl 0 rfl) ?_
  refine lv_iload_n hx hb dL_law_953 rfl (lv_at hl 3 rfl) ?_
  refine lv_iconst (v := (2:Int32)) hx hb dL_law_954 (by decide) ?_
  refine lv_iadd hx hb dL_law_955 ?_
  refine va_sld hx hb hX hbl hbA hS (hin 2 (by decide) (by decide)) dL_law_956 ?_
  refine lv_aload_n hx hb dL_law_957 rfl (lv_at hl 0 rfl) ?_
  refine lv_iload_n hx hb dL_law_958 rfl (lv_at hl 3 rfl) ?_
  refine lv_iconst (v := (3:Int32)) hx hb dL_law_959 (by decide) ?_
  refine lv_iadd hx hb dL_law_960 ?_
  refine va_sld hx hb hX hbl hbA hS (hin 3 (by decide) (by decide)) dL_law_961 ?_
  refine LcallC (v := some (.int r)) (rest := []) hH hS (va_runV (C := RX0) (As := [.int (xs (i3 + 1).toNatClampNeg), .int (xs (i3 + 2).toNatClampNeg), .int (xs (i3 + 3).toNatClampNeg)]) ⟨hx, hb, hml, hown, hall⟩ (mX0_rest l (lE D dA T s.heap.size z) hf).2 (cwV 3 hall (lw_V q1056 q1057 q1058 q88 q1059) rfl rfl rfl (by decide +kernel) ⟨Nat.le_of_ble_eq_true rfl, Nat.le_of_ble_eq_true rfl⟩) (l_preV (ci := 1) hk hH hS hg2 rfl) rfl rfl hl.1 rfl (lv_room (Nat.le_of_ble_eq_true rfl)) dL_law_962 ⟨by show cells + _ ≤ 601024; have := hgr.1; omega, by show slots + _ ≤ 7293034; have := hgr.2; omega⟩) (fun H1 locs1 hH hS => ?_)
  refine lv_aload_n hx hb dL_law_965 rfl (lv_at hl 2 rfl) ?_
  refine lv_aload_n hx hb dL_law_966 rfl (lv_at hl 0 rfl) ?_
  refine lv_iload_n hx hb dL_law_967 rfl (lv_at hl 3 rfl) ?_
  refine lv_iconst (v := (1:Int32)) hx hb dL_law_968 (by decide) ?_
  refine lv_iadd hx hb dL_law_969 ?_
  refine va_sld hx hb hX hbl hbA hS (hin 1 (by decide) (by decide)) dL_law_970 ?_
  refine lv_aload_n hx hb dL_law_971 rfl (lv_at hl 0 rfl) ?_
  refine lv_iload_n hx hb dL_law_972 rfl (lv_at hl 3 rfl) ?_
  refine lv_iconst (v := (2:Int32)) hx hb dL_law_973 (by decide) ?_
  refine lv_iadd hx hb dL_law_974 ?_
  refine va_sld hx hb hX hbl hbA hS (hin 2 (by decide) (by decide)) dL_law_975 ?_
  refine lv_aload_n hx hb dL_law_976 rfl (lv_at hl 0 rfl) ?_
  refine lv_iload_n hx hb dL_law_977 rfl (lv_at hl 3 rfl) ?_
  refine lv_iconst (v := (3:Int32)) hx hb dL_law_978 (by decide) ?_
  refine lv_iadd hx hb dL_law_979 ?_
  refine va_sld hx hb hX hbl hbA hS (hin 3 (by decide) (by decide)) dL_law_980 ?_
  refine LcallI (r := r) (rest := [.int r]) hk.1 hH hS (va_runV (C := RX4) (As := [.int (xs (i3 + 1).toNatClampNeg), .int (xs (i3 + 2).toNatClampNeg), .int (xs (i3 + 3).toNatClampNeg)]) ⟨hx, hb, hml, hown, hall⟩ (mX4_rest l D dA (adz z) hm) (cwV 3 hall (lw_V q1671 q1672 q1673 q95 q1674) rfl rfl rfl (by decide +kernel) ⟨Nat.le_of_ble_eq_true rfl, Nat.le_of_ble_eq_true rfl⟩) (l_preM hk hH) rfl rfl hl.1 rfl (lv_room (Nat.le_of_ble_eq_true rfl)) dL_law_981 ⟨by show cells + _ + 0 ≤ 601024; have := hgr.1; omega, by show slots + _ + 0 ≤ 7293034; have := hgr.2; omega⟩) (fun H2 locs2 hH hz2 hS => ?_)
  refine lv_icmp_eq (tgt := 1226) hx hb dL_law_984 (by decide) (fun _ => ?_) (fun h => absurd rfl h)
  exact hback _ _ _ _ _ _ hH (I.bump hR1 hz2) hS (by have := hgr.1; omega) (by have := hgr.2; omega)
set_option maxHeartbeats 4000000 in
set_option maxRecDepth 100000 in
theorem law_matter {p : Program} {e : Env} {s : State} {m : MethodId} {below : List Frame} {meth : Method} {c : Code} {l : Launch} {b L : Nat} {xs : Nat → Int32} {D : va_G} {dA : Nat → ClassId} {T : Nat × Nat} {Tq : Tk} {z a0 : Nat} {Rel : CS → MS → Prop} (C0 : lw_At p s m meth c b L xs) (hk : kc (lE0 D dA T s.heap.size) s) (hMT : ∀ (U : State) (H : Heap), s.heap.size ≤ H.size → (∀ q : Nat, q < s.heap.size → H[q]? = s.heap[q]?) → U.heap = H → s.WarmedH U.vm → MT Tq (adz z) U) (I : LI T a0 Rel) {i3 : Int32} (hin : ∀ k : Int32, 0 ≤ k.toInt → k.toInt ≤ 4 → vp_in (i3 + k) L) {cells slots : Nat} (hce : cells + 9000 ≤ 601024) (hsl : slots + 100000 ≤ 7293034) {σ : CS} {mm : MS} {H : Heap} {locs : List Loc} {ls : Array Slot} (hH : LWP D dA T s.heap.size z σ mm H) (hR : Rel σ mm) (hS : va_S (fun q => s.heap.size ≤ q) s.heap H locs) (hl : lv_has ls 4 [(0, .ref b), (1, .ref a0), (2, .ref (adz z 0)), (3, .int i3)])
    (hback : ∀ (σ1 : CS) (mm1 : MS) (H1 : Heap) (locs1 : List Loc) (k n : Nat), LWP D dA T s.heap.size z σ1 mm1 H1 → Rel σ1 mm1 → va_S (fun q => s.heap.size ≤ q) s.heap H1 locs1 → k ≤ 9000 → n ≤ 100000 → W p l e room_1 s m #[Value.ref b] below meth c H1 locs1 (cells + k) (slots + n) (lw_Z below #[Value.ref b] s) (F0 m 1226 ls [])) : W p l e room_1 s m #[Value.ref b] below meth c H locs cells slots (lw_Z below #[Value.ref b] s) (F0 m 989 ls []) := by
  obtain ⟨hx, hb, hr, hml, hown, hts, hX, hbl, hlocks, hgv⟩ := C0
  have hbA : ¬ s.heap.size ≤ b := Nat.not_le.mpr hbl
  have hall : ∀ w ∈ lw_all, w.before #[Value.ref b] s = true := fun w h => hts w (lw_all_tbl h)
  have hg2 := I.obj hR
  obtain ⟨r, σ1, mm1, hf, hm, hR1, hgr⟩ := I.x_matter hR (xs (i3 + 1).toNatClampNeg)
  have hmono := (mX0_matter l (lE D dA T s.heap.size z) hf).1
  refine lv_aload_n hx hb dL_law_989 rfl (lv_at hl 1 rfl) ?_
  refine lv_aload_n hx hb dL_law_990 rfl (lv_at hl 0 rfl) ?_
  refine lv_iload_n hx hb dL_law_991 rfl (lv_at hl 3 rfl) ?_
  refine lv_iconst (v := (1:Int32)) hx hb dL_law_992 (by decide) ?_
  refine lv_iadd hx hb dL_law_993 ?_
  refine va_sld hx hb hX hbl hbA hS (hin 1 (by decide) (by decide)) dL_law_994 ?_
  refine LcallC (v := some (.int r)) (rest := []) hH hS (va_runV (C := RX0) (As := [.int (xs (i3 + 1).toNatClampNeg)]) ⟨hx, hb, hml, hown, hall⟩ (mX0_matter l (lE D dA T s.heap.size z) hf).2 (cwV 1 hall (lw_V q1074 q1075 q1076 q88 q1077) rfl rfl rfl (by decide +kernel) ⟨Nat.le_of_ble_eq_true rfl, Nat.le_of_ble_eq_true rfl⟩) (l_preV (ci := 1) hk hH hS hg2 rfl) rfl rfl hl.1 rfl (lv_room (Nat.le_of_ble_eq_true rfl)) dL_law_995 ⟨by show cells + _ ≤ 601024; have := hgr.1; omega, by show slots + _ ≤ 7293034; have := hgr.2; omega⟩) (fun H1 locs1 hH hS => ?_)
  refine lv_aload_n hx hb dL_law_998 rfl (lv_at hl 2 rfl) ?_
  refine lv_aload_n hx hb dL_law_999 rfl (lv_at hl 0 rfl) ?_
  refine lv_iload_n hx hb dL_law_1000 rfl (lv_at hl 3 rfl) ?_
  refine lv_iconst (v := (1:Int32)) hx hb dL_law_1001 (by decide) ?_
  refine lv_iadd hx hb dL_law_1002 ?_
  refine va_sld hx hb hX hbl hbA hS (hin 1 (by decide) (by decide)) dL_law_1003 ?_
  refine LcallI (r := r) (rest := [.int r]) hk.1 hH hS (va_runV (C := RX4) (As := [.int (xs (i3 + 1).toNatClampNeg)]) ⟨hx, hb, hml, hown, hall⟩ (mX4_matter l D dA (adz z) hm) (cwV 1 hall (lw_V q1687 q1688 q1689 q95 q1690) rfl rfl rfl (by decide +kernel) ⟨Nat.le_of_ble_eq_true rfl, Nat.le_of_ble_eq_true rfl⟩) (l_preM hk hH) rfl rfl hl.1 rfl (lv_room (Nat.le_of_ble_eq_true rfl)) dL_law_1004 ⟨by show cells + _ + 0 ≤ 601024; have := hgr.1; omega, by show slots + _ + 0 ≤ 7293034; have := hgr.2; omega⟩) (fun H2 locs2 hH hz2 hS => ?_)
  refine lv_icmp_eq (tgt := 1226) hx hb dL_law_1007 (by decide) (fun _ => ?_) (fun h => absurd rfl h)
  exact hback _ _ _ _ _ _ hH (I.bump hR1 hz2) hS (by have := hgr.1; omega) (by have := hgr.2; omega)
set_option maxHeartbeats 4000000 in
set_option maxRecDepth 100000 in
theorem law_edge {p : Program} {e : Env} {s : State} {m : MethodId} {below : List Frame} {meth : Method} {c : Code} {l : Launch} {b L : Nat} {xs : Nat → Int32} {D : va_G} {dA : Nat → ClassId} {T : Nat × Nat} {Tq : Tk} {z a0 : Nat} {Rel : CS → MS → Prop} (C0 : lw_At p s m meth c b L xs) (hk : kc (lE0 D dA T s.heap.size) s) (hMT : ∀ (U : State) (H : Heap), s.heap.size ≤ H.size → (∀ q : Nat, q < s.heap.size → H[q]? = s.heap[q]?) → U.heap = H → s.WarmedH U.vm → MT Tq (adz z) U) (I : LI T a0 Rel) {i3 : Int32} (hin : ∀ k : Int32, 0 ≤ k.toInt → k.toInt ≤ 4 → vp_in (i3 + k) L) {cells slots : Nat} (hce : cells + 9000 ≤ 601024) (hsl : slots + 100000 ≤ 7293034) {σ : CS} {mm : MS} {H : Heap} {locs : List Loc} {ls : Array Slot} (hH : LWP D dA T s.heap.size z σ mm H) (hR : Rel σ mm) (hS : va_S (fun q => s.heap.size ≤ q) s.heap H locs) (hl : lv_has ls 4 [(0, .ref b), (1, .ref a0), (2, .ref (adz z 0)), (3, .int i3)])
    (hback : ∀ (σ1 : CS) (mm1 : MS) (H1 : Heap) (locs1 : List Loc) (k n : Nat), LWP D dA T s.heap.size z σ1 mm1 H1 → Rel σ1 mm1 → va_S (fun q => s.heap.size ≤ q) s.heap H1 locs1 → k ≤ 9000 → n ≤ 100000 → W p l e room_1 s m #[Value.ref b] below meth c H1 locs1 (cells + k) (slots + n) (lw_Z below #[Value.ref b] s) (F0 m 1226 ls [])) : W p l e room_1 s m #[Value.ref b] below meth c H locs cells slots (lw_Z below #[Value.ref b] s) (F0 m 1012 ls []) := by
  obtain ⟨hx, hb, hr, hml, hown, hts, hX, hbl, hlocks, hgv⟩ := C0
  have hbA : ¬ s.heap.size ≤ b := Nat.not_le.mpr hbl
  have hall : ∀ w ∈ lw_all, w.before #[Value.ref b] s = true := fun w h => hts w (lw_all_tbl h)
  have hg2 := I.obj hR
  obtain ⟨r, σ1, mm1, hf, hm, hR1, hgr⟩ := I.x_edge hR (xs (i3 + 1).toNatClampNeg)
  have hmono := (mX0_edge l (lE D dA T s.heap.size z) hf).1
  refine lv_aload_n hx hb dL_law_1012 rfl (lv_at hl 1 rfl) ?_
  refine lv_aload_n hx hb dL_law_1013 rfl (lv_at hl 0 rfl) ?_
  refine lv_iload_n hx hb dL_law_1014 rfl (lv_at hl 3 rfl) ?_
  refine lv_iconst (v := (1:Int32)) hx hb dL_law_1015 (by decide) ?_
  refine lv_iadd hx hb dL_law_1016 ?_
  refine va_sld hx hb hX hbl hbA hS (hin 1 (by decide) (by decide)) dL_law_1017 ?_
  refine LcallC (v := some (.int r)) (rest := []) hH hS (va_runV (C := RX0) (As := [.int (xs (i3 + 1).toNatClampNeg)]) ⟨hx, hb, hml, hown, hall⟩ (mX0_edge l (lE D dA T s.heap.size z) hf).2 (cwV 1 hall (lw_V q1078 q1079 q1080 q88 q1081) rfl rfl rfl (by decide +kernel) ⟨Nat.le_of_ble_eq_true rfl, Nat.le_of_ble_eq_true rfl⟩) (l_preV (ci := 1) hk hH hS hg2 rfl) rfl rfl hl.1 rfl (lv_room (Nat.le_of_ble_eq_true rfl)) dL_law_1018 ⟨by show cells + _ ≤ 601024; have := hgr.1; omega, by show slots + _ ≤ 7293034; have := hgr.2; omega⟩) (fun H1 locs1 hH hS => ?_)
  refine lv_aload_n hx hb dL_law_1021 rfl (lv_at hl 2 rfl) ?_
  refine lv_aload_n hx hb dL_law_1022 rfl (lv_at hl 0 rfl) ?_
  refine lv_iload_n hx hb dL_law_1023 rfl (lv_at hl 3 rfl) ?_
  refine lv_iconst (v := (1:Int32)) hx hb dL_law_1024 (by decide) ?_
  refine lv_iadd hx hb dL_law_1025 ?_
  refine va_sld hx hb hX hbl hbA hS (hin 1 (by decide) (by decide)) dL_law_1026 ?_
  refine LcallI (r := r) (rest := [.int r]) hk.1 hH hS (va_runV (C := RX4) (As := [.int (xs (i3 + 1).toNatClampNeg)]) ⟨hx, hb, hml, hown, hall⟩ (mX4_edge l D dA (adz z) hm) (cwV 1 hall (lw_V q1691 q1692 q1693 q95 q1694) rfl rfl rfl (by decide +kernel) ⟨Nat.le_of_ble_eq_true rfl, Nat.le_of_ble_eq_true rfl⟩) (l_preM hk hH) rfl rfl hl.1 rfl (lv_room (Nat.le_of_ble_eq_true rfl)) dL_law_1027 ⟨by show cells + _ + 0 ≤ 601024; have := hgr.1; omega, by show slots + _ + 0 ≤ 7293034; have := hgr.2; omega⟩) (fun H2 locs2 hH hz2 hS => ?_)
  refine lv_icmp_eq (tgt := 1226) hx hb dL_law_1030 (by decide) (fun _ => ?_) (fun h => absurd rfl h)
  exact hback _ _ _ _ _ _ hH (I.bump hR1 hz2) hS (by have := hgr.1; omega) (by have := hgr.2; omega)
set_option maxHeartbeats 4000000 in
set_option maxRecDepth 100000 in
theorem law_run {p : Program} {e : Env} {s : State} {m : MethodId} {below : List Frame} {meth : Method} {c : Code} {l : Launch} {b L : Nat} {xs : Nat → Int32} {D : va_G} {dA : Nat → ClassId} {T : Nat × Nat} {Tq : Tk} {z a0 : Nat} {Rel : CS → MS → Prop} (C0 : lw_At p s m meth c b L xs) (hk : kc (lE0 D dA T s.heap.size) s) (hMT : ∀ (U : State) (H : Heap), s.heap.size ≤ H.size → (∀ q : Nat, q < s.heap.size → H[q]? = s.heap[q]?) → U.heap = H → s.WarmedH U.vm → MT Tq (adz z) U) (I : LI T a0 Rel) {i3 : Int32} (hin : ∀ k : Int32, 0 ≤ k.toInt → k.toInt ≤ 4 → vp_in (i3 + k) L) {cells slots : Nat} (hce : cells + 9000 ≤ 601024) (hsl : slots + 100000 ≤ 7293034) {σ : CS} {mm : MS} {H : Heap} {locs : List Loc} {ls : Array Slot} (hH : LWP D dA T s.heap.size z σ mm H) (hR : Rel σ mm) (hS : va_S (fun q => s.heap.size ≤ q) s.heap H locs) (hl : lv_has ls 4 [(0, .ref b), (1, .ref a0), (2, .ref (adz z 0)), (3, .int i3)])
    (hback : ∀ (σ1 : CS) (mm1 : MS) (H1 : Heap) (locs1 : List Loc) (k n : Nat), LWP D dA T s.heap.size z σ1 mm1 H1 → Rel σ1 mm1 → va_S (fun q => s.heap.size ≤ q) s.heap H1 locs1 → k ≤ 9000 → n ≤ 100000 → W p l e room_1 s m #[Value.ref b] below meth c H1 locs1 (cells + k) (slots + n) (lw_Z below #[Value.ref b] s) (F0 m 1226 ls [])) : W p l e room_1 s m #[Value.ref b] below meth c H locs cells slots (lw_Z below #[Value.ref b] s) (F0 m 1035 ls []) := by
  obtain ⟨hx, hb, hr, hml, hown, hts, hX, hbl, hlocks, hgv⟩ := C0
  have hbA : ¬ s.heap.size ≤ b := Nat.not_le.mpr hbl
  have hall : ∀ w ∈ lw_all, w.before #[Value.ref b] s = true := fun w h => hts w (lw_all_tbl h)
  have hg2 := I.obj hR
  obtain ⟨r, σ1, mm1, hf, hm, hR1, hgr⟩ := I.x_run hR (xs (i3 + 1).toNatClampNeg) (xs (i3 + 2).toNatClampNeg) (xs (i3 + 3).toNatClampNeg)
  have hmono := (mX0_run l (lE D dA T s.heap.size z) hf).1
  refine lv_aload_n hx hb dL_law_1035 rfl (lv_at hl 1 rfl) ?_
  refine lv_aload_n hx hb dL_law_1036 rfl (lv_at hl 0 rfl) ?_
  refine lv_iload_n hx hb dL_law_1037 rfl (lv_at hl 3 rfl) ?_
  refine lv_iconst (v := (1:Int32)) hx hb dL_law_1038 (by decide) ?_
  refine lv_iadd hx hb dL_law_1039 ?_
  refine va_sld hx hb hX hbl hbA hS (hin 1 (by decide) (by decide)) dL_law_1040 ?_
  refine lv_aload_n hx hb dL_law_1041 rfl (lv_at hl 0 rfl) ?_
  refine lv_iload_n hx hb dL_law_1042 rfl (lv_at hl 3 rfl) ?_
  refine lv_iconst (v := (2:Int32)) hx hb dL_law_1043 (by decide) ?_
  refine lv_iadd hx hb dL_law_1044 ?_
  refine va_sld hx hb hX hbl hbA hS (hin 2 (by decide) (by decide)) dL_law_1045 ?_
  refine lv_aload_n hx hb dL_law_1046 rfl (lv_at hl 0 rfl) ?_
  refine lv_iload_n hx hb dL_law_1047 rfl (lv_at hl 3 rfl) ?_
  refine lv_iconst (v := (3:Int32)) hx hb dL_law_1048 (by decide) ?_
  refine lv_iadd hx hb dL_law_1049 ?_
  refine va_sld hx hb hX hbl hbA hS (hin 3 (by decide) (by decide)) dL_law_1050 ?_
  refine LcallC (v := some (.int r)) (rest := []) hH hS (va_runV (C := RX0) (As := [.int (xs (i3 + 1).toNatClampNeg), .int (xs (i3 + 2).toNatClampNeg), .int (xs (i3 + 3).toNatClampNeg)]) ⟨hx, hb, hml, hown, hall⟩ (mX0_run l (lE D dA T s.heap.size z) hf).2 (cwV 3 hall (lw_V q1086 q1087 q1088 q88 q1089) rfl rfl rfl (by decide +kernel) ⟨Nat.le_of_ble_eq_true rfl, Nat.le_of_ble_eq_true rfl⟩) (l_preV (ci := 1) hk hH hS hg2 rfl) rfl rfl hl.1 rfl (lv_room (Nat.le_of_ble_eq_true rfl)) dL_law_1051 ⟨by show cells + _ ≤ 601024; have := hgr.1; omega, by show slots + _ ≤ 7293034; have := hgr.2; omega⟩) (fun H1 locs1 hH hS => ?_)
  refine lv_aload_n hx hb dL_law_1054 rfl (lv_at hl 2 rfl) ?_
  refine lv_aload_n hx hb dL_law_1055 rfl (lv_at hl 0 rfl) ?_
  refine lv_iload_n hx hb dL_law_1056 rfl (lv_at hl 3 rfl) ?_
  refine lv_iconst (v := (1:Int32)) hx hb dL_law_1057 (by decide) ?_
  refine lv_iadd hx hb dL_law_1058 ?_
  refine va_sld hx hb hX hbl hbA hS (hin 1 (by decide) (by decide)) dL_law_1059 ?_
  refine lv_aload_n hx hb dL_law_1060 rfl (lv_at hl 0 rfl) ?_
  refine lv_iload_n hx hb dL_law_1061 rfl (lv_at hl 3 rfl) ?_
  refine lv_iconst (v := (2:Int32)) hx hb dL_law_1062 (by decide) ?_
  refine lv_iadd hx hb dL_law_1063 ?_
  refine va_sld hx hb hX hbl hbA hS (hin 2 (by decide) (by decide)) dL_law_1064 ?_
  refine lv_aload_n hx hb dL_law_1065 rfl (lv_at hl 0 rfl) ?_
  refine lv_iload_n hx hb dL_law_1066 rfl (lv_at hl 3 rfl) ?_
  refine lv_iconst (v := (3:Int32)) hx hb dL_law_1067 (by decide) ?_
  refine lv_iadd hx hb dL_law_1068 ?_
  refine va_sld hx hb hX hbl hbA hS (hin 3 (by decide) (by decide)) dL_law_1069 ?_
  refine LcallI (r := r) (rest := [.int r]) hk.1 hH hS (va_runV (C := RX4) (As := [.int (xs (i3 + 1).toNatClampNeg), .int (xs (i3 + 2).toNatClampNeg), .int (xs (i3 + 3).toNatClampNeg)]) ⟨hx, hb, hml, hown, hall⟩ (mX4_run l D dA (adz z) hm) (cwV 3 hall (lw_V q1695 q1696 q1697 q95 q1698) rfl rfl rfl (by decide +kernel) ⟨Nat.le_of_ble_eq_true rfl, Nat.le_of_ble_eq_true rfl⟩) (l_preM hk hH) rfl rfl hl.1 rfl (lv_room (Nat.le_of_ble_eq_true rfl)) dL_law_1070 ⟨by show cells + _ + 0 ≤ 601024; have := hgr.1; omega, by show slots + _ + 0 ≤ 7293034; have := hgr.2; omega⟩) (fun H2 locs2 hH hz2 hS => ?_)
  refine lv_icmp_eq (tgt := 1226) hx hb dL_law_1073 (by decide) (fun _ => ?_) (fun h => absurd rfl h)
  exact hback _ _ _ _ _ _ hH (I.bump hR1 hz2) hS (by have := hgr.1; omega) (by have := hgr.2; omega)
set_option maxHeartbeats 4000000 in
set_option maxRecDepth 100000 in
theorem law_act {p : Program} {e : Env} {s : State} {m : MethodId} {below : List Frame} {meth : Method} {c : Code} {l : Launch} {b L : Nat} {xs : Nat → Int32} {D : va_G} {dA : Nat → ClassId} {T : Nat × Nat} {Tq : Tk} {z a0 : Nat} {Rel : CS → MS → Prop} (C0 : lw_At p s m meth c b L xs) (hk : kc (lE0 D dA T s.heap.size) s) (hMT : ∀ (U : State) (H : Heap), s.heap.size ≤ H.size → (∀ q : Nat, q < s.heap.size → H[q]? = s.heap[q]?) → U.heap = H → s.WarmedH U.vm → MT Tq (adz z) U) (I : LI T a0 Rel) {i3 : Int32} (hin : ∀ k : Int32, 0 ≤ k.toInt → k.toInt ≤ 4 → vp_in (i3 + k) L) {cells slots : Nat} (hce : cells + 9000 ≤ 601024) (hsl : slots + 100000 ≤ 7293034) {σ : CS} {mm : MS} {H : Heap} {locs : List Loc} {ls : Array Slot} (hH : LWP D dA T s.heap.size z σ mm H) (hR : Rel σ mm) (hS : va_S (fun q => s.heap.size ≤ q) s.heap H locs) (hl : lv_has ls 4 [(0, .ref b), (1, .ref a0), (2, .ref (adz z 0)), (3, .int i3)])
    (hback : ∀ (σ1 : CS) (mm1 : MS) (H1 : Heap) (locs1 : List Loc) (k n : Nat), LWP D dA T s.heap.size z σ1 mm1 H1 → Rel σ1 mm1 → va_S (fun q => s.heap.size ≤ q) s.heap H1 locs1 → k ≤ 9000 → n ≤ 100000 → W p l e room_1 s m #[Value.ref b] below meth c H1 locs1 (cells + k) (slots + n) (lw_Z below #[Value.ref b] s) (F0 m 1226 ls [])) : W p l e room_1 s m #[Value.ref b] below meth c H locs cells slots (lw_Z below #[Value.ref b] s) (F0 m 1078 ls []) := by
  obtain ⟨hx, hb, hr, hml, hown, hts, hX, hbl, hlocks, hgv⟩ := C0
  have hbA : ¬ s.heap.size ≤ b := Nat.not_le.mpr hbl
  have hall : ∀ w ∈ lw_all, w.before #[Value.ref b] s = true := fun w h => hts w (lw_all_tbl h)
  have hg2 := I.obj hR
  obtain ⟨r, σ1, mm1, hf, hm, hR1, hgr⟩ := I.x_act hR (xs (i3 + 1).toNatClampNeg) (xs (i3 + 2).toNatClampNeg) (xs (i3 + 3).toNatClampNeg)
  have hmono := (mX0_act l (lE D dA T s.heap.size z) hf).1
  refine lv_aload_n hx hb dL_law_1078 rfl (lv_at hl 1 rfl) ?_
  refine lv_aload_n hx hb dL_law_1079 rfl (lv_at hl 0 rfl) ?_
  refine lv_iload_n hx hb dL_law_1080 rfl (lv_at hl 3 rfl) ?_
  refine lv_iconst (v := (1:Int32)) hx hb dL_law_1081 (by decide) ?_
  refine lv_iadd hx hb dL_law_1082 ?_
  refine va_sld hx hb hX hbl hbA hS (hin 1 (by decide) (by decide)) dL_law_1083 ?_
  refine lv_aload_n hx hb dL_law_1084 rfl (lv_at hl 0 rfl) ?_
  refine lv_iload_n hx hb dL_law_1085 rfl (lv_at hl 3 rfl) ?_
  refine lv_iconst (v := (2:Int32)) hx hb dL_law_1086 (by decide) ?_
  refine lv_iadd hx hb dL_law_1087 ?_
  refine va_sld hx hb hX hbl hbA hS (hin 2 (by decide) (by decide)) dL_law_1088 ?_
  refine lv_aload_n hx hb dL_law_1089 rfl (lv_at hl 0 rfl) ?_
  refine lv_iload_n hx hb dL_law_1090 rfl (lv_at hl 3 rfl) ?_
  refine lv_iconst (v := (3:Int32)) hx hb dL_law_1091 (by decide) ?_
  refine lv_iadd hx hb dL_law_1092 ?_
  refine va_sld hx hb hX hbl hbA hS (hin 3 (by decide) (by decide)) dL_law_1093 ?_
  refine LcallC (v := some (.int r)) (rest := []) hH hS (va_runV (C := RX0) (As := [.int (xs (i3 + 1).toNatClampNeg), .int (xs (i3 + 2).toNatClampNeg), .int (xs (i3 + 3).toNatClampNeg)]) ⟨hx, hb, hml, hown, hall⟩ (mX0_act l (lE D dA T s.heap.size z) hf).2 (cwV 3 hall (lw_V q1096 q1097 q1098 q88 q1099) rfl rfl rfl (by decide +kernel) ⟨Nat.le_of_ble_eq_true rfl, Nat.le_of_ble_eq_true rfl⟩) (l_preV (ci := 1) hk hH hS hg2 rfl) rfl rfl hl.1 rfl (lv_room (Nat.le_of_ble_eq_true rfl)) dL_law_1094 ⟨by show cells + _ ≤ 601024; have := hgr.1; omega, by show slots + _ ≤ 7293034; have := hgr.2; omega⟩) (fun H1 locs1 hH hS => ?_)
  refine lv_aload_n hx hb dL_law_1097 rfl (lv_at hl 2 rfl) ?_
  refine lv_aload_n hx hb dL_law_1098 rfl (lv_at hl 0 rfl) ?_
  refine lv_iload_n hx hb dL_law_1099 rfl (lv_at hl 3 rfl) ?_
  refine lv_iconst (v := (1:Int32)) hx hb dL_law_1100 (by decide) ?_
  refine lv_iadd hx hb dL_law_1101 ?_
  refine va_sld hx hb hX hbl hbA hS (hin 1 (by decide) (by decide)) dL_law_1102 ?_
  refine lv_aload_n hx hb dL_law_1103 rfl (lv_at hl 0 rfl) ?_
  refine lv_iload_n hx hb dL_law_1104 rfl (lv_at hl 3 rfl) ?_
  refine lv_iconst (v := (2:Int32)) hx hb dL_law_1105 (by decide) ?_
  refine lv_iadd hx hb dL_law_1106 ?_
  refine va_sld hx hb hX hbl hbA hS (hin 2 (by decide) (by decide)) dL_law_1107 ?_
  refine lv_aload_n hx hb dL_law_1108 rfl (lv_at hl 0 rfl) ?_
  refine lv_iload_n hx hb dL_law_1109 rfl (lv_at hl 3 rfl) ?_
  refine lv_iconst (v := (3:Int32)) hx hb dL_law_1110 (by decide) ?_
  refine lv_iadd hx hb dL_law_1111 ?_
  refine va_sld hx hb hX hbl hbA hS (hin 3 (by decide) (by decide)) dL_law_1112 ?_
  refine LcallI (r := r) (rest := [.int r]) hk.1 hH hS (va_runV (C := RX4) (As := [.int (xs (i3 + 1).toNatClampNeg), .int (xs (i3 + 2).toNatClampNeg), .int (xs (i3 + 3).toNatClampNeg)]) ⟨hx, hb, hml, hown, hall⟩ (mX4_act l D dA (adz z) hm) (cwV 3 hall (lw_V q1699 q1700 q1701 q95 q1702) rfl rfl rfl (by decide +kernel) ⟨Nat.le_of_ble_eq_true rfl, Nat.le_of_ble_eq_true rfl⟩) (l_preM hk hH) rfl rfl hl.1 rfl (lv_room (Nat.le_of_ble_eq_true rfl)) dL_law_1113 ⟨by show cells + _ + 0 ≤ 601024; have := hgr.1; omega, by show slots + _ + 0 ≤ 7293034; have := hgr.2; omega⟩) (fun H2 locs2 hH hz2 hS => ?_)
  refine lv_icmp_eq (tgt := 1226) hx hb dL_law_1116 (by decide) (fun _ => ?_) (fun h => absurd rfl h)
  exact hback _ _ _ _ _ _ hH (I.bump hR1 hz2) hS (by have := hgr.1; omega) (by have := hgr.2; omega)
set_option maxHeartbeats 4000000 in
set_option maxRecDepth 100000 in
theorem law_trace {p : Program} {e : Env} {s : State} {m : MethodId} {below : List Frame} {meth : Method} {c : Code} {l : Launch} {b L : Nat} {xs : Nat → Int32} {D : va_G} {dA : Nat → ClassId} {T : Nat × Nat} {Tq : Tk} {z a0 : Nat} {Rel : CS → MS → Prop} (C0 : lw_At p s m meth c b L xs) (hk : kc (lE0 D dA T s.heap.size) s) (hMT : ∀ (U : State) (H : Heap), s.heap.size ≤ H.size → (∀ q : Nat, q < s.heap.size → H[q]? = s.heap[q]?) → U.heap = H → s.WarmedH U.vm → MT Tq (adz z) U) (I : LI T a0 Rel) {i3 : Int32} (hin : ∀ k : Int32, 0 ≤ k.toInt → k.toInt ≤ 4 → vp_in (i3 + k) L) {cells slots : Nat} (hce : cells + 9000 ≤ 601024) (hsl : slots + 100000 ≤ 7293034) {σ : CS} {mm : MS} {H : Heap} {locs : List Loc} {ls : Array Slot} (hH : LWP D dA T s.heap.size z σ mm H) (hR : Rel σ mm) (hS : va_S (fun q => s.heap.size ≤ q) s.heap H locs) (hl : lv_has ls 4 [(0, .ref b), (1, .ref a0), (2, .ref (adz z 0)), (3, .int i3)])
    (hback : ∀ (σ1 : CS) (mm1 : MS) (H1 : Heap) (locs1 : List Loc) (k n : Nat), LWP D dA T s.heap.size z σ1 mm1 H1 → Rel σ1 mm1 → va_S (fun q => s.heap.size ≤ q) s.heap H1 locs1 → k ≤ 9000 → n ≤ 100000 → W p l e room_1 s m #[Value.ref b] below meth c H1 locs1 (cells + k) (slots + n) (lw_Z below #[Value.ref b] s) (F0 m 1226 ls [])) : W p l e room_1 s m #[Value.ref b] below meth c H locs cells slots (lw_Z below #[Value.ref b] s) (F0 m 1121 ls []) := by
  obtain ⟨hx, hb, hr, hml, hown, hts, hX, hbl, hlocks, hgv⟩ := C0
  have hbA : ¬ s.heap.size ≤ b := Nat.not_le.mpr hbl
  have hall : ∀ w ∈ lw_all, w.before #[Value.ref b] s = true := fun w h => hts w (lw_all_tbl h)
  have hg2 := I.obj hR
  obtain ⟨r, σ1, mm1, hf, hm, hR1, hgr⟩ := I.x_trace hR (xs (i3 + 1).toNatClampNeg)
  have hmono := (mX0_trace l (lE D dA T s.heap.size z) hf).1
  obtain ⟨hm, rfl⟩ := hm
  refine lv_aload_n hx hb dL_law_1121 rfl (lv_at hl 1 rfl) ?_
  refine lv_aload_n hx hb dL_law_1122 rfl (lv_at hl 0 rfl) ?_
  refine lv_iload_n hx hb dL_law_1123 rfl (lv_at hl 3 rfl) ?_
  refine lv_iconst (v := (1:Int32)) hx hb dL_law_1124 (by decide) ?_
  refine lv_iadd hx hb dL_law_1125 ?_
  refine va_sld hx hb hX hbl hbA hS (hin 1 (by decide) (by decide)) dL_law_1126 ?_
  refine LcallC (v := some (.int r)) (rest := []) hH hS (va_runV (C := RX0) (As := [.int (xs (i3 + 1).toNatClampNeg)]) ⟨hx, hb, hml, hown, hall⟩ (mX0_trace l (lE D dA T s.heap.size z) hf).2 (cwV 1 hall (lw_V q1173 q1174 q1175 q88 q1176) rfl rfl rfl (by decide +kernel) ⟨Nat.le_of_ble_eq_true rfl, Nat.le_of_ble_eq_true rfl⟩) (l_preV (ci := 1) hk hH hS hg2 rfl) rfl rfl hl.1 rfl (lv_room (Nat.le_of_ble_eq_true rfl)) dL_law_1127 ⟨by show cells + _ ≤ 601024; have := hgr.1; omega, by show slots + _ ≤ 7293034; have := hgr.2; omega⟩) (fun H1 locs1 hH hS => ?_)
  refine lv_aload_n hx hb dL_law_1130 rfl (lv_at hl 2 rfl) ?_
  refine lv_aload_n hx hb dL_law_1131 rfl (lv_at hl 0 rfl) ?_
  refine lv_iload_n hx hb dL_law_1132 rfl (lv_at hl 3 rfl) ?_
  refine lv_iconst (v := (1:Int32)) hx hb dL_law_1133 (by decide) ?_
  refine lv_iadd hx hb dL_law_1134 ?_
  refine va_sld hx hb hX hbl hbA hS (hin 1 (by decide) (by decide)) dL_law_1135 ?_
  refine LcallI (r := r) (rest := [.int r]) hk.1 hH hS (va_runV (C := RX4) (As := [.int (xs (i3 + 1).toNatClampNeg)]) ⟨hx, hb, hml, hown, hall⟩ (mX4_trace l D dA (adz z) hm) (cwV 1 hall (lw_V q1734 q1735 q1736 q95 q1737) rfl rfl rfl (by decide +kernel) ⟨Nat.le_of_ble_eq_true rfl, Nat.le_of_ble_eq_true rfl⟩) (l_preM hk hH) rfl rfl hl.1 rfl (lv_room (Nat.le_of_ble_eq_true rfl)) dL_law_1136 ⟨by show cells + _ + 0 ≤ 601024; have := hgr.1; omega, by show slots + _ + 0 ≤ 7293034; have := hgr.2; omega⟩) (fun H2 locs2 hH hz2 hS => ?_)
  refine lv_icmp_eq (tgt := 1226) hx hb dL_law_1139 (by decide) (fun _ => ?_) (fun h => absurd rfl h)
  exact hback _ _ _ _ _ _ hH (I.bump hR1 hz2) hS (by have := hgr.1; omega) (by have := hgr.2; omega)
set_option maxHeartbeats 4000000 in
set_option maxRecDepth 100000 in
theorem law_as {p : Program} {e : Env} {s : State} {m : MethodId} {below : List Frame} {meth : Method} {c : Code} {l : Launch} {b L : Nat} {xs : Nat → Int32} {D : va_G} {dA : Nat → ClassId} {T : Nat × Nat} {Tq : Tk} {z a0 : Nat} {Rel : CS → MS → Prop} (C0 : lw_At p s m meth c b L xs) (hk : kc (lE0 D dA T s.heap.size) s) (hMT : ∀ (U : State) (H : Heap), s.heap.size ≤ H.size → (∀ q : Nat, q < s.heap.size → H[q]? = s.heap[q]?) → U.heap = H → s.WarmedH U.vm → MT Tq (adz z) U) (I : LI T a0 Rel) {i3 : Int32} (hin : ∀ k : Int32, 0 ≤ k.toInt → k.toInt ≤ 4 → vp_in (i3 + k) L) {cells slots : Nat} (hce : cells + 9000 ≤ 601024) (hsl : slots + 100000 ≤ 7293034) {σ : CS} {mm : MS} {H : Heap} {locs : List Loc} {ls : Array Slot} (hH : LWP D dA T s.heap.size z σ mm H) (hR : Rel σ mm) (hS : va_S (fun q => s.heap.size ≤ q) s.heap H locs) (hl : lv_has ls 4 [(0, .ref b), (1, .ref a0), (2, .ref (adz z 0)), (3, .int i3)])
    (hback : ∀ (σ1 : CS) (mm1 : MS) (H1 : Heap) (locs1 : List Loc) (k n : Nat), LWP D dA T s.heap.size z σ1 mm1 H1 → Rel σ1 mm1 → va_S (fun q => s.heap.size ≤ q) s.heap H1 locs1 → k ≤ 9000 → n ≤ 100000 → W p l e room_1 s m #[Value.ref b] below meth c H1 locs1 (cells + k) (slots + n) (lw_Z below #[Value.ref b] s) (F0 m 1226 ls [])) : W p l e room_1 s m #[Value.ref b] below meth c H locs cells slots (lw_Z below #[Value.ref b] s) (F0 m 1144 ls []) := by
  obtain ⟨hx, hb, hr, hml, hown, hts, hX, hbl, hlocks, hgv⟩ := C0
  have hbA : ¬ s.heap.size ≤ b := Nat.not_le.mpr hbl
  have hall : ∀ w ∈ lw_all, w.before #[Value.ref b] s = true := fun w h => hts w (lw_all_tbl h)
  have hg2 := I.obj hR
  obtain ⟨r, σ1, mm1, hf, hm, hR1, hgr⟩ := I.x_as hR (xs (i3 + 1).toNatClampNeg) (xs (i3 + 2).toNatClampNeg)
  have hmono := (mX0_as l (lE D dA T s.heap.size z) hf).1
  obtain ⟨hm, rfl⟩ := hm
  refine lv_aload_n hx hb dL_law_1144 rfl (lv_at hl 1 rfl) ?_
  refine lv_aload_n hx hb dL_law_1145 rfl (lv_at hl 0 rfl) ?_
  refine lv_iload_n hx hb dL_law_1146 rfl (lv_at hl 3 rfl) ?_
  refine lv_iconst (v := (1:Int32)) hx hb dL_law_1147 (by decide) ?_
  refine lv_iadd hx hb dL_law_1148 ?_
  refine va_sld hx hb hX hbl hbA hS (hin 1 (by decide) (by decide)) dL_law_1149 ?_
  refine lv_aload_n hx hb dL_law_1150 rfl (lv_at hl 0 rfl) ?_
  refine lv_iload_n hx hb dL_law_1151 rfl (lv_at hl 3 rfl) ?_
  refine lv_iconst (v := (2:Int32)) hx hb dL_law_1152 (by decide) ?_
  refine lv_iadd hx hb dL_law_1153 ?_
  refine va_sld hx hb hX hbl hbA hS (hin 2 (by decide) (by decide)) dL_law_1154 ?_
  refine LcallC (v := some (.int r)) (rest := []) hH hS (va_runV (C := RX0) (As := [.int (xs (i3 + 1).toNatClampNeg), .int (xs (i3 + 2).toNatClampNeg)]) ⟨hx, hb, hml, hown, hall⟩ (mX0_as l (lE D dA T s.heap.size z) hf).2 (cwV 2 hall (lw_V q1177 q1178 q1179 q88 q1180) rfl rfl rfl (by decide +kernel) ⟨Nat.le_of_ble_eq_true rfl, Nat.le_of_ble_eq_true rfl⟩) (l_preV (ci := 1) hk hH hS hg2 rfl) rfl rfl hl.1 rfl (lv_room (Nat.le_of_ble_eq_true rfl)) dL_law_1155 ⟨by show cells + _ ≤ 601024; have := hgr.1; omega, by show slots + _ ≤ 7293034; have := hgr.2; omega⟩) (fun H1 locs1 hH hS => ?_)
  refine lv_aload_n hx hb dL_law_1158 rfl (lv_at hl 2 rfl) ?_
  refine lv_aload_n hx hb dL_law_1159 rfl (lv_at hl 0 rfl) ?_
  refine lv_iload_n hx hb dL_law_1160 rfl (lv_at hl 3 rfl) ?_
  refine lv_iconst (v := (1:Int32)) hx hb dL_law_1161 (by decide) ?_
  refine lv_iadd hx hb dL_law_1162 ?_
  refine va_sld hx hb hX hbl hbA hS (hin 1 (by decide) (by decide)) dL_law_1163 ?_
  refine lv_aload_n hx hb dL_law_1164 rfl (lv_at hl 0 rfl) ?_
  refine lv_iload_n hx hb dL_law_1165 rfl (lv_at hl 3 rfl) ?_
  refine lv_iconst (v := (2:Int32)) hx hb dL_law_1166 (by decide) ?_
  refine lv_iadd hx hb dL_law_1167 ?_
  refine va_sld hx hb hX hbl hbA hS (hin 2 (by decide) (by decide)) dL_law_1168 ?_
  refine LcallI (r := r) (rest := [.int r]) hk.1 hH hS (va_runV (C := RX4) (As := [.int (xs (i3 + 1).toNatClampNeg), .int (xs (i3 + 2).toNatClampNeg)]) ⟨hx, hb, hml, hown, hall⟩ (mX4_as l D dA (adz z) hm) (cwV 2 hall (lw_V q1738 q1739 q1740 q95 q1741) rfl rfl rfl (by decide +kernel) ⟨Nat.le_of_ble_eq_true rfl, Nat.le_of_ble_eq_true rfl⟩) (l_preM hk hH) rfl rfl hl.1 rfl (lv_room (Nat.le_of_ble_eq_true rfl)) dL_law_1169 ⟨by show cells + _ + 0 ≤ 601024; have := hgr.1; omega, by show slots + _ + 0 ≤ 7293034; have := hgr.2; omega⟩) (fun H2 locs2 hH hz2 hS => ?_)
  refine lv_icmp_eq (tgt := 1226) hx hb dL_law_1172 (by decide) (fun _ => ?_) (fun h => absurd rfl h)
  exact hback _ _ _ _ _ _ hH (I.bump hR1 hz2) hS (by have := hgr.1; omega) (by have := hgr.2; omega)
set_option maxHeartbeats 4000000 in
set_option maxRecDepth 100000 in
theorem law_image {p : Program} {e : Env} {s : State} {m : MethodId} {below : List Frame} {meth : Method} {c : Code} {l : Launch} {b L : Nat} {xs : Nat → Int32} {D : va_G} {dA : Nat → ClassId} {T : Nat × Nat} {Tq : Tk} {z a0 : Nat} {Rel : CS → MS → Prop} (C0 : lw_At p s m meth c b L xs) (hk : kc (lE0 D dA T s.heap.size) s) (hMT : ∀ (U : State) (H : Heap), s.heap.size ≤ H.size → (∀ q : Nat, q < s.heap.size → H[q]? = s.heap[q]?) → U.heap = H → s.WarmedH U.vm → MT Tq (adz z) U) (I : LI T a0 Rel) {i3 : Int32} (hin : ∀ k : Int32, 0 ≤ k.toInt → k.toInt ≤ 4 → vp_in (i3 + k) L) {cells slots : Nat} (hce : cells + 9000 ≤ 601024) (hsl : slots + 100000 ≤ 7293034) {σ : CS} {mm : MS} {H : Heap} {locs : List Loc} {ls : Array Slot} (hH : LWP D dA T s.heap.size z σ mm H) (hR : Rel σ mm) (hS : va_S (fun q => s.heap.size ≤ q) s.heap H locs) (hl : lv_has ls 4 [(0, .ref b), (1, .ref a0), (2, .ref (adz z 0)), (3, .int i3)])
    (hback : ∀ (σ1 : CS) (mm1 : MS) (H1 : Heap) (locs1 : List Loc) (k n : Nat), LWP D dA T s.heap.size z σ1 mm1 H1 → Rel σ1 mm1 → va_S (fun q => s.heap.size ≤ q) s.heap H1 locs1 → k ≤ 9000 → n ≤ 100000 → W p l e room_1 s m #[Value.ref b] below meth c H1 locs1 (cells + k) (slots + n) (lw_Z below #[Value.ref b] s) (F0 m 1226 ls [])) : W p l e room_1 s m #[Value.ref b] below meth c H locs cells slots (lw_Z below #[Value.ref b] s) (F0 m 1177 ls []) := by
  obtain ⟨hx, hb, hr, hml, hown, hts, hX, hbl, hlocks, hgv⟩ := C0
  have hbA : ¬ s.heap.size ≤ b := Nat.not_le.mpr hbl
  have hall : ∀ w ∈ lw_all, w.before #[Value.ref b] s = true := fun w h => hts w (lw_all_tbl h)
  have hg2 := I.obj hR
  obtain ⟨r, σ1, mm1, hf, hm, hR1, hgr⟩ := I.x_image hR ()
  have hmono := (mX0_image l (lE D dA T s.heap.size z) hf).1
  refine lv_aload_n hx hb dL_law_1177 rfl (lv_at hl 1 rfl) ?_
  refine LcallC (v := some (.int r)) (rest := []) hH hS (va_runV (C := RX0) (As := []) ⟨hx, hb, hml, hown, hall⟩ (mX0_image l (lE D dA T s.heap.size z) hf).2 (cwV 0 hall (lw_V q1210 q1211 q1212 q88 q1213) rfl rfl rfl (by decide +kernel) ⟨Nat.le_of_ble_eq_true rfl, Nat.le_of_ble_eq_true rfl⟩) (l_preV (ci := 1) hk hH hS hg2 rfl) rfl rfl hl.1 rfl (lv_room (Nat.le_of_ble_eq_true rfl)) dL_law_1178 ⟨by show cells + _ ≤ 601024; have := hgr.1; omega, by show slots + _ ≤ 7293034; have := hgr.2; omega⟩) (fun H1 locs1 hH hS => ?_)
  refine lv_aload_n hx hb dL_law_1181 rfl (lv_at hl 2 rfl) ?_
  refine LcallI (r := r) (rest := [.int r]) hk.1 hH hS (va_runV (C := RX4) (As := []) ⟨hx, hb, hml, hown, hall⟩ (mX4_image l D dA (adz z) hm) (cwV 0 hall (lw_V q1742 q1743 q1744 q95 q1745) rfl rfl rfl (by decide +kernel) ⟨Nat.le_of_ble_eq_true rfl, Nat.le_of_ble_eq_true rfl⟩) (l_preM hk hH) rfl rfl hl.1 rfl (lv_room (Nat.le_of_ble_eq_true rfl)) dL_law_1182 ⟨by show cells + _ + 0 ≤ 601024; have := hgr.1; omega, by show slots + _ + 0 ≤ 7293034; have := hgr.2; omega⟩) (fun H2 locs2 hH hz2 hS => ?_)
  refine lv_icmp_eq (tgt := 1226) hx hb dL_law_1185 (by decide) (fun _ => ?_) (fun h => absurd rfl h)
  exact hback _ _ _ _ _ _ hH (I.bump hR1 hz2) hS (by have := hgr.1; omega) (by have := hgr.2; omega)
set_option maxHeartbeats 4000000 in
set_option maxRecDepth 100000 in
theorem law_undo {p : Program} {e : Env} {s : State} {m : MethodId} {below : List Frame} {meth : Method} {c : Code} {l : Launch} {b L : Nat} {xs : Nat → Int32} {D : va_G} {dA : Nat → ClassId} {T : Nat × Nat} {Tq : Tk} {z a0 : Nat} {Rel : CS → MS → Prop} (C0 : lw_At p s m meth c b L xs) (hk : kc (lE0 D dA T s.heap.size) s) (hMT : ∀ (U : State) (H : Heap), s.heap.size ≤ H.size → (∀ q : Nat, q < s.heap.size → H[q]? = s.heap[q]?) → U.heap = H → s.WarmedH U.vm → MT Tq (adz z) U) (I : LI T a0 Rel) {i3 : Int32} (hin : ∀ k : Int32, 0 ≤ k.toInt → k.toInt ≤ 4 → vp_in (i3 + k) L) {cells slots : Nat} (hce : cells + 9000 ≤ 601024) (hsl : slots + 100000 ≤ 7293034) {σ : CS} {mm : MS} {H : Heap} {locs : List Loc} {ls : Array Slot} (hH : LWP D dA T s.heap.size z σ mm H) (hR : Rel σ mm) (hS : va_S (fun q => s.heap.size ≤ q) s.heap H locs) (hl : lv_has ls 4 [(0, .ref b), (1, .ref a0), (2, .ref (adz z 0)), (3, .int i3)])
    (hback : ∀ (σ1 : CS) (mm1 : MS) (H1 : Heap) (locs1 : List Loc) (k n : Nat), LWP D dA T s.heap.size z σ1 mm1 H1 → Rel σ1 mm1 → va_S (fun q => s.heap.size ≤ q) s.heap H1 locs1 → k ≤ 9000 → n ≤ 100000 → W p l e room_1 s m #[Value.ref b] below meth c H1 locs1 (cells + k) (slots + n) (lw_Z below #[Value.ref b] s) (F0 m 1226 ls [])) : W p l e room_1 s m #[Value.ref b] below meth c H locs cells slots (lw_Z below #[Value.ref b] s) (F0 m 1190 ls []) := by
  obtain ⟨hx, hb, hr, hml, hown, hts, hX, hbl, hlocks, hgv⟩ := C0
  have hbA : ¬ s.heap.size ≤ b := Nat.not_le.mpr hbl
  have hall : ∀ w ∈ lw_all, w.before #[Value.ref b] s = true := fun w h => hts w (lw_all_tbl h)
  have hg2 := I.obj hR
  obtain ⟨r, σ1, mm1, hf, hm, hR1, hgr⟩ := I.x_undo hR ()
  have hmono := (mX0_undo l (lE D dA T s.heap.size z) hf).1
  refine lv_aload_n hx hb dL_law_1190 rfl (lv_at hl 1 rfl) ?_
  refine LcallC (v := some (.int r)) (rest := []) hH hS (va_runV (C := RX0) (As := []) ⟨hx, hb, hml, hown, hall⟩ (mX0_undo l (lE D dA T s.heap.size z) hf).2 (cwV 0 hall (lw_V q1259 q1260 q1261 q88 q1262) rfl rfl rfl (by decide +kernel) ⟨Nat.le_of_ble_eq_true rfl, Nat.le_of_ble_eq_true rfl⟩) (l_preV (ci := 1) hk hH hS hg2 rfl) rfl rfl hl.1 rfl (lv_room (Nat.le_of_ble_eq_true rfl)) dL_law_1191 ⟨by show cells + _ ≤ 601024; have := hgr.1; omega, by show slots + _ ≤ 7293034; have := hgr.2; omega⟩) (fun H1 locs1 hH hS => ?_)
  refine lv_aload_n hx hb dL_law_1194 rfl (lv_at hl 2 rfl) ?_
  refine LcallI (r := r) (rest := [.int r]) hk.1 hH hS (va_runV (C := RX4) (As := []) ⟨hx, hb, hml, hown, hall⟩ (mX4_undo l D dA (adz z) hm) (cwV 0 hall (lw_V q1746 q1747 q1748 q95 q1749) rfl rfl rfl (by decide +kernel) ⟨Nat.le_of_ble_eq_true rfl, Nat.le_of_ble_eq_true rfl⟩) (l_preM hk hH) rfl rfl hl.1 rfl (lv_room (Nat.le_of_ble_eq_true rfl)) dL_law_1195 ⟨by show cells + _ + 0 ≤ 601024; have := hgr.1; omega, by show slots + _ + 0 ≤ 7293034; have := hgr.2; omega⟩) (fun H2 locs2 hH hz2 hS => ?_)
  refine lv_icmp_eq (tgt := 1226) hx hb dL_law_1198 (by decide) (fun _ => ?_) (fun h => absurd rfl h)
  exact hback _ _ _ _ _ _ hH (I.bump hR1 hz2) hS (by have := hgr.1; omega) (by have := hgr.2; omega)
set_option maxHeartbeats 4000000 in
set_option maxRecDepth 100000 in
theorem law_count {p : Program} {e : Env} {s : State} {m : MethodId} {below : List Frame} {meth : Method} {c : Code} {l : Launch} {b L : Nat} {xs : Nat → Int32} {D : va_G} {dA : Nat → ClassId} {T : Nat × Nat} {Tq : Tk} {z a0 : Nat} {Rel : CS → MS → Prop} (C0 : lw_At p s m meth c b L xs) (hk : kc (lE0 D dA T s.heap.size) s) (hMT : ∀ (U : State) (H : Heap), s.heap.size ≤ H.size → (∀ q : Nat, q < s.heap.size → H[q]? = s.heap[q]?) → U.heap = H → s.WarmedH U.vm → MT Tq (adz z) U) (I : LI T a0 Rel) {i3 : Int32} (hin : ∀ k : Int32, 0 ≤ k.toInt → k.toInt ≤ 4 → vp_in (i3 + k) L) {cells slots : Nat} (hce : cells + 9000 ≤ 601024) (hsl : slots + 100000 ≤ 7293034) {σ : CS} {mm : MS} {H : Heap} {locs : List Loc} {ls : Array Slot} (hH : LWP D dA T s.heap.size z σ mm H) (hR : Rel σ mm) (hS : va_S (fun q => s.heap.size ≤ q) s.heap H locs) (hl : lv_has ls 4 [(0, .ref b), (1, .ref a0), (2, .ref (adz z 0)), (3, .int i3)])
    (hback : ∀ (σ1 : CS) (mm1 : MS) (H1 : Heap) (locs1 : List Loc) (k n : Nat), LWP D dA T s.heap.size z σ1 mm1 H1 → Rel σ1 mm1 → va_S (fun q => s.heap.size ≤ q) s.heap H1 locs1 → k ≤ 9000 → n ≤ 100000 → W p l e room_1 s m #[Value.ref b] below meth c H1 locs1 (cells + k) (slots + n) (lw_Z below #[Value.ref b] s) (F0 m 1226 ls [])) : W p l e room_1 s m #[Value.ref b] below meth c H locs cells slots (lw_Z below #[Value.ref b] s) (F0 m 1203 ls []) := by
  obtain ⟨hx, hb, hr, hml, hown, hts, hX, hbl, hlocks, hgv⟩ := C0
  have hbA : ¬ s.heap.size ≤ b := Nat.not_le.mpr hbl
  have hall : ∀ w ∈ lw_all, w.before #[Value.ref b] s = true := fun w h => hts w (lw_all_tbl h)
  have hg2 := I.obj hR
  obtain ⟨r, σ1, mm1, hf, hm, hR1, hgr⟩ := I.x_count hR (xs (i3 + 1).toNatClampNeg)
  have hmono := (mX0_count l (lE D dA T s.heap.size z) hf).1
  obtain ⟨hm, rfl⟩ := hm
  refine lv_aload_n hx hb dL_law_1203 rfl (lv_at hl 1 rfl) ?_
  refine lv_aload_n hx hb dL_law_1204 rfl (lv_at hl 0 rfl) ?_
  refine lv_iload_n hx hb dL_law_1205 rfl (lv_at hl 3 rfl) ?_
  refine lv_iconst (v := (1:Int32)) hx hb dL_law_1206 (by decide) ?_
  refine lv_iadd hx hb dL_law_1207 ?_
  refine va_sld hx hb hX hbl hbA hS (hin 1 (by decide) (by decide)) dL_law_1208 ?_
  refine LcallC (v := some (.int r)) (rest := []) hH hS (va_runV (C := RX0) (As := [.int (xs (i3 + 1).toNatClampNeg)]) ⟨hx, hb, hml, hown, hall⟩ (mX0_count l (lE D dA T s.heap.size z) hf).2 (cwV 1 hall (lw_V q1281 q1282 q1283 q88 q1284) rfl rfl rfl (by decide +kernel) ⟨Nat.le_of_ble_eq_true rfl, Nat.le_of_ble_eq_true rfl⟩) (l_preV (ci := 1) hk hH hS hg2 rfl) rfl rfl hl.1 rfl (lv_room (Nat.le_of_ble_eq_true rfl)) dL_law_1209 ⟨by show cells + _ ≤ 601024; have := hgr.1; omega, by show slots + _ ≤ 7293034; have := hgr.2; omega⟩) (fun H1 locs1 hH hS => ?_)
  refine lv_aload_n hx hb dL_law_1212 rfl (lv_at hl 2 rfl) ?_
  refine lv_aload_n hx hb dL_law_1213 rfl (lv_at hl 0 rfl) ?_
  refine lv_iload_n hx hb dL_law_1214 rfl (lv_at hl 3 rfl) ?_
  refine lv_iconst (v := (1:Int32)) hx hb dL_law_1215 (by decide) ?_
  refine lv_iadd hx hb dL_law_1216 ?_
  refine va_sld hx hb hX hbl hbA hS (hin 1 (by decide) (by decide)) dL_law_1217 ?_
  refine LcallI (r := r) (rest := [.int r]) hk.1 hH hS (va_runV (C := RX4) (As := [.int (xs (i3 + 1).toNatClampNeg)]) ⟨hx, hb, hml, hown, hall⟩ (mX4_count l D dA (adz z) hm) (cwV 1 hall (lw_V q1750 q1751 q1752 q95 q1753) rfl rfl rfl (by decide +kernel) ⟨Nat.le_of_ble_eq_true rfl, Nat.le_of_ble_eq_true rfl⟩) (l_preM hk hH) rfl rfl hl.1 rfl (lv_room (Nat.le_of_ble_eq_true rfl)) dL_law_1218 ⟨by show cells + _ + 0 ≤ 601024; have := hgr.1; omega, by show slots + _ + 0 ≤ 7293034; have := hgr.2; omega⟩) (fun H2 locs2 hH hz2 hS => ?_)
  refine lv_icmp_eq (tgt := 1226) hx hb dL_law_1221 (by decide) (fun _ => ?_) (fun h => absurd rfl h)
  exact hback _ _ _ _ _ _ hH (I.bump hR1 hz2) hS (by have := hgr.1; omega) (by have := hgr.2; omega)
theorem l_toInt {n : Nat} (h : n ≤ 400) : (nI n).toInt = n := by
  unfold nI
  rw [Int32.toInt_ofNat_of_lt (by omega)]
theorem l_add {n : Nat} {k : Int32} (h : n ≤ 400) (h1 : 0 ≤ k.toInt) (h2 : k.toInt ≤ 4) : (nI n + k).toInt = n + k.toInt := by
  rw [Int32.toInt_add, l_toInt h, Int.bmod_eq_of_le (by omega) (by omega)]
theorem l_in {i L : Nat} {k : Int32} (h5 : 5 * i + 5 ≤ L) (hL : L ≤ 320) (h1 : 0 ≤ k.toInt) (h2 : k.toInt ≤ 4) : vp_in (nI (5 * i) + k) L := by
  have e := l_add (n := 5 * i) (k := k) (by omega) h1 h2
  intro q
  rcases q with q | q
  · rw [Int32.lt_iff_toInt_lt, e] at q
    have : (0 : Int32).toInt = 0 := rfl
    omega
  · have : (nI (5 * i) + k).toNatClampNeg = ((nI (5 * i) + k).toInt).toNat := rfl
    omega
theorem l_in0 {i L : Nat} (h5 : 5 * i + 5 ≤ L) (hL : L ≤ 320) : vp_in (nI (5 * i)) L := by
  have h := l_in (k := 0) h5 hL (by decide) (by decide)
  rw [Int32.add_zero] at h
  exact h
theorem l_gt {i L : Nat} (hL : L ≤ 320) (hi : 5 * i ≤ L) (c1 : ¬ (Int32.ofNat L - 5 < nI (5 * i))) : 5 * i + 5 ≤ L := by
  have e1 : (Int32.ofNat L).toInt = L := l_toInt (by omega)
  have e2 : (Int32.ofNat L - 5).toInt = (L : Int) - 5 := by
    rw [Int32.toInt_sub, e1]
    have : (5 : Int32).toInt = 5 := rfl
    rw [this, Int.bmod_eq_of_le (by omega) (by omega)]
  rw [Int32.lt_iff_toInt_lt, e2, l_toInt (by omega)] at c1
  omega
theorem l_inc (i : Nat) : nI (5 * (i + 1)) = nI (5 * i) + 5 := by
  unfold nI
  rw [Nat.mul_succ, Int32.ofNat_add]
  rfl
theorem l_and31 {x v : Int32} (h : x &&& 31 = v) : 0 ≤ v.toInt ∧ v.toInt ≤ 31 := by
  subst h
  have e : (x &&& 31).toInt = ((x.toBitVec &&& 31#32).toNat : Int) := by
    show (x &&& 31).toBitVec.toInt = _
    have : (x &&& 31).toBitVec = x.toBitVec &&& 31#32 := rfl
    rw [this, BitVec.toInt_eq_toNat_of_lt]
    rw [BitVec.toNat_and]
    have := Nat.and_le_right (n := x.toBitVec.toNat) (m := (31#32).toNat)
    have e31 : (31#32).toNat = 31 := rfl
    omega
  rw [e, BitVec.toNat_and]
  have := Nat.and_le_right (n := x.toBitVec.toNat) (m := (31#32).toNat)
  have e31 : (31#32).toNat = 31 := rfl
  omega
theorem l_32 {v : Int32} (h : 0 ≤ v.toInt ∧ v.toInt ≤ 31) : v = 0 ∨ v = 1 ∨ v = 2 ∨ v = 3 ∨ v = 4 ∨ v = 5 ∨ v = 6 ∨ v = 7 ∨ v = 8 ∨ v = 9 ∨ v = 10 ∨ v = 11 ∨ v = 12 ∨ v = 13 ∨ v = 14 ∨ v = 15 ∨ v = 16 ∨ v = 17 ∨ v = 18 ∨ v = 19 ∨ v = 20 ∨ v = 21 ∨ v = 22 ∨ v = 23 ∨ v = 24 ∨ v = 25 ∨ v = 26 ∨ v = 27 ∨ v = 28 ∨ v = 29 ∨ v = 30 ∨ v = 31 := by
  obtain ⟨h1, h2⟩ := h
  have hv : v = Int32.ofInt v.toInt := by simp
  have : v.toInt = 0 ∨ v.toInt = 1 ∨ v.toInt = 2 ∨ v.toInt = 3 ∨ v.toInt = 4 ∨ v.toInt = 5 ∨ v.toInt = 6 ∨ v.toInt = 7 ∨ v.toInt = 8 ∨ v.toInt = 9 ∨ v.toInt = 10 ∨ v.toInt = 11 ∨ v.toInt = 12 ∨ v.toInt = 13 ∨ v.toInt = 14 ∨ v.toInt = 15 ∨ v.toInt = 16 ∨ v.toInt = 17 ∨ v.toInt = 18 ∨ v.toInt = 19 ∨ v.toInt = 20 ∨ v.toInt = 21 ∨ v.toInt = 22 ∨ v.toInt = 23 ∨ v.toInt = 24 ∨ v.toInt = 25 ∨ v.toInt = 26 ∨ v.toInt = 27 ∨ v.toInt = 28 ∨ v.toInt = 29 ∨ v.toInt = 30 ∨ v.toInt = 31 := by omega
  rcases this with h | h | h | h | h | h | h | h | h | h | h | h | h | h | h | h | h | h | h | h | h | h | h | h | h | h | h | h | h | h | h | h
  · rw [h] at hv; exact Or.inl hv
  · rw [h] at hv; exact Or.inr (Or.inl hv)
  · rw [h] at hv; exact Or.inr (Or.inr (Or.inl hv))
  · rw [h] at hv; exact Or.inr (Or.inr (Or.inr (Or.inl hv)))
  · rw [h] at hv; exact Or.inr (Or.inr (Or.inr (Or.inr (Or.inl hv))))
  · rw [h] at hv; exact Or.inr (Or.inr (Or.inr (Or.inr (Or.inr (Or.inl hv)))))
  · rw [h] at hv; exact Or.inr (Or.inr (Or.inr (Or.inr (Or.inr (Or.inr (Or.inl hv))))))
  · rw [h] at hv; exact Or.inr (Or.inr (Or.inr (Or.inr (Or.inr (Or.inr (Or.inr (Or.inl hv)))))))
  · rw [h] at hv; exact Or.inr (Or.inr (Or.inr (Or.inr (Or.inr (Or.inr (Or.inr (Or.inr (Or.inl hv))))))))
  · rw [h] at hv; exact Or.inr (Or.inr (Or.inr (Or.inr (Or.inr (Or.inr (Or.inr (Or.inr (Or.inr (Or.inl hv)))))))))
  · rw [h] at hv; exact Or.inr (Or.inr (Or.inr (Or.inr (Or.inr (Or.inr (Or.inr (Or.inr (Or.inr (Or.inr (Or.inl hv))))))))))
  · rw [h] at hv; exact Or.inr (Or.inr (Or.inr (Or.inr (Or.inr (Or.inr (Or.inr (Or.inr (Or.inr (Or.inr (Or.inr (Or.inl hv)))))))))))
  · rw [h] at hv; exact Or.inr (Or.inr (Or.inr (Or.inr (Or.inr (Or.inr (Or.inr (Or.inr (Or.inr (Or.inr (Or.inr (Or.inr (Or.inl hv))))))))))))
  · rw [h] at hv; exact Or.inr (Or.inr (Or.inr (Or.inr (Or.inr (Or.inr (Or.inr (Or.inr (Or.inr (Or.inr (Or.inr (Or.inr (Or.inr (Or.inl hv)))))))))))))
  · rw [h] at hv; exact Or.inr (Or.inr (Or.inr (Or.inr (Or.inr (Or.inr (Or.inr (Or.inr (Or.inr (Or.inr (Or.inr (Or.inr (Or.inr (Or.inr (Or.inl hv))))))))))))))
  · rw [h] at hv; exact Or.inr (Or.inr (Or.inr (Or.inr (Or.inr (Or.inr (Or.inr (Or.inr (Or.inr (Or.inr (Or.inr (Or.inr (Or.inr (Or.inr (Or.inr (Or.inl hv)))))))))))))))
  · rw [h] at hv; exact Or.inr (Or.inr (Or.inr (Or.inr (Or.inr (Or.inr (Or.inr (Or.inr (Or.inr (Or.inr (Or.inr (Or.inr (Or.inr (Or.inr (Or.inr (Or.inr (Or.inl hv))))))))))))))))
  · rw [h] at hv; exact Or.inr (Or.inr (Or.inr (Or.inr (Or.inr (Or.inr (Or.inr (Or.inr (Or.inr (Or.inr (Or.inr (Or.inr (Or.inr (Or.inr (Or.inr (Or.inr (Or.inr (Or.inl hv)))))))))))))))))
  · rw [h] at hv; exact Or.inr (Or.inr (Or.inr (Or.inr (Or.inr (Or.inr (Or.inr (Or.inr (Or.inr (Or.inr (Or.inr (Or.inr (Or.inr (Or.inr (Or.inr (Or.inr (Or.inr (Or.inr (Or.inl hv))))))))))))))))))
  · rw [h] at hv; exact Or.inr (Or.inr (Or.inr (Or.inr (Or.inr (Or.inr (Or.inr (Or.inr (Or.inr (Or.inr (Or.inr (Or.inr (Or.inr (Or.inr (Or.inr (Or.inr (Or.inr (Or.inr (Or.inr (Or.inl hv)))))))))))))))))))
  · rw [h] at hv; exact Or.inr (Or.inr (Or.inr (Or.inr (Or.inr (Or.inr (Or.inr (Or.inr (Or.inr (Or.inr (Or.inr (Or.inr (Or.inr (Or.inr (Or.inr (Or.inr (Or.inr (Or.inr (Or.inr (Or.inr (Or.inl hv))))))))))))))))))))
  · rw [h] at hv; exact Or.inr (Or.inr (Or.inr (Or.inr (Or.inr (Or.inr (Or.inr (Or.inr (Or.inr (Or.inr (Or.inr (Or.inr (Or.inr (Or.inr (Or.inr (Or.inr (Or.inr (Or.inr (Or.inr (Or.inr (Or.inr (Or.inl hv)))))))))))))))))))))
  · rw [h] at hv; exact Or.inr (Or.inr (Or.inr (Or.inr (Or.inr (Or.inr (Or.inr (Or.inr (Or.inr (Or.inr (Or.inr (Or.inr (Or.inr (Or.inr (Or.inr (Or.inr (Or.inr (Or.inr (Or.inr (Or.inr (Or.inr (Or.inr (Or.inl hv))))))))))))))))))))))
  · rw [h] at hv; exact Or.inr (Or.inr (Or.inr (Or.inr (Or.inr (Or.inr (Or.inr (Or.inr (Or.inr (Or.inr (Or.inr (Or.inr (Or.inr (Or.inr (Or.inr (Or.inr (Or.inr (Or.inr (Or.inr (Or.inr (Or.inr (Or.inr (Or.inr (Or.inl hv)))))))))))))))))))))))
  · rw [h] at hv; exact Or.inr (Or.inr (Or.inr (Or.inr (Or.inr (Or.inr (Or.inr (Or.inr (Or.inr (Or.inr (Or.inr (Or.inr (Or.inr (Or.inr (Or.inr (Or.inr (Or.inr (Or.inr (Or.inr (Or.inr (Or.inr (Or.inr (Or.inr (Or.inr (Or.inl hv))))))))))))))))))))))))
  · rw [h] at hv; exact Or.inr (Or.inr (Or.inr (Or.inr (Or.inr (Or.inr (Or.inr (Or.inr (Or.inr (Or.inr (Or.inr (Or.inr (Or.inr (Or.inr (Or.inr (Or.inr (Or.inr (Or.inr (Or.inr (Or.inr (Or.inr (Or.inr (Or.inr (Or.inr (Or.inr (Or.inl hv)))))))))))))))))))))))))
  · rw [h] at hv; exact Or.inr (Or.inr (Or.inr (Or.inr (Or.inr (Or.inr (Or.inr (Or.inr (Or.inr (Or.inr (Or.inr (Or.inr (Or.inr (Or.inr (Or.inr (Or.inr (Or.inr (Or.inr (Or.inr (Or.inr (Or.inr (Or.inr (Or.inr (Or.inr (Or.inr (Or.inr (Or.inl hv))))))))))))))))))))))))))
  · rw [h] at hv; exact Or.inr (Or.inr (Or.inr (Or.inr (Or.inr (Or.inr (Or.inr (Or.inr (Or.inr (Or.inr (Or.inr (Or.inr (Or.inr (Or.inr (Or.inr (Or.inr (Or.inr (Or.inr (Or.inr (Or.inr (Or.inr (Or.inr (Or.inr (Or.inr (Or.inr (Or.inr (Or.inr (Or.inl hv)))))))))))))))))))))))))))
  · rw [h] at hv; exact Or.inr (Or.inr (Or.inr (Or.inr (Or.inr (Or.inr (Or.inr (Or.inr (Or.inr (Or.inr (Or.inr (Or.inr (Or.inr (Or.inr (Or.inr (Or.inr (Or.inr (Or.inr (Or.inr (Or.inr (Or.inr (Or.inr (Or.inr (Or.inr (Or.inr (Or.inr (Or.inr (Or.inr (Or.inl hv))))))))))))))))))))))))))))
  · rw [h] at hv; exact Or.inr (Or.inr (Or.inr (Or.inr (Or.inr (Or.inr (Or.inr (Or.inr (Or.inr (Or.inr (Or.inr (Or.inr (Or.inr (Or.inr (Or.inr (Or.inr (Or.inr (Or.inr (Or.inr (Or.inr (Or.inr (Or.inr (Or.inr (Or.inr (Or.inr (Or.inr (Or.inr (Or.inr (Or.inr (Or.inl hv)))))))))))))))))))))))))))))
  · rw [h] at hv; exact Or.inr (Or.inr (Or.inr (Or.inr (Or.inr (Or.inr (Or.inr (Or.inr (Or.inr (Or.inr (Or.inr (Or.inr (Or.inr (Or.inr (Or.inr (Or.inr (Or.inr (Or.inr (Or.inr (Or.inr (Or.inr (Or.inr (Or.inr (Or.inr (Or.inr (Or.inr (Or.inr (Or.inr (Or.inr (Or.inr (Or.inl hv))))))))))))))))))))))))))))))
  · rw [h] at hv; exact Or.inr (Or.inr (Or.inr (Or.inr (Or.inr (Or.inr (Or.inr (Or.inr (Or.inr (Or.inr (Or.inr (Or.inr (Or.inr (Or.inr (Or.inr (Or.inr (Or.inr (Or.inr (Or.inr (Or.inr (Or.inr (Or.inr (Or.inr (Or.inr (Or.inr (Or.inr (Or.inr (Or.inr (Or.inr (Or.inr (Or.inr (hv)))))))))))))))))))))))))))))))
set_option maxHeartbeats 4000000 in
set_option maxRecDepth 100000 in
theorem law_loop {p : Program} {e : Env} {s : State} {m : MethodId} {below : List Frame} {meth : Method} {c : Code} {l : Launch} {b L : Nat} {xs : Nat → Int32} {D : va_G} {dA : Nat → ClassId} {T : Nat × Nat} {Tq : Tk} {z a0 : Nat} {Rel : CS → MS → Prop} (C0 : lw_At p s m meth c b L xs) (hk : kc (lE0 D dA T s.heap.size) s) (hMT : ∀ (U : State) (H : Heap), s.heap.size ≤ H.size → (∀ q : Nat, q < s.heap.size → H[q]? = s.heap[q]?) → U.heap = H → s.WarmedH U.vm → MT Tq (adz z) U) (I : LI T a0 Rel) (hL : L ≤ 320) : ∀ (n i : Nat), 5 * i ≤ L → L < 5 * (i + n) → ∀ {σ : CS} {mm : MS} {H : Heap} {locs : List Loc} {ls : Array Slot}, LWP D dA T s.heap.size z σ mm H → Rel σ mm → va_S (fun q => s.heap.size ≤ q) s.heap H locs → lv_has ls 4 [(0, .ref b), (1, .ref a0), (2, .ref (adz z 0)), (3, .int (nI (5 * i)))] → W p l e room_1 s m #[Value.ref b] below meth c H locs (2000 + 9000 * i) (20000 + 100000 * i) (lw_Z below #[Value.ref b] s) (F0 m 18 ls []) := by
  obtain ⟨hx, hb, hr, hml, hown, hts, hX, hbl, hlocks, hgv⟩ := id C0
  have hbA : ¬ s.heap.size ≤ b := Nat.not_le.mpr hbl
  intro n
  induction n with
  | zero => intro i h1 h2; exact absurd h2 (by omega)
  | succ n ih =>
    intro i hi hn σ mm H locs ls hH hR hS hl
    refine lv_iload_n hx hb dL_law_18 rfl (lv_at hl 3 rfl) ?_
    refine lv_aload_n hx hb dL_law_19 rfl (lv_at hl 0 rfl) ?_
    refine va_slen hx hb hX hbl hbA hS dL_law_20 ?_
    refine lv_iconst (v := (5:Int32)) hx hb dL_law_21 (by decide) ?_
    refine lv_isub hx hb dL_law_22 ?_
    refine lv_icmp_gt (tgt := 1232) hx hb dL_law_23 (by decide) (fun c1 => ?_) (fun c1 => ?_)
    · refine lv_iconst (v := (1:Int32)) hx hb dL_law_1232 (by decide) ?_
      refine va_forget (fun q hq => hS.2.2 q hq) ?_
      refine W.widen (k := 601024) (n := 7293034) (by omega) (by omega) ?_
      exact lw_ret hx hb hr hlocks dL_law_1233
    · have h5 : 5 * i + 5 ≤ L := l_gt hL hi c1
      have hin : ∀ k : Int32, 0 ≤ k.toInt → k.toInt ≤ 4 → vp_in (nI (5 * i) + k) L := fun k h1 h2 => l_in h5 hL h1 h2
      refine lv_aload_n hx hb dL_law_26 rfl (lv_at hl 0 rfl) ?_
      refine lv_iload_n hx hb dL_law_27 rfl (lv_at hl 3 rfl) ?_
      refine va_sld hx hb hX hbl hbA hS (l_in0 h5 hL) dL_law_28 ?_
      refine lv_bipush (v := (31:Int32)) hx hb dL_law_29 (by decide) ?_
      refine lv_iand hx hb dL_law_31 ?_
      have hback : ∀ (σ1 : CS) (mm1 : MS) (H1 : Heap) (locs1 : List Loc) (k n : Nat), LWP D dA T s.heap.size z σ1 mm1 H1 → Rel σ1 mm1 → va_S (fun q => s.heap.size ≤ q) s.heap H1 locs1 → k ≤ 9000 → n ≤ 100000 → W p l e room_1 s m #[Value.ref b] below meth c H1 locs1 (2000 + 9000 * i + k) (20000 + 100000 * i + n) (lw_Z below #[Value.ref b] s) (F0 m 1226 ls []) := by
        intro σ1 mm1 H1 locs1 k n9 g1 g2 g3 g4 g5
        refine lv_iinc (v := nI (5 * (i + 1))) (lv' := [(3, .int (nI (5 * (i + 1)))), (0, .ref b), (1, .ref a0), (2, .ref (adz z 0))]) hx hb dL_law_1226 hl (k := 3) rfl (l_inc i).symm (by decide) rfl (fun ls hl => ?_)
        refine lv_goto (tgt := 18) hx hb dL_law_1229 (by decide) ?_
        refine W.widen (k := 2000 + 9000 * (i + 1)) (n := 20000 + 100000 * (i + 1)) (by omega) (by omega) ?_
        exact ih (i + 1) (by omega) (by omega) g1 g2 g3 (lv_sub hl [1, 2, 3, 0] rfl)
      have hce : 2000 + 9000 * i + 9000 ≤ 601024 := by omega
      have hsl : 20000 + 100000 * i + 100000 ≤ 7293034 := by omega
      generalize hv : xs (nI (5 * i)).toNatClampNeg &&& 31 = v
      have hvb := l_and31 hv
      by_cases h0 : v = (0:Int32)
      · refine lv_tableIn (off := 144) (tgt := 176) hx hb dL_law_32 (by rw [h0]; decide) (by rw [h0]; decide) (by rw [h0]; decide) (by decide) ?_
        exact law_feed C0 hk hMT I hin hce hsl hH hR hS hl hback
      by_cases h1 : v = (1:Int32)
      · refine lv_tableIn (off := 207) (tgt := 239) hx hb dL_law_32 (by rw [h1]; decide) (by rw [h1]; decide) (by rw [h1]; decide) (by decide) ?_
        exact law_port C0 hk hMT I hin hce hsl hH hR hS hl hback
      by_cases h2 : v = (2:Int32)
      · refine lv_tableIn (off := 220) (tgt := 252) hx hb dL_law_32 (by rw [h2]; decide) (by rw [h2]; decide) (by rw [h2]; decide) (by decide) ?_
        exact law_told C0 hk hMT I hin hce hsl hH hR hS hl hback
      by_cases h3 : v = (3:Int32)
      · refine lv_tableIn (off := 253) (tgt := 285) hx hb dL_law_32 (by rw [h3]; decide) (by rw [h3]; decide) (by rw [h3]; decide) (by decide) ?_
        exact law_holds C0 hk hMT I hin hce hsl hH hR hS hl hback
      by_cases h4 : v = (4:Int32)
      · refine lv_tableIn (off := 306) (tgt := 338) hx hb dL_law_32 (by rw [h4]; decide) (by rw [h4]; decide) (by rw [h4]; decide) (by decide) ?_
        exact law_ship C0 hk hMT I hin hce hsl hH hR hS hl hback
      by_cases h5 : v = (5:Int32)
      · refine lv_tableIn (off := 349) (tgt := 381) hx hb dL_law_32 (by rw [h5]; decide) (by rw [h5]; decide) (by rw [h5]; decide) (by decide) ?_
        exact law_says C0 hk hMT I hin hce hsl hH hR hS hl hback
      by_cases h6 : v = (6:Int32)
      · refine lv_tableIn (off := 382) (tgt := 414) hx hb dL_law_32 (by rw [h6]; decide) (by rw [h6]; decide) (by rw [h6]; decide) (by decide) ?_
        exact law_late C0 hk hMT I hin hce hsl hH hR hS hl hback
      by_cases h7 : v = (7:Int32)
      · refine lv_tableIn (off := 415) (tgt := 447) hx hb dL_law_32 (by rw [h7]; decide) (by rw [h7]; decide) (by rw [h7]; decide) (by decide) ?_
        exact law_of C0 hk hMT I hin hce hsl hH hR hS hl hback
      by_cases h8 : v = (8:Int32)
      · refine lv_tableIn (off := 448) (tgt := 480) hx hb dL_law_32 (by rw [h8]; decide) (by rw [h8]; decide) (by rw [h8]; decide) (by decide) ?_
        exact law_days C0 hk hMT I hin hce hsl hH hR hS hl hback
      by_cases h9 : v = (9:Int32)
      · refine lv_tableIn (off := 481) (tgt := 513) hx hb dL_law_32 (by rw [h9]; decide) (by rw [h9]; decide) (by rw [h9]; decide) (by decide) ?_
        exact law_look C0 hk hMT I hin hce hsl hH hR hS hl hback
      by_cases h10 : v = (10:Int32)
      · refine lv_tableIn (off := 504) (tgt := 536) hx hb dL_law_32 (by rw [h10]; decide) (by rw [h10]; decide) (by rw [h10]; decide) (by decide) ?_
        exact law_harm C0 hk hMT I hin hce hsl hH hR hS hl hback
      by_cases h11 : v = (11:Int32)
      · refine lv_tableIn (off := 528) (tgt := 560) hx hb dL_law_32 (by rw [h11]; decide) (by rw [h11]; decide) (by rw [h11]; decide) (by decide) ?_
        exact law_rule C0 hk hMT I hin hce hsl hH hR hS hl hback
      by_cases h12 : v = (12:Int32)
      · refine lv_tableIn (off := 561) (tgt := 593) hx hb dL_law_32 (by rw [h12]; decide) (by rw [h12]; decide) (by rw [h12]; decide) (by decide) ?_
        exact law_row C0 hk hMT I hin hce hsl hH hR hS hl hback
      by_cases h13 : v = (13:Int32)
      · refine lv_tableIn (off := 594) (tgt := 626) hx hb dL_law_32 (by rw [h13]; decide) (by rw [h13]; decide) (by rw [h13]; decide) (by decide) ?_
        exact law_lets C0 hk hMT I hin hce hsl hH hR hS hl hback
      by_cases h14 : v = (14:Int32)
      · refine lv_tableIn (off := 637) (tgt := 669) hx hb dL_law_32 (by rw [h14]; decide) (by rw [h14]; decide) (by rw [h14]; decide) (by decide) ?_
        exact law_mean C0 hk hMT I hin hce hsl hH hR hS hl hback
      by_cases h15 : v = (15:Int32)
      · refine lv_tableIn (off := 671) (tgt := 703) hx hb dL_law_32 (by rw [h15]; decide) (by rw [h15]; decide) (by rw [h15]; decide) (by decide) ?_
        exact law_best C0 hk hMT I hin hce hsl hH hR hS hl hback
      by_cases h16 : v = (16:Int32)
      · refine lv_tableIn (off := 725) (tgt := 757) hx hb dL_law_32 (by rw [h16]; decide) (by rw [h16]; decide) (by rw [h16]; decide) (by decide) ?_
        exact law_plain C0 hk hMT I hin hce hsl hH hR hS hl hback
      by_cases h17 : v = (17:Int32)
      · refine lv_tableIn (off := 758) (tgt := 790) hx hb dL_law_32 (by rw [h17]; decide) (by rw [h17]; decide) (by rw [h17]; decide) (by decide) ?_
        exact law_loses C0 hk hMT I hin hce hsl hH hR hS hl hback
      by_cases h18 : v = (18:Int32)
      · refine lv_tableIn (off := 782) (tgt := 814) hx hb dL_law_32 (by rw [h18]; decide) (by rw [h18]; decide) (by rw [h18]; decide) (by decide) ?_
        exact law_judged C0 hk hMT I hin hce hsl hH hR hS hl hback
      by_cases h19 : v = (19:Int32)
      · refine lv_tableIn (off := 815) (tgt := 847) hx hb dL_law_32 (by rw [h19]; decide) (by rw [h19]; decide) (by rw [h19]; decide) (by decide) ?_
        exact law_room C0 hk hMT I hin hce hsl hH hR hS hl hback
      by_cases h20 : v = (20:Int32)
      · refine lv_tableIn (off := 848) (tgt := 880) hx hb dL_law_32 (by rw [h20]; decide) (by rw [h20]; decide) (by rw [h20]; decide) (by decide) ?_
        exact law_lies C0 hk hMT I hin hce hsl hH hR hS hl hback
      by_cases h21 : v = (21:Int32)
      · refine lv_tableIn (off := 881) (tgt := 913) hx hb dL_law_32 (by rw [h21]; decide) (by rw [h21]; decide) (by rw [h21]; decide) (by decide) ?_
        exact law_fine C0 hk hMT I hin hce hsl hH hR hS hl hback
      by_cases h22 : v = (22:Int32)
      · refine lv_tableIn (off := 914) (tgt := 946) hx hb dL_law_32 (by rw [h22]; decide) (by rw [h22]; decide) (by rw [h22]; decide) (by decide) ?_
        exact law_rest C0 hk hMT I hin hce hsl hH hR hS hl hback
      by_cases h23 : v = (23:Int32)
      · refine lv_tableIn (off := 957) (tgt := 989) hx hb dL_law_32 (by rw [h23]; decide) (by rw [h23]; decide) (by rw [h23]; decide) (by decide) ?_
        exact law_matter C0 hk hMT I hin hce hsl hH hR hS hl hback
      by_cases h24 : v = (24:Int32)
      · refine lv_tableIn (off := 980) (tgt := 1012) hx hb dL_law_32 (by rw [h24]; decide) (by rw [h24]; decide) (by rw [h24]; decide) (by decide) ?_
        exact law_edge C0 hk hMT I hin hce hsl hH hR hS hl hback
      by_cases h25 : v = (25:Int32)
      · refine lv_tableIn (off := 1003) (tgt := 1035) hx hb dL_law_32 (by rw [h25]; decide) (by rw [h25]; decide) (by rw [h25]; decide) (by decide) ?_
        exact law_run C0 hk hMT I hin hce hsl hH hR hS hl hback
      by_cases h26 : v = (26:Int32)
      · refine lv_tableIn (off := 1046) (tgt := 1078) hx hb dL_law_32 (by rw [h26]; decide) (by rw [h26]; decide) (by rw [h26]; decide) (by decide) ?_
        exact law_act C0 hk hMT I hin hce hsl hH hR hS hl hback
      by_cases h27 : v = (27:Int32)
      · refine lv_tableIn (off := 1089) (tgt := 1121) hx hb dL_law_32 (by rw [h27]; decide) (by rw [h27]; decide) (by rw [h27]; decide) (by decide) ?_
        exact law_trace C0 hk hMT I hin hce hsl hH hR hS hl hback
      by_cases h28 : v = (28:Int32)
      · refine lv_tableIn (off := 1112) (tgt := 1144) hx hb dL_law_32 (by rw [h28]; decide) (by rw [h28]; decide) (by rw [h28]; decide) (by decide) ?_
        exact law_as C0 hk hMT I hin hce hsl hH hR hS hl hback
      by_cases h29 : v = (29:Int32)
      · refine lv_tableIn (off := 1145) (tgt := 1177) hx hb dL_law_32 (by rw [h29]; decide) (by rw [h29]; decide) (by rw [h29]; decide) (by decide) ?_
        exact law_image C0 hk hMT I hin hce hsl hH hR hS hl hback
      by_cases h30 : v = (30:Int32)
      · refine lv_tableIn (off := 1158) (tgt := 1190) hx hb dL_law_32 (by rw [h30]; decide) (by rw [h30]; decide) (by rw [h30]; decide) (by decide) ?_
        exact law_undo C0 hk hMT I hin hce hsl hH hR hS hl hback
      by_cases h31 : v = (31:Int32)
      · refine lv_tableIn (off := 1171) (tgt := 1203) hx hb dL_law_32 (by rw [h31]; decide) (by rw [h31]; decide) (by rw [h31]; decide) (by decide) ?_
        exact law_count C0 hk hMT I hin hce hsl hH hR hS hl hback
      exact absurd (l_32 hvb) (by
        rintro (h | h | h | h | h | h | h | h | h | h | h | h | h | h | h | h | h | h | h | h | h | h | h | h | h | h | h | h | h | h | h | h)
        · exact h0 h
        · exact h1 h
        · exact h2 h
        · exact h3 h
        · exact h4 h
        · exact h5 h
        · exact h6 h
        · exact h7 h
        · exact h8 h
        · exact h9 h
        · exact h10 h
        · exact h11 h
        · exact h12 h
        · exact h13 h
        · exact h14 h
        · exact h15 h
        · exact h16 h
        · exact h17 h
        · exact h18 h
        · exact h19 h
        · exact h20 h
        · exact h21 h
        · exact h22 h
        · exact h23 h
        · exact h24 h
        · exact h25 h
        · exact h26 h
        · exact h27 h
        · exact h28 h
        · exact h29 h
        · exact h30 h
        · exact h31 h)
