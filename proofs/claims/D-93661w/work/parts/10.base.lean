/-! the combinators of decompiled programs (printed by gen/base.py) -/
def gd {ρ : Type} (c : Bool) (K : Option ρ) : Option ρ := match c with
  | true => K
  | false => none
theorem gd_inv {ρ : Type} {c : Bool} {K : Option ρ} {z : ρ} (h : gd c K = some z) : c = true ∧ K = some z := by
  cases c with
  | true => exact ⟨rfl, h⟩
  | false => cases h
def bd {α ρ : Type} (e : α) (K : α → Option ρ) : Option ρ := K e
theorem bd_inv {α ρ : Type} {e x : α} {K : α → Option ρ} {z : ρ} (h : x = e) (hX : bd e K = some z) : K x = some z := by rw [h]; exact hX
def cl {α ρ : Type} (o : Option α) (K : α → Option ρ) : Option ρ := match o with
  | some a => K a
  | none => none
theorem cl_inv {α ρ : Type} {o : Option α} {K : α → Option ρ} {z : ρ} (h : cl o K = some z) : ∃ a, o = some a ∧ K a = some z := by
  cases o with
  | none => cases h
  | some a => exact ⟨a, rfl, h⟩
def cl2 {α β ρ : Type} (o : Option (α × β)) (K : α → β → Option ρ) : Option ρ := match o with
  | some (a, b) => K a b
  | none => none
theorem cl2_inv {α β ρ : Type} {o : Option (α × β)} {K : α → β → Option ρ} {z : ρ} (h : cl2 o K = some z) : ∃ a b, o = some (a, b) ∧ K a b = some z := by
  cases o with
  | none => cases h
  | some a => exact ⟨a.1, a.2, rfl, h⟩
theorem ipos {ρ : Type} {c : Prop} {d : Decidable c} {A B : Option ρ} {z : ρ} (h : c) (hX : (@ite _ c d A B) = some z) : A = some z := by rw [if_pos h] at hX; exact hX
theorem ineg {ρ : Type} {c : Prop} {d : Decidable c} {A B : Option ρ} {z : ρ} (h : ¬ c) (hX : (@ite _ c d A B) = some z) : B = some z := by rw [if_neg h] at hX; exact hX
theorem rinv {ρ : Type} {a z : ρ} (h : some a = some z) : a = z := Option.some.inj h
def jn {κ ρ : Type} (K : κ) (B : κ → Option ρ) : Option ρ := B K
def lp {κ : Type} (z : κ) (F : κ → κ) : Nat → κ
  | 0 => z
  | n + 1 => F (lp z F n)
def NF : Nat := 5000
/-- an index within, as a Bool -/
def ib (i : Int32) (n : Nat) : Bool := !(decide (i < 0)) && decide (i.toNatClampNeg < n)
theorem ib_in {i : Int32} {n : Nat} (h : ib i n = true) : vp_in i n := by
  unfold ib at h
  rw [Bool.and_eq_true, Bool.not_eq_true', decide_eq_false_iff_not, decide_eq_true_iff] at h
  intro q
  rcases q with q | q
  · exact h.1 q
  · omega
/-- a truth value -/
def isb (v : Int32) : Bool := decide (v = 0) || decide (v = 1)
theorem isb_or {v : Int32} (h : isb v = true) : v = 0 ∨ v = 1 := by
  unfold isb at h
  rw [Bool.or_eq_true, decide_eq_true_iff, decide_eq_true_iff] at h
  exact h
theorem isb_n {v : Int32} (h : isb v = true) : narrow .boolean (.int v) = .int v := by
  rcases isb_or h with e | e <;> subst e <;> rfl
theorem isb_f {v : Int32} (h : isb v = true) : fits .boolean (.int v) = true := by
  rcases isb_or h with e | e <;> subst e <;> rfl
theorem isb_v {v : Int32} (h : isb v = true) : vp_nar .boolean v = v := by
  rcases isb_or h with e | e <;> subst e <;> rfl
def nz (v : Int32) : Bool := !(decide (v = 0))
theorem nz_ne {v : Int32} (h : nz v = true) : ¬ v = 0 := by
  unfold nz at h
  rw [Bool.not_eq_true', decide_eq_false_iff_not] at h
  exact h
def nzl (v : Int64) : Bool := !(decide (v = 0))
theorem nzl_ne {v : Int64} (h : nzl v = true) : ¬ v = 0 := by
  unfold nzl at h
  rw [Bool.not_eq_true', decide_eq_false_iff_not] at h
  exact h

theorem jnu0 {ρ : Type} {K : Option ρ} {B : (Option ρ) → Option ρ} {z : ρ} {G : Prop} (hX : jn K B = some z) (P : Prop) (hK : K  = some z → P ) (hB : ∀ k : Option ρ, (k  = some z → P ) → B k = some z → G) : G := hB K hK hX
theorem lpu1 {A1 : Type} {ρ : Type} {F : (A1 → Option ρ) → (A1 → Option ρ)} {n : Nat} {a1 : A1} {z : ρ} (hX : lp (fun _ => none) F n a1 = some z) (P : A1 → Prop) (hs : ∀ k : A1 → Option ρ, (∀ (x1 : A1), k x1 = some z → P x1) → ∀ (x1 : A1), F k x1 = some z → P x1) : P a1 := by
  have h : ∀ n, ∀ (x1 : A1), lp (fun _ => none) F n x1 = some z → P x1 := by
    intro n
    induction n with
    | zero => intro x1 h; cases h
    | succ n ih => intro x1 h; exact hs _ ih x1 h
  exact h n a1 hX
theorem jnu1 {A1 : Type} {ρ : Type} {K : A1 → Option ρ} {B : (A1 → Option ρ) → Option ρ} {z : ρ} {G : Prop} (hX : jn K B = some z) (P : A1 → Prop) (hK : ∀ (x1 : A1), K x1 = some z → P x1) (hB : ∀ k : A1 → Option ρ, (∀ (x1 : A1), k x1 = some z → P x1) → B k = some z → G) : G := hB K hK hX
theorem lpu2 {A1 A2 : Type} {ρ : Type} {F : (A1 → A2 → Option ρ) → (A1 → A2 → Option ρ)} {n : Nat} {a1 : A1} {a2 : A2} {z : ρ} (hX : lp (fun _ _ => none) F n a1 a2 = some z) (P : A1 → A2 → Prop) (hs : ∀ k : A1 → A2 → Option ρ, (∀ (x1 : A1) (x2 : A2), k x1 x2 = some z → P x1 x2) → ∀ (x1 : A1) (x2 : A2), F k x1 x2 = some z → P x1 x2) : P a1 a2 := by
  have h : ∀ n, ∀ (x1 : A1) (x2 : A2), lp (fun _ _ => none) F n x1 x2 = some z → P x1 x2 := by
    intro n
    induction n with
    | zero => intro x1 x2 h; cases h
    | succ n ih => intro x1 x2 h; exact hs _ ih x1 x2 h
  exact h n a1 a2 hX
theorem jnu2 {A1 A2 : Type} {ρ : Type} {K : A1 → A2 → Option ρ} {B : (A1 → A2 → Option ρ) → Option ρ} {z : ρ} {G : Prop} (hX : jn K B = some z) (P : A1 → A2 → Prop) (hK : ∀ (x1 : A1) (x2 : A2), K x1 x2 = some z → P x1 x2) (hB : ∀ k : A1 → A2 → Option ρ, (∀ (x1 : A1) (x2 : A2), k x1 x2 = some z → P x1 x2) → B k = some z → G) : G := hB K hK hX
theorem lpu3 {A1 A2 A3 : Type} {ρ : Type} {F : (A1 → A2 → A3 → Option ρ) → (A1 → A2 → A3 → Option ρ)} {n : Nat} {a1 : A1} {a2 : A2} {a3 : A3} {z : ρ} (hX : lp (fun _ _ _ => none) F n a1 a2 a3 = some z) (P : A1 → A2 → A3 → Prop) (hs : ∀ k : A1 → A2 → A3 → Option ρ, (∀ (x1 : A1) (x2 : A2) (x3 : A3), k x1 x2 x3 = some z → P x1 x2 x3) → ∀ (x1 : A1) (x2 : A2) (x3 : A3), F k x1 x2 x3 = some z → P x1 x2 x3) : P a1 a2 a3 := by
  have h : ∀ n, ∀ (x1 : A1) (x2 : A2) (x3 : A3), lp (fun _ _ _ => none) F n x1 x2 x3 = some z → P x1 x2 x3 := by
    intro n
    induction n with
    | zero => intro x1 x2 x3 h; cases h
    | succ n ih => intro x1 x2 x3 h; exact hs _ ih x1 x2 x3 h
  exact h n a1 a2 a3 hX
theorem jnu3 {A1 A2 A3 : Type} {ρ : Type} {K : A1 → A2 → A3 → Option ρ} {B : (A1 → A2 → A3 → Option ρ) → Option ρ} {z : ρ} {G : Prop} (hX : jn K B = some z) (P : A1 → A2 → A3 → Prop) (hK : ∀ (x1 : A1) (x2 : A2) (x3 : A3), K x1 x2 x3 = some z → P x1 x2 x3) (hB : ∀ k : A1 → A2 → A3 → Option ρ, (∀ (x1 : A1) (x2 : A2) (x3 : A3), k x1 x2 x3 = some z → P x1 x2 x3) → B k = some z → G) : G := hB K hK hX
theorem lpu4 {A1 A2 A3 A4 : Type} {ρ : Type} {F : (A1 → A2 → A3 → A4 → Option ρ) → (A1 → A2 → A3 → A4 → Option ρ)} {n : Nat} {a1 : A1} {a2 : A2} {a3 : A3} {a4 : A4} {z : ρ} (hX : lp (fun _ _ _ _ => none) F n a1 a2 a3 a4 = some z) (P : A1 → A2 → A3 → A4 → Prop) (hs : ∀ k : A1 → A2 → A3 → A4 → Option ρ, (∀ (x1 : A1) (x2 : A2) (x3 : A3) (x4 : A4), k x1 x2 x3 x4 = some z → P x1 x2 x3 x4) → ∀ (x1 : A1) (x2 : A2) (x3 : A3) (x4 : A4), F k x1 x2 x3 x4 = some z → P x1 x2 x3 x4) : P a1 a2 a3 a4 := by
  have h : ∀ n, ∀ (x1 : A1) (x2 : A2) (x3 : A3) (x4 : A4), lp (fun _ _ _ _ => none) F n x1 x2 x3 x4 = some z → P x1 x2 x3 x4 := by
    intro n
    induction n with
    | zero => intro x1 x2 x3 x4 h; cases h
    | succ n ih => intro x1 x2 x3 x4 h; exact hs _ ih x1 x2 x3 x4 h
  exact h n a1 a2 a3 a4 hX
theorem jnu4 {A1 A2 A3 A4 : Type} {ρ : Type} {K : A1 → A2 → A3 → A4 → Option ρ} {B : (A1 → A2 → A3 → A4 → Option ρ) → Option ρ} {z : ρ} {G : Prop} (hX : jn K B = some z) (P : A1 → A2 → A3 → A4 → Prop) (hK : ∀ (x1 : A1) (x2 : A2) (x3 : A3) (x4 : A4), K x1 x2 x3 x4 = some z → P x1 x2 x3 x4) (hB : ∀ k : A1 → A2 → A3 → A4 → Option ρ, (∀ (x1 : A1) (x2 : A2) (x3 : A3) (x4 : A4), k x1 x2 x3 x4 = some z → P x1 x2 x3 x4) → B k = some z → G) : G := hB K hK hX
theorem lpu5 {A1 A2 A3 A4 A5 : Type} {ρ : Type} {F : (A1 → A2 → A3 → A4 → A5 → Option ρ) → (A1 → A2 → A3 → A4 → A5 → Option ρ)} {n : Nat} {a1 : A1} {a2 : A2} {a3 : A3} {a4 : A4} {a5 : A5} {z : ρ} (hX : lp (fun _ _ _ _ _ => none) F n a1 a2 a3 a4 a5 = some z) (P : A1 → A2 → A3 → A4 → A5 → Prop) (hs : ∀ k : A1 → A2 → A3 → A4 → A5 → Option ρ, (∀ (x1 : A1) (x2 : A2) (x3 : A3) (x4 : A4) (x5 : A5), k x1 x2 x3 x4 x5 = some z → P x1 x2 x3 x4 x5) → ∀ (x1 : A1) (x2 : A2) (x3 : A3) (x4 : A4) (x5 : A5), F k x1 x2 x3 x4 x5 = some z → P x1 x2 x3 x4 x5) : P a1 a2 a3 a4 a5 := by
  have h : ∀ n, ∀ (x1 : A1) (x2 : A2) (x3 : A3) (x4 : A4) (x5 : A5), lp (fun _ _ _ _ _ => none) F n x1 x2 x3 x4 x5 = some z → P x1 x2 x3 x4 x5 := by
    intro n
    induction n with
    | zero => intro x1 x2 x3 x4 x5 h; cases h
    | succ n ih => intro x1 x2 x3 x4 x5 h; exact hs _ ih x1 x2 x3 x4 x5 h
  exact h n a1 a2 a3 a4 a5 hX
theorem jnu5 {A1 A2 A3 A4 A5 : Type} {ρ : Type} {K : A1 → A2 → A3 → A4 → A5 → Option ρ} {B : (A1 → A2 → A3 → A4 → A5 → Option ρ) → Option ρ} {z : ρ} {G : Prop} (hX : jn K B = some z) (P : A1 → A2 → A3 → A4 → A5 → Prop) (hK : ∀ (x1 : A1) (x2 : A2) (x3 : A3) (x4 : A4) (x5 : A5), K x1 x2 x3 x4 x5 = some z → P x1 x2 x3 x4 x5) (hB : ∀ k : A1 → A2 → A3 → A4 → A5 → Option ρ, (∀ (x1 : A1) (x2 : A2) (x3 : A3) (x4 : A4) (x5 : A5), k x1 x2 x3 x4 x5 = some z → P x1 x2 x3 x4 x5) → B k = some z → G) : G := hB K hK hX
theorem lpu6 {A1 A2 A3 A4 A5 A6 : Type} {ρ : Type} {F : (A1 → A2 → A3 → A4 → A5 → A6 → Option ρ) → (A1 → A2 → A3 → A4 → A5 → A6 → Option ρ)} {n : Nat} {a1 : A1} {a2 : A2} {a3 : A3} {a4 : A4} {a5 : A5} {a6 : A6} {z : ρ} (hX : lp (fun _ _ _ _ _ _ => none) F n a1 a2 a3 a4 a5 a6 = some z) (P : A1 → A2 → A3 → A4 → A5 → A6 → Prop) (hs : ∀ k : A1 → A2 → A3 → A4 → A5 → A6 → Option ρ, (∀ (x1 : A1) (x2 : A2) (x3 : A3) (x4 : A4) (x5 : A5) (x6 : A6), k x1 x2 x3 x4 x5 x6 = some z → P x1 x2 x3 x4 x5 x6) → ∀ (x1 : A1) (x2 : A2) (x3 : A3) (x4 : A4) (x5 : A5) (x6 : A6), F k x1 x2 x3 x4 x5 x6 = some z → P x1 x2 x3 x4 x5 x6) : P a1 a2 a3 a4 a5 a6 := by
  have h : ∀ n, ∀ (x1 : A1) (x2 : A2) (x3 : A3) (x4 : A4) (x5 : A5) (x6 : A6), lp (fun _ _ _ _ _ _ => none) F n x1 x2 x3 x4 x5 x6 = some z → P x1 x2 x3 x4 x5 x6 := by
    intro n
    induction n with
    | zero => intro x1 x2 x3 x4 x5 x6 h; cases h
    | succ n ih => intro x1 x2 x3 x4 x5 x6 h; exact hs _ ih x1 x2 x3 x4 x5 x6 h
  exact h n a1 a2 a3 a4 a5 a6 hX
theorem jnu6 {A1 A2 A3 A4 A5 A6 : Type} {ρ : Type} {K : A1 → A2 → A3 → A4 → A5 → A6 → Option ρ} {B : (A1 → A2 → A3 → A4 → A5 → A6 → Option ρ) → Option ρ} {z : ρ} {G : Prop} (hX : jn K B = some z) (P : A1 → A2 → A3 → A4 → A5 → A6 → Prop) (hK : ∀ (x1 : A1) (x2 : A2) (x3 : A3) (x4 : A4) (x5 : A5) (x6 : A6), K x1 x2 x3 x4 x5 x6 = some z → P x1 x2 x3 x4 x5 x6) (hB : ∀ k : A1 → A2 → A3 → A4 → A5 → A6 → Option ρ, (∀ (x1 : A1) (x2 : A2) (x3 : A3) (x4 : A4) (x5 : A5) (x6 : A6), k x1 x2 x3 x4 x5 x6 = some z → P x1 x2 x3 x4 x5 x6) → B k = some z → G) : G := hB K hK hX
theorem lpu7 {A1 A2 A3 A4 A5 A6 A7 : Type} {ρ : Type} {F : (A1 → A2 → A3 → A4 → A5 → A6 → A7 → Option ρ) → (A1 → A2 → A3 → A4 → A5 → A6 → A7 → Option ρ)} {n : Nat} {a1 : A1} {a2 : A2} {a3 : A3} {a4 : A4} {a5 : A5} {a6 : A6} {a7 : A7} {z : ρ} (hX : lp (fun _ _ _ _ _ _ _ => none) F n a1 a2 a3 a4 a5 a6 a7 = some z) (P : A1 → A2 → A3 → A4 → A5 → A6 → A7 → Prop) (hs : ∀ k : A1 → A2 → A3 → A4 → A5 → A6 → A7 → Option ρ, (∀ (x1 : A1) (x2 : A2) (x3 : A3) (x4 : A4) (x5 : A5) (x6 : A6) (x7 : A7), k x1 x2 x3 x4 x5 x6 x7 = some z → P x1 x2 x3 x4 x5 x6 x7) → ∀ (x1 : A1) (x2 : A2) (x3 : A3) (x4 : A4) (x5 : A5) (x6 : A6) (x7 : A7), F k x1 x2 x3 x4 x5 x6 x7 = some z → P x1 x2 x3 x4 x5 x6 x7) : P a1 a2 a3 a4 a5 a6 a7 := by
  have h : ∀ n, ∀ (x1 : A1) (x2 : A2) (x3 : A3) (x4 : A4) (x5 : A5) (x6 : A6) (x7 : A7), lp (fun _ _ _ _ _ _ _ => none) F n x1 x2 x3 x4 x5 x6 x7 = some z → P x1 x2 x3 x4 x5 x6 x7 := by
    intro n
    induction n with
    | zero => intro x1 x2 x3 x4 x5 x6 x7 h; cases h
    | succ n ih => intro x1 x2 x3 x4 x5 x6 x7 h; exact hs _ ih x1 x2 x3 x4 x5 x6 x7 h
  exact h n a1 a2 a3 a4 a5 a6 a7 hX
theorem jnu7 {A1 A2 A3 A4 A5 A6 A7 : Type} {ρ : Type} {K : A1 → A2 → A3 → A4 → A5 → A6 → A7 → Option ρ} {B : (A1 → A2 → A3 → A4 → A5 → A6 → A7 → Option ρ) → Option ρ} {z : ρ} {G : Prop} (hX : jn K B = some z) (P : A1 → A2 → A3 → A4 → A5 → A6 → A7 → Prop) (hK : ∀ (x1 : A1) (x2 : A2) (x3 : A3) (x4 : A4) (x5 : A5) (x6 : A6) (x7 : A7), K x1 x2 x3 x4 x5 x6 x7 = some z → P x1 x2 x3 x4 x5 x6 x7) (hB : ∀ k : A1 → A2 → A3 → A4 → A5 → A6 → A7 → Option ρ, (∀ (x1 : A1) (x2 : A2) (x3 : A3) (x4 : A4) (x5 : A5) (x6 : A6) (x7 : A7), k x1 x2 x3 x4 x5 x6 x7 = some z → P x1 x2 x3 x4 x5 x6 x7) → B k = some z → G) : G := hB K hK hX
theorem lpu8 {A1 A2 A3 A4 A5 A6 A7 A8 : Type} {ρ : Type} {F : (A1 → A2 → A3 → A4 → A5 → A6 → A7 → A8 → Option ρ) → (A1 → A2 → A3 → A4 → A5 → A6 → A7 → A8 → Option ρ)} {n : Nat} {a1 : A1} {a2 : A2} {a3 : A3} {a4 : A4} {a5 : A5} {a6 : A6} {a7 : A7} {a8 : A8} {z : ρ} (hX : lp (fun _ _ _ _ _ _ _ _ => none) F n a1 a2 a3 a4 a5 a6 a7 a8 = some z) (P : A1 → A2 → A3 → A4 → A5 → A6 → A7 → A8 → Prop) (hs : ∀ k : A1 → A2 → A3 → A4 → A5 → A6 → A7 → A8 → Option ρ, (∀ (x1 : A1) (x2 : A2) (x3 : A3) (x4 : A4) (x5 : A5) (x6 : A6) (x7 : A7) (x8 : A8), k x1 x2 x3 x4 x5 x6 x7 x8 = some z → P x1 x2 x3 x4 x5 x6 x7 x8) → ∀ (x1 : A1) (x2 : A2) (x3 : A3) (x4 : A4) (x5 : A5) (x6 : A6) (x7 : A7) (x8 : A8), F k x1 x2 x3 x4 x5 x6 x7 x8 = some z → P x1 x2 x3 x4 x5 x6 x7 x8) : P a1 a2 a3 a4 a5 a6 a7 a8 := by
  have h : ∀ n, ∀ (x1 : A1) (x2 : A2) (x3 : A3) (x4 : A4) (x5 : A5) (x6 : A6) (x7 : A7) (x8 : A8), lp (fun _ _ _ _ _ _ _ _ => none) F n x1 x2 x3 x4 x5 x6 x7 x8 = some z → P x1 x2 x3 x4 x5 x6 x7 x8 := by
    intro n
    induction n with
    | zero => intro x1 x2 x3 x4 x5 x6 x7 x8 h; cases h
    | succ n ih => intro x1 x2 x3 x4 x5 x6 x7 x8 h; exact hs _ ih x1 x2 x3 x4 x5 x6 x7 x8 h
  exact h n a1 a2 a3 a4 a5 a6 a7 a8 hX
theorem jnu8 {A1 A2 A3 A4 A5 A6 A7 A8 : Type} {ρ : Type} {K : A1 → A2 → A3 → A4 → A5 → A6 → A7 → A8 → Option ρ} {B : (A1 → A2 → A3 → A4 → A5 → A6 → A7 → A8 → Option ρ) → Option ρ} {z : ρ} {G : Prop} (hX : jn K B = some z) (P : A1 → A2 → A3 → A4 → A5 → A6 → A7 → A8 → Prop) (hK : ∀ (x1 : A1) (x2 : A2) (x3 : A3) (x4 : A4) (x5 : A5) (x6 : A6) (x7 : A7) (x8 : A8), K x1 x2 x3 x4 x5 x6 x7 x8 = some z → P x1 x2 x3 x4 x5 x6 x7 x8) (hB : ∀ k : A1 → A2 → A3 → A4 → A5 → A6 → A7 → A8 → Option ρ, (∀ (x1 : A1) (x2 : A2) (x3 : A3) (x4 : A4) (x5 : A5) (x6 : A6) (x7 : A7) (x8 : A8), k x1 x2 x3 x4 x5 x6 x7 x8 = some z → P x1 x2 x3 x4 x5 x6 x7 x8) → B k = some z → G) : G := hB K hK hX
theorem lpu9 {A1 A2 A3 A4 A5 A6 A7 A8 A9 : Type} {ρ : Type} {F : (A1 → A2 → A3 → A4 → A5 → A6 → A7 → A8 → A9 → Option ρ) → (A1 → A2 → A3 → A4 → A5 → A6 → A7 → A8 → A9 → Option ρ)} {n : Nat} {a1 : A1} {a2 : A2} {a3 : A3} {a4 : A4} {a5 : A5} {a6 : A6} {a7 : A7} {a8 : A8} {a9 : A9} {z : ρ} (hX : lp (fun _ _ _ _ _ _ _ _ _ => none) F n a1 a2 a3 a4 a5 a6 a7 a8 a9 = some z) (P : A1 → A2 → A3 → A4 → A5 → A6 → A7 → A8 → A9 → Prop) (hs : ∀ k : A1 → A2 → A3 → A4 → A5 → A6 → A7 → A8 → A9 → Option ρ, (∀ (x1 : A1) (x2 : A2) (x3 : A3) (x4 : A4) (x5 : A5) (x6 : A6) (x7 : A7) (x8 : A8) (x9 : A9), k x1 x2 x3 x4 x5 x6 x7 x8 x9 = some z → P x1 x2 x3 x4 x5 x6 x7 x8 x9) → ∀ (x1 : A1) (x2 : A2) (x3 : A3) (x4 : A4) (x5 : A5) (x6 : A6) (x7 : A7) (x8 : A8) (x9 : A9), F k x1 x2 x3 x4 x5 x6 x7 x8 x9 = some z → P x1 x2 x3 x4 x5 x6 x7 x8 x9) : P a1 a2 a3 a4 a5 a6 a7 a8 a9 := by
  have h : ∀ n, ∀ (x1 : A1) (x2 : A2) (x3 : A3) (x4 : A4) (x5 : A5) (x6 : A6) (x7 : A7) (x8 : A8) (x9 : A9), lp (fun _ _ _ _ _ _ _ _ _ => none) F n x1 x2 x3 x4 x5 x6 x7 x8 x9 = some z → P x1 x2 x3 x4 x5 x6 x7 x8 x9 := by
    intro n
    induction n with
    | zero => intro x1 x2 x3 x4 x5 x6 x7 x8 x9 h; cases h
    | succ n ih => intro x1 x2 x3 x4 x5 x6 x7 x8 x9 h; exact hs _ ih x1 x2 x3 x4 x5 x6 x7 x8 x9 h
  exact h n a1 a2 a3 a4 a5 a6 a7 a8 a9 hX
theorem jnu9 {A1 A2 A3 A4 A5 A6 A7 A8 A9 : Type} {ρ : Type} {K : A1 → A2 → A3 → A4 → A5 → A6 → A7 → A8 → A9 → Option ρ} {B : (A1 → A2 → A3 → A4 → A5 → A6 → A7 → A8 → A9 → Option ρ) → Option ρ} {z : ρ} {G : Prop} (hX : jn K B = some z) (P : A1 → A2 → A3 → A4 → A5 → A6 → A7 → A8 → A9 → Prop) (hK : ∀ (x1 : A1) (x2 : A2) (x3 : A3) (x4 : A4) (x5 : A5) (x6 : A6) (x7 : A7) (x8 : A8) (x9 : A9), K x1 x2 x3 x4 x5 x6 x7 x8 x9 = some z → P x1 x2 x3 x4 x5 x6 x7 x8 x9) (hB : ∀ k : A1 → A2 → A3 → A4 → A5 → A6 → A7 → A8 → A9 → Option ρ, (∀ (x1 : A1) (x2 : A2) (x3 : A3) (x4 : A4) (x5 : A5) (x6 : A6) (x7 : A7) (x8 : A8) (x9 : A9), k x1 x2 x3 x4 x5 x6 x7 x8 x9 = some z → P x1 x2 x3 x4 x5 x6 x7 x8 x9) → B k = some z → G) : G := hB K hK hX
theorem lpu10 {A1 A2 A3 A4 A5 A6 A7 A8 A9 A10 : Type} {ρ : Type} {F : (A1 → A2 → A3 → A4 → A5 → A6 → A7 → A8 → A9 → A10 → Option ρ) → (A1 → A2 → A3 → A4 → A5 → A6 → A7 → A8 → A9 → A10 → Option ρ)} {n : Nat} {a1 : A1} {a2 : A2} {a3 : A3} {a4 : A4} {a5 : A5} {a6 : A6} {a7 : A7} {a8 : A8} {a9 : A9} {a10 : A10} {z : ρ} (hX : lp (fun _ _ _ _ _ _ _ _ _ _ => none) F n a1 a2 a3 a4 a5 a6 a7 a8 a9 a10 = some z) (P : A1 → A2 → A3 → A4 → A5 → A6 → A7 → A8 → A9 → A10 → Prop) (hs : ∀ k : A1 → A2 → A3 → A4 → A5 → A6 → A7 → A8 → A9 → A10 → Option ρ, (∀ (x1 : A1) (x2 : A2) (x3 : A3) (x4 : A4) (x5 : A5) (x6 : A6) (x7 : A7) (x8 : A8) (x9 : A9) (x10 : A10), k x1 x2 x3 x4 x5 x6 x7 x8 x9 x10 = some z → P x1 x2 x3 x4 x5 x6 x7 x8 x9 x10) → ∀ (x1 : A1) (x2 : A2) (x3 : A3) (x4 : A4) (x5 : A5) (x6 : A6) (x7 : A7) (x8 : A8) (x9 : A9) (x10 : A10), F k x1 x2 x3 x4 x5 x6 x7 x8 x9 x10 = some z → P x1 x2 x3 x4 x5 x6 x7 x8 x9 x10) : P a1 a2 a3 a4 a5 a6 a7 a8 a9 a10 := by
  have h : ∀ n, ∀ (x1 : A1) (x2 : A2) (x3 : A3) (x4 : A4) (x5 : A5) (x6 : A6) (x7 : A7) (x8 : A8) (x9 : A9) (x10 : A10), lp (fun _ _ _ _ _ _ _ _ _ _ => none) F n x1 x2 x3 x4 x5 x6 x7 x8 x9 x10 = some z → P x1 x2 x3 x4 x5 x6 x7 x8 x9 x10 := by
    intro n
    induction n with
    | zero => intro x1 x2 x3 x4 x5 x6 x7 x8 x9 x10 h; cases h
    | succ n ih => intro x1 x2 x3 x4 x5 x6 x7 x8 x9 x10 h; exact hs _ ih x1 x2 x3 x4 x5 x6 x7 x8 x9 x10 h
  exact h n a1 a2 a3 a4 a5 a6 a7 a8 a9 a10 hX
theorem jnu10 {A1 A2 A3 A4 A5 A6 A7 A8 A9 A10 : Type} {ρ : Type} {K : A1 → A2 → A3 → A4 → A5 → A6 → A7 → A8 → A9 → A10 → Option ρ} {B : (A1 → A2 → A3 → A4 → A5 → A6 → A7 → A8 → A9 → A10 → Option ρ) → Option ρ} {z : ρ} {G : Prop} (hX : jn K B = some z) (P : A1 → A2 → A3 → A4 → A5 → A6 → A7 → A8 → A9 → A10 → Prop) (hK : ∀ (x1 : A1) (x2 : A2) (x3 : A3) (x4 : A4) (x5 : A5) (x6 : A6) (x7 : A7) (x8 : A8) (x9 : A9) (x10 : A10), K x1 x2 x3 x4 x5 x6 x7 x8 x9 x10 = some z → P x1 x2 x3 x4 x5 x6 x7 x8 x9 x10) (hB : ∀ k : A1 → A2 → A3 → A4 → A5 → A6 → A7 → A8 → A9 → A10 → Option ρ, (∀ (x1 : A1) (x2 : A2) (x3 : A3) (x4 : A4) (x5 : A5) (x6 : A6) (x7 : A7) (x8 : A8) (x9 : A9) (x10 : A10), k x1 x2 x3 x4 x5 x6 x7 x8 x9 x10 = some z → P x1 x2 x3 x4 x5 x6 x7 x8 x9 x10) → B k = some z → G) : G := hB K hK hX
