/-! the component's contracts, and the judgement of its walks -/
/-- class numbers, array classes, what may be written, the static empty array, the mirror of Object[] -/
abbrev CE : Type := va_G × (Nat → ClassId) × (Nat → Prop) × Nat × Nat
abbrev hc (E : CE) (σ : CS) (H : Heap) : Prop := HC E.1 E.2.1 E.2.2.1 σ H
abbrev EA (E : CE) : Nat → Prop := E.2.2.1
abbrev vK (E : CE) (s : State) : Prop := va_K E.1 vCl (vTy E.2.1) s
def xT : MethodName := ⟨"FortyDays$Test", "holds", "(III)Z"⟩
def nct (U : State) : Prop := va_Nc RX11 RX16 U ∧ va_Nc RX12 RX16 U ∧ va_Nc RX13 RX16 U ∧ va_Nc RX14 RX16 U ∧ va_Nc RX15 RX16 U ∧ va_Nc RX17 RX16 U
def fw (U : State) : Prop := va_Fw RX7 xT yX7_holds U ∧ va_Fw RX8 xT yX8_holds U ∧ va_Fw RX9 xT yX9_holds U ∧ nct U
theorem fw.moved {u U : State} (hvm : u.vm.Alike U.vm) (h : fw u) : fw U := ⟨va_Fw.moved (by decide) hvm h.1, va_Fw.moved (by decide) hvm h.2.1, va_Fw.moved (by decide) hvm h.2.2.1, va_Nc.moved hvm h.2.2.2.1, va_Nc.moved hvm h.2.2.2.2.1, va_Nc.moved hvm h.2.2.2.2.2.1, va_Nc.moved hvm h.2.2.2.2.2.2.1, va_Nc.moved hvm h.2.2.2.2.2.2.2.1, va_Nc.moved hvm h.2.2.2.2.2.2.2.2⟩
/-- arrays of arrays -/
def aOA (U : State) : Prop := (Cond.arrayOver (.array .char)).before #[] U = true ∧ (Cond.arrayOver (.array .long)).before #[] U = true
theorem aOA_moved {t : FieldType} {u U : State} (hvm : u.vm.Alike U.vm) (h : (Cond.arrayOver (.array t)).before #[] u = true) : (Cond.arrayOver (.array t)).before #[] U = true := by
  obtain ⟨comp, c, k, h1, h2, h3, h4, h5⟩ := arrayOverA_spec h
  obtain ⟨k', hk', he⟩ := hvm.2.2 _ _ h3
  have hi : (U.vm.classes.findIdx? fun (x : Class) => match x.kind with | .array component _ => component == comp | _ => false) = some c := by
    exact (hvm.findIdx?_eqK _ (fun _ => rfl)).trans h2
  have hkind : k'.kind = .array comp (.array t) := by rw [he]; exact h4
  have f1 : U.vm.findClass (FieldType.array t).toString = some comp := by rw [hvm.findClass]; exact h1
  have f2 : U.vm.findClass ("[" ++ (FieldType.array t).toString) = some c := by rw [hvm.findClass]; exact h5
  unfold Cond.before Cond.holds
  simp only [Cond.value]
  rw [f1, Option.bind_some]
  refine (congrArg (fun o : Option Nat => (o.bind (fun c => (U.vm.classes[c]?).map fun (k : Class) => match k.kind with | .array _ ty => decide (ty = FieldType.array t) && decide (U.vm.findClass ("[" ++ (FieldType.array t).toString) = some c) | _ => false) == some true)) hi).trans ?_
  simp [hk', hkind, f2]
theorem aOA.moved {u U : State} (hvm : u.vm.Alike U.vm) (h : aOA u) : aOA U := ⟨aOA_moved hvm h.1, aOA_moved hvm h.2⟩
def kc (E : CE) (U : State) : Prop := va_K E.1 vCl (vTy E.2.1) U ∧ (∀ q, U.heap.size ≤ q → EA E q) ∧ (∀ w ∈ cNw, va_Nw w U) ∧ va_Z "java/util/ArrayList" "DEFAULTCAPACITY_EMPTY_ELEMENTDATA" "[Ljava/lang/Object;" (.ref E.2.2.2.1) (EA E) U U.heap ∧ va_Zq "java/lang/Throwable" "UNASSIGNED_STACK" "[Ljava/lang/StackTraceElement;" (EA E) U U.heap ∧ va_Zq "java/lang/Throwable" "SUPPRESSED_SENTINEL" "Ljava/util/List;" (EA E) U U.heap ∧ va_Mi "[Ljava/lang/Object;" E.2.2.2.2 U ∧ va_AO "java/lang/Object" U ∧ (va_AO "FortyDays$Thought" U ∧ aOA U) ∧ fw U
theorem kc.call {E : CE} {s U : State} {H : Heap} {locs : List Loc} (h : kc E s) (hS : va_S (EA E) s.heap H locs) (hU : U.heap = H) (hW : s.WarmedH U.vm) : kc E U := by
  obtain ⟨h1, h2, h3, h4, h5, h6, h7, h8, h9, h10⟩ := h
  refine ⟨va_K.moved hW.alike h1, fun q hq => h2 q (Nat.le_trans hS.1 (by rw [← hU]; exact hq)), fun w hw => cNw_warm hW w hw (h3 w hw), ?_, ?_, ?_, va_Mi.moved hW.alike h7, va_AO.moved hW.alike h8, ⟨va_AO.moved hW.alike h9.1, aOA.moved hW.alike h9.2⟩, fw.moved hW.alike h10⟩
  · rw [hU]; exact va_Z.moved hW.alike (h4.kept hS.2.1)
  · rw [hU]; exact va_Zq.moved hW.alike (h5.kept hS.2.1)
  · rw [hU]; exact va_Zq.moved hW.alike (h6.kept hS.2.1)
theorem kc.blind {E : CE} {U : State} {g : JFrame} {mk : MethodId} {a : Array Value} (h : kc E U) : kc E (U.calling g mk a) := by
  obtain ⟨h1, h2, h3, h4, h5, h6, h7, h8, h9, h10⟩ := h
  have hv : U.vm.Alike (U.calling g mk a).vm := Vm.Alike.refl U.vm
  exact ⟨va_K.moved hv h1, h2, fun w hw => va_Nw.same (u := U) (U := U.calling g mk a) (cNw_on w hw) rfl (h3 w hw), va_Z.moved hv h4, va_Zq.moved hv h5, va_Zq.moved hv h6, va_Mi.moved hv h7, va_AO.moved hv h8, ⟨va_AO.moved hv h9.1, aOA.moved hv h9.2⟩, fw.moved hv h10⟩
abbrev cPc (E : CE) (σ : CS) (av : List Value) : Array Value → State → Prop := va_Pc av (fun U => hc E σ U.heap ∧ kc E U)
def cQ (E : CE) (v : Option Value) (σ : CS) : Array Value → State → Outcome → State → Prop := fun _ st o t => (o = .returned v ∧ hc E σ t.heap) ∧ va_F (EA E) st t
abbrev rmC (f n : Nat) (σ σ1 : CS) : Room := { frames := f, cells := cZ σ1 - cZ σ, slots := cS σ1 - cS σ, locals := n }
def MetC (l : Launch) (y : MethodName) (ws : List Cond) (f n : Nat) (E : CE) (σ : CS) (av : List Value) (v : Option Value) (σ1 : CS) : Prop := (cZ σ ≤ cZ σ1 ∧ cS σ ≤ cS σ1) ∧ Met l y ws (rmC f n σ σ1) (cPc E σ av) (cQ E v σ1) (cZ σ1 - cZ σ) (cS σ1 - cS σ) (EA E)
/-- X is the rest of the decompiled program, z its answer and last state; σ the state now -/
def J (p : Program) (l : Launch) (e : Env) (R : Room) (s : State) (m : MethodId) (args : Array Value) (below : List Frame) (meth : Method) (c : Code) (nL : Nat) (E : CE) (z0 s0 : Nat) (Q : State → Prop) {ρ : Type} (z : ρ × CS) (X : Option (ρ × CS)) (σ : CS) (pc : Nat) (L : List (Nat × Value)) (st : List Value) : Prop :=
  X = some z → (cZ σ ≤ cZ z.2 ∧ cS σ ≤ cS z.2) ∧ ∀ (H : Heap) (locs : List Loc) (ls : Array Slot), hc E σ H → va_S (EA E) s.heap H locs → lv_has ls nL L → z0 ≤ cZ σ ∧ s0 ≤ cS σ → W p l e R s m args below meth c H locs (cZ σ - z0) (cS σ - s0) Q (F0 m pc ls st)
section CJ
variable {p : Program} {l : Launch} {e : Env} {R : Room} {s : State} {m : MethodId} {args : Array Value} {below : List Frame} {meth : Method} {c : Code} {nL : Nat} {E : CE} {z0 s0 : Nat} {Q : State → Prop} {ρ : Type} {z : ρ × CS} {X : Option (ρ × CS)} {σ : CS} {pc : Nat} {L L' : List (Nat × Value)} {st st' rest : List Value} {pc' : Nat}
theorem Jnone : J p l e R s m args below meth c nL E z0 s0 Q z none σ pc L st := fun h => by cases h
theorem Jrow (f : ∀ (H : Heap) (locs : List Loc) (ls : Array Slot), hc E σ H → va_S (EA E) s.heap H locs → lv_has ls nL L → (∀ ls : Array Slot, lv_has ls nL L' → W p l e R s m args below meth c H locs (cZ σ - z0) (cS σ - s0) Q (F0 m pc' ls st')) → W p l e R s m args below meth c H locs (cZ σ - z0) (cS σ - s0) Q (F0 m pc ls st))
    (k : J p l e R s m args below meth c nL E z0 s0 Q z X σ pc' L' st') : J p l e R s m args below meth c nL E z0 s0 Q z X σ pc L st :=
  fun hX => ⟨(k hX).1, fun H locs ls hH hS hl hz => f H locs ls hH hS hl (fun ls hl => (k hX).2 H locs ls hH hS hl hz)⟩
theorem Jgd {b : Bool} (k : b = true → J p l e R s m args below meth c nL E z0 s0 Q z X σ pc L st) : J p l e R s m args below meth c nL E z0 s0 Q z (gd b X) σ pc L st := fun hX => k (gd_inv hX).1 (gd_inv hX).2
theorem Jite {b : Prop} {d : Decidable b} {X Y : Option (ρ × CS)} (k1 : b → J p l e R s m args below meth c nL E z0 s0 Q z X σ pc L st) (k2 : ¬ b → J p l e R s m args below meth c nL E z0 s0 Q z Y σ pc L st) : J p l e R s m args below meth c nL E z0 s0 Q z (@ite _ b d X Y) σ pc L st := by
  by_cases h : b
  · rw [if_pos h]; exact k1 h
  · rw [if_neg h]; exact k2 h
theorem JbdI {x : Int32} {K : Int32 → Option (ρ × CS)} (k : ∀ y, J p l e R s m args below meth c nL E z0 s0 Q z (K y) σ pc L (.int y :: st)) : J p l e R s m args below meth c nL E z0 s0 Q z (bd x K) σ pc L (.int x :: st) := k x
theorem JbdL {x : Int64} {K : Int64 → Option (ρ × CS)} (k : ∀ y, J p l e R s m args below meth c nL E z0 s0 Q z (K y) σ pc L (.long y :: st)) : J p l e R s m args below meth c nL E z0 s0 Q z (bd x K) σ pc L (.long x :: st) := k x
theorem Jbd {α : Type} {x : α} {K : α → Option (ρ × CS)} (k : ∀ y, y = x → J p l e R s m args below meth c nL E z0 s0 Q z (K y) σ pc L st) : J p l e R s m args below meth c nL E z0 s0 Q z (bd x K) σ pc L st := k x rfl
theorem Jcl {α : Type} {o : Option α} {K : α → Option (ρ × CS)} (k : ∀ a, o = some a → J p l e R s m args below meth c nL E z0 s0 Q z (K a) σ pc L st) : J p l e R s m args below meth c nL E z0 s0 Q z (cl o K) σ pc L st := fun hX => by
  obtain ⟨a, h1, h2⟩ := cl_inv hX
  exact k a h1 h2
theorem Jcl2 {α β : Type} {o : Option (α × β)} {K : α → β → Option (ρ × CS)} (k : ∀ a b, o = some (a, b) → J p l e R s m args below meth c nL E z0 s0 Q z (K a b) σ pc L st) : J p l e R s m args below meth c nL E z0 s0 Q z (cl2 o K) σ pc L st := fun hX => by
  obtain ⟨a, b, h1, h2⟩ := cl2_inv hX
  exact k a b h1 h2
/-- a store: the heap's size stays -/
theorem Jst {σ1 : CS} {K : CS → Option (ρ × CS)} (hz1 : cZ σ1 = cZ σ) (hs1 : cS σ1 = cS σ) (f : ∀ (H : Heap) (locs : List Loc) (ls : Array Slot), hc E σ H → va_S (EA E) s.heap H locs → lv_has ls nL L → (∀ (H1 : Heap) (locs1 : List Loc), hc E σ1 H1 → va_S (EA E) s.heap H1 locs1 → W p l e R s m args below meth c H1 locs1 (cZ σ - z0) (cS σ - s0) Q (F0 m pc' ls st')) → W p l e R s m args below meth c H locs (cZ σ - z0) (cS σ - s0) Q (F0 m pc ls st))
    (k : ∀ σ2, J p l e R s m args below meth c nL E z0 s0 Q z (K σ2) σ2 pc' L st') : J p l e R s m args below meth c nL E z0 s0 Q z (bd σ1 K) σ pc L st := fun hX => by
  obtain ⟨k1, k2⟩ := k σ1 hX
  rw [hz1, hs1] at k1 k2
  exact ⟨k1, fun H locs ls hH hS hl hz => f H locs ls hH hS hl (fun H1 locs1 hH1 hS1 => k2 H1 locs1 ls hH1 hS1 hl hz)⟩
/-- a new cell -/
theorem Jnew {σ1 : CS} {n : Nat} {K : CS → Option (ρ × CS)} (hz1 : cZ σ1 = cZ σ + 1) (hs1 : cS σ1 = cS σ + n) (hR : R.cells = cZ z.2 - z0 ∧ R.slots = cS z.2 - s0) (f : ∀ (H : Heap) (locs : List Loc) (ls : Array Slot), hc E σ H → va_S (EA E) s.heap H locs → lv_has ls nL L → cZ σ - z0 + 1 ≤ R.cells → cS σ - s0 + n ≤ R.slots → (∀ (H1 : Heap) (locs1 : List Loc), hc E σ1 H1 → va_S (EA E) s.heap H1 locs1 → W p l e R s m args below meth c H1 locs1 (cZ σ - z0 + 1) (cS σ - s0 + n) Q (F0 m pc' ls st')) → W p l e R s m args below meth c H locs (cZ σ - z0) (cS σ - s0) Q (F0 m pc ls st))
    (k : ∀ σ2, σ2 = σ1 → J p l e R s m args below meth c nL E z0 s0 Q z (K σ2) σ2 pc' L st') : J p l e R s m args below meth c nL E z0 s0 Q z (bd σ1 K) σ pc L st := fun hX => by
  obtain ⟨k1, k2⟩ := k σ1 rfl hX
  rw [hz1, hs1] at k1 k2
  refine ⟨by omega, fun H locs ls hH hS hl hz => f H locs ls hH hS hl (by rw [hR.1]; omega) (by rw [hR.2]; omega) (fun H1 locs1 hH1 hS1 => ?_)⟩
  have h := k2 H1 locs1 ls hH1 hS1 hl (by omega)
  rw [show cZ σ + 1 - z0 = cZ σ - z0 + 1 by omega, show cS σ + n - s0 = cS σ - s0 + n by omega] at h
  exact h
/-- a call of a method with a contract over the state -/
theorem Jcall {σ1 : CS} {v : Option Value} (hM : cZ σ ≤ cZ σ1 ∧ cS σ ≤ cS σ1) (hR : R.cells = cZ z.2 - z0 ∧ R.slots = cS z.2 - s0)
    (f : ∀ (H : Heap) (locs : List Loc) (ls : Array Slot), hc E σ H → va_S (EA E) s.heap H locs → lv_has ls nL L → (cZ σ - z0) + (cZ σ1 - cZ σ) ≤ R.cells ∧ (cS σ - s0) + (cS σ1 - cS σ) ≤ R.slots → ∃ a : Array Value, va_Run p l e R s m args below meth c H locs (cZ σ - z0) (cS σ - s0) (cZ σ1 - cZ σ) (cS σ1 - cS σ) (F0 m pc ls st) rest (cQ E v σ1 a) (EA E))
    (k : J p l e R s m args below meth c nL E z0 s0 Q z X σ1 (pc + 3) L (v.toList ++ rest)) : J p l e R s m args below meth c nL E z0 s0 Q z X σ pc L st := fun hX => by
  obtain ⟨k1, k2⟩ := k hX
  refine ⟨by omega, fun H locs ls hH hS hl hz => ?_⟩
  intro T hT XX
  obtain ⟨a, hrun⟩ := f H locs ls hH hS hl ⟨by rw [hR.1]; omega, by rw [hR.2]; omega⟩
  obtain ⟨v', st₀, t, T', Lc, h0, X', hL, e1, e2, ⟨⟨hv, hb⟩, hz1, hk1⟩, stp⟩ := hrun T hT XX
  cases hv
  rw [h0] at hz1 hk1
  have hS1 : va_S (EA E) s.heap T'.heap (locs ++ Lc) := ⟨Nat.le_trans hS.1 (by rw [e1]; exact hz1), fun q h1 h2 => by rw [e1, hk1 q (Nat.lt_of_lt_of_le h1 hS.1) h2]; exact hS.2.1 q h1 h2, fun q hq => by
      rcases List.mem_append.mp hq with h | h
      · exact hS.2.2 q h
      · exact hL q h⟩
  have hw := k2 T'.heap (locs ++ Lc) ls (by rw [e1]; exact hb) hS1 hl (by omega)
  rw [show cZ σ1 - z0 = cZ σ - z0 + (cZ σ1 - cZ σ) by omega, show cS σ1 - s0 = cS σ - s0 + (cS σ1 - cS σ) by omega] at hw
  obtain ⟨t2, a1, b1⟩ := hw T' rfl X'
  exact ⟨t2, stp t2 a1, b1⟩
/-- a call through an interface -/
theorem JcallF {σ1 : CS} {v : Option Value} (hM : cZ σ ≤ cZ σ1 ∧ cS σ ≤ cS σ1) (hR : R.cells = cZ z.2 - z0 ∧ R.slots = cS z.2 - s0)
    (f : ∀ (H : Heap) (locs : List Loc) (ls : Array Slot), hc E σ H → va_S (EA E) s.heap H locs → lv_has ls nL L → (cZ σ - z0) + (cZ σ1 - cZ σ) ≤ R.cells ∧ (cS σ - s0) + (cS σ1 - cS σ) ≤ R.slots → ∃ a : Array Value, va_Run5 p l e R s m args below meth c H locs (cZ σ - z0) (cS σ - s0) (cZ σ1 - cZ σ) (cS σ1 - cS σ) (F0 m pc ls st) rest (cQ E v σ1 a) (EA E))
    (k : J p l e R s m args below meth c nL E z0 s0 Q z X σ1 (pc + 5) L (v.toList ++ rest)) : J p l e R s m args below meth c nL E z0 s0 Q z X σ pc L st := fun hX => by
  obtain ⟨k1, k2⟩ := k hX
  refine ⟨by omega, fun H locs ls hH hS hl hz => ?_⟩
  intro T hT XX
  obtain ⟨a, hrun⟩ := f H locs ls hH hS hl ⟨by rw [hR.1]; omega, by rw [hR.2]; omega⟩
  obtain ⟨v', st₀, t, T', Lc, h0, X', hL, e1, e2, ⟨⟨hv, hb⟩, hz1, hk1⟩, stp⟩ := hrun T hT XX
  cases hv
  rw [h0] at hz1 hk1
  have hS1 : va_S (EA E) s.heap T'.heap (locs ++ Lc) := ⟨Nat.le_trans hS.1 (by rw [e1]; exact hz1), fun q h1 h2 => by rw [e1, hk1 q (Nat.lt_of_lt_of_le h1 hS.1) h2]; exact hS.2.1 q h1 h2, fun q hq => by
      rcases List.mem_append.mp hq with h | h
      · exact hS.2.2 q h
      · exact hL q h⟩
  have hw := k2 T'.heap (locs ++ Lc) ls (by rw [e1]; exact hb) hS1 hl (by omega)
  rw [show cZ σ1 - z0 = cZ σ - z0 + (cZ σ1 - cZ σ) by omega, show cS σ1 - s0 = cS σ - s0 + (cS σ1 - cS σ) by omega] at hw
  obtain ⟨t2, a1, b1⟩ := hw T' rfl X'
  exact ⟨t2, stp t2 a1, b1⟩
/-- a call of a static method of numbers alone -/
theorem JcallS {v : Value} {Qa : State → Outcome → State → Prop} (hz0 : z0 = s.heap.size) (hR : R.cells = cZ z.2 - z0 ∧ R.slots = cS z.2 - s0) (hQ : ∀ st₀ o t, Qa st₀ o t → o = .returned (some v) ∧ va_F noA st₀ t)
    (f : ∀ (H : Heap) (locs : List Loc) (ls : Array Slot), lv_has ls nL L → cZ σ - z0 + 0 ≤ R.cells ∧ cS σ - s0 + 0 ≤ R.slots → va_Run p l e R s m args below meth c H locs (cZ σ - z0) (cS σ - s0) 0 0 (F0 m pc ls st) rest Qa noA)
    (k : J p l e R s m args below meth c nL E z0 s0 Q z X σ (pc + 3) L (v :: rest)) : J p l e R s m args below meth c nL E z0 s0 Q z X σ pc L st := fun hX => by
  obtain ⟨k1, k2⟩ := k hX
  refine ⟨k1, fun H locs ls hH hS hl hz => ?_⟩
  intro T hT XX
  obtain ⟨v', st₀, t, T', Lc, h0, X', hL, e1, e2, hq, stp⟩ := f H locs ls hl ⟨by rw [hR.1]; omega, by rw [hR.2]; omega⟩ T hT XX
  obtain ⟨hv, hz1, hk1⟩ := hQ _ _ _ hq
  cases hv
  rw [h0] at hz1 hk1
  have hsz := X'.heapSize
  have hT' : T'.heap.size = H.size := by
    rw [hH.1]
    have : H.size ≤ T'.heap.size := by rw [e1]; exact hz1
    rw [hH.1] at this
    omega
  have hS1 : va_S (EA E) s.heap T'.heap (locs ++ Lc) := ⟨Nat.le_trans hS.1 (by rw [e1]; exact hz1), fun q h1 h2 => by rw [e1, hk1 q (Nat.lt_of_lt_of_le h1 hS.1) (fun z => z)]; exact hS.2.1 q h1 h2, fun q hq => by
      rcases List.mem_append.mp hq with h | h
      · exact hS.2.2 q h
      · exact False.elim (hL q h)⟩
  obtain ⟨t2, a1, b1⟩ := k2 T'.heap (locs ++ Lc) ls (hH.kept hT' (fun q hq => by rw [e1]; exact hk1 q hq (fun z => z))) hS1 hl hz T' rfl X'
  exact ⟨t2, stp t2 a1, b1⟩
theorem sQi_o {r : Int32} {a : Array Value} : ∀ st₀ o t, sQi r a st₀ o t → o = .returned (some (.int r)) ∧ va_F noA st₀ t := by
  intro st₀ o t h
  obtain ⟨⟨r', u, h1, h2, -⟩, h3⟩ := h
  rw [h2] at h1
  exact ⟨h1, h3⟩
theorem sQl_o {r : Int64} {a : Array Value} : ∀ st₀ o t, sQl r a st₀ o t → o = .returned (some (.long r)) ∧ va_F noA st₀ t := by
  intro st₀ o t h
  obtain ⟨⟨r', u, h1, h2, -⟩, h3⟩ := h
  rw [h2] at h1
  exact ⟨h1, h3⟩
end CJ
section CJ2
variable {p : Program} {l : Launch} {e : Env} {R : Room} {s : State} {m : MethodId} {args : Array Value} {below : List Frame} {meth : Method} {c : Code} {nL : Nat} {E : CE} {z0 s0 : Nat} {σ : CS} {pc : Nat} {L : List (Nat × Value)} {cc : ByteArray}
/-- the ends of a walk -/
theorem Jiret {r : Int32} {σz : CS} {v : Int32} (hx : p.tables.exec = Jvm.exec) (hb : c.code = cc) (hr : meth.sig.returnType = some .int) (hlocks : meth.locks = false) (hdg : decode cc pc = .ok (.ireturn, 1)) : J p l e R s m args below meth c nL E z0 s0 (MQ below (cQ E (some (.int r)) σz) args s (cZ σz - z0) (cS σz - s0) (EA E)) (r, σz) (some (v, σ)) σ pc L [.int v] := fun hX => by
  cases hX
  exact ⟨⟨Nat.le_refl _, Nat.le_refl _⟩, fun H locs ls hH hS hl hz => W.iret hx hb hr (fun t ht hW => ⟨⟨rfl, hH.to ht⟩, hS.F ht⟩) hS.2.2 hdg hlocks⟩
theorem Jzret {r : Int32} {σz : CS} {v : Int32} {ty : FieldType} (hx : p.tables.exec = Jvm.exec) (hb : c.code = cc) (hr : meth.sig.returnType = some ty) (hlocks : meth.locks = false) (hn : narrow ty (.int v) = .int v) (hdg : decode cc pc = .ok (.ireturn, 1)) : J p l e R s m args below meth c nL E z0 s0 (MQ below (cQ E (some (.int r)) σz) args s (cZ σz - z0) (cS σz - s0) (EA E)) (r, σz) (some (v, σ)) σ pc L [.int v] := fun hX => by
  cases hX
  exact ⟨⟨Nat.le_refl _, Nat.le_refl _⟩, fun H locs ls hH hS hl hz => W.zret hx hb hr hn (fun t ht hW => ⟨⟨rfl, hH.to ht⟩, hS.F ht⟩) hS.2.2 hdg hlocks⟩
theorem Jlret {r : Int64} {σz : CS} {v : Int64} (hx : p.tables.exec = Jvm.exec) (hb : c.code = cc) (hr : meth.sig.returnType = some .long) (hlocks : meth.locks = false) (hdg : decode cc pc = .ok (.lreturn, 1)) : J p l e R s m args below meth c nL E z0 s0 (MQ below (cQ E (some (.long r)) σz) args s (cZ σz - z0) (cS σz - s0) (EA E)) (r, σz) (some (v, σ)) σ pc L [.long v] := fun hX => by
  cases hX
  exact ⟨⟨Nat.le_refl _, Nat.le_refl _⟩, fun H locs ls hH hS hl hz => W.lret hx hb hr (fun t ht hW => ⟨⟨rfl, hH.to ht⟩, hS.F ht⟩) hS.2.2 hdg hlocks⟩
theorem Jvret {r : Unit} {σz : CS} (hx : p.tables.exec = Jvm.exec) (hb : c.code = cc) (hr : meth.sig.returnType = none) (hlocks : meth.locks = false) (hdg : decode cc pc = .ok (.return_, 1)) : J p l e R s m args below meth c nL E z0 s0 (MQ below (cQ E none σz) args s (cZ σz - z0) (cS σz - s0) (EA E)) (r, σz) (some ((), σ)) σ pc L [] := fun hX => by
  cases hX
  exact ⟨⟨Nat.le_refl _, Nat.le_refl _⟩, fun H locs ls hH hS hl hz => W.vret hx hb hr (fun t ht hW => ⟨⟨rfl, hH.to ht⟩, hS.F ht⟩) hS.2.2 hdg hlocks⟩
/-- a reference, never null -/
theorem Jaret {r : Nat} {σz : CS} {v : Nat} {rt : FieldType} (hx : p.tables.exec = Jvm.exec) (hb : c.code = cc) (hr : meth.sig.returnType = some rt) (hrt : (∃ n, rt = .object n) ∨ ∃ t, rt = .array t) (hlocks : meth.locks = false) (hdg : decode cc pc = .ok (.areturn, 1)) : J p l e R s m args below meth c nL E z0 s0 (MQ below (cQ E (some (.ref r)) σz) args s (cZ σz - z0) (cS σz - s0) (EA E)) (r, σz) (some (v, σ)) σ pc L [.ref v] := fun hX => by
  cases hX
  exact ⟨⟨Nat.le_refl _, Nat.le_refl _⟩, fun H locs ls hH hS hl hz => W.aret hx hb hr hrt (Or.inr ⟨_, rfl⟩) (fun t ht hW => ⟨⟨rfl, hH.to ht⟩, hS.F ht⟩) hS.2.2 hdg hlocks⟩
theorem rf_or (o : Option Nat) : va_rf o = .null ∨ ∃ a, va_rf o = .ref a := by
  cases o with
  | none => exact Or.inl rfl
  | some q => exact Or.inr ⟨q, rfl⟩
/-- a reference or null -/
theorem JaretN {r : Option Nat} {σz : CS} {v : Option Nat} {w : Value} {rt : FieldType} (hx : p.tables.exec = Jvm.exec) (hb : c.code = cc) (hr : meth.sig.returnType = some rt) (hrt : (∃ n, rt = .object n) ∨ ∃ t, rt = .array t) (hw : w = va_rf v) (hlocks : meth.locks = false) (hdg : decode cc pc = .ok (.areturn, 1)) : J p l e R s m args below meth c nL E z0 s0 (MQ below (cQ E (some (va_rf r)) σz) args s (cZ σz - z0) (cS σz - s0) (EA E)) (r, σz) (some (v, σ)) σ pc L [w] := fun hX => by
  cases hX
  subst hw
  exact ⟨⟨Nat.le_refl _, Nat.le_refl _⟩, fun H locs ls hH hS hl hz => W.aret hx hb hr hrt (rf_or _) (fun t ht hW => ⟨⟨rfl, hH.to ht⟩, hS.F ht⟩) hS.2.2 hdg hlocks⟩
/-- from a walk to a contract -/
theorem MetC.of {y : MethodName} {bytes : ByteArray} {maxL : Nat} {ret : Option FieldType} {f n : Nat} {av : List Value} {v : Option Value} {ρ : Type} {r : ρ} {σz : CS} {X : Option (ρ × CS)} (hX : X = some (r, σz)) (hy : plainName y.cls = true) (hle : (lg_sl av).length ≤ maxL) (mono : cZ σ ≤ cZ σz ∧ cS σ ≤ cS σz)
    (body : ∀ p e s m below meth c, p.tables.exec = Jvm.exec → c.code = bytes → meth.sig.returnType = ret → c.maxLocals = maxL → (∀ w ∈ lw_all, w.before av.toArray s = true) → s.vm.findClass y.cls = some m.cls → meth.locks = false → meth.name = y.name → kc E s → cZ σ = s.heap.size →
      J p l e (headSpec (ws_ y bytes maxL ret) (rmC f n σ σz)).room s m av.toArray below meth c maxL E (cZ σ) (cS σ) (MQ below (cQ E v σz) av.toArray s (cZ σz - cZ σ) (cS σz - cS σ) (EA E)) (r, σz) X σ 0 (lv_args 0 av) []) : MetC l y (ws_ y bytes maxL ret) f n E σ av v σz := by
  refine ⟨mono, Met.ofW (cc := bytes) (maxL := maxL) (ret := ret) hy rfl ?_⟩
  intro p e s m args below meth c s₁ B hml hv
  obtain ⟨rfl, hH, hk⟩ := hv
  have hts := atoms_spec (ws := ws_ y bytes maxL ret) B.pre
  have hts : ∀ w ∈ lw_all, w.before _ s = true := fun w h => hts w (List.mem_cons_of_mem _ h)
  have hj := body p e s m below meth c B.exec B.bytes B.returns hml hts (findClass_of_methodNamed B.named) B.notSynchronized (name_of_methodNamed B.named B.method).1 hk hH.1.symm hX
  have hl := lv_entry av hle
  rw [lg_entry_eq]
  have h := hj.2 s.heap [] _ hH va_S.rf hl ⟨Nat.le_refl _, Nat.le_refl _⟩
  rw [Nat.sub_self, Nat.sub_self] at h
  exact h
end CJ2
section CJ3
variable {p : Program} {l : Launch} {e : Env} {R : Room} {s : State} {m : MethodId} {args : Array Value} {below : List Frame} {meth : Method} {c : Code} {nL : Nat} {E : CE} {z0 s0 : Nat} {Q : State → Prop} {ρ : Type} {z : ρ × CS} {σ : CS} {pc : Nat} {L : List (Nat × Value)} {st : List Value}
/-- the heap only grows -/
def Mn (σ : CS) {ρ : Type} (X : Option (ρ × CS)) : Prop := ∀ z, X = some z → cZ σ ≤ cZ z.2 ∧ cS σ ≤ cS z.2
theorem Mnone {σ : CS} : Mn σ (none : Option (ρ × CS)) := fun _ h => by cases h
theorem Mret {r : ρ} : Mn σ (some (r, σ)) := fun _ h => by cases h; exact ⟨Nat.le_refl _, Nat.le_refl _⟩
theorem Mgd {b : Bool} {X : Option (ρ × CS)} (k : Mn σ X) : Mn σ (gd b X) := fun z h => k z (gd_inv h).2
theorem Mite {b : Prop} {d : Decidable b} {X Y : Option (ρ × CS)} (k1 : Mn σ X) (k2 : Mn σ Y) : Mn σ (@ite _ b d X Y) := by
  by_cases h : b
  · rw [if_pos h]; exact k1
  · rw [if_neg h]; exact k2
theorem Mbd {α : Type} {x : α} {K : α → Option (ρ × CS)} (k : ∀ y, Mn σ (K y)) : Mn σ (bd x K) := k x
theorem Mst {σ1 : CS} {K : CS → Option (ρ × CS)} (hz : cZ σ ≤ cZ σ1) (hs : cS σ ≤ cS σ1) (k : ∀ σ2, Mn σ2 (K σ2)) : Mn σ (bd σ1 K) := fun z h => by
  have := k σ1 z h
  omega
theorem Mcl {α : Type} {o : Option α} {K : α → Option (ρ × CS)} (k : ∀ a, Mn σ (K a)) : Mn σ (cl o K) := fun z h => by
  obtain ⟨a, h1, h2⟩ := cl_inv h
  exact k a z h2
theorem Mcl2 {α : Type} {o : Option (α × CS)} {K : α → CS → Option (ρ × CS)} (ho : Mn σ o) (k : ∀ a σ2, Mn σ2 (K a σ2)) : Mn σ (cl2 o K) := fun z h => by
  obtain ⟨a, b, h1, h2⟩ := cl2_inv h
  have q1 := ho _ h1
  have q2 := k a b z h2
  dsimp only at q1
  omega
theorem Jjn0 {K : Option (ρ × CS)} {B : (Option (ρ × CS)) → Option (ρ × CS)} (P : Option (ρ × CS) → Prop) (hK : P (K)) (hB : ∀ k : Option (ρ × CS), (P (k)) → J p l e R s m args below meth c nL E z0 s0 Q z (B k) σ pc L st) : J p l e R s m args below meth c nL E z0 s0 Q z (jn K B) σ pc L st := hB K hK
theorem Mjn0 {K : Option (ρ × CS)} {B : (Option (ρ × CS)) → Option (ρ × CS)} (P : Option (ρ × CS) → Prop) (hK : P (K)) (hB : ∀ k : Option (ρ × CS), (P (k)) → Mn σ (B k)) : Mn σ (jn K B) := hB K hK
theorem Jjn1 {A1 : Type} {K : A1 → Option (ρ × CS)} {B : (A1 → Option (ρ × CS)) → Option (ρ × CS)} (P : A1 → Option (ρ × CS) → Prop) (hK : ∀ (x1 : A1), P x1 (K x1)) (hB : ∀ k : A1 → Option (ρ × CS), (∀ (x1 : A1), P x1 (k x1)) → J p l e R s m args below meth c nL E z0 s0 Q z (B k) σ pc L st) : J p l e R s m args below meth c nL E z0 s0 Q z (jn K B) σ pc L st := hB K hK
theorem Mjn1 {A1 : Type} {K : A1 → Option (ρ × CS)} {B : (A1 → Option (ρ × CS)) → Option (ρ × CS)} (P : A1 → Option (ρ × CS) → Prop) (hK : ∀ (x1 : A1), P x1 (K x1)) (hB : ∀ k : A1 → Option (ρ × CS), (∀ (x1 : A1), P x1 (k x1)) → Mn σ (B k)) : Mn σ (jn K B) := hB K hK
theorem Plp1 {A1 : Type} {ρ : Type} {F : (A1 → Option ρ) → (A1 → Option ρ)} {n : Nat} {a1 : A1} (P : A1 → Option ρ → Prop) (h0 : ∀ (x1 : A1), P x1 none) (hs : ∀ k : A1 → Option ρ, (∀ (x1 : A1), P x1 (k x1)) → ∀ (x1 : A1), P x1 (F k x1)) : P a1 (lp (fun _ => none) F n a1) := by
  have h : ∀ n, ∀ (x1 : A1), P x1 (lp (fun _ => none) F n x1) := by
    intro n
    induction n with
    | zero => intro x1; exact h0 x1
    | succ n ih => intro x1; exact hs _ ih x1
  exact h n a1
theorem Jjn2 {A1 A2 : Type} {K : A1 → A2 → Option (ρ × CS)} {B : (A1 → A2 → Option (ρ × CS)) → Option (ρ × CS)} (P : A1 → A2 → Option (ρ × CS) → Prop) (hK : ∀ (x1 : A1) (x2 : A2), P x1 x2 (K x1 x2)) (hB : ∀ k : A1 → A2 → Option (ρ × CS), (∀ (x1 : A1) (x2 : A2), P x1 x2 (k x1 x2)) → J p l e R s m args below meth c nL E z0 s0 Q z (B k) σ pc L st) : J p l e R s m args below meth c nL E z0 s0 Q z (jn K B) σ pc L st := hB K hK
theorem Mjn2 {A1 A2 : Type} {K : A1 → A2 → Option (ρ × CS)} {B : (A1 → A2 → Option (ρ × CS)) → Option (ρ × CS)} (P : A1 → A2 → Option (ρ × CS) → Prop) (hK : ∀ (x1 : A1) (x2 : A2), P x1 x2 (K x1 x2)) (hB : ∀ k : A1 → A2 → Option (ρ × CS), (∀ (x1 : A1) (x2 : A2), P x1 x2 (k x1 x2)) → Mn σ (B k)) : Mn σ (jn K B) := hB K hK
theorem Plp2 {A1 A2 : Type} {ρ : Type} {F : (A1 → A2 → Option ρ) → (A1 → A2 → Option ρ)} {n : Nat} {a1 : A1} {a2 : A2} (P : A1 → A2 → Option ρ → Prop) (h0 : ∀ (x1 : A1) (x2 : A2), P x1 x2 none) (hs : ∀ k : A1 → A2 → Option ρ, (∀ (x1 : A1) (x2 : A2), P x1 x2 (k x1 x2)) → ∀ (x1 : A1) (x2 : A2), P x1 x2 (F k x1 x2)) : P a1 a2 (lp (fun _ _ => none) F n a1 a2) := by
  have h : ∀ n, ∀ (x1 : A1) (x2 : A2), P x1 x2 (lp (fun _ _ => none) F n x1 x2) := by
    intro n
    induction n with
    | zero => intro x1 x2; exact h0 x1 x2
    | succ n ih => intro x1 x2; exact hs _ ih x1 x2
  exact h n a1 a2
theorem Jjn3 {A1 A2 A3 : Type} {K : A1 → A2 → A3 → Option (ρ × CS)} {B : (A1 → A2 → A3 → Option (ρ × CS)) → Option (ρ × CS)} (P : A1 → A2 → A3 → Option (ρ × CS) → Prop) (hK : ∀ (x1 : A1) (x2 : A2) (x3 : A3), P x1 x2 x3 (K x1 x2 x3)) (hB : ∀ k : A1 → A2 → A3 → Option (ρ × CS), (∀ (x1 : A1) (x2 : A2) (x3 : A3), P x1 x2 x3 (k x1 x2 x3)) → J p l e R s m args below meth c nL E z0 s0 Q z (B k) σ pc L st) : J p l e R s m args below meth c nL E z0 s0 Q z (jn K B) σ pc L st := hB K hK
theorem Mjn3 {A1 A2 A3 : Type} {K : A1 → A2 → A3 → Option (ρ × CS)} {B : (A1 → A2 → A3 → Option (ρ × CS)) → Option (ρ × CS)} (P : A1 → A2 → A3 → Option (ρ × CS) → Prop) (hK : ∀ (x1 : A1) (x2 : A2) (x3 : A3), P x1 x2 x3 (K x1 x2 x3)) (hB : ∀ k : A1 → A2 → A3 → Option (ρ × CS), (∀ (x1 : A1) (x2 : A2) (x3 : A3), P x1 x2 x3 (k x1 x2 x3)) → Mn σ (B k)) : Mn σ (jn K B) := hB K hK
theorem Plp3 {A1 A2 A3 : Type} {ρ : Type} {F : (A1 → A2 → A3 → Option ρ) → (A1 → A2 → A3 → Option ρ)} {n : Nat} {a1 : A1} {a2 : A2} {a3 : A3} (P : A1 → A2 → A3 → Option ρ → Prop) (h0 : ∀ (x1 : A1) (x2 : A2) (x3 : A3), P x1 x2 x3 none) (hs : ∀ k : A1 → A2 → A3 → Option ρ, (∀ (x1 : A1) (x2 : A2) (x3 : A3), P x1 x2 x3 (k x1 x2 x3)) → ∀ (x1 : A1) (x2 : A2) (x3 : A3), P x1 x2 x3 (F k x1 x2 x3)) : P a1 a2 a3 (lp (fun _ _ _ => none) F n a1 a2 a3) := by
  have h : ∀ n, ∀ (x1 : A1) (x2 : A2) (x3 : A3), P x1 x2 x3 (lp (fun _ _ _ => none) F n x1 x2 x3) := by
    intro n
    induction n with
    | zero => intro x1 x2 x3; exact h0 x1 x2 x3
    | succ n ih => intro x1 x2 x3; exact hs _ ih x1 x2 x3
  exact h n a1 a2 a3
theorem Jjn4 {A1 A2 A3 A4 : Type} {K : A1 → A2 → A3 → A4 → Option (ρ × CS)} {B : (A1 → A2 → A3 → A4 → Option (ρ × CS)) → Option (ρ × CS)} (P : A1 → A2 → A3 → A4 → Option (ρ × CS) → Prop) (hK : ∀ (x1 : A1) (x2 : A2) (x3 : A3) (x4 : A4), P x1 x2 x3 x4 (K x1 x2 x3 x4)) (hB : ∀ k : A1 → A2 → A3 → A4 → Option (ρ × CS), (∀ (x1 : A1) (x2 : A2) (x3 : A3) (x4 : A4), P x1 x2 x3 x4 (k x1 x2 x3 x4)) → J p l e R s m args below meth c nL E z0 s0 Q z (B k) σ pc L st) : J p l e R s m args below meth c nL E z0 s0 Q z (jn K B) σ pc L st := hB K hK
theorem Mjn4 {A1 A2 A3 A4 : Type} {K : A1 → A2 → A3 → A4 → Option (ρ × CS)} {B : (A1 → A2 → A3 → A4 → Option (ρ × CS)) → Option (ρ × CS)} (P : A1 → A2 → A3 → A4 → Option (ρ × CS) → Prop) (hK : ∀ (x1 : A1) (x2 : A2) (x3 : A3) (x4 : A4), P x1 x2 x3 x4 (K x1 x2 x3 x4)) (hB : ∀ k : A1 → A2 → A3 → A4 → Option (ρ × CS), (∀ (x1 : A1) (x2 : A2) (x3 : A3) (x4 : A4), P x1 x2 x3 x4 (k x1 x2 x3 x4)) → Mn σ (B k)) : Mn σ (jn K B) := hB K hK
theorem Plp4 {A1 A2 A3 A4 : Type} {ρ : Type} {F : (A1 → A2 → A3 → A4 → Option ρ) → (A1 → A2 → A3 → A4 → Option ρ)} {n : Nat} {a1 : A1} {a2 : A2} {a3 : A3} {a4 : A4} (P : A1 → A2 → A3 → A4 → Option ρ → Prop) (h0 : ∀ (x1 : A1) (x2 : A2) (x3 : A3) (x4 : A4), P x1 x2 x3 x4 none) (hs : ∀ k : A1 → A2 → A3 → A4 → Option ρ, (∀ (x1 : A1) (x2 : A2) (x3 : A3) (x4 : A4), P x1 x2 x3 x4 (k x1 x2 x3 x4)) → ∀ (x1 : A1) (x2 : A2) (x3 : A3) (x4 : A4), P x1 x2 x3 x4 (F k x1 x2 x3 x4)) : P a1 a2 a3 a4 (lp (fun _ _ _ _ => none) F n a1 a2 a3 a4) := by
  have h : ∀ n, ∀ (x1 : A1) (x2 : A2) (x3 : A3) (x4 : A4), P x1 x2 x3 x4 (lp (fun _ _ _ _ => none) F n x1 x2 x3 x4) := by
    intro n
    induction n with
    | zero => intro x1 x2 x3 x4; exact h0 x1 x2 x3 x4
    | succ n ih => intro x1 x2 x3 x4; exact hs _ ih x1 x2 x3 x4
  exact h n a1 a2 a3 a4
theorem Jjn5 {A1 A2 A3 A4 A5 : Type} {K : A1 → A2 → A3 → A4 → A5 → Option (ρ × CS)} {B : (A1 → A2 → A3 → A4 → A5 → Option (ρ × CS)) → Option (ρ × CS)} (P : A1 → A2 → A3 → A4 → A5 → Option (ρ × CS) → Prop) (hK : ∀ (x1 : A1) (x2 : A2) (x3 : A3) (x4 : A4) (x5 : A5), P x1 x2 x3 x4 x5 (K x1 x2 x3 x4 x5)) (hB : ∀ k : A1 → A2 → A3 → A4 → A5 → Option (ρ × CS), (∀ (x1 : A1) (x2 : A2) (x3 : A3) (x4 : A4) (x5 : A5), P x1 x2 x3 x4 x5 (k x1 x2 x3 x4 x5)) → J p l e R s m args below meth c nL E z0 s0 Q z (B k) σ pc L st) : J p l e R s m args below meth c nL E z0 s0 Q z (jn K B) σ pc L st := hB K hK
theorem Mjn5 {A1 A2 A3 A4 A5 : Type} {K : A1 → A2 → A3 → A4 → A5 → Option (ρ × CS)} {B : (A1 → A2 → A3 → A4 → A5 → Option (ρ × CS)) → Option (ρ × CS)} (P : A1 → A2 → A3 → A4 → A5 → Option (ρ × CS) → Prop) (hK : ∀ (x1 : A1) (x2 : A2) (x3 : A3) (x4 : A4) (x5 : A5), P x1 x2 x3 x4 x5 (K x1 x2 x3 x4 x5)) (hB : ∀ k : A1 → A2 → A3 → A4 → A5 → Option (ρ × CS), (∀ (x1 : A1) (x2 : A2) (x3 : A3) (x4 : A4) (x5 : A5), P x1 x2 x3 x4 x5 (k x1 x2 x3 x4 x5)) → Mn σ (B k)) : Mn σ (jn K B) := hB K hK
theorem Plp5 {A1 A2 A3 A4 A5 : Type} {ρ : Type} {F : (A1 → A2 → A3 → A4 → A5 → Option ρ) → (A1 → A2 → A3 → A4 → A5 → Option ρ)} {n : Nat} {a1 : A1} {a2 : A2} {a3 : A3} {a4 : A4} {a5 : A5} (P : A1 → A2 → A3 → A4 → A5 → Option ρ → Prop) (h0 : ∀ (x1 : A1) (x2 : A2) (x3 : A3) (x4 : A4) (x5 : A5), P x1 x2 x3 x4 x5 none) (hs : ∀ k : A1 → A2 → A3 → A4 → A5 → Option ρ, (∀ (x1 : A1) (x2 : A2) (x3 : A3) (x4 : A4) (x5 : A5), P x1 x2 x3 x4 x5 (k x1 x2 x3 x4 x5)) → ∀ (x1 : A1) (x2 : A2) (x3 : A3) (x4 : A4) (x5 : A5), P x1 x2 x3 x4 x5 (F k x1 x2 x3 x4 x5)) : P a1 a2 a3 a4 a5 (lp (fun _ _ _ _ _ => none) F n a1 a2 a3 a4 a5) := by
  have h : ∀ n, ∀ (x1 : A1) (x2 : A2) (x3 : A3) (x4 : A4) (x5 : A5), P x1 x2 x3 x4 x5 (lp (fun _ _ _ _ _ => none) F n x1 x2 x3 x4 x5) := by
    intro n
    induction n with
    | zero => intro x1 x2 x3 x4 x5; exact h0 x1 x2 x3 x4 x5
    | succ n ih => intro x1 x2 x3 x4 x5; exact hs _ ih x1 x2 x3 x4 x5
  exact h n a1 a2 a3 a4 a5
theorem Jjn6 {A1 A2 A3 A4 A5 A6 : Type} {K : A1 → A2 → A3 → A4 → A5 → A6 → Option (ρ × CS)} {B : (A1 → A2 → A3 → A4 → A5 → A6 → Option (ρ × CS)) → Option (ρ × CS)} (P : A1 → A2 → A3 → A4 → A5 → A6 → Option (ρ × CS) → Prop) (hK : ∀ (x1 : A1) (x2 : A2) (x3 : A3) (x4 : A4) (x5 : A5) (x6 : A6), P x1 x2 x3 x4 x5 x6 (K x1 x2 x3 x4 x5 x6)) (hB : ∀ k : A1 → A2 → A3 → A4 → A5 → A6 → Option (ρ × CS), (∀ (x1 : A1) (x2 : A2) (x3 : A3) (x4 : A4) (x5 : A5) (x6 : A6), P x1 x2 x3 x4 x5 x6 (k x1 x2 x3 x4 x5 x6)) → J p l e R s m args below meth c nL E z0 s0 Q z (B k) σ pc L st) : J p l e R s m args below meth c nL E z0 s0 Q z (jn K B) σ pc L st := hB K hK
theorem Mjn6 {A1 A2 A3 A4 A5 A6 : Type} {K : A1 → A2 → A3 → A4 → A5 → A6 → Option (ρ × CS)} {B : (A1 → A2 → A3 → A4 → A5 → A6 → Option (ρ × CS)) → Option (ρ × CS)} (P : A1 → A2 → A3 → A4 → A5 → A6 → Option (ρ × CS) → Prop) (hK : ∀ (x1 : A1) (x2 : A2) (x3 : A3) (x4 : A4) (x5 : A5) (x6 : A6), P x1 x2 x3 x4 x5 x6 (K x1 x2 x3 x4 x5 x6)) (hB : ∀ k : A1 → A2 → A3 → A4 → A5 → A6 → Option (ρ × CS), (∀ (x1 : A1) (x2 : A2) (x3 : A3) (x4 : A4) (x5 : A5) (x6 : A6), P x1 x2 x3 x4 x5 x6 (k x1 x2 x3 x4 x5 x6)) → Mn σ (B k)) : Mn σ (jn K B) := hB K hK
theorem Plp6 {A1 A2 A3 A4 A5 A6 : Type} {ρ : Type} {F : (A1 → A2 → A3 → A4 → A5 → A6 → Option ρ) → (A1 → A2 → A3 → A4 → A5 → A6 → Option ρ)} {n : Nat} {a1 : A1} {a2 : A2} {a3 : A3} {a4 : A4} {a5 : A5} {a6 : A6} (P : A1 → A2 → A3 → A4 → A5 → A6 → Option ρ → Prop) (h0 : ∀ (x1 : A1) (x2 : A2) (x3 : A3) (x4 : A4) (x5 : A5) (x6 : A6), P x1 x2 x3 x4 x5 x6 none) (hs : ∀ k : A1 → A2 → A3 → A4 → A5 → A6 → Option ρ, (∀ (x1 : A1) (x2 : A2) (x3 : A3) (x4 : A4) (x5 : A5) (x6 : A6), P x1 x2 x3 x4 x5 x6 (k x1 x2 x3 x4 x5 x6)) → ∀ (x1 : A1) (x2 : A2) (x3 : A3) (x4 : A4) (x5 : A5) (x6 : A6), P x1 x2 x3 x4 x5 x6 (F k x1 x2 x3 x4 x5 x6)) : P a1 a2 a3 a4 a5 a6 (lp (fun _ _ _ _ _ _ => none) F n a1 a2 a3 a4 a5 a6) := by
  have h : ∀ n, ∀ (x1 : A1) (x2 : A2) (x3 : A3) (x4 : A4) (x5 : A5) (x6 : A6), P x1 x2 x3 x4 x5 x6 (lp (fun _ _ _ _ _ _ => none) F n x1 x2 x3 x4 x5 x6) := by
    intro n
    induction n with
    | zero => intro x1 x2 x3 x4 x5 x6; exact h0 x1 x2 x3 x4 x5 x6
    | succ n ih => intro x1 x2 x3 x4 x5 x6; exact hs _ ih x1 x2 x3 x4 x5 x6
  exact h n a1 a2 a3 a4 a5 a6
theorem Jjn7 {A1 A2 A3 A4 A5 A6 A7 : Type} {K : A1 → A2 → A3 → A4 → A5 → A6 → A7 → Option (ρ × CS)} {B : (A1 → A2 → A3 → A4 → A5 → A6 → A7 → Option (ρ × CS)) → Option (ρ × CS)} (P : A1 → A2 → A3 → A4 → A5 → A6 → A7 → Option (ρ × CS) → Prop) (hK : ∀ (x1 : A1) (x2 : A2) (x3 : A3) (x4 : A4) (x5 : A5) (x6 : A6) (x7 : A7), P x1 x2 x3 x4 x5 x6 x7 (K x1 x2 x3 x4 x5 x6 x7)) (hB : ∀ k : A1 → A2 → A3 → A4 → A5 → A6 → A7 → Option (ρ × CS), (∀ (x1 : A1) (x2 : A2) (x3 : A3) (x4 : A4) (x5 : A5) (x6 : A6) (x7 : A7), P x1 x2 x3 x4 x5 x6 x7 (k x1 x2 x3 x4 x5 x6 x7)) → J p l e R s m args below meth c nL E z0 s0 Q z (B k) σ pc L st) : J p l e R s m args below meth c nL E z0 s0 Q z (jn K B) σ pc L st := hB K hK
theorem Mjn7 {A1 A2 A3 A4 A5 A6 A7 : Type} {K : A1 → A2 → A3 → A4 → A5 → A6 → A7 → Option (ρ × CS)} {B : (A1 → A2 → A3 → A4 → A5 → A6 → A7 → Option (ρ × CS)) → Option (ρ × CS)} (P : A1 → A2 → A3 → A4 → A5 → A6 → A7 → Option (ρ × CS) → Prop) (hK : ∀ (x1 : A1) (x2 : A2) (x3 : A3) (x4 : A4) (x5 : A5) (x6 : A6) (x7 : A7), P x1 x2 x3 x4 x5 x6 x7 (K x1 x2 x3 x4 x5 x6 x7)) (hB : ∀ k : A1 → A2 → A3 → A4 → A5 → A6 → A7 → Option (ρ × CS), (∀ (x1 : A1) (x2 : A2) (x3 : A3) (x4 : A4) (x5 : A5) (x6 : A6) (x7 : A7), P x1 x2 x3 x4 x5 x6 x7 (k x1 x2 x3 x4 x5 x6 x7)) → Mn σ (B k)) : Mn σ (jn K B) := hB K hK
theorem Plp7 {A1 A2 A3 A4 A5 A6 A7 : Type} {ρ : Type} {F : (A1 → A2 → A3 → A4 → A5 → A6 → A7 → Option ρ) → (A1 → A2 → A3 → A4 → A5 → A6 → A7 → Option ρ)} {n : Nat} {a1 : A1} {a2 : A2} {a3 : A3} {a4 : A4} {a5 : A5} {a6 : A6} {a7 : A7} (P : A1 → A2 → A3 → A4 → A5 → A6 → A7 → Option ρ → Prop) (h0 : ∀ (x1 : A1) (x2 : A2) (x3 : A3) (x4 : A4) (x5 : A5) (x6 : A6) (x7 : A7), P x1 x2 x3 x4 x5 x6 x7 none) (hs : ∀ k : A1 → A2 → A3 → A4 → A5 → A6 → A7 → Option ρ, (∀ (x1 : A1) (x2 : A2) (x3 : A3) (x4 : A4) (x5 : A5) (x6 : A6) (x7 : A7), P x1 x2 x3 x4 x5 x6 x7 (k x1 x2 x3 x4 x5 x6 x7)) → ∀ (x1 : A1) (x2 : A2) (x3 : A3) (x4 : A4) (x5 : A5) (x6 : A6) (x7 : A7), P x1 x2 x3 x4 x5 x6 x7 (F k x1 x2 x3 x4 x5 x6 x7)) : P a1 a2 a3 a4 a5 a6 a7 (lp (fun _ _ _ _ _ _ _ => none) F n a1 a2 a3 a4 a5 a6 a7) := by
  have h : ∀ n, ∀ (x1 : A1) (x2 : A2) (x3 : A3) (x4 : A4) (x5 : A5) (x6 : A6) (x7 : A7), P x1 x2 x3 x4 x5 x6 x7 (lp (fun _ _ _ _ _ _ _ => none) F n x1 x2 x3 x4 x5 x6 x7) := by
    intro n
    induction n with
    | zero => intro x1 x2 x3 x4 x5 x6 x7; exact h0 x1 x2 x3 x4 x5 x6 x7
    | succ n ih => intro x1 x2 x3 x4 x5 x6 x7; exact hs _ ih x1 x2 x3 x4 x5 x6 x7
  exact h n a1 a2 a3 a4 a5 a6 a7
theorem Jjn8 {A1 A2 A3 A4 A5 A6 A7 A8 : Type} {K : A1 → A2 → A3 → A4 → A5 → A6 → A7 → A8 → Option (ρ × CS)} {B : (A1 → A2 → A3 → A4 → A5 → A6 → A7 → A8 → Option (ρ × CS)) → Option (ρ × CS)} (P : A1 → A2 → A3 → A4 → A5 → A6 → A7 → A8 → Option (ρ × CS) → Prop) (hK : ∀ (x1 : A1) (x2 : A2) (x3 : A3) (x4 : A4) (x5 : A5) (x6 : A6) (x7 : A7) (x8 : A8), P x1 x2 x3 x4 x5 x6 x7 x8 (K x1 x2 x3 x4 x5 x6 x7 x8)) (hB : ∀ k : A1 → A2 → A3 → A4 → A5 → A6 → A7 → A8 → Option (ρ × CS), (∀ (x1 : A1) (x2 : A2) (x3 : A3) (x4 : A4) (x5 : A5) (x6 : A6) (x7 : A7) (x8 : A8), P x1 x2 x3 x4 x5 x6 x7 x8 (k x1 x2 x3 x4 x5 x6 x7 x8)) → J p l e R s m args below meth c nL E z0 s0 Q z (B k) σ pc L st) : J p l e R s m args below meth c nL E z0 s0 Q z (jn K B) σ pc L st := hB K hK
theorem Mjn8 {A1 A2 A3 A4 A5 A6 A7 A8 : Type} {K : A1 → A2 → A3 → A4 → A5 → A6 → A7 → A8 → Option (ρ × CS)} {B : (A1 → A2 → A3 → A4 → A5 → A6 → A7 → A8 → Option (ρ × CS)) → Option (ρ × CS)} (P : A1 → A2 → A3 → A4 → A5 → A6 → A7 → A8 → Option (ρ × CS) → Prop) (hK : ∀ (x1 : A1) (x2 : A2) (x3 : A3) (x4 : A4) (x5 : A5) (x6 : A6) (x7 : A7) (x8 : A8), P x1 x2 x3 x4 x5 x6 x7 x8 (K x1 x2 x3 x4 x5 x6 x7 x8)) (hB : ∀ k : A1 → A2 → A3 → A4 → A5 → A6 → A7 → A8 → Option (ρ × CS), (∀ (x1 : A1) (x2 : A2) (x3 : A3) (x4 : A4) (x5 : A5) (x6 : A6) (x7 : A7) (x8 : A8), P x1 x2 x3 x4 x5 x6 x7 x8 (k x1 x2 x3 x4 x5 x6 x7 x8)) → Mn σ (B k)) : Mn σ (jn K B) := hB K hK
theorem Plp8 {A1 A2 A3 A4 A5 A6 A7 A8 : Type} {ρ : Type} {F : (A1 → A2 → A3 → A4 → A5 → A6 → A7 → A8 → Option ρ) → (A1 → A2 → A3 → A4 → A5 → A6 → A7 → A8 → Option ρ)} {n : Nat} {a1 : A1} {a2 : A2} {a3 : A3} {a4 : A4} {a5 : A5} {a6 : A6} {a7 : A7} {a8 : A8} (P : A1 → A2 → A3 → A4 → A5 → A6 → A7 → A8 → Option ρ → Prop) (h0 : ∀ (x1 : A1) (x2 : A2) (x3 : A3) (x4 : A4) (x5 : A5) (x6 : A6) (x7 : A7) (x8 : A8), P x1 x2 x3 x4 x5 x6 x7 x8 none) (hs : ∀ k : A1 → A2 → A3 → A4 → A5 → A6 → A7 → A8 → Option ρ, (∀ (x1 : A1) (x2 : A2) (x3 : A3) (x4 : A4) (x5 : A5) (x6 : A6) (x7 : A7) (x8 : A8), P x1 x2 x3 x4 x5 x6 x7 x8 (k x1 x2 x3 x4 x5 x6 x7 x8)) → ∀ (x1 : A1) (x2 : A2) (x3 : A3) (x4 : A4) (x5 : A5) (x6 : A6) (x7 : A7) (x8 : A8), P x1 x2 x3 x4 x5 x6 x7 x8 (F k x1 x2 x3 x4 x5 x6 x7 x8)) : P a1 a2 a3 a4 a5 a6 a7 a8 (lp (fun _ _ _ _ _ _ _ _ => none) F n a1 a2 a3 a4 a5 a6 a7 a8) := by
  have h : ∀ n, ∀ (x1 : A1) (x2 : A2) (x3 : A3) (x4 : A4) (x5 : A5) (x6 : A6) (x7 : A7) (x8 : A8), P x1 x2 x3 x4 x5 x6 x7 x8 (lp (fun _ _ _ _ _ _ _ _ => none) F n x1 x2 x3 x4 x5 x6 x7 x8) := by
    intro n
    induction n with
    | zero => intro x1 x2 x3 x4 x5 x6 x7 x8; exact h0 x1 x2 x3 x4 x5 x6 x7 x8
    | succ n ih => intro x1 x2 x3 x4 x5 x6 x7 x8; exact hs _ ih x1 x2 x3 x4 x5 x6 x7 x8
  exact h n a1 a2 a3 a4 a5 a6 a7 a8
theorem Jjn9 {A1 A2 A3 A4 A5 A6 A7 A8 A9 : Type} {K : A1 → A2 → A3 → A4 → A5 → A6 → A7 → A8 → A9 → Option (ρ × CS)} {B : (A1 → A2 → A3 → A4 → A5 → A6 → A7 → A8 → A9 → Option (ρ × CS)) → Option (ρ × CS)} (P : A1 → A2 → A3 → A4 → A5 → A6 → A7 → A8 → A9 → Option (ρ × CS) → Prop) (hK : ∀ (x1 : A1) (x2 : A2) (x3 : A3) (x4 : A4) (x5 : A5) (x6 : A6) (x7 : A7) (x8 : A8) (x9 : A9), P x1 x2 x3 x4 x5 x6 x7 x8 x9 (K x1 x2 x3 x4 x5 x6 x7 x8 x9)) (hB : ∀ k : A1 → A2 → A3 → A4 → A5 → A6 → A7 → A8 → A9 → Option (ρ × CS), (∀ (x1 : A1) (x2 : A2) (x3 : A3) (x4 : A4) (x5 : A5) (x6 : A6) (x7 : A7) (x8 : A8) (x9 : A9), P x1 x2 x3 x4 x5 x6 x7 x8 x9 (k x1 x2 x3 x4 x5 x6 x7 x8 x9)) → J p l e R s m args below meth c nL E z0 s0 Q z (B k) σ pc L st) : J p l e R s m args below meth c nL E z0 s0 Q z (jn K B) σ pc L st := hB K hK
theorem Mjn9 {A1 A2 A3 A4 A5 A6 A7 A8 A9 : Type} {K : A1 → A2 → A3 → A4 → A5 → A6 → A7 → A8 → A9 → Option (ρ × CS)} {B : (A1 → A2 → A3 → A4 → A5 → A6 → A7 → A8 → A9 → Option (ρ × CS)) → Option (ρ × CS)} (P : A1 → A2 → A3 → A4 → A5 → A6 → A7 → A8 → A9 → Option (ρ × CS) → Prop) (hK : ∀ (x1 : A1) (x2 : A2) (x3 : A3) (x4 : A4) (x5 : A5) (x6 : A6) (x7 : A7) (x8 : A8) (x9 : A9), P x1 x2 x3 x4 x5 x6 x7 x8 x9 (K x1 x2 x3 x4 x5 x6 x7 x8 x9)) (hB : ∀ k : A1 → A2 → A3 → A4 → A5 → A6 → A7 → A8 → A9 → Option (ρ × CS), (∀ (x1 : A1) (x2 : A2) (x3 : A3) (x4 : A4) (x5 : A5) (x6 : A6) (x7 : A7) (x8 : A8) (x9 : A9), P x1 x2 x3 x4 x5 x6 x7 x8 x9 (k x1 x2 x3 x4 x5 x6 x7 x8 x9)) → Mn σ (B k)) : Mn σ (jn K B) := hB K hK
theorem Plp9 {A1 A2 A3 A4 A5 A6 A7 A8 A9 : Type} {ρ : Type} {F : (A1 → A2 → A3 → A4 → A5 → A6 → A7 → A8 → A9 → Option ρ) → (A1 → A2 → A3 → A4 → A5 → A6 → A7 → A8 → A9 → Option ρ)} {n : Nat} {a1 : A1} {a2 : A2} {a3 : A3} {a4 : A4} {a5 : A5} {a6 : A6} {a7 : A7} {a8 : A8} {a9 : A9} (P : A1 → A2 → A3 → A4 → A5 → A6 → A7 → A8 → A9 → Option ρ → Prop) (h0 : ∀ (x1 : A1) (x2 : A2) (x3 : A3) (x4 : A4) (x5 : A5) (x6 : A6) (x7 : A7) (x8 : A8) (x9 : A9), P x1 x2 x3 x4 x5 x6 x7 x8 x9 none) (hs : ∀ k : A1 → A2 → A3 → A4 → A5 → A6 → A7 → A8 → A9 → Option ρ, (∀ (x1 : A1) (x2 : A2) (x3 : A3) (x4 : A4) (x5 : A5) (x6 : A6) (x7 : A7) (x8 : A8) (x9 : A9), P x1 x2 x3 x4 x5 x6 x7 x8 x9 (k x1 x2 x3 x4 x5 x6 x7 x8 x9)) → ∀ (x1 : A1) (x2 : A2) (x3 : A3) (x4 : A4) (x5 : A5) (x6 : A6) (x7 : A7) (x8 : A8) (x9 : A9), P x1 x2 x3 x4 x5 x6 x7 x8 x9 (F k x1 x2 x3 x4 x5 x6 x7 x8 x9)) : P a1 a2 a3 a4 a5 a6 a7 a8 a9 (lp (fun _ _ _ _ _ _ _ _ _ => none) F n a1 a2 a3 a4 a5 a6 a7 a8 a9) := by
  have h : ∀ n, ∀ (x1 : A1) (x2 : A2) (x3 : A3) (x4 : A4) (x5 : A5) (x6 : A6) (x7 : A7) (x8 : A8) (x9 : A9), P x1 x2 x3 x4 x5 x6 x7 x8 x9 (lp (fun _ _ _ _ _ _ _ _ _ => none) F n x1 x2 x3 x4 x5 x6 x7 x8 x9) := by
    intro n
    induction n with
    | zero => intro x1 x2 x3 x4 x5 x6 x7 x8 x9; exact h0 x1 x2 x3 x4 x5 x6 x7 x8 x9
    | succ n ih => intro x1 x2 x3 x4 x5 x6 x7 x8 x9; exact hs _ ih x1 x2 x3 x4 x5 x6 x7 x8 x9
  exact h n a1 a2 a3 a4 a5 a6 a7 a8 a9
theorem Jjn10 {A1 A2 A3 A4 A5 A6 A7 A8 A9 A10 : Type} {K : A1 → A2 → A3 → A4 → A5 → A6 → A7 → A8 → A9 → A10 → Option (ρ × CS)} {B : (A1 → A2 → A3 → A4 → A5 → A6 → A7 → A8 → A9 → A10 → Option (ρ × CS)) → Option (ρ × CS)} (P : A1 → A2 → A3 → A4 → A5 → A6 → A7 → A8 → A9 → A10 → Option (ρ × CS) → Prop) (hK : ∀ (x1 : A1) (x2 : A2) (x3 : A3) (x4 : A4) (x5 : A5) (x6 : A6) (x7 : A7) (x8 : A8) (x9 : A9) (x10 : A10), P x1 x2 x3 x4 x5 x6 x7 x8 x9 x10 (K x1 x2 x3 x4 x5 x6 x7 x8 x9 x10)) (hB : ∀ k : A1 → A2 → A3 → A4 → A5 → A6 → A7 → A8 → A9 → A10 → Option (ρ × CS), (∀ (x1 : A1) (x2 : A2) (x3 : A3) (x4 : A4) (x5 : A5) (x6 : A6) (x7 : A7) (x8 : A8) (x9 : A9) (x10 : A10), P x1 x2 x3 x4 x5 x6 x7 x8 x9 x10 (k x1 x2 x3 x4 x5 x6 x7 x8 x9 x10)) → J p l e R s m args below meth c nL E z0 s0 Q z (B k) σ pc L st) : J p l e R s m args below meth c nL E z0 s0 Q z (jn K B) σ pc L st := hB K hK
theorem Mjn10 {A1 A2 A3 A4 A5 A6 A7 A8 A9 A10 : Type} {K : A1 → A2 → A3 → A4 → A5 → A6 → A7 → A8 → A9 → A10 → Option (ρ × CS)} {B : (A1 → A2 → A3 → A4 → A5 → A6 → A7 → A8 → A9 → A10 → Option (ρ × CS)) → Option (ρ × CS)} (P : A1 → A2 → A3 → A4 → A5 → A6 → A7 → A8 → A9 → A10 → Option (ρ × CS) → Prop) (hK : ∀ (x1 : A1) (x2 : A2) (x3 : A3) (x4 : A4) (x5 : A5) (x6 : A6) (x7 : A7) (x8 : A8) (x9 : A9) (x10 : A10), P x1 x2 x3 x4 x5 x6 x7 x8 x9 x10 (K x1 x2 x3 x4 x5 x6 x7 x8 x9 x10)) (hB : ∀ k : A1 → A2 → A3 → A4 → A5 → A6 → A7 → A8 → A9 → A10 → Option (ρ × CS), (∀ (x1 : A1) (x2 : A2) (x3 : A3) (x4 : A4) (x5 : A5) (x6 : A6) (x7 : A7) (x8 : A8) (x9 : A9) (x10 : A10), P x1 x2 x3 x4 x5 x6 x7 x8 x9 x10 (k x1 x2 x3 x4 x5 x6 x7 x8 x9 x10)) → Mn σ (B k)) : Mn σ (jn K B) := hB K hK
theorem Plp10 {A1 A2 A3 A4 A5 A6 A7 A8 A9 A10 : Type} {ρ : Type} {F : (A1 → A2 → A3 → A4 → A5 → A6 → A7 → A8 → A9 → A10 → Option ρ) → (A1 → A2 → A3 → A4 → A5 → A6 → A7 → A8 → A9 → A10 → Option ρ)} {n : Nat} {a1 : A1} {a2 : A2} {a3 : A3} {a4 : A4} {a5 : A5} {a6 : A6} {a7 : A7} {a8 : A8} {a9 : A9} {a10 : A10} (P : A1 → A2 → A3 → A4 → A5 → A6 → A7 → A8 → A9 → A10 → Option ρ → Prop) (h0 : ∀ (x1 : A1) (x2 : A2) (x3 : A3) (x4 : A4) (x5 : A5) (x6 : A6) (x7 : A7) (x8 : A8) (x9 : A9) (x10 : A10), P x1 x2 x3 x4 x5 x6 x7 x8 x9 x10 none) (hs : ∀ k : A1 → A2 → A3 → A4 → A5 → A6 → A7 → A8 → A9 → A10 → Option ρ, (∀ (x1 : A1) (x2 : A2) (x3 : A3) (x4 : A4) (x5 : A5) (x6 : A6) (x7 : A7) (x8 : A8) (x9 : A9) (x10 : A10), P x1 x2 x3 x4 x5 x6 x7 x8 x9 x10 (k x1 x2 x3 x4 x5 x6 x7 x8 x9 x10)) → ∀ (x1 : A1) (x2 : A2) (x3 : A3) (x4 : A4) (x5 : A5) (x6 : A6) (x7 : A7) (x8 : A8) (x9 : A9) (x10 : A10), P x1 x2 x3 x4 x5 x6 x7 x8 x9 x10 (F k x1 x2 x3 x4 x5 x6 x7 x8 x9 x10)) : P a1 a2 a3 a4 a5 a6 a7 a8 a9 a10 (lp (fun _ _ _ _ _ _ _ _ _ _ => none) F n a1 a2 a3 a4 a5 a6 a7 a8 a9 a10) := by
  have h : ∀ n, ∀ (x1 : A1) (x2 : A2) (x3 : A3) (x4 : A4) (x5 : A5) (x6 : A6) (x7 : A7) (x8 : A8) (x9 : A9) (x10 : A10), P x1 x2 x3 x4 x5 x6 x7 x8 x9 x10 (lp (fun _ _ _ _ _ _ _ _ _ _ => none) F n x1 x2 x3 x4 x5 x6 x7 x8 x9 x10) := by
    intro n
    induction n with
    | zero => intro x1 x2 x3 x4 x5 x6 x7 x8 x9 x10; exact h0 x1 x2 x3 x4 x5 x6 x7 x8 x9 x10
    | succ n ih => intro x1 x2 x3 x4 x5 x6 x7 x8 x9 x10; exact hs _ ih x1 x2 x3 x4 x5 x6 x7 x8 x9 x10
  exact h n a1 a2 a3 a4 a5 a6 a7 a8 a9 a10
theorem Jjn11 {A1 A2 A3 A4 A5 A6 A7 A8 A9 A10 A11 : Type} {K : A1 → A2 → A3 → A4 → A5 → A6 → A7 → A8 → A9 → A10 → A11 → Option (ρ × CS)} {B : (A1 → A2 → A3 → A4 → A5 → A6 → A7 → A8 → A9 → A10 → A11 → Option (ρ × CS)) → Option (ρ × CS)} (P : A1 → A2 → A3 → A4 → A5 → A6 → A7 → A8 → A9 → A10 → A11 → Option (ρ × CS) → Prop) (hK : ∀ (x1 : A1) (x2 : A2) (x3 : A3) (x4 : A4) (x5 : A5) (x6 : A6) (x7 : A7) (x8 : A8) (x9 : A9) (x10 : A10) (x11 : A11), P x1 x2 x3 x4 x5 x6 x7 x8 x9 x10 x11 (K x1 x2 x3 x4 x5 x6 x7 x8 x9 x10 x11)) (hB : ∀ k : A1 → A2 → A3 → A4 → A5 → A6 → A7 → A8 → A9 → A10 → A11 → Option (ρ × CS), (∀ (x1 : A1) (x2 : A2) (x3 : A3) (x4 : A4) (x5 : A5) (x6 : A6) (x7 : A7) (x8 : A8) (x9 : A9) (x10 : A10) (x11 : A11), P x1 x2 x3 x4 x5 x6 x7 x8 x9 x10 x11 (k x1 x2 x3 x4 x5 x6 x7 x8 x9 x10 x11)) → J p l e R s m args below meth c nL E z0 s0 Q z (B k) σ pc L st) : J p l e R s m args below meth c nL E z0 s0 Q z (jn K B) σ pc L st := hB K hK
theorem Mjn11 {A1 A2 A3 A4 A5 A6 A7 A8 A9 A10 A11 : Type} {K : A1 → A2 → A3 → A4 → A5 → A6 → A7 → A8 → A9 → A10 → A11 → Option (ρ × CS)} {B : (A1 → A2 → A3 → A4 → A5 → A6 → A7 → A8 → A9 → A10 → A11 → Option (ρ × CS)) → Option (ρ × CS)} (P : A1 → A2 → A3 → A4 → A5 → A6 → A7 → A8 → A9 → A10 → A11 → Option (ρ × CS) → Prop) (hK : ∀ (x1 : A1) (x2 : A2) (x3 : A3) (x4 : A4) (x5 : A5) (x6 : A6) (x7 : A7) (x8 : A8) (x9 : A9) (x10 : A10) (x11 : A11), P x1 x2 x3 x4 x5 x6 x7 x8 x9 x10 x11 (K x1 x2 x3 x4 x5 x6 x7 x8 x9 x10 x11)) (hB : ∀ k : A1 → A2 → A3 → A4 → A5 → A6 → A7 → A8 → A9 → A10 → A11 → Option (ρ × CS), (∀ (x1 : A1) (x2 : A2) (x3 : A3) (x4 : A4) (x5 : A5) (x6 : A6) (x7 : A7) (x8 : A8) (x9 : A9) (x10 : A10) (x11 : A11), P x1 x2 x3 x4 x5 x6 x7 x8 x9 x10 x11 (k x1 x2 x3 x4 x5 x6 x7 x8 x9 x10 x11)) → Mn σ (B k)) : Mn σ (jn K B) := hB K hK
theorem Plp11 {A1 A2 A3 A4 A5 A6 A7 A8 A9 A10 A11 : Type} {ρ : Type} {F : (A1 → A2 → A3 → A4 → A5 → A6 → A7 → A8 → A9 → A10 → A11 → Option ρ) → (A1 → A2 → A3 → A4 → A5 → A6 → A7 → A8 → A9 → A10 → A11 → Option ρ)} {n : Nat} {a1 : A1} {a2 : A2} {a3 : A3} {a4 : A4} {a5 : A5} {a6 : A6} {a7 : A7} {a8 : A8} {a9 : A9} {a10 : A10} {a11 : A11} (P : A1 → A2 → A3 → A4 → A5 → A6 → A7 → A8 → A9 → A10 → A11 → Option ρ → Prop) (h0 : ∀ (x1 : A1) (x2 : A2) (x3 : A3) (x4 : A4) (x5 : A5) (x6 : A6) (x7 : A7) (x8 : A8) (x9 : A9) (x10 : A10) (x11 : A11), P x1 x2 x3 x4 x5 x6 x7 x8 x9 x10 x11 none) (hs : ∀ k : A1 → A2 → A3 → A4 → A5 → A6 → A7 → A8 → A9 → A10 → A11 → Option ρ, (∀ (x1 : A1) (x2 : A2) (x3 : A3) (x4 : A4) (x5 : A5) (x6 : A6) (x7 : A7) (x8 : A8) (x9 : A9) (x10 : A10) (x11 : A11), P x1 x2 x3 x4 x5 x6 x7 x8 x9 x10 x11 (k x1 x2 x3 x4 x5 x6 x7 x8 x9 x10 x11)) → ∀ (x1 : A1) (x2 : A2) (x3 : A3) (x4 : A4) (x5 : A5) (x6 : A6) (x7 : A7) (x8 : A8) (x9 : A9) (x10 : A10) (x11 : A11), P x1 x2 x3 x4 x5 x6 x7 x8 x9 x10 x11 (F k x1 x2 x3 x4 x5 x6 x7 x8 x9 x10 x11)) : P a1 a2 a3 a4 a5 a6 a7 a8 a9 a10 a11 (lp (fun _ _ _ _ _ _ _ _ _ _ _ => none) F n a1 a2 a3 a4 a5 a6 a7 a8 a9 a10 a11) := by
  have h : ∀ n, ∀ (x1 : A1) (x2 : A2) (x3 : A3) (x4 : A4) (x5 : A5) (x6 : A6) (x7 : A7) (x8 : A8) (x9 : A9) (x10 : A10) (x11 : A11), P x1 x2 x3 x4 x5 x6 x7 x8 x9 x10 x11 (lp (fun _ _ _ _ _ _ _ _ _ _ _ => none) F n x1 x2 x3 x4 x5 x6 x7 x8 x9 x10 x11) := by
    intro n
    induction n with
    | zero => intro x1 x2 x3 x4 x5 x6 x7 x8 x9 x10 x11; exact h0 x1 x2 x3 x4 x5 x6 x7 x8 x9 x10 x11
    | succ n ih => intro x1 x2 x3 x4 x5 x6 x7 x8 x9 x10 x11; exact hs _ ih x1 x2 x3 x4 x5 x6 x7 x8 x9 x10 x11
  exact h n a1 a2 a3 a4 a5 a6 a7 a8 a9 a10 a11
theorem Jjn12 {A1 A2 A3 A4 A5 A6 A7 A8 A9 A10 A11 A12 : Type} {K : A1 → A2 → A3 → A4 → A5 → A6 → A7 → A8 → A9 → A10 → A11 → A12 → Option (ρ × CS)} {B : (A1 → A2 → A3 → A4 → A5 → A6 → A7 → A8 → A9 → A10 → A11 → A12 → Option (ρ × CS)) → Option (ρ × CS)} (P : A1 → A2 → A3 → A4 → A5 → A6 → A7 → A8 → A9 → A10 → A11 → A12 → Option (ρ × CS) → Prop) (hK : ∀ (x1 : A1) (x2 : A2) (x3 : A3) (x4 : A4) (x5 : A5) (x6 : A6) (x7 : A7) (x8 : A8) (x9 : A9) (x10 : A10) (x11 : A11) (x12 : A12), P x1 x2 x3 x4 x5 x6 x7 x8 x9 x10 x11 x12 (K x1 x2 x3 x4 x5 x6 x7 x8 x9 x10 x11 x12)) (hB : ∀ k : A1 → A2 → A3 → A4 → A5 → A6 → A7 → A8 → A9 → A10 → A11 → A12 → Option (ρ × CS), (∀ (x1 : A1) (x2 : A2) (x3 : A3) (x4 : A4) (x5 : A5) (x6 : A6) (x7 : A7) (x8 : A8) (x9 : A9) (x10 : A10) (x11 : A11) (x12 : A12), P x1 x2 x3 x4 x5 x6 x7 x8 x9 x10 x11 x12 (k x1 x2 x3 x4 x5 x6 x7 x8 x9 x10 x11 x12)) → J p l e R s m args below meth c nL E z0 s0 Q z (B k) σ pc L st) : J p l e R s m args below meth c nL E z0 s0 Q z (jn K B) σ pc L st := hB K hK
theorem Mjn12 {A1 A2 A3 A4 A5 A6 A7 A8 A9 A10 A11 A12 : Type} {K : A1 → A2 → A3 → A4 → A5 → A6 → A7 → A8 → A9 → A10 → A11 → A12 → Option (ρ × CS)} {B : (A1 → A2 → A3 → A4 → A5 → A6 → A7 → A8 → A9 → A10 → A11 → A12 → Option (ρ × CS)) → Option (ρ × CS)} (P : A1 → A2 → A3 → A4 → A5 → A6 → A7 → A8 → A9 → A10 → A11 → A12 → Option (ρ × CS) → Prop) (hK : ∀ (x1 : A1) (x2 : A2) (x3 : A3) (x4 : A4) (x5 : A5) (x6 : A6) (x7 : A7) (x8 : A8) (x9 : A9) (x10 : A10) (x11 : A11) (x12 : A12), P x1 x2 x3 x4 x5 x6 x7 x8 x9 x10 x11 x12 (K x1 x2 x3 x4 x5 x6 x7 x8 x9 x10 x11 x12)) (hB : ∀ k : A1 → A2 → A3 → A4 → A5 → A6 → A7 → A8 → A9 → A10 → A11 → A12 → Option (ρ × CS), (∀ (x1 : A1) (x2 : A2) (x3 : A3) (x4 : A4) (x5 : A5) (x6 : A6) (x7 : A7) (x8 : A8) (x9 : A9) (x10 : A10) (x11 : A11) (x12 : A12), P x1 x2 x3 x4 x5 x6 x7 x8 x9 x10 x11 x12 (k x1 x2 x3 x4 x5 x6 x7 x8 x9 x10 x11 x12)) → Mn σ (B k)) : Mn σ (jn K B) := hB K hK
theorem Plp12 {A1 A2 A3 A4 A5 A6 A7 A8 A9 A10 A11 A12 : Type} {ρ : Type} {F : (A1 → A2 → A3 → A4 → A5 → A6 → A7 → A8 → A9 → A10 → A11 → A12 → Option ρ) → (A1 → A2 → A3 → A4 → A5 → A6 → A7 → A8 → A9 → A10 → A11 → A12 → Option ρ)} {n : Nat} {a1 : A1} {a2 : A2} {a3 : A3} {a4 : A4} {a5 : A5} {a6 : A6} {a7 : A7} {a8 : A8} {a9 : A9} {a10 : A10} {a11 : A11} {a12 : A12} (P : A1 → A2 → A3 → A4 → A5 → A6 → A7 → A8 → A9 → A10 → A11 → A12 → Option ρ → Prop) (h0 : ∀ (x1 : A1) (x2 : A2) (x3 : A3) (x4 : A4) (x5 : A5) (x6 : A6) (x7 : A7) (x8 : A8) (x9 : A9) (x10 : A10) (x11 : A11) (x12 : A12), P x1 x2 x3 x4 x5 x6 x7 x8 x9 x10 x11 x12 none) (hs : ∀ k : A1 → A2 → A3 → A4 → A5 → A6 → A7 → A8 → A9 → A10 → A11 → A12 → Option ρ, (∀ (x1 : A1) (x2 : A2) (x3 : A3) (x4 : A4) (x5 : A5) (x6 : A6) (x7 : A7) (x8 : A8) (x9 : A9) (x10 : A10) (x11 : A11) (x12 : A12), P x1 x2 x3 x4 x5 x6 x7 x8 x9 x10 x11 x12 (k x1 x2 x3 x4 x5 x6 x7 x8 x9 x10 x11 x12)) → ∀ (x1 : A1) (x2 : A2) (x3 : A3) (x4 : A4) (x5 : A5) (x6 : A6) (x7 : A7) (x8 : A8) (x9 : A9) (x10 : A10) (x11 : A11) (x12 : A12), P x1 x2 x3 x4 x5 x6 x7 x8 x9 x10 x11 x12 (F k x1 x2 x3 x4 x5 x6 x7 x8 x9 x10 x11 x12)) : P a1 a2 a3 a4 a5 a6 a7 a8 a9 a10 a11 a12 (lp (fun _ _ _ _ _ _ _ _ _ _ _ _ => none) F n a1 a2 a3 a4 a5 a6 a7 a8 a9 a10 a11 a12) := by
  have h : ∀ n, ∀ (x1 : A1) (x2 : A2) (x3 : A3) (x4 : A4) (x5 : A5) (x6 : A6) (x7 : A7) (x8 : A8) (x9 : A9) (x10 : A10) (x11 : A11) (x12 : A12), P x1 x2 x3 x4 x5 x6 x7 x8 x9 x10 x11 x12 (lp (fun _ _ _ _ _ _ _ _ _ _ _ _ => none) F n x1 x2 x3 x4 x5 x6 x7 x8 x9 x10 x11 x12) := by
    intro n
    induction n with
    | zero => intro x1 x2 x3 x4 x5 x6 x7 x8 x9 x10 x11 x12; exact h0 x1 x2 x3 x4 x5 x6 x7 x8 x9 x10 x11 x12
    | succ n ih => intro x1 x2 x3 x4 x5 x6 x7 x8 x9 x10 x11 x12; exact hs _ ih x1 x2 x3 x4 x5 x6 x7 x8 x9 x10 x11 x12
  exact h n a1 a2 a3 a4 a5 a6 a7 a8 a9 a10 a11 a12
end CJ3
