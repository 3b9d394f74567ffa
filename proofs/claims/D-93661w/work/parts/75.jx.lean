/-! the judgement J for methods that may throw -/
def xoI : Int32 ⊕ Nat → Outcome
  | .inl r => .returned (some (.int r))
  | .inr a => .threw a
def xoV : Unit ⊕ Nat → Outcome
  | .inl _ => .returned none
  | .inr a => .threw a
def xoR : Nat ⊕ Nat → Outcome
  | .inl r => .returned (some (.ref r))
  | .inr a => .threw a
/-- a call of a method that may throw: a throw goes on -/
def clx {α ρ : Type} (o : Option ((α ⊕ Nat) × CS)) (K : α → CS → Option ((ρ ⊕ Nat) × CS)) : Option ((ρ ⊕ Nat) × CS) := match o with
  | some (.inl r, σ) => K r σ
  | some (.inr x, σ) => some (.inr x, σ)
  | none => none
section JX
variable {p : Program} {l : Launch} {e : Env} {R : Room} {s : State} {m : MethodId} {args : Array Value} {below : List Frame} {meth : Method} {c : Code} {nL : Nat} {E : CE} {z0 s0 : Nat} {Q : State → Prop} {ρ : Type} {σ : CS} {pc : Nat} {L : List (Nat × Value)} {st rest : List Value} {cc : ByteArray}
theorem Jclx {α : Type} {o : Option ((α ⊕ Nat) × CS)} {K : α → CS → Option ((ρ ⊕ Nat) × CS)} {z : (ρ ⊕ Nat) × CS} (kx : ∀ x σ1, o = some (.inr x, σ1) → J p l e R s m args below meth c nL E z0 s0 Q z (some (.inr x, σ1)) σ pc L st) (k : ∀ r σ1, o = some (.inl r, σ1) → J p l e R s m args below meth c nL E z0 s0 Q z (K r σ1) σ pc L st) : J p l e R s m args below meth c nL E z0 s0 Q z (clx o K) σ pc L st := by
  cases h : o with
  | none => exact fun hX => by cases hX
  | some w =>
    obtain ⟨r | x, σ1⟩ := w
    · exact k r σ1 h
    · exact kx x σ1 h
theorem Mclx {α : Type} {o : Option ((α ⊕ Nat) × CS)} {K : α → CS → Option ((ρ ⊕ Nat) × CS)} (ho : Mn σ o) (k : ∀ r σ1, Mn σ1 (K r σ1)) : Mn σ (clx o K) := by
  cases h : o with
  | none => exact fun _ hX => by cases hX
  | some w =>
    have q1 := ho _ h
    obtain ⟨r | x, σ1⟩ := w
    · intro z hz
      have q2 := k r σ1 z hz
      dsimp only at q1
      omega
    · intro z hz
      cases hz
      exact q1
theorem JXiret {res : Int32 ⊕ Nat} {σz : CS} {v : Int32} (hx : p.tables.exec = Jvm.exec) (hb : c.code = cc) (hr : meth.sig.returnType = some .int) (hlocks : meth.locks = false) (hdg : decode cc pc = .ok (.ireturn, 1)) : J p l e R s m args below meth c nL E z0 s0 (MQX below E (xoI res) σz s (cZ σz - z0) (cS σz - s0)) (res, σz) (some (.inl v, σ)) σ pc L [.int v] := fun hX => by
  cases hX
  exact ⟨⟨Nat.le_refl _, Nat.le_refl _⟩, fun H locs ls hH hS hl hz => W.mono (MQX.of (args := args) (v := some (.int v))) (W.iret hx hb hr (fun t ht hW => ⟨⟨rfl, hH.to ht⟩, hS.F ht⟩) hS.2.2 hdg hlocks)⟩
theorem JXvret {res : Unit ⊕ Nat} {σz : CS} (hx : p.tables.exec = Jvm.exec) (hb : c.code = cc) (hr : meth.sig.returnType = none) (hlocks : meth.locks = false) (hdg : decode cc pc = .ok (.return_, 1)) : J p l e R s m args below meth c nL E z0 s0 (MQX below E (xoV res) σz s (cZ σz - z0) (cS σz - s0)) (res, σz) (some (.inl (), σ)) σ pc L [] := fun hX => by
  cases hX
  exact ⟨⟨Nat.le_refl _, Nat.le_refl _⟩, fun H locs ls hH hS hl hz => W.mono (MQX.of (args := args) (v := none)) (W.vret hx hb hr (fun t ht hW => ⟨⟨rfl, hH.to ht⟩, hS.F ht⟩) hS.2.2 hdg hlocks)⟩
theorem JXaret {res : Nat ⊕ Nat} {σz : CS} {v : Nat} {rt : FieldType} (hx : p.tables.exec = Jvm.exec) (hb : c.code = cc) (hr : meth.sig.returnType = some rt) (hrt : (∃ n, rt = .object n) ∨ ∃ t, rt = .array t) (hlocks : meth.locks = false) (hdg : decode cc pc = .ok (.areturn, 1)) : J p l e R s m args below meth c nL E z0 s0 (MQX below E (xoR res) σz s (cZ σz - z0) (cS σz - s0)) (res, σz) (some (.inl v, σ)) σ pc L [.ref v] := fun hX => by
  cases hX
  exact ⟨⟨Nat.le_refl _, Nat.le_refl _⟩, fun H locs ls hH hS hl hz => W.mono (MQX.of (args := args) (v := some (.ref v))) (W.aret hx hb hr hrt (Or.inr ⟨_, rfl⟩) (fun t ht hW => ⟨⟨rfl, hH.to ht⟩, hS.F ht⟩) hS.2.2 hdg hlocks)⟩
/-- athrow -/
theorem JXthrow {res : ρ ⊕ Nat} {σz : CS} {xo : ρ ⊕ Nat → Outcome} (hxo : ∀ a, xo (.inr a) = .threw a) {a : Nat} (hx : p.tables.exec = Jvm.exec) (hb : c.code = cc) (hout : c.exceptionTable.isEmpty = true) (hlocks : meth.locks = false) (hdg : decode cc pc = .ok (.athrow, 1)) : J p l e R s m args below meth c nL E z0 s0 (MQX below E (xo res) σz s (cZ σz - z0) (cS σz - s0)) (res, σz) (some (.inr a, σ)) σ pc L (.ref a :: rest) := fun hX => by
  cases hX
  rw [hxo]
  exact ⟨⟨Nat.le_refl _, Nat.le_refl _⟩, fun H locs ls hH hS hl hz => W.throwOut hx hb hout hlocks hH hS hdg⟩
/-- the callee threw: the caller, without handlers, leaves too -/
theorem JXleave {res : ρ ⊕ Nat} {σz : CS} {xo : ρ ⊕ Nat → Outcome} (hxo : ∀ a, xo (.inr a) = .threw a) {σ1 : CS} {x : Nat} (hM : cZ σ ≤ cZ σ1 ∧ cS σ ≤ cS σ1) (hR : R.cells = cZ σz - z0 ∧ R.slots = cS σz - s0) (hout : c.exceptionTable.isEmpty = true) (hlocks : meth.locks = false)
    (f : ∀ (H : Heap) (locs : List Loc) (ls : Array Slot), hc E σ H → va_S (EA E) s.heap H locs → lv_has ls nL L → (cZ σ - z0) + (cZ σ1 - cZ σ) ≤ R.cells ∧ (cS σ - s0) + (cS σ1 - cS σ) ≤ R.slots → ∀ T : State, T.heap = H → Stand p l e R s m args below meth c T locs (cZ σ - z0) (cS σ - s0) → ∃ (T' : State) (Lc : List Loc), Stand p l e R s m args below meth c T' (locs ++ Lc) ((cZ σ - z0) + (cZ σ1 - cZ σ)) ((cS σ - s0) + (cS σ1 - cS σ)) ∧ hc E σ1 T'.heap ∧ va_S (EA E) s.heap T'.heap (locs ++ Lc) ∧
      Steps p.tables e below (T.setTop (F0 m pc ls st)) ((T'.setTop { F0 m pc ls st with stack := rest }).pushFrame (.throwing x))) :
    J p l e R s m args below meth c nL E z0 s0 (MQX below E (xo res) σz s (cZ σz - z0) (cS σz - s0)) (res, σz) (some (.inr x, σ1)) σ pc L st := fun hX => by
  cases hX
  rw [hxo]
  refine ⟨hM, fun H locs ls hH hS hl hz => ?_⟩
  intro T hT XX
  obtain ⟨T', Lc, X', hH1, hS1, stp⟩ := f H locs ls hH hS hl ⟨by rw [hR.1]; omega, by rw [hR.2]; omega⟩ T hT XX
  rw [show cZ σ - z0 + (cZ σz - cZ σ) = cZ σz - z0 by omega, show cS σ - s0 + (cS σz - cS σ) = cS σz - s0 by omega] at X'
  obtain ⟨h1, h2, h3, h4, h5⟩ := X'.leaveThrown x (g := { F0 m pc ls st with stack := rest }) rfl rfl rfl (fun y hy => by rw [Array.isEmpty_iff.mp hout] at hy; cases hy) hlocks
  exact ⟨_, stp.trans h1, h2, h3, ⟨hH1, hS1.F rfl⟩, locs ++ Lc, ⟨h4, h5⟩, hS1.2.2⟩
/-- from a walk to a contract -/
theorem MetX.of {y : MethodName} {bytes : ByteArray} {maxL : Nat} {ret : Option FieldType} {f n : Nat} {av : List Value} {xo : ρ ⊕ Nat → Outcome} {res : ρ ⊕ Nat} {σz : CS} {X : Option ((ρ ⊕ Nat) × CS)} (hX : X = some (res, σz)) (hy : plainName y.cls = true) (hle : (lg_sl av).length ≤ maxL) (mono : cZ σ ≤ cZ σz ∧ cS σ ≤ cS σz)
    (body : ∀ p e s m below meth c, p.tables.exec = Jvm.exec → c.code = bytes → meth.sig.returnType = ret → c.maxLocals = maxL → (∀ w ∈ lw_all, w.before av.toArray s = true) → s.vm.findClass y.cls = some m.cls → meth.locks = false → c.exceptionTable.isEmpty = true → kc E s → cZ σ = s.heap.size →
      J p l e (headSpec (ws_ y bytes maxL ret) (rmC f n σ σz)).room s m av.toArray below meth c maxL E (cZ σ) (cS σ) (MQX below E (xo res) σz s (cZ σz - cZ σ) (cS σz - cS σ)) (res, σz) X σ 0 (lv_args 0 av) []) : MetX l y (ws_ y bytes maxL ret) f n E σ av (xo res) σz := by
  refine ⟨mono, MetFree.of_bodyS (code := bytes) (maxLocals := maxL) (ret := ret) hy ?_ ?_⟩
  · intro args s m h hn
    obtain ⟨meth, c, h1, h2, h3, h4, h5, h6, -, -⟩ := Cond.code_spec hn (atoms_spec (ws := ws_ y bytes maxL ret) h _ List.mem_cons_self)
    exact ⟨meth, c, h1, h2, h3, h4, h5, h6⟩
  · intro p e s m args below meth c s₁ B hml hP _
    obtain ⟨rfl, hH, hk⟩ := hP
    have hts0 := atoms_spec (ws := ws_ y bytes maxL ret) B.pre
    have hts : ∀ w ∈ lw_all, w.before _ s = true := fun w h => hts0 w (List.mem_cons_of_mem _ h)
    have hh0 : s₁.heap = s.heap := by rw [B.state]; rfl
    have hj := body p e s m below meth c B.exec B.bytes B.returns hml hts (findClass_of_methodNamed B.named) B.notSynchronized (B.noHandlers (hts0 _ List.mem_cons_self)) hk hH.1.symm hX
    have hl := lv_entry av hle
    have h := hj.2 s.heap [] _ hH va_S.rf hl ⟨Nat.le_refl _, Nat.le_refl _⟩
    rw [Nat.sub_self, Nat.sub_self, ← lg_entry_eq] at h
    obtain ⟨t, a1, b1, b2, ⟨b3, b4⟩, b5⟩ := h s₁ hh0 (Stand.of_body B)
    exact ⟨t, _, a1, b1, b2, ⟨rfl, b3, b4⟩, b5⟩
end JX
