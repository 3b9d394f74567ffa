/-! a method with handlers -/
abbrev wsW (y : MethodName) (b : ByteArray) (L : Nat) (r : Option FieldType) (hh : List (Nat × Nat × Nat × Nat)) : List Cond := Cond.codeWith y b L r hh :: lw_all
/-- a call of a method that may throw, with a handler -/
def clc {α ρ : Type} (o : Option ((α ⊕ Nat) × CS)) (K : α → CS → Option (ρ × CS)) (Kx : Nat → CS → Option (ρ × CS)) : Option (ρ × CS) := match o with
  | some (.inl r, σ) => K r σ
  | some (.inr x, σ) => Kx x σ
  | none => none
/-- the search of the table: its first entry covers the place and names, by a link that holds, a class above the thrown object's -/
theorem cwFind {Q : Handler → Pre} {E9 : CtlPost} {e : Env} {d : Bool} {acts : List Action} {s : State} {f : JFrame} {a : Addr} {en : ExceptionTableEntry} {t : List ExceptionTableEntry} {k : ClassId} {cell : Cell} (hx : covers en f.pc = true) (h0 : en.catchType ≠ 0)
    (hl : s.vm.ClassLinks e.platform f.method.cls en.catchType k) (hcell : s.heap[a]? = some cell) (hobj : ∀ q, cell.vm ≠ .statics q) (hk : ∃ q, s.vm.classes[cell.cls]? = some q) (hc : ∃ q, s.vm.classes[k]? = some q) (hfit : s.vm.assignable cell.cls k = true) :
    wp (findHandler.go f a (en :: t)) Q E9 e d acts s ↔ Q (.found en.handlerPc) d acts (s.setVm (s.vm.noted f.method.cls en.catchType (.cls k))) := by
  simp only [covers] at hx
  have hal : s.vm.Alike (s.vm.noted f.method.cls en.catchType (.cls k)) := (Vm.Alike.refl s.vm).noted _ _ _
  obtain ⟨g1, g2⟩ := (resolveClass_links e.toSetting hl).op (op := VmOp.resolveClass f.method.cls en.catchType) rfl
  obtain ⟨k1, hk1⟩ := hk
  obtain ⟨k2, hk2⟩ := hc
  obtain ⟨j1, hj1, -⟩ := hal.2.2 _ _ hk1
  obtain ⟨j2, hj2, -⟩ := hal.2.2 _ _ hk2
  have hfit2 : (s.vm.noted f.method.cls en.catchType (.cls k)).assignable cell.cls k = true := by rw [hal.assignable]; exact hfit
  simp [findHandler.go, hx, h0, g1, g2, hcell, hobj, hj1, hj2, hfit2, VmOp.dirties, VmOp.acts]
/-- from the note of a throw over the own frame to the handler -/
theorem cwCaught {p : Program} {l : Launch} {e : Env} {R : Room} {s : State} {m : MethodId} {args : Array Value} {below : List Frame} {meth : Method} {c : Code} {T : State} {locs : List Loc} {cells slots : Nat} (X : Stand p l e R s m args below meth c T locs cells slots) (a : Addr) {g : JFrame} (hg : g.method = m) {own C : String} (hown : s.vm.findClass own = some m.cls)
    {en : ExceptionTableEntry} {more : List ExceptionTableEntry} (hsplit : c.exceptionTable.toList = en :: more) (hx : covers en g.pc = true) (h0 : en.catchType ≠ 0) (hlink : (Cond.classLink own en.catchType C).before args s = true) {kC : ClassId} {cell : Cell} (hkC : s.vm.findClass C = some kC) (hcell : T.heap[a]? = some cell) (hobj : cell.vm.isStatics = false) (hfit : s.vm.assignable cell.cls kC = true) :
    ∃ vm', Stand p l e R s m args below meth c (T.setVm vm') locs cells slots ∧ Steps p.tables e below ((T.setTop g).pushFrame (.throwing a)) ((T.setVm vm').setTop { g with pc := en.handlerPc, stack := [.ref a] }) := by
  have hpl : e.platform.magicAccessors = ({} : Platform).magicAccessors := by rw [X.admits.platform]
  obtain ⟨c1, hc1, hcl⟩ := Cond.classLink_spec hown hlink e.platform hpl
  cases hkC.symm.trans hc1
  obtain ⟨dk, _, _, kt, hd, _, _, _, _, hkt, _, hopen⟩ := hcl.here
  have hW : s.WarmedH (T.vm.noted m.cls en.catchType (.cls kC)) := X.warmed.noted hd hopen (State.rightAt_cls hcl)
  obtain ⟨kt2, hkt2, -⟩ := X.warmed.alike.2.2 _ _ hkt
  have hfit2 : T.vm.assignable cell.cls kC = true := by rw [X.warmed.alike.assignable]; exact hfit
  subst hg
  refine ⟨_, X.noted hW, ?_⟩
  obtain ⟨hgo, hw⟩ := X.here.throwing (g := g) a
  refine Steps.head hgo hw ?_
  rw [stepThread_throwing (frames_entered X.here.top _)]
  have hfind : ∀ (Q : Handler → Pre) (E9 : CtlPost) (d : Bool) (acts : List Action), wp (findHandler g a) Q E9 e d acts ((T.setTop g).pushFrame (.throwing a)) ↔ Q (.found en.handlerPc) d acts (((T.setTop g).pushFrame (.throwing a)).setVm (T.vm.noted g.method.cls en.catchType (.cls kC))) := by
    intro Q E9 d acts
    rw [W.findHandler_eq (s := (T.setTop g).pushFrame (.throwing a)) (meth := meth) (code := c) X.method' X.code, hsplit]
    exact cwFind (s := (T.setTop g).pushFrame (.throwing a)) hx h0 (X.warmed.classLinks hcl) hcell (VmData.ne_statics_of hobj) (Vm.classAt_of_assignable hfit2 ⟨kt2, hkt2⟩) ⟨kt2, hkt2⟩ hfit2
  have hthrow : ∀ r, (stepThrowing e ((T.setTop g).pushFrame (.throwing a)) a (.java g :: r)).1 = (((T.setTop g).pushFrame (.throwing a)).setVm (T.vm.noted g.method.cls en.catchType (.cls kC))).setFrames (.java { g with pc := en.handlerPc, stack := [.ref a] } :: r) := by
    intro r
    simp only [stepThrowing, searchFrame, vmDo]
    generalize hr : Sem.go _ e false [] ((T.setTop g).pushFrame (.throwing a)) = res
    obtain ⟨as, rfl, ha⟩ := Sem.eq_ok_of hr (a := Handler.found en.handlerPc) (s' := ((T.setTop g).pushFrame (.throwing a)).setVm (T.vm.noted g.method.cls en.catchType (.cls kC))) (acts' := []) (by simp [hfind _ _ _ _])
    rfl
  rw [hthrow]
  obtain ⟨g₀, hg0⟩ := Option.isSome_iff_exists.mp X.here.top
  obtain ⟨r, hr⟩ := State.topJava?_eq_some.mp hg0
  have hr2 : (T.setVm (T.vm.noted g.method.cls en.catchType (.cls kC))).frames = .java g₀ :: r := hr
  have swap : ∀ (u : State) (v : Vm) (F G : List Frame), ((u.setFrames F).setVm v).setFrames G = (u.setVm v).setFrames G := by
    intro u v F G
    rw [show (u.setFrames F).setVm v = (u.setVm v).setFrames F from rfl, State.setFrames_setFrames]
  rw [State.setTop_of_frames _ hr2, hr, List.tail_cons, State.pushFrame, swap, State.setTop_of_frames _ hr, swap]
  exact Steps.refl _
section JW
variable {p : Program} {l : Launch} {e : Env} {R : Room} {s : State} {m : MethodId} {args : Array Value} {below : List Frame} {meth : Method} {c : Code} {nL : Nat} {E : CE} {z0 s0 : Nat} {Q : State → Prop} {ρ : Type} {z : ρ × CS} {X : Option (ρ × CS)} {σ : CS} {pc : Nat} {L : List (Nat × Value)} {st rest : List Value} {cc : ByteArray}
theorem Jclc {α : Type} {o : Option ((α ⊕ Nat) × CS)} {K : α → CS → Option (ρ × CS)} {Kx : Nat → CS → Option (ρ × CS)} (k : ∀ r σ1, o = some (.inl r, σ1) → J p l e R s m args below meth c nL E z0 s0 Q z (K r σ1) σ pc L st) (kx : ∀ x σ1, o = some (.inr x, σ1) → J p l e R s m args below meth c nL E z0 s0 Q z (Kx x σ1) σ pc L st) : J p l e R s m args below meth c nL E z0 s0 Q z (clc o K Kx) σ pc L st := by
  cases h : o with
  | none => exact fun hX => by cases hX
  | some w =>
    obtain ⟨r | x, σ1⟩ := w
    · exact k r σ1 h
    · exact kx x σ1 h
theorem Mclc {α : Type} {o : Option ((α ⊕ Nat) × CS)} {K : α → CS → Option (ρ × CS)} {Kx : Nat → CS → Option (ρ × CS)} (ho : Mn σ o) (k : ∀ r σ1, Mn σ1 (K r σ1)) (kx : ∀ x σ1, Mn σ1 (Kx x σ1)) : Mn σ (clc o K Kx) := by
  cases h : o with
  | none => exact fun _ hX => by cases hX
  | some w =>
    have q1 := ho _ h
    obtain ⟨r | x, σ1⟩ := w
    · intro z hz
      have q2 := k r σ1 z hz
      dsimp only at q1
      omega
    · intro z hz
      have q2 := kx x σ1 z hz
      dsimp only at q1
      omega
/-- the callee threw, and an entry of the own table catches -/
theorem Jcatch {σ1 : CS} {x ci : Nat} {C own : String} {Ty : u_T} {N : Nat} (hk : kc E s) (hg : kd σ1 x (ci + 1) = true) (hci : vCl[ci]? = some (C, Ty, N)) (hM : cZ σ ≤ cZ σ1 ∧ cS σ ≤ cS σ1) (hR : R.cells = cZ z.2 - z0 ∧ R.slots = cS z.2 - s0) (hown : s.vm.findClass own = some m.cls)
    (en : ExceptionTableEntry) (more : List ExceptionTableEntry) (hsplit : c.exceptionTable.toList = en :: more) (hx : covers en pc = true) (h0 : en.catchType ≠ 0)
    (hlink : (Cond.classLink own en.catchType C).before args s = true) (hcast : (Cond.castable C C).before args s = true)
    (f : ∀ (H : Heap) (locs : List Loc) (ls : Array Slot), hc E σ H → va_S (EA E) s.heap H locs → lv_has ls nL L → (cZ σ - z0) + (cZ σ1 - cZ σ) ≤ R.cells ∧ (cS σ - s0) + (cS σ1 - cS σ) ≤ R.slots → ∀ T : State, T.heap = H → Stand p l e R s m args below meth c T locs (cZ σ - z0) (cS σ - s0) → ∃ (T' : State) (Lc : List Loc), Stand p l e R s m args below meth c T' (locs ++ Lc) ((cZ σ - z0) + (cZ σ1 - cZ σ)) ((cS σ - s0) + (cS σ1 - cS σ)) ∧ hc E σ1 T'.heap ∧ va_S (EA E) s.heap T'.heap (locs ++ Lc) ∧
      Steps p.tables e below (T.setTop (F0 m pc ls st)) ((T'.setTop { F0 m pc ls st with stack := rest }).pushFrame (.throwing x)))
    (k : J p l e R s m args below meth c nL E z0 s0 Q z X σ1 en.handlerPc L [.ref x]) : J p l e R s m args below meth c nL E z0 s0 Q z X σ pc L st := fun hX => by
  obtain ⟨k1, k2⟩ := k hX
  refine ⟨by omega, fun H locs ls hH hS hl hz => ?_⟩
  intro T hT XX
  obtain ⟨T', Lc, X', hH1, hS1, stp⟩ := f H locs ls hH hS hl ⟨by rw [hR.1]; omega, by rw [hR.2]; omega⟩ T hT XX
  rw [show cZ σ - z0 + (cZ σ1 - cZ σ) = cZ σ1 - z0 by omega, show cS σ - s0 + (cS σ1 - cS σ) = cS σ1 - s0 by omega] at X'
  obtain ⟨cell, hcell, hobj, hcls⟩ := c_recv hk.1 hH1 hg hci
  obtain ⟨c3, cT, hc3, hcT, hasg⟩ := Cond.castable_spec hcast
  cases hcls.symm.trans hc3
  obtain ⟨vm', XV, stV⟩ := cwCaught X' x (g := { F0 m pc ls st with stack := rest }) rfl hown hsplit hx h0 hlink hcT hcell hobj hasg
  obtain ⟨t, s1, s2⟩ := k2 T'.heap (locs ++ Lc) ls hH1 hS1 hl (by omega) (T'.setVm vm') rfl XV
  exact ⟨t, stp.trans (stV.trans s1), s2⟩
/-- from a walk to a contract, of a method with handlers -/
theorem MetC.ofW {y : MethodName} {bytes : ByteArray} {maxL : Nat} {ret : Option FieldType} {hh : List (Nat × Nat × Nat × Nat)} {f n : Nat} {av : List Value} {v : Option Value} {r : ρ} {σz : CS} {X : Option (ρ × CS)} (hX : X = some (r, σz)) (hy : plainName y.cls = true) (hle : (lg_sl av).length ≤ maxL) (mono : cZ σ ≤ cZ σz ∧ cS σ ≤ cS σz)
    (body : ∀ p e s m below meth c, p.tables.exec = Jvm.exec → c.code = bytes → meth.sig.returnType = ret → c.maxLocals = maxL → (∀ w ∈ lw_all, w.before av.toArray s = true) → s.vm.findClass y.cls = some m.cls → meth.locks = false → c.exceptionTable.toList = tableOf hh → kc E s → cZ σ = s.heap.size →
      J p l e (headSpec (wsW y bytes maxL ret hh) (rmC f n σ σz)).room s m av.toArray below meth c maxL E (cZ σ) (cS σ) (MQ below (cQ E v σz) av.toArray s (cZ σz - cZ σ) (cS σz - cS σ) (EA E)) (r, σz) X σ 0 (lv_args 0 av) []) : MetC l y (wsW y bytes maxL ret hh) f n E σ av v σz := by
  refine ⟨mono, va_MetW (cc := bytes) (maxL := maxL) (ret := ret) (hh := hh) (ws' := lw_all) hy rfl ?_⟩
  intro p e s m args below meth c s₁ B hml hv
  obtain ⟨rfl, hH, hk⟩ := hv
  have hts0 := atoms_spec (ws := wsW y bytes maxL ret hh) B.pre
  have hts : ∀ w ∈ lw_all, w.before _ s = true := fun w h => hts0 w (List.mem_cons_of_mem _ h)
  obtain ⟨m9, meth9, c9, hn9, h1, h2, h3, h4, h5, -⟩ := Cond.codeWith_spec (hts0 _ List.mem_cons_self)
  have hc9 : c = c9 := by
    cases B.named.symm.trans hn9
    have q := B.here.code
    rw [State.code?_eq, B.state] at q
    have q2 : (s.vm.method? m).bind (·.code) = some c := q
    rw [h1] at q2
    exact Option.some.inj (q2.symm.trans h2)
  have hj := body p e s m below meth c B.exec B.bytes B.returns hml hts (findClass_of_methodNamed B.named) B.notSynchronized (by rw [hc9, ← h5, table_eq]) hk hH.1.symm hX
  have hl := lv_entry av hle
  rw [lg_entry_eq]
  have h := hj.2 s.heap [] _ hH va_S.rf hl ⟨Nat.le_refl _, Nat.le_refl _⟩
  rw [Nat.sub_self, Nat.sub_self] at h
  exact h
end JW
