/-! methods that may throw: contracts over both outcomes -/
def FEX (first t : State) (L : List Loc) (k n : Nat) : Prop := first.WarmedH t.vm ∧ first.sameButNew ({ t with vm := first.vm } : State) L k n
def xQ (E : CE) (o : Outcome) (σ1 : CS) (mc ms : Nat) : Array Value → State → Outcome → State → Prop := fun _ st o' t => (o' = o ∧ hc E σ1 t.heap ∧ va_F (EA E) st t) ∧ ∃ L, FEX st t L mc ms ∧ ∀ q ∈ L, EA E q.base
def MetX (l : Launch) (y : MethodName) (ws : List Cond) (f n : Nat) (E : CE) (σ : CS) (av : List Value) (o : Outcome) (σ1 : CS) : Prop := (cZ σ ≤ cZ σ1 ∧ cS σ ≤ cS σ1) ∧ MetFree l y (headSpec ws (rmC f n σ σ1)) (cPc E σ av) (fun _ _ _ _ _ => True) (xQ E o σ1 (cZ σ1 - cZ σ) (cS σ1 - cS σ))
def MQX (below : List Frame) (E : CE) (o : Outcome) (σz : CS) (s : State) (mc ms : Nat) : State → Prop := fun t => t.status = .running ∧ Ended t below o ∧ (hc E σz t.heap ∧ va_F (EA E) s t) ∧ ∃ L, FEX s t L mc ms ∧ ∀ q ∈ L, EA E q.base
/-- a contract that returns is one of the plain kind -/
theorem MetX.ret {l : Launch} {y : MethodName} {ws : List Cond} {f n : Nat} {E : CE} {σ : CS} {av : List Value} {v : Option Value} {σ1 : CS} (h : MetX l y ws f n E σ av (.returned v) σ1) : MetC l y ws f n E σ av v σ1 := by
  refine ⟨h.1, fun p e ha hcas hclk s m args below hfr happ hP hK => ?_⟩
  obtain ⟨k, o, h1, h2, h3, ⟨h4, h5, h6⟩, L, h7, h8⟩ := h.2 p e ha hcas hclk s m args below hfr happ hP hK
  exact ⟨k, o, h1, h2, h3, ⟨⟨h4, h5⟩, h6⟩, L, ⟨⟨v, h4⟩, h7⟩, h8⟩
section CX
variable {p : Program} {l : Launch} {e : Env} {R : Room} {s : State} {m : MethodId} {args : Array Value} {below : List Frame} {meth : Method} {c : Code} {H : Heap} {locs : List Loc} {cells slots : Nat} {Q Q' : State → Prop}
theorem W.mono {g : JFrame} (h : ∀ t, Q t → Q' t) (k : W p l e R s m args below meth c H locs cells slots Q g) : W p l e R s m args below meth c H locs cells slots Q' g := fun T hT X => by
  obtain ⟨t, a, b⟩ := k T hT X
  exact ⟨t, a, h t b⟩
theorem MQX.of {E : CE} {v : Option Value} {σz : CS} {mc ms : Nat} : ∀ t, MQ below (cQ E v σz) args s mc ms (EA E) t → MQX below E (.returned v) σz s mc ms t := by
  intro t h
  obtain ⟨o, h1, h2, ⟨⟨h3, h4⟩, h5⟩, L, ⟨-, h6, h7⟩, h8⟩ := h
  subst h3
  exact ⟨h1, h2, ⟨h4, h5⟩, L, ⟨h6, h7⟩, h8⟩
/-- the end of a walk by a throw, no handler near -/
theorem W.throwOut {E : CE} {σz : CS} {cc : ByteArray} {pc : Nat} {ls : Array Slot} {a : Nat} {rest : List Value} (hx : p.tables.exec = Jvm.exec) (hb : c.code = cc) (hout : c.exceptionTable.isEmpty = true) (hlocks : meth.locks = false) (hH : hc E σz H) (hS : va_S (EA E) s.heap H locs) (hdg : decode cc pc = .ok (.athrow, 1)) : W p l e R s m args below meth c H locs cells slots (MQX below E (.threw a) σz s cells slots) (F0 m pc ls (.ref a :: rest)) := by
  intro T hT X
  obtain ⟨h1, h2, h3, h4, h5⟩ := X.athrowLeaves hx (g := F0 m pc ls (.ref a :: rest)) rfl rfl rfl (fun x hx => by rw [Array.isEmpty_iff.mp hout] at hx; cases hx) (a := a) (rest := rest) rfl (by rw [hb]; exact hdg) hlocks
  exact ⟨_, h1, h2, h3, ⟨by show hc E σz T.heap; rw [hT]; exact hH, hS.F hT⟩, locs, ⟨h4, h5⟩, hS.2.2⟩
/-- a call of a virtual method that throws, as far as the note of the throw -/
theorem throwV {E : CE} {σ σ1 : CS} {y : MethodName} {bytes cc : ByteArray} {maxL nL n index f nn : Nat} {ret : Option FieldType} {own C : String} {b x : Nat} {As rest : List Value} {g : JFrame}
    (S : CallFix p m c cc nL s args lw_all own) (hM : MetX l y (ws_ y bytes maxL ret) f nn E σ (.ref b :: As) (.threw x) σ1) (cw : CallW R s args own C index y bytes maxL ret (ws_ y bytes maxL ret) (rmC f nn σ σ1) (cZ σ1 - cZ σ) (cS σ1 - cS σ) n) (hp : PreV s H C b (cPc E σ (.ref b :: As)) As) (hS : va_S (EA E) s.heap H locs)
    (hg : g.method = m) (hn : As.length = n) (hsize : g.locals.size = nL) (hstack : g.stack = As.reverse ++ .ref b :: rest) (hW : 2 * g.monitorRoom + (rest.map fun v => v.category).sum ≤ 8) (hdg : decode cc g.pc = .ok (.invokevirtual index, 3)) (hf : cells + (cZ σ1 - cZ σ) ≤ R.cells ∧ slots + (cS σ1 - cS σ) ≤ R.slots) :
    ∀ T : State, T.heap = H → Stand p l e R s m args below meth c T locs cells slots → ∃ (T' : State) (L : List Loc), Stand p l e R s m args below meth c T' (locs ++ L) (cells + (cZ σ1 - cZ σ)) (slots + (cS σ1 - cS σ)) ∧ hc E σ1 T'.heap ∧ va_S (EA E) s.heap T'.heap (locs ++ L) ∧
      Steps p.tables e below (T.setTop g) ((T'.setTop { g with stack := rest }).pushFrame (.throwing x)) := by
  obtain ⟨⟨hrc, hrs, hfr, hlo, hws, hcw, hcode, hini, hy, hlen, hlink⟩, hinst, hsel⟩ := cw
  obtain ⟨hx, hb, hml, hown, hts⟩ := S
  obtain ⟨hblind, ⟨cellB, hcB, hoB, hclB⟩, hPc⟩ := hp
  intro T hT X
  have hcell : T.heap[b]? = some cellB := by rw [hT]; exact hcB
  have hdg' : decode c.code g.pc = .ok (.invokevirtual index, 3) := by rw [hb]; exact hdg
  obtain ⟨mk, methM, hnamed, hmethM, hstM, habM⟩ := Cond.instanceMethod_spec hinst
  obtain ⟨methM', cM, hmethM', -, -, -, -, -, -, hsigM⟩ := Cond.code_spec hnamed hcode
  cases hmethM.symm.trans hmethM'
  obtain ⟨c2, r2, m2, q1, q2, q3, q4, kP, hkP, hkPi⟩ := Cond.selects_spec hsel
  cases hclB.symm.trans q1
  cases (State.methodFound?_of_named hnamed hy).symm.trans q2
  cases hnamed.symm.trans q3
  have hselP : selectMethod e.platform s.vm cellB.cls mk = .method mk := by rw [Launch.admits_selectMethod X.admits]; exact q4
  obtain ⟨vm₁, X₁, hstep₁⟩ := X.invokevirtual hx hown hlink hnamed hmethM hstM hkP hkPi hy (a := b) (cell := cellB) hcell
    (fun z h => by rw [h] at hoB; cases hoB) hselP hmethM habM hkP hkPi (g := g) hg (argsL := As) (rest := rest) (hn.trans (hlen _ hsigM)) hstack hdg'
  have hW₁ : s.WarmedH vm₁ := X₁.warmed
  have hpc := hPc (T.setVm vm₁) hT hW₁
  have hdg2 : decode c.code ({ g with stack := rest } : JFrame).pc = .ok (.invokevirtual index, 3) := hdg'
  -- the callee at the point T.setVm vm₁
  have hcode1 : (Cond.code y bytes maxL ret).before (Value.ref b :: As).toArray (T.setVm vm₁) = true := hws _ hcw _ _ hW₁
  have hini1 : (Cond.initialized y.cls).before (Value.ref b :: As).toArray (T.setVm vm₁) = true := word_at hW₁ (Or.inl (by first | rfl | simp [Cond.onTables, Cond.keeps, Cond.steady])) hini
  have hn1 : (T.setVm vm₁).methodNamed? y = some mk := X₁.named hnamed
  obtain ⟨methY, cY, hmY, hcY, -, hlY, -, -, -, -⟩ := Cond.code_spec hn1 hcode1
  obtain ⟨kY, hkY, -⟩ := className_of_methodNamed hn1
  have hinitY : kY.init = .initialized := Cond.initialized_spec (findClass_of_methodNamed hn1) hkY hini1
  have hAt : At (T.setVm vm₁) ({ g with stack := rest } : JFrame).method c below := by
    show At (T.setVm vm₁) g.method c below
    rw [hg]; exact X₁.here
  have happ : (headSpec (ws_ y bytes maxL ret) (rmC f nn σ σ1)).appliesLoose y e.platform ((T.setVm vm₁).calling { g with stack := rest } mk (Value.ref b :: As).toArray) = true :=
    Spec.appliesLoose_calling (g := { g with stack := rest }) hAt hdg2 hn1 hkY hinitY
      (X₁.room_calling (g := { g with stack := rest }) (R' := rmC f nn σ σ1) (hsize.trans hml.symm) hmY hcY hfr (by rw [hlY]; show _ ≤ R.locals; have := hlo; dsimp only at this ⊢; omega) hf.1 hf.2) (atoms_intro fun w hw => hws w hw _ _ hW₁)
  obtain ⟨mid, hmid⟩ := hAt.above
  have hfr2 : ((T.setVm vm₁).setTop { g with stack := rest }).frames = (.java { g with stack := rest } :: mid) ++ below := by rw [State.frames_setTop' _ hAt.top, hmid]; rfl
  obtain ⟨o, s₂, hsteps, -, hend, hq⟩ := Steps.callFree hM.2 p X.admits X.cas X.clock (acts := []) hfr2 happ (hblind _ _ _ _ hpc) trivial
  have hq' : xQ E (.threw x) σ1 (cZ σ1 - cZ σ) (cS σ1 - cS σ) (Value.ref b :: As).toArray ((T.setVm vm₁).calling { g with stack := rest } mk (Value.ref b :: As).toArray) o s₂ := hq
  obtain ⟨⟨ho, hH1, hF1⟩, L, ⟨hW₂, hsm⟩, hL⟩ := hq'
  subst ho
  rw [State.frames_setTop' _ hAt.top] at hend
  obtain ⟨e2, q2', q3', q4', q5', q6'⟩ := id hsm
  generalize hU : T.setVm vm₁ = U at *
  generalize hg' : ({ g with stack := rest } : JFrame) = g' at *
  have e3 : s₂ = ({ (U.calling g' mk (Value.ref b :: As).toArray).setFrames s₂.frames with heap := s₂.heap, slotsUsed := s₂.slotsUsed } : State).setVm s₂.vm := by
    have h0 : s₂ = ({ s₂ with vm := (U.calling g' mk (Value.ref b :: As).toArray).vm } : State).setVm s₂.vm := rfl
    rw [e2] at h0
    exact h0
  have hf₂ : s₂.frames = .throwing x :: .java g' :: U.frames.tail := hend
  have hWU : U.WarmedH s₂.vm := hW₂
  obtain ⟨g₀, hg0⟩ := Option.isSome_iff_exists.mp hAt.top
  obtain ⟨r, hr⟩ := State.topJava?_eq_some.mp hg0
  have hs₂ : s₂ = ((({ U with heap := s₂.heap, slotsUsed := s₂.slotsUsed } : State).setVm s₂.vm).setTop g').pushFrame (.throwing x) := by
    have hr' : (({ U with heap := s₂.heap, slotsUsed := s₂.slotsUsed } : State).setVm s₂.vm).frames = .java g₀ :: r := hr
    refine e3.trans ?_
    rw [hf₂, State.calling_eq hAt.top, State.setFrames_setFrames, State.pushFrame, State.frames_setTop _ hr', State.setTop_of_frames _ hr', State.setFrames_setFrames, hr]
    rfl
  have hsame : U.sameButNew ({ U with heap := s₂.heap, slotsUsed := s₂.slotsUsed } : State) L (cZ σ1 - cZ σ) (cS σ1 - cS σ) := by
    refine ⟨?_, q2', q3', q4', q5', q6'⟩
    obtain ⟨t, ht, -⟩ := State.frames_cons hr
    show ({ U with heap := s₂.heap, slotsUsed := s₂.slotsUsed } : State) = { U.setFrames U.frames with heap := s₂.heap, slotsUsed := s₂.slotsUsed }
    rw [State.setFrames_self ht]
  have hUh : U.heap = H := by rw [← hU]; exact hT
  have hz1 : H.size ≤ s₂.heap.size := by
    have h := hF1.1
    have h9 : (U.calling g' mk (Value.ref b :: As).toArray).heap = U.heap := rfl
    rw [h9, hUh] at h
    exact h
  have hk1 : ∀ q : Nat, q < H.size → ¬ EA E q → s₂.heap[q]? = H[q]? := by
    intro q h1 h2
    have h := hF1.2 q
    have h9 : (U.calling g' mk (Value.ref b :: As).toArray).heap = U.heap := rfl
    rw [h9, hUh] at h
    exact h h1 h2
  refine ⟨({ U with heap := s₂.heap, slotsUsed := s₂.slotsUsed } : State).setVm s₂.vm, L, ⟨X₁.admits, X₁.cas, X₁.clock, X₁.frames, X₁.room, X₁.hears, X₁.method, X₁.code, (X₁.here.setHeapUsed s₂.heap s₂.slotsUsed).setVm hWU.alike, X₁.tail, State.WarmedH.trans X₁.warmed hWU, X₁.limits, X₁.bytes, X₁.same.trans (hsame.setVm s.vm)⟩, hH1, ⟨Nat.le_trans hS.1 hz1, fun q h1 h2 => (hk1 q (Nat.lt_of_lt_of_le h1 hS.1) h2).trans (hS.2.1 q h1 h2), fun q hq => by
      rcases List.mem_append.mp hq with h | h
      · exact hS.2.2 q h
      · exact hL q h⟩, ?_⟩
  rw [← hs₂]
  exact hstep₁ _ fun acts => by rw [doInvoke_state]; exact hsteps
end CX
