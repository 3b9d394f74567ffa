/-! super calls; dispatch by kinds -/
def kin (l : List Nat) (c : Nat) : Bool := l.contains c
section SU
variable {p : Program} {l : Launch} {e : Env} {R : Room} {s : State} {m : MethodId} {args : Array Value} {below : List Frame} {meth : Method} {c : Code} {H : Heap} {locs : List Loc} {cells slots : Nat}
/-- super.m(): the reference names x through the direct superclass, which declares it or inherits it from its own superclass O -/
theorem c_runSU {x : MethodName} {O : String} {bytes cc : ByteArray} {maxL nL mc ms n index : Nat} {ret : Option FieldType} {rm : Room} {Pc : Array Value → State → Prop} {Qc : Array Value → State → Outcome → State → Prop} {free : Addr → Prop} {own C : String} {cC : ClassId} {b : Addr} {As rest : List Value} {g : JFrame}
    (hat : ClassAt s C cC) (S : CallFix p m c cc nL s args lw_all own) (hM : Met l ⟨O, x.name, x.desc⟩ (ws_ ⟨O, x.name, x.desc⟩ bytes maxL ret) rm Pc Qc mc ms free) (hq : Cond.code ⟨O, x.name, x.desc⟩ bytes maxL ret ∈ lw_all) (hini : Cond.initialized O ∈ lw_all) (hinst : Cond.instanceMethod ⟨O, x.name, x.desc⟩ ∈ lw_all) (hlink : Cond.methodLink own index x ∈ lw_all) (hsame : Cond.sameMethod x.cls O x.name x.desc ∈ lw_all) (hsup : Cond.superclass own x.cls ∈ lw_all) (hup : x.cls = O ∨ Cond.superclass x.cls O ∈ lw_all)
    (hrc : rm.cells = mc) (hrs : rm.slots = ms) (hd : x.name ≠ "<init>" ∧ (parseMethodDescriptor x.desc).map (fun d => d.parameters.length) = some n) (hRm : rm.frames + 1 ≤ R.frames ∧ 8 + (maxL + 11) + rm.locals ≤ R.locals) (hp : PreV s H C b Pc As)
    (hg : g.method = m) (hn : As.length = n) (hsize : g.locals.size = nL) (hstack : g.stack = As.reverse ++ .ref b :: rest) (hW : 2 * g.monitorRoom + (rest.map fun v => v.category).sum ≤ 8) (hdg : decode cc g.pc = .ok (.invokespecial index, 3)) (hf : cells + mc ≤ R.cells ∧ slots + ms ≤ R.slots) :
    va_Run p l e R s m args below meth c H locs cells slots mc ms g rest (Qc (Value.ref b :: As).toArray) (free) := by
  obtain ⟨hx, hb, hml, ho, hts⟩ := S
  have hK : Back l R p e below s args ⟨O, x.name, x.desc⟩ 3 8 (PreOf R mc ms Pc) (PostOf Qc mc ms free) := back_of (bytes := bytes) (maxL := maxL) (ret := ret) hM hp.1 hrc hrs hRm.1 hRm.2 (pay_in hts (lw_meth hq)) List.mem_cons_self (fun a' U hW => word_at hW (Or.inl (by first | rfl | simp [Cond.onTables, Cond.keeps, Cond.steady])) (hts _ hini))
  obtain ⟨-, ⟨cellB, hcB, hoB, hclB⟩, hPc⟩ := hp
  obtain ⟨hfc, kB, hkB, -⟩ := hat
  cases hfc.symm.trans hclB
  intro T hT X
  obtain ⟨mk, methM, hnamed, hmethM, hstM, habM⟩ := Cond.instanceMethod_spec (hts _ hinst)
  obtain ⟨methM', cM, hmethM', -, -, -, -, -, -, hsigM⟩ := Cond.code_spec hnamed (hts _ hq)
  cases hmethM.symm.trans hmethM'
  obtain ⟨ps, dk, kp, hps, hdk, hkp, hsuper, -, -, hnid⟩ := Cond.superclass_spec ho (hts _ hsup)
  have hmc := findClass_of_methodNamed hnamed
  have hsub : s.vm.isSubclass ps mk.cls = true := by
    rcases hup with r | r
    · have hpm : ps = mk.cls := Option.some.inj (hps.symm.trans (by rw [r]; exact hmc))
      rw [hpm]; simp [Vm.isSubclass, Vm.isSubclassAux]
    · obtain ⟨p2, dk2, kp2, hp2, hdk2, hkp2, hsuper2, -, -, -⟩ := Cond.superclass_spec hps (hts _ r)
      have hpm : p2 = mk.cls := Option.some.inj (hp2.symm.trans hmc)
      subst hpm
      have hz : ps < s.vm.classes.size := (Array.getElem?_eq_some_iff.mp hdk2).1
      obtain ⟨k, hk⟩ := Nat.exists_eq_succ_of_ne_zero (Nat.ne_of_gt (Nat.lt_of_le_of_lt (Nat.zero_le _) hz))
      simp [Vm.isSubclass, Vm.isSubclassAux, hdk2, hsuper2, hk]
  have hlen : ∀ sig, parseMethodDescriptor x.desc = some sig → As.length = sig.parameters.length := fun sig h => by
    have h2 := hd.2
    rw [h] at h2
    exact hn.trans (Option.some.inj h2).symm
  obtain ⟨vm₁, X₁, hstep₁⟩ := X.invokespecialUp hx ho (hts _ hlink) (hts _ hsame) hnamed hmethM hstM habM hd.1 hdk hnid hps hsuper hsub (a := b) (cell := cellB) (by rw [hT]; exact hcB)
    (fun z h => by rw [h] at hoB; cases hoB) hkB (g := g) hg (argsL := As) (rest := rest) (hlen _ hsigM) hstack (by rw [hb]; exact hdg)
  obtain ⟨v, B, X', hpost, hsteps⟩ := hK m meth c ⟨T.setVm vm₁, locs, cells, slots⟩ { g with stack := rest } (.invokespecial index) mk (Value.ref b :: As).toArray X₁ hg (hsize.trans hml.symm) (by rw [hb]; exact hdg) hW (X₁.named hnamed) ⟨hf.1, hf.2, hPc (T.setVm vm₁) hT X₁.warmed⟩
  obtain ⟨g', mk', t, L, e1, e2, hq', h1, hL, h2, h3⟩ := hpost
  obtain ⟨U', l2, c2, s2⟩ := B
  dsimp only [Pt.U, Pt.locs, Pt.cells, Pt.slots] at X' e1 e2 h1 h2 h3 hsteps
  subst h1; subst h2; subst h3
  exact ⟨v, (T.setVm vm₁).calling g' mk' (Value.ref b :: As).toArray, t, U', L, hT, X', hL, e1, e2, hq', fun target h => hstep₁ _ (by rw [doInvoke_state]; exact hsteps.trans h)⟩
end SU
theorem kin1 {σ : CS} {a k1 : Nat} (h : kin [k1] (cK σ a) = true) : kd σ a k1 = true := by
  unfold kin at h
  rw [List.contains_iff_mem] at h
  simp only [List.mem_cons, List.not_mem_nil, or_false] at h
  unfold kd; rw [h]; exact Nat.beq_refl _
theorem kd_of {σ : CS} {a k : Nat} (h : cK σ a = k) : kd σ a k = true := by unfold kd; rw [h]; exact Nat.beq_refl _
theorem kin2 {σ : CS} {a k1 k2 : Nat} (h : kin [k1, k2] (cK σ a) = true) : kd σ a k1 = true ∨ kd σ a k2 = true := by
  unfold kin at h
  rw [List.contains_iff_mem] at h
  simp only [List.mem_cons, List.not_mem_nil, or_false] at h
  rcases h with h | h
  · exact Or.inl (kd_of h)
  · exact Or.inr (kd_of h)
theorem kin3 {σ : CS} {a k1 k2 k3 : Nat} (h : kin [k1, k2, k3] (cK σ a) = true) : kd σ a k1 = true ∨ kd σ a k2 = true ∨ kd σ a k3 = true := by
  unfold kin at h
  rw [List.contains_iff_mem] at h
  simp only [List.mem_cons, List.not_mem_nil, or_false] at h
  rcases h with h | h | h
  · exact Or.inl (kd_of h)
  · exact Or.inr (Or.inl (kd_of h))
  · exact Or.inr (Or.inr (kd_of h))
theorem hr_mono {s : State} {pl : Platform} {r r' : Room} (hf : r.frames ≤ r'.frames) (hl : r.locals ≤ r'.locals) (hc : r.cells = r'.cells) (hs : r.slots = r'.slots) (h : s.hasRoom pl r' = true) : s.hasRoom pl r = true := by
  simp only [State.hasRoom, Bool.and_eq_true, decide_eq_true_eq] at h ⊢
  obtain ⟨⟨⟨⟨h1, h2, h3, h4, h5, h6⟩, h7⟩, h8⟩, h9⟩ := h
  rw [hc, hs]
  exact ⟨⟨⟨⟨by omega, by omega, by omega, by omega, by omega, h6⟩, h7⟩, h8⟩, h9⟩
theorem MetC.lift {l : Launch} {y : MethodName} {ws : List Cond} {f n f' n' : Nat} {E : CE} {σ : CS} {av : List Value} {v : Option Value} {σ1 : CS} (hf : f ≤ f') (hn : n ≤ n') (h : MetC l y ws f n E σ av v σ1) : MetC l y ws f' n' E σ av v σ1 := by
  refine ⟨h.1, fun p e ha hcas hclk s m args below hfr happ hP hK => h.2 p e ha hcas hclk s m args below hfr ?_ hP hK⟩
  unfold Spec.appliesLoose at happ ⊢
  rw [hfr] at happ ⊢
  simp only [Bool.and_eq_true] at happ ⊢
  obtain ⟨⟨h1, h2⟩, h3⟩ := happ
  exact ⟨⟨h1, hr_mono (r := rmC f n σ σ1) (r' := rmC f' n' σ σ1) hf hn rfl rfl h2⟩, h3⟩
/-- a clone of a byte array -/
def clB (σ : CS) (a : Nat) : CS := (up1 σ.1 (cZ σ) 104, σ.2.1, σ.2.2.1, up1 σ.2.2.2.1 (cZ σ) (cLN σ a), up1 σ.2.2.2.2.1 (cZ σ) (cAI σ a), σ.2.2.2.2.2.1, σ.2.2.2.2.2.2.1, cZ σ + 1, cS σ + cLN σ a)
section CLN
variable {p : Program} {l : Launch} {e : Env} {R : Room} {s : State} {m : MethodId} {args : Array Value} {below : List Frame} {meth : Method} {c : Code} {H : Heap} {locs : List Loc} {cells slots : Nat} {Q : State → Prop}
variable {cc : ByteArray} {pc nL : Nat} {ls : Array Slot} {rest st0 : List Value} {D : va_G} {dA : Nat → ClassId} {A : Nat → Prop} {σ σ1 : CS}
theorem c_clone (hx : p.tables.exec = Jvm.exec) (hb : c.code = cc) (hml : c.maxLocals = ls.size) {own : String} {index : Nat} (hown : s.vm.findClass own = some m.cls)
    (hlink : (Cond.methodLink own index ⟨"[B", "clone", "()Ljava/lang/Object;"⟩).before args s = true) (hsame : (Cond.sameMethod "[B" "java/lang/Object" "clone" "()Ljava/lang/Object;").before args s = true)
    (hnat : (Cond.native ⟨"java/lang/Object", "clone", "()Ljava/lang/Object;"⟩).before args s = true) (hinst : (Cond.instanceMethod ⟨"java/lang/Object", "clone", "()Ljava/lang/Object;"⟩).before args s = true)
    (hsel : (Cond.selects "[B" ⟨"[B", "clone", "()Ljava/lang/Object;"⟩ ⟨"java/lang/Object", "clone", "()Ljava/lang/Object;"⟩).before args s = true) (hcl : va_Nw (.castable "[B" "java/lang/Cloneable") s)
    (hK : va_K D vCl (vTy dA) s) (hH : HC D dA A σ H) (hS : va_S A s.heap H locs) (hA : ∀ q, s.heap.size ≤ q → A q) {a : Nat} (hk : kd σ a 104 = true) (hfit : fitR (cAI σ a) 0 (cLN σ a) = true)
    (hframes : 1 ≤ R.frames) (hlocals : (rest.map fun v => v.category).sum + 14 ≤ R.locals) (hcells : cells + 1 ≤ R.cells) (hslots : slots + cLN σ a ≤ R.slots) (hdg : decode cc pc = .ok (.invokevirtual index, 3))
    (kk : ∀ (H1 : Heap) (locs1 : List Loc), HC D dA A (clB σ a) H1 → va_S A s.heap H1 locs1 → W p l e R s m args below meth c H1 locs1 (cells + 1) (slots + cLN σ a) Q (F0 m (pc + 3) ls (.ref (cZ σ) :: rest))) : W p l e R s m args below meth c H locs cells slots Q (F0 m pc ls (.ref a :: rest)) := by
  have hka := kd_eq hk
  have hP := hH.one (t := 3) hka (by decide)
  have hnm : s.vm.findClass "[B" = some (dA 3) := (hK.2 3 _ rfl).2
  have hone : va_P D vCl [(a, .inl (dA 3, cLN σ a, .inl (cAI σ a)))] H := hP
  have hcell : H[a]? = some (vp_cell (dA 3) (cLN σ a, .inl (cAI σ a))) := hH.arr (t := 3) hka (by decide)
  obtain ⟨c0, t0', f1, f2, f3⟩ := Cond.castable_spec (va_Nw.use (A := args) rfl hcl)
  cases hnm.symm.trans f1
  intro T hT X
  have hcellT : T.heap[a]? = some (vp_cell (dA 3) (cLN σ a, .inl (cAI σ a))) := by rw [hT]; exact hcell
  obtain ⟨-, kA, hkA, comp, hkind⟩ := State.isArrayOf_alike X.warmed.alike ((hK.2 3 _ rfl).1 0 (fun _ => .null))
  obtain ⟨-, kS, hkS, compS, hkindS⟩ := (hK.2 3 _ rfl).1 0 (fun _ => .null)
  have hsz : (vp_cell (dA 3) (cLN σ a, .inl (cAI σ a))).slots.size = cLN σ a := arrV_size _ _ _
  have hfit' : ∀ (i : Nat) (v : Value), (vp_cell (dA 3) (cLN σ a, .inl (cAI σ a))).slots[i]? = some v → fits .byte v = true := by
    intro i v hv
    have hi : i < cLN σ a := by rw [← hsz]; exact (Array.getElem?_eq_some_iff.mp hv).1
    have hv' : (arrV (dA 3) (cLN σ a) (fun j => .int (cAI σ a j))).slots[i]? = some v := hv
    rw [arrV_read _ _ hi] at hv'
    cases hv'
    have := fitR_s hfit i hi
    rw [Nat.zero_add] at this
    exact this
  obtain ⟨vm', X', st⟩ := X.cloneArray hx hown hlink hsame hnat hinst hsel (a := a) (cell := vp_cell (dA 3) (cLN σ a, .inl (cAI σ a))) hcellT (fun k h => by cases h) (fun h => by cases h) hnm f2 f3
    (fun i v hv => by
      have hk' : T.vm.classes[dA 3]? = some kA := hkA
      have h9 := hfit' i v hv
      show T.fitsSlot (dA 3) _ i v = true
      simpa [State.fitsSlot, State.slotType?, hk', hkind] using h9)
    (g := F0 m pc ls (.ref a :: rest)) rfl (by rw [hml]) rfl (by rw [hb]; exact hdg) hframes (by show 2 * 0 + _ + 14 ≤ _; omega) hcells (by rw [hsz]; exact hslots) (hloader := Vm.clonesLoader_of_array hkS hkindS)
  have hcellE : ({ cls := (vp_cell (dA 3) (cLN σ a, .inl (cAI σ a))).cls, slots := (vp_cell (dA 3) (cLN σ a, .inl (cAI σ a))).slots } : Cell) = vp_cell (dA 3) (cLN σ a, .inl (cAI σ a)) := rfl
  rw [hcellE, hsz] at X'
  generalize hH1 : H.push (vp_cell (dA 3) (cLN σ a, .inl (cAI σ a))) = H1
  have z1 : H1.size = H.size + 1 := by rw [← hH1, Array.size_push]
  have e1 : H1[H.size]? = some (vp_cell (dA 3) (cLN σ a, .inl (cAI σ a))) := by rw [← hH1, Array.getElem?_push_size]
  have o1 : ∀ q : Nat, q < H.size → H1[q]? = H[q]? := fun q hq => by rw [← hH1, Array.getElem?_push, if_neg (Nat.ne_of_lt hq)]
  have hHn : HC D dA A (clB σ a) H1 := hH.new (c := 104) (hA _ hS.1) z1 o1 rfl rfl (fun b hb => ⟨fun F => rfl, up1_n hb, fun t' => by
      unfold cCon
      have h3 : cAI (clB σ a) b = cAI σ b := up1_n hb
      rw [h3]; rfl⟩) ⟨fun ci' C' T' N' e' hc' => by
      have hci : ci' < 20 := (List.getElem?_eq_some_iff.mp hc').1
      have e'' : up1 (cK σ) (cZ σ) 104 H.size = ci' + 1 := e'
      rw [hH.1, up1_s] at e''
      omega, fun t' ht' e' => by
      have e'' : up1 (cK σ) (cZ σ) 104 H.size = 101 + t' := e'
      rw [hH.1, up1_s] at e''
      have et : t' = 3 := by omega
      subst et
      have hl : cLN (clB σ a) (cZ σ) = cLN σ a := up1_s
      have h3 : cAI (clB σ a) (cZ σ) = cAI σ a := up1_s
      refine Or.inr ?_
      rw [e1, hH.1, hl]
      show _ = some (vp_cell (dA 3) (cLN σ a, .inl (cAI (clB σ a) (cZ σ))))
      rw [h3]⟩
  obtain ⟨t, b1, b2⟩ := kk H1 locs hHn ⟨Nat.le_trans hS.1 (by omega), fun y h1 h2 => (o1 y (Nat.lt_of_lt_of_le h1 hS.1)).trans (hS.2.1 y h1 h2), hS.2.2⟩
    ((T.setVm vm').pushCell (vp_cell (dA 3) (cLN σ a, .inl (cAI σ a)))) (by rw [← hH1, ← hT]; rfl) X'
  refine ⟨t, st t ?_, b2⟩
  rw [hcellE, hT, hH.1]
  exact b1
end CLN
theorem c_recvB {s : State} {H : Heap} {D : va_G} {dA : Nat → ClassId} {A : Nat → Prop} {σ : CS} (hK : va_K D vCl (vTy dA) s) (hH : HC D dA A σ H) {a : Nat} (hk : kd σ a 104 = true) : ∃ cell : Cell, H[a]? = some cell ∧ cell.vm.isStatics = false ∧ s.vm.findClass "[B" = some cell.cls :=
  ⟨_, hH.arr (t := 3) (kd_eq hk) (by decide), rfl, (hK.2 3 _ rfl).2⟩
theorem JocS {p : Program} {l : Launch} {e : Env} {R : Room} {s : State} {m : MethodId} {args : Array Value} {below : List Frame} {meth : Method} {c : Code} {Q : State → Prop} {pc nL : Nat} {E : CE} {z0 s0 : Nat} {ρ : Type} {z : ρ × CS} {σ : CS} {L : List (Nat × Value)} {st : List Value} {X : Option (ρ × CS)} {Y : Nat → Option (ρ × CS)} {o : Option Nat} (k1 : J p l e R s m args below meth c nL E z0 s0 Q z X σ pc L (.null :: st)) (k2 : ∀ q, J p l e R s m args below meth c nL E z0 s0 Q z (Y q) σ pc L (.ref q :: st)) : J p l e R s m args below meth c nL E z0 s0 Q z (oc o X Y) σ pc L (va_rf o :: st) := by
  cases o with
  | none => exact k1
  | some q => exact k2 q
