/-! the law: calls of either side -/
section LR
variable {p : Program} {l : Launch} {e : Env} {R : Room} {s : State} {m : MethodId} {args : Array Value} {below : List Frame} {meth : Method} {c : Code} {H : Heap} {locs : List Loc} {cells slots : Nat} {Q : State → Prop}
/-- a call of a method whose code has handlers -/
theorem runVW {y : MethodName} {bytes cc : ByteArray} {maxL nL mc ms index : Nat} {ret : Option FieldType} {hh : List (Nat × Nat × Nat × Nat)} {ws : List Cond} {rm : Room} {Pc : Array Value → State → Prop} {Qc : Array Value → State → Outcome → State → Prop} {free : Addr → Prop} {own C : String} {b : Addr} {As rest : List Value} {g : JFrame}
    (hx : p.tables.exec = Jvm.exec) (hb : c.code = cc) (hml : c.maxLocals = nL) (hown : s.vm.findClass own = some m.cls)
    (hM : Met l y ws rm Pc Qc mc ms free) (hrc : rm.cells = mc) (hrs : rm.slots = ms) (hfr : rm.frames + 1 ≤ R.frames) (hlo : 8 + (maxL + 11) + rm.locals ≤ R.locals)
    (hws : ∀ w ∈ ws, ∀ a' U, s.WarmedH U.vm → w.before a' U = true) (hcw : Cond.codeWith y bytes maxL ret hh ∈ ws) (hini : ∀ a' U, s.WarmedH U.vm → (Cond.initialized y.cls).before a' U = true)
    (hlink : (Cond.methodLink own index y).before args s = true) (hinst : (Cond.instanceMethod y).before args s = true) (hsel : (Cond.selects C y y).before args s = true) (hy : y.cls ≠ "java/lang/invoke/MethodHandle" ∧ y.cls ≠ "java/lang/invoke/VarHandle")
    (hlen : ∀ sig, parseMethodDescriptor y.desc = some sig → As.length = sig.parameters.length) (hp : PreV s H C b Pc As)
    (hg : g.method = m) (hsize : g.locals.size = nL) (hstack : g.stack = As.reverse ++ .ref b :: rest) (hW : 2 * g.monitorRoom + (rest.map fun v => v.category).sum ≤ 8) (hdg : decode cc g.pc = .ok (.invokevirtual index, 3)) (hf : cells + mc ≤ R.cells ∧ slots + ms ≤ R.slots) :
    va_Run p l e R s m args below meth c H locs cells slots mc ms g rest (Qc (Value.ref b :: As).toArray) (free) := by
  intro T hT X
  have hK : Back l R p e below s args y 3 8 (PreOf R mc ms Pc) (PostOf Qc mc ms free) := va_backW (hh := hh) hM hp.1 hrc hrs hfr hlo hws hcw hini
  obtain ⟨-, ⟨cellB, hcB, hoB, hclB⟩, hPc⟩ := hp
  obtain ⟨mk, methM, hnamed, hmethM, hstM, habM⟩ := Cond.instanceMethod_spec hinst
  obtain ⟨m9, meth9, c9, hn9, hm9, -, -, -, -, -, -, hsig9⟩ := Cond.codeWith_spec (hws _ hcw args s (State.WarmedH.refl s))
  cases hnamed.symm.trans hn9
  cases hmethM.symm.trans hm9
  obtain ⟨c2, r2, m2, q1, q2, q3, q4, kP, hkP, hkPi⟩ := Cond.selects_spec hsel
  cases hclB.symm.trans q1
  cases (State.methodFound?_of_named hnamed hy).symm.trans q2
  cases hnamed.symm.trans q3
  have hselP : selectMethod e.platform s.vm cellB.cls mk = .method mk := by rw [Launch.admits_selectMethod X.admits]; exact q4
  have hdg' : decode c.code g.pc = .ok (.invokevirtual index, 3) := by rw [hb]; exact hdg
  obtain ⟨vm1, X1, hstep1⟩ := X.invokevirtual hx hown hlink hnamed hmethM hstM hkP hkPi hy (a := b) (cell := cellB) (by rw [hT]; exact hcB)
    (fun z h => by rw [h] at hoB; cases hoB) hselP hmethM habM hkP hkPi (g := g) hg (argsL := As) (rest := rest) (hlen _ hsig9) hstack hdg'
  obtain ⟨v, B, X', hpost, hsteps⟩ := hK m meth c ⟨T.setVm vm1, locs, cells, slots⟩ { g with stack := rest } (.invokevirtual index) mk (Value.ref b :: As).toArray X1 hg (hsize.trans hml.symm) hdg' hW (X1.named hnamed) ⟨hf.1, hf.2, hPc (T.setVm vm1) hT X1.warmed⟩
  obtain ⟨U', l2, c2', s2⟩ := B
  obtain ⟨g', mk', t, L, e1, e2, hq, h1, hL, h2, h3⟩ := hpost
  dsimp only [Pt.U, Pt.locs, Pt.cells, Pt.slots] at X' e1 e2 h1 h2 h3 hsteps
  subst h1; subst h2; subst h3
  exact ⟨v, (T.setVm vm1).calling g' mk' (Value.ref b :: As).toArray, t, U', L, hT, X', hL, e1, e2, hq, fun target h => hstep1 _ fun acts => by rw [doInvoke_state]; exact hsteps.trans h⟩
/-- the model's addresses, from z on -/
def adz (z k : Nat) : Nat := z + (if k = 1 then 1 else if k = 2 then 2 else if k = 9 then 3 else if k = 10 then 4 else if k = 16 then 5 else if k = 17 then 6 else if k = 18 then 7 else if k = 19 then 8 else 0)
theorem adz_in {z q : Nat} (h : AM (adz z) q) : q = z ∨ q = z + 1 ∨ q = z + 2 ∨ q = z + 3 ∨ q = z + 4 ∨ q = z + 5 ∨ q = z + 6 ∨ q = z + 7 ∨ q = z + 8 := by
  obtain ⟨k, -, rfl⟩ := h
  unfold adz
  split
  · omega
  split
  · omega
  split
  · omega
  split
  · omega
  split
  · omega
  split
  · omega
  split
  · omega
  split <;> omega
/-- the component's part of the world beside the model -/
def lA (z0 : Nat) (z : Nat) : Nat → Prop := fun q => z0 ≤ q ∧ ¬ AM (adz z) q
abbrev lE (D : va_G) (dA : Nat → ClassId) (T : Nat × Nat) (z0 z : Nat) : CE := (D, dA, lA z0 z, T)
abbrev lE0 (D : va_G) (dA : Nat → ClassId) (T : Nat × Nat) (z0 : Nat) : CE := (D, dA, fun q => z0 ≤ q, T)
def LWP (D : va_G) (dA : Nat → ClassId) (T : Nat × Nat) (z0 z : Nat) (σ : CS) (mm : MS) (H : Heap) : Prop := hc (lE D dA T z0 z) σ H ∧ HM D dA (adz z) mm H ∧ z + 9 ≤ H.size ∧ z0 ≤ z
/-- a cell of the model, its class -/
theorem HM_cls {D : va_G} {dA : Nat → ClassId} {z : Nat} {mm : MS} {H : Heap} (h : HM D dA (adz z) mm H) {q : Nat} (hq : AM (adz z) q) : ∃ cell : Cell, H[q]? = some cell ∧ (cell.cls = D.1 0 ∨ cell.cls = dA 0 ∨ cell.cls = dA 1 ∨ cell.cls = dA 2) := by
  have a0 := h.1 0 _ rfl
  have a1 : H[adz z 1]? = some (vp_cell (dA 0) (1160, .inl (mm.2.1 1))) := h.1 1 _ rfl
  have a2 : H[adz z 2]? = some (vp_cell (dA 0) (1160, .inl (mm.2.1 2))) := h.1 2 _ rfl
  have a3 : H[adz z 9]? = some (vp_cell (dA 1) (64, .inl (mm.2.1 9))) := h.1 3 _ rfl
  have a4 : H[adz z 10]? = some (vp_cell (dA 0) (8, .inl (mm.2.1 10))) := h.1 4 _ rfl
  have a5 : H[adz z 16]? = some (vp_cell (dA 2) (12, .inr (.inl (mm.2.2 16)))) := h.1 5 _ rfl
  have a6 : H[adz z 17]? = some (vp_cell (dA 2) (20, .inr (.inl (mm.2.2 17)))) := h.1 6 _ rfl
  have a7 : H[adz z 18]? = some (vp_cell (dA 2) (20, .inr (.inl (mm.2.2 18)))) := h.1 7 _ rfl
  have a8 : H[adz z 19]? = some (vp_cell (dA 0) (20, .inl (mm.2.1 19))) := h.1 8 _ rfl
  rcases adz_in hq with e | e | e | e | e | e | e | e | e
  · obtain ⟨q', hq', cell, g1, g2, -, -⟩ := a0
    cases hq'
    exact ⟨cell, by rw [e]; exact g1, Or.inl g2⟩
  · exact ⟨_, by rw [e]; exact a1, Or.inr (Or.inl rfl)⟩
  · exact ⟨_, by rw [e]; exact a2, Or.inr (Or.inl rfl)⟩
  · exact ⟨_, by rw [e]; exact a3, Or.inr (Or.inr (Or.inl rfl))⟩
  · exact ⟨_, by rw [e]; exact a4, Or.inr (Or.inl rfl)⟩
  · exact ⟨_, by rw [e]; exact a5, Or.inr (Or.inr (Or.inr rfl))⟩
  · exact ⟨_, by rw [e]; exact a6, Or.inr (Or.inr (Or.inr rfl))⟩
  · exact ⟨_, by rw [e]; exact a7, Or.inr (Or.inr (Or.inr rfl))⟩
  · exact ⟨_, by rw [e]; exact a8, Or.inr (Or.inl rfl)⟩
theorem zfc_name {vm : Vm} {a b : String} {c : ClassId} (h1 : vm.findClass a = some c) (h2 : vm.findClass b = some c) : a = b := by
  obtain ⟨k1, e1, n1⟩ := Vm.findClass_spec h1
  obtain ⟨k2, e2, n2⟩ := Vm.findClass_spec h2
  cases e1.symm.trans e2
  exact n1.symm.trans n2
/-- the component's cells are none of the model's -/
theorem LWP.sep {D : va_G} {dA : Nat → ClassId} {T : Nat × Nat} {z0 z : Nat} {σ : CS} {mm : MS} {H : Heap} {s : State} (hK : va_K D vCl (vTy dA) s) (hc : hc (lE D dA T z0 z) σ H) (hm : HM D dA (adz z) mm H) {a : Nat} (ha : cK σ a ≠ 0) : ¬ AM (adz z) a := by
  intro hA
  rcases (hc.2.1 a ha).1 with h | ⟨h1, h2⟩
  · exact h.2 hA
  · obtain ⟨cell, g1, g2⟩ := HM_cls hm hA
    have h5 : cell.cls = dA 5 := by
      rcases (hc.2.2 a).2 5 (by decide) h1 with ⟨-, cell', f1, f2, -⟩ | f
      · cases g1.symm.trans f1
        exact f2
      · cases g1.symm.trans f
        rfl
    have n5 : s.vm.findClass "[Ljava/lang/Object;" = some (dA 5) := va_nmO (C := "java/lang/Object") (hK.2 5 _ rfl).2 (by decide +kernel)
    rw [h5] at g2
    rcases g2 with e | e | e | e
    · have n0 := (hK.1 0 _ rfl).2.1
      rw [e] at n5
      exact absurd (zfc_name n5 n0) (by decide)
    · rw [e] at n5
      exact absurd (zfc_name n5 (va_nm_int (hK.2 0 _ rfl).2)) (by decide)
    · rw [e] at n5
      exact absurd (zfc_name n5 (va_nm_boolean (hK.2 1 _ rfl).2)) (by decide)
    · rw [e] at n5
      exact absurd (zfc_name n5 (va_nm_long (hK.2 2 _ rfl).2)) (by decide)
/-- the heap has grown by cells that aren't the component's, and the model's may have changed -/
def bz (σ : CS) (z : Nat) : CS := (σ.1, σ.2.1, σ.2.2.1, σ.2.2.2.1, σ.2.2.2.2.1, σ.2.2.2.2.2.1, σ.2.2.2.2.2.2.1, z, σ.2.2.2.2.2.2.2.2)
theorem HC.grown {D : va_G} {dA : Nat → ClassId} {A : Nat → Prop} {σ : CS} {H H1 : Heap} (h : HC D dA A σ H) (hz : H.size ≤ H1.size) (hq : ∀ a, cK σ a ≠ 0 → H1[a]? = H[a]?) : HC D dA A (bz σ H1.size) H1 := by
  refine ⟨rfl, fun a ha => ⟨(h.2.1 a ha).1, Nat.lt_of_lt_of_le (h.2.1 a ha).2 (by rw [← h.1]; exact hz)⟩, fun a => ?_⟩
  by_cases e0 : cK σ a = 0
  · have e1 : cK (bz σ H1.size) a = 0 := e0
    exact ⟨fun ci C T N e _ => absurd (e1.symm.trans e) (by omega), fun t _ e => absurd (e1.symm.trans e) (by omega)⟩
  · exact (h.2.2 a).kept (hq a e0) rfl (fun _ => rfl) rfl (fun _ => rfl)
theorem va_Z_sub {C n d : String} {v : Value} {A B : Nat → Prop} {U : State} {H : Heap} (h : va_Z C n d v A U H) (hA : ∀ q, B q → A q) : va_Z C n d v B U H := by
  obtain ⟨cf, kf, fi, f, a, cell, z1, z2, z3, z4, z5, z6, z7, z8⟩ := h
  exact ⟨cf, kf, fi, f, a, cell, z1, z2, z3, z4, z5, z6, z7, fun q => z8 (hA _ q)⟩
theorem va_Zq_sub {C n d : String} {A B : Nat → Prop} {U : State} {H : Heap} (h : va_Zq C n d A U H) (hA : ∀ q, B q → A q) : va_Zq C n d B U H := by
  rcases h with h | ⟨t, h⟩
  · exact Or.inl (va_Z_sub h hA)
  · exact Or.inr ⟨t, va_Z_sub h hA⟩
theorem kc.sub {E E0 : CE} {U : State} (h : kc E0 U) (h1 : E.1 = E0.1) (h2 : E.2.1 = E0.2.1) (h3 : E.2.2.2 = E0.2.2.2) (hA : ∀ q, EA E q → EA E0 q) (hf : ∀ q, U.heap.size ≤ q → EA E q) : kc E U := by
  obtain ⟨k1, k2, k3, k4, k5, k6, k7, k8, k9, k10⟩ := h
  exact ⟨by rw [h1, h2]; exact k1, hf, k3, by rw [h3]; exact va_Z_sub k4 hA, va_Zq_sub k5 hA, va_Zq_sub k6 hA, by rw [h3]; exact k7, k8, k9, k10⟩
variable {D : va_G} {dA : Nat → ClassId} {T : Nat × Nat} {z0 z : Nat} {σ σ1 : CS} {mm mm1 : MS} {pc nL : Nat} {ls : Array Slot} {rest st : List Value} {a : Array Value}
/-- before a call of the component -/
theorem l_preV (hk : kc (lE0 D dA T s.heap.size) s) (hH : LWP D dA T s.heap.size z σ mm H) (hS : va_S (fun q => s.heap.size ≤ q) s.heap H locs) {a ci : Nat} {C : String} {TT : u_T} {N : Nat} {As : List Value} (hg : kd σ a (ci + 1) = true) (hc : vCl[ci]? = some (C, TT, N)) : PreV s H C a (cPc (lE D dA T s.heap.size z) σ (.ref a :: As)) As := by
  refine ⟨fun a U g mk q => by obtain ⟨q0, q1, q2⟩ := q; exact ⟨q0, q1, q2.blind⟩, c_recv hk.1 hH.1 hg hc, fun U hU hW => ⟨rfl, by rw [hU]; exact hH.1, ?_⟩⟩
  refine kc.sub (E := lE D dA T s.heap.size z) (hk.call hS hU hW) rfl rfl rfl (fun q hq => hq.1) (fun q hq => ⟨?_, fun hA => ?_⟩)
  · exact Nat.le_trans hS.1 (by rw [← hU]; exact hq)
  · have h9 := hH.2.2.1
    rw [hU] at hq
    have := adz_in hA
    omega
/-- a call of the component -/
theorem LcallC {v : Option Value} (hH : LWP D dA T s.heap.size z σ mm H) (hS : va_S (fun q => s.heap.size ≤ q) s.heap H locs)
    (hrun : va_Run p l e R s m args below meth c H locs cells slots (cZ σ1 - cZ σ) (cS σ1 - cS σ) (F0 m pc ls st) rest (cQ (lE D dA T s.heap.size z) v σ1 a) (EA (lE D dA T s.heap.size z)))
    (k : ∀ (H1 : Heap) (locs1 : List Loc), LWP D dA T s.heap.size z σ1 mm H1 → va_S (fun q => s.heap.size ≤ q) s.heap H1 locs1 → W p l e R s m args below meth c H1 locs1 (cells + (cZ σ1 - cZ σ)) (slots + (cS σ1 - cS σ)) Q (F0 m (pc + 3) ls (v.toList ++ rest))) : W p l e R s m args below meth c H locs cells slots Q (F0 m pc ls st) := by
  intro T' hT XX
  obtain ⟨v', st₀, t, T1, Lc, h0, X', hL, e1, e2, ⟨⟨hv, hb⟩, hz1, hk1⟩, stp⟩ := hrun T' hT XX
  cases hv
  rw [h0] at hz1 hk1
  have hS1 : va_S (fun q => s.heap.size ≤ q) s.heap T1.heap (locs ++ Lc) := ⟨Nat.le_trans hS.1 (by rw [e1]; exact hz1), fun q h1 h2 => by
      rw [e1, hk1 q (Nat.lt_of_lt_of_le h1 hS.1) (fun h => h2 h.1)]; exact hS.2.1 q h1 h2, fun q hq => by
      rcases List.mem_append.mp hq with h | h
      · exact hS.2.2 q h
      · exact (hL q h).1⟩
  have hM1 : HM D dA (adz z) mm T1.heap := hH.2.1.kept (fun q h1 h2 => by rw [e1]; exact hk1 q h1 (fun h => h.2 h2))
  obtain ⟨t2, a1, b1⟩ := k T1.heap (locs ++ Lc) ⟨by rw [e1]; exact hb, hM1, Nat.le_trans hH.2.2.1 (by rw [e1]; exact hz1), hH.2.2.2⟩ hS1 T1 rfl X'
  exact ⟨t2, stp t2 a1, b1⟩
/-- before a call of the model -/
theorem l_preM (hk : kc (lE0 D dA T s.heap.size) s) (hH : LWP D dA T s.heap.size z σ mm H) {As : List Value} : PreV s H RX4 (adz z 0) (mPc D dA (adz z) mm As) As := by
  refine ⟨fun a U g mk q => by obtain ⟨q0, q1, q2⟩ := q; exact ⟨q0, q1, va_K.moved (u := U) (U := U.calling g mk a) (Vm.Alike.refl U.vm) q2⟩, va_recv hk.1 hH.2.1.1 (ci := 0) (q0 := 0) rfl rfl, fun U hU hW => ⟨rfl, by rw [hU]; exact hH.2.1, va_K.moved hW.alike hk.1⟩⟩
theorem LWP.model (hK : va_K D vCl (vTy dA) s) (hH : LWP D dA T s.heap.size z σ mm H) {H1 : Heap} (hz : H.size ≤ H1.size) (hq : ∀ q : Nat, q < H.size → ¬ AM (adz z) q → H1[q]? = H[q]?) (hm : HM D dA (adz z) mm1 H1) : LWP D dA T s.heap.size z (bz σ H1.size) mm1 H1 := by
  refine ⟨hH.1.grown hz (fun a ha => hq a (by rw [hH.1.1]; exact (hH.1.2.1 a ha).2) (LWP.sep hK hH.1 hH.2.1 ha)), hm, Nat.le_trans hH.2.2.1 hz, hH.2.2.2⟩
theorem LcallI {r : Int32} (hK : va_K D vCl (vTy dA) s) (hH : LWP D dA T s.heap.size z σ mm H) (hS : va_S (fun q => s.heap.size ≤ q) s.heap H locs)
    (hrun : va_Run p l e R s m args below meth c H locs cells slots 0 0 (F0 m pc ls st) rest (mQi D dA (adz z) r mm1 a) (AM (adz z)))
    (k : ∀ (H1 : Heap) (locs1 : List Loc), LWP D dA T s.heap.size z (bz σ H1.size) mm1 H1 → cZ σ ≤ H1.size → va_S (fun q => s.heap.size ≤ q) s.heap H1 locs1 → W p l e R s m args below meth c H1 locs1 cells slots Q (F0 m (pc + 3) ls (.int r :: rest))) : W p l e R s m args below meth c H locs cells slots Q (F0 m pc ls st) := by
  have hA : ∀ q, AM (adz z) q → s.heap.size ≤ q := fun q hq => by
    have := adz_in hq
    have := hH.2.2.2
    omega
  refine va_calli hrun hS (fun q _ h => hA q h) hA (fun r' u t H1 locs1 ht hvm hw hB hz1 hk1 hS1 => ?_)
  cases hw
  exact k H1 locs1 (LWP.model hK hH hz1 hk1 (by rw [← ht]; exact hB)) (by rw [← hH.1.1]; exact hz1) hS1
theorem LcallL {r : Int64} (hK : va_K D vCl (vTy dA) s) (hH : LWP D dA T s.heap.size z σ mm H) (hS : va_S (fun q => s.heap.size ≤ q) s.heap H locs)
    (hrun : va_Run p l e R s m args below meth c H locs cells slots 0 0 (F0 m pc ls st) rest (mQl D dA (adz z) r mm1 a) (AM (adz z)))
    (k : ∀ (H1 : Heap) (locs1 : List Loc), LWP D dA T s.heap.size z (bz σ H1.size) mm1 H1 → cZ σ ≤ H1.size → va_S (fun q => s.heap.size ≤ q) s.heap H1 locs1 → W p l e R s m args below meth c H1 locs1 cells slots Q (F0 m (pc + 3) ls (.long r :: rest))) : W p l e R s m args below meth c H locs cells slots Q (F0 m pc ls st) := by
  have hA : ∀ q, AM (adz z) q → s.heap.size ≤ q := fun q hq => by
    have := adz_in hq
    have := hH.2.2.2
    omega
  refine va_calll hrun hS (fun q _ h => hA q h) hA (fun r' u t H1 locs1 ht hvm hw hB hz1 hk1 hS1 => ?_)
  cases hw
  exact k H1 locs1 (LWP.model hK hH hz1 hk1 (by rw [← ht]; exact hB)) (by rw [← hH.1.1]; exact hz1) hS1
end LR
