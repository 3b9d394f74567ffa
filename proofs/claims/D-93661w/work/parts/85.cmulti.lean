/-! an array of two arrays made at once -/
section CMU
def mO (cA : ClassId) : Cell := { cls := cA, slots := Array.replicate 2 .null, vm := .none }
def mI (comp : ClassId) (M : Nat) (dv : Value) : Cell := { cls := comp, slots := Array.replicate M dv, vm := .none }
def mS (S : State) (cA comp : ClassId) (M : Nat) (dv : Value) : State :=
  ((((S.pushCell (mO cA)).pushCell (mI comp M dv)).setCell S.heap.size ((mO cA).setSlot 0 (.ref (S.heap.size + 1)))).pushCell (mI comp M dv)).setCell S.heap.size (((mO cA).setSlot 0 (.ref (S.heap.size + 1))).setSlot 1 (.ref (S.heap.size + 2)))
section
variable {E : CtlPost} {e : Env} {d : Bool} {acts : List Action} {S : State}
theorem wp_one {comp cc : ClassId} {kC : Class} {ty : FieldType} {M : Int32} (hkC : S.vm.classes[comp]? = some kC) (hC : kC.kind = .array cc ty) (hM : ¬ M < 0)
    (l2 : ¬ M.toNatClampNeg > e.platform.arrayLengthLimit) (b2 : ¬ M.toNatClampNeg * componentBytes ty > e.platform.maxHeapBytes) (hf : fits ty (defaultValue ty) = true)
    (hc : S.heap.size < e.platform.maxCells) (hs : S.slotsUsed + M.toNatClampNeg ≤ e.platform.maxSlots)
    {Q : Addr → Pre} (hq : ∀ acts', Q S.heap.size d acts' (S.pushCell (mI comp M.toNatClampNeg (defaultValue ty)))) :
    wp (Jvm.Op.multianewarray.make comp [M]) Q E e d acts S := by
  rw [Jvm.Op.multianewarray.make]
  simp only [wp_bind', W.ite, hM, if_false, wp_pure', W.theClass, hkC, hC, Option.some.injEq, exists_eq_left']
  exact W.newArray_of hkC hC l2 b2 hc hs hf hq
theorem wp_two {cA comp cc : ClassId} {kA kC : Class} {ty0 ty : FieldType} {M : Int32} (hkA : S.vm.classes[cA]? = some kA) (hA : kA.kind = .array comp ty0) (hr : ∀ v : Value, v = .null ∨ (∃ a, v = .ref a) → fits ty0 v = true)
    (hkC : S.vm.classes[comp]? = some kC) (hC : kC.kind = .array cc ty) (hM : ¬ M < 0) (l1 : ¬ 2 > e.platform.arrayLengthLimit) (b1 : ¬ 2 * componentBytes ty0 > e.platform.maxHeapBytes)
    (l2 : ¬ M.toNatClampNeg > e.platform.arrayLengthLimit) (b2 : ¬ M.toNatClampNeg * componentBytes ty > e.platform.maxHeapBytes) (hf : fits ty (defaultValue ty) = true)
    (hc : S.heap.size + 3 ≤ e.platform.maxCells) (hs : S.slotsUsed + 2 + M.toNatClampNeg + M.toNatClampNeg ≤ e.platform.maxSlots)
    {Q : Addr → Pre} (hq : ∀ d' acts', Q S.heap.size d' acts' (mS S cA comp M.toNatClampNeg (defaultValue ty))) :
    wp (Jvm.Op.multianewarray.make cA [2, M]) Q E e d acts S := by
  rw [Jvm.Op.multianewarray.make]
  simp only [wp_bind', W.ite, show ¬ ((2:Int32) < 0) by decide, if_false, wp_pure', W.theClass, hkA, hA, Option.some.injEq, exists_eq_left']
  rw [show (2:Int32).toNatClampNeg = 2 from rfl]
  refine W.newArray_of hkA hA l1 b1 (by omega) (by omega) (hr _ (Or.inl rfl)) (fun acts1 => ?_)
  have e0 : (Std.Legacy.Range.mk 0 2 1 (by decide)).size = 2 := by decide
  simp only [wp_bind', W.ite, show ((2:Int32) == 0) = false by decide, Bool.false_eq_true, if_false, wp_pure', Std.Legacy.Range.forIn_eq_forIn_range', e0, List.range', List.forIn_cons, List.forIn_nil]
  have z1 : (S.pushCell (mO cA)).heap.size = S.heap.size + 1 := by simp
  have u1 : (S.pushCell (mO cA)).slotsUsed = S.slotsUsed + 2 := by simp [mO]
  have o1 : (S.pushCell (mO cA)).heap[S.heap.size]? = some (mO cA) := by simp
  have hfs : ∀ (X : State) (i a : Nat), X.vm = S.vm → X.fitsSlot cA .none i (.ref a) = true := fun X i a hX => by
    simp [State.fitsSlot, State.slotType?, hX, hkA, hA, hr _ (Or.inr ⟨_, rfl⟩)]
  show wp (Jvm.Op.multianewarray.make comp [M]) _ E e d acts1 (S.pushCell (mO cA))
  refine wp_one (S := S.pushCell (mO cA)) hkC hC hM l2 b2 hf (by rw [z1]; omega) (by rw [u1]; omega) (fun acts2 => ?_)
  simp only [wp_bind', W.writeLoc, wp_pure']
  have z2 : ((S.pushCell (mO cA)).pushCell (mI comp M.toNatClampNeg (defaultValue ty))).heap.size = S.heap.size + 2 := by simp
  have o2 : ((S.pushCell (mO cA)).pushCell (mI comp M.toNatClampNeg (defaultValue ty))).heap[S.heap.size]? = some (mO cA) := by
    exact (State.heap_pushCell_of_lt _ _ (show S.heap.size < (S.pushCell (mO cA)).heap.size by rw [z1]; omega)).trans o1
  refine ⟨mO cA, o2, (by simp [mO]), (by simp [mO]), (hfs _ _ _ rfl), ?_⟩
  have w1 : ∀ X : State, ∀ cell : Cell, (X.setCell S.heap.size cell).vm = X.vm := fun _ _ => rfl
  generalize hX : ((S.pushCell (mO cA)).pushCell (mI comp M.toNatClampNeg (defaultValue ty))).setCell S.heap.size ((mO cA).setSlot 0 (.ref (S.pushCell (mO cA)).heap.size)) = X
  have zX : X.heap.size = S.heap.size + 2 := by rw [← hX, State.setCell]; simp
  have uX : X.slotsUsed = S.slotsUsed + 2 + M.toNatClampNeg := by rw [← hX]; simp [mI, mO]
  have vX : X.vm = S.vm := by rw [← hX]; rfl
  have oX : X.heap[S.heap.size]? = some ((mO cA).setSlot 0 (.ref (S.heap.size + 1))) := by
    rw [← hX, z1]; exact State.heap_setCell_self o2
  refine wp_one (S := X) (by rw [vX]; exact hkC) hC hM l2 b2 hf (by rw [zX]; omega) (by rw [uX]; omega) (fun acts3 => ?_)
  simp only [wp_bind', W.writeLoc, wp_pure']
  refine ⟨(mO cA).setSlot 0 (.ref (S.heap.size + 1)), ((State.heap_pushCell_of_lt _ _ (show S.heap.size < X.heap.size by rw [zX]; omega)).trans oX), (by simp [mO, Cell.setSlot]), (by simp [mO, Cell.setSlot]), (hfs _ _ _ (by show X.vm = _; exact vX)), ?_⟩
  have h := hq true (writeActs { base := S.heap.size, slot := 0 + 1 } Mode.plain (Value.ref (S.heap.size + 2)) acts3)
  unfold mS at h
  rw [z1] at hX
  rw [hX] at h
  rw [zX]
  exact h
end
def mH (H : Heap) (cA comp : ClassId) (M : Nat) (dv : Value) : Heap :=
  ((((H.push (mO cA)).push (mI comp M dv)).setIfInBounds H.size ((mO cA).setSlot 0 (.ref (H.size + 1)))).push (mI comp M dv)).setIfInBounds H.size (((mO cA).setSlot 0 (.ref (H.size + 1))).setSlot 1 (.ref (H.size + 2)))
variable {p : Program} {l : Launch} {e : Env} {R : Room} {s : State} {m : MethodId} {args : Array Value} {below : List Frame} {meth : Method} {c : Code} {H : Heap} {locs : List Loc} {cells slots : Nat} {Q : State → Prop}
variable {cc : ByteArray} {pc nL : Nat} {ls : Array Slot} {rest st0 : List Value} {D : va_G} {dA : Nat → ClassId} {A : Nat → Prop} {σ σ1 : CS}
theorem mS_setTop (S : State) (f : JFrame) (cA comp : ClassId) (M : Nat) (dv : Value) : mS (S.setTop f) cA comp M dv = (mS S cA comp M dv).setTop f := by
  unfold mS
  simp only [State.heap_setTop, State.pushCell_setTop, State.setCell_setTop]
theorem w_multi (hx : p.tables.exec = Jvm.exec) (hb : c.code = cc) {own C : String} {index : Nat} (hown : s.vm.findClass own = some m.cls) (hC : "[" ++ (FieldType.array .long).toString = C) (hclink : (Cond.classLink own index C).before args s = true) (hover : (Cond.arrayOver (.array .long)).before args s = true) (harr : (Cond.arrayClass .long).before args s = true) {M : Int32} (hn : na M = true) (hcells : cells + 3 ≤ R.cells) (hslots : slots + (2 + M.toNatClampNeg + M.toNatClampNeg) ≤ R.slots) (hdg : decode cc pc = .ok (.multianewarray index 2, 4))
    (kk : ∀ (cA comp : ClassId), s.vm.findClass ("[" ++ (FieldType.array .long).toString) = some cA → s.vm.findClass (FieldType.array .long).toString = some comp → W p l e R s m args below meth c (mH H cA comp M.toNatClampNeg (.long 0)) ((locs ++ [⟨H.size, 0⟩]) ++ [⟨H.size, 1⟩]) (cells + 3) (slots + (2 + M.toNatClampNeg + M.toNatClampNeg)) Q (F0 m (pc + 4) ls (.ref H.size :: rest))) : W p l e R s m args below meth c H locs cells slots Q (F0 m pc ls (.int M :: .int 2 :: rest)) := by
  intro T hT X
  subst hT; subst hb; subst hC
  have hpl : e.platform.magicAccessors = ({} : Platform).magicAccessors := by rw [X.admits.platform]
  obtain ⟨comp, cA, kA, hcomp, hidx, hkA, hkindA, hnameA⟩ := arrayOverA_spec hover
  obtain ⟨comp', kC, cC, hcomp', hkC, hkindC⟩ := Cond.arrayClass_spec harr
  cases hcomp'.symm.trans hcomp
  obtain ⟨c0, hfc0, hcl⟩ := Cond.classLink_spec hown hclink e.platform hpl
  cases hnameA.symm.trans hfc0
  obtain ⟨hg1, hwarm1, hready1⟩ := State.classEntry (e := e) X.warmed hcl
  generalize T.vm.noted m.cls index (.cls cA) = vm1 at hg1 hwarm1 hready1
  have hal : s.vm.Alike vm1 := hwarm1.alike
  obtain ⟨kA1, hkA1, heA⟩ := hal.2.2 _ _ hkA
  obtain ⟨kC1, hkC1, heC⟩ := hal.2.2 _ _ hkC
  have hkindA1 : kA1.kind = .array comp (.array .long) := by rw [heA]; exact hkindA
  have hkindC1 : kC1.kind = .array cC .long := by rw [heC]; exact hkindC
  have hm1 := na_1 hn
  have hm2 := na_2 hn
  have l2 : ¬ M.toNatClampNeg > e.platform.arrayLengthLimit := by rw [Launch.admits_arrayLengthLimit X.admits]; omega
  have b2 : ¬ M.toNatClampNeg * componentBytes .long > e.platform.maxHeapBytes := by rw [Launch.admits_maxHeapBytes X.admits]; show ¬ M.toNatClampNeg * 8 > 536870912; omega
  have l1 : ¬ 2 > e.platform.arrayLengthLimit := by rw [Launch.admits_arrayLengthLimit X.admits]; omega
  have b1 : ¬ 2 * componentBytes (.array .long) > e.platform.maxHeapBytes := by rw [Launch.admits_maxHeapBytes X.admits]; decide
  obtain ⟨hr1, hr2⟩ := X.roomAbove hcells hslots
  have X1 := X.noted hwarm1
  have eZ : (T.setVm vm1).heap.size = T.heap.size := rfl
  have X2 := X1.pushed (mO cA)
  have X3 := X2.pushed (mI comp M.toNatClampNeg (.long 0))
  have z1 : ((T.setVm vm1).pushCell (mO cA)).heap.size = T.heap.size + 1 := by simp
  have o1 : ((T.setVm vm1).pushCell (mO cA)).heap[T.heap.size]? = some (mO cA) := State.heap_pushCell_size _ _
  have o2 : (((T.setVm vm1).pushCell (mO cA)).pushCell (mI comp M.toNatClampNeg (.long 0))).heap[T.heap.size]? = some (mO cA) := (State.heap_pushCell_of_lt _ _ (show T.heap.size < ((T.setVm vm1).pushCell (mO cA)).heap.size by rw [z1]; omega)).trans o1
  have X4 := (X3.stored o2 0 (.ref (T.heap.size + 1))).pushed (mI comp M.toNatClampNeg (.long 0))
  have o3 : ((((T.setVm vm1).pushCell (mO cA)).pushCell (mI comp M.toNatClampNeg (.long 0))).setCell T.heap.size ((mO cA).setSlot 0 (.ref (T.heap.size + 1)))).heap[T.heap.size]? = some ((mO cA).setSlot 0 (.ref (T.heap.size + 1))) := State.heap_setCell_self o2
  have z3 : ((((T.setVm vm1).pushCell (mO cA)).pushCell (mI comp M.toNatClampNeg (.long 0))).setCell T.heap.size ((mO cA).setSlot 0 (.ref (T.heap.size + 1)))).heap.size = T.heap.size + 2 := by rw [State.setCell]; simp
  have X5 := X4.stored ((State.heap_pushCell_of_lt _ _ (Nat.lt_of_lt_of_eq (show T.heap.size < T.heap.size + 2 by omega) z3.symm)).trans o3) 1 (.ref (T.heap.size + 2))
  have XF : Stand p l e R s m args below meth c (mS (T.setVm vm1) cA comp M.toNatClampNeg (.long 0)) ((locs ++ [⟨T.heap.size, 0⟩]) ++ [⟨T.heap.size, 1⟩]) (cells + 3) (slots + (2 + M.toNatClampNeg + M.toNatClampNeg)) := by
    have e1 : (mO cA).slots.size = 2 := by simp [mO]
    have e2 : (mI comp M.toNatClampNeg (.long 0)).slots.size = M.toNatClampNeg := by simp [mI]
    rw [e1, e2] at X5
    have e3 : slots + (2 + M.toNatClampNeg + M.toNatClampNeg) = slots + 2 + M.toNatClampNeg + M.toNatClampNeg := by omega
    rw [e3]
    exact X5
  obtain ⟨t', a1, b1'⟩ := kk cA comp hnameA hcomp (mS (T.setVm vm1) cA comp M.toNatClampNeg (.long 0)) rfl XF
  refine ⟨t', ?_, b1'⟩
  jvm_step X.here [hx, hdg]
  simp only [Jvm.Op.multianewarray.sem, wp_bind', W.resolveClassAt_links (State.method?_setTop (F0 m pc ls (.int M :: .int 2 :: rest)) X.here.top) hg1]
  rw [W.popN, if_neg (by decide)]
  refine ⟨F0 m pc ls (.int M :: .int 2 :: rest), State.topJava?_setTop' (s := T.setVm vm1) _ X.here.top, [.int 2, .int M], rest, rfl, rfl, ?_⟩
  simp only [List.mapM_cons, List.mapM_nil, wp_bind', wp_pure']
  refine wp_two (kA := kA1) (kC := kC1) (ty0 := .array .long) (ty := .long) hkA1 hkindA1 (fun v hv => by rcases hv with rfl | ⟨a, rfl⟩ <;> rfl) hkC1 hkindC1 hm1 l1 b1 l2 b2 rfl (by show T.heap.size + 3 ≤ _; omega) (by show T.slotsUsed + 2 + _ + _ ≤ _; omega) (fun d' acts' => ?_)
  have eS : (((T.setTop (F0 m pc ls (.int M :: .int 2 :: rest))).setVm vm1).setTop ({ method := m, pc := pc, locals := ls, stack := rest, locked := none } : JFrame)) = (T.setVm vm1).setTop ({ method := m, pc := pc, locals := ls, stack := rest, locked := none } : JFrame) := by
    show ((T.setVm vm1).setTop _).setTop _ = _
    rw [State.setTop_setTop]
  rw [eS, mS_setTop]
  simp only [wp_bind', W.mark, W.pushRef, State.topJava?_setTop' _ XF.here.top, Option.some.injEq, exists_eq_left', State.setTop_setTop, State.heap_setTop, show defaultValue FieldType.long = .long 0 from rfl]
  intro acts
  simp [jvm, XF.here.top]
  exact a1
def mT (σ : CS) (M : Nat) : CS := uAR (nA (uAR (nA (nA σ 108 2) 103 M) (cZ σ) 0 (some (cZ σ + 1))) 103 M) (cZ σ) 1 (some (cZ σ + 2))
theorem mO_a (cA : ClassId) : mO cA = arrV cA 2 (fun _ => .null) := arrV_new cA 2 .null
theorem mI_a (cA : ClassId) (M : Nat) : mI cA M (.long 0) = arrV cA M (fun _ => .long 0) := arrV_new cA M (.long 0)
theorem c_multi (hx : p.tables.exec = Jvm.exec) (hb : c.code = cc) {own C : String} {index : Nat} (hown : s.vm.findClass own = some m.cls) (hC : "[" ++ (FieldType.array .long).toString = C) (hclink : (Cond.classLink own index C).before args s = true) (hover : (Cond.arrayOver (.array .long)).before args s = true) (harr : (Cond.arrayClass .long).before args s = true) (hK : va_K D vCl (vTy dA) s) (hH : HC D dA A σ H) (hS : va_S A s.heap H locs) (hA : ∀ q, s.heap.size ≤ q → A q) {M : Int32} (hn : na M = true) (hcells : cells + 3 ≤ R.cells) (hslots : slots + (2 + M.toNatClampNeg + M.toNatClampNeg) ≤ R.slots) (hdg : decode cc pc = .ok (.multianewarray index 2, 4))
    (kk : ∀ (H1 : Heap) (locs1 : List Loc), HC D dA A (mT σ M.toNatClampNeg) H1 → va_S A s.heap H1 locs1 → W p l e R s m args below meth c H1 locs1 (cells + 3) (slots + (2 + M.toNatClampNeg + M.toNatClampNeg)) Q (F0 m (pc + 4) ls (.ref (cZ σ) :: rest))) : W p l e R s m args below meth c H locs cells slots Q (F0 m pc ls (.int M :: .int 2 :: rest)) := by
  refine w_multi hx hb hown hC hclink hover harr hn hcells hslots hdg (fun cA comp f1 f2 => ?_)
  have e7 : cA = dA 7 := Option.some.inj (f1.symm.trans (hK.2 7 _ rfl).2)
  have e2 : comp = dA 2 := Option.some.inj (f2.symm.trans (hK.2 2 _ rfl).2)
  subst e7; subst e2
  generalize hM : M.toNatClampNeg = N at *
  -- five steps of the heap
  generalize h1 : H.push (mO (dA 7)) = H1
  have z1 : H1.size = H.size + 1 := by rw [← h1, Array.size_push]
  have q1 : H1[H.size]? = some (mO (dA 7)) := by rw [← h1, Array.getElem?_push_size]
  obtain ⟨r1, s1⟩ := c_newA0 (t := 7) (n := 2) hH hS hA (by decide) (by rw [q1, mO_a, cCon_nA, if_neg (by decide), if_pos (by decide), vp_cell_q]; rfl) z1 (fun q hq => by rw [← h1, Array.getElem?_push, if_neg (Nat.ne_of_lt hq)])
  have hz : cZ σ = H.size := hH.1.symm
  generalize h2 : H1.push (mI (dA 2) N (.long 0)) = H2
  have z2 : H2.size = H1.size + 1 := by rw [← h2, Array.size_push]
  have q2 : H2[H1.size]? = some (mI (dA 2) N (.long 0)) := by rw [← h2, Array.getElem?_push_size]
  obtain ⟨r2, s2⟩ := c_newA0 (t := 2) (n := N) r1 s1 hA (by decide) (by rw [q2, mI_a, cCon_nA, if_pos rfl, vp_cell_l]) z2 (fun q hq => by rw [← h2, Array.getElem?_push, if_neg (Nat.ne_of_lt hq)])
  have o2 : H2[H.size]? = some (mO (dA 7)) := by rw [← h2, Array.getElem?_push, if_neg (by omega)]; exact q1
  have k2 : cK (nA (nA σ (101 + 7) 2) (101 + 2) N) H.size = 101 + 7 := by
    have a1 : cK (nA (nA σ (101 + 7) 2) (101 + 2) N) H.size = cK (nA σ (101 + 7) 2) H.size := up1_n (by show H.size ≠ cZ σ + 1; omega)
    rw [a1, ← hz]; exact up1_s
  have v2 := r2.arr (t := 7) k2 (by decide)
  have l2 : cLN (nA (nA σ (101 + 7) 2) (101 + 2) N) H.size = 2 := by
    have a1 : cLN (nA (nA σ (101 + 7) 2) (101 + 2) N) H.size = cLN (nA σ (101 + 7) 2) H.size := up1_n (by show H.size ≠ cZ σ + 1; omega)
    rw [a1, ← hz]; exact up1_s
  generalize h3 : H2.setIfInBounds H.size ((mO (dA 7)).setSlot 0 (.ref (H.size + 1))) = H3
  have z3 : H3.size = H2.size := by rw [← h3, Array.size_setIfInBounds]
  have lt2 : H.size < H2.size := by omega
  have p3 : H3[H.size]? = some ((mO (dA 7)).setSlot 0 (.ref (H.size + 1))) := by rw [← h3, Array.getElem?_setIfInBounds_self_of_lt lt2]
  obtain ⟨r3, s3⟩ := c_aast0 (a := H.size) (t := 7) (i := 0) (x := some (H.size + 1)) r2 s2 (by decide) (by decide) k2 (by rw [l2]; exact ib_in (i := 0) (n := 2) (by decide)) (by rw [p3, Option.some.inj (o2.symm.trans v2)]; rfl) z3 (fun q hq => by rw [← h3, Array.getElem?_setIfInBounds_ne (Ne.symm hq)])
  generalize h4 : H3.push (mI (dA 2) N (.long 0)) = H4
  have z4 : H4.size = H3.size + 1 := by rw [← h4, Array.size_push]
  have q4 : H4[H3.size]? = some (mI (dA 2) N (.long 0)) := by rw [← h4, Array.getElem?_push_size]
  obtain ⟨r4, s4⟩ := c_newA0 (t := 2) (n := N) r3 s3 hA (by decide) (by rw [q4, mI_a, cCon_nA, if_pos rfl, vp_cell_l]) z4 (fun q hq => by rw [← h4, Array.getElem?_push, if_neg (Nat.ne_of_lt hq)])
  have o4 : H4[H.size]? = some ((mO (dA 7)).setSlot 0 (.ref (H.size + 1))) := by rw [← h4, Array.getElem?_push, if_neg (by omega)]; exact p3
  have k4 : cK (nA (uAR (nA (nA σ (101 + 7) 2) (101 + 2) N) H.size (0:Int32).toNatClampNeg (some (H.size + 1))) (101 + 2) N) H.size = 101 + 7 := by
    exact (up1_n (by show H.size ≠ cZ σ + 1 + 1; omega)).trans k2
  have l4 : cLN (nA (uAR (nA (nA σ (101 + 7) 2) (101 + 2) N) H.size (0:Int32).toNatClampNeg (some (H.size + 1))) (101 + 2) N) H.size = 2 := by
    exact (up1_n (by show H.size ≠ cZ σ + 1 + 1; omega)).trans l2
  have v4 := r4.arr (t := 7) k4 (by decide)
  generalize h5 : H4.setIfInBounds H.size (((mO (dA 7)).setSlot 0 (.ref (H.size + 1))).setSlot 1 (.ref (H.size + 2))) = H5
  have z5 : H5.size = H4.size := by rw [← h5, Array.size_setIfInBounds]
  have lt4 : H.size < H4.size := by omega
  have p5 : H5[H.size]? = some (((mO (dA 7)).setSlot 0 (.ref (H.size + 1))).setSlot 1 (.ref (H.size + 2))) := by rw [← h5, Array.getElem?_setIfInBounds_self_of_lt lt4]
  obtain ⟨r5, s5⟩ := c_aast0 (a := H.size) (t := 7) (i := 1) (x := some (H.size + 2)) r4 s4 (by decide) (by decide) k4 (by rw [l4]; exact ib_in (i := 1) (n := 2) (by decide)) (by rw [p5, Option.some.inj (o4.symm.trans v4)]; rfl) z5 (fun q hq => by rw [← h5, Array.getElem?_setIfInBounds_ne (Ne.symm hq)])
  have eT : uAR (nA (uAR (nA (nA σ (101 + 7) 2) (101 + 2) N) H.size (0:Int32).toNatClampNeg (some (H.size + 1))) (101 + 2) N) H.size (1:Int32).toNatClampNeg (some (H.size + 2)) = mT σ N := by
    unfold mT
    rw [hz]
    rfl
  rw [eT] at r5
  have hh : mH H (dA 7) (dA 2) N (.long 0) = H5 := by
    unfold mH
    rw [h1, h2, h3, h4, h5]
  rw [hh]
  have h := kk H5 _ r5 s5
  rw [hz] at h
  exact h
theorem mT_z (σ : CS) (M : Nat) : cZ (mT σ M) = cZ σ + 3 := rfl
theorem mT_s (σ : CS) (M : Nat) : cS (mT σ M) = cS σ + (2 + M + M) := by
  show cS σ + 2 + M + M = _
  omega
end CMU
section CMJ
variable {p : Program} {l : Launch} {e : Env} {R : Room} {s : State} {m : MethodId} {args : Array Value} {below : List Frame} {meth : Method} {c : Code} {nL : Nat} {E : CE} {z0 s0 : Nat} {Q : State → Prop} {ρ : Type} {z : ρ × CS} {X : Option (ρ × CS)} {σ : CS} {pc : Nat} {L L' : List (Nat × Value)} {st st' rest : List Value} {pc' : Nat}
/-- three new cells -/
theorem Jnew3 {σ1 : CS} {n : Nat} {K : CS → Option (ρ × CS)} (hz1 : cZ σ1 = cZ σ + 3) (hs1 : cS σ1 = cS σ + n) (hR : R.cells = cZ z.2 - z0 ∧ R.slots = cS z.2 - s0) (f : ∀ (H : Heap) (locs : List Loc) (ls : Array Slot), hc E σ H → va_S (EA E) s.heap H locs → lv_has ls nL L → cZ σ - z0 + 3 ≤ R.cells → cS σ - s0 + n ≤ R.slots → (∀ (H1 : Heap) (locs1 : List Loc), hc E σ1 H1 → va_S (EA E) s.heap H1 locs1 → W p l e R s m args below meth c H1 locs1 (cZ σ - z0 + 3) (cS σ - s0 + n) Q (F0 m pc' ls st')) → W p l e R s m args below meth c H locs (cZ σ - z0) (cS σ - s0) Q (F0 m pc ls st))
    (k : ∀ σ2, σ2 = σ1 → J p l e R s m args below meth c nL E z0 s0 Q z (K σ2) σ2 pc' L st') : J p l e R s m args below meth c nL E z0 s0 Q z (bd σ1 K) σ pc L st := fun hX => by
  obtain ⟨k1, k2⟩ := k σ1 rfl hX
  rw [hz1, hs1] at k1 k2
  refine ⟨by omega, fun H locs ls hH hS hl hz => f H locs ls hH hS hl (by rw [hR.1]; omega) (by rw [hR.2]; omega) (fun H1 locs1 hH1 hS1 => ?_)⟩
  have h := k2 H1 locs1 ls hH1 hS1 hl (by omega)
  rw [show cZ σ + 3 - z0 = cZ σ - z0 + 3 by omega, show cS σ + n - s0 = cS σ - s0 + n by omega] at h
  exact h
end CMJ
