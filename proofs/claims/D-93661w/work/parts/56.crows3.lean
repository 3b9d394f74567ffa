/-! rows of the component: new cells, calls, small helps -/
theorem fvR {σ : CS} {a F q : Nat} (hr : fRef F = true) (h : cFR σ a F = some q) : fv σ a F = .ref q := by
  unfold fv
  rw [hr, h]
  rfl
def na (n : Int32) : Bool := !(decide (n < 0)) && decide (n.toNatClampNeg ≤ 1000000)
theorem na_1 {n : Int32} (h : na n = true) : ¬ n < 0 := by
  unfold na at h
  rw [Bool.and_eq_true, Bool.not_eq_true', decide_eq_false_iff_not] at h
  exact h.1
theorem na_2 {n : Int32} (h : na n = true) : n.toNatClampNeg ≤ 1000000 := by
  unfold na at h
  rw [Bool.and_eq_true, decide_eq_true_iff] at h
  exact h.2
/-- kinds that may go into an Object[] -/
def elO (c : Nat) : Bool := [1, 2, 3, 4, 5, 6, 7, 8, 9, 10, 11, 12, 13, 14, 15, 16, 17, 18, 19, 20].contains c
theorem elO_spec {c : Nat} (h : elO c = true) : ∃ (ci : Nat) (C : String) (T : u_T) (N : Nat), c = ci + 1 ∧ vCl[ci]? = some (C, T, N) ∧ ∀ U : State, (∀ w ∈ cNw, va_Nw w U) → va_Nw (.castable C "java/lang/Object") U := by
  unfold elO at h
  rw [List.contains_iff_mem] at h
  simp only [List.mem_cons, List.not_mem_nil, or_false] at h
  rcases h with rfl | rfl | rfl | rfl | rfl | rfl | rfl | rfl | rfl | rfl | rfl | rfl | rfl | rfl | rfl | rfl | rfl | rfl | rfl | rfl
  · exact ⟨0, RX4, TX4, 24, rfl, rfl, fun U h => cN h 83 rfl⟩
  · exact ⟨1, RX0, TX0, 19, rfl, rfl, fun U h => cN h 25 rfl⟩
  · exact ⟨2, RX1, TX1, 6, rfl, rfl, fun U h => cN h 34 rfl⟩
  · exact ⟨3, RX2, TX2, 6, rfl, rfl, fun U h => cN h 78 rfl⟩
  · exact ⟨4, RX3, TX3, 5, rfl, rfl, fun U h => cN h 82 rfl⟩
  · exact ⟨5, RX5, TX5, 7, rfl, rfl, fun U h => cN h 84 rfl⟩
  · exact ⟨6, RX6, TX6, 7, rfl, rfl, fun U h => cN h 86 rfl⟩
  · exact ⟨7, RX7, TX7, 1, rfl, rfl, fun U h => cN h 88 rfl⟩
  · exact ⟨8, RX8, TX8, 3, rfl, rfl, fun U h => cN h 90 rfl⟩
  · exact ⟨9, RX9, TX9, 3, rfl, rfl, fun U h => cN h 92 rfl⟩
  · exact ⟨10, RX10, TX10, 3, rfl, rfl, fun U h => cN h 38 rfl⟩
  · exact ⟨11, RX11, TX11, 3, rfl, rfl, fun U h => cN h 46 rfl⟩
  · exact ⟨12, RX12, TX12, 4, rfl, rfl, fun U h => cN h 49 rfl⟩
  · exact ⟨13, RX13, TX13, 5, rfl, rfl, fun U h => cN h 53 rfl⟩
  · exact ⟨14, RX14, TX14, 5, rfl, rfl, fun U h => cN h 57 rfl⟩
  · exact ⟨15, RX15, TX15, 4, rfl, rfl, fun U h => cN h 60 rfl⟩
  · exact ⟨16, RX16, TX16, 6, rfl, rfl, fun U h => cN h 63 rfl⟩
  · exact ⟨17, RX17, TX17, 5, rfl, rfl, fun U h => cN h 67 rfl⟩
  · exact ⟨18, RX18, TX18, 8, rfl, rfl, fun U h => cN h 76 rfl⟩
  · exact ⟨19, RJ2, TJ2, 3, rfl, rfl, fun U h => cN h 1 rfl⟩
section CR3
variable {p : Program} {l : Launch} {e : Env} {R : Room} {s : State} {m : MethodId} {args : Array Value} {below : List Frame} {meth : Method} {c : Code} {H : Heap} {locs : List Loc} {cells slots : Nat} {Q : State → Prop}
variable {cc : ByteArray} {pc nL : Nat} {ls : Array Slot} {rest st0 : List Value} {D : va_G} {dA : Nat → ClassId} {A : Nat → Prop} {σ σ1 : CS}
theorem up1_s {α : Type} {f : Nat → α} {a : Nat} {v : α} : up1 f a v a = v := by simp [up1]
theorem up1_n {α : Type} {f : Nat → α} {a b : Nat} {v : α} (h : b ≠ a) : up1 f a v b = f b := by simp [up1, h]
theorem fv_nO {c n b F : Nat} : fv (nO σ c n) b F = if b = cZ σ then cond (fRef F) .null (.int 0) else fv σ b F := by
  unfold fv
  show cond (fRef F) (va_rf (up1 (cFR σ) (cZ σ) (fun _ => none) b F)) (.int (up1 (cFI σ) (cZ σ) (fun _ => 0) b F)) = _
  by_cases h : b = cZ σ
  · subst h
    simp [up1, va_rf]
  · simp [up1, h]
theorem c_new (hx : p.tables.exec = Jvm.exec) (hb : c.code = cc) (hts : ∀ w ∈ lw_all, w.before args s = true) {own C : String} (hown : s.vm.findClass own = some m.cls) (hK : va_K D vCl (vTy dA) s) (hH : HC D dA A σ H) (hS : va_S A s.heap H locs) (hA : ∀ q, s.heap.size ≤ q → A q) {T : u_T} {N ci index : Nat} (hin : ∀ w ∈ u_ws C T N, w ∈ lw_all) (ty : Nat → FieldType) (hty : ∀ k, k < N → parseFieldDescriptor (T k).2.2.1 = some (ty k)) (hdf : ∀ k, k < N → defaultValue (ty k) = cond (fRef (fid ci k)) .null (.int 0)) (hcl : (Cond.classLink own index C).before args s = true) (hinst : (Cond.instantiable C N).before args s = true) (hini : (Cond.initialized C).before args s = true) (hc : vCl[ci]? = some (C, T, N)) (hcells : cells + 1 ≤ R.cells) (hslots : slots + N ≤ R.slots) (hdg : decode cc pc = .ok (.new index, 3))
    (kk : ∀ (H1 : Heap) (locs1 : List Loc), HC D dA A (nO σ (ci + 1) N) H1 → va_S A s.heap H1 locs1 → W p l e R s m args below meth c H1 locs1 (cells + 1) (slots + N) Q (F0 m (pc + 3) ls (.ref (cZ σ) :: rest))) : W p l e R s m args below meth c H locs cells slots Q (F0 m pc ls rest) := by
  have hKn := hK.1 ci _ hc
  have hci : ci < 20 := (List.getElem?_eq_some_iff.mp hc).1
  refine W.newcK hx hb hown hcl hinst hini rfl hdg hcells hslots hKn.2.1 hH.1 fun H1 kC hkC e1 z1 o1 => ?_
  rw [← hH.1] at e1 z1 o1
  refine kk H1 locs (hH.new (c := ci + 1) (hA _ hS.1) z1 o1 rfl rfl (fun b hb => ⟨fun F => by rw [fv_nO, if_neg hb], rfl, fun _ => rfl⟩) ⟨fun ci' C' T' N' e' hc' => ?_, fun t ht e' => ?_⟩) ⟨Nat.le_trans hS.1 (by omega), fun x h1 h2 => (o1 x (Nat.lt_of_lt_of_le h1 hS.1)).trans (hS.2.1 x h1 h2), hS.2.2⟩
  · have e'' : up1 (cK σ) (cZ σ) (ci + 1) H.size = ci' + 1 := e'
    rw [hH.1, up1_s] at e''
    have ec : ci' = ci := by omega
    subst ec
    cases hc.symm.trans hc'
    refine (u_born ty hts hin hKn hkC e1 hty).to (fun k hk => ?_)
    rw [hdf k hk, fv_nO, if_pos hH.1]
  · have e'' : up1 (cK σ) (cZ σ) (ci + 1) H.size = 101 + t := e'
    rw [hH.1, up1_s] at e''
    omega
/-- a new array, its cell given -/
theorem c_newA0 {t n : Nat} {H1 : Heap} (hH : HC D dA A σ H) (hS : va_S A s.heap H locs) (hA : ∀ q, s.heap.size ≤ q → A q) (ht : t < 9) (e1 : H1[H.size]? = some (vp_cell (dA t) (n, cCon (nA σ (101 + t) n) (cZ σ) t))) (z1 : H1.size = H.size + 1) (o1 : ∀ q : Nat, q < H.size → H1[q]? = H[q]?) : HC D dA A (nA σ (101 + t) n) H1 ∧ va_S A s.heap H1 locs := by
  refine ⟨hH.new (c := 101 + t) (hA _ hS.1) z1 o1 rfl rfl (fun b hb => ⟨fun F => rfl, up1_n hb, fun t' => ?_⟩) ⟨fun ci' C' T' N' e' hc' => ?_, fun t' ht' e' => ?_⟩, ⟨Nat.le_trans hS.1 (by omega), fun x h1 h2 => (o1 x (Nat.lt_of_lt_of_le h1 hS.1)).trans (hS.2.1 x h1 h2), hS.2.2⟩⟩
  · unfold cCon
    have h1 : cAL (nA σ (101 + t) n) b = cAL σ b := up1_n hb
    have h2 : cAR (nA σ (101 + t) n) b = cAR σ b := up1_n hb
    have h3 : cAI (nA σ (101 + t) n) b = cAI σ b := up1_n hb
    rw [h1, h2, h3]
  · have hci : ci' < 20 := (List.getElem?_eq_some_iff.mp hc').1
    have e'' : up1 (cK σ) (cZ σ) (101 + t) H.size = ci' + 1 := e'
    rw [hH.1, up1_s] at e''
    omega
  · have e'' : up1 (cK σ) (cZ σ) (101 + t) H.size = 101 + t' := e'
    rw [hH.1, up1_s] at e''
    have et : t' = t := by omega
    subst et
    have hl : cLN (nA σ (101 + t') n) (cZ σ) = n := up1_s
    refine Or.inr ?_
    rw [e1, hH.1, hl]
theorem cCon_nA {t n : Nat} : cCon (nA σ (101 + t) n) (cZ σ) t = if t = 2 then .inr (.inl (fun _ => 0)) else if 5 ≤ t then .inr (.inr (.inr (.inr (fun _ => none)))) else .inl (fun _ => 0) := by
  unfold cCon
  have h1 : cAL (nA σ (101 + t) n) (cZ σ) = fun _ => 0 := up1_s
  have h2 : cAR (nA σ (101 + t) n) (cZ σ) = fun _ => none := up1_s
  have h3 : cAI (nA σ (101 + t) n) (cZ σ) = fun _ => 0 := up1_s
  rw [h1, h2, h3]
/-- a new array of numbers; the class that the machine makes is the known one -/
theorem c_newa (hx : p.tables.exec = Jvm.exec) (hb : c.code = cc) (hts : ∀ w ∈ lw_all, w.before args s = true) (hK : va_K D vCl (vTy dA) s) (hH : HC D dA A σ H) (hS : va_S A s.heap H locs) (hA : ∀ q, s.heap.size ≤ q → A q) {atype : ArrayType} {ty : FieldType} {t : Nat} (ht : t < 5) (hty : newarray.typeOf atype = ty) (hT : (vTy dA)[t]? = some (dA t, ty)) (hnm : va_RA s (dA t) ty → s.vm.findClass ("[" ++ ty.toString) = some (dA t)) (hdv : defaultValue ty = if t = 2 then .long 0 else .int 0) (hby : componentBytes ty ≤ 8) (harr : Cond.arrayClass ty ∈ lw_all) {n : Int32} (hn : na n = true) (hcells : cells + 1 ≤ R.cells) (hslots : slots + n.toNatClampNeg ≤ R.slots) (hdg : decode cc pc = .ok (.newarray atype, 2))
    (kk : ∀ (H1 : Heap) (locs1 : List Loc), HC D dA A (nA σ (101 + t) n.toNatClampNeg) H1 → va_S A s.heap H1 locs1 → W p l e R s m args below meth c H1 locs1 (cells + 1) (slots + n.toNatClampNeg) Q (F0 m (pc + 2) ls (.ref (cZ σ) :: rest))) : W p l e R s m args below meth c H locs cells slots Q (F0 m pc ls (.int n :: rest)) := by
  subst hty
  have hb2 := na_2 hn
  refine va_newaK hx hb (hts _ harr) rfl hdg rfl (na_1 hn) rfl (Nat.le_trans (Nat.mul_le_mul hb2 hby) (by decide)) hcells hslots hH.1 fun H1 cA e1 z1 o1 hAr hNm => ?_
  have hcA : cA = dA t := Option.some.inj (hNm.symm.trans (hnm (hK.2 t _ hT).2))
  subst hcA
  rw [← hH.1] at e1 z1 o1
  obtain ⟨r1, r2⟩ := c_newA0 (t := t) (n := n.toNatClampNeg) hH hS hA (by omega) (by
    rw [e1, cCon_nA, hdv]
    by_cases h2 : t = 2
    · rw [if_pos h2, if_pos h2, vp_cell_l]
    · rw [if_neg h2, if_neg h2, if_neg (by omega), vp_cell_i]) z1 o1
  exact kk H1 locs r1 r2
/-- a new array of objects -/
theorem c_newq (hx : p.tables.exec = Jvm.exec) (hb : c.code = cc) {own C : String} {index : Nat} (hown : s.vm.findClass own = some m.cls) (hclink : (Cond.classLink own index C).before args s = true) (hover : va_AO C s) (hK : va_K D vCl (vTy dA) s) (hH : HC D dA A σ H) (hS : va_S A s.heap H locs) (hA : ∀ q, s.heap.size ≤ q → A q) {t : Nat} (ht : t < 9) (ht5 : 5 ≤ t) (hT : (vTy dA)[t]? = some (dA t, .object C)) {n : Int32} (hn : na n = true) (hcells : cells + 1 ≤ R.cells) (hslots : slots + n.toNatClampNeg ≤ R.slots) (hdg : decode cc pc = .ok (.anewarray index, 3))
    (kk : ∀ (H1 : Heap) (locs1 : List Loc), HC D dA A (nA σ (101 + t) n.toNatClampNeg) H1 → va_S A s.heap H1 locs1 → W p l e R s m args below meth c H1 locs1 (cells + 1) (slots + n.toNatClampNeg) Q (F0 m (pc + 3) ls (.ref (cZ σ) :: rest))) : W p l e R s m args below meth c H locs cells slots Q (F0 m pc ls (.int n :: rest)) := by
  have hb2 := na_2 hn
  refine W.anew hx hb hown hclink (va_AO.use hover) rfl hdg rfl (na_1 hn) (by omega) hcells hslots fun cA kA comp f1 f2 f3 f4 => ?_
  have hcA : cA = dA t := Option.some.inj (f1.symm.trans (va_nmO (hK.2 t _ hT).2 rfl))
  subst hcA
  generalize hH1 : H.push ({ cls := dA t, slots := Array.replicate n.toNatClampNeg .null, vm := .none } : Cell) = H1
  have z1 : H1.size = H.size + 1 := by rw [← hH1, Array.size_push]
  have e1 : H1[H.size]? = some (arrV (dA t) n.toNatClampNeg (fun _ => .null)) := by rw [← hH1, Array.getElem?_push_size, ← arrV_new]
  have o1 : ∀ q : Nat, q < H.size → H1[q]? = H[q]? := fun q hq => by rw [← hH1, Array.getElem?_push, if_neg (Nat.ne_of_lt hq)]
  obtain ⟨r1, r2⟩ := c_newA0 (t := t) (n := n.toNatClampNeg) hH hS hA ht (by
    rw [e1, cCon_nA, if_neg (by omega), if_pos ht5, vp_cell_q]
    rfl) z1 o1
  have h := kk H1 locs r1 r2
  rw [← hH.1] at h
  exact h
variable {E : CE} {As av : List Value}
theorem c_recv (hK : va_K D vCl (vTy dA) s) (hH : HC D dA A σ H) {a ci : Nat} {C : String} {T : u_T} {N : Nat} (hk : kd σ a (ci + 1) = true) (hc : vCl[ci]? = some (C, T, N)) : ∃ cell : Cell, H[a]? = some cell ∧ cell.vm.isStatics = false ∧ s.vm.findClass C = some cell.cls := by
  obtain ⟨cell, g1, g2, g3, -⟩ := hH.obj (kd_eq hk) hc
  exact ⟨cell, g1, by rw [g3]; rfl, by rw [g2]; exact (hK.1 ci _ hc).2.1⟩
theorem c_preV (hk : kc E s) (hH : hc E σ H) (hS : va_S (EA E) s.heap H locs) {a ci : Nat} {C : String} {T : u_T} {N : Nat} (hg : kd σ a (ci + 1) = true) (hc : vCl[ci]? = some (C, T, N)) : PreV s H C a (cPc E σ (.ref a :: As)) As :=
  ⟨fun a U g mk q => by obtain ⟨q0, q1, q2⟩ := q; exact ⟨q0, q1, q2.blind⟩, c_recv hk.1 hH hg hc, fun U hU hW => ⟨rfl, by rw [hU]; exact hH, hk.call hS hU hW⟩⟩
theorem c_preS (hk : kc E s) (hH : hc E σ H) (hS : va_S (EA E) s.heap H locs) : PreS s H (cPc E σ As) As :=
  ⟨fun a U g mk q => by obtain ⟨q0, q1, q2⟩ := q; exact ⟨q0, q1, q2.blind⟩, fun U hU hW => ⟨rfl, by rw [hU]; exact hH, hk.call hS hU hW⟩⟩
variable {z0 s0 : Nat} {ρ : Type} {z : ρ × CS} {X : Option (ρ × CS)} {L L' : List (Nat × Value)} {st : List Value}
theorem Jsub (ks : List Nat) (h : lv_pick L ks = L') (k : J p l e R s m args below meth c nL E z0 s0 Q z X σ pc L' st) : J p l e R s m args below meth c nL E z0 s0 Q z X σ pc L st :=
  fun hX => ⟨(k hX).1, fun H locs ls hH hS hl hz => (k hX).2 H locs ls hH hS (lv_sub hl ks h) hz⟩
theorem Jto {st' : List Value} {σ' : CS} (e1 : st' = st) (e2 : L' = L) (k : J p l e R s m args below meth c nL E z0 s0 Q z X σ pc L' st') : J p l e R s m args below meth c nL E z0 s0 Q z X σ pc L st := by rw [← e1, ← e2]; exact k
end CR3
