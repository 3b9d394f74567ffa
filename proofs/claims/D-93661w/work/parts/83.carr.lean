/-! arrays of arrays -/
section CR9
variable {p : Program} {l : Launch} {e : Env} {R : Room} {s : State} {m : MethodId} {args : Array Value} {below : List Frame} {meth : Method} {c : Code} {H : Heap} {locs : List Loc} {cells slots : Nat} {Q : State → Prop}
variable {cc : ByteArray} {pc nL : Nat} {ls : Array Slot} {rest st0 : List Value} {D : va_G} {dA : Nat → ClassId} {A : Nat → Prop} {σ σ1 : CS}
theorem c_newqA (hx : p.tables.exec = Jvm.exec) (hb : c.code = cc) {own C : String} {index : Nat} {ty : FieldType} (hown : s.vm.findClass own = some m.cls) (hC : (FieldType.array ty).toString = C) (hclink : (Cond.classLink own index C).before args s = true) (hover : (Cond.arrayOver (.array ty)).before args s = true) (hK : va_K D vCl (vTy dA) s) (hH : HC D dA A σ H) (hS : va_S A s.heap H locs) (hA : ∀ q, s.heap.size ≤ q → A q) {t : Nat} (ht : t < 9) (ht5 : 5 ≤ t) (hT : (vTy dA)[t]? = some (dA t, .array ty)) {n : Int32} (hn : na n = true) (hcells : cells + 1 ≤ R.cells) (hslots : slots + n.toNatClampNeg ≤ R.slots) (hdg : decode cc pc = .ok (.anewarray index, 3))
    (kk : ∀ (H1 : Heap) (locs1 : List Loc), HC D dA A (nA σ (101 + t) n.toNatClampNeg) H1 → va_S A s.heap H1 locs1 → W p l e R s m args below meth c H1 locs1 (cells + 1) (slots + n.toNatClampNeg) Q (F0 m (pc + 3) ls (.ref (cZ σ) :: rest))) : W p l e R s m args below meth c H locs cells slots Q (F0 m pc ls (.int n :: rest)) := by
  subst hC
  have hb2 := na_2 hn
  refine W.anewA (t := ty) hx hb hown hclink hover rfl hdg rfl (na_1 hn) (by omega) hcells hslots fun cA kA comp f1 f2 f3 f4 => ?_
  have hcA : cA = dA t := Option.some.inj (f1.symm.trans (hK.2 t _ hT).2)
  subst hcA
  generalize hH1 : H.push ({ cls := dA t, slots := Array.replicate n.toNatClampNeg .null, vm := .none } : Cell) = H1
  have z1 : H1.size = H.size + 1 := by rw [← hH1, Array.size_push]
  have e1 : H1[H.size]? = some (arrV (dA t) n.toNatClampNeg (fun _ => .null)) := by rw [← hH1, Array.getElem?_push_size, ← arrV_new]
  have o1 : ∀ q : Nat, q < H.size → H1[q]? = H[q]? := fun q hq => by rw [← hH1, Array.getElem?_push, if_neg (Nat.ne_of_lt hq)]
  obtain ⟨r1, r2⟩ := c_newA0 (t := t) (n := n.toNatClampNeg) hH hS hA ht (by
    rw [e1, cCon_nA, if_neg (by omega), if_pos ht5, vp_cell_q]
    rfl) z1 o1
  have h := kk H1 locs r1 r2
  rw [← hH.1] at h
  exact h
/-- a char array is laid into a char[][] -/
theorem c_aastC (hx : p.tables.exec = Jvm.exec) (hb : c.code = cc) (hover : (Cond.arrayOver (.array .char)).before args s = true) (hK : va_K D vCl (vTy dA) s) (hH : HC D dA A σ H) (hS : va_S A s.heap H locs) {a v : Nat} (hk : kd σ a 109 = true) (hv : kd σ v 105 = true) {i : Int32} (hi : ib i (cLN σ a) = true) (hdg : decode cc pc = .ok (.aastore, 1))
    (kk : ∀ (H1 : Heap) (locs1 : List Loc), HC D dA A (uAR σ a i.toNatClampNeg (some v)) H1 → va_S A s.heap H1 locs1 → W p l e R s m args below meth c H1 locs1 cells slots Q (F0 m (pc + 1) ls rest)) : W p l e R s m args below meth c H locs cells slots Q (F0 m pc ls (.ref v :: .int i :: .ref a :: rest)) := by
  have hka := kd_eq hk
  have hin := ib_in hi
  have hlt : i.toNatClampNeg < cLN σ a := Nat.not_le.mp fun q => hin (Or.inr q)
  have h0 : ¬ i < 0 := fun q => hin (Or.inl q)
  have hc := hH.arrR (t := 8) (by decide) (by decide) hka
  have hcv := hH.arr (t := 4) (kd_eq hv) (by decide)
  have hcv : H[v]? = some (vp_cell (dA 4) (cLN σ v, .inl (cAI σ v))) := hcv
  obtain ⟨comp, cA, kA, f1, -, f3, f4, f5⟩ := arrayOverA_spec hover
  have e8 : cA = dA 8 := Option.some.inj (f5.symm.trans (hK.2 8 _ rfl).2)
  have e4 : comp = dA 4 := Option.some.inj (f1.symm.trans (hK.2 4 _ rfl).2)
  subst e8; subst e4
  obtain ⟨kc, hkc⟩ := Vm.classAt_of_findClass f1
  have hasg : s.vm.assignable (dA 4) (dA 4) = true := by
    unfold Vm.assignable
    rw [show (256 : Nat) = 255 + 1 from rfl, Vm.assignableAux]
    simp only [beq_self_eq_true, Bool.true_or]
  refine W.aast hx hb hc (fun q h => by cases h) (fun h => by cases h) (show s.vm.classes[dA 8]? = some kA from f3) f4 rfl hkc ⟨h0, by show _ < (arrV _ _ _).slots.size; rw [arrV_size]; exact hlt⟩ hcv (fun q h => by cases h) (show s.vm.classes[dA 4]? = some kc from hkc) hasg rfl rfl hdg fun H1 e z oq => ?_
  obtain ⟨r1, r2⟩ := c_aast0 (x := some v) hH hS (t := 8) (by decide) (by decide) hka hin e z oq
  exact kk H1 _ r1 r2
end CR9
