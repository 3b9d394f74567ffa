/-! System.arraycopy over the component's heap (printed by gen/copy.py) -/
def cpI (σ : CS) (a0 a sp dp n : Nat) : CS := (σ.1, σ.2.1, σ.2.2.1, σ.2.2.2.1, up1 σ.2.2.2.2.1 a (va_cpy (cAI σ a0) (cAI σ a) sp dp n), σ.2.2.2.2.2)
def cpR (σ : CS) (a0 a sp dp n : Nat) : CS := (σ.1, σ.2.1, σ.2.2.1, σ.2.2.2.1, σ.2.2.2.2.1, σ.2.2.2.2.2.1, up1 σ.2.2.2.2.2.2.1 a (va_cpy (cAR σ a0) (cAR σ a) sp dp n), σ.2.2.2.2.2.2.2)
/-- the stretch lies within -/
def cpb (σ : CS) (a0 a : Nat) (sp dp n : Int32) : Bool := !(decide (sp < 0)) && (!(decide (dp < 0)) && (!(decide (n < 0)) && (decide (sp.toNatClampNeg + n.toNatClampNeg ≤ cLN σ a0) && (decide (dp.toNatClampNeg + n.toNatClampNeg ≤ cLN σ a) && (decide (0 < cLN σ a) && decide (0 < cLN σ a0))))))
theorem cpb_s {σ : CS} {a0 a : Nat} {sp dp n : Int32} (h : cpb σ a0 a sp dp n = true) : ¬ sp < 0 ∧ ¬ dp < 0 ∧ ¬ n < 0 ∧ sp.toNatClampNeg + n.toNatClampNeg ≤ cLN σ a0 ∧ dp.toNatClampNeg + n.toNatClampNeg ≤ cLN σ a ∧ 0 < cLN σ a ∧ 0 < cLN σ a0 := by
  unfold cpb at h
  simp only [Bool.and_eq_true, Bool.not_eq_true', decide_eq_false_iff_not, decide_eq_true_eq] at h
  exact h
def fitR (f : Nat → Int32) (sp n : Nat) : Bool := (List.range n).all (fun i => fits .byte (.int (f (sp + i))))
theorem fitR_s {f : Nat → Int32} {sp n : Nat} (h : fitR f sp n = true) : ∀ i, i < n → fits .byte (.int (f (sp + i))) = true := fun i hi => List.all_eq_true.mp h i (List.mem_range.mpr hi)
def elR (σ : CS) (a sp n : Nat) : Bool := (List.range n).all (fun i => match cAR σ a (sp + i) with
  | none => true
  | some y => elO (cK σ y))
theorem elR_s {σ : CS} {a sp n : Nat} (h : elR σ a sp n = true) : ∀ i, i < n → ∀ y, cAR σ a (sp + i) = some y → elO (cK σ y) = true := fun i hi y hy => by
  have h1 := List.all_eq_true.mp h i (List.mem_range.mpr hi)
  simp only [hy] at h1
  exact h1
theorem nn_i : ∀ z : Int32, ¬ z < 0 → z.toInt = (z.toNatClampNeg : Int) := by
  intro z hz
  have hz0 : (0 : Int) ≤ z.toInt := by
    have := Int32.not_lt.mp hz
    simpa using Int32.le_iff_toInt_le.mp this
  show z.toInt = ((z.toInt.toNat : Nat) : Int)
  omega
section CPY
variable {p : Program} {l : Launch} {e : Env} {R : Room} {s : State} {m : MethodId} {args : Array Value} {below : List Frame} {meth : Method} {c : Code} {H : Heap} {locs : List Loc} {cells slots : Nat} {Q : State → Prop}
variable {cc : ByteArray} {pc nL : Nat} {ls : Array Slot} {rest st0 : List Value} {D : va_G} {dA : Nat → ClassId} {A : Nat → Prop} {σ σ1 : CS}
theorem c_copyI (hx : p.tables.exec = Jvm.exec) (hb : c.code = cc) (hml : c.maxLocals = ls.size) {own : String} {index : Nat} (hown : s.vm.findClass own = some m.cls) (hlink : (Cond.methodLink own index arraycopyName).before args s = true) (hnat : (Cond.native arraycopyName).before args s = true) (hstat : (Cond.static arraycopyName).before args s = true) (hini : (Cond.initialized "java/lang/System").before args s = true) (hK : va_K D vCl (vTy dA) s) (hH : HC D dA A σ H) (hS : va_S A s.heap H locs) {a0 a : Nat} {sp dp n : Int32} (hbd : cpb σ a0 a sp dp n = true) {t : Nat} (ht : t = 0 ∨ t = 3) {ty : FieldType} (hty : (vTy dA)[t]? = some (dA t, ty)) (hprim : refKind ty = false) (hfit : ∀ i, i < n.toNatClampNeg → fits ty (.int (cAI σ a0 (sp.toNatClampNeg + i))) = true) (hk0 : kd σ a0 (101 + t) = true) (hk1 : kd σ a (101 + t) = true)
    (hframes : 1 ≤ R.frames) (hlocals : (rest.map fun v => v.category).sum + (nativeFrameWords "java/lang/System" "arraycopy" 5 + 11) ≤ R.locals) (hdg : decode cc pc = .ok (.invokestatic index, 3))
    (kk : ∀ (H1 : Heap) (locs1 : List Loc), HC D dA A (cpI σ a0 a sp.toNatClampNeg dp.toNatClampNeg n.toNatClampNeg) H1 → va_S A s.heap H1 locs1 → W p l e R s m args below meth c H1 locs1 cells slots Q (F0 m (pc + 3) ls rest)) : W p l e R s m args below meth c H locs cells slots Q (F0 m pc ls (.int n :: .int dp :: .ref a :: .int sp :: .ref a0 :: rest)) := by
  obtain ⟨h1, h2, h3, h4, h5, h6, h7⟩ := cpb_s hbd
  have e0 := kd_eq hk0
  have ea := kd_eq hk1
  have hAa : A a := by
    rcases (hH.2.1 a (by rw [ea]; omega)).1 with q | q
    · exact q
    · omega
  have hc0 : H[a0]? = some (vp_cell (dA t) (cLN σ a0, .inl (cAI σ a0))) := by
    have h := hH.arr e0 (by omega) (Or.inr h7)
    rcases ht with r | r <;> subst r <;> exact h
  have hc1 : H[a]? = some (vp_cell (dA t) (cLN σ a, .inl (cAI σ a))) := by
    have h := hH.arr ea (by omega) (Or.inr h6)
    rcases ht with r | r <;> subst r <;> exact h
  have htt : t < 9 := by omega
  intro T hT X
  obtain ⟨-, k0, hkk0, cm0, hq0⟩ := (hK.2 t _ hty).1 (cLN σ a0) (fun j => .int (cAI σ a0 j))
  obtain ⟨-, k1, hkk1, cm1, hq1⟩ := (hK.2 t _ hty).1 (cLN σ a) (fun j => .int (cAI σ a j))
  obtain ⟨vm', X', step⟩ := X.arraycopy hx hown hlink hnat hstat hini (src := a0) (dst := a) (cs := vp_cell (dA t) (cLN σ a0, .inl (cAI σ a0))) (cd := vp_cell (dA t) (cLN σ a, .inl (cAI σ a))) (srcPos := sp) (destPos := dp) (n := n) (by rw [hT]; exact hc0) (by rw [hT]; exact hc1)
    (fun _ h => by cases h) (fun _ h => by cases h) (fun h => by cases h) (fun h => by cases h) hkk0 hkk1 hq0 hq1 (by simp [hprim]) h1 h2 h3
    (by rw [nn_i sp h1, nn_i n h3]; show ¬ _ > ((arrV (dA t) (cLN σ a0) (fun j => .int (cAI σ a0 j))).slots.size : Int); rw [arrV_size]; omega)
    (by rw [nn_i dp h2, nn_i n h3]; show ¬ _ > ((arrV (dA t) (cLN σ a) (fun j => .int (cAI σ a j))).slots.size : Int); rw [arrV_size]; omega)
    (fun vm₁ hal i hi => by
      have e : (vp_cell (dA t) (cLN σ a0, .inl (cAI σ a0))).slots.getD (sp.toNatClampNeg + i) .null = .int (cAI σ a0 (sp.toNatClampNeg + i)) := by
        show (arrV (dA t) (cLN σ a0) (fun j => .int (cAI σ a0 j))).slots.getD _ _ = _
        rw [Array.getD_eq_getD_getElem?, arrV_read _ _ (by omega)]
        rfl
      rw [e]
      exact ⟨hfit i hi, trivial⟩)
    (g := F0 m pc ls (.int n :: .int dp :: .ref a :: .int sp :: .ref a0 :: rest)) rfl (by rw [hml]) (rest := rest) rfl (by rw [hb]; exact hdg) hframes (by show 2 * 0 + _ + _ ≤ _; omega)
  have e1 : copied (vp_cell (dA t) (cLN σ a0, .inl (cAI σ a0))) (vp_cell (dA t) (cLN σ a, .inl (cAI σ a))) sp dp n = vp_cell (dA t) (cLN σ a, .inl (va_cpy (cAI σ a0) (cAI σ a) sp.toNatClampNeg dp.toNatClampNeg n.toNatClampNeg)) := va_copied (fun z => .int z) (dA t) (dA t) (cAI σ a0) (cAI σ a) h4
  rw [e1] at X' step
  have hl : a < H.size := (Array.getElem?_eq_some_iff.mp hc1).1
  generalize hHn : H.setIfInBounds a (vp_cell (dA t) (cLN σ a, .inl (va_cpy (cAI σ a0) (cAI σ a) sp.toNatClampNeg dp.toNatClampNeg n.toNatClampNeg))) = Hn
  have hheap : ((T.setVm vm').setCell a (vp_cell (dA t) (cLN σ a, .inl (va_cpy (cAI σ a0) (cAI σ a) sp.toNatClampNeg dp.toNatClampNeg n.toNatClampNeg)))).heap = Hn := by rw [← hHn, ← hT]; rfl
  have oq : ∀ q : Nat, q ≠ a → Hn[q]? = H[q]? := fun q hq => by rw [← hHn]; simp [Array.getElem?_setIfInBounds, Ne.symm hq]
  have ev : Hn[a]? = some (vp_cell (dA t) (cLN σ a, .inl (va_cpy (cAI σ a0) (cAI σ a) sp.toNatClampNeg dp.toNatClampNeg n.toNatClampNeg))) := by rw [← hHn]; simp [Array.getElem?_setIfInBounds, hl]
  have zz : Hn.size = H.size := by rw [← hHn]; simp
  obtain ⟨t, a1, b1⟩ := kk Hn _ (hH.upd zz oq rfl rfl rfl (fun b hb => ⟨fun _ => rfl, fun t => by
      unfold cCon
      have : cAI (cpI σ a0 a sp.toNatClampNeg dp.toNatClampNeg n.toNatClampNeg) b = cAI σ b := up1_n hb
      rw [this]; rfl⟩) ⟨fun ci Cv Tv Nv e' hc' => by
        have h20 : ci < 20 := (List.getElem?_eq_some_iff.mp hc').1
        have e'' : cK σ a = ci + 1 := e'
        omega, fun t' ht' e' => by
        have e'' : cK σ a = 101 + t' := e'
        have et : t' = t := by omega
        subst et
        refine Or.inr ?_
        rw [ev]
        have ec : cCon (cpI σ a0 a sp.toNatClampNeg dp.toNatClampNeg n.toNatClampNeg) a t' = .inl (va_cpy (cAI σ a0) (cAI σ a) sp.toNatClampNeg dp.toNatClampNeg n.toNatClampNeg) := by
          unfold cCon
          have h9 : cAI (cpI σ a0 a sp.toNatClampNeg dp.toNatClampNeg n.toNatClampNeg) a = va_cpy (cAI σ a0) (cAI σ a) sp.toNatClampNeg dp.toNatClampNeg n.toNatClampNeg := up1_s
          rw [h9]
          rw [if_neg (by omega), if_neg (by omega)]
        rw [ec]; rfl⟩) ⟨by rw [zz]; exact hS.1, fun q g1 g2 => by
      rw [oq q (fun e => g2 (by rw [e]; exact hAa))]
      exact hS.2.1 q g1 g2, fun q hq => by
      rcases List.mem_append.mp hq with h | h
      · exact hS.2.2 q h
      · obtain ⟨z, -, hz⟩ := List.mem_map.mp h
        rw [← hz]
        exact hAa⟩ _ hheap X'
  exact ⟨t, step t a1, b1⟩
theorem c_copyR (hx : p.tables.exec = Jvm.exec) (hb : c.code = cc) (hml : c.maxLocals = ls.size) {own : String} {index : Nat} (hown : s.vm.findClass own = some m.cls) (hlink : (Cond.methodLink own index arraycopyName).before args s = true) (hnat : (Cond.native arraycopyName).before args s = true) (hstat : (Cond.static arraycopyName).before args s = true) (hini : (Cond.initialized "java/lang/System").before args s = true) (hK : va_K D vCl (vTy dA) s) (hH : HC D dA A σ H) (hS : va_S A s.heap H locs) {a0 a : Nat} {sp dp n : Int32} (hbd : cpb σ a0 a sp dp n = true) (hw : ∀ w ∈ cNw, va_Nw w s) (hel : elR σ a0 sp.toNatClampNeg n.toNatClampNeg = true) (hk0 : kd σ a0 (106) = true) (hk1 : kd σ a (106) = true)
    (hframes : 1 ≤ R.frames) (hlocals : (rest.map fun v => v.category).sum + (nativeFrameWords "java/lang/System" "arraycopy" 5 + 11) ≤ R.locals) (hdg : decode cc pc = .ok (.invokestatic index, 3))
    (kk : ∀ (H1 : Heap) (locs1 : List Loc), HC D dA A (cpR σ a0 a sp.toNatClampNeg dp.toNatClampNeg n.toNatClampNeg) H1 → va_S A s.heap H1 locs1 → W p l e R s m args below meth c H1 locs1 cells slots Q (F0 m (pc + 3) ls rest)) : W p l e R s m args below meth c H locs cells slots Q (F0 m pc ls (.int n :: .int dp :: .ref a :: .int sp :: .ref a0 :: rest)) := by
  obtain ⟨h1, h2, h3, h4, h5, h6, h7⟩ := cpb_s hbd
  have e0 := kd_eq hk0
  have ea := kd_eq hk1
  have hAa : A a := by
    rcases (hH.2.1 a (by rw [ea]; omega)).1 with q | q
    · exact q
    · omega
  have hc0 := hH.arrR (t := 5) (by decide) (by decide) e0 (Or.inr h7)
  have hc1 := hH.arrR (t := 5) (by decide) (by decide) ea (Or.inr h6)
  have hty : (vTy dA)[5]? = some (dA 5, .object "java/lang/Object") := rfl
  intro T hT X
  obtain ⟨-, k0, hkk0, cm0, hq0⟩ := (hK.2 5 _ hty).1 (cLN σ a0) (fun j => va_rf (cAR σ a0 j))
  obtain ⟨-, k1, hkk1, cm1, hq1⟩ := (hK.2 5 _ hty).1 (cLN σ a) (fun j => va_rf (cAR σ a j))
  obtain ⟨vm', X', step⟩ := X.arraycopy hx hown hlink hnat hstat hini (src := a0) (dst := a) (cs := vp_cell (dA 5) (cLN σ a0, .inr (.inr (.inr (.inr (cAR σ a0)))))) (cd := vp_cell (dA 5) (cLN σ a, .inr (.inr (.inr (.inr (cAR σ a)))))) (srcPos := sp) (destPos := dp) (n := n) (by rw [hT]; exact hc0) (by rw [hT]; exact hc1)
    (fun _ h => by cases h) (fun _ h => by cases h) (fun h => by cases h) (fun h => by cases h) hkk0 hkk1 hq0 hq1 rfl h1 h2 h3
    (by rw [nn_i sp h1, nn_i n h3]; show ¬ _ > ((arrV (dA 5) (cLN σ a0) (fun j => va_rf (cAR σ a0 j))).slots.size : Int); rw [arrV_size]; omega)
    (by rw [nn_i dp h2, nn_i n h3]; show ¬ _ > ((arrV (dA 5) (cLN σ a) (fun j => va_rf (cAR σ a j))).slots.size : Int); rw [arrV_size]; omega)
    (fun vm₁ hal i hi => by
      have e : (vp_cell (dA 5) (cLN σ a0, .inr (.inr (.inr (.inr (cAR σ a0)))))).slots.getD (sp.toNatClampNeg + i) .null = va_rf (cAR σ a0 (sp.toNatClampNeg + i)) := by
        show (arrV (dA 5) (cLN σ a0) (fun j => va_rf (cAR σ a0 j))).slots.getD _ _ = _
        rw [Array.getD_eq_getD_getElem?, arrV_read _ _ (by omega)]
        rfl
      rw [e]
      cases hy : cAR σ a0 (sp.toNatClampNeg + i) with
      | none => exact ⟨rfl, trivial⟩
      | some y =>
        obtain ⟨ci, Cv, Tv, Nv, ec, hcv, hcast⟩ := elO_spec (elR_s hel i hi y hy)
        obtain ⟨cellV, g1, g2, g3, -⟩ := hH.obj ec hcv
        have f1 := (hK.1 ci _ hcv).2.1
        obtain ⟨kA, comp, r1, r2, r3, -⟩ := (hK.2 5 _ hty).2
        cases hkk1.symm.trans r1
        cases hq1.symm.trans r2
        obtain ⟨c0, t0, s1, s2, s3⟩ := Cond.castable_spec (va_Nw.use (A := args) rfl (hcast s hw))
        have g3' : s.vm.findClass Cv = some cellV.cls := by rw [g2]; exact f1
        cases s1.symm.trans g3'
        cases s2.symm.trans r3
        obtain ⟨kC, hkC, -⟩ := Vm.findClass_spec g3'
        obtain ⟨kE, hkE, -⟩ := Vm.findClass_spec r3
        obtain ⟨kC', hkC', -⟩ := hal.2.2 _ _ hkC
        obtain ⟨kE', hkE', -⟩ := hal.2.2 _ _ hkE
        refine ⟨rfl, cellV, (show T.heap[y]? = some cellV by rw [hT]; exact g1), (fun q h => by rw [g3] at h; cases h), ⟨kC', hkC'⟩, ?_, ?_⟩
        · exact ⟨kE', hkE'⟩
        · show vm₁.assignable _ _ = true
          rw [hal.assignable]
          exact s3)
    (g := F0 m pc ls (.int n :: .int dp :: .ref a :: .int sp :: .ref a0 :: rest)) rfl (by rw [hml]) (rest := rest) rfl (by rw [hb]; exact hdg) hframes (by show 2 * 0 + _ + _ ≤ _; omega)
  have e1 : copied (vp_cell (dA 5) (cLN σ a0, .inr (.inr (.inr (.inr (cAR σ a0)))))) (vp_cell (dA 5) (cLN σ a, .inr (.inr (.inr (.inr (cAR σ a)))))) sp dp n = vp_cell (dA 5) (cLN σ a, .inr (.inr (.inr (.inr (va_cpy (cAR σ a0) (cAR σ a) sp.toNatClampNeg dp.toNatClampNeg n.toNatClampNeg))))) := va_copied (fun z => va_rf z) (dA 5) (dA 5) (cAR σ a0) (cAR σ a) h4
  rw [e1] at X' step
  have hl : a < H.size := (Array.getElem?_eq_some_iff.mp hc1).1
  generalize hHn : H.setIfInBounds a (vp_cell (dA 5) (cLN σ a, .inr (.inr (.inr (.inr (va_cpy (cAR σ a0) (cAR σ a) sp.toNatClampNeg dp.toNatClampNeg n.toNatClampNeg)))))) = Hn
  have hheap : ((T.setVm vm').setCell a (vp_cell (dA 5) (cLN σ a, .inr (.inr (.inr (.inr (va_cpy (cAR σ a0) (cAR σ a) sp.toNatClampNeg dp.toNatClampNeg n.toNatClampNeg))))))).heap = Hn := by rw [← hHn, ← hT]; rfl
  have oq : ∀ q : Nat, q ≠ a → Hn[q]? = H[q]? := fun q hq => by rw [← hHn]; simp [Array.getElem?_setIfInBounds, Ne.symm hq]
  have ev : Hn[a]? = some (vp_cell (dA 5) (cLN σ a, .inr (.inr (.inr (.inr (va_cpy (cAR σ a0) (cAR σ a) sp.toNatClampNeg dp.toNatClampNeg n.toNatClampNeg)))))) := by rw [← hHn]; simp [Array.getElem?_setIfInBounds, hl]
  have zz : Hn.size = H.size := by rw [← hHn]; simp
  obtain ⟨t, a1, b1⟩ := kk Hn _ (hH.upd zz oq rfl rfl rfl (fun b hb => ⟨fun _ => rfl, fun t => by
      unfold cCon
      have : cAR (cpR σ a0 a sp.toNatClampNeg dp.toNatClampNeg n.toNatClampNeg) b = cAR σ b := up1_n hb
      rw [this]; rfl⟩) ⟨fun ci Cv Tv Nv e' hc' => by
        have h20 : ci < 20 := (List.getElem?_eq_some_iff.mp hc').1
        have e'' : cK σ a = ci + 1 := e'
        omega, fun t' ht' e' => by
        have e'' : cK σ a = 101 + t' := e'
        have et : t' = 5 := by omega
        subst et
        refine Or.inr ?_
        rw [ev]
        have ec : cCon (cpR σ a0 a sp.toNatClampNeg dp.toNatClampNeg n.toNatClampNeg) a 5 = .inr (.inr (.inr (.inr (va_cpy (cAR σ a0) (cAR σ a) sp.toNatClampNeg dp.toNatClampNeg n.toNatClampNeg)))) := by
          unfold cCon
          have h9 : cAR (cpR σ a0 a sp.toNatClampNeg dp.toNatClampNeg n.toNatClampNeg) a = va_cpy (cAR σ a0) (cAR σ a) sp.toNatClampNeg dp.toNatClampNeg n.toNatClampNeg := up1_s
          rw [h9]
          rw [if_neg (by decide), if_pos (by decide)]
        rw [ec]; rfl⟩) ⟨by rw [zz]; exact hS.1, fun q g1 g2 => by
      rw [oq q (fun e => g2 (by rw [e]; exact hAa))]
      exact hS.2.1 q g1 g2, fun q hq => by
      rcases List.mem_append.mp hq with h | h
      · exact hS.2.2 q h
      · obtain ⟨z, -, hz⟩ := List.mem_map.mp h
        rw [← hz]
        exact hAa⟩ _ hheap X'
  exact ⟨t, step t a1, b1⟩
end CPY
