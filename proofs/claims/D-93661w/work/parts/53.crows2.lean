section CR1
variable {p : Program} {l : Launch} {e : Env} {R : Room} {s : State} {m : MethodId} {args : Array Value} {below : List Frame} {meth : Method} {c : Code} {H : Heap} {locs : List Loc} {cells slots : Nat} {Q : State → Prop}
variable {cc : ByteArray} {pc nL : Nat} {ls : Array Slot} {rest st0 : List Value} {D : va_G} {dA : Nat → ClassId} {A : Nat → Prop} {σ σ1 : CS}
theorem c_st0i {a t : Nat} (hx : p.tables.exec = Jvm.exec) (hb : c.code = cc) (hK : va_K D vCl (vTy dA) s) (hH : HC D dA A σ H) (hka : cK σ a = 101) {i x : Int32} (hin : vp_in i (cLN σ a)) (hdg : decode cc pc = .ok (.iastore, 1))
    (kk : ∀ (H1 : Heap) (locs1 : List Loc), H1[a]? = some (vp_cell (dA 0) (cLN σ a, .inl (upd (cAI σ a) i.toNatClampNeg x))) → H1.size = H.size → (∀ q : Nat, q ≠ a → H1[q]? = H[q]?) → locs1 = locs ++ [⟨a, i.toNatClampNeg⟩] → W p l e R s m args below meth c H1 locs1 cells slots Q (F0 m (pc + 1) ls rest)) : W p l e R s m args below meth c H locs cells slots Q (F0 m pc ls (.int x :: .int i :: .ref a :: rest)) := by
  have hc := hH.arr (t := 0) hka (by decide)
  have hc : H[a]? = some (vp_cell (dA 0) (cLN σ a, .inl (cAI σ a))) := hc
  refine W.iast hx hb hc ((hK.2 0 _ rfl).1 _ (fun j => .int (cAI σ a j))) (fun q => by cases q) (by show ¬ (i < 0 ∨ (arrV _ _ _).slots.size ≤ _); rw [arrV_size]; exact hin) rfl rfl hdg fun H1 e z oq => ?_
  refine kk H1 _ ?_ z oq rfl
  rw [e]
  rw [vp_cell_i, vp_cell_i, arrV_store]
  congr 2
  funext q
  by_cases hq : q = i.toNatClampNeg
  · subst hq
    simp [updV, upd]
  · simp [updV, upd, hq]
theorem c_st0z {a t : Nat} (hx : p.tables.exec = Jvm.exec) (hb : c.code = cc) (hK : va_K D vCl (vTy dA) s) (hH : HC D dA A σ H) (hka : cK σ a = 102) {i x : Int32} (hin : vp_in i (cLN σ a)) (hdg : decode cc pc = .ok (.bastore, 1))
    (kk : ∀ (H1 : Heap) (locs1 : List Loc), H1[a]? = some (vp_cell (dA 1) (cLN σ a, .inl (upd (cAI σ a) i.toNatClampNeg (vp_nar .boolean x)))) → H1.size = H.size → (∀ q : Nat, q ≠ a → H1[q]? = H[q]?) → locs1 = locs ++ [⟨a, i.toNatClampNeg⟩] → W p l e R s m args below meth c H1 locs1 cells slots Q (F0 m (pc + 1) ls rest)) : W p l e R s m args below meth c H locs cells slots Q (F0 m pc ls (.int x :: .int i :: .ref a :: rest)) := by
  have hc := hH.arr (t := 1) hka (by decide)
  have hc : H[a]? = some (vp_cell (dA 1) (cLN σ a, .inl (cAI σ a))) := hc
  refine W.zast hx hb hc ((hK.2 1 _ rfl).1 _ (fun j => .int (cAI σ a j))) (fun q => by cases q) (by show ¬ (i < 0 ∨ (arrV _ _ _).slots.size ≤ _); rw [arrV_size]; exact hin) rfl rfl hdg fun H1 e z oq => ?_
  refine kk H1 _ ?_ z oq rfl
  rw [e]
  rw [vp_cell_i, vp_cell_i, arrV_store]
  congr 2
  funext q
  by_cases hq : q = i.toNatClampNeg
  · subst hq
    simp [updV, upd, vp_nar]
    try rfl
  · simp [updV, upd, hq]
theorem c_st0b {a t : Nat} (hx : p.tables.exec = Jvm.exec) (hb : c.code = cc) (hK : va_K D vCl (vTy dA) s) (hH : HC D dA A σ H) (hka : cK σ a = 104) {i x : Int32} (hin : vp_in i (cLN σ a)) (hdg : decode cc pc = .ok (.bastore, 1))
    (kk : ∀ (H1 : Heap) (locs1 : List Loc), H1[a]? = some (vp_cell (dA 3) (cLN σ a, .inl (upd (cAI σ a) i.toNatClampNeg (vp_nar .byte x)))) → H1.size = H.size → (∀ q : Nat, q ≠ a → H1[q]? = H[q]?) → locs1 = locs ++ [⟨a, i.toNatClampNeg⟩] → W p l e R s m args below meth c H1 locs1 cells slots Q (F0 m (pc + 1) ls rest)) : W p l e R s m args below meth c H locs cells slots Q (F0 m pc ls (.int x :: .int i :: .ref a :: rest)) := by
  have hc := hH.arr (t := 3) hka (by decide)
  have hc : H[a]? = some (vp_cell (dA 3) (cLN σ a, .inl (cAI σ a))) := hc
  refine W.bast hx hb hc ((hK.2 3 _ rfl).1 _ (fun j => .int (cAI σ a j))) (fun q => by cases q) (by show ¬ (i < 0 ∨ (arrV _ _ _).slots.size ≤ _); rw [arrV_size]; exact hin) rfl rfl hdg fun H1 e z oq => ?_
  refine kk H1 _ ?_ z oq rfl
  rw [e]
  rw [vp_cell_i, vp_cell_i, arrV_store]
  congr 2
  funext q
  by_cases hq : q = i.toNatClampNeg
  · subst hq
    simp [updV, upd, vp_nar]
    try rfl
  · simp [updV, upd, hq]
end CR1
/-! more rows of the component at the machine: stores, arrays, new cells -/
section CR2
variable {p : Program} {l : Launch} {e : Env} {R : Room} {s : State} {m : MethodId} {args : Array Value} {below : List Frame} {meth : Method} {c : Code} {H : Heap} {locs : List Loc} {cells slots : Nat} {Q : State → Prop}
variable {cc : ByteArray} {pc nL : Nat} {ls : Array Slot} {rest st0 : List Value} {D : va_G} {dA : Nat → ClassId} {A : Nat → Prop} {σ σ1 : CS}
theorem c_putI (hx : p.tables.exec = Jvm.exec) (hb : c.code = cc) (hts : ∀ w ∈ lw_all, w.before args s = true) {own ref : String} (hown : s.vm.findClass own = some m.cls) (hK : va_K D vCl (vTy dA) s) (hH : HC D dA A σ H) (hS : va_S A s.heap H locs) {a F index : Nat} (hg : hf (cK σ a) F = true) (hlink : (Cond.fieldLink own index ref (fd F).2.1 (fd F).2.2.1).before args s = true) (hsame : ∀ x, s.fieldFound? (fd F).1 (fd F).2.1 (fd F).2.2.1 = some x → s.fieldFound? ref (fd F).2.1 (fd F).2.2.1 = some x) (hfin : (fd F).2.2.2 = false) {ty : FieldType} {x : Int32} (hr : fRef F = false) (hd : parseFieldDescriptor (fd F).2.2.1 = some ty) (hn : narrow ty (.int x) = (.int x)) (hfit : fits ty (.int x) = true) {v : Value} (hv : v = (.int x)) (hdg : decode cc pc = .ok (.putfield index, 3))
    (kk : ∀ (H1 : Heap) (locs1 : List Loc), HC D dA A (uFI σ a F x) H1 → va_S A s.heap H1 locs1 → W p l e R s m args below meth c H1 locs1 cells slots Q (F0 m (pc + 3) ls rest)) : W p l e R s m args below meth c H locs cells slots Q (F0 m pc ls (v :: .ref a :: rest)) := by
  subst hv
  obtain ⟨ci, C, T, N, k, cell, cf, kf, fi, f, kC, eT, hi, hst, hfc, hkC, hkind, hlay, q1, q2, q3, hlt, fin⟩ := c_put0 (σ1 := uFI σ a F x) (v := (.int x)) hts hK hH hS hg rfl rfl (fun b hb G => by rw [fv_uFI, if_neg (fun z => hb z.1)]) rfl (fun _ _ => rfl) (by rw [fv_uFI, if_pos ⟨rfl, rfl, hr⟩]) (fun G hG => by rw [fv_uFI, if_neg (fun z => hG z.2.1)])
  unfold u_lay at hlay
  rw [eT] at hlay
  rw [if_neg (by rw [hfin]; decide)] at hlay
  have h6 := u_store hfc hkC hkind hlay hi hd hn hfit
  refine W.putK hx hb (f := f) ⟨hown, hlink, ⟨_, _, _, hsame _ hi⟩, hst⟩ (by rw [q2]; exact h6) q1 q3 hlt rfl rfl hdg fun H' e1 e2 e3 => ?_
  obtain ⟨g1, g2⟩ := fin H' e1 e2 e3
  exact kk H' _ g1 g2
theorem c_putR (hx : p.tables.exec = Jvm.exec) (hb : c.code = cc) (hts : ∀ w ∈ lw_all, w.before args s = true) {own ref : String} (hown : s.vm.findClass own = some m.cls) (hK : va_K D vCl (vTy dA) s) (hH : HC D dA A σ H) (hS : va_S A s.heap H locs) {a F index : Nat} (hg : hf (cK σ a) F = true) (hlink : (Cond.fieldLink own index ref (fd F).2.1 (fd F).2.2.1).before args s = true) (hsame : ∀ x, s.fieldFound? (fd F).1 (fd F).2.1 (fd F).2.2.1 = some x → s.fieldFound? ref (fd F).2.1 (fd F).2.2.1 = some x) (hfin : (fd F).2.2.2 = false) {ty : FieldType} {x : Option Nat} (hr : fRef F = true) (hd : parseFieldDescriptor (fd F).2.2.1 = some ty) (hn : narrow ty (va_rf x) = (va_rf x)) (hfit : fits ty (va_rf x) = true) {v : Value} (hv : v = (va_rf x)) (hdg : decode cc pc = .ok (.putfield index, 3))
    (kk : ∀ (H1 : Heap) (locs1 : List Loc), HC D dA A (uFR σ a F x) H1 → va_S A s.heap H1 locs1 → W p l e R s m args below meth c H1 locs1 cells slots Q (F0 m (pc + 3) ls rest)) : W p l e R s m args below meth c H locs cells slots Q (F0 m pc ls (v :: .ref a :: rest)) := by
  subst hv
  obtain ⟨ci, C, T, N, k, cell, cf, kf, fi, f, kC, eT, hi, hst, hfc, hkC, hkind, hlay, q1, q2, q3, hlt, fin⟩ := c_put0 (σ1 := uFR σ a F x) (v := (va_rf x)) hts hK hH hS hg rfl rfl (fun b hb G => by rw [fv_uFR, if_neg (fun z => hb z.1)]) rfl (fun _ _ => rfl) (by rw [fv_uFR, if_pos ⟨rfl, rfl, hr⟩]) (fun G hG => by rw [fv_uFR, if_neg (fun z => hG z.2.1)])
  unfold u_lay at hlay
  rw [eT] at hlay
  rw [if_neg (by rw [hfin]; decide)] at hlay
  have h6 := u_store hfc hkC hkind hlay hi hd hn hfit
  refine W.putK hx hb (f := f) ⟨hown, hlink, ⟨_, _, _, hsame _ hi⟩, hst⟩ (by rw [q2]; exact h6) q1 q3 hlt rfl rfl hdg fun H' e1 e2 e3 => ?_
  obtain ⟨g1, g2⟩ := fin H' e1 e2 e3
  exact kk H' _ g1 g2
theorem c_putIN (hx : p.tables.exec = Jvm.exec) (hb : c.code = cc) (hts : ∀ w ∈ lw_all, w.before args s = true) {own ref host : String} (hown : s.vm.findClass own = some m.cls) (hK : va_K D vCl (vTy dA) s) (hH : HC D dA A σ H) (hS : va_S A s.heap H locs) {a F index : Nat} (hg : hf (cK σ a) F = true) (hlink : va_Nw (Cond.fieldLinkNest own index ref (fd F).2.1 (fd F).2.2.1 host) s) (hsame : ∀ x, s.fieldFound? (fd F).1 (fd F).2.1 (fd F).2.2.1 = some x → s.fieldFound? ref (fd F).2.1 (fd F).2.2.1 = some x) (hfin : (fd F).2.2.2 = false) {ty : FieldType} {x : Int32} (hr : fRef F = false) (hd : parseFieldDescriptor (fd F).2.2.1 = some ty) (hn : narrow ty (.int x) = (.int x)) (hfit : fits ty (.int x) = true) {v : Value} (hv : v = (.int x)) (hdg : decode cc pc = .ok (.putfield index, 3))
    (kk : ∀ (H1 : Heap) (locs1 : List Loc), HC D dA A (uFI σ a F x) H1 → va_S A s.heap H1 locs1 → W p l e R s m args below meth c H1 locs1 cells slots Q (F0 m (pc + 3) ls rest)) : W p l e R s m args below meth c H locs cells slots Q (F0 m pc ls (v :: .ref a :: rest)) := by
  subst hv
  obtain ⟨ci, C, T, N, k, cell, cf, kf, fi, f, kC, eT, hi, hst, hfc, hkC, hkind, hlay, q1, q2, q3, hlt, fin⟩ := c_put0 (σ1 := uFI σ a F x) (v := (.int x)) hts hK hH hS hg rfl rfl (fun b hb G => by rw [fv_uFI, if_neg (fun z => hb z.1)]) rfl (fun _ _ => rfl) (by rw [fv_uFI, if_pos ⟨rfl, rfl, hr⟩]) (fun G hG => by rw [fv_uFI, if_neg (fun z => hG z.2.1)])
  unfold u_lay at hlay
  rw [eT] at hlay
  rw [if_neg (by rw [hfin]; decide)] at hlay
  have h6 := u_store hfc hkC hkind hlay hi hd hn hfit
  refine va_WputK hx hb (f := f) hown (va_Nw.use rfl hlink) (hsame _ hi) hst (by rw [q2]; exact h6) q1 q3 hlt rfl rfl hdg fun H' e1 e2 e3 => ?_
  obtain ⟨g1, g2⟩ := fin H' e1 e2 e3
  exact kk H' _ g1 g2
theorem c_putRN (hx : p.tables.exec = Jvm.exec) (hb : c.code = cc) (hts : ∀ w ∈ lw_all, w.before args s = true) {own ref host : String} (hown : s.vm.findClass own = some m.cls) (hK : va_K D vCl (vTy dA) s) (hH : HC D dA A σ H) (hS : va_S A s.heap H locs) {a F index : Nat} (hg : hf (cK σ a) F = true) (hlink : va_Nw (Cond.fieldLinkNest own index ref (fd F).2.1 (fd F).2.2.1 host) s) (hsame : ∀ x, s.fieldFound? (fd F).1 (fd F).2.1 (fd F).2.2.1 = some x → s.fieldFound? ref (fd F).2.1 (fd F).2.2.1 = some x) (hfin : (fd F).2.2.2 = false) {ty : FieldType} {x : Option Nat} (hr : fRef F = true) (hd : parseFieldDescriptor (fd F).2.2.1 = some ty) (hn : narrow ty (va_rf x) = (va_rf x)) (hfit : fits ty (va_rf x) = true) {v : Value} (hv : v = (va_rf x)) (hdg : decode cc pc = .ok (.putfield index, 3))
    (kk : ∀ (H1 : Heap) (locs1 : List Loc), HC D dA A (uFR σ a F x) H1 → va_S A s.heap H1 locs1 → W p l e R s m args below meth c H1 locs1 cells slots Q (F0 m (pc + 3) ls rest)) : W p l e R s m args below meth c H locs cells slots Q (F0 m pc ls (v :: .ref a :: rest)) := by
  subst hv
  obtain ⟨ci, C, T, N, k, cell, cf, kf, fi, f, kC, eT, hi, hst, hfc, hkC, hkind, hlay, q1, q2, q3, hlt, fin⟩ := c_put0 (σ1 := uFR σ a F x) (v := (va_rf x)) hts hK hH hS hg rfl rfl (fun b hb G => by rw [fv_uFR, if_neg (fun z => hb z.1)]) rfl (fun _ _ => rfl) (by rw [fv_uFR, if_pos ⟨rfl, rfl, hr⟩]) (fun G hG => by rw [fv_uFR, if_neg (fun z => hG z.2.1)])
  unfold u_lay at hlay
  rw [eT] at hlay
  rw [if_neg (by rw [hfin]; decide)] at hlay
  have h6 := u_store hfc hkC hkind hlay hi hd hn hfit
  refine va_WputK hx hb (f := f) hown (va_Nw.use rfl hlink) (hsame _ hi) hst (by rw [q2]; exact h6) q1 q3 hlt rfl rfl hdg fun H' e1 e2 e3 => ?_
  obtain ⟨g1, g2⟩ := fin H' e1 e2 e3
  exact kk H' _ g1 g2
theorem c_putIF (hx : p.tables.exec = Jvm.exec) (hb : c.code = cc) (hts : ∀ w ∈ lw_all, w.before args s = true) {own ref : String} (hown : s.vm.findClass own = some m.cls) (hK : va_K D vCl (vTy dA) s) (hH : HC D dA A σ H) (hS : va_S A s.heap H locs) {a F index : Nat} (hg : hf (cK σ a) F = true) (hlink : (Cond.fieldLink own index ref (fd F).2.1 (fd F).2.2.1).before args s = true) (hsame : ∀ x, s.fieldFound? (fd F).1 (fd F).2.1 (fd F).2.2.1 = some x → s.fieldFound? ref (fd F).2.1 (fd F).2.2.1 = some x) (hfin : (fd F).2.2.2 = true) (hin2 : meth.name = "<init>") (hdecl : (fd F).1 = own) {ty : FieldType} {x : Int32} (hr : fRef F = false) (hd : parseFieldDescriptor (fd F).2.2.1 = some ty) (hn : narrow ty (.int x) = (.int x)) (hfit : fits ty (.int x) = true) {v : Value} (hv : v = (.int x)) (hdg : decode cc pc = .ok (.putfield index, 3))
    (kk : ∀ (H1 : Heap) (locs1 : List Loc), HC D dA A (uFI σ a F x) H1 → va_S A s.heap H1 locs1 → W p l e R s m args below meth c H1 locs1 cells slots Q (F0 m (pc + 3) ls rest)) : W p l e R s m args below meth c H locs cells slots Q (F0 m pc ls (v :: .ref a :: rest)) := by
  subst hv
  obtain ⟨ci, C, T, N, k, cell, cf, kf, fi, f, kC, eT, hi, hst, hfc, hkC, hkind, hlay, q1, q2, q3, hlt, fin⟩ := c_put0 (σ1 := uFI σ a F x) (v := (.int x)) hts hK hH hS hg rfl rfl (fun b hb G => by rw [fv_uFI, if_neg (fun z => hb z.1)]) rfl (fun _ _ => rfl) (by rw [fv_uFI, if_pos ⟨rfl, rfl, hr⟩]) (fun G hG => by rw [fv_uFI, if_neg (fun z => hG z.2.1)])
  unfold u_lay at hlay
  rw [eT] at hlay
  rw [if_pos hfin] at hlay
  have hcf : m.cls = cf := by
    obtain ⟨_, _, c', _, _, _, -, -, hf', -, -, -, hown2, -⟩ := Cond.laysFinal_spec hlay
    have e1 : c' = cf := by have := hi.symm.trans hf'; simp at this; exact this.1.symm
    rw [hdecl] at hown2
    rw [← e1]; exact Option.some.inj (hown.symm.trans hown2)
  have h6 := u_fits hfc hkC hkind (Or.inr hlay) hi hd hn hfit
  refine W.putFinK hx hb hown hlink (hsame _ hi) hst hcf hin2 (by rw [q2]; exact h6) q1 q3 hlt rfl rfl hdg fun H' e1 e2 e3 => ?_
  obtain ⟨g1, g2⟩ := fin H' e1 e2 e3
  exact kk H' _ g1 g2
theorem c_putRF (hx : p.tables.exec = Jvm.exec) (hb : c.code = cc) (hts : ∀ w ∈ lw_all, w.before args s = true) {own ref : String} (hown : s.vm.findClass own = some m.cls) (hK : va_K D vCl (vTy dA) s) (hH : HC D dA A σ H) (hS : va_S A s.heap H locs) {a F index : Nat} (hg : hf (cK σ a) F = true) (hlink : (Cond.fieldLink own index ref (fd F).2.1 (fd F).2.2.1).before args s = true) (hsame : ∀ x, s.fieldFound? (fd F).1 (fd F).2.1 (fd F).2.2.1 = some x → s.fieldFound? ref (fd F).2.1 (fd F).2.2.1 = some x) (hfin : (fd F).2.2.2 = true) (hin2 : meth.name = "<init>") (hdecl : (fd F).1 = own) {ty : FieldType} {x : Option Nat} (hr : fRef F = true) (hd : parseFieldDescriptor (fd F).2.2.1 = some ty) (hn : narrow ty (va_rf x) = (va_rf x)) (hfit : fits ty (va_rf x) = true) {v : Value} (hv : v = (va_rf x)) (hdg : decode cc pc = .ok (.putfield index, 3))
    (kk : ∀ (H1 : Heap) (locs1 : List Loc), HC D dA A (uFR σ a F x) H1 → va_S A s.heap H1 locs1 → W p l e R s m args below meth c H1 locs1 cells slots Q (F0 m (pc + 3) ls rest)) : W p l e R s m args below meth c H locs cells slots Q (F0 m pc ls (v :: .ref a :: rest)) := by
  subst hv
  obtain ⟨ci, C, T, N, k, cell, cf, kf, fi, f, kC, eT, hi, hst, hfc, hkC, hkind, hlay, q1, q2, q3, hlt, fin⟩ := c_put0 (σ1 := uFR σ a F x) (v := (va_rf x)) hts hK hH hS hg rfl rfl (fun b hb G => by rw [fv_uFR, if_neg (fun z => hb z.1)]) rfl (fun _ _ => rfl) (by rw [fv_uFR, if_pos ⟨rfl, rfl, hr⟩]) (fun G hG => by rw [fv_uFR, if_neg (fun z => hG z.2.1)])
  unfold u_lay at hlay
  rw [eT] at hlay
  rw [if_pos hfin] at hlay
  have hcf : m.cls = cf := by
    obtain ⟨_, _, c', _, _, _, -, -, hf', -, -, -, hown2, -⟩ := Cond.laysFinal_spec hlay
    have e1 : c' = cf := by have := hi.symm.trans hf'; simp at this; exact this.1.symm
    rw [hdecl] at hown2
    rw [← e1]; exact Option.some.inj (hown.symm.trans hown2)
  have h6 := u_fits hfc hkC hkind (Or.inr hlay) hi hd hn hfit
  refine W.putFinK hx hb hown hlink (hsame _ hi) hst hcf hin2 (by rw [q2]; exact h6) q1 q3 hlt rfl rfl hdg fun H' e1 e2 e3 => ?_
  obtain ⟨g1, g2⟩ := fin H' e1 e2 e3
  exact kk H' _ g1 g2
theorem c_iald (hx : p.tables.exec = Jvm.exec) (hb : c.code = cc) (hK : va_K D vCl (vTy dA) s) (hH : HC D dA A σ H) {a : Nat} (hk : kd σ a 101 = true) {i : Int32} (hi : ib i (cLN σ a) = true) (hdg : decode cc pc = .ok (.iaload, 1))
    (kk : W p l e R s m args below meth c H locs cells slots Q (F0 m (pc + 1) ls (.int (cAI σ a i.toNatClampNeg) :: rest))) : W p l e R s m args below meth c H locs cells slots Q (F0 m pc ls (.int i :: .ref a :: rest)) :=
  va_iald hx hb hK (hH.one (t := 0) (kd_eq hk) (by decide)) 0 0 rfl rfl (ib_in hi) hdg kk
theorem c_zald (hx : p.tables.exec = Jvm.exec) (hb : c.code = cc) (hK : va_K D vCl (vTy dA) s) (hH : HC D dA A σ H) {a : Nat} (hk : kd σ a 102 = true) {i : Int32} (hi : ib i (cLN σ a) = true) (hdg : decode cc pc = .ok (.baload, 1))
    (kk : W p l e R s m args below meth c H locs cells slots Q (F0 m (pc + 1) ls (.int (cAI σ a i.toNatClampNeg) :: rest))) : W p l e R s m args below meth c H locs cells slots Q (F0 m pc ls (.int i :: .ref a :: rest)) :=
  va_zald hx hb hK (hH.one (t := 1) (kd_eq hk) (by decide)) 0 1 rfl rfl (ib_in hi) hdg kk
theorem c_bald (hx : p.tables.exec = Jvm.exec) (hb : c.code = cc) (hK : va_K D vCl (vTy dA) s) (hH : HC D dA A σ H) {a : Nat} (hk : kd σ a 104 = true) {i : Int32} (hi : ib i (cLN σ a) = true) (hdg : decode cc pc = .ok (.baload, 1))
    (kk : W p l e R s m args below meth c H locs cells slots Q (F0 m (pc + 1) ls (.int (cAI σ a i.toNatClampNeg) :: rest))) : W p l e R s m args below meth c H locs cells slots Q (F0 m pc ls (.int i :: .ref a :: rest)) :=
  va_bald hx hb hK (hH.one (t := 3) (kd_eq hk) (by decide)) 0 3 rfl rfl (ib_in hi) hdg kk
theorem c_cald (hx : p.tables.exec = Jvm.exec) (hb : c.code = cc) (hK : va_K D vCl (vTy dA) s) (hH : HC D dA A σ H) {a : Nat} (hk : kd σ a 105 = true) {i : Int32} (hi : ib i (cLN σ a) = true) (hdg : decode cc pc = .ok (.caload, 1))
    (kk : W p l e R s m args below meth c H locs cells slots Q (F0 m (pc + 1) ls (.int (cAI σ a i.toNatClampNeg) :: rest))) : W p l e R s m args below meth c H locs cells slots Q (F0 m pc ls (.int i :: .ref a :: rest)) :=
  va_cald hx hb hK (hH.one (t := 4) (kd_eq hk) (by decide)) 0 4 rfl rfl (ib_in hi) hdg kk
theorem c_lald (hx : p.tables.exec = Jvm.exec) (hb : c.code = cc) (hK : va_K D vCl (vTy dA) s) (hH : HC D dA A σ H) {a : Nat} (hk : kd σ a 103 = true) {i : Int32} (hi : ib i (cLN σ a) = true) (hdg : decode cc pc = .ok (.laload, 1))
    (kk : W p l e R s m args below meth c H locs cells slots Q (F0 m (pc + 1) ls (.long (cAL σ a i.toNatClampNeg) :: rest))) : W p l e R s m args below meth c H locs cells slots Q (F0 m pc ls (.int i :: .ref a :: rest)) :=
  va_lald hx hb hK (hH.one (t := 2) (kd_eq hk) (by decide)) 0 2 rfl rfl (ib_in hi) hdg kk
theorem c_aald (hx : p.tables.exec = Jvm.exec) (hb : c.code = cc) (hK : va_K D vCl (vTy dA) s) (hH : HC D dA A σ H) {a t : Nat} (ht : t < 9) (ht5 : 5 ≤ t) (hk : kd σ a (101 + t) = true) {i : Int32} {q : Option Nat} (hi : ib i (cLN σ a) = true) (hq : cAR σ a i.toNatClampNeg = q) (hdg : decode cc pc = .ok (.aaload, 1))
    (kk : W p l e R s m args below meth c H locs cells slots Q (F0 m (pc + 1) ls (va_rf q :: rest))) : W p l e R s m args below meth c H locs cells slots Q (F0 m pc ls (.int i :: .ref a :: rest)) := by
  have hin := ib_in hi
  have hlt : i.toNatClampNeg < cLN σ a := Nat.not_le.mp fun q => hin (Or.inr q)
  have hc := hH.arr (kd_eq hk) ht (Or.inr (by omega))
  have ec : cCon σ a t = .inr (.inr (.inr (.inr (cAR σ a)))) := by
    unfold cCon
    rw [if_neg (by omega), if_pos ht5]
  rw [ec] at hc
  obtain ⟨ty, e, ety⟩ : ∃ ty : FieldType, (vTy dA)[t]? = some (dA t, ty) ∧ ty.isReference = true := by
    rcases (show t = 5 ∨ t = 6 ∨ t = 7 ∨ t = 8 by omega) with r | r | r | r <;> subst r <;> exact ⟨_, rfl, rfl⟩
  subst hq
  exact W.aald (v := va_rf (cAR σ a i.toNatClampNeg)) (ty := ty) hx hb hc ((hK.2 t _ e).1 _ (fun j => va_rf (cAR σ a j))) ety (fun q => by cases q) (by show ¬ (i < 0 ∨ (arrV _ _ _).slots.size ≤ _); rw [arrV_size]; exact hin) (by show (arrV _ _ _).slots[_]? = _; rw [arrV_read _ _ hlt]) rfl rfl hdg kk
theorem c_alen (hx : p.tables.exec = Jvm.exec) (hb : c.code = cc) (hK : va_K D vCl (vTy dA) s) (hH : HC D dA A σ H) {a t : Nat} (ht : t < 9) (hk : kd σ a (101 + t) = true) (hdg : decode cc pc = .ok (.arraylength, 1))
    (kk : W p l e R s m args below meth c H locs cells slots Q (F0 m (pc + 1) ls (.int (nI (cLN σ a)) :: rest))) : W p l e R s m args below meth c H locs cells slots Q (F0 m pc ls (.ref a :: rest)) := by
  obtain ⟨ty, e⟩ : ∃ ty : FieldType, (vTy dA)[t]? = some (dA t, ty) := by
    rcases (show t = 0 ∨ t = 1 ∨ t = 2 ∨ t = 3 ∨ t = 4 ∨ t = 5 ∨ t = 6 ∨ t = 7 ∨ t = 8 by omega) with r | r | r | r | r | r | r | r | r <;> subst r <;> exact ⟨_, rfl⟩
  rcases (hH.2.2 a).2 t ht (kd_eq hk) with ⟨⟨q5, q0⟩, cell, g1, g2, g3, g4, g5⟩ | q
  · subst q5
    rw [q0] at kk
    obtain ⟨hv, kA, hkA, comp, hkind⟩ := (hK.2 5 _ rfl).1 0 (fun _ => .null)
    exact W.alen (n := nI 0) hx hb g1 ⟨fun k9 h9 => (by rw [h9] at g3; cases g3), kA, (by rw [g2]; exact hkA), comp, hkind⟩ (by rw [g5]; rfl) rfl rfl hdg kk
  · refine va_alen hx hb hK (ws := [(a, .inl (dA t, cLN σ a, cCon σ a t))]) (D := D) (cl := vCl) ?_ 0 t rfl e rfl hdg kk
    intro k q9 hq9
    have hz : k < 1 := (List.getElem?_eq_some_iff.mp hq9).1
    rw [show k = 0 by omega] at hq9
    cases hq9
    exact q
theorem c_iast (hx : p.tables.exec = Jvm.exec) (hb : c.code = cc) (hK : va_K D vCl (vTy dA) s) (hH : HC D dA A σ H) (hS : va_S A s.heap H locs) {a : Nat} (hk : kd σ a 101 = true) {i x : Int32} (hi : ib i (cLN σ a) = true) (hdg : decode cc pc = .ok (.iastore, 1))
    (kk : ∀ (H1 : Heap) (locs1 : List Loc), HC D dA A (uAI σ a i.toNatClampNeg x) H1 → va_S A s.heap H1 locs1 → W p l e R s m args below meth c H1 locs1 cells slots Q (F0 m (pc + 1) ls rest)) : W p l e R s m args below meth c H locs cells slots Q (F0 m pc ls (.int x :: .int i :: .ref a :: rest)) := by
  have hka := kd_eq hk
  have hAa : A a := hH.wr (t := 0) hka (ib_in hi)
  refine c_st0i (t := 0) hx hb hK hH hka (ib_in hi) hdg (fun H1 locs1 e z oq hl => ?_)
  refine kk H1 locs1 (hH.upd z oq rfl rfl rfl (fun b hb => ⟨fun _ => rfl, fun t => ?_⟩) ⟨fun ci C T N e' hc' => ?_, fun t ht e' => ?_⟩) ⟨by rw [z]; exact hS.1, fun q h1 h2 => by rw [oq q (fun e => h2 (by rw [e]; exact hAa))]; exact hS.2.1 q h1 h2, fun q hq => by
      rw [hl] at hq
      rcases List.mem_append.mp hq with h1 | h1
      · exact hS.2.2 q h1
      · rw [List.mem_singleton.mp h1]; exact hAa⟩
  · unfold cCon
    have : cAI (uAI σ a i.toNatClampNeg x) b = cAI σ b := by funext j; exact up2_n (fun z => hb z.1)
    rw [this]; rfl
  · have : ci < 20 := (List.getElem?_eq_some_iff.mp hc').1
    have e'' : cK σ a = ci + 1 := e'
    omega
  · have e'' : cK σ a = 101 + t := e'
    have et : t = 0 := by omega
    subst et
    refine Or.inr ?_
    rw [e]
    have : upd (cAI σ a) i.toNatClampNeg x = cAI (uAI σ a i.toNatClampNeg x) a := by
      funext j
      by_cases hj : j = i.toNatClampNeg
      · simp [upd, hj, cAI, uAI, up2]
      · simp [upd, hj, cAI, uAI, up2]
    rw [this]; rfl
theorem c_zast (hx : p.tables.exec = Jvm.exec) (hb : c.code = cc) (hK : va_K D vCl (vTy dA) s) (hH : HC D dA A σ H) (hS : va_S A s.heap H locs) {a : Nat} (hk : kd σ a 102 = true) {i x : Int32} (hi : ib i (cLN σ a) = true) (hz : isb x = true) (hdg : decode cc pc = .ok (.bastore, 1))
    (kk : ∀ (H1 : Heap) (locs1 : List Loc), HC D dA A (uAI σ a i.toNatClampNeg x) H1 → va_S A s.heap H1 locs1 → W p l e R s m args below meth c H1 locs1 cells slots Q (F0 m (pc + 1) ls rest)) : W p l e R s m args below meth c H locs cells slots Q (F0 m pc ls (.int x :: .int i :: .ref a :: rest)) := by
  have hka := kd_eq hk
  have hAa : A a := hH.wr (t := 1) hka (ib_in hi)
  refine c_st0z (t := 1) hx hb hK hH hka (ib_in hi) hdg (fun H1 locs1 e z oq hl => ?_)
  rw [isb_v hz] at e
  refine kk H1 locs1 (hH.upd z oq rfl rfl rfl (fun b hb => ⟨fun _ => rfl, fun t => ?_⟩) ⟨fun ci C T N e' hc' => ?_, fun t ht e' => ?_⟩) ⟨by rw [z]; exact hS.1, fun q h1 h2 => by rw [oq q (fun e => h2 (by rw [e]; exact hAa))]; exact hS.2.1 q h1 h2, fun q hq => by
      rw [hl] at hq
      rcases List.mem_append.mp hq with h1 | h1
      · exact hS.2.2 q h1
      · rw [List.mem_singleton.mp h1]; exact hAa⟩
  · unfold cCon
    have : cAI (uAI σ a i.toNatClampNeg x) b = cAI σ b := by funext j; exact up2_n (fun z => hb z.1)
    rw [this]; rfl
  · have : ci < 20 := (List.getElem?_eq_some_iff.mp hc').1
    have e'' : cK σ a = ci + 1 := e'
    omega
  · have e'' : cK σ a = 101 + t := e'
    have et : t = 1 := by omega
    subst et
    refine Or.inr ?_
    rw [e]
    have : upd (cAI σ a) i.toNatClampNeg x = cAI (uAI σ a i.toNatClampNeg x) a := by
      funext j
      by_cases hj : j = i.toNatClampNeg
      · simp [upd, hj, cAI, uAI, up2]
      · simp [upd, hj, cAI, uAI, up2]
    rw [this]; rfl
theorem c_bast (hx : p.tables.exec = Jvm.exec) (hb : c.code = cc) (hK : va_K D vCl (vTy dA) s) (hH : HC D dA A σ H) (hS : va_S A s.heap H locs) {a : Nat} (hk : kd σ a 104 = true) {i x : Int32} (hi : ib i (cLN σ a) = true) (hdg : decode cc pc = .ok (.bastore, 1))
    (kk : ∀ (H1 : Heap) (locs1 : List Loc), HC D dA A (uAI σ a i.toNatClampNeg (vp_nar .byte x)) H1 → va_S A s.heap H1 locs1 → W p l e R s m args below meth c H1 locs1 cells slots Q (F0 m (pc + 1) ls rest)) : W p l e R s m args below meth c H locs cells slots Q (F0 m pc ls (.int x :: .int i :: .ref a :: rest)) := by
  have hka := kd_eq hk
  have hAa : A a := hH.wr (t := 3) hka (ib_in hi)
  refine c_st0b (t := 3) hx hb hK hH hka (ib_in hi) hdg (fun H1 locs1 e z oq hl => ?_)
  refine kk H1 locs1 (hH.upd z oq rfl rfl rfl (fun b hb => ⟨fun _ => rfl, fun t => ?_⟩) ⟨fun ci C T N e' hc' => ?_, fun t ht e' => ?_⟩) ⟨by rw [z]; exact hS.1, fun q h1 h2 => by rw [oq q (fun e => h2 (by rw [e]; exact hAa))]; exact hS.2.1 q h1 h2, fun q hq => by
      rw [hl] at hq
      rcases List.mem_append.mp hq with h1 | h1
      · exact hS.2.2 q h1
      · rw [List.mem_singleton.mp h1]; exact hAa⟩
  · unfold cCon
    have : cAI (uAI σ a i.toNatClampNeg (vp_nar .byte x)) b = cAI σ b := by funext j; exact up2_n (fun z => hb z.1)
    rw [this]; rfl
  · have : ci < 20 := (List.getElem?_eq_some_iff.mp hc').1
    have e'' : cK σ a = ci + 1 := e'
    omega
  · have e'' : cK σ a = 101 + t := e'
    have et : t = 3 := by omega
    subst et
    refine Or.inr ?_
    rw [e]
    have : upd (cAI σ a) i.toNatClampNeg (vp_nar .byte x) = cAI (uAI σ a i.toNatClampNeg (vp_nar .byte x)) a := by
      funext j
      by_cases hj : j = i.toNatClampNeg
      · simp [upd, hj, cAI, uAI, up2]
      · simp [upd, hj, cAI, uAI, up2]
    rw [this]; rfl
theorem c_last (hx : p.tables.exec = Jvm.exec) (hb : c.code = cc) (hK : va_K D vCl (vTy dA) s) (hH : HC D dA A σ H) (hS : va_S A s.heap H locs) {a : Nat} (hk : kd σ a 103 = true) {i : Int32} {x : Int64} (hi : ib i (cLN σ a) = true) (hdg : decode cc pc = .ok (.lastore, 1))
    (kk : ∀ (H1 : Heap) (locs1 : List Loc), HC D dA A (uAL σ a i.toNatClampNeg x) H1 → va_S A s.heap H1 locs1 → W p l e R s m args below meth c H1 locs1 cells slots Q (F0 m (pc + 1) ls rest)) : W p l e R s m args below meth c H locs cells slots Q (F0 m pc ls (.long x :: .int i :: .ref a :: rest)) := by
  have hka := kd_eq hk
  have hin := ib_in hi
  have hAa : A a := hH.wr (t := 2) hka hin
  have hc := hH.arr (t := 2) hka (by decide)
  have hc : H[a]? = some (vp_cell (dA 2) (cLN σ a, .inr (.inl (cAL σ a)))) := hc
  refine W.last hx hb hc ((hK.2 2 _ rfl).1 _ (fun j => .long (cAL σ a j))) (fun q => by cases q) (by show ¬ (i < 0 ∨ (arrV _ _ _).slots.size ≤ _); rw [arrV_size]; exact hin) rfl rfl hdg fun H1 e z oq => ?_
  refine kk H1 _ (hH.upd z oq rfl rfl rfl (fun b hb => ⟨fun _ => rfl, fun t => ?_⟩) ⟨fun ci C T N e' hc' => ?_, fun t ht e' => ?_⟩) (hS.put z oq hAa)
  · unfold cCon
    have : cAL (uAL σ a i.toNatClampNeg x) b = cAL σ b := by funext j; exact up2_n (fun z => hb z.1)
    rw [this]; rfl
  · have : ci < 20 := (List.getElem?_eq_some_iff.mp hc').1
    have e'' : cK σ a = ci + 1 := e'
    omega
  · have e'' : cK σ a = 101 + t := e'
    have et : t = 2 := by omega
    subst et
    refine Or.inr ?_
    rw [e]
    show some _ = some (vp_cell (dA 2) (cLN σ a, .inr (.inl (cAL (uAL σ a i.toNatClampNeg x) a))))
    rw [vp_cell_l, vp_cell_l, arrV_store]
    congr 2
    funext q
    by_cases hq : q = i.toNatClampNeg
    · subst hq
      simp [updV, cAL, uAL, up2]
    · simp [updV, cAL, uAL, up2, hq]
/-- a reference array's place gets the object v (or null) -/
theorem c_aast0 {a t : Nat} {i : Int32} {x : Option Nat} {H1 : Heap} (hH : HC D dA A σ H) (hS : va_S A s.heap H locs) (ht : t < 9) (ht5 : 5 ≤ t) (hka : cK σ a = 101 + t) (hin : vp_in i (cLN σ a)) (e : H1[a]? = some ((vp_cell (dA t) (cLN σ a, .inr (.inr (.inr (.inr (cAR σ a)))))).setSlot i.toNatClampNeg (va_rf x))) (z : H1.size = H.size) (oq : ∀ q : Nat, q ≠ a → H1[q]? = H[q]?) :
    HC D dA A (uAR σ a i.toNatClampNeg x) H1 ∧ va_S A s.heap H1 (locs ++ [⟨a, i.toNatClampNeg⟩]) := by
  have hAa : A a := hH.wr hka hin
  refine ⟨hH.upd z oq rfl rfl rfl (fun b hb => ⟨fun _ => rfl, fun t => ?_⟩) ⟨fun ci C T N e' hc' => ?_, fun t' ht' e' => ?_⟩, hS.put z oq hAa⟩
  · unfold cCon
    have : cAR (uAR σ a i.toNatClampNeg x) b = cAR σ b := by funext j; exact up2_n (fun z => hb z.1)
    rw [this]; rfl
  · have : ci < 20 := (List.getElem?_eq_some_iff.mp hc').1
    have e'' : cK σ a = ci + 1 := e'
    omega
  · have e'' : cK σ a = 101 + t' := e'
    have et : t' = t := by omega
    subst et
    refine Or.inr ?_
    have ec : cCon (uAR σ a i.toNatClampNeg x) a t' = .inr (.inr (.inr (.inr (cAR (uAR σ a i.toNatClampNeg x) a)))) := by
      unfold cCon
      rw [if_neg (by omega), if_pos ht5]
    rw [e, ec]
    show some _ = some (vp_cell (dA t') (cLN σ a, .inr (.inr (.inr (.inr (cAR (uAR σ a i.toNatClampNeg x) a))))))
    rw [vp_cell_q, vp_cell_q, arrV_store]
    congr 2
    funext q
    by_cases hq : q = i.toNatClampNeg
    · subst hq
      simp [updV, cAR, uAR, up2]
    · simp [updV, cAR, uAR, up2, hq]
theorem HC.arrR {a t : Nat} (hH : HC D dA A σ H) (ht : t < 9) (ht5 : 5 ≤ t) (hka : cK σ a = 101 + t) (h5 : t ≠ 5 ∨ 0 < cLN σ a := by exact Or.inl (by decide)) : H[a]? = some (vp_cell (dA t) (cLN σ a, .inr (.inr (.inr (.inr (cAR σ a)))))) := by
  have h := hH.arr hka ht h5
  have ec : cCon σ a t = .inr (.inr (.inr (.inr (cAR σ a)))) := by
    unfold cCon
    rw [if_neg (by omega), if_pos ht5]
  rw [ec] at h
  exact h
/-- the object v goes into an array of C's (t: 5 Object, 6 Thought) -/
theorem c_aast (hx : p.tables.exec = Jvm.exec) (hb : c.code = cc) (hK : va_K D vCl (vTy dA) s) (hH : HC D dA A σ H) (hS : va_S A s.heap H locs) {a t v ci : Nat} {C Cv : String} {T : u_T} {N : Nat} (ht : t < 9) (ht5 : 5 ≤ t) (hty : (vTy dA)[t]? = some (dA t, .object C)) (hk : kd σ a (101 + t) = true) (hv : cK σ v = ci + 1) (hcv : vCl[ci]? = some (Cv, T, N)) (hcast : (Cond.castable Cv C).before args s = true ∨ Cv = C) {i : Int32} (hi : ib i (cLN σ a) = true) (hdg : decode cc pc = .ok (.aastore, 1))
    (kk : ∀ (H1 : Heap) (locs1 : List Loc), HC D dA A (uAR σ a i.toNatClampNeg (some v)) H1 → va_S A s.heap H1 locs1 → W p l e R s m args below meth c H1 locs1 cells slots Q (F0 m (pc + 1) ls rest)) : W p l e R s m args below meth c H locs cells slots Q (F0 m pc ls (.ref v :: .int i :: .ref a :: rest)) := by
  have hka := kd_eq hk
  have hin := ib_in hi
  have hlt : i.toNatClampNeg < cLN σ a := Nat.not_le.mp fun q => hin (Or.inr q)
  have h0 : ¬ i < 0 := fun q => hin (Or.inl q)
  have hc := hH.arrR ht ht5 hka (Or.inr (by omega))
  obtain ⟨cellV, g1, g2, g3, -⟩ := hH.obj hv hcv
  have hcls := (hK.1 ci _ hcv).2
  obtain ⟨kA, comp, k1, k2, k3, -⟩ := (hK.2 t _ hty).2
  obtain ⟨f1, kV, f2, -⟩ := hcls
  have hasg : s.vm.assignable cellV.cls comp = true := by
    rw [g2]
    rcases hcast with q | q
    · obtain ⟨c0, t0, r1, r2, r3⟩ := Cond.castable_spec q
      cases r1.symm.trans f1
      cases r2.symm.trans k3
      exact r3
    · subst q
      cases f1.symm.trans k3
      exact va_assign (hK.1 ci _ hcv).2
  obtain ⟨kc, hkc⟩ := Vm.classAt_of_findClass k3
  refine W.aast hx hb hc (fun q h => by cases h) (fun h => by cases h) (show s.vm.classes[dA t]? = some kA from k1) k2 rfl hkc ⟨h0, by show _ < (arrV _ _ _).slots.size; rw [arrV_size]; exact hlt⟩ g1 (fun q h => by rw [g3] at h; cases h) (by rw [g2]; exact f2) hasg rfl rfl hdg fun H1 e z oq => ?_
  obtain ⟨r1, r2⟩ := c_aast0 (x := some v) hH hS ht ht5 hka hin e z oq
  exact kk H1 _ r1 r2
theorem c_aastN (hx : p.tables.exec = Jvm.exec) (hb : c.code = cc) (hK : va_K D vCl (vTy dA) s) (hH : HC D dA A σ H) (hS : va_S A s.heap H locs) {a t : Nat} {C : String} (ht : t < 9) (ht5 : 5 ≤ t) (hty : (vTy dA)[t]? = some (dA t, .object C)) (hk : kd σ a (101 + t) = true) {i : Int32} (hi : ib i (cLN σ a) = true) (hdg : decode cc pc = .ok (.aastore, 1))
    (kk : ∀ (H1 : Heap) (locs1 : List Loc), HC D dA A (uAR σ a i.toNatClampNeg none) H1 → va_S A s.heap H1 locs1 → W p l e R s m args below meth c H1 locs1 cells slots Q (F0 m (pc + 1) ls rest)) : W p l e R s m args below meth c H locs cells slots Q (F0 m pc ls (.null :: .int i :: .ref a :: rest)) := by
  have hka := kd_eq hk
  have hin := ib_in hi
  have hlt : i.toNatClampNeg < cLN σ a := Nat.not_le.mp fun q => hin (Or.inr q)
  have hc := hH.arrR ht ht5 hka (Or.inr (by omega))
  refine va_WaastN hx hb hc ((hK.2 t _ hty).1 _ (fun j => va_rf (cAR σ a j))) (fun q => by cases q) (by show ¬ (i < 0 ∨ (arrV _ _ _).slots.size ≤ _); rw [arrV_size]; exact hin) rfl rfl hdg fun H1 e z oq => ?_
  obtain ⟨r1, r2⟩ := c_aast0 (x := none) hH hS ht ht5 hka hin e z oq
  exact kk H1 _ r1 r2
end CR2
