/-! char arrays -/
section CR8
variable {p : Program} {l : Launch} {e : Env} {R : Room} {s : State} {m : MethodId} {args : Array Value} {below : List Frame} {meth : Method} {c : Code} {H : Heap} {locs : List Loc} {cells slots : Nat} {Q : State → Prop}
variable {cc : ByteArray} {pc nL : Nat} {ls : Array Slot} {rest st0 : List Value} {D : va_G} {dA : Nat → ClassId} {A : Nat → Prop} {σ σ1 : CS}
theorem c_st0c {a t : Nat} (hx : p.tables.exec = Jvm.exec) (hb : c.code = cc) (hK : va_K D vCl (vTy dA) s) (hH : HC D dA A σ H) (hka : cK σ a = 105) {i x : Int32} (hin : vp_in i (cLN σ a)) (hdg : decode cc pc = .ok (.castore, 1))
    (kk : ∀ (H1 : Heap) (locs1 : List Loc), H1[a]? = some (vp_cell (dA 4) (cLN σ a, .inl (upd (cAI σ a) i.toNatClampNeg (vp_nar .char x)))) → H1.size = H.size → (∀ q : Nat, q ≠ a → H1[q]? = H[q]?) → locs1 = locs ++ [⟨a, i.toNatClampNeg⟩] → W p l e R s m args below meth c H1 locs1 cells slots Q (F0 m (pc + 1) ls rest)) : W p l e R s m args below meth c H locs cells slots Q (F0 m pc ls (.int x :: .int i :: .ref a :: rest)) := by
  have hc := hH.arr (t := 4) hka (by decide)
  have hc : H[a]? = some (vp_cell (dA 4) (cLN σ a, .inl (cAI σ a))) := hc
  refine W.cast hx hb hc ((hK.2 4 _ rfl).1 _ (fun j => .int (cAI σ a j))) (fun q => by cases q) (by show ¬ (i < 0 ∨ (arrV _ _ _).slots.size ≤ _); rw [arrV_size]; exact hin) rfl rfl hdg fun H1 e z oq => ?_
  refine kk H1 _ ?_ z oq rfl
  rw [e]
  rw [vp_cell_i, vp_cell_i, arrV_store]
  congr 2
  funext q
  by_cases hq : q = i.toNatClampNeg
  · subst hq
    simp [updV, upd, vp_nar]
    try rfl
  · simp [updV, upd, hq]
theorem c_cast (hx : p.tables.exec = Jvm.exec) (hb : c.code = cc) (hK : va_K D vCl (vTy dA) s) (hH : HC D dA A σ H) (hS : va_S A s.heap H locs) {a : Nat} (hk : kd σ a 105 = true) {i x : Int32} (hi : ib i (cLN σ a) = true) (hdg : decode cc pc = .ok (.castore, 1))
    (kk : ∀ (H1 : Heap) (locs1 : List Loc), HC D dA A (uAI σ a i.toNatClampNeg (vp_nar .char x)) H1 → va_S A s.heap H1 locs1 → W p l e R s m args below meth c H1 locs1 cells slots Q (F0 m (pc + 1) ls rest)) : W p l e R s m args below meth c H locs cells slots Q (F0 m pc ls (.int x :: .int i :: .ref a :: rest)) := by
  have hka := kd_eq hk
  have hAa : A a := hH.wr (t := 4) hka (ib_in hi)
  refine c_st0c (t := 4) hx hb hK hH hka (ib_in hi) hdg (fun H1 locs1 e z oq hl => ?_)
  refine kk H1 locs1 (hH.upd z oq rfl rfl rfl (fun b hb => ⟨fun _ => rfl, fun t => ?_⟩) ⟨fun ci C T N e' hc' => ?_, fun t ht e' => ?_⟩) ⟨by rw [z]; exact hS.1, fun q h1 h2 => by rw [oq q (fun e => h2 (by rw [e]; exact hAa))]; exact hS.2.1 q h1 h2, fun q hq => by
      rw [hl] at hq
      rcases List.mem_append.mp hq with h1 | h1
      · exact hS.2.2 q h1
      · rw [List.mem_singleton.mp h1]; exact hAa⟩
  · unfold cCon
    have : cAI (uAI σ a i.toNatClampNeg (vp_nar .char x)) b = cAI σ b := by funext j; exact up2_n (fun z => hb z.1)
    rw [this]; rfl
  · have : ci < 20 := (List.getElem?_eq_some_iff.mp hc').1
    have e'' : cK σ a = ci + 1 := e'
    omega
  · have e'' : cK σ a = 101 + t := e'
    have et : t = 4 := by omega
    subst et
    refine Or.inr ?_
    rw [e]
    have : upd (cAI σ a) i.toNatClampNeg (vp_nar .char x) = cAI (uAI σ a i.toNatClampNeg (vp_nar .char x)) a := by
      funext j
      by_cases hj : j = i.toNatClampNeg
      · simp [upd, hj, cAI, uAI, up2]
      · simp [upd, hj, cAI, uAI, up2]
    rw [this]; rfl
end CR8
