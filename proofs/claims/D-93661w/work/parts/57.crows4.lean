/-! small rows: static calls out of static methods, nullable references -/
section SS
variable {p : Program} {l : Launch} {e : Env} {R : Room} {s : State} {m : MethodId} {args : Array Value} {below : List Frame} {meth : Method} {c : Code} {H : Heap} {locs : List Loc} {Q : State → Prop}
variable {cc : ByteArray} {pc nL : Nat} {ls : Array Slot} {rest st0 : List Value}
variable {y : MethodName} {bytes : ByteArray} {maxL n index : Nat} {ret : Option FieldType} {ws : List Cond} {rm : Room} {own : String} {As : List Value}
theorem s_callSi {r : Int32} (S : CallFix p m c cc nL s args lw_all own) (hM : Met l y ws rm (sPc As) (sQi r) 0 0 noA) (cw : CallB R s args own index y bytes maxL ret ws rm 0 0 n ∧ (Cond.static y).before args s = true) (hS : va_S noA s.heap H locs) (hn : As.length = n) (hsize : ls.size = nL) (hst : st0 = As.reverse ++ rest) (hW : (rest.map fun v => v.category).sum ≤ 8) (hdg : decode cc pc = .ok (.invokestatic index, 3))
    (kk : ∀ (H1 : Heap) (locs1 : List Loc), va_S noA s.heap H1 locs1 → W p l e R s m args below meth c H1 locs1 0 0 Q (F0 m (pc + 3) ls (.int r :: rest))) : W p l e R s m args below meth c H locs 0 0 Q (F0 m pc ls st0) := by
  refine va_calli (va_runS (g := F0 m pc ls st0) S hM cw s_pre rfl hn hsize hst (lv_room hW) hdg ⟨Nat.zero_le _, Nat.zero_le _⟩) hS (fun q _ h => h.elim) (fun q h => h.elim) (fun r' u t H1 locs1 ht hvm hw hB hz hk hS1 => ?_)
  subst hw
  exact kk _ locs1 hS1
theorem s_callSl {r : Int64} (S : CallFix p m c cc nL s args lw_all own) (hM : Met l y ws rm (sPc As) (sQl r) 0 0 noA) (cw : CallB R s args own index y bytes maxL ret ws rm 0 0 n ∧ (Cond.static y).before args s = true) (hS : va_S noA s.heap H locs) (hn : As.length = n) (hsize : ls.size = nL) (hst : st0 = As.reverse ++ rest) (hW : (rest.map fun v => v.category).sum ≤ 8) (hdg : decode cc pc = .ok (.invokestatic index, 3))
    (kk : ∀ (H1 : Heap) (locs1 : List Loc), va_S noA s.heap H1 locs1 → W p l e R s m args below meth c H1 locs1 0 0 Q (F0 m (pc + 3) ls (.long r :: rest))) : W p l e R s m args below meth c H locs 0 0 Q (F0 m pc ls st0) := by
  refine va_calll (va_runS (g := F0 m pc ls st0) S hM cw s_pre rfl hn hsize hst (lv_room hW) hdg ⟨Nat.zero_le _, Nat.zero_le _⟩) hS (fun q _ h => h.elim) (fun q h => h.elim) (fun r' u t H1 locs1 ht hvm hw hB hz hk hS1 => ?_)
  subst hw
  exact kk _ locs1 hS1
end SS
section NN
variable {p : Program} {l : Launch} {e : Env} {R : Room} {s : State} {m : MethodId} {args : Array Value} {below : List Frame} {meth : Method} {c : Code} {H : Heap} {locs : List Loc} {cells slots : Nat} {Q : State → Prop}
variable {cc : ByteArray} {pc : Nat} {ls : Array Slot} {rest : List Value}
theorem lv_aload_nF (hx : p.tables.exec = Jvm.exec) (hb : c.code = cc) {k : Fin 4} {i : Nat} {o : Option Nat} (hdg : decode cc pc = .ok (.aload_n k, 1)) (hi : (k : Nat) = i) (hl : ls[i]? = some (.val (va_rf o)))
    (kk : W p l e R s m args below meth c H locs cells slots Q (F0 m (pc + 1) ls (va_rf o :: rest))) : W p l e R s m args below meth c H locs cells slots Q (F0 m pc ls rest) := by
  cases o with
  | none => exact lv_aload_nN hx hb hdg hi hl kk
  | some q => exact lv_aload_n hx hb hdg hi hl kk
theorem lv_aloadF (hx : p.tables.exec = Jvm.exec) (hb : c.code = cc) {i : Nat} {o : Option Nat} (hdg : decode cc pc = .ok (.aload i, 2)) (hl : ls[i]? = some (.val (va_rf o)))
    (kk : W p l e R s m args below meth c H locs cells slots Q (F0 m (pc + 2) ls (va_rf o :: rest))) : W p l e R s m args below meth c H locs cells slots Q (F0 m pc ls rest) := by
  cases o with
  | none => exact lv_aloadN hx hb hdg hl kk
  | some q => exact lv_aload hx hb hdg hl kk
theorem lv_astore_nF (hx : p.tables.exec = Jvm.exec) (hb : c.code = cc) {k : Fin 4} {i nL : Nat} {o : Option Nat} {lv lv' : List (Nat × Value)} (hdg : decode cc pc = .ok (.astore_n k, 1)) (hi : (k : Nat) = i) (h : lv_has ls nL lv) (hn : i < nL) (hl : (i, va_rf o) :: lv.filter (fun q => !(q.1 == i) && !(q.1 + 1 == i && q.2.category == 2)) = lv')
    (kk : ∀ ls' : Array Slot, lv_has ls' nL lv' → W p l e R s m args below meth c H locs cells slots Q (F0 m (pc + 1) ls' rest)) : W p l e R s m args below meth c H locs cells slots Q (F0 m pc ls (va_rf o :: rest)) := by
  cases o with
  | none => exact lv_astore_nN hx hb hdg hi h hn hl kk
  | some q => exact lv_astore_n hx hb hdg hi h hn hl kk
theorem lv_astoreF (hx : p.tables.exec = Jvm.exec) (hb : c.code = cc) {i nL : Nat} {o : Option Nat} {lv lv' : List (Nat × Value)} (hdg : decode cc pc = .ok (.astore i, 2)) (h : lv_has ls nL lv) (hn : i < nL) (hl : (i, va_rf o) :: lv.filter (fun q => !(q.1 == i) && !(q.1 + 1 == i && q.2.category == 2)) = lv')
    (kk : ∀ ls' : Array Slot, lv_has ls' nL lv' → W p l e R s m args below meth c H locs cells slots Q (F0 m (pc + 2) ls' rest)) : W p l e R s m args below meth c H locs cells slots Q (F0 m pc ls (va_rf o :: rest)) := by
  cases o with
  | none => exact lv_astoreN hx hb hdg h hn hl kk
  | some q => exact lv_astore hx hb hdg h hn hl kk
theorem JrowB {nL : Nat} {E : CE} {z0 s0 : Nat} {ρ : Type} {z : ρ × CS} {σ : CS} {L L' : List (Nat × Value)} {st st' : List Value} {X : Option (ρ × CS)} {pc' : Nat} (hR : R.cells = cZ z.2 - z0 ∧ R.slots = cS z.2 - s0) (f : ∀ (H : Heap) (locs : List Loc) (ls : Array Slot), hc E σ H → va_S (EA E) s.heap H locs → lv_has ls nL L → cZ σ - z0 ≤ R.cells → cS σ - s0 ≤ R.slots → (∀ ls : Array Slot, lv_has ls nL L' → W p l e R s m args below meth c H locs (cZ σ - z0) (cS σ - s0) Q (F0 m pc' ls st')) → W p l e R s m args below meth c H locs (cZ σ - z0) (cS σ - s0) Q (F0 m pc ls st))
    (k : J p l e R s m args below meth c nL E z0 s0 Q z X σ pc' L' st') : J p l e R s m args below meth c nL E z0 s0 Q z X σ pc L st :=
  fun hX => ⟨(k hX).1, fun H locs ls hH hS hl hz => f H locs ls hH hS hl (by have := (k hX).1; rw [hR.1]; omega) (by have := (k hX).1; rw [hR.2]; omega) (fun ls hl => (k hX).2 H locs ls hH hS hl hz)⟩
/-- null or not -/
def oc {ρ : Type} (o : Option Nat) (A : Option ρ) (B : Nat → Option ρ) : Option ρ := match o with
  | none => A
  | some q => B q
variable {nL : Nat} {E : CE} {z0 s0 : Nat} {ρ : Type} {z : ρ × CS} {σ : CS} {L : List (Nat × Value)} {st : List Value} {X : Option (ρ × CS)} {Y : Nat → Option (ρ × CS)} {q : Nat}
theorem Joc0 (k : J p l e R s m args below meth c nL E z0 s0 Q z X σ pc L st) : J p l e R s m args below meth c nL E z0 s0 Q z (oc none X Y) σ pc L st := k
theorem Joc1 (k : J p l e R s m args below meth c nL E z0 s0 Q z (Y q) σ pc L st) : J p l e R s m args below meth c nL E z0 s0 Q z (oc (some q) X Y) σ pc L st := k
theorem Moc {o : Option Nat} (k1 : Mn σ X) (k2 : ∀ q, Mn σ (Y q)) : Mn σ (oc o X Y) := by
  cases o with
  | none => exact k1
  | some q => exact k2 q
end NN
theorem c_recvA {s : State} {H : Heap} {D : va_G} {dA : Nat → ClassId} {A : Nat → Prop} {σ : CS} (hK : va_K D vCl (vTy dA) s) (hH : HC D dA A σ H) {a : Nat} (hk : kd σ a 106 = true) : ∃ cell : Cell, H[a]? = some cell ∧ cell.vm.isStatics = false ∧ s.vm.findClass "[Ljava/lang/Object;" = some cell.cls := by
  rcases (hH.2.2 a).2 5 (by decide) (kd_eq hk) with ⟨-, cell, g1, g2, g3, -⟩ | h
  · exact ⟨cell, g1, g3, by rw [g2]; exact va_nmO (C := "java/lang/Object") (hK.2 5 _ rfl).2 (by decide +kernel)⟩
  exact ⟨_, h, rfl, va_nmO (C := "java/lang/Object") (hK.2 5 _ rfl).2 (by decide +kernel)⟩
