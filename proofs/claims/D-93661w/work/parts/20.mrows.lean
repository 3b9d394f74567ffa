/-! FortyDaysModel: its state, and the rows of its walks -/
abbrev vCl : List vw_C := [(RX4, TX4, 24), (RX0, TX0, 19), (RX1, TX1, 6), (RX2, TX2, 6), (RX3, TX3, 5), (RX5, TX5, 7), (RX6, TX6, 7), (RX7, TX7, 1), (RX8, TX8, 3), (RX9, TX9, 3), (RX10, TX10, 3), (RX11, TX11, 3), (RX12, TX12, 4), (RX13, TX13, 5), (RX14, TX14, 5), (RX15, TX15, 4), (RX16, TX16, 6), (RX17, TX17, 5), (RX18, TX18, 8), (RJ2, TJ2, 3)]
abbrev vTy (dA : Nat → ClassId) : List (ClassId × FieldType) := [(dA 0, .int), (dA 1, .boolean), (dA 2, .long), (dA 3, .byte), (dA 4, .char), (dA 5, .object "java/lang/Object"), (dA 6, .object "FortyDays$Thought"), (dA 7, .array .long), (dA 8, .array .char)]
abbrev MS : Type := (Nat → Int32) × (Nat → Nat → Int32) × (Nat → Nat → Int64)
def sf (m : MS) (k : Nat) (v : Int32) : MS := (fun j => cond (Nat.beq j k) v (m.1 j), m.2)
def sa (m : MS) (k i : Nat) (v : Int32) : MS := (m.1, fun j => cond (Nat.beq j k) (upd (m.2.1 j) i v) (m.2.1 j), m.2.2)
def sl (m : MS) (k i : Nat) (v : Int64) : MS := (m.1, m.2.1, fun j => cond (Nat.beq j k) (vp_updL (m.2.2 j) i v) (m.2.2 j))
abbrev mobj (ad : Nat → Nat) (m : MS) : List Value := [.int (m.1 0), .ref (ad 1), .ref (ad 2), .int (m.1 3), .int (m.1 4), .int (m.1 5), .int (m.1 6), .int (m.1 7), .int (m.1 8), .ref (ad 9), .ref (ad 10), .int (m.1 11), .int (m.1 12), .int (m.1 13), .int (m.1 14), .int (m.1 15), .ref (ad 16), .ref (ad 17), .ref (ad 18), .ref (ad 19), .int (m.1 20), .int (m.1 21), .int (m.1 22), .int (m.1 23)]
abbrev mcells (dA : Nat → ClassId) (ad : Nat → Nat) (m : MS) : va_W := [(ad 0, .inr (0, mobj ad m)), (ad 1, .inl (dA 0, 1160, .inl (m.2.1 1))), (ad 2, .inl (dA 0, 1160, .inl (m.2.1 2))), (ad 9, .inl (dA 1, 64, .inl (m.2.1 9))), (ad 10, .inl (dA 0, 8, .inl (m.2.1 10))), (ad 16, .inl (dA 2, 12, .inr (.inl (m.2.2 16)))), (ad 17, .inl (dA 2, 20, .inr (.inl (m.2.2 17)))), (ad 18, .inl (dA 2, 20, .inr (.inl (m.2.2 18)))), (ad 19, .inl (dA 0, 20, .inl (m.2.1 19)))]
/-- the model's own addresses -/
def AM (ad : Nat → Nat) : Nat → Prop := fun q => ∃ k, k < 20 ∧ q = ad k
def HM (D : va_G) (dA : Nat → ClassId) (ad : Nat → Nat) (m : MS) (H : Heap) : Prop := va_P D vCl (mcells dA ad m) H ∧ va_D (AM ad) (mcells dA ad m)
theorem HM.kept {D : va_G} {dA : Nat → ClassId} {ad : Nat → Nat} {m : MS} {H H1 : Heap} (h : HM D dA ad m H) (hk : ∀ q : Nat, q < H.size → AM ad q → H1[q]? = H[q]?) : HM D dA ad m H1 :=
  ⟨h.1.kept (fun k q hq => hk _ ((h.1 k q hq).lt) (h.2.2 k q hq)), h.2⟩
theorem HM.to {D : va_G} {dA : Nat → ClassId} {ad : Nat → Nat} {m : MS} {H : Heap} {t : State} (h : HM D dA ad m H) (ht : t.heap = H) : HM D dA ad m t.heap := by rw [ht]; exact h
abbrev mPc (D : va_G) (dA : Nat → ClassId) (ad : Nat → Nat) (σ : MS) (av : List Value) : Array Value → State → Prop := va_Pc (.ref (ad 0) :: av) (fun U => HM D dA ad σ U.heap ∧ va_K D vCl (vTy dA) U)
abbrev mQi (D : va_G) (dA : Nat → ClassId) (ad : Nat → Nat) (r : Int32) (σ : MS) : Array Value → State → Outcome → State → Prop := va_Qi (fun r' (_ : Unit) => r' = r) (fun _ t => HM D dA ad σ t.heap) (AM ad)
abbrev mQl (D : va_G) (dA : Nat → ClassId) (ad : Nat → Nat) (r : Int64) (σ : MS) : Array Value → State → Outcome → State → Prop := va_Ql (fun r' (_ : Unit) => r' = r) (fun _ t => HM D dA ad σ t.heap) (AM ad)
abbrev mQv (D : va_G) (dA : Nat → ClassId) (ad : Nat → Nat) (σ : MS) : Array Value → State → Outcome → State → Prop := va_Qv (fun (_ : Unit) => True) (fun _ t => HM D dA ad σ t.heap) (AM ad)
/-- a static method of numbers alone -/
abbrev sPc (av : List Value) : Array Value → State → Prop := va_Pc av (fun _ => True)
abbrev sQi (r : Int32) : Array Value → State → Outcome → State → Prop := va_Qi (fun r' (_ : Unit) => r' = r) (fun _ _ => True) (fun _ => False)
abbrev sQl (r : Int64) : Array Value → State → Outcome → State → Prop := va_Ql (fun r' (_ : Unit) => r' = r) (fun _ _ => True) (fun _ => False)
abbrev noA : Nat → Prop := fun _ => False
section MR
variable {p : Program} {l : Launch} {e : Env} {R : Room} {s : State} {m : MethodId} {args : Array Value} {below : List Frame} {meth : Method} {c : Code} {H : Heap} {locs : List Loc} {Q : State → Prop}
variable {cc : ByteArray} {pc nL : Nat} {ls : Array Slot} {rest st0 : List Value} {D : va_G} {dA : Nat → ClassId} {ad : Nat → Nat} {σ σ1 : MS}
theorem m_get (hx : p.tables.exec = Jvm.exec) (hb : c.code = cc) (hts : ∀ w ∈ lw_all, w.before args s = true) (hown : s.vm.findClass RX4 = some m.cls) (hK : va_K D vCl (vTy dA) s) (hH : HM D dA ad σ H) (k : Nat) (hk : k < 24) {index : Nat} (hlink : (Cond.fieldLink RX4 index (TX4 k).1 (TX4 k).2.1 (TX4 k).2.2.1).before args s = true) {v : Value} (hv : (mobj ad σ)[k]? = some v) (hdg : decode cc pc = .ok (.getfield index, 3))
    (kk : W p l e R s m args below meth c H locs 0 0 Q (F0 m (pc + 3) ls (v :: rest))) : W p l e R s m args below meth c H locs 0 0 Q (F0 m pc ls (.ref (ad 0) :: rest)) :=
  va_get (C := RX4) (T := TX4) (N := 24) hx hb hts in_X4 hown hK hH.1 0 rfl rfl k hk hlink (fun _ h => h) hv hdg kk
theorem m_put (hx : p.tables.exec = Jvm.exec) (hb : c.code = cc) (hts : ∀ w ∈ lw_all, w.before args s = true) (hown : s.vm.findClass RX4 = some m.cls) (hK : va_K D vCl (vTy dA) s) (hH : HM D dA ad σ H) (hS : va_S (AM ad) s.heap H locs) (k : Nat) (hk : k < 24) {index : Nat} (hlink : (Cond.fieldLink RX4 index (TX4 k).1 (TX4 k).2.1 (TX4 k).2.2.1).before args s = true) (hfin : (TX4 k).2.2.2 = false) {ty : FieldType} {x : Int32} (hd : parseFieldDescriptor (TX4 k).2.2.1 = some ty) (hn : narrow ty (.int x) = .int x) (hfit : fits ty (.int x) = true)
    (hset : (mobj ad σ).set k (.int x) = mobj ad (sf σ k x)) (hdg : decode cc pc = .ok (.putfield index, 3))
    (kk : ∀ σ1 : MS, σ1 = sf σ k x → ∀ (H1 : Heap) (locs1 : List Loc), HM D dA ad σ1 H1 → va_S (AM ad) s.heap H1 locs1 → W p l e R s m args below meth c H1 locs1 0 0 Q (F0 m (pc + 3) ls rest)) : W p l e R s m args below meth c H locs 0 0 Q (F0 m pc ls (.int x :: .ref (ad 0) :: rest)) := by
  refine va_put (C := RX4) (T := TX4) (N := 24) hx hb hts in_X4 tyX4 tyX4_ok nmX4 hown hK hH.1 hH.2 hS 0 rfl rfl k hk hlink (fun _ h => h) hfin hd hn hfit hk hdg (fun H1 locs1 hP hD hS1 => ?_)
  have e : (mcells dA ad σ).set 0 (ad 0, .inr (0, (mobj ad σ).set k (.int x))) = mcells dA ad (sf σ k x) := by rw [hset]; rfl
  rw [e] at hP hD
  exact kk _ rfl H1 locs1 ⟨hP, hD⟩ hS1
theorem m_iald (hx : p.tables.exec = Jvm.exec) (hb : c.code = cc) (hK : va_K D vCl (vTy dA) s) (hH : HM D dA ad σ H) (q0 j : Nat) {n : Nat} (hp : (mcells dA ad σ)[q0]? = some (ad j, .inl (dA 0, n, .inl (σ.2.1 j)))) {i : Int32} (hi : ib i n = true) (hdg : decode cc pc = .ok (.iaload, 1))
    (kk : W p l e R s m args below meth c H locs 0 0 Q (F0 m (pc + 1) ls (.int (σ.2.1 j i.toNatClampNeg) :: rest))) : W p l e R s m args below meth c H locs 0 0 Q (F0 m pc ls (.int i :: .ref (ad j) :: rest)) :=
  va_iald hx hb hK hH.1 q0 0 hp rfl (ib_in hi) hdg kk
theorem m_zald (hx : p.tables.exec = Jvm.exec) (hb : c.code = cc) (hK : va_K D vCl (vTy dA) s) (hH : HM D dA ad σ H) (q0 j : Nat) {n : Nat} (hp : (mcells dA ad σ)[q0]? = some (ad j, .inl (dA 1, n, .inl (σ.2.1 j)))) {i : Int32} (hi : ib i n = true) (hdg : decode cc pc = .ok (.baload, 1))
    (kk : W p l e R s m args below meth c H locs 0 0 Q (F0 m (pc + 1) ls (.int (σ.2.1 j i.toNatClampNeg) :: rest))) : W p l e R s m args below meth c H locs 0 0 Q (F0 m pc ls (.int i :: .ref (ad j) :: rest)) :=
  va_zald hx hb hK hH.1 q0 1 hp rfl (ib_in hi) hdg kk
theorem m_lald (hx : p.tables.exec = Jvm.exec) (hb : c.code = cc) (hK : va_K D vCl (vTy dA) s) (hH : HM D dA ad σ H) (q0 j : Nat) {n : Nat} (hp : (mcells dA ad σ)[q0]? = some (ad j, .inl (dA 2, n, .inr (.inl (σ.2.2 j))))) {i : Int32} (hi : ib i n = true) (hdg : decode cc pc = .ok (.laload, 1))
    (kk : W p l e R s m args below meth c H locs 0 0 Q (F0 m (pc + 1) ls (.long (σ.2.2 j i.toNatClampNeg) :: rest))) : W p l e R s m args below meth c H locs 0 0 Q (F0 m pc ls (.int i :: .ref (ad j) :: rest)) :=
  va_lald hx hb hK hH.1 q0 2 hp rfl (ib_in hi) hdg kk
theorem m_iast (hx : p.tables.exec = Jvm.exec) (hb : c.code = cc) (hK : va_K D vCl (vTy dA) s) (hH : HM D dA ad σ H) (hS : va_S (AM ad) s.heap H locs) (q0 j : Nat) {n : Nat} (hp : (mcells dA ad σ)[q0]? = some (ad j, .inl (dA 0, n, .inl (σ.2.1 j)))) {i x : Int32} (hi : ib i n = true)
    (hset : (mcells dA ad σ).set q0 (ad j, .inl (dA 0, n, .inl (upd (σ.2.1 j) i.toNatClampNeg x))) = mcells dA ad (sa σ j i.toNatClampNeg x)) (hdg : decode cc pc = .ok (.iastore, 1))
    (kk : ∀ σ1 : MS, σ1 = sa σ j i.toNatClampNeg x → ∀ (H1 : Heap) (locs1 : List Loc), HM D dA ad σ1 H1 → va_S (AM ad) s.heap H1 locs1 → W p l e R s m args below meth c H1 locs1 0 0 Q (F0 m (pc + 1) ls rest)) : W p l e R s m args below meth c H locs 0 0 Q (F0 m pc ls (.int x :: .int i :: .ref (ad j) :: rest)) := by
  refine va_iast hx hb hK hH.1 hH.2 hS q0 0 hp rfl (ib_in hi) hdg (fun H1 locs1 hP hD hS1 => ?_)
  rw [hset] at hP hD
  exact kk _ rfl H1 locs1 ⟨hP, hD⟩ hS1
theorem m_zast (hx : p.tables.exec = Jvm.exec) (hb : c.code = cc) (hK : va_K D vCl (vTy dA) s) (hH : HM D dA ad σ H) (hS : va_S (AM ad) s.heap H locs) (q0 j : Nat) {n : Nat} (hp : (mcells dA ad σ)[q0]? = some (ad j, .inl (dA 1, n, .inl (σ.2.1 j)))) {i x : Int32} (hi : ib i n = true) (hz : isb x = true)
    (hset : (mcells dA ad σ).set q0 (ad j, .inl (dA 1, n, .inl (upd (σ.2.1 j) i.toNatClampNeg x))) = mcells dA ad (sa σ j i.toNatClampNeg x)) (hdg : decode cc pc = .ok (.bastore, 1))
    (kk : ∀ σ1 : MS, σ1 = sa σ j i.toNatClampNeg x → ∀ (H1 : Heap) (locs1 : List Loc), HM D dA ad σ1 H1 → va_S (AM ad) s.heap H1 locs1 → W p l e R s m args below meth c H1 locs1 0 0 Q (F0 m (pc + 1) ls rest)) : W p l e R s m args below meth c H locs 0 0 Q (F0 m pc ls (.int x :: .int i :: .ref (ad j) :: rest)) := by
  refine va_zast hx hb hK hH.1 hH.2 hS q0 1 hp rfl (ib_in hi) hdg (fun H1 locs1 hP hD hS1 => ?_)
  rw [isb_v hz, hset] at hP hD
  exact kk _ rfl H1 locs1 ⟨hP, hD⟩ hS1
theorem m_last (hx : p.tables.exec = Jvm.exec) (hb : c.code = cc) (hK : va_K D vCl (vTy dA) s) (hH : HM D dA ad σ H) (hS : va_S (AM ad) s.heap H locs) (q0 j : Nat) {n : Nat} (hp : (mcells dA ad σ)[q0]? = some (ad j, .inl (dA 2, n, .inr (.inl (σ.2.2 j))))) {i : Int32} {x : Int64} (hi : ib i n = true)
    (hset : (mcells dA ad σ).set q0 (ad j, .inl (dA 2, n, .inr (.inl (vp_updL (σ.2.2 j) i.toNatClampNeg x)))) = mcells dA ad (sl σ j i.toNatClampNeg x)) (hdg : decode cc pc = .ok (.lastore, 1))
    (kk : ∀ σ1 : MS, σ1 = sl σ j i.toNatClampNeg x → ∀ (H1 : Heap) (locs1 : List Loc), HM D dA ad σ1 H1 → va_S (AM ad) s.heap H1 locs1 → W p l e R s m args below meth c H1 locs1 0 0 Q (F0 m (pc + 1) ls rest)) : W p l e R s m args below meth c H locs 0 0 Q (F0 m pc ls (.long x :: .int i :: .ref (ad j) :: rest)) := by
  refine va_last hx hb hK hH.1 hH.2 hS q0 2 hp rfl (ib_in hi) hdg (fun H1 locs1 hP hD hS1 => ?_)
  rw [hset] at hP hD
  exact kk _ rfl H1 locs1 ⟨hP, hD⟩ hS1
variable {y : MethodName} {bytes : ByteArray} {maxL n index : Nat} {ret : Option FieldType} {ws : List Cond} {rm : Room} {own : String} {As : List Value}
theorem m_pre (hK : va_K D vCl (vTy dA) s) (hH : HM D dA ad σ H) : PreV s H RX4 (ad 0) (mPc D dA ad σ As) As :=
  ⟨fun a U g mk q => by obtain ⟨q0, q1, q2⟩ := q; exact ⟨q0, q1, va_K.moved (u := U) (U := U.calling g mk a) (Vm.Alike.refl U.vm) q2⟩, va_recv hK hH.1 (ci := 0) (q0 := 0) (q := (RX4, TX4, 24)) rfl rfl, fun U hU hW => ⟨rfl, by rw [hU]; exact hH, va_K.moved hW.alike hK⟩⟩
theorem m_callVi {r : Int32} (S : CallFix p m c cc nL s args lw_all own) (hM : Met l y ws rm (mPc D dA ad σ As) (mQi D dA ad r σ1) 0 0 (AM ad)) (cw : CallW R s args own RX4 index y bytes maxL ret ws rm 0 0 n) (hK : va_K D vCl (vTy dA) s) (hH : HM D dA ad σ H) (hS : va_S (AM ad) s.heap H locs) (hn : As.length = n) (hsize : ls.size = nL) (hst : st0 = As.reverse ++ .ref (ad 0) :: rest) (hW : (rest.map fun v => v.category).sum ≤ 8) (hdg : decode cc pc = .ok (.invokevirtual index, 3))
    (kk : ∀ (H1 : Heap) (locs1 : List Loc), HM D dA ad σ1 H1 → va_S (AM ad) s.heap H1 locs1 → W p l e R s m args below meth c H1 locs1 0 0 Q (F0 m (pc + 3) ls (.int r :: rest))) : W p l e R s m args below meth c H locs 0 0 Q (F0 m pc ls st0) := by
  refine va_calli (va_runV (g := F0 m pc ls st0) S hM cw (m_pre hK hH) rfl hn hsize hst (lv_room hW) hdg ⟨Nat.zero_le _, Nat.zero_le _⟩) hS (fun q _ h => h) (fun q h => h) (fun r' u t H1 locs1 ht hvm hw hB hz hk hS1 => ?_)
  subst hw
  subst ht
  exact kk _ locs1 hB hS1
theorem m_callVl {r : Int64} (S : CallFix p m c cc nL s args lw_all own) (hM : Met l y ws rm (mPc D dA ad σ As) (mQl D dA ad r σ1) 0 0 (AM ad)) (cw : CallW R s args own RX4 index y bytes maxL ret ws rm 0 0 n) (hK : va_K D vCl (vTy dA) s) (hH : HM D dA ad σ H) (hS : va_S (AM ad) s.heap H locs) (hn : As.length = n) (hsize : ls.size = nL) (hst : st0 = As.reverse ++ .ref (ad 0) :: rest) (hW : (rest.map fun v => v.category).sum ≤ 8) (hdg : decode cc pc = .ok (.invokevirtual index, 3))
    (kk : ∀ (H1 : Heap) (locs1 : List Loc), HM D dA ad σ1 H1 → va_S (AM ad) s.heap H1 locs1 → W p l e R s m args below meth c H1 locs1 0 0 Q (F0 m (pc + 3) ls (.long r :: rest))) : W p l e R s m args below meth c H locs 0 0 Q (F0 m pc ls st0) := by
  refine va_calll (va_runV (g := F0 m pc ls st0) S hM cw (m_pre hK hH) rfl hn hsize hst (lv_room hW) hdg ⟨Nat.zero_le _, Nat.zero_le _⟩) hS (fun q _ h => h) (fun q h => h) (fun r' u t H1 locs1 ht hvm hw hB hz hk hS1 => ?_)
  subst hw
  subst ht
  exact kk _ locs1 hB hS1
theorem m_callVv (S : CallFix p m c cc nL s args lw_all own) (hM : Met l y ws rm (mPc D dA ad σ As) (mQv D dA ad σ1) 0 0 (AM ad)) (cw : CallW R s args own RX4 index y bytes maxL ret ws rm 0 0 n) (hK : va_K D vCl (vTy dA) s) (hH : HM D dA ad σ H) (hS : va_S (AM ad) s.heap H locs) (hn : As.length = n) (hsize : ls.size = nL) (hst : st0 = As.reverse ++ .ref (ad 0) :: rest) (hW : (rest.map fun v => v.category).sum ≤ 8) (hdg : decode cc pc = .ok (.invokevirtual index, 3))
    (kk : ∀ (H1 : Heap) (locs1 : List Loc), HM D dA ad σ1 H1 → va_S (AM ad) s.heap H1 locs1 → W p l e R s m args below meth c H1 locs1 0 0 Q (F0 m (pc + 3) ls rest)) : W p l e R s m args below meth c H locs 0 0 Q (F0 m pc ls st0) := by
  refine va_callv (va_runV (g := F0 m pc ls st0) S hM cw (m_pre hK hH) rfl hn hsize hst (lv_room hW) hdg ⟨Nat.zero_le _, Nat.zero_le _⟩) hS (fun q _ h => h) (fun q h => h) (fun u t H1 locs1 ht hvm hw hB hz hk hS1 => ?_)
  subst ht
  exact kk _ locs1 hB hS1
theorem s_pre {H : Heap} : PreS s H (sPc As) As := ⟨fun a U g mk q => q, fun U hU hW => ⟨rfl, trivial⟩⟩
theorem m_callSi {r : Int32} (S : CallFix p m c cc nL s args lw_all own) (hM : Met l y ws rm (sPc As) (sQi r) 0 0 noA) (cw : CallB R s args own index y bytes maxL ret ws rm 0 0 n ∧ (Cond.static y).before args s = true) (hH : HM D dA ad σ H) (hS : va_S (AM ad) s.heap H locs) (hn : As.length = n) (hsize : ls.size = nL) (hst : st0 = As.reverse ++ rest) (hW : (rest.map fun v => v.category).sum ≤ 8) (hdg : decode cc pc = .ok (.invokestatic index, 3))
    (kk : ∀ (H1 : Heap) (locs1 : List Loc), HM D dA ad σ H1 → va_S (AM ad) s.heap H1 locs1 → W p l e R s m args below meth c H1 locs1 0 0 Q (F0 m (pc + 3) ls (.int r :: rest))) : W p l e R s m args below meth c H locs 0 0 Q (F0 m pc ls st0) := by
  refine va_calli (va_runS (g := F0 m pc ls st0) S hM cw s_pre rfl hn hsize hst (lv_room hW) hdg ⟨Nat.zero_le _, Nat.zero_le _⟩) hS (fun q _ h => h.elim) (fun q h => h.elim) (fun r' u t H1 locs1 ht hvm hw hB hz hk hS1 => ?_)
  subst hw
  exact kk _ locs1 (hH.kept (fun q hq _ => hk q hq (fun h => h))) hS1
theorem m_callSl {r : Int64} (S : CallFix p m c cc nL s args lw_all own) (hM : Met l y ws rm (sPc As) (sQl r) 0 0 noA) (cw : CallB R s args own index y bytes maxL ret ws rm 0 0 n ∧ (Cond.static y).before args s = true) (hH : HM D dA ad σ H) (hS : va_S (AM ad) s.heap H locs) (hn : As.length = n) (hsize : ls.size = nL) (hst : st0 = As.reverse ++ rest) (hW : (rest.map fun v => v.category).sum ≤ 8) (hdg : decode cc pc = .ok (.invokestatic index, 3))
    (kk : ∀ (H1 : Heap) (locs1 : List Loc), HM D dA ad σ H1 → va_S (AM ad) s.heap H1 locs1 → W p l e R s m args below meth c H1 locs1 0 0 Q (F0 m (pc + 3) ls (.long r :: rest))) : W p l e R s m args below meth c H locs 0 0 Q (F0 m pc ls st0) := by
  refine va_calll (va_runS (g := F0 m pc ls st0) S hM cw s_pre rfl hn hsize hst (lv_room hW) hdg ⟨Nat.zero_le _, Nat.zero_le _⟩) hS (fun q _ h => h.elim) (fun q h => h.elim) (fun r' u t H1 locs1 ht hvm hw hB hz hk hS1 => ?_)
  subst hw
  exact kk _ locs1 (hH.kept (fun q hq _ => hk q hq (fun h => h))) hS1
theorem m_start {g : JFrame} (hH : HM D dA ad σ s.heap) (kk : ∀ (H : Heap) (locs : List Loc), HM D dA ad σ H → va_S (AM ad) s.heap H locs → W p l e R s m args below meth c H locs 0 0 Q g) : W p l e R s m args below meth c s.heap [] 0 0 Q g := kk _ _ hH va_S.rf
theorem s_start {g : JFrame} (kk : ∀ (H : Heap) (locs : List Loc), va_S noA s.heap H locs → W p l e R s m args below meth c H locs 0 0 Q g) : W p l e R s m args below meth c s.heap [] 0 0 Q g := kk _ _ va_S.rf
/-- a tableswitch outside its table -/
theorem tb_out {x : Int32} {lo hi : Int} (h : ∀ v : Int, lo ≤ v → v ≤ hi → ¬ x.toInt = v) : x.toInt < lo ∨ hi < x.toInt := by
  by_cases h1 : x.toInt < lo
  · exact Or.inl h1
  · by_cases h2 : hi < x.toInt
    · exact Or.inr h2
    · exact absurd rfl (h x.toInt (by omega) (by omega))
end MR
