/-! rows for the methods of FortyDaysModel that use String constants -/
def MT (T : Tk) (ad : Nat → Nat) (U : State) : Prop := MJ T (AM ad) U U.heap ∧ ∀ i, i < 9 → vk_R RX4 (kIx.getD i 0) (kTx.getD i "") (T.1 i) U
theorem MT.call {T : Tk} {ad : Nat → Nat} {s U : State} {H : Heap} {locs : List Loc} (h : MT T ad s) (hS : va_S (AM ad) s.heap H locs) (hU : U.heap = H) (hW : s.WarmedH U.vm) : MT T ad U := ⟨h.1.call hS hU hW, fun i hi => (h.2 i hi).warm hW⟩
theorem MT.blind {T : Tk} {ad : Nat → Nat} {U : State} {g : JFrame} {mk : MethodId} {a : Array Value} (h : MT T ad U) : MT T ad (U.calling g mk a) := ⟨MJ.moved (u := U) (U := U.calling g mk a) (Vm.Alike.refl U.vm) h.1, fun i hi => vk_R.same (u := U) (U := U.calling g mk a) rfl (h.2 i hi)⟩
abbrev mPcT (D : va_G) (dA : Nat → ClassId) (ad : Nat → Nat) (T : Tk) (σ : MS) (av : List Value) : Array Value → State → Prop := va_Pc (.ref (ad 0) :: av) (fun U => HM D dA ad σ U.heap ∧ va_K D vCl (vTy dA) U ∧ MT T ad U)
def strLen (i : Nat) : Option Int32 := if i < 9 then some (nI (kLen.getD i 0)) else none
def strAt (i : Nat) (k : Int32) : Option Int32 := if i < 9 ∧ ib k (kLen.getD i 0) = true then some ((kByt.getD i []).getD k.toNatClampNeg 0) else none
theorem ib_nI {k : Int32} {n : Nat} (h : ib k n = true) (hn : n < 2 ^ 31) : k.toNatClampNeg < n ∧ k = nI k.toNatClampNeg := by
  obtain ⟨j, hj, e⟩ := vp_in_of (ib_in h) hn
  subst e
  rw [nI_clamp (by omega)]
  exact ⟨hj, rfl⟩
section TR
variable {p : Program} {l : Launch} {e : Env} {R : Room} {s : State} {m : MethodId} {args : Array Value} {below : List Frame} {meth : Method} {c : Code} {H : Heap} {locs : List Loc} {Q : State → Prop}
variable {cc : ByteArray} {pc nL : Nat} {ls : Array Slot} {rest st0 : List Value} {D : va_G} {dA : Nat → ClassId} {ad : Nat → Nat} {σ σ1 : MS} {T : Tk}
variable {y : MethodName} {bytes : ByteArray} {maxL n index : Nat} {ret : Option FieldType} {ws : List Cond} {rm : Room} {own : String} {As : List Value}
theorem m_preT (hK : va_K D vCl (vTy dA) s) (hH : HM D dA ad σ H) (hT : MT T ad s) (hS : va_S (AM ad) s.heap H locs) : PreV s H RX4 (ad 0) (mPcT D dA ad T σ As) As :=
  ⟨fun a U g mk q => by obtain ⟨q0, q1, q2, q3⟩ := q; exact ⟨q0, q1, va_K.moved (u := U) (U := U.calling g mk a) (Vm.Alike.refl U.vm) q2, q3.blind⟩, va_recv hK hH.1 (ci := 0) (q0 := 0) (q := (RX4, TX4, 24)) rfl rfl, fun U hU hW => ⟨rfl, by rw [hU]; exact hH, va_K.moved hW.alike hK, hT.call hS hU hW⟩⟩
theorem m_callVvT (S : CallFix p m c cc nL s args lw_all own) (hM : Met l y ws rm (mPcT D dA ad T σ As) (mQv D dA ad σ1) 0 0 (AM ad)) (cw : CallW R s args own RX4 index y bytes maxL ret ws rm 0 0 n) (hK : va_K D vCl (vTy dA) s) (hT : MT T ad s) (hH : HM D dA ad σ H) (hS : va_S (AM ad) s.heap H locs) (hn : As.length = n) (hsize : ls.size = nL) (hst : st0 = As.reverse ++ .ref (ad 0) :: rest) (hW : (rest.map fun v => v.category).sum ≤ 8) (hdg : decode cc pc = .ok (.invokevirtual index, 3))
    (kk : ∀ (H1 : Heap) (locs1 : List Loc), HM D dA ad σ1 H1 → va_S (AM ad) s.heap H1 locs1 → W p l e R s m args below meth c H1 locs1 0 0 Q (F0 m (pc + 3) ls rest)) : W p l e R s m args below meth c H locs 0 0 Q (F0 m pc ls st0) := by
  refine va_callv (va_runV (g := F0 m pc ls st0) S hM cw (m_preT hK hH hT hS) rfl hn hsize hst (lv_room hW) hdg ⟨Nat.zero_le _, Nat.zero_le _⟩) hS (fun q _ h => h) (fun q h => h) (fun u t H1 locs1 ht hvm hw hB hz hk hS1 => ?_)
  subst ht
  exact kk _ locs1 hB hS1
theorem m_strLen {i : Nat} {r : Int32} (S : CallFix p m c cc nL s args lw_all own) (hf : strLen i = some r) (hR : 2 ≤ R.frames ∧ 40 ≤ R.locals) (hlink : Cond.methodLink own index yJ8_length ∈ lw_all) (hT : MT T ad s) (hH : HM D dA ad σ H) (hS : va_S (AM ad) s.heap H locs) (hsize : ls.size = nL) (hW : (rest.map fun v => v.category).sum ≤ 8) (hdg : decode cc pc = .ok (.invokevirtual index, 3))
    (kk : ∀ (H1 : Heap) (locs1 : List Loc), HM D dA ad σ H1 → va_S (AM ad) s.heap H1 locs1 → W p l e R s m args below meth c H1 locs1 0 0 Q (F0 m (pc + 3) ls (.int r :: rest))) : W p l e R s m args below meth c H locs 0 0 Q (F0 m pc ls (.ref (T.1 i) :: rest)) := by
  unfold strLen at hf
  split at hf
  · rename_i hi
    cases hf
    obtain ⟨hx, hb, hml, hown, hts⟩ := S
    refine va_calli (va_runV (g := F0 m pc ls (.ref (T.1 i) :: rest)) (C := RJ8) (As := []) ⟨hx, hb, hml, hown, hts⟩ (mJ8_length l T i hi) (cwV 0 hts (lw_V hlink q1402 q1403 q107 q1404) rfl rfl rfl (by decide +kernel) ⟨hR.1, hR.2⟩) ⟨fun a U g mk q => ⟨q.1, MJ.moved (u := U) (U := U.calling g mk a) (Vm.Alike.refl U.vm) q.2⟩, vk_recv hT.1.1 hi hS, fun U hU hW => ⟨rfl, (hT.1.call hS hU hW).narrow (fun q h => noA_e h)⟩⟩ rfl rfl hsize rfl (lv_room hW) hdg ⟨Nat.zero_le _, Nat.zero_le _⟩) hS (fun q _ h => False.elim h) (fun q h => False.elim h) (fun r u t H1 locs1 ht hvm hw hB hz hk hS1 => ?_)
    subst hw
    exact kk _ locs1 (hH.kept (fun q hq _ => hk q hq (fun h => h))) hS1
  · cases hf
theorem m_strAt {i : Nat} {k r : Int32} (S : CallFix p m c cc nL s args lw_all own) (hf : strAt i k = some r) (hR : 4 ≤ R.frames ∧ 85 ≤ R.locals) (hlink : Cond.methodLink own index yJ8_charAt ∈ lw_all) (hT : MT T ad s) (hH : HM D dA ad σ H) (hS : va_S (AM ad) s.heap H locs) (hsize : ls.size = nL) (hW : (rest.map fun v => v.category).sum ≤ 8) (hdg : decode cc pc = .ok (.invokevirtual index, 3))
    (kk : ∀ (H1 : Heap) (locs1 : List Loc), HM D dA ad σ H1 → va_S (AM ad) s.heap H1 locs1 → W p l e R s m args below meth c H1 locs1 0 0 Q (F0 m (pc + 3) ls (.int r :: rest))) : W p l e R s m args below meth c H locs 0 0 Q (F0 m pc ls (.int k :: .ref (T.1 i) :: rest)) := by
  unfold strAt at hf
  split at hf
  · rename_i hi
    cases hf
    obtain ⟨hx, hb, hml, hown, hts⟩ := S
    obtain ⟨hk1, hk2⟩ := ib_nI hi.2 (k_len i hi.1)
    generalize hj : k.toNatClampNeg = j at hk1 hk2 kk ⊢
    subst hk2
    refine va_calli (va_runV (g := F0 m pc ls (.int (nI j) :: .ref (T.1 i) :: rest)) (C := RJ8) (As := [.int (nI j)]) ⟨hx, hb, hml, hown, hts⟩ (mJ8_charAt l T i hi.1 j hk1) (cwV 1 hts (lw_V hlink q1412 q1413 q107 q1414) rfl rfl rfl (by decide +kernel) ⟨hR.1, hR.2⟩) ⟨fun a U g mk q => ⟨q.1, MJ.moved (u := U) (U := U.calling g mk a) (Vm.Alike.refl U.vm) q.2⟩, vk_recv hT.1.1 hi.1 hS, fun U hU hW => ⟨rfl, (hT.1.call hS hU hW).narrow (fun q h => noA_e h)⟩⟩ rfl rfl hsize rfl (lv_room hW) hdg ⟨Nat.zero_le _, Nat.zero_le _⟩) hS (fun q _ h => False.elim h) (fun q h => False.elim h) (fun r u t H1 locs1 ht hvm hw hB hz hk hS1 => ?_)
    subst hw
    exact kk _ locs1 (hH.kept (fun q hq _ => hk q hq (fun h => h))) hS1
  · cases hf
end TR
