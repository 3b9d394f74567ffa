/-! printed by gen/model.py -/
abbrev rmX4_spells : Room := { frames := 4, cells := 0, slots := 0, locals := 85 }
def fX4_spells (p1 : Nat) (σ : MS) : Option MS :=
 lp (fun _ _ => none) (fun (k3 : Int32 → MS → Option MS) (x1 : Int32) (σ2 : MS) =>
 cl (strLen p1) (fun (x4 : Int32) =>
 if x4 ≤ x1 then
 some σ2
 else
 cl (strAt p1 x1) (fun (x5 : Int32) =>
 cl (fX4_must x5 σ2) (fun (σ6 : MS) =>
 bd (x1 + (1:Int32)) (fun (x7 : Int32) =>
 k3 x7 σ6))))) NF (0:Int32) σ
set_option maxHeartbeats 4000000 in
set_option maxRecDepth 100000 in
theorem mX4_spells (l : Launch) (D : va_G) (dA : Nat → ClassId) (ad : Nat → Nat) (T : Tk) {p1 : Nat} {σ : MS} {σz : MS} (hX : fX4_spells p1 σ = some σz) : Met l yX4_spells (ws_ yX4_spells cX4_spells 3 none) (rmX4_spells) (mPcT D dA ad T σ [.ref (T.1 p1)]) (mQv D dA ad σz) 0 0 (AM ad) := by
  refine Met.ofW (cc := cX4_spells) (maxL := 3) (ret := none) (by decide) rfl ?_
  intro p e s m args below meth c s₁ B hml hv
  obtain ⟨rfl, hH, hK, hT⟩ := hv
  have hx := B.exec
  have hb := B.bytes
  have hr := B.returns
  have hts := atoms_spec (ws := (ws_ yX4_spells cX4_spells 3 none)) B.pre
  have hts : ∀ w ∈ lw_all, w.before _ s = true := fun w h => hts w (List.mem_cons_of_mem _ h)
  have hown : s.vm.findClass RX4 = some m.cls := findClass_of_methodNamed B.named
  have hlocks := B.notSynchronized
  have hl := lv_entry ([.ref (ad 0), .ref (T.1 p1)]) (n := 3) (Nat.le_of_ble_eq_true rfl)
  rw [lg_entry_eq]
  generalize (lg_sl ([.ref (ad 0), .ref (T.1 p1)]) ++ List.replicate (3 - (lg_sl ([.ref (ad 0), .ref (T.1 p1)])).length) Slot.unset).toArray = ls at hl ⊢
  have hl : lv_has ls 3 [(0, .ref (ad 0)), (1, .ref (T.1 p1))] := hl
  unfold fX4_spells at hX
  refine m_start hH (fun H locs hH hS => ?_)
  refine lv_iconst (v := (0:Int32)) hx hb dX4_spells_0 (by decide) ?_
  refine lv_istore_n (lv' := [(2, .int (0:Int32)), (0, .ref (ad 0)), (1, .ref (T.1 p1))]) hx hb dX4_spells_1 rfl hl (by decide) rfl (fun ls hl => ?_)
  refine lpu2 hX (fun (x1 : Int32) (σ2 : MS) => ∀ (H : Heap) (locs : List Loc), HM D dA ad σ2 H → va_S (AM ad) s.heap H locs → ∀ (ls : Array Slot), lv_has ls 3 [(0, .ref (ad 0)), (1, .ref (T.1 p1)), (2, .int x1)] → W p l e (headSpec (ws_ yX4_spells cX4_spells 3 none) (rmX4_spells)).room s m ([.ref (ad 0), .ref (T.1 p1)] : List Value).toArray below meth c H locs 0 0 (MQ below (mQv D dA ad σz) ([.ref (ad 0), .ref (T.1 p1)] : List Value).toArray s 0 0 (AM ad)) (F0 m 2 ls [])) (fun k3 hk3 x1 σ2 hX H locs hH hS ls hl => ?_) H locs hH hS ls (lv_sub hl [1, 2, 0] rfl)
  refine lv_iload_n hx hb dX4_spells_2 rfl (lv_at hl 2 rfl) ?_
  refine lv_aload_n hx hb dX4_spells_3 rfl (lv_at hl 1 rfl) ?_
  obtain ⟨x4, hf, hX⟩ := cl_inv hX
  refine m_strLen ⟨hx, hb, hml, hown, hts⟩ hf ⟨Nat.le_of_ble_eq_true rfl, Nat.le_of_ble_eq_true rfl⟩ q1401 hT hH hS hl.1 (Nat.le_of_ble_eq_true rfl) dX4_spells_4 (fun H locs hH hS => ?_)
  clear hf
  refine lv_icmp_ge (tgt := 25) hx hb dX4_spells_7 (by decide) (fun hc => ?_) (fun hc => ?_)
  · replace hX := ipos hc hX; clear hc
    have e1 := rinv hX; subst e1
    exact W.vret hx hb hr (fun t ht hW => ⟨⟨(), rfl, trivial, hH.to ht⟩, hS.F ht⟩) hS.2.2 dX4_spells_25
  · replace hX := ineg hc hX; clear hc
    refine lv_aload_n hx hb dX4_spells_10 rfl (lv_at hl 0 rfl) ?_
    refine lv_aload_n hx hb dX4_spells_11 rfl (lv_at hl 1 rfl) ?_
    refine lv_iload_n hx hb dX4_spells_12 rfl (lv_at hl 2 rfl) ?_
    obtain ⟨x5, hf, hX⟩ := cl_inv hX
    refine m_strAt ⟨hx, hb, hml, hown, hts⟩ hf ⟨Nat.le_of_ble_eq_true rfl, Nat.le_of_ble_eq_true rfl⟩ q1411 hT hH hS hl.1 (Nat.le_of_ble_eq_true rfl) dX4_spells_13 (fun H locs hH hS => ?_)
    clear hf
    obtain ⟨σ6, hf, hX⟩ := cl_inv hX
    refine m_callVv (As := [.int x5]) ⟨hx, hb, hml, hown, hts⟩ (mX4_must l D dA ad hf) (cwV 1 hts (lw_V q1388 q1390 qs44 q95 q1391) rfl rfl rfl (by decide +kernel) ⟨Nat.le_of_ble_eq_true rfl, Nat.le_of_ble_eq_true rfl⟩) hK hH hS rfl hl.1 rfl (Nat.le_of_ble_eq_true rfl) dX4_spells_16 (fun H locs hH hS => ?_)
    clear hf
    obtain ⟨x7, ex7⟩ : ∃ y : Int32, y = x1 + (1:Int32) := ⟨_, rfl⟩
    replace hX := bd_inv ex7 hX
    refine lv_iinc (v := x7) (lv' := [(2, .int x7), (0, .ref (ad 0)), (1, .ref (T.1 p1))]) hx hb dX4_spells_19 hl (k := 2) rfl (by rw [ex7]; rfl) (by decide) rfl (fun ls hl => ?_)
    clear ex7
    refine lv_goto (tgt := 2) hx hb dX4_spells_22 (by decide) ?_
    exact hk3 x7 σ6 hX H locs hH hS ls (lv_sub hl [1, 2, 0] rfl)

abbrev rmX4_tells : Room := { frames := 5, cells := 0, slots := 0, locals := 107 }
def fX4_tells (p1 : Int32) (p2 : Nat) (σ : MS) : Option MS :=
 cl (fX4_spells p2 σ) (fun (σ1 : MS) =>
 cl2 (fX4_figures σ1) (fun (x3 : Int32) (σ2 : MS) =>
 jn (fun (σ4 : MS) => some σ4) (fun (k5 : MS → Option MS) =>
 if (σ2.1 7) = (0:Int32) then
 gd (ib (((130:Int32) + ((10:Int32) * (σ2.1 4))) + p1) 1160) (
 bd (sa σ2 1 (((130:Int32) + ((10:Int32) * (σ2.1 4))) + p1).toNatClampNeg x3) (fun (σ6 : MS) =>
 k5 σ6))
 else
 k5 σ2)))
set_option maxHeartbeats 4000000 in
set_option maxRecDepth 100000 in
theorem mX4_tells (l : Launch) (D : va_G) (dA : Nat → ClassId) (ad : Nat → Nat) (T : Tk) {p1 : Int32} {p2 : Nat} {σ : MS} {σz : MS} (hX : fX4_tells p1 p2 σ = some σz) : Met l yX4_tells (ws_ yX4_tells cX4_tells 4 none) (rmX4_tells) (mPcT D dA ad T σ [.int p1, .ref (T.1 p2)]) (mQv D dA ad σz) 0 0 (AM ad) := by
  refine Met.ofW (cc := cX4_tells) (maxL := 4) (ret := none) (by decide) rfl ?_
  intro p e s m args below meth c s₁ B hml hv
  obtain ⟨rfl, hH, hK, hT⟩ := hv
  have hx := B.exec
  have hb := B.bytes
  have hr := B.returns
  have hts := atoms_spec (ws := (ws_ yX4_tells cX4_tells 4 none)) B.pre
  have hts : ∀ w ∈ lw_all, w.before _ s = true := fun w h => hts w (List.mem_cons_of_mem _ h)
  have hown : s.vm.findClass RX4 = some m.cls := findClass_of_methodNamed B.named
  have hlocks := B.notSynchronized
  have hl := lv_entry ([.ref (ad 0), .int p1, .ref (T.1 p2)]) (n := 4) (Nat.le_of_ble_eq_true rfl)
  rw [lg_entry_eq]
  generalize (lg_sl ([.ref (ad 0), .int p1, .ref (T.1 p2)]) ++ List.replicate (4 - (lg_sl ([.ref (ad 0), .int p1, .ref (T.1 p2)])).length) Slot.unset).toArray = ls at hl ⊢
  have hl : lv_has ls 4 [(0, .ref (ad 0)), (1, .int p1), (2, .ref (T.1 p2))] := hl
  unfold fX4_tells at hX
  refine m_start hH (fun H locs hH hS => ?_)
  refine lv_aload_n hx hb dX4_tells_0 rfl (lv_at hl 0 rfl) ?_
  refine lv_aload_n hx hb dX4_tells_1 rfl (lv_at hl 2 rfl) ?_
  obtain ⟨σ1, hf, hX⟩ := cl_inv hX
  refine m_callVvT (As := [.ref (T.1 p2)]) ⟨hx, hb, hml, hown, hts⟩ (mX4_spells l D dA ad T hf) (cwV 1 hts (lw_V q1397 q1399 qs46 q95 q1400) rfl rfl rfl (by decide +kernel) ⟨Nat.le_of_ble_eq_true rfl, Nat.le_of_ble_eq_true rfl⟩) hK hT hH hS rfl hl.1 rfl (Nat.le_of_ble_eq_true rfl) dX4_tells_2 (fun H locs hH hS => ?_)
  clear hf
  refine lv_aload_n hx hb dX4_tells_5 rfl (lv_at hl 0 rfl) ?_
  obtain ⟨x3, σ2, hf, hX⟩ := cl2_inv hX
  refine m_callVi (As := []) ⟨hx, hb, hml, hown, hts⟩ (mX4_figures l D dA ad hf) (cwV 0 hts (lw_V q1447 q1449 qs47 q95 q1450) rfl rfl rfl (by decide +kernel) ⟨Nat.le_of_ble_eq_true rfl, Nat.le_of_ble_eq_true rfl⟩) hK hH hS rfl hl.1 rfl (Nat.le_of_ble_eq_true rfl) dX4_tells_6 (fun H locs hH hS => ?_)
  clear hf
  refine lv_istore_n (lv' := [(3, .int x3), (0, .ref (ad 0)), (1, .int p1), (2, .ref (T.1 p2))]) hx hb dX4_tells_9 rfl hl (by decide) rfl (fun ls hl => ?_)
  refine lv_aload_n hx hb dX4_tells_10 rfl (lv_at hl 1 rfl) ?_
  refine m_get (v := .int (σ2.1 7)) hx hb hts hown hK hH 7 (by decide) (hts _ q1297) rfl dX4_tells_11 ?_
  refine jnu1 hX (fun (σ4 : MS) => ∀ (H : Heap) (locs : List Loc), HM D dA ad σ4 H → va_S (AM ad) s.heap H locs → ∀ (ls : Array Slot), lv_has ls 4 [] → W p l e (headSpec (ws_ yX4_tells cX4_tells 4 none) (rmX4_tells)).room s m ([.ref (ad 0), .int p1, .ref (T.1 p2)] : List Value).toArray below meth c H locs 0 0 (MQ below (mQv D dA ad σz) ([.ref (ad 0), .int p1, .ref (T.1 p2)] : List Value).toArray s 0 0 (AM ad)) (F0 m 36 ls [])) (fun σ4 hX H locs hH hS ls hl => ?_) (fun k5 hk5 hX => ?_)
  · have e1 := rinv hX; subst e1
    exact W.vret hx hb hr (fun t ht hW => ⟨⟨(), rfl, trivial, hH.to ht⟩, hS.F ht⟩) hS.2.2 dX4_tells_36
  · refine lv_if_ne (tgt := 36) hx hb dX4_tells_14 (by decide) (fun hc => ?_) (fun hc => ?_)
    · replace hX := ineg hc hX; clear hc
      exact hk5 σ2 hX H locs hH hS ls (lv_sub hl [] rfl)
    · replace hX := ipos hc hX; clear hc
      refine lv_aload_n hx hb dX4_tells_17 rfl (lv_at hl 1 rfl) ?_
      refine m_get (v := .ref (ad 1)) hx hb hts hown hK hH 1 (by decide) (hts _ q1291) rfl dX4_tells_18 ?_
      refine lv_sipush (v := (130:Int32)) hx hb dX4_tells_21 (by decide) ?_
      refine lv_bipush (v := (10:Int32)) hx hb dX4_tells_24 (by decide) ?_
      refine lv_aload_n hx hb dX4_tells_26 rfl (lv_at hl 1 rfl) ?_
      refine m_get (v := .int (σ2.1 4)) hx hb hts hown hK hH 4 (by decide) (hts _ q1294) rfl dX4_tells_27 ?_
      refine lv_imul hx hb dX4_tells_30 ?_
      refine lv_iadd hx hb dX4_tells_31 ?_
      refine lv_iload_n hx hb dX4_tells_32 rfl (lv_at hl 2 rfl) ?_
      refine lv_iadd hx hb dX4_tells_33 ?_
      refine lv_iload_n hx hb dX4_tells_34 rfl (lv_at hl 0 rfl) ?_
      obtain ⟨hg, hX⟩ := gd_inv hX
      refine m_iast hx hb hK hH hS 1 1 (n := 1160) rfl hg rfl dX4_tells_35 (fun σ6 eσ6 H locs hH hS => ?_)
      replace hX := bd_inv eσ6 hX; clear eσ6
      exact hk5 σ6 hX H locs hH hS ls (lv_sub hl [] rfl)

abbrev rmX4_haves : Room := { frames := 6, cells := 0, slots := 0, locals := 130 }
def fX4_haves  (σ : MS) : Option MS :=
 cl (fX4_spells 2 σ) (fun (σ1 : MS) =>
 jn (fun (x2 : Int32) => gd (isb x2) (
 bd (sf σ1 7 x2) (fun (σ4 : MS) =>
 jn (fun (x5 : Int32) => jn (fun (x7 : Int32) => bd (sf σ4 5 ((σ4.1 5) + x7)) (fun (σ9 : MS) =>
 cl (fX4_tells x5 3 σ9) (fun (σ10 : MS) =>
 some σ10))) (fun (k8 : Int32 → Option MS) =>
 if (σ4.1 7) = (0:Int32) then
 k8 (1:Int32)
 else
 k8 (0:Int32))) (fun (k6 : Int32 → Option MS) =>
 if (σ4.1 7) = (0:Int32) then
 cl (fX4_here σ4) (fun (x11 : Int32) =>
 k6 (x11 - (48:Int32)))
 else
 k6 (0:Int32))))) (fun (k3 : Int32 → Option MS) =>
 jn (k3 (1:Int32)) (fun (k12 : Option MS) =>
 if (σ1.1 7) = (0:Int32) then
 cl (fX4_here σ1) (fun (x13 : Int32) =>
 cl (fX4_in x13 (48:Int32) (51:Int32)) (fun (x14 : Int32) =>
 if x14 = (0:Int32) then
 k12
 else
 k3 (0:Int32)))
 else
 k12)))
set_option maxHeartbeats 4000000 in
set_option maxRecDepth 100000 in
theorem mX4_haves (l : Launch) (D : va_G) (dA : Nat → ClassId) (ad : Nat → Nat) (T : Tk)  {σ : MS} {σz : MS} (hX : fX4_haves σ = some σz) : Met l yX4_haves (ws_ yX4_haves cX4_haves 2 none) (rmX4_haves) (mPcT D dA ad T σ []) (mQv D dA ad σz) 0 0 (AM ad) := by
  refine Met.ofW (cc := cX4_haves) (maxL := 2) (ret := none) (by decide) rfl ?_
  intro p e s m args below meth c s₁ B hml hv
  obtain ⟨rfl, hH, hK, hT⟩ := hv
  have hx := B.exec
  have hb := B.bytes
  have hr := B.returns
  have hts := atoms_spec (ws := (ws_ yX4_haves cX4_haves 2 none)) B.pre
  have hts : ∀ w ∈ lw_all, w.before _ s = true := fun w h => hts w (List.mem_cons_of_mem _ h)
  have hown : s.vm.findClass RX4 = some m.cls := findClass_of_methodNamed B.named
  have hlocks := B.notSynchronized
  have hl := lv_entry ([.ref (ad 0)]) (n := 2) (Nat.le_of_ble_eq_true rfl)
  rw [lg_entry_eq]
  generalize (lg_sl ([.ref (ad 0)]) ++ List.replicate (2 - (lg_sl ([.ref (ad 0)])).length) Slot.unset).toArray = ls at hl ⊢
  have hl : lv_has ls 2 [(0, .ref (ad 0))] := hl
  unfold fX4_haves at hX
  refine m_start hH (fun H locs hH hS => ?_)
  refine lv_aload_n hx hb dX4_haves_0 rfl (lv_at hl 0 rfl) ?_
  refine va_ldcS hx hb hown (hT.2 2 (by decide)) dX4_haves_1 ?_
  obtain ⟨σ1, hf, hX⟩ := cl_inv hX
  refine m_callVvT (As := [.ref (T.1 2)]) ⟨hx, hb, hml, hown, hts⟩ (mX4_spells l D dA ad T hf) (cwV 1 hts (lw_V q1397 q1399 qs46 q95 q1400) rfl rfl rfl (by decide +kernel) ⟨Nat.le_of_ble_eq_true rfl, Nat.le_of_ble_eq_true rfl⟩) hK hT hH hS rfl hl.1 rfl (Nat.le_of_ble_eq_true rfl) dX4_haves_3 (fun H locs hH hS => ?_)
  clear hf
  refine lv_aload_n hx hb dX4_haves_6 rfl (lv_at hl 0 rfl) ?_
  refine lv_aload_n hx hb dX4_haves_7 rfl (lv_at hl 0 rfl) ?_
  refine m_get (v := .int (σ1.1 7)) hx hb hts hown hK hH 7 (by decide) (hts _ q1297) rfl dX4_haves_8 ?_
  refine jnu1 hX (fun (x2 : Int32) => ∀ (H : Heap) (locs : List Loc), HM D dA ad σ1 H → va_S (AM ad) s.heap H locs → ∀ (ls : Array Slot), lv_has ls 2 [(0, .ref (ad 0))] → W p l e (headSpec (ws_ yX4_haves cX4_haves 2 none) (rmX4_haves)).room s m ([.ref (ad 0)] : List Value).toArray below meth c H locs 0 0 (MQ below (mQv D dA ad σz) ([.ref (ad 0)] : List Value).toArray s 0 0 (AM ad)) (F0 m 33 ls [.int x2, .ref (ad 0)])) (fun x2 hX H locs hH hS ls hl => ?_) (fun k3 hk3 hX => ?_)
  · obtain ⟨hg, hX⟩ := gd_inv hX
    refine m_put (ty := .boolean) hx hb hts hown hK hH hS 7 (by decide) (hts _ q1297) rfl (tyX4_ok 7 (by decide)) (isb_n hg) (isb_f hg) rfl dX4_haves_33 (fun σ4 eσ4 H locs hH hS => ?_)
    replace hX := bd_inv eσ4 hX; clear eσ4
    refine lv_aload_n hx hb dX4_haves_36 rfl (lv_at hl 0 rfl) ?_
    refine m_get (v := .int (σ4.1 7)) hx hb hts hown hK hH 7 (by decide) (hts _ q1297) rfl dX4_haves_37 ?_
    refine jnu1 hX (fun (x5 : Int32) => ∀ (H : Heap) (locs : List Loc), HM D dA ad σ4 H → va_S (AM ad) s.heap H locs → ∀ (ls : Array Slot), lv_has ls 2 [(0, .ref (ad 0))] → W p l e (headSpec (ws_ yX4_haves cX4_haves 2 none) (rmX4_haves)).room s m ([.ref (ad 0)] : List Value).toArray below meth c H locs 0 0 (MQ below (mQv D dA ad σz) ([.ref (ad 0)] : List Value).toArray s 0 0 (AM ad)) (F0 m 54 ls [.int x5])) (fun x5 hX H locs hH hS ls hl => ?_) (fun k6 hk6 hX => ?_)
    · refine lv_istore_n (lv' := [(1, .int x5), (0, .ref (ad 0))]) hx hb dX4_haves_54 rfl hl (by decide) rfl (fun ls hl => ?_)
      refine lv_aload_n hx hb dX4_haves_55 rfl (lv_at hl 1 rfl) ?_
      refine lv_dup hx hb dX4_haves_56 rfl ?_
      refine m_get (v := .int (σ4.1 5)) hx hb hts hown hK hH 5 (by decide) (hts _ q1295) rfl dX4_haves_57 ?_
      refine lv_aload_n hx hb dX4_haves_60 rfl (lv_at hl 1 rfl) ?_
      refine m_get (v := .int (σ4.1 7)) hx hb hts hown hK hH 7 (by decide) (hts _ q1297) rfl dX4_haves_61 ?_
      refine jnu1 hX (fun (x7 : Int32) => ∀ (H : Heap) (locs : List Loc), HM D dA ad σ4 H → va_S (AM ad) s.heap H locs → ∀ (ls : Array Slot), lv_has ls 2 [(0, .ref (ad 0)), (1, .int x5)] → W p l e (headSpec (ws_ yX4_haves cX4_haves 2 none) (rmX4_haves)).room s m ([.ref (ad 0)] : List Value).toArray below meth c H locs 0 0 (MQ below (mQv D dA ad σz) ([.ref (ad 0)] : List Value).toArray s 0 0 (AM ad)) (F0 m 72 ls [.int x7, .int (σ4.1 5), .ref (ad 0)])) (fun x7 hX H locs hH hS ls hl => ?_) (fun k8 hk8 hX => ?_)
      · refine lv_iadd hx hb dX4_haves_72 ?_
        refine m_put (ty := .int) hx hb hts hown hK hH hS 5 (by decide) (hts _ q1295) rfl (tyX4_ok 5 (by decide)) rfl rfl rfl dX4_haves_73 (fun σ9 eσ9 H locs hH hS => ?_)
        replace hX := bd_inv eσ9 hX; clear eσ9
        refine lv_aload_n hx hb dX4_haves_76 rfl (lv_at hl 0 rfl) ?_
        refine lv_iload_n hx hb dX4_haves_77 rfl (lv_at hl 1 rfl) ?_
        refine va_ldcS hx hb hown (hT.2 3 (by decide)) dX4_haves_78 ?_
        obtain ⟨σ10, hf, hX⟩ := cl_inv hX
        refine m_callVvT (As := [.int x5, .ref (T.1 3)]) ⟨hx, hb, hml, hown, hts⟩ (mX4_tells l D dA ad T hf) (cwV 2 hts (lw_V q1468 q1470 qs52 q95 q1471) rfl rfl rfl (by decide +kernel) ⟨Nat.le_of_ble_eq_true rfl, Nat.le_of_ble_eq_true rfl⟩) hK hT hH hS rfl hl.1 rfl (Nat.le_of_ble_eq_true rfl) dX4_haves_80 (fun H locs hH hS => ?_)
        clear hf
        have e1 := rinv hX; subst e1
        exact W.vret hx hb hr (fun t ht hW => ⟨⟨(), rfl, trivial, hH.to ht⟩, hS.F ht⟩) hS.2.2 dX4_haves_83
      · refine lv_if_eq (tgt := 71) hx hb dX4_haves_64 (by decide) (fun hc => ?_) (fun hc => ?_)
        · replace hX := ipos hc hX; clear hc
          refine lv_iconst (v := (1:Int32)) hx hb dX4_haves_71 (by decide) ?_
          exact hk8 (1:Int32) hX H locs hH hS ls (lv_sub hl [1, 0] rfl)
        · replace hX := ineg hc hX; clear hc
          refine lv_iconst (v := (0:Int32)) hx hb dX4_haves_67 (by decide) ?_
          refine lv_goto (tgt := 72) hx hb dX4_haves_68 (by decide) ?_
          exact hk8 (0:Int32) hX H locs hH hS ls (lv_sub hl [1, 0] rfl)
    · refine lv_if_eq (tgt := 47) hx hb dX4_haves_40 (by decide) (fun hc => ?_) (fun hc => ?_)
      · replace hX := ipos hc hX; clear hc
        refine lv_aload_n hx hb dX4_haves_47 rfl (lv_at hl 0 rfl) ?_
        obtain ⟨x11, hf, hX⟩ := cl_inv hX
        refine m_callVi (As := []) ⟨hx, hb, hml, hown, hts⟩ (mX4_here l D dA ad hf) (cwV 0 hts (lw_V q1380 q1382 qs42 q95 q1383) rfl rfl rfl (by decide +kernel) ⟨Nat.le_of_ble_eq_true rfl, Nat.le_of_ble_eq_true rfl⟩) hK hH hS rfl hl.1 rfl (Nat.le_of_ble_eq_true rfl) dX4_haves_48 (fun H locs hH hS => ?_)
        clear hf
        refine lv_bipush (v := (48:Int32)) hx hb dX4_haves_51 (by decide) ?_
        refine lv_isub hx hb dX4_haves_53 ?_
        exact hk6 (x11 - (48:Int32)) hX H locs hH hS ls (lv_sub hl [0] rfl)
      · replace hX := ineg hc hX; clear hc
        refine lv_iconst (v := (0:Int32)) hx hb dX4_haves_43 (by decide) ?_
        refine lv_goto (tgt := 54) hx hb dX4_haves_44 (by decide) ?_
        exact hk6 (0:Int32) hX H locs hH hS ls (lv_sub hl [0] rfl)
  · refine jnu0 hX (∀ (H : Heap) (locs : List Loc), HM D dA ad σ1 H → va_S (AM ad) s.heap H locs → ∀ (ls : Array Slot), lv_has ls 2 [(0, .ref (ad 0))] → W p l e (headSpec (ws_ yX4_haves cX4_haves 2 none) (rmX4_haves)).room s m ([.ref (ad 0)] : List Value).toArray below meth c H locs 0 0 (MQ below (mQv D dA ad σz) ([.ref (ad 0)] : List Value).toArray s 0 0 (AM ad)) (F0 m 28 ls [.ref (ad 0)])) (fun  hX H locs hH hS ls hl => ?_) (fun k12 hk12 hX => ?_)
    · refine lv_iconst (v := (1:Int32)) hx hb dX4_haves_28 (by decide) ?_
      refine lv_goto (tgt := 33) hx hb dX4_haves_29 (by decide) ?_
      exact hk3 (1:Int32) hX H locs hH hS ls (lv_sub hl [0] rfl)
    · refine lv_if_ne (tgt := 28) hx hb dX4_haves_11 (by decide) (fun hc => ?_) (fun hc => ?_)
      · replace hX := ineg hc hX; clear hc
        exact hk12  hX H locs hH hS ls (lv_sub hl [0] rfl)
      · replace hX := ipos hc hX; clear hc
        refine lv_aload_n hx hb dX4_haves_14 rfl (lv_at hl 0 rfl) ?_
        obtain ⟨x13, hf, hX⟩ := cl_inv hX
        refine m_callVi (As := []) ⟨hx, hb, hml, hown, hts⟩ (mX4_here l D dA ad hf) (cwV 0 hts (lw_V q1380 q1382 qs42 q95 q1383) rfl rfl rfl (by decide +kernel) ⟨Nat.le_of_ble_eq_true rfl, Nat.le_of_ble_eq_true rfl⟩) hK hH hS rfl hl.1 rfl (Nat.le_of_ble_eq_true rfl) dX4_haves_15 (fun H locs hH hS => ?_)
        clear hf
        refine lv_bipush (v := (48:Int32)) hx hb dX4_haves_18 (by decide) ?_
        refine lv_bipush (v := (51:Int32)) hx hb dX4_haves_20 (by decide) ?_
        obtain ⟨x14, hf, hX⟩ := cl_inv hX
        refine m_callSi (As := [.int x13, .int (48:Int32), .int (51:Int32)]) ⟨hx, hb, hml, hown, hts⟩ (mX4_in l hf) (va_cwS 3 hts (lw_S q1368 q1369 q95 q1370) rfl rfl rfl (by decide +kernel) ⟨Nat.le_of_ble_eq_true rfl, Nat.le_of_ble_eq_true rfl⟩) hH hS rfl hl.1 rfl (Nat.le_of_ble_eq_true rfl) dX4_haves_22 (fun H locs hH hS => ?_)
        clear hf
        refine lv_if_ne (tgt := 32) hx hb dX4_haves_25 (by decide) (fun hc => ?_) (fun hc => ?_)
        · replace hX := ineg hc hX; clear hc
          refine lv_iconst (v := (0:Int32)) hx hb dX4_haves_32 (by decide) ?_
          exact hk3 (0:Int32) hX H locs hH hS ls (lv_sub hl [0] rfl)
        · replace hX := ipos hc hX; clear hc
          exact hk12  hX H locs hH hS ls (lv_sub hl [0] rfl)

abbrev rmX4_holdings : Room := { frames := 61, cells := 0, slots := 0, locals := 1340 }
def fX4_holdings  (σ : MS) : Option MS :=
 cl (fX4_spells 0 σ) (fun (σ1 : MS) =>
 cl2 (fX4_figures σ1) (fun (x3 : Int32) (σ2 : MS) =>
 cl (fX4_must (32:Int32) σ2) (fun (σ4 : MS) =>
 cl (gPar 30 2 σ4) (fun (σ5 : MS) =>
 cl (fX4_emits ((-10:Int32) - x3) σ5) (fun (σ6 : MS) =>
 some σ6)))))
set_option maxHeartbeats 4000000 in
set_option maxRecDepth 100000 in
theorem mX4_holdings (l : Launch) (D : va_G) (dA : Nat → ClassId) (ad : Nat → Nat) (T : Tk)  {σ : MS} {σz : MS} (hX : fX4_holdings σ = some σz) : Met l yX4_holdings (ws_ yX4_holdings cX4_holdings 2 none) (rmX4_holdings) (mPcT D dA ad T σ []) (mQv D dA ad σz) 0 0 (AM ad) := by
  refine Met.ofW (cc := cX4_holdings) (maxL := 2) (ret := none) (by decide) rfl ?_
  intro p e s m args below meth c s₁ B hml hv
  obtain ⟨rfl, hH, hK, hT⟩ := hv
  have hx := B.exec
  have hb := B.bytes
  have hr := B.returns
  have hts := atoms_spec (ws := (ws_ yX4_holdings cX4_holdings 2 none)) B.pre
  have hts : ∀ w ∈ lw_all, w.before _ s = true := fun w h => hts w (List.mem_cons_of_mem _ h)
  have hown : s.vm.findClass RX4 = some m.cls := findClass_of_methodNamed B.named
  have hlocks := B.notSynchronized
  have hl := lv_entry ([.ref (ad 0)]) (n := 2) (Nat.le_of_ble_eq_true rfl)
  rw [lg_entry_eq]
  generalize (lg_sl ([.ref (ad 0)]) ++ List.replicate (2 - (lg_sl ([.ref (ad 0)])).length) Slot.unset).toArray = ls at hl ⊢
  have hl : lv_has ls 2 [(0, .ref (ad 0))] := hl
  unfold fX4_holdings at hX
  refine m_start hH (fun H locs hH hS => ?_)
  refine lv_aload_n hx hb dX4_holdings_0 rfl (lv_at hl 0 rfl) ?_
  refine va_ldcS hx hb hown (hT.2 0 (by decide)) dX4_holdings_1 ?_
  obtain ⟨σ1, hf, hX⟩ := cl_inv hX
  refine m_callVvT (As := [.ref (T.1 0)]) ⟨hx, hb, hml, hown, hts⟩ (mX4_spells l D dA ad T hf) (cwV 1 hts (lw_V q1397 q1399 qs46 q95 q1400) rfl rfl rfl (by decide +kernel) ⟨Nat.le_of_ble_eq_true rfl, Nat.le_of_ble_eq_true rfl⟩) hK hT hH hS rfl hl.1 rfl (Nat.le_of_ble_eq_true rfl) dX4_holdings_3 (fun H locs hH hS => ?_)
  clear hf
  refine lv_aload_n hx hb dX4_holdings_6 rfl (lv_at hl 0 rfl) ?_
  obtain ⟨x3, σ2, hf, hX⟩ := cl2_inv hX
  refine m_callVi (As := []) ⟨hx, hb, hml, hown, hts⟩ (mX4_figures l D dA ad hf) (cwV 0 hts (lw_V q1447 q1449 qs47 q95 q1450) rfl rfl rfl (by decide +kernel) ⟨Nat.le_of_ble_eq_true rfl, Nat.le_of_ble_eq_true rfl⟩) hK hH hS rfl hl.1 rfl (Nat.le_of_ble_eq_true rfl) dX4_holdings_7 (fun H locs hH hS => ?_)
  clear hf
  refine lv_istore_n (lv' := [(1, .int x3), (0, .ref (ad 0))]) hx hb dX4_holdings_10 rfl hl (by decide) rfl (fun ls hl => ?_)
  refine lv_aload_n hx hb dX4_holdings_11 rfl (lv_at hl 1 rfl) ?_
  refine lv_bipush (v := (32:Int32)) hx hb dX4_holdings_12 (by decide) ?_
  obtain ⟨σ4, hf, hX⟩ := cl_inv hX
  refine m_callVv (As := [.int (32:Int32)]) ⟨hx, hb, hml, hown, hts⟩ (mX4_must l D dA ad hf) (cwV 1 hts (lw_V q1388 q1390 qs44 q95 q1391) rfl rfl rfl (by decide +kernel) ⟨Nat.le_of_ble_eq_true rfl, Nat.le_of_ble_eq_true rfl⟩) hK hH hS rfl hl.1 rfl (Nat.le_of_ble_eq_true rfl) dX4_holdings_14 (fun H locs hH hS => ?_)
  clear hf
  refine lv_aload_n hx hb dX4_holdings_17 rfl (lv_at hl 1 rfl) ?_
  obtain ⟨σ5, hf, hX⟩ := cl_inv hX
  refine m_callVv (As := []) ⟨hx, hb, hml, hown, hts⟩ ((mgPar l D dA ad 30).2.2 hf) (cwV 0 hts (lw_V q1451 q1453 qs48 q95 q1454) rfl rfl rfl (by decide +kernel) ⟨Nat.le_of_ble_eq_true rfl, Nat.le_of_ble_eq_true rfl⟩) hK hH hS rfl hl.1 rfl (Nat.le_of_ble_eq_true rfl) dX4_holdings_18 (fun H locs hH hS => ?_)
  clear hf
  refine lv_aload_n hx hb dX4_holdings_21 rfl (lv_at hl 1 rfl) ?_
  refine lv_bipush (v := (-10:Int32)) hx hb dX4_holdings_22 (by decide) ?_
  refine lv_iload_n hx hb dX4_holdings_24 rfl (lv_at hl 0 rfl) ?_
  refine lv_isub hx hb dX4_holdings_25 ?_
  obtain ⟨σ6, hf, hX⟩ := cl_inv hX
  refine m_callVv (As := [.int ((-10:Int32) - x3)]) ⟨hx, hb, hml, hown, hts⟩ (mX4_emits l D dA ad hf) (cwV 1 hts (lw_V q1463 q1465 qs51 q95 q1466) rfl rfl rfl (by decide +kernel) ⟨Nat.le_of_ble_eq_true rfl, Nat.le_of_ble_eq_true rfl⟩) hK hH hS rfl hl.1 rfl (Nat.le_of_ble_eq_true rfl) dX4_holdings_26 (fun H locs hH hS => ?_)
  clear hf
  have e1 := rinv hX; subst e1
  exact W.vret hx hb hr (fun t ht hW => ⟨⟨(), rfl, trivial, hH.to ht⟩, hS.F ht⟩) hS.2.2 dX4_holdings_29

abbrev rmX4_clauseOfH : Room := { frames := 62, cells := 0, slots := 0, locals := 1361 }
def fX4_clauseOfH  (σ : MS) : Option MS :=
 cl (fX4_must (104:Int32) σ) (fun (σ1 : MS) =>
 cl (fX4_here σ1) (fun (x2 : Int32) =>
 if x2 = (111:Int32) then
 cl (fX4_must (111:Int32) σ1) (fun (σ10 : MS) =>
 cl (fX4_holdings σ10) (fun (σ11 : MS) =>
 some σ11))
 else
 cl (fX4_must (97:Int32) σ1) (fun (σ3 : MS) =>
 jn (fun (σ4 : MS) => some σ4) (fun (k5 : MS → Option MS) =>
 jn (cl (fX4_haves σ3) (fun (σ7 : MS) =>
 k5 σ7)) (fun (k6 : Option MS) =>
 if (σ3.1 7) = (0:Int32) then
 cl (fX4_here σ3) (fun (x8 : Int32) =>
 if x8 = (114:Int32) then
 cl (fX4_tells (7:Int32) 1 σ3) (fun (σ9 : MS) =>
 k5 σ9)
 else
 k6)
 else
 k6)))))
set_option maxHeartbeats 4000000 in
set_option maxRecDepth 100000 in
theorem mX4_clauseOfH (l : Launch) (D : va_G) (dA : Nat → ClassId) (ad : Nat → Nat) (T : Tk)  {σ : MS} {σz : MS} (hX : fX4_clauseOfH σ = some σz) : Met l yX4_clauseOfH (ws_ yX4_clauseOfH cX4_clauseOfH 1 none) (rmX4_clauseOfH) (mPcT D dA ad T σ []) (mQv D dA ad σz) 0 0 (AM ad) := by
  refine Met.ofW (cc := cX4_clauseOfH) (maxL := 1) (ret := none) (by decide) rfl ?_
  intro p e s m args below meth c s₁ B hml hv
  obtain ⟨rfl, hH, hK, hT⟩ := hv
  have hx := B.exec
  have hb := B.bytes
  have hr := B.returns
  have hts := atoms_spec (ws := (ws_ yX4_clauseOfH cX4_clauseOfH 1 none)) B.pre
  have hts : ∀ w ∈ lw_all, w.before _ s = true := fun w h => hts w (List.mem_cons_of_mem _ h)
  have hown : s.vm.findClass RX4 = some m.cls := findClass_of_methodNamed B.named
  have hlocks := B.notSynchronized
  have hl := lv_entry ([.ref (ad 0)]) (n := 1) (Nat.le_of_ble_eq_true rfl)
  rw [lg_entry_eq]
  generalize (lg_sl ([.ref (ad 0)]) ++ List.replicate (1 - (lg_sl ([.ref (ad 0)])).length) Slot.unset).toArray = ls at hl ⊢
  have hl : lv_has ls 1 [(0, .ref (ad 0))] := hl
  unfold fX4_clauseOfH at hX
  refine m_start hH (fun H locs hH hS => ?_)
  refine lv_aload_n hx hb dX4_clauseOfH_0 rfl (lv_at hl 0 rfl) ?_
  refine lv_bipush (v := (104:Int32)) hx hb dX4_clauseOfH_1 (by decide) ?_
  obtain ⟨σ1, hf, hX⟩ := cl_inv hX
  refine m_callVv (As := [.int (104:Int32)]) ⟨hx, hb, hml, hown, hts⟩ (mX4_must l D dA ad hf) (cwV 1 hts (lw_V q1388 q1390 qs44 q95 q1391) rfl rfl rfl (by decide +kernel) ⟨Nat.le_of_ble_eq_true rfl, Nat.le_of_ble_eq_true rfl⟩) hK hH hS rfl hl.1 rfl (Nat.le_of_ble_eq_true rfl) dX4_clauseOfH_3 (fun H locs hH hS => ?_)
  clear hf
  refine lv_aload_n hx hb dX4_clauseOfH_6 rfl (lv_at hl 0 rfl) ?_
  obtain ⟨x2, hf, hX⟩ := cl_inv hX
  refine m_callVi (As := []) ⟨hx, hb, hml, hown, hts⟩ (mX4_here l D dA ad hf) (cwV 0 hts (lw_V q1380 q1382 qs42 q95 q1383) rfl rfl rfl (by decide +kernel) ⟨Nat.le_of_ble_eq_true rfl, Nat.le_of_ble_eq_true rfl⟩) hK hH hS rfl hl.1 rfl (Nat.le_of_ble_eq_true rfl) dX4_clauseOfH_7 (fun H locs hH hS => ?_)
  clear hf
  refine lv_bipush (v := (111:Int32)) hx hb dX4_clauseOfH_10 (by decide) ?_
  refine lv_icmp_ne (tgt := 26) hx hb dX4_clauseOfH_12 (by decide) (fun hc => ?_) (fun hc => ?_)
  · replace hX := ineg hc hX; clear hc
    refine lv_aload_n hx hb dX4_clauseOfH_26 rfl (lv_at hl 0 rfl) ?_
    refine lv_bipush (v := (97:Int32)) hx hb dX4_clauseOfH_27 (by decide) ?_
    obtain ⟨σ3, hf, hX⟩ := cl_inv hX
    refine m_callVv (As := [.int (97:Int32)]) ⟨hx, hb, hml, hown, hts⟩ (mX4_must l D dA ad hf) (cwV 1 hts (lw_V q1388 q1390 qs44 q95 q1391) rfl rfl rfl (by decide +kernel) ⟨Nat.le_of_ble_eq_true rfl, Nat.le_of_ble_eq_true rfl⟩) hK hH hS rfl hl.1 rfl (Nat.le_of_ble_eq_true rfl) dX4_clauseOfH_29 (fun H locs hH hS => ?_)
    clear hf
    refine lv_aload_n hx hb dX4_clauseOfH_32 rfl (lv_at hl 0 rfl) ?_
    refine m_get (v := .int (σ3.1 7)) hx hb hts hown hK hH 7 (by decide) (hts _ q1297) rfl dX4_clauseOfH_33 ?_
    refine jnu1 hX (fun (σ4 : MS) => ∀ (H : Heap) (locs : List Loc), HM D dA ad σ4 H → va_S (AM ad) s.heap H locs → ∀ (ls : Array Slot), lv_has ls 1 [] → W p l e (headSpec (ws_ yX4_clauseOfH cX4_clauseOfH 1 none) (rmX4_clauseOfH)).room s m ([.ref (ad 0)] : List Value).toArray below meth c H locs 0 0 (MQ below (mQv D dA ad σz) ([.ref (ad 0)] : List Value).toArray s 0 0 (AM ad)) (F0 m 63 ls [])) (fun σ4 hX H locs hH hS ls hl => ?_) (fun k5 hk5 hX => ?_)
    · have e1 := rinv hX; subst e1
      exact W.vret hx hb hr (fun t ht hW => ⟨⟨(), rfl, trivial, hH.to ht⟩, hS.F ht⟩) hS.2.2 dX4_clauseOfH_63
    · refine jnu0 hX (∀ (H : Heap) (locs : List Loc), HM D dA ad σ3 H → va_S (AM ad) s.heap H locs → ∀ (ls : Array Slot), lv_has ls 1 [(0, .ref (ad 0))] → W p l e (headSpec (ws_ yX4_clauseOfH cX4_clauseOfH 1 none) (rmX4_clauseOfH)).room s m ([.ref (ad 0)] : List Value).toArray below meth c H locs 0 0 (MQ below (mQv D dA ad σz) ([.ref (ad 0)] : List Value).toArray s 0 0 (AM ad)) (F0 m 59 ls [])) (fun  hX H locs hH hS ls hl => ?_) (fun k6 hk6 hX => ?_)
      · refine lv_aload_n hx hb dX4_clauseOfH_59 rfl (lv_at hl 0 rfl) ?_
        obtain ⟨σ7, hf, hX⟩ := cl_inv hX
        refine m_callVvT (As := []) ⟨hx, hb, hml, hown, hts⟩ (mX4_haves l D dA ad T hf) (cwV 0 hts (lw_V q1472 q1474 qs53 q95 q1475) rfl rfl rfl (by decide +kernel) ⟨Nat.le_of_ble_eq_true rfl, Nat.le_of_ble_eq_true rfl⟩) hK hT hH hS rfl hl.1 rfl (Nat.le_of_ble_eq_true rfl) dX4_clauseOfH_60 (fun H locs hH hS => ?_)
        clear hf
        exact hk5 σ7 hX H locs hH hS ls (lv_sub hl [] rfl)
      · refine lv_if_ne (tgt := 59) hx hb dX4_clauseOfH_36 (by decide) (fun hc => ?_) (fun hc => ?_)
        · replace hX := ineg hc hX; clear hc
          exact hk6  hX H locs hH hS ls (lv_sub hl [0] rfl)
        · replace hX := ipos hc hX; clear hc
          refine lv_aload_n hx hb dX4_clauseOfH_39 rfl (lv_at hl 0 rfl) ?_
          obtain ⟨x8, hf, hX⟩ := cl_inv hX
          refine m_callVi (As := []) ⟨hx, hb, hml, hown, hts⟩ (mX4_here l D dA ad hf) (cwV 0 hts (lw_V q1380 q1382 qs42 q95 q1383) rfl rfl rfl (by decide +kernel) ⟨Nat.le_of_ble_eq_true rfl, Nat.le_of_ble_eq_true rfl⟩) hK hH hS rfl hl.1 rfl (Nat.le_of_ble_eq_true rfl) dX4_clauseOfH_40 (fun H locs hH hS => ?_)
          clear hf
          refine lv_bipush (v := (114:Int32)) hx hb dX4_clauseOfH_43 (by decide) ?_
          refine lv_icmp_ne (tgt := 59) hx hb dX4_clauseOfH_45 (by decide) (fun hc => ?_) (fun hc => ?_)
          · replace hX := ineg hc hX; clear hc
            exact hk6  hX H locs hH hS ls (lv_sub hl [0] rfl)
          · replace hX := ipos hc hX; clear hc
            refine lv_aload_n hx hb dX4_clauseOfH_48 rfl (lv_at hl 0 rfl) ?_
            refine lv_bipush (v := (7:Int32)) hx hb dX4_clauseOfH_49 (by decide) ?_
            refine va_ldcS hx hb hown (hT.2 1 (by decide)) dX4_clauseOfH_51 ?_
            obtain ⟨σ9, hf, hX⟩ := cl_inv hX
            refine m_callVvT (As := [.int (7:Int32), .ref (T.1 1)]) ⟨hx, hb, hml, hown, hts⟩ (mX4_tells l D dA ad T hf) (cwV 2 hts (lw_V q1468 q1470 qs52 q95 q1471) rfl rfl rfl (by decide +kernel) ⟨Nat.le_of_ble_eq_true rfl, Nat.le_of_ble_eq_true rfl⟩) hK hT hH hS rfl hl.1 rfl (Nat.le_of_ble_eq_true rfl) dX4_clauseOfH_53 (fun H locs hH hS => ?_)
            clear hf
            refine lv_goto (tgt := 63) hx hb dX4_clauseOfH_56 (by decide) ?_
            exact hk5 σ9 hX H locs hH hS ls (lv_sub hl [] rfl)
  · replace hX := ipos hc hX; clear hc
    refine lv_aload_n hx hb dX4_clauseOfH_15 rfl (lv_at hl 0 rfl) ?_
    refine lv_bipush (v := (111:Int32)) hx hb dX4_clauseOfH_16 (by decide) ?_
    obtain ⟨σ10, hf, hX⟩ := cl_inv hX
    refine m_callVv (As := [.int (111:Int32)]) ⟨hx, hb, hml, hown, hts⟩ (mX4_must l D dA ad hf) (cwV 1 hts (lw_V q1388 q1390 qs44 q95 q1391) rfl rfl rfl (by decide +kernel) ⟨Nat.le_of_ble_eq_true rfl, Nat.le_of_ble_eq_true rfl⟩) hK hH hS rfl hl.1 rfl (Nat.le_of_ble_eq_true rfl) dX4_clauseOfH_18 (fun H locs hH hS => ?_)
    clear hf
    refine lv_aload_n hx hb dX4_clauseOfH_21 rfl (lv_at hl 0 rfl) ?_
    obtain ⟨σ11, hf, hX⟩ := cl_inv hX
    refine m_callVvT (As := []) ⟨hx, hb, hml, hown, hts⟩ (mX4_holdings l D dA ad T hf) (cwV 0 hts (lw_V q1392 q1394 qs45 q95 q1395) rfl rfl rfl (by decide +kernel) ⟨Nat.le_of_ble_eq_true rfl, Nat.le_of_ble_eq_true rfl⟩) hK hT hH hS rfl hl.1 rfl (Nat.le_of_ble_eq_true rfl) dX4_clauseOfH_22 (fun H locs hH hS => ?_)
    clear hf
    have e1 := rinv hX; subst e1
    exact W.vret hx hb hr (fun t ht hW => ⟨⟨(), rfl, trivial, hH.to ht⟩, hS.F ht⟩) hS.2.2 dX4_clauseOfH_25

abbrev rmX4_clause : Room := { frames := 63, cells := 0, slots := 0, locals := 1381 }
def fX4_clause  (σ : MS) : Option MS :=
 cl (fX4_here σ) (fun (x1 : Int32) =>
 jn (fun (σ2 : MS) => some σ2) (fun (k3 : MS → Option MS) =>
 if x1 = (103:Int32) then
 cl (fX4_tells (4:Int32) 4 σ) (fun (σ4 : MS) =>
 k3 σ4)
 else
 if x1 = (104:Int32) then
 cl (fX4_clauseOfH σ) (fun (σ5 : MS) =>
 k3 σ5)
 else
 if x1 = (105:Int32) then
 bd (sf σ 7 (1:Int32)) (fun (σ6 : MS) =>
 k3 σ6)
 else
 if x1 = (106:Int32) then
 bd (sf σ 7 (1:Int32)) (fun (σ7 : MS) =>
 k3 σ7)
 else
 if x1 = (107:Int32) then
 bd (sf σ 7 (1:Int32)) (fun (σ8 : MS) =>
 k3 σ8)
 else
 if x1 = (108:Int32) then
 cl (fX4_tells (8:Int32) 7 σ) (fun (σ9 : MS) =>
 k3 σ9)
 else
 if x1 = (109:Int32) then
 cl (fX4_tells (9:Int32) 8 σ) (fun (σ10 : MS) =>
 k3 σ10)
 else
 if x1 = (110:Int32) then
 bd (sf σ 7 (1:Int32)) (fun (σ11 : MS) =>
 k3 σ11)
 else
 if x1 = (111:Int32) then
 cl (fX4_tells (6:Int32) 6 σ) (fun (σ12 : MS) =>
 k3 σ12)
 else
 if x1 = (112:Int32) then
 bd (sf σ 7 (1:Int32)) (fun (σ13 : MS) =>
 k3 σ13)
 else
 if x1 = (113:Int32) then
 bd (sf σ 7 (1:Int32)) (fun (σ14 : MS) =>
 k3 σ14)
 else
 if x1 = (114:Int32) then
 bd (sf σ 7 (1:Int32)) (fun (σ15 : MS) =>
 k3 σ15)
 else
 if x1 = (115:Int32) then
 cl (fX4_tells (5:Int32) 5 σ) (fun (σ16 : MS) =>
 k3 σ16)
 else
 bd (sf σ 7 (1:Int32)) (fun (σ17 : MS) =>
 k3 σ17)))
set_option maxHeartbeats 4000000 in
set_option maxRecDepth 100000 in
theorem mX4_clause (l : Launch) (D : va_G) (dA : Nat → ClassId) (ad : Nat → Nat) (T : Tk)  {σ : MS} {σz : MS} (hX : fX4_clause σ = some σz) : Met l yX4_clause (ws_ yX4_clause cX4_clause 1 none) (rmX4_clause) (mPcT D dA ad T σ []) (mQv D dA ad σz) 0 0 (AM ad) := by
  refine Met.ofW (cc := cX4_clause) (maxL := 1) (ret := none) (by decide) rfl ?_
  intro p e s m args below meth c s₁ B hml hv
  obtain ⟨rfl, hH, hK, hT⟩ := hv
  have hx := B.exec
  have hb := B.bytes
  have hr := B.returns
  have hts := atoms_spec (ws := (ws_ yX4_clause cX4_clause 1 none)) B.pre
  have hts : ∀ w ∈ lw_all, w.before _ s = true := fun w h => hts w (List.mem_cons_of_mem _ h)
  have hown : s.vm.findClass RX4 = some m.cls := findClass_of_methodNamed B.named
  have hlocks := B.notSynchronized
  have hl := lv_entry ([.ref (ad 0)]) (n := 1) (Nat.le_of_ble_eq_true rfl)
  rw [lg_entry_eq]
  generalize (lg_sl ([.ref (ad 0)]) ++ List.replicate (1 - (lg_sl ([.ref (ad 0)])).length) Slot.unset).toArray = ls at hl ⊢
  have hl : lv_has ls 1 [(0, .ref (ad 0))] := hl
  unfold fX4_clause at hX
  refine m_start hH (fun H locs hH hS => ?_)
  refine lv_aload_n hx hb dX4_clause_0 rfl (lv_at hl 0 rfl) ?_
  obtain ⟨x1, hf, hX⟩ := cl_inv hX
  refine m_callVi (As := []) ⟨hx, hb, hml, hown, hts⟩ (mX4_here l D dA ad hf) (cwV 0 hts (lw_V q1380 q1382 qs42 q95 q1383) rfl rfl rfl (by decide +kernel) ⟨Nat.le_of_ble_eq_true rfl, Nat.le_of_ble_eq_true rfl⟩) hK hH hS rfl hl.1 rfl (Nat.le_of_ble_eq_true rfl) dX4_clause_1 (fun H locs hH hS => ?_)
  clear hf
  refine jnu1 hX (fun (σ2 : MS) => ∀ (H : Heap) (locs : List Loc), HM D dA ad σ2 H → va_S (AM ad) s.heap H locs → ∀ (ls : Array Slot), lv_has ls 1 [] → W p l e (headSpec (ws_ yX4_clause cX4_clause 1 none) (rmX4_clause)).room s m ([.ref (ad 0)] : List Value).toArray below meth c H locs 0 0 (MQ below (mQv D dA ad σz) ([.ref (ad 0)] : List Value).toArray s 0 0 (AM ad)) (F0 m 137 ls [])) (fun σ2 hX H locs hH hS ls hl => ?_) (fun k3 hk3 hX => ?_)
  · have e1 := rinv hX; subst e1
    exact W.vret hx hb hr (fun t ht hW => ⟨⟨(), rfl, trivial, hH.to ht⟩, hS.F ht⟩) hS.2.2 dX4_clause_137
  · by_cases hc0 : x1 = (103:Int32)
    · replace hX := ipos hc0 hX
      refine lv_tableIn (off := 75) (tgt := 79) hx hb dX4_clause_4 (by rw [hc0]; decide) (by rw [hc0]; decide) (by rw [hc0]; decide) (by decide) ?_
      refine lv_aload_n hx hb dX4_clause_79 rfl (lv_at hl 0 rfl) ?_
      refine lv_iconst (v := (4:Int32)) hx hb dX4_clause_80 (by decide) ?_
      refine va_ldcS hx hb hown (hT.2 4 (by decide)) dX4_clause_81 ?_
      obtain ⟨σ4, hf, hX⟩ := cl_inv hX
      refine m_callVvT (As := [.int (4:Int32), .ref (T.1 4)]) ⟨hx, hb, hml, hown, hts⟩ (mX4_tells l D dA ad T hf) (cwV 2 hts (lw_V q1468 q1470 qs52 q95 q1471) rfl rfl rfl (by decide +kernel) ⟨Nat.le_of_ble_eq_true rfl, Nat.le_of_ble_eq_true rfl⟩) hK hT hH hS rfl hl.1 rfl (Nat.le_of_ble_eq_true rfl) dX4_clause_83 (fun H locs hH hS => ?_)
      clear hf
      refine lv_goto (tgt := 137) hx hb dX4_clause_86 (by decide) ?_
      exact hk3 σ4 hX H locs hH hS ls (lv_sub hl [] rfl)
    · replace hX := ineg hc0 hX
      by_cases hc1 : x1 = (104:Int32)
      · replace hX := ipos hc1 hX
        refine lv_tableIn (off := 68) (tgt := 72) hx hb dX4_clause_4 (by rw [hc1]; decide) (by rw [hc1]; decide) (by rw [hc1]; decide) (by decide) ?_
        refine lv_aload_n hx hb dX4_clause_72 rfl (lv_at hl 0 rfl) ?_
        obtain ⟨σ5, hf, hX⟩ := cl_inv hX
        refine m_callVvT (As := []) ⟨hx, hb, hml, hown, hts⟩ (mX4_clauseOfH l D dA ad T hf) (cwV 0 hts (lw_V q1384 q1386 qs43 q95 q1387) rfl rfl rfl (by decide +kernel) ⟨Nat.le_of_ble_eq_true rfl, Nat.le_of_ble_eq_true rfl⟩) hK hT hH hS rfl hl.1 rfl (Nat.le_of_ble_eq_true rfl) dX4_clause_73 (fun H locs hH hS => ?_)
        clear hf
        refine lv_goto (tgt := 137) hx hb dX4_clause_76 (by decide) ?_
        exact hk3 σ5 hX H locs hH hS ls (lv_sub hl [] rfl)
      · replace hX := ineg hc1 hX
        by_cases hc2 : x1 = (105:Int32)
        · replace hX := ipos hc2 hX
          refine lv_tableIn (off := 128) (tgt := 132) hx hb dX4_clause_4 (by rw [hc2]; decide) (by rw [hc2]; decide) (by rw [hc2]; decide) (by decide) ?_
          refine lv_aload_n hx hb dX4_clause_132 rfl (lv_at hl 0 rfl) ?_
          refine lv_iconst (v := (1:Int32)) hx hb dX4_clause_133 (by decide) ?_
          refine m_put (ty := .boolean) hx hb hts hown hK hH hS 7 (by decide) (hts _ q1297) rfl (tyX4_ok 7 (by decide)) rfl rfl rfl dX4_clause_134 (fun σ6 eσ6 H locs hH hS => ?_)
          replace hX := bd_inv eσ6 hX; clear eσ6
          exact hk3 σ6 hX H locs hH hS ls (lv_sub hl [] rfl)
        · replace hX := ineg hc2 hX
          by_cases hc3 : x1 = (106:Int32)
          · replace hX := ipos hc3 hX
            refine lv_tableIn (off := 128) (tgt := 132) hx hb dX4_clause_4 (by rw [hc3]; decide) (by rw [hc3]; decide) (by rw [hc3]; decide) (by decide) ?_
            refine lv_aload_n hx hb dX4_clause_132 rfl (lv_at hl 0 rfl) ?_
            refine lv_iconst (v := (1:Int32)) hx hb dX4_clause_133 (by decide) ?_
            refine m_put (ty := .boolean) hx hb hts hown hK hH hS 7 (by decide) (hts _ q1297) rfl (tyX4_ok 7 (by decide)) rfl rfl rfl dX4_clause_134 (fun σ7 eσ7 H locs hH hS => ?_)
            replace hX := bd_inv eσ7 hX; clear eσ7
            exact hk3 σ7 hX H locs hH hS ls (lv_sub hl [] rfl)
          · replace hX := ineg hc3 hX
            by_cases hc4 : x1 = (107:Int32)
            · replace hX := ipos hc4 hX
              refine lv_tableIn (off := 128) (tgt := 132) hx hb dX4_clause_4 (by rw [hc4]; decide) (by rw [hc4]; decide) (by rw [hc4]; decide) (by decide) ?_
              refine lv_aload_n hx hb dX4_clause_132 rfl (lv_at hl 0 rfl) ?_
              refine lv_iconst (v := (1:Int32)) hx hb dX4_clause_133 (by decide) ?_
              refine m_put (ty := .boolean) hx hb hts hown hK hH hS 7 (by decide) (hts _ q1297) rfl (tyX4_ok 7 (by decide)) rfl rfl rfl dX4_clause_134 (fun σ8 eσ8 H locs hH hS => ?_)
              replace hX := bd_inv eσ8 hX; clear eσ8
              exact hk3 σ8 hX H locs hH hS ls (lv_sub hl [] rfl)
            · replace hX := ineg hc4 hX
              by_cases hc5 : x1 = (108:Int32)
              · replace hX := ipos hc5 hX
                refine lv_tableIn (off := 106) (tgt := 110) hx hb dX4_clause_4 (by rw [hc5]; decide) (by rw [hc5]; decide) (by rw [hc5]; decide) (by decide) ?_
                refine lv_aload_n hx hb dX4_clause_110 rfl (lv_at hl 0 rfl) ?_
                refine lv_bipush (v := (8:Int32)) hx hb dX4_clause_111 (by decide) ?_
                refine va_ldcS hx hb hown (hT.2 7 (by decide)) dX4_clause_113 ?_
                obtain ⟨σ9, hf, hX⟩ := cl_inv hX
                refine m_callVvT (As := [.int (8:Int32), .ref (T.1 7)]) ⟨hx, hb, hml, hown, hts⟩ (mX4_tells l D dA ad T hf) (cwV 2 hts (lw_V q1468 q1470 qs52 q95 q1471) rfl rfl rfl (by decide +kernel) ⟨Nat.le_of_ble_eq_true rfl, Nat.le_of_ble_eq_true rfl⟩) hK hT hH hS rfl hl.1 rfl (Nat.le_of_ble_eq_true rfl) dX4_clause_115 (fun H locs hH hS => ?_)
                clear hf
                refine lv_goto (tgt := 137) hx hb dX4_clause_118 (by decide) ?_
                exact hk3 σ9 hX H locs hH hS ls (lv_sub hl [] rfl)
              · replace hX := ineg hc5 hX
                by_cases hc6 : x1 = (109:Int32)
                · replace hX := ipos hc6 hX
                  refine lv_tableIn (off := 117) (tgt := 121) hx hb dX4_clause_4 (by rw [hc6]; decide) (by rw [hc6]; decide) (by rw [hc6]; decide) (by decide) ?_
                  refine lv_aload_n hx hb dX4_clause_121 rfl (lv_at hl 0 rfl) ?_
                  refine lv_bipush (v := (9:Int32)) hx hb dX4_clause_122 (by decide) ?_
                  refine va_ldcS hx hb hown (hT.2 8 (by decide)) dX4_clause_124 ?_
                  obtain ⟨σ10, hf, hX⟩ := cl_inv hX
                  refine m_callVvT (As := [.int (9:Int32), .ref (T.1 8)]) ⟨hx, hb, hml, hown, hts⟩ (mX4_tells l D dA ad T hf) (cwV 2 hts (lw_V q1468 q1470 qs52 q95 q1471) rfl rfl rfl (by decide +kernel) ⟨Nat.le_of_ble_eq_true rfl, Nat.le_of_ble_eq_true rfl⟩) hK hT hH hS rfl hl.1 rfl (Nat.le_of_ble_eq_true rfl) dX4_clause_126 (fun H locs hH hS => ?_)
                  clear hf
                  refine lv_goto (tgt := 137) hx hb dX4_clause_129 (by decide) ?_
                  exact hk3 σ10 hX H locs hH hS ls (lv_sub hl [] rfl)
                · replace hX := ineg hc6 hX
                  by_cases hc7 : x1 = (110:Int32)
                  · replace hX := ipos hc7 hX
                    refine lv_tableIn (off := 128) (tgt := 132) hx hb dX4_clause_4 (by rw [hc7]; decide) (by rw [hc7]; decide) (by rw [hc7]; decide) (by decide) ?_
                    refine lv_aload_n hx hb dX4_clause_132 rfl (lv_at hl 0 rfl) ?_
                    refine lv_iconst (v := (1:Int32)) hx hb dX4_clause_133 (by decide) ?_
                    refine m_put (ty := .boolean) hx hb hts hown hK hH hS 7 (by decide) (hts _ q1297) rfl (tyX4_ok 7 (by decide)) rfl rfl rfl dX4_clause_134 (fun σ11 eσ11 H locs hH hS => ?_)
                    replace hX := bd_inv eσ11 hX; clear eσ11
                    exact hk3 σ11 hX H locs hH hS ls (lv_sub hl [] rfl)
                  · replace hX := ineg hc7 hX
                    by_cases hc8 : x1 = (111:Int32)
                    · replace hX := ipos hc8 hX
                      refine lv_tableIn (off := 95) (tgt := 99) hx hb dX4_clause_4 (by rw [hc8]; decide) (by rw [hc8]; decide) (by rw [hc8]; decide) (by decide) ?_
                      refine lv_aload_n hx hb dX4_clause_99 rfl (lv_at hl 0 rfl) ?_
                      refine lv_bipush (v := (6:Int32)) hx hb dX4_clause_100 (by decide) ?_
                      refine va_ldcS hx hb hown (hT.2 6 (by decide)) dX4_clause_102 ?_
                      obtain ⟨σ12, hf, hX⟩ := cl_inv hX
                      refine m_callVvT (As := [.int (6:Int32), .ref (T.1 6)]) ⟨hx, hb, hml, hown, hts⟩ (mX4_tells l D dA ad T hf) (cwV 2 hts (lw_V q1468 q1470 qs52 q95 q1471) rfl rfl rfl (by decide +kernel) ⟨Nat.le_of_ble_eq_true rfl, Nat.le_of_ble_eq_true rfl⟩) hK hT hH hS rfl hl.1 rfl (Nat.le_of_ble_eq_true rfl) dX4_clause_104 (fun H locs hH hS => ?_)
                      clear hf
                      refine lv_goto (tgt := 137) hx hb dX4_clause_107 (by decide) ?_
                      exact hk3 σ12 hX H locs hH hS ls (lv_sub hl [] rfl)
                    · replace hX := ineg hc8 hX
                      by_cases hc9 : x1 = (112:Int32)
                      · replace hX := ipos hc9 hX
                        refine lv_tableIn (off := 128) (tgt := 132) hx hb dX4_clause_4 (by rw [hc9]; decide) (by rw [hc9]; decide) (by rw [hc9]; decide) (by decide) ?_
                        refine lv_aload_n hx hb dX4_clause_132 rfl (lv_at hl 0 rfl) ?_
                        refine lv_iconst (v := (1:Int32)) hx hb dX4_clause_133 (by decide) ?_
                        refine m_put (ty := .boolean) hx hb hts hown hK hH hS 7 (by decide) (hts _ q1297) rfl (tyX4_ok 7 (by decide)) rfl rfl rfl dX4_clause_134 (fun σ13 eσ13 H locs hH hS => ?_)
                        replace hX := bd_inv eσ13 hX; clear eσ13
                        exact hk3 σ13 hX H locs hH hS ls (lv_sub hl [] rfl)
                      · replace hX := ineg hc9 hX
                        by_cases hc10 : x1 = (113:Int32)
                        · replace hX := ipos hc10 hX
                          refine lv_tableIn (off := 128) (tgt := 132) hx hb dX4_clause_4 (by rw [hc10]; decide) (by rw [hc10]; decide) (by rw [hc10]; decide) (by decide) ?_
                          refine lv_aload_n hx hb dX4_clause_132 rfl (lv_at hl 0 rfl) ?_
                          refine lv_iconst (v := (1:Int32)) hx hb dX4_clause_133 (by decide) ?_
                          refine m_put (ty := .boolean) hx hb hts hown hK hH hS 7 (by decide) (hts _ q1297) rfl (tyX4_ok 7 (by decide)) rfl rfl rfl dX4_clause_134 (fun σ14 eσ14 H locs hH hS => ?_)
                          replace hX := bd_inv eσ14 hX; clear eσ14
                          exact hk3 σ14 hX H locs hH hS ls (lv_sub hl [] rfl)
                        · replace hX := ineg hc10 hX
                          by_cases hc11 : x1 = (114:Int32)
                          · replace hX := ipos hc11 hX
                            refine lv_tableIn (off := 128) (tgt := 132) hx hb dX4_clause_4 (by rw [hc11]; decide) (by rw [hc11]; decide) (by rw [hc11]; decide) (by decide) ?_
                            refine lv_aload_n hx hb dX4_clause_132 rfl (lv_at hl 0 rfl) ?_
                            refine lv_iconst (v := (1:Int32)) hx hb dX4_clause_133 (by decide) ?_
                            refine m_put (ty := .boolean) hx hb hts hown hK hH hS 7 (by decide) (hts _ q1297) rfl (tyX4_ok 7 (by decide)) rfl rfl rfl dX4_clause_134 (fun σ15 eσ15 H locs hH hS => ?_)
                            replace hX := bd_inv eσ15 hX; clear eσ15
                            exact hk3 σ15 hX H locs hH hS ls (lv_sub hl [] rfl)
                          · replace hX := ineg hc11 hX
                            by_cases hc12 : x1 = (115:Int32)
                            · replace hX := ipos hc12 hX
                              refine lv_tableIn (off := 85) (tgt := 89) hx hb dX4_clause_4 (by rw [hc12]; decide) (by rw [hc12]; decide) (by rw [hc12]; decide) (by decide) ?_
                              refine lv_aload_n hx hb dX4_clause_89 rfl (lv_at hl 0 rfl) ?_
                              refine lv_iconst (v := (5:Int32)) hx hb dX4_clause_90 (by decide) ?_
                              refine va_ldcS hx hb hown (hT.2 5 (by decide)) dX4_clause_91 ?_
                              obtain ⟨σ16, hf, hX⟩ := cl_inv hX
                              refine m_callVvT (As := [.int (5:Int32), .ref (T.1 5)]) ⟨hx, hb, hml, hown, hts⟩ (mX4_tells l D dA ad T hf) (cwV 2 hts (lw_V q1468 q1470 qs52 q95 q1471) rfl rfl rfl (by decide +kernel) ⟨Nat.le_of_ble_eq_true rfl, Nat.le_of_ble_eq_true rfl⟩) hK hT hH hS rfl hl.1 rfl (Nat.le_of_ble_eq_true rfl) dX4_clause_93 (fun H locs hH hS => ?_)
                              clear hf
                              refine lv_goto (tgt := 137) hx hb dX4_clause_96 (by decide) ?_
                              exact hk3 σ16 hX H locs hH hS ls (lv_sub hl [] rfl)
                            · replace hX := ineg hc12 hX
                              refine lv_tableOut (tgt := 132) hx hb dX4_clause_4 (tb_out (fun v h1 h2 => ?_)) (by decide) ?_
                              · have hv : v = 103 ∨ v = 104 ∨ v = 105 ∨ v = 106 ∨ v = 107 ∨ v = 108 ∨ v = 109 ∨ v = 110 ∨ v = 111 ∨ v = 112 ∨ v = 113 ∨ v = 114 ∨ v = 115 := by omega
                                rcases hv with rfl | rfl | rfl | rfl | rfl | rfl | rfl | rfl | rfl | rfl | rfl | rfl | rfl
                                · exact lv_neT hc0 (by decide)
                                · exact lv_neT hc1 (by decide)
                                · exact lv_neT hc2 (by decide)
                                · exact lv_neT hc3 (by decide)
                                · exact lv_neT hc4 (by decide)
                                · exact lv_neT hc5 (by decide)
                                · exact lv_neT hc6 (by decide)
                                · exact lv_neT hc7 (by decide)
                                · exact lv_neT hc8 (by decide)
                                · exact lv_neT hc9 (by decide)
                                · exact lv_neT hc10 (by decide)
                                · exact lv_neT hc11 (by decide)
                                · exact lv_neT hc12 (by decide)
                              · refine lv_aload_n hx hb dX4_clause_132 rfl (lv_at hl 0 rfl) ?_
                                refine lv_iconst (v := (1:Int32)) hx hb dX4_clause_133 (by decide) ?_
                                refine m_put (ty := .boolean) hx hb hts hown hK hH hS 7 (by decide) (hts _ q1297) rfl (tyX4_ok 7 (by decide)) rfl rfl rfl dX4_clause_134 (fun σ17 eσ17 H locs hH hS => ?_)
                                replace hX := bd_inv eσ17 hX; clear eσ17
                                exact hk3 σ17 hX H locs hH hS ls (lv_sub hl [] rfl)

abbrev rmX4_port : Room := { frames := 64, cells := 0, slots := 0, locals := 1401 }
def fX4_port  (σ : MS) : Option (Int32 × MS) :=
 if (σ.2.1 1 (0:Int32).toNatClampNeg) = (5:Int32) then
 some ((-4:Int32), σ)
 else
 bd (sf σ 4 (σ.2.1 1 (0:Int32).toNatClampNeg)) (fun (σ1 : MS) =>
 bd (sf σ1 6 (σ1.2.1 1 (3:Int32).toNatClampNeg)) (fun (σ2 : MS) =>
 bd (sa σ2 1 (3:Int32).toNatClampNeg (0:Int32)) (fun (σ3 : MS) =>
 gd (ib ((180:Int32) + (σ3.1 4)) 1160) (
 bd (sa σ3 1 ((180:Int32) + (σ3.1 4)).toNatClampNeg (0:Int32)) (fun (σ4 : MS) =>
 lp (fun _ _ => none) (fun (k7 : Int32 → MS → Option (Int32 × MS)) (x5 : Int32) (σ6 : MS) =>
 if (10:Int32) ≤ x5 then
 bd (sf σ6 5 (0:Int32)) (fun (σ8 : MS) =>
 bd (sf σ8 7 (0:Int32)) (fun (σ9 : MS) =>
 bd (sf σ9 8 (0:Int32)) (fun (σ10 : MS) =>
 cl (fX4_clause σ10) (fun (σ11 : MS) =>
 lp (fun _ _ => none) (fun (k14 : Int32 → MS → Option (Int32 × MS)) (x12 : Int32) (σ13 : MS) =>
 jn (jn (some ((-10:Int32) - (σ13.1 5), σ13)) (fun (k16 : Option (Int32 × MS)) =>
 if (σ13.1 7) = (0:Int32) then
 if (σ13.1 5) = (σ13.1 6) then
 bd (sa σ13 1 (0:Int32).toNatClampNeg ((σ13.2.1 1 (0:Int32).toNatClampNeg) + (1:Int32))) (fun (σ17 : MS) =>
 some (σ17.1 4, σ17))
 else
 k16
 else
 k16)) (fun (k15 : Option (Int32 × MS)) =>
 if (σ13.1 7) = (0:Int32) then
 if (12:Int32) ≤ x12 then
 k15
 else
 cl (fX4_here σ13) (fun (x18 : Int32) =>
 if x18 = (59:Int32) then
 bd (sf σ13 5 ((σ13.1 5) + (1:Int32))) (fun (σ19 : MS) =>
 cl (fX4_clause σ19) (fun (σ20 : MS) =>
 bd (x12 + (1:Int32)) (fun (x21 : Int32) =>
 k14 x21 σ20)))
 else
 k15)
 else
 k15)) NF (1:Int32) σ11))))
 else
 gd (ib (((130:Int32) + ((10:Int32) * (σ6.1 4))) + x5) 1160) (
 bd (sa σ6 1 (((130:Int32) + ((10:Int32) * (σ6.1 4))) + x5).toNatClampNeg (0:Int32)) (fun (σ22 : MS) =>
 bd (x5 + (1:Int32)) (fun (x23 : Int32) =>
 k7 x23 σ22)))) NF (0:Int32) σ4)))))
set_option maxHeartbeats 4000000 in
set_option maxRecDepth 100000 in
theorem mX4_port (l : Launch) (D : va_G) (dA : Nat → ClassId) (ad : Nat → Nat) (T : Tk)  {σ : MS} {r : Int32} {σz : MS} (hX : fX4_port σ = some (r, σz)) : Met l yX4_port (ws_ yX4_port cX4_port 2 (some .int)) (rmX4_port) (mPcT D dA ad T σ []) (mQi D dA ad r σz) 0 0 (AM ad) := by
  refine Met.ofW (cc := cX4_port) (maxL := 2) (ret := (some .int)) (by decide) rfl ?_
  intro p e s m args below meth c s₁ B hml hv
  obtain ⟨rfl, hH, hK, hT⟩ := hv
  have hx := B.exec
  have hb := B.bytes
  have hr := B.returns
  have hts := atoms_spec (ws := (ws_ yX4_port cX4_port 2 (some .int))) B.pre
  have hts : ∀ w ∈ lw_all, w.before _ s = true := fun w h => hts w (List.mem_cons_of_mem _ h)
  have hown : s.vm.findClass RX4 = some m.cls := findClass_of_methodNamed B.named
  have hlocks := B.notSynchronized
  have hl := lv_entry ([.ref (ad 0)]) (n := 2) (Nat.le_of_ble_eq_true rfl)
  rw [lg_entry_eq]
  generalize (lg_sl ([.ref (ad 0)]) ++ List.replicate (2 - (lg_sl ([.ref (ad 0)])).length) Slot.unset).toArray = ls at hl ⊢
  have hl : lv_has ls 2 [(0, .ref (ad 0))] := hl
  unfold fX4_port at hX
  refine m_start hH (fun H locs hH hS => ?_)
  refine lv_aload_n hx hb dX4_port_0 rfl (lv_at hl 0 rfl) ?_
  refine m_get (v := .ref (ad 1)) hx hb hts hown hK hH 1 (by decide) (hts _ q1291) rfl dX4_port_1 ?_
  refine lv_iconst (v := (0:Int32)) hx hb dX4_port_4 (by decide) ?_
  refine m_iald hx hb hK hH 1 1 (n := 1160) rfl (by decide) dX4_port_5 ?_
  refine lv_iconst (v := (5:Int32)) hx hb dX4_port_6 (by decide) ?_
  refine lv_icmp_ne (tgt := 13) hx hb dX4_port_7 (by decide) (fun hc => ?_) (fun hc => ?_)
  · replace hX := ineg hc hX; clear hc
    refine lv_aload_n hx hb dX4_port_13 rfl (lv_at hl 0 rfl) ?_
    refine lv_aload_n hx hb dX4_port_14 rfl (lv_at hl 0 rfl) ?_
    refine m_get (v := .ref (ad 1)) hx hb hts hown hK hH 1 (by decide) (hts _ q1291) rfl dX4_port_15 ?_
    refine lv_iconst (v := (0:Int32)) hx hb dX4_port_18 (by decide) ?_
    refine m_iald hx hb hK hH 1 1 (n := 1160) rfl (by decide) dX4_port_19 ?_
    refine m_put (ty := .int) hx hb hts hown hK hH hS 4 (by decide) (hts _ q1294) rfl (tyX4_ok 4 (by decide)) rfl rfl rfl dX4_port_20 (fun σ1 eσ1 H locs hH hS => ?_)
    replace hX := bd_inv eσ1 hX; clear eσ1
    refine lv_aload_n hx hb dX4_port_23 rfl (lv_at hl 0 rfl) ?_
    refine lv_aload_n hx hb dX4_port_24 rfl (lv_at hl 0 rfl) ?_
    refine m_get (v := .ref (ad 1)) hx hb hts hown hK hH 1 (by decide) (hts _ q1291) rfl dX4_port_25 ?_
    refine lv_iconst (v := (3:Int32)) hx hb dX4_port_28 (by decide) ?_
    refine m_iald hx hb hK hH 1 1 (n := 1160) rfl (by decide) dX4_port_29 ?_
    refine m_put (ty := .int) hx hb hts hown hK hH hS 6 (by decide) (hts _ q1296) rfl (tyX4_ok 6 (by decide)) rfl rfl rfl dX4_port_30 (fun σ2 eσ2 H locs hH hS => ?_)
    replace hX := bd_inv eσ2 hX; clear eσ2
    refine lv_aload_n hx hb dX4_port_33 rfl (lv_at hl 0 rfl) ?_
    refine m_get (v := .ref (ad 1)) hx hb hts hown hK hH 1 (by decide) (hts _ q1291) rfl dX4_port_34 ?_
    refine lv_iconst (v := (3:Int32)) hx hb dX4_port_37 (by decide) ?_
    refine lv_iconst (v := (0:Int32)) hx hb dX4_port_38 (by decide) ?_
    refine m_iast hx hb hK hH hS 1 1 (n := 1160) rfl (by decide) rfl dX4_port_39 (fun σ3 eσ3 H locs hH hS => ?_)
    replace hX := bd_inv eσ3 hX; clear eσ3
    refine lv_aload_n hx hb dX4_port_40 rfl (lv_at hl 0 rfl) ?_
    refine m_get (v := .ref (ad 1)) hx hb hts hown hK hH 1 (by decide) (hts _ q1291) rfl dX4_port_41 ?_
    refine lv_sipush (v := (180:Int32)) hx hb dX4_port_44 (by decide) ?_
    refine lv_aload_n hx hb dX4_port_47 rfl (lv_at hl 0 rfl) ?_
    refine m_get (v := .int (σ3.1 4)) hx hb hts hown hK hH 4 (by decide) (hts _ q1294) rfl dX4_port_48 ?_
    refine lv_iadd hx hb dX4_port_51 ?_
    refine lv_iconst (v := (0:Int32)) hx hb dX4_port_52 (by decide) ?_
    obtain ⟨hg, hX⟩ := gd_inv hX
    refine m_iast hx hb hK hH hS 1 1 (n := 1160) rfl hg rfl dX4_port_53 (fun σ4 eσ4 H locs hH hS => ?_)
    replace hX := bd_inv eσ4 hX; clear eσ4
    refine lv_iconst (v := (0:Int32)) hx hb dX4_port_54 (by decide) ?_
    refine lv_istore_n (lv' := [(1, .int (0:Int32)), (0, .ref (ad 0))]) hx hb dX4_port_55 rfl hl (by decide) rfl (fun ls hl => ?_)
    refine lpu2 hX (fun (x5 : Int32) (σ6 : MS) => ∀ (H : Heap) (locs : List Loc), HM D dA ad σ6 H → va_S (AM ad) s.heap H locs → ∀ (ls : Array Slot), lv_has ls 2 [(0, .ref (ad 0)), (1, .int x5)] → W p l e (headSpec (ws_ yX4_port cX4_port 2 (some .int)) (rmX4_port)).room s m ([.ref (ad 0)] : List Value).toArray below meth c H locs 0 0 (MQ below (mQi D dA ad r σz) ([.ref (ad 0)] : List Value).toArray s 0 0 (AM ad)) (F0 m 56 ls [])) (fun k7 hk7 x5 σ6 hX H locs hH hS ls hl => ?_) H locs hH hS ls (lv_sub hl [1, 0] rfl)
    refine lv_iload_n hx hb dX4_port_56 rfl (lv_at hl 1 rfl) ?_
    refine lv_bipush (v := (10:Int32)) hx hb dX4_port_57 (by decide) ?_
    refine lv_icmp_ge (tgt := 87) hx hb dX4_port_59 (by decide) (fun hc => ?_) (fun hc => ?_)
    · replace hX := ipos hc hX; clear hc
      refine lv_aload_n hx hb dX4_port_87 rfl (lv_at hl 0 rfl) ?_
      refine lv_iconst (v := (0:Int32)) hx hb dX4_port_88 (by decide) ?_
      refine m_put (ty := .int) hx hb hts hown hK hH hS 5 (by decide) (hts _ q1295) rfl (tyX4_ok 5 (by decide)) rfl rfl rfl dX4_port_89 (fun σ8 eσ8 H locs hH hS => ?_)
      replace hX := bd_inv eσ8 hX; clear eσ8
      refine lv_aload_n hx hb dX4_port_92 rfl (lv_at hl 0 rfl) ?_
      refine lv_iconst (v := (0:Int32)) hx hb dX4_port_93 (by decide) ?_
      refine m_put (ty := .boolean) hx hb hts hown hK hH hS 7 (by decide) (hts _ q1297) rfl (tyX4_ok 7 (by decide)) rfl rfl rfl dX4_port_94 (fun σ9 eσ9 H locs hH hS => ?_)
      replace hX := bd_inv eσ9 hX; clear eσ9
      refine lv_aload_n hx hb dX4_port_97 rfl (lv_at hl 0 rfl) ?_
      refine lv_iconst (v := (0:Int32)) hx hb dX4_port_98 (by decide) ?_
      refine m_put (ty := .int) hx hb hts hown hK hH hS 8 (by decide) (hts _ q1298) rfl (tyX4_ok 8 (by decide)) rfl rfl rfl dX4_port_99 (fun σ10 eσ10 H locs hH hS => ?_)
      replace hX := bd_inv eσ10 hX; clear eσ10
      refine lv_iconst (v := (1:Int32)) hx hb dX4_port_102 (by decide) ?_
      refine lv_istore_n (lv' := [(1, .int (1:Int32)), (0, .ref (ad 0))]) hx hb dX4_port_103 rfl hl (by decide) rfl (fun ls hl => ?_)
      refine lv_aload_n hx hb dX4_port_104 rfl (lv_at hl 1 rfl) ?_
      obtain ⟨σ11, hf, hX⟩ := cl_inv hX
      refine m_callVvT (As := []) ⟨hx, hb, hml, hown, hts⟩ (mX4_clause l D dA ad T hf) (cwV 0 hts (lw_V q1376 q1378 qs41 q95 q1379) rfl rfl rfl (by decide +kernel) ⟨Nat.le_of_ble_eq_true rfl, Nat.le_of_ble_eq_true rfl⟩) hK hT hH hS rfl hl.1 rfl (Nat.le_of_ble_eq_true rfl) dX4_port_105 (fun H locs hH hS => ?_)
      clear hf
      refine lpu2 hX (fun (x12 : Int32) (σ13 : MS) => ∀ (H : Heap) (locs : List Loc), HM D dA ad σ13 H → va_S (AM ad) s.heap H locs → ∀ (ls : Array Slot), lv_has ls 2 [(0, .ref (ad 0)), (1, .int x12)] → W p l e (headSpec (ws_ yX4_port cX4_port 2 (some .int)) (rmX4_port)).room s m ([.ref (ad 0)] : List Value).toArray below meth c H locs 0 0 (MQ below (mQi D dA ad r σz) ([.ref (ad 0)] : List Value).toArray s 0 0 (AM ad)) (F0 m 108 ls [])) (fun k14 hk14 x12 σ13 hX H locs hH hS ls hl => ?_) H locs hH hS ls (lv_sub hl [1, 0] rfl)
      refine lv_aload_n hx hb dX4_port_108 rfl (lv_at hl 0 rfl) ?_
      refine m_get (v := .int (σ13.1 7)) hx hb hts hown hK hH 7 (by decide) (hts _ q1297) rfl dX4_port_109 ?_
      refine jnu0 hX (∀ (H : Heap) (locs : List Loc), HM D dA ad σ13 H → va_S (AM ad) s.heap H locs → ∀ (ls : Array Slot), lv_has ls 2 [(0, .ref (ad 0))] → W p l e (headSpec (ws_ yX4_port cX4_port 2 (some .int)) (rmX4_port)).room s m ([.ref (ad 0)] : List Value).toArray below meth c H locs 0 0 (MQ below (mQi D dA ad r σz) ([.ref (ad 0)] : List Value).toArray s 0 0 (AM ad)) (F0 m 150 ls [])) (fun  hX H locs hH hS ls hl => ?_) (fun k15 hk15 hX => ?_)
      · refine lv_aload_n hx hb dX4_port_150 rfl (lv_at hl 0 rfl) ?_
        refine m_get (v := .int (σ13.1 7)) hx hb hts hown hK hH 7 (by decide) (hts _ q1297) rfl dX4_port_151 ?_
        refine jnu0 hX (∀ (H : Heap) (locs : List Loc), HM D dA ad σ13 H → va_S (AM ad) s.heap H locs → ∀ (ls : Array Slot), lv_has ls 2 [(0, .ref (ad 0))] → W p l e (headSpec (ws_ yX4_port cX4_port 2 (some .int)) (rmX4_port)).room s m ([.ref (ad 0)] : List Value).toArray below meth c H locs 0 0 (MQ below (mQi D dA ad r σz) ([.ref (ad 0)] : List Value).toArray s 0 0 (AM ad)) (F0 m 168 ls [])) (fun  hX H locs hH hS ls hl => ?_) (fun k16 hk16 hX => ?_)
        · refine lv_bipush (v := (-10:Int32)) hx hb dX4_port_168 (by decide) ?_
          refine lv_aload_n hx hb dX4_port_170 rfl (lv_at hl 0 rfl) ?_
          refine m_get (v := .int (σ13.1 5)) hx hb hts hown hK hH 5 (by decide) (hts _ q1295) rfl dX4_port_171 ?_
          refine lv_isub hx hb dX4_port_174 ?_
          obtain ⟨e1, e2⟩ := Prod.mk.inj (rinv hX); subst e1; subst e2
          exact W.iret hx hb hr (fun t ht hW => ⟨⟨_, (), rfl, rfl, hH.to ht⟩, hS.F ht⟩) hS.2.2 dX4_port_175
        · refine lv_if_ne (tgt := 168) hx hb dX4_port_154 (by decide) (fun hc => ?_) (fun hc => ?_)
          · replace hX := ineg hc hX; clear hc
            exact hk16  hX H locs hH hS ls (lv_sub hl [0] rfl)
          · replace hX := ipos hc hX; clear hc
            refine lv_aload_n hx hb dX4_port_157 rfl (lv_at hl 0 rfl) ?_
            refine m_get (v := .int (σ13.1 5)) hx hb hts hown hK hH 5 (by decide) (hts _ q1295) rfl dX4_port_158 ?_
            refine lv_aload_n hx hb dX4_port_161 rfl (lv_at hl 0 rfl) ?_
            refine m_get (v := .int (σ13.1 6)) hx hb hts hown hK hH 6 (by decide) (hts _ q1296) rfl dX4_port_162 ?_
            refine lv_icmp_eq (tgt := 176) hx hb dX4_port_165 (by decide) (fun hc => ?_) (fun hc => ?_)
            · replace hX := ipos hc hX; clear hc
              refine lv_aload_n hx hb dX4_port_176 rfl (lv_at hl 0 rfl) ?_
              refine m_get (v := .ref (ad 1)) hx hb hts hown hK hH 1 (by decide) (hts _ q1291) rfl dX4_port_177 ?_
              refine lv_iconst (v := (0:Int32)) hx hb dX4_port_180 (by decide) ?_
              refine lv_dup2_11 hx hb dX4_port_181 rfl rfl ?_
              refine m_iald hx hb hK hH 1 1 (n := 1160) rfl (by decide) dX4_port_182 ?_
              refine lv_iconst (v := (1:Int32)) hx hb dX4_port_183 (by decide) ?_
              refine lv_iadd hx hb dX4_port_184 ?_
              refine m_iast hx hb hK hH hS 1 1 (n := 1160) rfl (by decide) rfl dX4_port_185 (fun σ17 eσ17 H locs hH hS => ?_)
              replace hX := bd_inv eσ17 hX; clear eσ17
              refine lv_aload_n hx hb dX4_port_186 rfl (lv_at hl 0 rfl) ?_
              refine m_get (v := .int (σ17.1 4)) hx hb hts hown hK hH 4 (by decide) (hts _ q1294) rfl dX4_port_187 ?_
              obtain ⟨e1, e2⟩ := Prod.mk.inj (rinv hX); subst e1; subst e2
              exact W.iret hx hb hr (fun t ht hW => ⟨⟨_, (), rfl, rfl, hH.to ht⟩, hS.F ht⟩) hS.2.2 dX4_port_190
            · replace hX := ineg hc hX; clear hc
              exact hk16  hX H locs hH hS ls (lv_sub hl [0] rfl)
      · refine lv_if_ne (tgt := 150) hx hb dX4_port_112 (by decide) (fun hc => ?_) (fun hc => ?_)
        · replace hX := ineg hc hX; clear hc
          exact hk15  hX H locs hH hS ls (lv_sub hl [0] rfl)
        · replace hX := ipos hc hX; clear hc
          refine lv_iload_n hx hb dX4_port_115 rfl (lv_at hl 1 rfl) ?_
          refine lv_bipush (v := (12:Int32)) hx hb dX4_port_116 (by decide) ?_
          refine lv_icmp_ge (tgt := 150) hx hb dX4_port_118 (by decide) (fun hc => ?_) (fun hc => ?_)
          · replace hX := ipos hc hX; clear hc
            exact hk15  hX H locs hH hS ls (lv_sub hl [0] rfl)
          · replace hX := ineg hc hX; clear hc
            refine lv_aload_n hx hb dX4_port_121 rfl (lv_at hl 0 rfl) ?_
            obtain ⟨x18, hf, hX⟩ := cl_inv hX
            refine m_callVi (As := []) ⟨hx, hb, hml, hown, hts⟩ (mX4_here l D dA ad hf) (cwV 0 hts (lw_V q1380 q1382 qs42 q95 q1383) rfl rfl rfl (by decide +kernel) ⟨Nat.le_of_ble_eq_true rfl, Nat.le_of_ble_eq_true rfl⟩) hK hH hS rfl hl.1 rfl (Nat.le_of_ble_eq_true rfl) dX4_port_122 (fun H locs hH hS => ?_)
            clear hf
            refine lv_bipush (v := (59:Int32)) hx hb dX4_port_125 (by decide) ?_
            refine lv_icmp_ne (tgt := 150) hx hb dX4_port_127 (by decide) (fun hc => ?_) (fun hc => ?_)
            · replace hX := ineg hc hX; clear hc
              exact hk15  hX H locs hH hS ls (lv_sub hl [0] rfl)
            · replace hX := ipos hc hX; clear hc
              refine lv_aload_n hx hb dX4_port_130 rfl (lv_at hl 0 rfl) ?_
              refine lv_dup hx hb dX4_port_131 rfl ?_
              refine m_get (v := .int (σ13.1 5)) hx hb hts hown hK hH 5 (by decide) (hts _ q1295) rfl dX4_port_132 ?_
              refine lv_iconst (v := (1:Int32)) hx hb dX4_port_135 (by decide) ?_
              refine lv_iadd hx hb dX4_port_136 ?_
              refine m_put (ty := .int) hx hb hts hown hK hH hS 5 (by decide) (hts _ q1295) rfl (tyX4_ok 5 (by decide)) rfl rfl rfl dX4_port_137 (fun σ19 eσ19 H locs hH hS => ?_)
              replace hX := bd_inv eσ19 hX; clear eσ19
              refine lv_aload_n hx hb dX4_port_140 rfl (lv_at hl 0 rfl) ?_
              obtain ⟨σ20, hf, hX⟩ := cl_inv hX
              refine m_callVvT (As := []) ⟨hx, hb, hml, hown, hts⟩ (mX4_clause l D dA ad T hf) (cwV 0 hts (lw_V q1376 q1378 qs41 q95 q1379) rfl rfl rfl (by decide +kernel) ⟨Nat.le_of_ble_eq_true rfl, Nat.le_of_ble_eq_true rfl⟩) hK hT hH hS rfl hl.1 rfl (Nat.le_of_ble_eq_true rfl) dX4_port_141 (fun H locs hH hS => ?_)
              clear hf
              obtain ⟨x21, ex21⟩ : ∃ y : Int32, y = x12 + (1:Int32) := ⟨_, rfl⟩
              replace hX := bd_inv ex21 hX
              refine lv_iinc (v := x21) (lv' := [(1, .int x21), (0, .ref (ad 0))]) hx hb dX4_port_144 hl (k := 1) rfl (by rw [ex21]; rfl) (by decide) rfl (fun ls hl => ?_)
              clear ex21
              refine lv_goto (tgt := 108) hx hb dX4_port_147 (by decide) ?_
              exact hk14 x21 σ20 hX H locs hH hS ls (lv_sub hl [1, 0] rfl)
    · replace hX := ineg hc hX; clear hc
      refine lv_aload_n hx hb dX4_port_62 rfl (lv_at hl 0 rfl) ?_
      refine m_get (v := .ref (ad 1)) hx hb hts hown hK hH 1 (by decide) (hts _ q1291) rfl dX4_port_63 ?_
      refine lv_sipush (v := (130:Int32)) hx hb dX4_port_66 (by decide) ?_
      refine lv_bipush (v := (10:Int32)) hx hb dX4_port_69 (by decide) ?_
      refine lv_aload_n hx hb dX4_port_71 rfl (lv_at hl 0 rfl) ?_
      refine m_get (v := .int (σ6.1 4)) hx hb hts hown hK hH 4 (by decide) (hts _ q1294) rfl dX4_port_72 ?_
      refine lv_imul hx hb dX4_port_75 ?_
      refine lv_iadd hx hb dX4_port_76 ?_
      refine lv_iload_n hx hb dX4_port_77 rfl (lv_at hl 1 rfl) ?_
      refine lv_iadd hx hb dX4_port_78 ?_
      refine lv_iconst (v := (0:Int32)) hx hb dX4_port_79 (by decide) ?_
      obtain ⟨hg, hX⟩ := gd_inv hX
      refine m_iast hx hb hK hH hS 1 1 (n := 1160) rfl hg rfl dX4_port_80 (fun σ22 eσ22 H locs hH hS => ?_)
      replace hX := bd_inv eσ22 hX; clear eσ22
      obtain ⟨x23, ex23⟩ : ∃ y : Int32, y = x5 + (1:Int32) := ⟨_, rfl⟩
      replace hX := bd_inv ex23 hX
      refine lv_iinc (v := x23) (lv' := [(1, .int x23), (0, .ref (ad 0))]) hx hb dX4_port_81 hl (k := 1) rfl (by rw [ex23]; rfl) (by decide) rfl (fun ls hl => ?_)
      clear ex23
      refine lv_goto (tgt := 56) hx hb dX4_port_84 (by decide) ?_
      exact hk7 x23 σ22 hX H locs hH hS ls (lv_sub hl [1, 0] rfl)
  · replace hX := ipos hc hX; clear hc
    refine lv_bipush (v := (-4:Int32)) hx hb dX4_port_10 (by decide) ?_
    obtain ⟨e1, e2⟩ := Prod.mk.inj (rinv hX); subst e1; subst e2
    exact W.iret hx hb hr (fun t ht hW => ⟨⟨_, (), rfl, rfl, hH.to ht⟩, hS.F ht⟩) hS.2.2 dX4_port_12
