/-! printed by gen/model.py -/
abbrev rmX4_factor (rc : Room) : Room := { frames := rc.frames + 2, cells := 0, slots := 0, locals := rc.locals + 44 }
def fX4_factor (kf : MS → Option MS) (ks : MS → Option MS)  (σ : MS) : Option MS :=
 if (σ.1 7) = (0:Int32) then
 cl (fX4_here σ) (fun (x1 : Int32) =>
 jn (jn (fun (x3 : Int32) => gd (isb x3) (
 bd (sf σ 7 x3) (fun (σ5 : MS) =>
 bd (sf σ5 8 ((σ5.1 8) + (1:Int32))) (fun (σ6 : MS) =>
 jn (fun (x7 : Int32) => bd (sf σ6 5 ((σ6.1 5) + x7)) (fun (σ9 : MS) =>
 jn (fun (σ10 : MS) => bd (sf σ10 8 ((σ10.1 8) - (1:Int32))) (fun (σ12 : MS) =>
 some σ12)) (fun (k11 : MS → Option MS) =>
 if x1 = (33:Int32) then
 cl (kf σ9) (fun (σ15 : MS) =>
 cl (fX4_emits (-1:Int32) σ15) (fun (σ16 : MS) =>
 k11 σ16))
 else
 cl (ks σ9) (fun (σ13 : MS) =>
 cl (fX4_must (41:Int32) σ13) (fun (σ14 : MS) =>
 k11 σ14))))) (fun (k8 : Int32 → Option MS) =>
 if (σ6.1 7) = (0:Int32) then
 k8 (1:Int32)
 else
 k8 (0:Int32)))))) (fun (k4 : Int32 → Option MS) =>
 if (σ.1 8) = (5:Int32) then
 k4 (1:Int32)
 else
 k4 (0:Int32))) (fun (k2 : Option MS) =>
 if x1 = (33:Int32) then
 k2
 else
 if x1 = (40:Int32) then
 k2
 else
 jn (fun (x17 : Int32) => gd (isb x17) (
 bd (sf σ 7 x17) (fun (σ19 : MS) =>
 jn (fun (x20 : Int32) => bd (sf σ19 5 ((σ19.1 5) + x20)) (fun (σ22 : MS) =>
 cl (fX4_here σ22) (fun (x23 : Int32) =>
 jn (fun (x24 : Int32) => gd (isb x24) (
 bd (sf σ22 7 x24) (fun (σ26 : MS) =>
 jn (fun (x27 : Int32) => bd (sf σ26 5 ((σ26.1 5) + x27)) (fun (σ29 : MS) =>
 cl2 (fX4_figures σ29) (fun (x31 : Int32) (σ30 : MS) =>
 jn (fun (x32 : Int32) => jn (fun (x34 : Int32) => cl (fX4_emits ((x32 + ((4:Int32) * x34)) + ((16:Int32) * x31)) σ30) (fun (σ36 : MS) =>
 some σ36)) (fun (k35 : Int32 → Option MS) =>
 if x23 = (60:Int32) then
 k35 (0:Int32)
 else
 if x23 = (61:Int32) then
 k35 (1:Int32)
 else
 k35 (2:Int32))) (fun (k33 : Int32 → Option MS) =>
 if x1 = (100:Int32) then
 k33 (0:Int32)
 else
 if x1 = (104:Int32) then
 k33 (1:Int32)
 else
 k33 (2:Int32))))) (fun (k28 : Int32 → Option MS) =>
 if (σ26.1 7) = (0:Int32) then
 k28 (1:Int32)
 else
 k28 (0:Int32))))) (fun (k25 : Int32 → Option MS) =>
 jn (k25 (1:Int32)) (fun (k37 : Option MS) =>
 if (σ22.1 7) = (0:Int32) then
 jn (k25 (0:Int32)) (fun (k38 : Option MS) =>
 if x23 = (60:Int32) then
 k38
 else
 if x23 = (61:Int32) then
 k38
 else
 if x23 = (62:Int32) then
 k38
 else
 k37)
 else
 k37))))) (fun (k21 : Int32 → Option MS) =>
 if (σ19.1 7) = (0:Int32) then
 k21 (1:Int32)
 else
 k21 (0:Int32))))) (fun (k18 : Int32 → Option MS) =>
 jn (k18 (0:Int32)) (fun (k39 : Option MS) =>
 if x1 = (100:Int32) then
 k39
 else
 if x1 = (104:Int32) then
 k39
 else
 if x1 = (112:Int32) then
 k39
 else
 k18 (1:Int32)))))
 else
 some σ
set_option maxHeartbeats 4000000 in
set_option maxRecDepth 100000 in
theorem mX4_factor (l : Launch) (D : va_G) (dA : Nat → ClassId) (ad : Nat → Nat) {rc : Room} (hrc : rc.cells = 0 ∧ rc.slots = 0) {kf : MS → Option MS} {ks : MS → Option MS} (hkf : ∀ {σ1 : MS} {σ2 : MS}, kf σ1 = some σ2 → Met l yX4_factor (ws_ yX4_factor cX4_factor 4 none) rc (mPc D dA ad σ1 []) (mQv D dA ad σ2) 0 0 (AM ad)) (hks : ∀ {σ1 : MS} {σ2 : MS}, ks σ1 = some σ2 → Met l yX4_some (ws_ yX4_some cX4_some 1 none) rc (mPc D dA ad σ1 []) (mQv D dA ad σ2) 0 0 (AM ad))  {σ : MS} {σz : MS} (hX : fX4_factor kf ks σ = some σz) : Met l yX4_factor (ws_ yX4_factor cX4_factor 4 none) (rmX4_factor rc) (mPc D dA ad σ []) (mQv D dA ad σz) 0 0 (AM ad) := by
  refine Met.ofW (cc := cX4_factor) (maxL := 4) (ret := none) (by decide) rfl ?_
  intro p e s m args below meth c s₁ B hml hv
  obtain ⟨rfl, hH, hK⟩ := hv
  have hx := B.exec
  have hb := B.bytes
  have hr := B.returns
  have hts := atoms_spec (ws := (ws_ yX4_factor cX4_factor 4 none)) B.pre
  have hts : ∀ w ∈ lw_all, w.before _ s = true := fun w h => hts w (List.mem_cons_of_mem _ h)
  have hown : s.vm.findClass RX4 = some m.cls := findClass_of_methodNamed B.named
  have hlocks := B.notSynchronized
  have hl := lv_entry ([.ref (ad 0)]) (n := 4) (Nat.le_of_ble_eq_true rfl)
  rw [lg_entry_eq]
  generalize (lg_sl ([.ref (ad 0)]) ++ List.replicate (4 - (lg_sl ([.ref (ad 0)])).length) Slot.unset).toArray = ls at hl ⊢
  have hl : lv_has ls 4 [(0, .ref (ad 0))] := hl
  unfold fX4_factor at hX
  refine m_start hH (fun H locs hH hS => ?_)
  refine lv_aload_n hx hb dX4_factor_0 rfl (lv_at hl 0 rfl) ?_
  refine m_get (v := .int (σ.1 7)) hx hb hts hown hK hH 7 (by decide) (hts _ q1297) rfl dX4_factor_1 ?_
  refine lv_if_eq (tgt := 8) hx hb dX4_factor_4 (by decide) (fun hc => ?_) (fun hc => ?_)
  · replace hX := ipos hc hX; clear hc
    refine lv_aload_n hx hb dX4_factor_8 rfl (lv_at hl 0 rfl) ?_
    obtain ⟨x1, hf, hX⟩ := cl_inv hX
    refine m_callVi (As := []) ⟨hx, hb, hml, hown, hts⟩ (mX4_here l D dA ad hf) (cwV 0 hts (lw_V q1380 q1382 qs42 q95 q1383) rfl rfl rfl (by decide +kernel) ⟨(show 1 ≤ rc.frames + 2 by omega), (show 20 ≤ rc.locals + 44 by omega)⟩) hK hH hS rfl hl.1 rfl (Nat.le_of_ble_eq_true rfl) dX4_factor_9 (fun H locs hH hS => ?_)
    clear hf
    refine lv_istore_n (lv' := [(1, .int x1), (0, .ref (ad 0))]) hx hb dX4_factor_12 rfl hl (by decide) rfl (fun ls hl => ?_)
    refine lv_iload_n hx hb dX4_factor_13 rfl (lv_at hl 0 rfl) ?_
    refine lv_bipush (v := (33:Int32)) hx hb dX4_factor_14 (by decide) ?_
    refine jnu0 hX (∀ (H : Heap) (locs : List Loc), HM D dA ad σ H → va_S (AM ad) s.heap H locs → ∀ (ls : Array Slot), lv_has ls 4 [(0, .ref (ad 0)), (1, .int x1)] → W p l e (headSpec (ws_ yX4_factor cX4_factor 4 none) (rmX4_factor rc)).room s m ([.ref (ad 0)] : List Value).toArray below meth c H locs 0 0 (MQ below (mQv D dA ad σz) ([.ref (ad 0)] : List Value).toArray s 0 0 (AM ad)) (F0 m 25 ls [])) (fun  hX H locs hH hS ls hl => ?_) (fun k2 hk2 hX => ?_)
    · refine lv_aload_n hx hb dX4_factor_25 rfl (lv_at hl 0 rfl) ?_
      refine lv_aload_n hx hb dX4_factor_26 rfl (lv_at hl 0 rfl) ?_
      refine m_get (v := .int (σ.1 8)) hx hb hts hown hK hH 8 (by decide) (hts _ q1298) rfl dX4_factor_27 ?_
      refine lv_iconst (v := (5:Int32)) hx hb dX4_factor_30 (by decide) ?_
      refine jnu1 hX (fun (x3 : Int32) => ∀ (H : Heap) (locs : List Loc), HM D dA ad σ H → va_S (AM ad) s.heap H locs → ∀ (ls : Array Slot), lv_has ls 4 [(0, .ref (ad 0)), (1, .int x1)] → W p l e (headSpec (ws_ yX4_factor cX4_factor 4 none) (rmX4_factor rc)).room s m ([.ref (ad 0)] : List Value).toArray below meth c H locs 0 0 (MQ below (mQv D dA ad σz) ([.ref (ad 0)] : List Value).toArray s 0 0 (AM ad)) (F0 m 39 ls [.int x3, .ref (ad 0)])) (fun x3 hX H locs hH hS ls hl => ?_) (fun k4 hk4 hX => ?_)
      · obtain ⟨hg, hX⟩ := gd_inv hX
        refine m_put (ty := .boolean) hx hb hts hown hK hH hS 7 (by decide) (hts _ q1297) rfl (tyX4_ok 7 (by decide)) (isb_n hg) (isb_f hg) rfl dX4_factor_39 (fun σ5 eσ5 H locs hH hS => ?_)
        replace hX := bd_inv eσ5 hX; clear eσ5
        refine lv_aload_n hx hb dX4_factor_42 rfl (lv_at hl 0 rfl) ?_
        refine lv_dup hx hb dX4_factor_43 rfl ?_
        refine m_get (v := .int (σ5.1 8)) hx hb hts hown hK hH 8 (by decide) (hts _ q1298) rfl dX4_factor_44 ?_
        refine lv_iconst (v := (1:Int32)) hx hb dX4_factor_47 (by decide) ?_
        refine lv_iadd hx hb dX4_factor_48 ?_
        refine m_put (ty := .int) hx hb hts hown hK hH hS 8 (by decide) (hts _ q1298) rfl (tyX4_ok 8 (by decide)) rfl rfl rfl dX4_factor_49 (fun σ6 eσ6 H locs hH hS => ?_)
        replace hX := bd_inv eσ6 hX; clear eσ6
        refine lv_aload_n hx hb dX4_factor_52 rfl (lv_at hl 0 rfl) ?_
        refine lv_dup hx hb dX4_factor_53 rfl ?_
        refine m_get (v := .int (σ6.1 5)) hx hb hts hown hK hH 5 (by decide) (hts _ q1295) rfl dX4_factor_54 ?_
        refine lv_aload_n hx hb dX4_factor_57 rfl (lv_at hl 0 rfl) ?_
        refine m_get (v := .int (σ6.1 7)) hx hb hts hown hK hH 7 (by decide) (hts _ q1297) rfl dX4_factor_58 ?_
        refine jnu1 hX (fun (x7 : Int32) => ∀ (H : Heap) (locs : List Loc), HM D dA ad σ6 H → va_S (AM ad) s.heap H locs → ∀ (ls : Array Slot), lv_has ls 4 [(0, .ref (ad 0)), (1, .int x1)] → W p l e (headSpec (ws_ yX4_factor cX4_factor 4 none) (rmX4_factor rc)).room s m ([.ref (ad 0)] : List Value).toArray below meth c H locs 0 0 (MQ below (mQv D dA ad σz) ([.ref (ad 0)] : List Value).toArray s 0 0 (AM ad)) (F0 m 69 ls [.int x7, .int (σ6.1 5), .ref (ad 0)])) (fun x7 hX H locs hH hS ls hl => ?_) (fun k8 hk8 hX => ?_)
        · refine lv_iadd hx hb dX4_factor_69 ?_
          refine m_put (ty := .int) hx hb hts hown hK hH hS 5 (by decide) (hts _ q1295) rfl (tyX4_ok 5 (by decide)) rfl rfl rfl dX4_factor_70 (fun σ9 eσ9 H locs hH hS => ?_)
          replace hX := bd_inv eσ9 hX; clear eσ9
          refine lv_iload_n hx hb dX4_factor_73 rfl (lv_at hl 1 rfl) ?_
          refine lv_bipush (v := (33:Int32)) hx hb dX4_factor_74 (by decide) ?_
          refine jnu1 hX (fun (σ10 : MS) => ∀ (H : Heap) (locs : List Loc), HM D dA ad σ10 H → va_S (AM ad) s.heap H locs → ∀ (ls : Array Slot), lv_has ls 4 [(0, .ref (ad 0))] → W p l e (headSpec (ws_ yX4_factor cX4_factor 4 none) (rmX4_factor rc)).room s m ([.ref (ad 0)] : List Value).toArray below meth c H locs 0 0 (MQ below (mQv D dA ad σz) ([.ref (ad 0)] : List Value).toArray s 0 0 (AM ad)) (F0 m 101 ls [])) (fun σ10 hX H locs hH hS ls hl => ?_) (fun k11 hk11 hX => ?_)
          · refine lv_aload_n hx hb dX4_factor_101 rfl (lv_at hl 0 rfl) ?_
            refine lv_dup hx hb dX4_factor_102 rfl ?_
            refine m_get (v := .int (σ10.1 8)) hx hb hts hown hK hH 8 (by decide) (hts _ q1298) rfl dX4_factor_103 ?_
            refine lv_iconst (v := (1:Int32)) hx hb dX4_factor_106 (by decide) ?_
            refine lv_isub hx hb dX4_factor_107 ?_
            refine m_put (ty := .int) hx hb hts hown hK hH hS 8 (by decide) (hts _ q1298) rfl (tyX4_ok 8 (by decide)) rfl rfl rfl dX4_factor_108 (fun σ12 eσ12 H locs hH hS => ?_)
            replace hX := bd_inv eσ12 hX; clear eσ12
            have e1 := rinv hX; subst e1
            exact W.vret hx hb hr (fun t ht hW => ⟨⟨(), rfl, trivial, hH.to ht⟩, hS.F ht⟩) hS.2.2 dX4_factor_111
          · refine lv_icmp_ne (tgt := 91) hx hb dX4_factor_76 (by decide) (fun hc => ?_) (fun hc => ?_)
            · replace hX := ineg hc hX; clear hc
              refine lv_aload_n hx hb dX4_factor_91 rfl (lv_at hl 0 rfl) ?_
              obtain ⟨σ13, hf, hX⟩ := cl_inv hX
              refine m_callVv (As := []) ⟨hx, hb, hml, hown, hts⟩ (hks hf) (cwV 0 hts (lw_V q1451 q1453 qs48 q95 q1454) rfl hrc.1 hrc.2 (by decide +kernel) ⟨(show rc.frames + 1 ≤ rc.frames + 2 by omega), (show 20 + rc.locals ≤ rc.locals + 44 by omega)⟩) hK hH hS rfl hl.1 rfl (Nat.le_of_ble_eq_true rfl) dX4_factor_92 (fun H locs hH hS => ?_)
              clear hf
              refine lv_aload_n hx hb dX4_factor_95 rfl (lv_at hl 0 rfl) ?_
              refine lv_bipush (v := (41:Int32)) hx hb dX4_factor_96 (by decide) ?_
              obtain ⟨σ14, hf, hX⟩ := cl_inv hX
              refine m_callVv (As := [.int (41:Int32)]) ⟨hx, hb, hml, hown, hts⟩ (mX4_must l D dA ad hf) (cwV 1 hts (lw_V q1388 q1390 qs44 q95 q1391) rfl rfl rfl (by decide +kernel) ⟨(show 2 ≤ rc.frames + 2 by omega), (show 41 ≤ rc.locals + 44 by omega)⟩) hK hH hS rfl hl.1 rfl (Nat.le_of_ble_eq_true rfl) dX4_factor_98 (fun H locs hH hS => ?_)
              clear hf
              exact hk11 σ14 hX H locs hH hS ls (lv_sub hl [0] rfl)
            · replace hX := ipos hc hX; clear hc
              refine lv_aload_n hx hb dX4_factor_79 rfl (lv_at hl 0 rfl) ?_
              obtain ⟨σ15, hf, hX⟩ := cl_inv hX
              refine m_callVv (As := []) ⟨hx, hb, hml, hown, hts⟩ (hkf hf) (cwV 0 hts (lw_V q1459 q1461 qs50 q95 q1462) rfl hrc.1 hrc.2 (by decide +kernel) ⟨(show rc.frames + 1 ≤ rc.frames + 2 by omega), (show 23 + rc.locals ≤ rc.locals + 44 by omega)⟩) hK hH hS rfl hl.1 rfl (Nat.le_of_ble_eq_true rfl) dX4_factor_80 (fun H locs hH hS => ?_)
              clear hf
              refine lv_aload_n hx hb dX4_factor_83 rfl (lv_at hl 0 rfl) ?_
              refine lv_iconst (v := (-1:Int32)) hx hb dX4_factor_84 (by decide) ?_
              obtain ⟨σ16, hf, hX⟩ := cl_inv hX
              refine m_callVv (As := [.int (-1:Int32)]) ⟨hx, hb, hml, hown, hts⟩ (mX4_emits l D dA ad hf) (cwV 1 hts (lw_V q1463 q1465 qs51 q95 q1466) rfl rfl rfl (by decide +kernel) ⟨(show 1 ≤ rc.frames + 2 by omega), (show 21 ≤ rc.locals + 44 by omega)⟩) hK hH hS rfl hl.1 rfl (Nat.le_of_ble_eq_true rfl) dX4_factor_85 (fun H locs hH hS => ?_)
              clear hf
              refine lv_goto (tgt := 101) hx hb dX4_factor_88 (by decide) ?_
              exact hk11 σ16 hX H locs hH hS ls (lv_sub hl [0] rfl)
        · refine lv_if_eq (tgt := 68) hx hb dX4_factor_61 (by decide) (fun hc => ?_) (fun hc => ?_)
          · replace hX := ipos hc hX; clear hc
            refine lv_iconst (v := (1:Int32)) hx hb dX4_factor_68 (by decide) ?_
            exact hk8 (1:Int32) hX H locs hH hS ls (lv_sub hl [0, 1] rfl)
          · replace hX := ineg hc hX; clear hc
            refine lv_iconst (v := (0:Int32)) hx hb dX4_factor_64 (by decide) ?_
            refine lv_goto (tgt := 69) hx hb dX4_factor_65 (by decide) ?_
            exact hk8 (0:Int32) hX H locs hH hS ls (lv_sub hl [0, 1] rfl)
      · refine lv_icmp_ne (tgt := 38) hx hb dX4_factor_31 (by decide) (fun hc => ?_) (fun hc => ?_)
        · replace hX := ineg hc hX; clear hc
          refine lv_iconst (v := (0:Int32)) hx hb dX4_factor_38 (by decide) ?_
          exact hk4 (0:Int32) hX H locs hH hS ls (lv_sub hl [0, 1] rfl)
        · replace hX := ipos hc hX; clear hc
          refine lv_iconst (v := (1:Int32)) hx hb dX4_factor_34 (by decide) ?_
          refine lv_goto (tgt := 39) hx hb dX4_factor_35 (by decide) ?_
          exact hk4 (1:Int32) hX H locs hH hS ls (lv_sub hl [0, 1] rfl)
    · refine lv_icmp_eq (tgt := 25) hx hb dX4_factor_16 (by decide) (fun hc => ?_) (fun hc => ?_)
      · replace hX := ipos hc hX; clear hc
        exact hk2  hX H locs hH hS ls (lv_sub hl [1, 0] rfl)
      · replace hX := ineg hc hX; clear hc
        refine lv_iload_n hx hb dX4_factor_19 rfl (lv_at hl 0 rfl) ?_
        refine lv_bipush (v := (40:Int32)) hx hb dX4_factor_20 (by decide) ?_
        refine lv_icmp_ne (tgt := 112) hx hb dX4_factor_22 (by decide) (fun hc => ?_) (fun hc => ?_)
        · replace hX := ineg hc hX; clear hc
          refine lv_aload_n hx hb dX4_factor_112 rfl (lv_at hl 1 rfl) ?_
          refine lv_iload_n hx hb dX4_factor_113 rfl (lv_at hl 0 rfl) ?_
          refine lv_bipush (v := (100:Int32)) hx hb dX4_factor_114 (by decide) ?_
          refine jnu1 hX (fun (x17 : Int32) => ∀ (H : Heap) (locs : List Loc), HM D dA ad σ H → va_S (AM ad) s.heap H locs → ∀ (ls : Array Slot), lv_has ls 4 [(0, .ref (ad 0)), (1, .int x1)] → W p l e (headSpec (ws_ yX4_factor cX4_factor 4 none) (rmX4_factor rc)).room s m ([.ref (ad 0)] : List Value).toArray below meth c H locs 0 0 (MQ below (mQv D dA ad σz) ([.ref (ad 0)] : List Value).toArray s 0 0 (AM ad)) (F0 m 136 ls [.int x17, .ref (ad 0)])) (fun x17 hX H locs hH hS ls hl => ?_) (fun k18 hk18 hX => ?_)
          · obtain ⟨hg, hX⟩ := gd_inv hX
            refine m_put (ty := .boolean) hx hb hts hown hK hH hS 7 (by decide) (hts _ q1297) rfl (tyX4_ok 7 (by decide)) (isb_n hg) (isb_f hg) rfl dX4_factor_136 (fun σ19 eσ19 H locs hH hS => ?_)
            replace hX := bd_inv eσ19 hX; clear eσ19
            refine lv_aload_n hx hb dX4_factor_139 rfl (lv_at hl 0 rfl) ?_
            refine lv_dup hx hb dX4_factor_140 rfl ?_
            refine m_get (v := .int (σ19.1 5)) hx hb hts hown hK hH 5 (by decide) (hts _ q1295) rfl dX4_factor_141 ?_
            refine lv_aload_n hx hb dX4_factor_144 rfl (lv_at hl 0 rfl) ?_
            refine m_get (v := .int (σ19.1 7)) hx hb hts hown hK hH 7 (by decide) (hts _ q1297) rfl dX4_factor_145 ?_
            refine jnu1 hX (fun (x20 : Int32) => ∀ (H : Heap) (locs : List Loc), HM D dA ad σ19 H → va_S (AM ad) s.heap H locs → ∀ (ls : Array Slot), lv_has ls 4 [(0, .ref (ad 0)), (1, .int x1)] → W p l e (headSpec (ws_ yX4_factor cX4_factor 4 none) (rmX4_factor rc)).room s m ([.ref (ad 0)] : List Value).toArray below meth c H locs 0 0 (MQ below (mQv D dA ad σz) ([.ref (ad 0)] : List Value).toArray s 0 0 (AM ad)) (F0 m 156 ls [.int x20, .int (σ19.1 5), .ref (ad 0)])) (fun x20 hX H locs hH hS ls hl => ?_) (fun k21 hk21 hX => ?_)
            · refine lv_iadd hx hb dX4_factor_156 ?_
              refine m_put (ty := .int) hx hb hts hown hK hH hS 5 (by decide) (hts _ q1295) rfl (tyX4_ok 5 (by decide)) rfl rfl rfl dX4_factor_157 (fun σ22 eσ22 H locs hH hS => ?_)
              replace hX := bd_inv eσ22 hX; clear eσ22
              refine lv_aload_n hx hb dX4_factor_160 rfl (lv_at hl 0 rfl) ?_
              obtain ⟨x23, hf, hX⟩ := cl_inv hX
              refine m_callVi (As := []) ⟨hx, hb, hml, hown, hts⟩ (mX4_here l D dA ad hf) (cwV 0 hts (lw_V q1380 q1382 qs42 q95 q1383) rfl rfl rfl (by decide +kernel) ⟨(show 1 ≤ rc.frames + 2 by omega), (show 20 ≤ rc.locals + 44 by omega)⟩) hK hH hS rfl hl.1 rfl (Nat.le_of_ble_eq_true rfl) dX4_factor_161 (fun H locs hH hS => ?_)
              clear hf
              refine lv_istore_n (lv' := [(2, .int x23), (0, .ref (ad 0)), (1, .int x1)]) hx hb dX4_factor_164 rfl hl (by decide) rfl (fun ls hl => ?_)
              refine lv_aload_n hx hb dX4_factor_165 rfl (lv_at hl 1 rfl) ?_
              refine lv_aload_n hx hb dX4_factor_166 rfl (lv_at hl 1 rfl) ?_
              refine m_get (v := .int (σ22.1 7)) hx hb hts hown hK hH 7 (by decide) (hts _ q1297) rfl dX4_factor_167 ?_
              refine jnu1 hX (fun (x24 : Int32) => ∀ (H : Heap) (locs : List Loc), HM D dA ad σ22 H → va_S (AM ad) s.heap H locs → ∀ (ls : Array Slot), lv_has ls 4 [(0, .ref (ad 0)), (1, .int x1), (2, .int x23)] → W p l e (headSpec (ws_ yX4_factor cX4_factor 4 none) (rmX4_factor rc)).room s m ([.ref (ad 0)] : List Value).toArray below meth c H locs 0 0 (MQ below (mQv D dA ad σz) ([.ref (ad 0)] : List Value).toArray s 0 0 (AM ad)) (F0 m 196 ls [.int x24, .ref (ad 0)])) (fun x24 hX H locs hH hS ls hl => ?_) (fun k25 hk25 hX => ?_)
              · obtain ⟨hg, hX⟩ := gd_inv hX
                refine m_put (ty := .boolean) hx hb hts hown hK hH hS 7 (by decide) (hts _ q1297) rfl (tyX4_ok 7 (by decide)) (isb_n hg) (isb_f hg) rfl dX4_factor_196 (fun σ26 eσ26 H locs hH hS => ?_)
                replace hX := bd_inv eσ26 hX; clear eσ26
                refine lv_aload_n hx hb dX4_factor_199 rfl (lv_at hl 0 rfl) ?_
                refine lv_dup hx hb dX4_factor_200 rfl ?_
                refine m_get (v := .int (σ26.1 5)) hx hb hts hown hK hH 5 (by decide) (hts _ q1295) rfl dX4_factor_201 ?_
                refine lv_aload_n hx hb dX4_factor_204 rfl (lv_at hl 0 rfl) ?_
                refine m_get (v := .int (σ26.1 7)) hx hb hts hown hK hH 7 (by decide) (hts _ q1297) rfl dX4_factor_205 ?_
                refine jnu1 hX (fun (x27 : Int32) => ∀ (H : Heap) (locs : List Loc), HM D dA ad σ26 H → va_S (AM ad) s.heap H locs → ∀ (ls : Array Slot), lv_has ls 4 [(0, .ref (ad 0)), (1, .int x1), (2, .int x23)] → W p l e (headSpec (ws_ yX4_factor cX4_factor 4 none) (rmX4_factor rc)).room s m ([.ref (ad 0)] : List Value).toArray below meth c H locs 0 0 (MQ below (mQv D dA ad σz) ([.ref (ad 0)] : List Value).toArray s 0 0 (AM ad)) (F0 m 216 ls [.int x27, .int (σ26.1 5), .ref (ad 0)])) (fun x27 hX H locs hH hS ls hl => ?_) (fun k28 hk28 hX => ?_)
                · refine lv_iadd hx hb dX4_factor_216 ?_
                  refine m_put (ty := .int) hx hb hts hown hK hH hS 5 (by decide) (hts _ q1295) rfl (tyX4_ok 5 (by decide)) rfl rfl rfl dX4_factor_217 (fun σ29 eσ29 H locs hH hS => ?_)
                  replace hX := bd_inv eσ29 hX; clear eσ29
                  refine lv_aload_n hx hb dX4_factor_220 rfl (lv_at hl 0 rfl) ?_
                  obtain ⟨x31, σ30, hf, hX⟩ := cl2_inv hX
                  refine m_callVi (As := []) ⟨hx, hb, hml, hown, hts⟩ (mX4_figures l D dA ad hf) (cwV 0 hts (lw_V q1447 q1449 qs47 q95 q1450) rfl rfl rfl (by decide +kernel) ⟨(show 2 ≤ rc.frames + 2 by omega), (show 44 ≤ rc.locals + 44 by omega)⟩) hK hH hS rfl hl.1 rfl (Nat.le_of_ble_eq_true rfl) dX4_factor_221 (fun H locs hH hS => ?_)
                  clear hf
                  refine lv_istore_n (lv' := [(3, .int x31), (0, .ref (ad 0)), (1, .int x1), (2, .int x23)]) hx hb dX4_factor_224 rfl hl (by decide) rfl (fun ls hl => ?_)
                  refine lv_aload_n hx hb dX4_factor_225 rfl (lv_at hl 1 rfl) ?_
                  refine lv_iload_n hx hb dX4_factor_226 rfl (lv_at hl 2 rfl) ?_
                  refine lv_bipush (v := (100:Int32)) hx hb dX4_factor_227 (by decide) ?_
                  refine jnu1 hX (fun (x32 : Int32) => ∀ (H : Heap) (locs : List Loc), HM D dA ad σ30 H → va_S (AM ad) s.heap H locs → ∀ (ls : Array Slot), lv_has ls 4 [(2, .int x23), (3, .int x31)] → W p l e (headSpec (ws_ yX4_factor cX4_factor 4 none) (rmX4_factor rc)).room s m ([.ref (ad 0)] : List Value).toArray below meth c H locs 0 0 (MQ below (mQv D dA ad σz) ([.ref (ad 0)] : List Value).toArray s 0 0 (AM ad)) (F0 m 247 ls [.int x32, .ref (ad 0)])) (fun x32 hX H locs hH hS ls hl => ?_) (fun k33 hk33 hX => ?_)
                  · refine lv_iconst (v := (4:Int32)) hx hb dX4_factor_247 (by decide) ?_
                    refine lv_iload_n hx hb dX4_factor_248 rfl (lv_at hl 0 rfl) ?_
                    refine lv_bipush (v := (60:Int32)) hx hb dX4_factor_249 (by decide) ?_
                    refine jnu1 hX (fun (x34 : Int32) => ∀ (H : Heap) (locs : List Loc), HM D dA ad σ30 H → va_S (AM ad) s.heap H locs → ∀ (ls : Array Slot), lv_has ls 4 [(3, .int x31)] → W p l e (headSpec (ws_ yX4_factor cX4_factor 4 none) (rmX4_factor rc)).room s m ([.ref (ad 0)] : List Value).toArray below meth c H locs 0 0 (MQ below (mQv D dA ad σz) ([.ref (ad 0)] : List Value).toArray s 0 0 (AM ad)) (F0 m 269 ls [.int x34, .int (4:Int32), .int x32, .ref (ad 0)])) (fun x34 hX H locs hH hS ls hl => ?_) (fun k35 hk35 hX => ?_)
                    · refine lv_imul hx hb dX4_factor_269 ?_
                      refine lv_iadd hx hb dX4_factor_270 ?_
                      refine lv_bipush (v := (16:Int32)) hx hb dX4_factor_271 (by decide) ?_
                      refine lv_iload_n hx hb dX4_factor_273 rfl (lv_at hl 0 rfl) ?_
                      refine lv_imul hx hb dX4_factor_274 ?_
                      refine lv_iadd hx hb dX4_factor_275 ?_
                      obtain ⟨σ36, hf, hX⟩ := cl_inv hX
                      refine m_callVv (As := [.int ((x32 + ((4:Int32) * x34)) + ((16:Int32) * x31))]) ⟨hx, hb, hml, hown, hts⟩ (mX4_emits l D dA ad hf) (cwV 1 hts (lw_V q1463 q1465 qs51 q95 q1466) rfl rfl rfl (by decide +kernel) ⟨(show 1 ≤ rc.frames + 2 by omega), (show 21 ≤ rc.locals + 44 by omega)⟩) hK hH hS rfl hl.1 rfl (Nat.le_of_ble_eq_true rfl) dX4_factor_276 (fun H locs hH hS => ?_)
                      clear hf
                      have e1 := rinv hX; subst e1
                      exact W.vret hx hb hr (fun t ht hW => ⟨⟨(), rfl, trivial, hH.to ht⟩, hS.F ht⟩) hS.2.2 dX4_factor_279
                    · refine lv_icmp_ne (tgt := 258) hx hb dX4_factor_251 (by decide) (fun hc => ?_) (fun hc => ?_)
                      · replace hX := ineg hc hX; clear hc
                        refine lv_iload_n hx hb dX4_factor_258 rfl (lv_at hl 0 rfl) ?_
                        refine lv_bipush (v := (61:Int32)) hx hb dX4_factor_259 (by decide) ?_
                        refine lv_icmp_ne (tgt := 268) hx hb dX4_factor_261 (by decide) (fun hc => ?_) (fun hc => ?_)
                        · replace hX := ineg hc hX; clear hc
                          refine lv_iconst (v := (2:Int32)) hx hb dX4_factor_268 (by decide) ?_
                          exact hk35 (2:Int32) hX H locs hH hS ls (lv_sub hl [1] rfl)
                        · replace hX := ipos hc hX; clear hc
                          refine lv_iconst (v := (1:Int32)) hx hb dX4_factor_264 (by decide) ?_
                          refine lv_goto (tgt := 269) hx hb dX4_factor_265 (by decide) ?_
                          exact hk35 (1:Int32) hX H locs hH hS ls (lv_sub hl [1] rfl)
                      · replace hX := ipos hc hX; clear hc
                        refine lv_iconst (v := (0:Int32)) hx hb dX4_factor_254 (by decide) ?_
                        refine lv_goto (tgt := 269) hx hb dX4_factor_255 (by decide) ?_
                        exact hk35 (0:Int32) hX H locs hH hS ls (lv_sub hl [1] rfl)
                  · refine lv_icmp_ne (tgt := 236) hx hb dX4_factor_229 (by decide) (fun hc => ?_) (fun hc => ?_)
                    · replace hX := ineg hc hX; clear hc
                      refine lv_iload_n hx hb dX4_factor_236 rfl (lv_at hl 2 rfl) ?_
                      refine lv_bipush (v := (104:Int32)) hx hb dX4_factor_237 (by decide) ?_
                      refine lv_icmp_ne (tgt := 246) hx hb dX4_factor_239 (by decide) (fun hc => ?_) (fun hc => ?_)
                      · replace hX := ineg hc hX; clear hc
                        refine lv_iconst (v := (2:Int32)) hx hb dX4_factor_246 (by decide) ?_
                        exact hk33 (2:Int32) hX H locs hH hS ls (lv_sub hl [3, 0] rfl)
                      · replace hX := ipos hc hX; clear hc
                        refine lv_iconst (v := (1:Int32)) hx hb dX4_factor_242 (by decide) ?_
                        refine lv_goto (tgt := 247) hx hb dX4_factor_243 (by decide) ?_
                        exact hk33 (1:Int32) hX H locs hH hS ls (lv_sub hl [3, 0] rfl)
                    · replace hX := ipos hc hX; clear hc
                      refine lv_iconst (v := (0:Int32)) hx hb dX4_factor_232 (by decide) ?_
                      refine lv_goto (tgt := 247) hx hb dX4_factor_233 (by decide) ?_
                      exact hk33 (0:Int32) hX H locs hH hS ls (lv_sub hl [3, 0] rfl)
                · refine lv_if_eq (tgt := 215) hx hb dX4_factor_208 (by decide) (fun hc => ?_) (fun hc => ?_)
                  · replace hX := ipos hc hX; clear hc
                    refine lv_iconst (v := (1:Int32)) hx hb dX4_factor_215 (by decide) ?_
                    exact hk28 (1:Int32) hX H locs hH hS ls (lv_sub hl [0, 1, 2] rfl)
                  · replace hX := ineg hc hX; clear hc
                    refine lv_iconst (v := (0:Int32)) hx hb dX4_factor_211 (by decide) ?_
                    refine lv_goto (tgt := 216) hx hb dX4_factor_212 (by decide) ?_
                    exact hk28 (0:Int32) hX H locs hH hS ls (lv_sub hl [0, 1, 2] rfl)
              · refine jnu0 hX (∀ (H : Heap) (locs : List Loc), HM D dA ad σ22 H → va_S (AM ad) s.heap H locs → ∀ (ls : Array Slot), lv_has ls 4 [(0, .ref (ad 0)), (1, .int x1), (2, .int x23)] → W p l e (headSpec (ws_ yX4_factor cX4_factor 4 none) (rmX4_factor rc)).room s m ([.ref (ad 0)] : List Value).toArray below meth c H locs 0 0 (MQ below (mQv D dA ad σz) ([.ref (ad 0)] : List Value).toArray s 0 0 (AM ad)) (F0 m 191 ls [.ref (ad 0)])) (fun  hX H locs hH hS ls hl => ?_) (fun k37 hk37 hX => ?_)
                · refine lv_iconst (v := (1:Int32)) hx hb dX4_factor_191 (by decide) ?_
                  refine lv_goto (tgt := 196) hx hb dX4_factor_192 (by decide) ?_
                  exact hk25 (1:Int32) hX H locs hH hS ls (lv_sub hl [0, 1, 2] rfl)
                · refine lv_if_ne (tgt := 191) hx hb dX4_factor_170 (by decide) (fun hc => ?_) (fun hc => ?_)
                  · replace hX := ineg hc hX; clear hc
                    exact hk37  hX H locs hH hS ls (lv_sub hl [1, 2, 0] rfl)
                  · replace hX := ipos hc hX; clear hc
                    refine lv_iload_n hx hb dX4_factor_173 rfl (lv_at hl 0 rfl) ?_
                    refine lv_bipush (v := (60:Int32)) hx hb dX4_factor_174 (by decide) ?_
                    refine jnu0 hX (∀ (H : Heap) (locs : List Loc), HM D dA ad σ22 H → va_S (AM ad) s.heap H locs → ∀ (ls : Array Slot), lv_has ls 4 [(0, .ref (ad 0)), (1, .int x1), (2, .int x23)] → W p l e (headSpec (ws_ yX4_factor cX4_factor 4 none) (rmX4_factor rc)).room s m ([.ref (ad 0)] : List Value).toArray below meth c H locs 0 0 (MQ below (mQv D dA ad σz) ([.ref (ad 0)] : List Value).toArray s 0 0 (AM ad)) (F0 m 195 ls [.ref (ad 0)])) (fun  hX H locs hH hS ls hl => ?_) (fun k38 hk38 hX => ?_)
                    · refine lv_iconst (v := (0:Int32)) hx hb dX4_factor_195 (by decide) ?_
                      exact hk25 (0:Int32) hX H locs hH hS ls (lv_sub hl [0, 1, 2] rfl)
                    · refine lv_icmp_eq (tgt := 195) hx hb dX4_factor_176 (by decide) (fun hc => ?_) (fun hc => ?_)
                      · replace hX := ipos hc hX; clear hc
                        exact hk38  hX H locs hH hS ls (lv_sub hl [1, 2, 0] rfl)
                      · replace hX := ineg hc hX; clear hc
                        refine lv_iload_n hx hb dX4_factor_179 rfl (lv_at hl 0 rfl) ?_
                        refine lv_bipush (v := (61:Int32)) hx hb dX4_factor_180 (by decide) ?_
                        refine lv_icmp_eq (tgt := 195) hx hb dX4_factor_182 (by decide) (fun hc => ?_) (fun hc => ?_)
                        · replace hX := ipos hc hX; clear hc
                          exact hk38  hX H locs hH hS ls (lv_sub hl [1, 2, 0] rfl)
                        · replace hX := ineg hc hX; clear hc
                          refine lv_iload_n hx hb dX4_factor_185 rfl (lv_at hl 0 rfl) ?_
                          refine lv_bipush (v := (62:Int32)) hx hb dX4_factor_186 (by decide) ?_
                          refine lv_icmp_eq (tgt := 195) hx hb dX4_factor_188 (by decide) (fun hc => ?_) (fun hc => ?_)
                          · replace hX := ipos hc hX; clear hc
                            exact hk38  hX H locs hH hS ls (lv_sub hl [1, 2, 0] rfl)
                          · replace hX := ineg hc hX; clear hc
                            exact hk37  hX H locs hH hS ls (lv_sub hl [1, 2, 0] rfl)
            · refine lv_if_eq (tgt := 155) hx hb dX4_factor_148 (by decide) (fun hc => ?_) (fun hc => ?_)
              · replace hX := ipos hc hX; clear hc
                refine lv_iconst (v := (1:Int32)) hx hb dX4_factor_155 (by decide) ?_
                exact hk21 (1:Int32) hX H locs hH hS ls (lv_sub hl [0, 1] rfl)
              · replace hX := ineg hc hX; clear hc
                refine lv_iconst (v := (0:Int32)) hx hb dX4_factor_151 (by decide) ?_
                refine lv_goto (tgt := 156) hx hb dX4_factor_152 (by decide) ?_
                exact hk21 (0:Int32) hX H locs hH hS ls (lv_sub hl [0, 1] rfl)
          · refine jnu0 hX (∀ (H : Heap) (locs : List Loc), HM D dA ad σ H → va_S (AM ad) s.heap H locs → ∀ (ls : Array Slot), lv_has ls 4 [(0, .ref (ad 0)), (1, .int x1)] → W p l e (headSpec (ws_ yX4_factor cX4_factor 4 none) (rmX4_factor rc)).room s m ([.ref (ad 0)] : List Value).toArray below meth c H locs 0 0 (MQ below (mQv D dA ad σz) ([.ref (ad 0)] : List Value).toArray s 0 0 (AM ad)) (F0 m 135 ls [.ref (ad 0)])) (fun  hX H locs hH hS ls hl => ?_) (fun k39 hk39 hX => ?_)
            · refine lv_iconst (v := (0:Int32)) hx hb dX4_factor_135 (by decide) ?_
              exact hk18 (0:Int32) hX H locs hH hS ls (lv_sub hl [0, 1] rfl)
            · refine lv_icmp_eq (tgt := 135) hx hb dX4_factor_116 (by decide) (fun hc => ?_) (fun hc => ?_)
              · replace hX := ipos hc hX; clear hc
                exact hk39  hX H locs hH hS ls (lv_sub hl [1, 0] rfl)
              · replace hX := ineg hc hX; clear hc
                refine lv_iload_n hx hb dX4_factor_119 rfl (lv_at hl 0 rfl) ?_
                refine lv_bipush (v := (104:Int32)) hx hb dX4_factor_120 (by decide) ?_
                refine lv_icmp_eq (tgt := 135) hx hb dX4_factor_122 (by decide) (fun hc => ?_) (fun hc => ?_)
                · replace hX := ipos hc hX; clear hc
                  exact hk39  hX H locs hH hS ls (lv_sub hl [1, 0] rfl)
                · replace hX := ineg hc hX; clear hc
                  refine lv_iload_n hx hb dX4_factor_125 rfl (lv_at hl 0 rfl) ?_
                  refine lv_bipush (v := (112:Int32)) hx hb dX4_factor_126 (by decide) ?_
                  refine lv_icmp_eq (tgt := 135) hx hb dX4_factor_128 (by decide) (fun hc => ?_) (fun hc => ?_)
                  · replace hX := ipos hc hX; clear hc
                    exact hk39  hX H locs hH hS ls (lv_sub hl [1, 0] rfl)
                  · replace hX := ineg hc hX; clear hc
                    refine lv_iconst (v := (1:Int32)) hx hb dX4_factor_131 (by decide) ?_
                    refine lv_goto (tgt := 136) hx hb dX4_factor_132 (by decide) ?_
                    exact hk18 (1:Int32) hX H locs hH hS ls (lv_sub hl [1, 0] rfl)
        · replace hX := ipos hc hX; clear hc
          exact hk2  hX H locs hH hS ls (lv_sub hl [1, 0] rfl)
  · replace hX := ineg hc hX; clear hc
    have e1 := rinv hX; subst e1
    exact W.vret hx hb hr (fun t ht hW => ⟨⟨(), rfl, trivial, hH.to ht⟩, hS.F ht⟩) hS.2.2 dX4_factor_7

abbrev rmX4_every (rc : Room) : Room := { frames := rc.frames + 2, cells := 0, slots := 0, locals := rc.locals + 44 }
def fX4_every (kf : MS → Option MS)  (σ : MS) : Option MS :=
 cl (kf σ) (fun (σ1 : MS) =>
 lp (fun _ => none) (fun (k3 : MS → Option MS) (σ2 : MS) =>
 jn (some σ2) (fun (k4 : Option MS) =>
 if (σ2.1 7) = (0:Int32) then
 cl (fX4_here σ2) (fun (x5 : Int32) =>
 if x5 = (38:Int32) then
 bd (sf σ2 5 ((σ2.1 5) + (1:Int32))) (fun (σ6 : MS) =>
 cl (kf σ6) (fun (σ7 : MS) =>
 cl (fX4_emits (-2:Int32) σ7) (fun (σ8 : MS) =>
 k3 σ8)))
 else
 k4)
 else
 k4)) NF σ1)
set_option maxHeartbeats 4000000 in
set_option maxRecDepth 100000 in
theorem mX4_every (l : Launch) (D : va_G) (dA : Nat → ClassId) (ad : Nat → Nat) {rc : Room} (hrc : rc.cells = 0 ∧ rc.slots = 0) {kf : MS → Option MS} (hkf : ∀ {σ1 : MS} {σ2 : MS}, kf σ1 = some σ2 → Met l yX4_factor (ws_ yX4_factor cX4_factor 4 none) rc (mPc D dA ad σ1 []) (mQv D dA ad σ2) 0 0 (AM ad))  {σ : MS} {σz : MS} (hX : fX4_every kf σ = some σz) : Met l yX4_every (ws_ yX4_every cX4_every 1 none) (rmX4_every rc) (mPc D dA ad σ []) (mQv D dA ad σz) 0 0 (AM ad) := by
  refine Met.ofW (cc := cX4_every) (maxL := 1) (ret := none) (by decide) rfl ?_
  intro p e s m args below meth c s₁ B hml hv
  obtain ⟨rfl, hH, hK⟩ := hv
  have hx := B.exec
  have hb := B.bytes
  have hr := B.returns
  have hts := atoms_spec (ws := (ws_ yX4_every cX4_every 1 none)) B.pre
  have hts : ∀ w ∈ lw_all, w.before _ s = true := fun w h => hts w (List.mem_cons_of_mem _ h)
  have hown : s.vm.findClass RX4 = some m.cls := findClass_of_methodNamed B.named
  have hlocks := B.notSynchronized
  have hl := lv_entry ([.ref (ad 0)]) (n := 1) (Nat.le_of_ble_eq_true rfl)
  rw [lg_entry_eq]
  generalize (lg_sl ([.ref (ad 0)]) ++ List.replicate (1 - (lg_sl ([.ref (ad 0)])).length) Slot.unset).toArray = ls at hl ⊢
  have hl : lv_has ls 1 [(0, .ref (ad 0))] := hl
  unfold fX4_every at hX
  refine m_start hH (fun H locs hH hS => ?_)
  refine lv_aload_n hx hb dX4_every_0 rfl (lv_at hl 0 rfl) ?_
  obtain ⟨σ1, hf, hX⟩ := cl_inv hX
  refine m_callVv (As := []) ⟨hx, hb, hml, hown, hts⟩ (hkf hf) (cwV 0 hts (lw_V q1459 q1461 qs50 q95 q1462) rfl hrc.1 hrc.2 (by decide +kernel) ⟨(show rc.frames + 1 ≤ rc.frames + 2 by omega), (show 23 + rc.locals ≤ rc.locals + 44 by omega)⟩) hK hH hS rfl hl.1 rfl (Nat.le_of_ble_eq_true rfl) dX4_every_1 (fun H locs hH hS => ?_)
  clear hf
  refine lpu1 hX (fun (σ2 : MS) => ∀ (H : Heap) (locs : List Loc), HM D dA ad σ2 H → va_S (AM ad) s.heap H locs → ∀ (ls : Array Slot), lv_has ls 1 [(0, .ref (ad 0))] → W p l e (headSpec (ws_ yX4_every cX4_every 1 none) (rmX4_every rc)).room s m ([.ref (ad 0)] : List Value).toArray below meth c H locs 0 0 (MQ below (mQv D dA ad σz) ([.ref (ad 0)] : List Value).toArray s 0 0 (AM ad)) (F0 m 4 ls [])) (fun k3 hk3 σ2 hX H locs hH hS ls hl => ?_) H locs hH hS ls (lv_sub hl [0] rfl)
  refine lv_aload_n hx hb dX4_every_4 rfl (lv_at hl 0 rfl) ?_
  refine m_get (v := .int (σ2.1 7)) hx hb hts hown hK hH 7 (by decide) (hts _ q1297) rfl dX4_every_5 ?_
  refine jnu0 hX (∀ (H : Heap) (locs : List Loc), HM D dA ad σ2 H → va_S (AM ad) s.heap H locs → ∀ (ls : Array Slot), lv_has ls 1 [] → W p l e (headSpec (ws_ yX4_every cX4_every 1 none) (rmX4_every rc)).room s m ([.ref (ad 0)] : List Value).toArray below meth c H locs 0 0 (MQ below (mQv D dA ad σz) ([.ref (ad 0)] : List Value).toArray s 0 0 (AM ad)) (F0 m 43 ls [])) (fun  hX H locs hH hS ls hl => ?_) (fun k4 hk4 hX => ?_)
  · have e1 := rinv hX; subst e1
    exact W.vret hx hb hr (fun t ht hW => ⟨⟨(), rfl, trivial, hH.to ht⟩, hS.F ht⟩) hS.2.2 dX4_every_43
  · refine lv_if_ne (tgt := 43) hx hb dX4_every_8 (by decide) (fun hc => ?_) (fun hc => ?_)
    · replace hX := ineg hc hX; clear hc
      exact hk4  hX H locs hH hS ls (lv_sub hl [] rfl)
    · replace hX := ipos hc hX; clear hc
      refine lv_aload_n hx hb dX4_every_11 rfl (lv_at hl 0 rfl) ?_
      obtain ⟨x5, hf, hX⟩ := cl_inv hX
      refine m_callVi (As := []) ⟨hx, hb, hml, hown, hts⟩ (mX4_here l D dA ad hf) (cwV 0 hts (lw_V q1380 q1382 qs42 q95 q1383) rfl rfl rfl (by decide +kernel) ⟨(show 1 ≤ rc.frames + 2 by omega), (show 20 ≤ rc.locals + 44 by omega)⟩) hK hH hS rfl hl.1 rfl (Nat.le_of_ble_eq_true rfl) dX4_every_12 (fun H locs hH hS => ?_)
      clear hf
      refine lv_bipush (v := (38:Int32)) hx hb dX4_every_15 (by decide) ?_
      refine lv_icmp_ne (tgt := 43) hx hb dX4_every_17 (by decide) (fun hc => ?_) (fun hc => ?_)
      · replace hX := ineg hc hX; clear hc
        exact hk4  hX H locs hH hS ls (lv_sub hl [] rfl)
      · replace hX := ipos hc hX; clear hc
        refine lv_aload_n hx hb dX4_every_20 rfl (lv_at hl 0 rfl) ?_
        refine lv_dup hx hb dX4_every_21 rfl ?_
        refine m_get (v := .int (σ2.1 5)) hx hb hts hown hK hH 5 (by decide) (hts _ q1295) rfl dX4_every_22 ?_
        refine lv_iconst (v := (1:Int32)) hx hb dX4_every_25 (by decide) ?_
        refine lv_iadd hx hb dX4_every_26 ?_
        refine m_put (ty := .int) hx hb hts hown hK hH hS 5 (by decide) (hts _ q1295) rfl (tyX4_ok 5 (by decide)) rfl rfl rfl dX4_every_27 (fun σ6 eσ6 H locs hH hS => ?_)
        replace hX := bd_inv eσ6 hX; clear eσ6
        refine lv_aload_n hx hb dX4_every_30 rfl (lv_at hl 0 rfl) ?_
        obtain ⟨σ7, hf, hX⟩ := cl_inv hX
        refine m_callVv (As := []) ⟨hx, hb, hml, hown, hts⟩ (hkf hf) (cwV 0 hts (lw_V q1459 q1461 qs50 q95 q1462) rfl hrc.1 hrc.2 (by decide +kernel) ⟨(show rc.frames + 1 ≤ rc.frames + 2 by omega), (show 23 + rc.locals ≤ rc.locals + 44 by omega)⟩) hK hH hS rfl hl.1 rfl (Nat.le_of_ble_eq_true rfl) dX4_every_31 (fun H locs hH hS => ?_)
        clear hf
        refine lv_aload_n hx hb dX4_every_34 rfl (lv_at hl 0 rfl) ?_
        refine lv_bipush (v := (-2:Int32)) hx hb dX4_every_35 (by decide) ?_
        obtain ⟨σ8, hf, hX⟩ := cl_inv hX
        refine m_callVv (As := [.int (-2:Int32)]) ⟨hx, hb, hml, hown, hts⟩ (mX4_emits l D dA ad hf) (cwV 1 hts (lw_V q1463 q1465 qs51 q95 q1466) rfl rfl rfl (by decide +kernel) ⟨(show 1 ≤ rc.frames + 2 by omega), (show 21 ≤ rc.locals + 44 by omega)⟩) hK hH hS rfl hl.1 rfl (Nat.le_of_ble_eq_true rfl) dX4_every_37 (fun H locs hH hS => ?_)
        clear hf
        refine lv_goto (tgt := 4) hx hb dX4_every_40 (by decide) ?_
        exact hk3 σ8 hX H locs hH hS ls (lv_sub hl [0] rfl)

abbrev rmX4_some (rc : Room) : Room := { frames := rc.frames + 2, cells := 0, slots := 0, locals := rc.locals + 44 }
def fX4_some (ke : MS → Option MS)  (σ : MS) : Option MS :=
 cl (ke σ) (fun (σ1 : MS) =>
 lp (fun _ => none) (fun (k3 : MS → Option MS) (σ2 : MS) =>
 jn (some σ2) (fun (k4 : Option MS) =>
 if (σ2.1 7) = (0:Int32) then
 cl (fX4_here σ2) (fun (x5 : Int32) =>
 if x5 = (124:Int32) then
 bd (sf σ2 5 ((σ2.1 5) + (1:Int32))) (fun (σ6 : MS) =>
 cl (ke σ6) (fun (σ7 : MS) =>
 cl (fX4_emits (-3:Int32) σ7) (fun (σ8 : MS) =>
 k3 σ8)))
 else
 k4)
 else
 k4)) NF σ1)
set_option maxHeartbeats 4000000 in
set_option maxRecDepth 100000 in
theorem mX4_some (l : Launch) (D : va_G) (dA : Nat → ClassId) (ad : Nat → Nat) {rc : Room} (hrc : rc.cells = 0 ∧ rc.slots = 0) {ke : MS → Option MS} (hke : ∀ {σ1 : MS} {σ2 : MS}, ke σ1 = some σ2 → Met l yX4_every (ws_ yX4_every cX4_every 1 none) rc (mPc D dA ad σ1 []) (mQv D dA ad σ2) 0 0 (AM ad))  {σ : MS} {σz : MS} (hX : fX4_some ke σ = some σz) : Met l yX4_some (ws_ yX4_some cX4_some 1 none) (rmX4_some rc) (mPc D dA ad σ []) (mQv D dA ad σz) 0 0 (AM ad) := by
  refine Met.ofW (cc := cX4_some) (maxL := 1) (ret := none) (by decide) rfl ?_
  intro p e s m args below meth c s₁ B hml hv
  obtain ⟨rfl, hH, hK⟩ := hv
  have hx := B.exec
  have hb := B.bytes
  have hr := B.returns
  have hts := atoms_spec (ws := (ws_ yX4_some cX4_some 1 none)) B.pre
  have hts : ∀ w ∈ lw_all, w.before _ s = true := fun w h => hts w (List.mem_cons_of_mem _ h)
  have hown : s.vm.findClass RX4 = some m.cls := findClass_of_methodNamed B.named
  have hlocks := B.notSynchronized
  have hl := lv_entry ([.ref (ad 0)]) (n := 1) (Nat.le_of_ble_eq_true rfl)
  rw [lg_entry_eq]
  generalize (lg_sl ([.ref (ad 0)]) ++ List.replicate (1 - (lg_sl ([.ref (ad 0)])).length) Slot.unset).toArray = ls at hl ⊢
  have hl : lv_has ls 1 [(0, .ref (ad 0))] := hl
  unfold fX4_some at hX
  refine m_start hH (fun H locs hH hS => ?_)
  refine lv_aload_n hx hb dX4_some_0 rfl (lv_at hl 0 rfl) ?_
  obtain ⟨σ1, hf, hX⟩ := cl_inv hX
  refine m_callVv (As := []) ⟨hx, hb, hml, hown, hts⟩ (hke hf) (cwV 0 hts (lw_V q1455 q1457 qs49 q95 q1458) rfl hrc.1 hrc.2 (by decide +kernel) ⟨(show rc.frames + 1 ≤ rc.frames + 2 by omega), (show 20 + rc.locals ≤ rc.locals + 44 by omega)⟩) hK hH hS rfl hl.1 rfl (Nat.le_of_ble_eq_true rfl) dX4_some_1 (fun H locs hH hS => ?_)
  clear hf
  refine lpu1 hX (fun (σ2 : MS) => ∀ (H : Heap) (locs : List Loc), HM D dA ad σ2 H → va_S (AM ad) s.heap H locs → ∀ (ls : Array Slot), lv_has ls 1 [(0, .ref (ad 0))] → W p l e (headSpec (ws_ yX4_some cX4_some 1 none) (rmX4_some rc)).room s m ([.ref (ad 0)] : List Value).toArray below meth c H locs 0 0 (MQ below (mQv D dA ad σz) ([.ref (ad 0)] : List Value).toArray s 0 0 (AM ad)) (F0 m 4 ls [])) (fun k3 hk3 σ2 hX H locs hH hS ls hl => ?_) H locs hH hS ls (lv_sub hl [0] rfl)
  refine lv_aload_n hx hb dX4_some_4 rfl (lv_at hl 0 rfl) ?_
  refine m_get (v := .int (σ2.1 7)) hx hb hts hown hK hH 7 (by decide) (hts _ q1297) rfl dX4_some_5 ?_
  refine jnu0 hX (∀ (H : Heap) (locs : List Loc), HM D dA ad σ2 H → va_S (AM ad) s.heap H locs → ∀ (ls : Array Slot), lv_has ls 1 [] → W p l e (headSpec (ws_ yX4_some cX4_some 1 none) (rmX4_some rc)).room s m ([.ref (ad 0)] : List Value).toArray below meth c H locs 0 0 (MQ below (mQv D dA ad σz) ([.ref (ad 0)] : List Value).toArray s 0 0 (AM ad)) (F0 m 43 ls [])) (fun  hX H locs hH hS ls hl => ?_) (fun k4 hk4 hX => ?_)
  · have e1 := rinv hX; subst e1
    exact W.vret hx hb hr (fun t ht hW => ⟨⟨(), rfl, trivial, hH.to ht⟩, hS.F ht⟩) hS.2.2 dX4_some_43
  · refine lv_if_ne (tgt := 43) hx hb dX4_some_8 (by decide) (fun hc => ?_) (fun hc => ?_)
    · replace hX := ineg hc hX; clear hc
      exact hk4  hX H locs hH hS ls (lv_sub hl [] rfl)
    · replace hX := ipos hc hX; clear hc
      refine lv_aload_n hx hb dX4_some_11 rfl (lv_at hl 0 rfl) ?_
      obtain ⟨x5, hf, hX⟩ := cl_inv hX
      refine m_callVi (As := []) ⟨hx, hb, hml, hown, hts⟩ (mX4_here l D dA ad hf) (cwV 0 hts (lw_V q1380 q1382 qs42 q95 q1383) rfl rfl rfl (by decide +kernel) ⟨(show 1 ≤ rc.frames + 2 by omega), (show 20 ≤ rc.locals + 44 by omega)⟩) hK hH hS rfl hl.1 rfl (Nat.le_of_ble_eq_true rfl) dX4_some_12 (fun H locs hH hS => ?_)
      clear hf
      refine lv_bipush (v := (124:Int32)) hx hb dX4_some_15 (by decide) ?_
      refine lv_icmp_ne (tgt := 43) hx hb dX4_some_17 (by decide) (fun hc => ?_) (fun hc => ?_)
      · replace hX := ineg hc hX; clear hc
        exact hk4  hX H locs hH hS ls (lv_sub hl [] rfl)
      · replace hX := ipos hc hX; clear hc
        refine lv_aload_n hx hb dX4_some_20 rfl (lv_at hl 0 rfl) ?_
        refine lv_dup hx hb dX4_some_21 rfl ?_
        refine m_get (v := .int (σ2.1 5)) hx hb hts hown hK hH 5 (by decide) (hts _ q1295) rfl dX4_some_22 ?_
        refine lv_iconst (v := (1:Int32)) hx hb dX4_some_25 (by decide) ?_
        refine lv_iadd hx hb dX4_some_26 ?_
        refine m_put (ty := .int) hx hb hts hown hK hH hS 5 (by decide) (hts _ q1295) rfl (tyX4_ok 5 (by decide)) rfl rfl rfl dX4_some_27 (fun σ6 eσ6 H locs hH hS => ?_)
        replace hX := bd_inv eσ6 hX; clear eσ6
        refine lv_aload_n hx hb dX4_some_30 rfl (lv_at hl 0 rfl) ?_
        obtain ⟨σ7, hf, hX⟩ := cl_inv hX
        refine m_callVv (As := []) ⟨hx, hb, hml, hown, hts⟩ (hke hf) (cwV 0 hts (lw_V q1455 q1457 qs49 q95 q1458) rfl hrc.1 hrc.2 (by decide +kernel) ⟨(show rc.frames + 1 ≤ rc.frames + 2 by omega), (show 20 + rc.locals ≤ rc.locals + 44 by omega)⟩) hK hH hS rfl hl.1 rfl (Nat.le_of_ble_eq_true rfl) dX4_some_31 (fun H locs hH hS => ?_)
        clear hf
        refine lv_aload_n hx hb dX4_some_34 rfl (lv_at hl 0 rfl) ?_
        refine lv_bipush (v := (-3:Int32)) hx hb dX4_some_35 (by decide) ?_
        obtain ⟨σ8, hf, hX⟩ := cl_inv hX
        refine m_callVv (As := [.int (-3:Int32)]) ⟨hx, hb, hml, hown, hts⟩ (mX4_emits l D dA ad hf) (cwV 1 hts (lw_V q1463 q1465 qs51 q95 q1466) rfl rfl rfl (by decide +kernel) ⟨(show 1 ≤ rc.frames + 2 by omega), (show 21 ≤ rc.locals + 44 by omega)⟩) hK hH hS rfl hl.1 rfl (Nat.le_of_ble_eq_true rfl) dX4_some_37 (fun H locs hH hS => ?_)
        clear hf
        refine lv_goto (tgt := 4) hx hb dX4_some_40 (by decide) ?_
        exact hk3 σ8 hX H locs hH hS ls (lv_sub hl [0] rfl)

def gPar : Nat → Nat → MS → Option MS
  | 0, _ => fun _ => none
  | n + 1, i => match i with
    | 0 => fX4_factor (gPar n 0) (gPar n 2)
    | 1 => fX4_every (gPar n 0)
    | _ => fX4_some (gPar n 1)
def rgPar : Nat → Room
  | 0 => { frames := 0, cells := 0, slots := 0, locals := 0 }
  | n + 1 => { frames := (rgPar n).frames + 2, cells := 0, slots := 0, locals := (rgPar n).locals + 44 }
theorem rgPar_0 (n : Nat) : (rgPar n).cells = 0 ∧ (rgPar n).slots = 0 := by cases n <;> exact ⟨rfl, rfl⟩
theorem mgPar (l : Launch) (D : va_G) (dA : Nat → ClassId) (ad : Nat → Nat) : ∀ (n : Nat),
    (∀ {σ σz : MS}, gPar n 0 σ = some σz → Met l yX4_factor (ws_ yX4_factor cX4_factor 4 none) (rgPar n) (mPc D dA ad σ []) (mQv D dA ad σz) 0 0 (AM ad)) ∧
    (∀ {σ σz : MS}, gPar n 1 σ = some σz → Met l yX4_every (ws_ yX4_every cX4_every 1 none) (rgPar n) (mPc D dA ad σ []) (mQv D dA ad σz) 0 0 (AM ad)) ∧
    (∀ {σ σz : MS}, gPar n 2 σ = some σz → Met l yX4_some (ws_ yX4_some cX4_some 1 none) (rgPar n) (mPc D dA ad σ []) (mQv D dA ad σz) 0 0 (AM ad)) := by
  intro n
  induction n with
  | zero => exact ⟨fun h => (by cases h), fun h => (by cases h), fun h => (by cases h)⟩
  | succ n ih => exact ⟨fun h => mX4_factor l D dA ad (rgPar_0 n) (fun hf => ih.1 hf) (fun hf => ih.2.2 hf) h, fun h => mX4_every l D dA ad (rgPar_0 n) (fun hf => ih.1 hf) h, fun h => mX4_some l D dA ad (rgPar_0 n) (fun hf => ih.2.1 hf) h⟩
