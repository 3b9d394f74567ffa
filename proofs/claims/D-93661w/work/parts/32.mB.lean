/-! printed by gen/model.py -/
abbrev rmX4_ship : Room := { frames := 4, cells := 0, slots := 0, locals := 93 }
def fX4_ship (p1 : Int32) (p2 : Int32) (p3 : Int32) (σ : MS) : Option (Int32 × MS) :=
 cl (fX4_isPort p1 σ) (fun (x1 : Int32) =>
 jn (some ((-1:Int32), σ)) (fun (k2 : Option (Int32 × MS)) =>
 if x1 = (0:Int32) then
 k2
 else
 cl (fX4_in p2 (0:Int32) (3:Int32)) (fun (x3 : Int32) =>
 if x3 = (0:Int32) then
 k2
 else
 cl (fX4_in p3 (1:Int32) (20:Int32)) (fun (x4 : Int32) =>
 if x4 = (0:Int32) then
 some ((-2:Int32), σ)
 else
 if (σ.2.1 1 (1:Int32).toNatClampNeg) = (12:Int32) then
 some ((-4:Int32), σ)
 else
 bd (σ.2.1 1 (1:Int32).toNatClampNeg) (fun (x5 : Int32) =>
 gd (ib ((890:Int32) + x5) 1160) (
 bd (sa σ 1 ((890:Int32) + x5).toNatClampNeg p1) (fun (σ6 : MS) =>
 gd (ib ((902:Int32) + x5) 1160) (
 bd (sa σ6 1 ((902:Int32) + x5).toNatClampNeg p2) (fun (σ7 : MS) =>
 gd (ib ((914:Int32) + x5) 1160) (
 bd (sa σ7 1 ((914:Int32) + x5).toNatClampNeg p2) (fun (σ8 : MS) =>
 gd (ib ((926:Int32) + x5) 1160) (
 bd (sa σ8 1 ((926:Int32) + x5).toNatClampNeg p3) (fun (σ9 : MS) =>
 bd (sa σ9 1 (1:Int32).toNatClampNeg ((σ9.2.1 1 (1:Int32).toNatClampNeg) + (1:Int32))) (fun (σ10 : MS) =>
 cl (fX4_thinksAnew x5 (0:Int32) σ10) (fun (σ11 : MS) =>
 some (x5, σ11))))))))))))))))
set_option maxHeartbeats 4000000 in
set_option maxRecDepth 100000 in
theorem mX4_ship (l : Launch) (D : va_G) (dA : Nat → ClassId) (ad : Nat → Nat) {p1 : Int32} {p2 : Int32} {p3 : Int32} {σ : MS} {r : Int32} {σz : MS} (hX : fX4_ship p1 p2 p3 σ = some (r, σz)) : Met l yX4_ship (ws_ yX4_ship cX4_ship 5 (some .int)) (rmX4_ship) (mPc D dA ad σ [.int p1, .int p2, .int p3]) (mQi D dA ad r σz) 0 0 (AM ad) := by
  refine Met.ofW (cc := cX4_ship) (maxL := 5) (ret := (some .int)) (by decide) rfl ?_
  intro p e s m args below meth c s₁ B hml hv
  obtain ⟨rfl, hH, hK⟩ := hv
  have hx := B.exec
  have hb := B.bytes
  have hr := B.returns
  have hts := atoms_spec (ws := (ws_ yX4_ship cX4_ship 5 (some .int))) B.pre
  have hts : ∀ w ∈ lw_all, w.before _ s = true := fun w h => hts w (List.mem_cons_of_mem _ h)
  have hown : s.vm.findClass RX4 = some m.cls := findClass_of_methodNamed B.named
  have hlocks := B.notSynchronized
  have hl := lv_entry ([.ref (ad 0), .int p1, .int p2, .int p3]) (n := 5) (Nat.le_of_ble_eq_true rfl)
  rw [lg_entry_eq]
  generalize (lg_sl ([.ref (ad 0), .int p1, .int p2, .int p3]) ++ List.replicate (5 - (lg_sl ([.ref (ad 0), .int p1, .int p2, .int p3])).length) Slot.unset).toArray = ls at hl ⊢
  have hl : lv_has ls 5 [(0, .ref (ad 0)), (1, .int p1), (2, .int p2), (3, .int p3)] := hl
  unfold fX4_ship at hX
  refine m_start hH (fun H locs hH hS => ?_)
  refine lv_aload_n hx hb dX4_ship_0 rfl (lv_at hl 0 rfl) ?_
  refine lv_iload_n hx hb dX4_ship_1 rfl (lv_at hl 1 rfl) ?_
  obtain ⟨x1, hf, hX⟩ := cl_inv hX
  refine m_callVi (As := [.int p1]) ⟨hx, hb, hml, hown, hts⟩ (mX4_isPort l D dA ad hf) (cwV 1 hts (lw_V q1487 q1489 qs54 q95 q1490) rfl rfl rfl (by decide +kernel) ⟨Nat.le_of_ble_eq_true rfl, Nat.le_of_ble_eq_true rfl⟩) hK hH hS rfl hl.1 rfl (Nat.le_of_ble_eq_true rfl) dX4_ship_2 (fun H locs hH hS => ?_)
  clear hf
  refine jnu0 hX (∀ (H : Heap) (locs : List Loc), HM D dA ad σ H → va_S (AM ad) s.heap H locs → ∀ (ls : Array Slot), lv_has ls 5 [] → W p l e (headSpec (ws_ yX4_ship cX4_ship 5 (some .int)) (rmX4_ship)).room s m ([.ref (ad 0), .int p1, .int p2, .int p3] : List Value).toArray below meth c H locs 0 0 (MQ below (mQi D dA ad r σz) ([.ref (ad 0), .int p1, .int p2, .int p3] : List Value).toArray s 0 0 (AM ad)) (F0 m 17 ls [])) (fun  hX H locs hH hS ls hl => ?_) (fun k2 hk2 hX => ?_)
  · refine lv_iconst (v := (-1:Int32)) hx hb dX4_ship_17 (by decide) ?_
    obtain ⟨e1, e2⟩ := Prod.mk.inj (rinv hX); subst e1; subst e2
    exact W.iret hx hb hr (fun t ht hW => ⟨⟨_, (), rfl, rfl, hH.to ht⟩, hS.F ht⟩) hS.2.2 dX4_ship_18
  · refine lv_if_eq (tgt := 17) hx hb dX4_ship_5 (by decide) (fun hc => ?_) (fun hc => ?_)
    · replace hX := ipos hc hX; clear hc
      exact hk2  hX H locs hH hS ls (lv_sub hl [] rfl)
    · replace hX := ineg hc hX; clear hc
      refine lv_iload_n hx hb dX4_ship_8 rfl (lv_at hl 2 rfl) ?_
      refine lv_iconst (v := (0:Int32)) hx hb dX4_ship_9 (by decide) ?_
      refine lv_iconst (v := (3:Int32)) hx hb dX4_ship_10 (by decide) ?_
      obtain ⟨x3, hf, hX⟩ := cl_inv hX
      refine m_callSi (As := [.int p2, .int (0:Int32), .int (3:Int32)]) ⟨hx, hb, hml, hown, hts⟩ (mX4_in l hf) (va_cwS 3 hts (lw_S q1368 q1369 q95 q1370) rfl rfl rfl (by decide +kernel) ⟨Nat.le_of_ble_eq_true rfl, Nat.le_of_ble_eq_true rfl⟩) hH hS rfl hl.1 rfl (Nat.le_of_ble_eq_true rfl) dX4_ship_11 (fun H locs hH hS => ?_)
      clear hf
      refine lv_if_ne (tgt := 19) hx hb dX4_ship_14 (by decide) (fun hc => ?_) (fun hc => ?_)
      · replace hX := ineg hc hX; clear hc
        refine lv_iload_n hx hb dX4_ship_19 rfl (lv_at hl 3 rfl) ?_
        refine lv_iconst (v := (1:Int32)) hx hb dX4_ship_20 (by decide) ?_
        refine lv_bipush (v := (20:Int32)) hx hb dX4_ship_21 (by decide) ?_
        obtain ⟨x4, hf, hX⟩ := cl_inv hX
        refine m_callSi (As := [.int p3, .int (1:Int32), .int (20:Int32)]) ⟨hx, hb, hml, hown, hts⟩ (mX4_in l hf) (va_cwS 3 hts (lw_S q1368 q1369 q95 q1370) rfl rfl rfl (by decide +kernel) ⟨Nat.le_of_ble_eq_true rfl, Nat.le_of_ble_eq_true rfl⟩) hH hS rfl hl.1 rfl (Nat.le_of_ble_eq_true rfl) dX4_ship_23 (fun H locs hH hS => ?_)
        clear hf
        refine lv_if_ne (tgt := 32) hx hb dX4_ship_26 (by decide) (fun hc => ?_) (fun hc => ?_)
        · replace hX := ineg hc hX; clear hc
          refine lv_aload_n hx hb dX4_ship_32 rfl (lv_at hl 0 rfl) ?_
          refine m_get (v := .ref (ad 1)) hx hb hts hown hK hH 1 (by decide) (hts _ q1291) rfl dX4_ship_33 ?_
          refine lv_iconst (v := (1:Int32)) hx hb dX4_ship_36 (by decide) ?_
          refine m_iald hx hb hK hH 1 1 (n := 1160) rfl (by decide) dX4_ship_37 ?_
          refine lv_bipush (v := (12:Int32)) hx hb dX4_ship_38 (by decide) ?_
          refine lv_icmp_ne (tgt := 46) hx hb dX4_ship_40 (by decide) (fun hc => ?_) (fun hc => ?_)
          · replace hX := ineg hc hX; clear hc
            refine lv_aload_n hx hb dX4_ship_46 rfl (lv_at hl 0 rfl) ?_
            refine m_get (v := .ref (ad 1)) hx hb hts hown hK hH 1 (by decide) (hts _ q1291) rfl dX4_ship_47 ?_
            refine lv_iconst (v := (1:Int32)) hx hb dX4_ship_50 (by decide) ?_
            refine m_iald hx hb hK hH 1 1 (n := 1160) rfl (by decide) dX4_ship_51 ?_
            refine lv_topi (fun x5 ex5 => ?_)
            replace hX := bd_inv ex5 hX; clear ex5
            refine lv_istore (lv' := [(4, .int x5), (0, .ref (ad 0)), (1, .int p1), (2, .int p2), (3, .int p3)]) hx hb dX4_ship_52 hl (by decide) rfl (fun ls hl => ?_)
            refine lv_aload_n hx hb dX4_ship_54 rfl (lv_at hl 1 rfl) ?_
            refine m_get (v := .ref (ad 1)) hx hb hts hown hK hH 1 (by decide) (hts _ q1291) rfl dX4_ship_55 ?_
            refine lv_sipush (v := (890:Int32)) hx hb dX4_ship_58 (by decide) ?_
            refine lv_iload hx hb dX4_ship_61 (lv_at hl 0 rfl) ?_
            refine lv_iadd hx hb dX4_ship_63 ?_
            refine lv_iload_n hx hb dX4_ship_64 rfl (lv_at hl 2 rfl) ?_
            obtain ⟨hg, hX⟩ := gd_inv hX
            refine m_iast hx hb hK hH hS 1 1 (n := 1160) rfl hg rfl dX4_ship_65 (fun σ6 eσ6 H locs hH hS => ?_)
            replace hX := bd_inv eσ6 hX; clear eσ6
            refine lv_aload_n hx hb dX4_ship_66 rfl (lv_at hl 1 rfl) ?_
            refine m_get (v := .ref (ad 1)) hx hb hts hown hK hH 1 (by decide) (hts _ q1291) rfl dX4_ship_67 ?_
            refine lv_sipush (v := (902:Int32)) hx hb dX4_ship_70 (by decide) ?_
            refine lv_iload hx hb dX4_ship_73 (lv_at hl 0 rfl) ?_
            refine lv_iadd hx hb dX4_ship_75 ?_
            refine lv_iload_n hx hb dX4_ship_76 rfl (lv_at hl 3 rfl) ?_
            obtain ⟨hg, hX⟩ := gd_inv hX
            refine m_iast hx hb hK hH hS 1 1 (n := 1160) rfl hg rfl dX4_ship_77 (fun σ7 eσ7 H locs hH hS => ?_)
            replace hX := bd_inv eσ7 hX; clear eσ7
            refine lv_aload_n hx hb dX4_ship_78 rfl (lv_at hl 1 rfl) ?_
            refine m_get (v := .ref (ad 1)) hx hb hts hown hK hH 1 (by decide) (hts _ q1291) rfl dX4_ship_79 ?_
            refine lv_sipush (v := (914:Int32)) hx hb dX4_ship_82 (by decide) ?_
            refine lv_iload hx hb dX4_ship_85 (lv_at hl 0 rfl) ?_
            refine lv_iadd hx hb dX4_ship_87 ?_
            refine lv_iload_n hx hb dX4_ship_88 rfl (lv_at hl 3 rfl) ?_
            obtain ⟨hg, hX⟩ := gd_inv hX
            refine m_iast hx hb hK hH hS 1 1 (n := 1160) rfl hg rfl dX4_ship_89 (fun σ8 eσ8 H locs hH hS => ?_)
            replace hX := bd_inv eσ8 hX; clear eσ8
            refine lv_aload_n hx hb dX4_ship_90 rfl (lv_at hl 1 rfl) ?_
            refine m_get (v := .ref (ad 1)) hx hb hts hown hK hH 1 (by decide) (hts _ q1291) rfl dX4_ship_91 ?_
            refine lv_sipush (v := (926:Int32)) hx hb dX4_ship_94 (by decide) ?_
            refine lv_iload hx hb dX4_ship_97 (lv_at hl 0 rfl) ?_
            refine lv_iadd hx hb dX4_ship_99 ?_
            refine lv_iload_n hx hb dX4_ship_100 rfl (lv_at hl 4 rfl) ?_
            obtain ⟨hg, hX⟩ := gd_inv hX
            refine m_iast hx hb hK hH hS 1 1 (n := 1160) rfl hg rfl dX4_ship_101 (fun σ9 eσ9 H locs hH hS => ?_)
            replace hX := bd_inv eσ9 hX; clear eσ9
            refine lv_aload_n hx hb dX4_ship_102 rfl (lv_at hl 1 rfl) ?_
            refine m_get (v := .ref (ad 1)) hx hb hts hown hK hH 1 (by decide) (hts _ q1291) rfl dX4_ship_103 ?_
            refine lv_iconst (v := (1:Int32)) hx hb dX4_ship_106 (by decide) ?_
            refine lv_dup2_11 hx hb dX4_ship_107 rfl rfl ?_
            refine m_iald hx hb hK hH 1 1 (n := 1160) rfl (by decide) dX4_ship_108 ?_
            refine lv_iconst (v := (1:Int32)) hx hb dX4_ship_109 (by decide) ?_
            refine lv_iadd hx hb dX4_ship_110 ?_
            refine m_iast hx hb hK hH hS 1 1 (n := 1160) rfl (by decide) rfl dX4_ship_111 (fun σ10 eσ10 H locs hH hS => ?_)
            replace hX := bd_inv eσ10 hX; clear eσ10
            refine lv_aload_n hx hb dX4_ship_112 rfl (lv_at hl 1 rfl) ?_
            refine lv_iload hx hb dX4_ship_113 (lv_at hl 0 rfl) ?_
            refine lv_iconst (v := (0:Int32)) hx hb dX4_ship_115 (by decide) ?_
            obtain ⟨σ11, hf, hX⟩ := cl_inv hX
            refine m_callVv (As := [.int x5, .int (0:Int32)]) ⟨hx, hb, hml, hown, hts⟩ (mX4_thinksAnew l D dA ad hf) (cwV 2 hts (lw_V q1503 q1505 qs56 q95 q1506) rfl rfl rfl (by decide +kernel) ⟨Nat.le_of_ble_eq_true rfl, Nat.le_of_ble_eq_true rfl⟩) hK hH hS rfl hl.1 rfl (Nat.le_of_ble_eq_true rfl) dX4_ship_116 (fun H locs hH hS => ?_)
            clear hf
            refine lv_iload hx hb dX4_ship_119 (lv_at hl 0 rfl) ?_
            obtain ⟨e1, e2⟩ := Prod.mk.inj (rinv hX); subst e1; subst e2
            exact W.iret hx hb hr (fun t ht hW => ⟨⟨_, (), rfl, rfl, hH.to ht⟩, hS.F ht⟩) hS.2.2 dX4_ship_121
          · replace hX := ipos hc hX; clear hc
            refine lv_bipush (v := (-4:Int32)) hx hb dX4_ship_43 (by decide) ?_
            obtain ⟨e1, e2⟩ := Prod.mk.inj (rinv hX); subst e1; subst e2
            exact W.iret hx hb hr (fun t ht hW => ⟨⟨_, (), rfl, rfl, hH.to ht⟩, hS.F ht⟩) hS.2.2 dX4_ship_45
        · replace hX := ipos hc hX; clear hc
          refine lv_bipush (v := (-2:Int32)) hx hb dX4_ship_29 (by decide) ?_
          obtain ⟨e1, e2⟩ := Prod.mk.inj (rinv hX); subst e1; subst e2
          exact W.iret hx hb hr (fun t ht hW => ⟨⟨_, (), rfl, rfl, hH.to ht⟩, hS.F ht⟩) hS.2.2 dX4_ship_31
      · replace hX := ipos hc hX; clear hc
        exact hk2  hX H locs hH hS ls (lv_sub hl [] rfl)

abbrev rmX4_says : Room := { frames := 4, cells := 0, slots := 0, locals := 93 }
def fX4_says (p1 : Int32) (p2 : Int32) (σ : MS) : Option (Int32 × MS) :=
 cl (fX4_isShip p1 σ) (fun (x1 : Int32) =>
 jn (some ((-1:Int32), σ)) (fun (k2 : Option (Int32 × MS)) =>
 if x1 = (0:Int32) then
 k2
 else
 cl (fX4_in p2 (0:Int32) (3:Int32)) (fun (x3 : Int32) =>
 if x3 = (0:Int32) then
 k2
 else
 gd (ib ((914:Int32) + p1) 1160) (
 bd (σ.2.1 1 ((914:Int32) + p1).toNatClampNeg) (fun (x4 : Int32) =>
 gd (ib ((914:Int32) + p1) 1160) (
 bd (sa σ 1 ((914:Int32) + p1).toNatClampNeg p2) (fun (σ5 : MS) =>
 cl (fX4_thinksAnew p1 (0:Int32) σ5) (fun (σ6 : MS) =>
 some (x4, σ6)))))))))
set_option maxHeartbeats 4000000 in
set_option maxRecDepth 100000 in
theorem mX4_says (l : Launch) (D : va_G) (dA : Nat → ClassId) (ad : Nat → Nat) {p1 : Int32} {p2 : Int32} {σ : MS} {r : Int32} {σz : MS} (hX : fX4_says p1 p2 σ = some (r, σz)) : Met l yX4_says (ws_ yX4_says cX4_says 4 (some .int)) (rmX4_says) (mPc D dA ad σ [.int p1, .int p2]) (mQi D dA ad r σz) 0 0 (AM ad) := by
  refine Met.ofW (cc := cX4_says) (maxL := 4) (ret := (some .int)) (by decide) rfl ?_
  intro p e s m args below meth c s₁ B hml hv
  obtain ⟨rfl, hH, hK⟩ := hv
  have hx := B.exec
  have hb := B.bytes
  have hr := B.returns
  have hts := atoms_spec (ws := (ws_ yX4_says cX4_says 4 (some .int))) B.pre
  have hts : ∀ w ∈ lw_all, w.before _ s = true := fun w h => hts w (List.mem_cons_of_mem _ h)
  have hown : s.vm.findClass RX4 = some m.cls := findClass_of_methodNamed B.named
  have hlocks := B.notSynchronized
  have hl := lv_entry ([.ref (ad 0), .int p1, .int p2]) (n := 4) (Nat.le_of_ble_eq_true rfl)
  rw [lg_entry_eq]
  generalize (lg_sl ([.ref (ad 0), .int p1, .int p2]) ++ List.replicate (4 - (lg_sl ([.ref (ad 0), .int p1, .int p2])).length) Slot.unset).toArray = ls at hl ⊢
  have hl : lv_has ls 4 [(0, .ref (ad 0)), (1, .int p1), (2, .int p2)] := hl
  unfold fX4_says at hX
  refine m_start hH (fun H locs hH hS => ?_)
  refine lv_aload_n hx hb dX4_says_0 rfl (lv_at hl 0 rfl) ?_
  refine lv_iload_n hx hb dX4_says_1 rfl (lv_at hl 1 rfl) ?_
  obtain ⟨x1, hf, hX⟩ := cl_inv hX
  refine m_callVi (As := [.int p1]) ⟨hx, hb, hml, hown, hts⟩ (mX4_isShip l D dA ad hf) (cwV 1 hts (lw_V q1532 q1534 qs61 q95 q1535) rfl rfl rfl (by decide +kernel) ⟨Nat.le_of_ble_eq_true rfl, Nat.le_of_ble_eq_true rfl⟩) hK hH hS rfl hl.1 rfl (Nat.le_of_ble_eq_true rfl) dX4_says_2 (fun H locs hH hS => ?_)
  clear hf
  refine jnu0 hX (∀ (H : Heap) (locs : List Loc), HM D dA ad σ H → va_S (AM ad) s.heap H locs → ∀ (ls : Array Slot), lv_has ls 4 [] → W p l e (headSpec (ws_ yX4_says cX4_says 4 (some .int)) (rmX4_says)).room s m ([.ref (ad 0), .int p1, .int p2] : List Value).toArray below meth c H locs 0 0 (MQ below (mQi D dA ad r σz) ([.ref (ad 0), .int p1, .int p2] : List Value).toArray s 0 0 (AM ad)) (F0 m 17 ls [])) (fun  hX H locs hH hS ls hl => ?_) (fun k2 hk2 hX => ?_)
  · refine lv_iconst (v := (-1:Int32)) hx hb dX4_says_17 (by decide) ?_
    obtain ⟨e1, e2⟩ := Prod.mk.inj (rinv hX); subst e1; subst e2
    exact W.iret hx hb hr (fun t ht hW => ⟨⟨_, (), rfl, rfl, hH.to ht⟩, hS.F ht⟩) hS.2.2 dX4_says_18
  · refine lv_if_eq (tgt := 17) hx hb dX4_says_5 (by decide) (fun hc => ?_) (fun hc => ?_)
    · replace hX := ipos hc hX; clear hc
      exact hk2  hX H locs hH hS ls (lv_sub hl [] rfl)
    · replace hX := ineg hc hX; clear hc
      refine lv_iload_n hx hb dX4_says_8 rfl (lv_at hl 2 rfl) ?_
      refine lv_iconst (v := (0:Int32)) hx hb dX4_says_9 (by decide) ?_
      refine lv_iconst (v := (3:Int32)) hx hb dX4_says_10 (by decide) ?_
      obtain ⟨x3, hf, hX⟩ := cl_inv hX
      refine m_callSi (As := [.int p2, .int (0:Int32), .int (3:Int32)]) ⟨hx, hb, hml, hown, hts⟩ (mX4_in l hf) (va_cwS 3 hts (lw_S q1368 q1369 q95 q1370) rfl rfl rfl (by decide +kernel) ⟨Nat.le_of_ble_eq_true rfl, Nat.le_of_ble_eq_true rfl⟩) hH hS rfl hl.1 rfl (Nat.le_of_ble_eq_true rfl) dX4_says_11 (fun H locs hH hS => ?_)
      clear hf
      refine lv_if_ne (tgt := 19) hx hb dX4_says_14 (by decide) (fun hc => ?_) (fun hc => ?_)
      · replace hX := ineg hc hX; clear hc
        refine lv_aload_n hx hb dX4_says_19 rfl (lv_at hl 0 rfl) ?_
        refine m_get (v := .ref (ad 1)) hx hb hts hown hK hH 1 (by decide) (hts _ q1291) rfl dX4_says_20 ?_
        refine lv_sipush (v := (914:Int32)) hx hb dX4_says_23 (by decide) ?_
        refine lv_iload_n hx hb dX4_says_26 rfl (lv_at hl 1 rfl) ?_
        refine lv_iadd hx hb dX4_says_27 ?_
        obtain ⟨hg, hX⟩ := gd_inv hX
        refine m_iald hx hb hK hH 1 1 (n := 1160) rfl hg dX4_says_28 ?_
        refine lv_topi (fun x4 ex4 => ?_)
        replace hX := bd_inv ex4 hX; clear ex4
        refine lv_istore_n (lv' := [(3, .int x4), (0, .ref (ad 0)), (1, .int p1), (2, .int p2)]) hx hb dX4_says_29 rfl hl (by decide) rfl (fun ls hl => ?_)
        refine lv_aload_n hx hb dX4_says_30 rfl (lv_at hl 1 rfl) ?_
        refine m_get (v := .ref (ad 1)) hx hb hts hown hK hH 1 (by decide) (hts _ q1291) rfl dX4_says_31 ?_
        refine lv_sipush (v := (914:Int32)) hx hb dX4_says_34 (by decide) ?_
        refine lv_iload_n hx hb dX4_says_37 rfl (lv_at hl 2 rfl) ?_
        refine lv_iadd hx hb dX4_says_38 ?_
        refine lv_iload_n hx hb dX4_says_39 rfl (lv_at hl 3 rfl) ?_
        obtain ⟨hg, hX⟩ := gd_inv hX
        refine m_iast hx hb hK hH hS 1 1 (n := 1160) rfl hg rfl dX4_says_40 (fun σ5 eσ5 H locs hH hS => ?_)
        replace hX := bd_inv eσ5 hX; clear eσ5
        refine lv_aload_n hx hb dX4_says_41 rfl (lv_at hl 1 rfl) ?_
        refine lv_iload_n hx hb dX4_says_42 rfl (lv_at hl 2 rfl) ?_
        refine lv_iconst (v := (0:Int32)) hx hb dX4_says_43 (by decide) ?_
        obtain ⟨σ6, hf, hX⟩ := cl_inv hX
        refine m_callVv (As := [.int p1, .int (0:Int32)]) ⟨hx, hb, hml, hown, hts⟩ (mX4_thinksAnew l D dA ad hf) (cwV 2 hts (lw_V q1503 q1505 qs56 q95 q1506) rfl rfl rfl (by decide +kernel) ⟨Nat.le_of_ble_eq_true rfl, Nat.le_of_ble_eq_true rfl⟩) hK hH hS rfl hl.1 rfl (Nat.le_of_ble_eq_true rfl) dX4_says_44 (fun H locs hH hS => ?_)
        clear hf
        refine lv_iload_n hx hb dX4_says_47 rfl (lv_at hl 0 rfl) ?_
        obtain ⟨e1, e2⟩ := Prod.mk.inj (rinv hX); subst e1; subst e2
        exact W.iret hx hb hr (fun t ht hW => ⟨⟨_, (), rfl, rfl, hH.to ht⟩, hS.F ht⟩) hS.2.2 dX4_says_48
      · replace hX := ipos hc hX; clear hc
        exact hk2  hX H locs hH hS ls (lv_sub hl [] rfl)

abbrev rmX4_late : Room := { frames := 4, cells := 0, slots := 0, locals := 93 }
def fX4_late (p1 : Int32) (p2 : Int32) (σ : MS) : Option (Int32 × MS) :=
 cl (fX4_isShip p1 σ) (fun (x1 : Int32) =>
 if x1 = (0:Int32) then
 some ((-1:Int32), σ)
 else
 cl (fX4_in p2 (0:Int32) (99:Int32)) (fun (x2 : Int32) =>
 if x2 = (0:Int32) then
 some ((-2:Int32), σ)
 else
 cl (fX4_thinksAnew p1 ((10:Int32) * p2) σ) (fun (σ3 : MS) =>
 some (((σ3.2.1 10 (1:Int32).toNatClampNeg) + (σ3.2.1 10 (2:Int32).toNatClampNeg)) + (σ3.2.1 10 (3:Int32).toNatClampNeg), σ3))))
set_option maxHeartbeats 4000000 in
set_option maxRecDepth 100000 in
theorem mX4_late (l : Launch) (D : va_G) (dA : Nat → ClassId) (ad : Nat → Nat) {p1 : Int32} {p2 : Int32} {σ : MS} {r : Int32} {σz : MS} (hX : fX4_late p1 p2 σ = some (r, σz)) : Met l yX4_late (ws_ yX4_late cX4_late 3 (some .int)) (rmX4_late) (mPc D dA ad σ [.int p1, .int p2]) (mQi D dA ad r σz) 0 0 (AM ad) := by
  refine Met.ofW (cc := cX4_late) (maxL := 3) (ret := (some .int)) (by decide) rfl ?_
  intro p e s m args below meth c s₁ B hml hv
  obtain ⟨rfl, hH, hK⟩ := hv
  have hx := B.exec
  have hb := B.bytes
  have hr := B.returns
  have hts := atoms_spec (ws := (ws_ yX4_late cX4_late 3 (some .int))) B.pre
  have hts : ∀ w ∈ lw_all, w.before _ s = true := fun w h => hts w (List.mem_cons_of_mem _ h)
  have hown : s.vm.findClass RX4 = some m.cls := findClass_of_methodNamed B.named
  have hlocks := B.notSynchronized
  have hl := lv_entry ([.ref (ad 0), .int p1, .int p2]) (n := 3) (Nat.le_of_ble_eq_true rfl)
  rw [lg_entry_eq]
  generalize (lg_sl ([.ref (ad 0), .int p1, .int p2]) ++ List.replicate (3 - (lg_sl ([.ref (ad 0), .int p1, .int p2])).length) Slot.unset).toArray = ls at hl ⊢
  have hl : lv_has ls 3 [(0, .ref (ad 0)), (1, .int p1), (2, .int p2)] := hl
  unfold fX4_late at hX
  refine m_start hH (fun H locs hH hS => ?_)
  refine lv_aload_n hx hb dX4_late_0 rfl (lv_at hl 0 rfl) ?_
  refine lv_iload_n hx hb dX4_late_1 rfl (lv_at hl 1 rfl) ?_
  obtain ⟨x1, hf, hX⟩ := cl_inv hX
  refine m_callVi (As := [.int p1]) ⟨hx, hb, hml, hown, hts⟩ (mX4_isShip l D dA ad hf) (cwV 1 hts (lw_V q1532 q1534 qs61 q95 q1535) rfl rfl rfl (by decide +kernel) ⟨Nat.le_of_ble_eq_true rfl, Nat.le_of_ble_eq_true rfl⟩) hK hH hS rfl hl.1 rfl (Nat.le_of_ble_eq_true rfl) dX4_late_2 (fun H locs hH hS => ?_)
  clear hf
  refine lv_if_ne (tgt := 10) hx hb dX4_late_5 (by decide) (fun hc => ?_) (fun hc => ?_)
  · replace hX := ineg hc hX; clear hc
    refine lv_iload_n hx hb dX4_late_10 rfl (lv_at hl 2 rfl) ?_
    refine lv_iconst (v := (0:Int32)) hx hb dX4_late_11 (by decide) ?_
    refine lv_bipush (v := (99:Int32)) hx hb dX4_late_12 (by decide) ?_
    obtain ⟨x2, hf, hX⟩ := cl_inv hX
    refine m_callSi (As := [.int p2, .int (0:Int32), .int (99:Int32)]) ⟨hx, hb, hml, hown, hts⟩ (mX4_in l hf) (va_cwS 3 hts (lw_S q1368 q1369 q95 q1370) rfl rfl rfl (by decide +kernel) ⟨Nat.le_of_ble_eq_true rfl, Nat.le_of_ble_eq_true rfl⟩) hH hS rfl hl.1 rfl (Nat.le_of_ble_eq_true rfl) dX4_late_14 (fun H locs hH hS => ?_)
    clear hf
    refine lv_if_ne (tgt := 23) hx hb dX4_late_17 (by decide) (fun hc => ?_) (fun hc => ?_)
    · replace hX := ineg hc hX; clear hc
      refine lv_aload_n hx hb dX4_late_23 rfl (lv_at hl 0 rfl) ?_
      refine lv_iload_n hx hb dX4_late_24 rfl (lv_at hl 1 rfl) ?_
      refine lv_bipush (v := (10:Int32)) hx hb dX4_late_25 (by decide) ?_
      refine lv_iload_n hx hb dX4_late_27 rfl (lv_at hl 2 rfl) ?_
      refine lv_imul hx hb dX4_late_28 ?_
      obtain ⟨σ3, hf, hX⟩ := cl_inv hX
      refine m_callVv (As := [.int p1, .int ((10:Int32) * p2)]) ⟨hx, hb, hml, hown, hts⟩ (mX4_thinksAnew l D dA ad hf) (cwV 2 hts (lw_V q1503 q1505 qs56 q95 q1506) rfl rfl rfl (by decide +kernel) ⟨Nat.le_of_ble_eq_true rfl, Nat.le_of_ble_eq_true rfl⟩) hK hH hS rfl hl.1 rfl (Nat.le_of_ble_eq_true rfl) dX4_late_29 (fun H locs hH hS => ?_)
      clear hf
      refine lv_aload_n hx hb dX4_late_32 rfl (lv_at hl 0 rfl) ?_
      refine m_get (v := .ref (ad 10)) hx hb hts hown hK hH 10 (by decide) (hts _ q1300) rfl dX4_late_33 ?_
      refine lv_iconst (v := (1:Int32)) hx hb dX4_late_36 (by decide) ?_
      refine m_iald hx hb hK hH 4 10 (n := 8) rfl (by decide) dX4_late_37 ?_
      refine lv_aload_n hx hb dX4_late_38 rfl (lv_at hl 0 rfl) ?_
      refine m_get (v := .ref (ad 10)) hx hb hts hown hK hH 10 (by decide) (hts _ q1300) rfl dX4_late_39 ?_
      refine lv_iconst (v := (2:Int32)) hx hb dX4_late_42 (by decide) ?_
      refine m_iald hx hb hK hH 4 10 (n := 8) rfl (by decide) dX4_late_43 ?_
      refine lv_iadd hx hb dX4_late_44 ?_
      refine lv_aload_n hx hb dX4_late_45 rfl (lv_at hl 0 rfl) ?_
      refine m_get (v := .ref (ad 10)) hx hb hts hown hK hH 10 (by decide) (hts _ q1300) rfl dX4_late_46 ?_
      refine lv_iconst (v := (3:Int32)) hx hb dX4_late_49 (by decide) ?_
      refine m_iald hx hb hK hH 4 10 (n := 8) rfl (by decide) dX4_late_50 ?_
      refine lv_iadd hx hb dX4_late_51 ?_
      obtain ⟨e1, e2⟩ := Prod.mk.inj (rinv hX); subst e1; subst e2
      exact W.iret hx hb hr (fun t ht hW => ⟨⟨_, (), rfl, rfl, hH.to ht⟩, hS.F ht⟩) hS.2.2 dX4_late_52
    · replace hX := ipos hc hX; clear hc
      refine lv_bipush (v := (-2:Int32)) hx hb dX4_late_20 (by decide) ?_
      obtain ⟨e1, e2⟩ := Prod.mk.inj (rinv hX); subst e1; subst e2
      exact W.iret hx hb hr (fun t ht hW => ⟨⟨_, (), rfl, rfl, hH.to ht⟩, hS.F ht⟩) hS.2.2 dX4_late_22
  · replace hX := ipos hc hX; clear hc
    refine lv_iconst (v := (-1:Int32)) hx hb dX4_late_8 (by decide) ?_
    obtain ⟨e1, e2⟩ := Prod.mk.inj (rinv hX); subst e1; subst e2
    exact W.iret hx hb hr (fun t ht hW => ⟨⟨_, (), rfl, rfl, hH.to ht⟩, hS.F ht⟩) hS.2.2 dX4_late_9

abbrev rmX4_of : Room := { frames := 2, cells := 0, slots := 0, locals := 43 }
def fX4_of (p1 : Int32) (p2 : Int32) (σ : MS) : Option (Int32) :=
 cl (fX4_isShip p1 σ) (fun (x1 : Int32) =>
 if x1 = (0:Int32) then
 some (-1:Int32)
 else
 if p2 = (4:Int32) then
 gd (ib ((890:Int32) + p1) 1160) (
 some (σ.2.1 1 ((890:Int32) + p1).toNatClampNeg))
 else
 if p2 = (5:Int32) then
 gd (ib ((902:Int32) + p1) 1160) (
 some (σ.2.1 1 ((902:Int32) + p1).toNatClampNeg))
 else
 if p2 = (6:Int32) then
 gd (ib ((914:Int32) + p1) 1160) (
 some (σ.2.1 1 ((914:Int32) + p1).toNatClampNeg))
 else
 if p2 = (7:Int32) then
 gd (ib ((926:Int32) + p1) 1160) (
 some (σ.2.1 1 ((926:Int32) + p1).toNatClampNeg))
 else
 if p2 = (8:Int32) then
 gd (ib ((938:Int32) + p1) 1160) (
 some (σ.2.1 1 ((938:Int32) + p1).toNatClampNeg))
 else
 cl (fX4_in p2 (0:Int32) (3:Int32)) (fun (x2 : Int32) =>
 jn (fun (x3 : Int32) => some x3) (fun (k4 : Int32 → Option (Int32)) =>
 if x2 = (0:Int32) then
 k4 (-1:Int32)
 else
 gd (ib (((950:Int32) + ((4:Int32) * p1)) + p2) 1160) (
 k4 (σ.2.1 1 (((950:Int32) + ((4:Int32) * p1)) + p2).toNatClampNeg)))))
set_option maxHeartbeats 4000000 in
set_option maxRecDepth 100000 in
theorem mX4_of (l : Launch) (D : va_G) (dA : Nat → ClassId) (ad : Nat → Nat) {p1 : Int32} {p2 : Int32} {σ : MS} {r : Int32} (hX : fX4_of p1 p2 σ = some r) : Met l yX4_of (ws_ yX4_of cX4_of 3 (some .int)) (rmX4_of) (mPc D dA ad σ [.int p1, .int p2]) (mQi D dA ad r σ) 0 0 (AM ad) := by
  refine Met.ofW (cc := cX4_of) (maxL := 3) (ret := (some .int)) (by decide) rfl ?_
  intro p e s m args below meth c s₁ B hml hv
  obtain ⟨rfl, hH, hK⟩ := hv
  have hx := B.exec
  have hb := B.bytes
  have hr := B.returns
  have hts := atoms_spec (ws := (ws_ yX4_of cX4_of 3 (some .int))) B.pre
  have hts : ∀ w ∈ lw_all, w.before _ s = true := fun w h => hts w (List.mem_cons_of_mem _ h)
  have hown : s.vm.findClass RX4 = some m.cls := findClass_of_methodNamed B.named
  have hlocks := B.notSynchronized
  have hl := lv_entry ([.ref (ad 0), .int p1, .int p2]) (n := 3) (Nat.le_of_ble_eq_true rfl)
  rw [lg_entry_eq]
  generalize (lg_sl ([.ref (ad 0), .int p1, .int p2]) ++ List.replicate (3 - (lg_sl ([.ref (ad 0), .int p1, .int p2])).length) Slot.unset).toArray = ls at hl ⊢
  have hl : lv_has ls 3 [(0, .ref (ad 0)), (1, .int p1), (2, .int p2)] := hl
  unfold fX4_of at hX
  refine m_start hH (fun H locs hH hS => ?_)
  refine lv_aload_n hx hb dX4_of_0 rfl (lv_at hl 0 rfl) ?_
  refine lv_iload_n hx hb dX4_of_1 rfl (lv_at hl 1 rfl) ?_
  obtain ⟨x1, hf, hX⟩ := cl_inv hX
  refine m_callVi (As := [.int p1]) ⟨hx, hb, hml, hown, hts⟩ (mX4_isShip l D dA ad hf) (cwV 1 hts (lw_V q1532 q1534 qs61 q95 q1535) rfl rfl rfl (by decide +kernel) ⟨Nat.le_of_ble_eq_true rfl, Nat.le_of_ble_eq_true rfl⟩) hK hH hS rfl hl.1 rfl (Nat.le_of_ble_eq_true rfl) dX4_of_2 (fun H locs hH hS => ?_)
  clear hf
  refine lv_if_ne (tgt := 10) hx hb dX4_of_5 (by decide) (fun hc => ?_) (fun hc => ?_)
  · replace hX := ineg hc hX; clear hc
    refine lv_iload_n hx hb dX4_of_10 rfl (lv_at hl 2 rfl) ?_
    by_cases hc0 : p2 = (4:Int32)
    · replace hX := ipos hc0 hX
      refine lv_tableIn (off := 33) (tgt := 44) hx hb dX4_of_11 (by rw [hc0]; decide) (by rw [hc0]; decide) (by rw [hc0]; decide) (by decide) ?_
      refine lv_aload_n hx hb dX4_of_44 rfl (lv_at hl 0 rfl) ?_
      refine m_get (v := .ref (ad 1)) hx hb hts hown hK hH 1 (by decide) (hts _ q1291) rfl dX4_of_45 ?_
      refine lv_sipush (v := (890:Int32)) hx hb dX4_of_48 (by decide) ?_
      refine lv_iload_n hx hb dX4_of_51 rfl (lv_at hl 1 rfl) ?_
      refine lv_iadd hx hb dX4_of_52 ?_
      obtain ⟨hg, hX⟩ := gd_inv hX
      refine m_iald hx hb hK hH 1 1 (n := 1160) rfl hg dX4_of_53 ?_
      have e1 := rinv hX; subst e1
      exact W.iret hx hb hr (fun t ht hW => ⟨⟨_, (), rfl, rfl, hH.to ht⟩, hS.F ht⟩) hS.2.2 dX4_of_54
    · replace hX := ineg hc0 hX
      by_cases hc1 : p2 = (5:Int32)
      · replace hX := ipos hc1 hX
        refine lv_tableIn (off := 44) (tgt := 55) hx hb dX4_of_11 (by rw [hc1]; decide) (by rw [hc1]; decide) (by rw [hc1]; decide) (by decide) ?_
        refine lv_aload_n hx hb dX4_of_55 rfl (lv_at hl 0 rfl) ?_
        refine m_get (v := .ref (ad 1)) hx hb hts hown hK hH 1 (by decide) (hts _ q1291) rfl dX4_of_56 ?_
        refine lv_sipush (v := (902:Int32)) hx hb dX4_of_59 (by decide) ?_
        refine lv_iload_n hx hb dX4_of_62 rfl (lv_at hl 1 rfl) ?_
        refine lv_iadd hx hb dX4_of_63 ?_
        obtain ⟨hg, hX⟩ := gd_inv hX
        refine m_iald hx hb hK hH 1 1 (n := 1160) rfl hg dX4_of_64 ?_
        have e1 := rinv hX; subst e1
        exact W.iret hx hb hr (fun t ht hW => ⟨⟨_, (), rfl, rfl, hH.to ht⟩, hS.F ht⟩) hS.2.2 dX4_of_65
      · replace hX := ineg hc1 hX
        by_cases hc2 : p2 = (6:Int32)
        · replace hX := ipos hc2 hX
          refine lv_tableIn (off := 55) (tgt := 66) hx hb dX4_of_11 (by rw [hc2]; decide) (by rw [hc2]; decide) (by rw [hc2]; decide) (by decide) ?_
          refine lv_aload_n hx hb dX4_of_66 rfl (lv_at hl 0 rfl) ?_
          refine m_get (v := .ref (ad 1)) hx hb hts hown hK hH 1 (by decide) (hts _ q1291) rfl dX4_of_67 ?_
          refine lv_sipush (v := (914:Int32)) hx hb dX4_of_70 (by decide) ?_
          refine lv_iload_n hx hb dX4_of_73 rfl (lv_at hl 1 rfl) ?_
          refine lv_iadd hx hb dX4_of_74 ?_
          obtain ⟨hg, hX⟩ := gd_inv hX
          refine m_iald hx hb hK hH 1 1 (n := 1160) rfl hg dX4_of_75 ?_
          have e1 := rinv hX; subst e1
          exact W.iret hx hb hr (fun t ht hW => ⟨⟨_, (), rfl, rfl, hH.to ht⟩, hS.F ht⟩) hS.2.2 dX4_of_76
        · replace hX := ineg hc2 hX
          by_cases hc3 : p2 = (7:Int32)
          · replace hX := ipos hc3 hX
            refine lv_tableIn (off := 66) (tgt := 77) hx hb dX4_of_11 (by rw [hc3]; decide) (by rw [hc3]; decide) (by rw [hc3]; decide) (by decide) ?_
            refine lv_aload_n hx hb dX4_of_77 rfl (lv_at hl 0 rfl) ?_
            refine m_get (v := .ref (ad 1)) hx hb hts hown hK hH 1 (by decide) (hts _ q1291) rfl dX4_of_78 ?_
            refine lv_sipush (v := (926:Int32)) hx hb dX4_of_81 (by decide) ?_
            refine lv_iload_n hx hb dX4_of_84 rfl (lv_at hl 1 rfl) ?_
            refine lv_iadd hx hb dX4_of_85 ?_
            obtain ⟨hg, hX⟩ := gd_inv hX
            refine m_iald hx hb hK hH 1 1 (n := 1160) rfl hg dX4_of_86 ?_
            have e1 := rinv hX; subst e1
            exact W.iret hx hb hr (fun t ht hW => ⟨⟨_, (), rfl, rfl, hH.to ht⟩, hS.F ht⟩) hS.2.2 dX4_of_87
          · replace hX := ineg hc3 hX
            by_cases hc4 : p2 = (8:Int32)
            · replace hX := ipos hc4 hX
              refine lv_tableIn (off := 77) (tgt := 88) hx hb dX4_of_11 (by rw [hc4]; decide) (by rw [hc4]; decide) (by rw [hc4]; decide) (by decide) ?_
              refine lv_aload_n hx hb dX4_of_88 rfl (lv_at hl 0 rfl) ?_
              refine m_get (v := .ref (ad 1)) hx hb hts hown hK hH 1 (by decide) (hts _ q1291) rfl dX4_of_89 ?_
              refine lv_sipush (v := (938:Int32)) hx hb dX4_of_92 (by decide) ?_
              refine lv_iload_n hx hb dX4_of_95 rfl (lv_at hl 1 rfl) ?_
              refine lv_iadd hx hb dX4_of_96 ?_
              obtain ⟨hg, hX⟩ := gd_inv hX
              refine m_iald hx hb hK hH 1 1 (n := 1160) rfl hg dX4_of_97 ?_
              have e1 := rinv hX; subst e1
              exact W.iret hx hb hr (fun t ht hW => ⟨⟨_, (), rfl, rfl, hH.to ht⟩, hS.F ht⟩) hS.2.2 dX4_of_98
            · replace hX := ineg hc4 hX
              refine lv_tableOut (tgt := 99) hx hb dX4_of_11 (tb_out (fun v h1 h2 => ?_)) (by decide) ?_
              · have hv : v = 4 ∨ v = 5 ∨ v = 6 ∨ v = 7 ∨ v = 8 := by omega
                rcases hv with rfl | rfl | rfl | rfl | rfl
                · exact lv_neT hc0 (by decide)
                · exact lv_neT hc1 (by decide)
                · exact lv_neT hc2 (by decide)
                · exact lv_neT hc3 (by decide)
                · exact lv_neT hc4 (by decide)
              · refine lv_iload_n hx hb dX4_of_99 rfl (lv_at hl 2 rfl) ?_
                refine lv_iconst (v := (0:Int32)) hx hb dX4_of_100 (by decide) ?_
                refine lv_iconst (v := (3:Int32)) hx hb dX4_of_101 (by decide) ?_
                obtain ⟨x2, hf, hX⟩ := cl_inv hX
                refine m_callSi (As := [.int p2, .int (0:Int32), .int (3:Int32)]) ⟨hx, hb, hml, hown, hts⟩ (mX4_in l hf) (va_cwS 3 hts (lw_S q1368 q1369 q95 q1370) rfl rfl rfl (by decide +kernel) ⟨Nat.le_of_ble_eq_true rfl, Nat.le_of_ble_eq_true rfl⟩) hH hS rfl hl.1 rfl (Nat.le_of_ble_eq_true rfl) dX4_of_102 (fun H locs hH hS => ?_)
                clear hf
                refine jnu1 hX (fun (x3 : Int32) => ∀ (H : Heap) (locs : List Loc), HM D dA ad σ H → va_S (AM ad) s.heap H locs → ∀ (ls : Array Slot), lv_has ls 3 [] → W p l e (headSpec (ws_ yX4_of cX4_of 3 (some .int)) (rmX4_of)).room s m ([.ref (ad 0), .int p1, .int p2] : List Value).toArray below meth c H locs 0 0 (MQ below (mQi D dA ad r σ) ([.ref (ad 0), .int p1, .int p2] : List Value).toArray s 0 0 (AM ad)) (F0 m 126 ls [.int x3])) (fun x3 hX H locs hH hS ls hl => ?_) (fun k4 hk4 hX => ?_)
                · have e1 := rinv hX; subst e1
                  exact W.iret hx hb hr (fun t ht hW => ⟨⟨_, (), rfl, rfl, hH.to ht⟩, hS.F ht⟩) hS.2.2 dX4_of_126
                · refine lv_if_eq (tgt := 125) hx hb dX4_of_105 (by decide) (fun hc => ?_) (fun hc => ?_)
                  · replace hX := ipos hc hX; clear hc
                    refine lv_iconst (v := (-1:Int32)) hx hb dX4_of_125 (by decide) ?_
                    exact hk4 (-1:Int32) hX H locs hH hS ls (lv_sub hl [] rfl)
                  · replace hX := ineg hc hX; clear hc
                    refine lv_aload_n hx hb dX4_of_108 rfl (lv_at hl 0 rfl) ?_
                    refine m_get (v := .ref (ad 1)) hx hb hts hown hK hH 1 (by decide) (hts _ q1291) rfl dX4_of_109 ?_
                    refine lv_sipush (v := (950:Int32)) hx hb dX4_of_112 (by decide) ?_
                    refine lv_iconst (v := (4:Int32)) hx hb dX4_of_115 (by decide) ?_
                    refine lv_iload_n hx hb dX4_of_116 rfl (lv_at hl 1 rfl) ?_
                    refine lv_imul hx hb dX4_of_117 ?_
                    refine lv_iadd hx hb dX4_of_118 ?_
                    refine lv_iload_n hx hb dX4_of_119 rfl (lv_at hl 2 rfl) ?_
                    refine lv_iadd hx hb dX4_of_120 ?_
                    obtain ⟨hg, hX⟩ := gd_inv hX
                    refine m_iald hx hb hK hH 1 1 (n := 1160) rfl hg dX4_of_121 ?_
                    refine lv_goto (tgt := 126) hx hb dX4_of_122 (by decide) ?_
                    exact hk4 (σ.2.1 1 (((950:Int32) + ((4:Int32) * p1)) + p2).toNatClampNeg) hX H locs hH hS ls (lv_sub hl [] rfl)
  · replace hX := ipos hc hX; clear hc
    refine lv_iconst (v := (-1:Int32)) hx hb dX4_of_8 (by decide) ?_
    have e1 := rinv hX; subst e1
    exact W.iret hx hb hr (fun t ht hW => ⟨⟨_, (), rfl, rfl, hH.to ht⟩, hS.F ht⟩) hS.2.2 dX4_of_9

abbrev rmX4_days : Room := { frames := 3, cells := 0, slots := 0, locals := 69 }
def fX4_days (p1 : Int32) (p2 : Int32) (σ : MS) : Option (Int32 × MS) :=
 cl (fX4_isShip p1 σ) (fun (x1 : Int32) =>
 if x1 = (0:Int32) then
 some ((-1:Int32), σ)
 else
 cl (fX4_in p2 (1:Int32) (30:Int32)) (fun (x2 : Int32) =>
 if x2 = (0:Int32) then
 some ((-2:Int32), σ)
 else
 cl (fX4_takes p1 σ) (fun (σ3 : MS) =>
 lp (fun _ _ _ => none) (fun (k7 : Int32 → Int32 → MS → Option (Int32 × MS)) (x4 : Int32) (x5 : Int32) (σ6 : MS) =>
 if p2 ≤ x5 then
 cl (fX4_puts p1 σ6) (fun (σ8 : MS) =>
 gd (ib ((938:Int32) + p1) 1160) (
 gd (ib ((938:Int32) + p1) 1160) (
 bd (sa σ8 1 ((938:Int32) + p1).toNatClampNeg ((σ8.2.1 1 ((938:Int32) + p1).toNatClampNeg) + p2)) (fun (σ9 : MS) =>
 some (x4, σ9)))))
 else
 cl2 (fX4_aboard (0:Int32) σ6) (fun (x11 : Int32) (σ10 : MS) =>
 bd (x5 + (1:Int32)) (fun (x12 : Int32) =>
 k7 x11 x12 σ10))) NF (0:Int32) (0:Int32) σ3)))
set_option maxHeartbeats 4000000 in
set_option maxRecDepth 100000 in
theorem mX4_days (l : Launch) (D : va_G) (dA : Nat → ClassId) (ad : Nat → Nat) {p1 : Int32} {p2 : Int32} {σ : MS} {r : Int32} {σz : MS} (hX : fX4_days p1 p2 σ = some (r, σz)) : Met l yX4_days (ws_ yX4_days cX4_days 5 (some .int)) (rmX4_days) (mPc D dA ad σ [.int p1, .int p2]) (mQi D dA ad r σz) 0 0 (AM ad) := by
  refine Met.ofW (cc := cX4_days) (maxL := 5) (ret := (some .int)) (by decide) rfl ?_
  intro p e s m args below meth c s₁ B hml hv
  obtain ⟨rfl, hH, hK⟩ := hv
  have hx := B.exec
  have hb := B.bytes
  have hr := B.returns
  have hts := atoms_spec (ws := (ws_ yX4_days cX4_days 5 (some .int))) B.pre
  have hts : ∀ w ∈ lw_all, w.before _ s = true := fun w h => hts w (List.mem_cons_of_mem _ h)
  have hown : s.vm.findClass RX4 = some m.cls := findClass_of_methodNamed B.named
  have hlocks := B.notSynchronized
  have hl := lv_entry ([.ref (ad 0), .int p1, .int p2]) (n := 5) (Nat.le_of_ble_eq_true rfl)
  rw [lg_entry_eq]
  generalize (lg_sl ([.ref (ad 0), .int p1, .int p2]) ++ List.replicate (5 - (lg_sl ([.ref (ad 0), .int p1, .int p2])).length) Slot.unset).toArray = ls at hl ⊢
  have hl : lv_has ls 5 [(0, .ref (ad 0)), (1, .int p1), (2, .int p2)] := hl
  unfold fX4_days at hX
  refine m_start hH (fun H locs hH hS => ?_)
  refine lv_aload_n hx hb dX4_days_0 rfl (lv_at hl 0 rfl) ?_
  refine lv_iload_n hx hb dX4_days_1 rfl (lv_at hl 1 rfl) ?_
  obtain ⟨x1, hf, hX⟩ := cl_inv hX
  refine m_callVi (As := [.int p1]) ⟨hx, hb, hml, hown, hts⟩ (mX4_isShip l D dA ad hf) (cwV 1 hts (lw_V q1532 q1534 qs61 q95 q1535) rfl rfl rfl (by decide +kernel) ⟨Nat.le_of_ble_eq_true rfl, Nat.le_of_ble_eq_true rfl⟩) hK hH hS rfl hl.1 rfl (Nat.le_of_ble_eq_true rfl) dX4_days_2 (fun H locs hH hS => ?_)
  clear hf
  refine lv_if_ne (tgt := 10) hx hb dX4_days_5 (by decide) (fun hc => ?_) (fun hc => ?_)
  · replace hX := ineg hc hX; clear hc
    refine lv_iload_n hx hb dX4_days_10 rfl (lv_at hl 2 rfl) ?_
    refine lv_iconst (v := (1:Int32)) hx hb dX4_days_11 (by decide) ?_
    refine lv_bipush (v := (30:Int32)) hx hb dX4_days_12 (by decide) ?_
    obtain ⟨x2, hf, hX⟩ := cl_inv hX
    refine m_callSi (As := [.int p2, .int (1:Int32), .int (30:Int32)]) ⟨hx, hb, hml, hown, hts⟩ (mX4_in l hf) (va_cwS 3 hts (lw_S q1368 q1369 q95 q1370) rfl rfl rfl (by decide +kernel) ⟨Nat.le_of_ble_eq_true rfl, Nat.le_of_ble_eq_true rfl⟩) hH hS rfl hl.1 rfl (Nat.le_of_ble_eq_true rfl) dX4_days_14 (fun H locs hH hS => ?_)
    clear hf
    refine lv_if_ne (tgt := 23) hx hb dX4_days_17 (by decide) (fun hc => ?_) (fun hc => ?_)
    · replace hX := ineg hc hX; clear hc
      refine lv_aload_n hx hb dX4_days_23 rfl (lv_at hl 0 rfl) ?_
      refine lv_iload_n hx hb dX4_days_24 rfl (lv_at hl 1 rfl) ?_
      obtain ⟨σ3, hf, hX⟩ := cl_inv hX
      refine m_callVv (As := [.int p1]) ⟨hx, hb, hml, hown, hts⟩ (mX4_takes l D dA ad hf) (cwV 1 hts (lw_V q1507 q1509 qs57 q95 q1510) rfl rfl rfl (by decide +kernel) ⟨Nat.le_of_ble_eq_true rfl, Nat.le_of_ble_eq_true rfl⟩) hK hH hS rfl hl.1 rfl (Nat.le_of_ble_eq_true rfl) dX4_days_25 (fun H locs hH hS => ?_)
      clear hf
      refine lv_iconst (v := (0:Int32)) hx hb dX4_days_28 (by decide) ?_
      refine lv_istore_n (lv' := [(3, .int (0:Int32)), (0, .ref (ad 0)), (1, .int p1), (2, .int p2)]) hx hb dX4_days_29 rfl hl (by decide) rfl (fun ls hl => ?_)
      refine lv_iconst (v := (0:Int32)) hx hb dX4_days_30 (by decide) ?_
      refine lv_istore (lv' := [(4, .int (0:Int32)), (3, .int (0:Int32)), (0, .ref (ad 0)), (1, .int p1), (2, .int p2)]) hx hb dX4_days_31 hl (by decide) rfl (fun ls hl => ?_)
      refine lpu3 hX (fun (x4 : Int32) (x5 : Int32) (σ6 : MS) => ∀ (H : Heap) (locs : List Loc), HM D dA ad σ6 H → va_S (AM ad) s.heap H locs → ∀ (ls : Array Slot), lv_has ls 5 [(0, .ref (ad 0)), (1, .int p1), (2, .int p2), (3, .int x4), (4, .int x5)] → W p l e (headSpec (ws_ yX4_days cX4_days 5 (some .int)) (rmX4_days)).room s m ([.ref (ad 0), .int p1, .int p2] : List Value).toArray below meth c H locs 0 0 (MQ below (mQi D dA ad r σz) ([.ref (ad 0), .int p1, .int p2] : List Value).toArray s 0 0 (AM ad)) (F0 m 33 ls [])) (fun k7 hk7 x4 x5 σ6 hX H locs hH hS ls hl => ?_) H locs hH hS ls (lv_sub hl [2, 3, 4, 1, 0] rfl)
      refine lv_iload hx hb dX4_days_33 (lv_at hl 4 rfl) ?_
      refine lv_iload_n hx hb dX4_days_35 rfl (lv_at hl 2 rfl) ?_
      refine lv_icmp_ge (tgt := 51) hx hb dX4_days_36 (by decide) (fun hc => ?_) (fun hc => ?_)
      · replace hX := ipos hc hX; clear hc
        refine lv_aload_n hx hb dX4_days_51 rfl (lv_at hl 0 rfl) ?_
        refine lv_iload_n hx hb dX4_days_52 rfl (lv_at hl 1 rfl) ?_
        obtain ⟨σ8, hf, hX⟩ := cl_inv hX
        refine m_callVv (As := [.int p1]) ⟨hx, hb, hml, hown, hts⟩ (mX4_puts l D dA ad hf) (cwV 1 hts (lw_V q1524 q1526 qs60 q95 q1527) rfl rfl rfl (by decide +kernel) ⟨Nat.le_of_ble_eq_true rfl, Nat.le_of_ble_eq_true rfl⟩) hK hH hS rfl hl.1 rfl (Nat.le_of_ble_eq_true rfl) dX4_days_53 (fun H locs hH hS => ?_)
        clear hf
        refine lv_aload_n hx hb dX4_days_56 rfl (lv_at hl 0 rfl) ?_
        refine m_get (v := .ref (ad 1)) hx hb hts hown hK hH 1 (by decide) (hts _ q1291) rfl dX4_days_57 ?_
        refine lv_sipush (v := (938:Int32)) hx hb dX4_days_60 (by decide) ?_
        refine lv_iload_n hx hb dX4_days_63 rfl (lv_at hl 1 rfl) ?_
        refine lv_iadd hx hb dX4_days_64 ?_
        refine lv_dup2_11 hx hb dX4_days_65 rfl rfl ?_
        obtain ⟨hg, hX⟩ := gd_inv hX
        refine m_iald hx hb hK hH 1 1 (n := 1160) rfl hg dX4_days_66 ?_
        refine lv_iload_n hx hb dX4_days_67 rfl (lv_at hl 2 rfl) ?_
        refine lv_iadd hx hb dX4_days_68 ?_
        obtain ⟨hg, hX⟩ := gd_inv hX
        refine m_iast hx hb hK hH hS 1 1 (n := 1160) rfl hg rfl dX4_days_69 (fun σ9 eσ9 H locs hH hS => ?_)
        replace hX := bd_inv eσ9 hX; clear eσ9
        refine lv_iload_n hx hb dX4_days_70 rfl (lv_at hl 3 rfl) ?_
        obtain ⟨e1, e2⟩ := Prod.mk.inj (rinv hX); subst e1; subst e2
        exact W.iret hx hb hr (fun t ht hW => ⟨⟨_, (), rfl, rfl, hH.to ht⟩, hS.F ht⟩) hS.2.2 dX4_days_71
      · replace hX := ineg hc hX; clear hc
        refine lv_aload_n hx hb dX4_days_39 rfl (lv_at hl 0 rfl) ?_
        refine lv_iconst (v := (0:Int32)) hx hb dX4_days_40 (by decide) ?_
        obtain ⟨x11, σ10, hf, hX⟩ := cl2_inv hX
        refine m_callVi (As := [.int (0:Int32)]) ⟨hx, hb, hml, hown, hts⟩ (mX4_aboard l D dA ad hf) (cwV 1 hts (lw_V q1548 q1550 qs62 q95 q1551) rfl rfl rfl (by decide +kernel) ⟨Nat.le_of_ble_eq_true rfl, Nat.le_of_ble_eq_true rfl⟩) hK hH hS rfl hl.1 rfl (Nat.le_of_ble_eq_true rfl) dX4_days_41 (fun H locs hH hS => ?_)
        clear hf
        refine lv_istore_n (lv' := [(3, .int x11), (0, .ref (ad 0)), (1, .int p1), (2, .int p2), (4, .int x5)]) hx hb dX4_days_44 rfl hl (by decide) rfl (fun ls hl => ?_)
        obtain ⟨x12, ex12⟩ : ∃ y : Int32, y = x5 + (1:Int32) := ⟨_, rfl⟩
        replace hX := bd_inv ex12 hX
        refine lv_iinc (v := x12) (lv' := [(4, .int x12), (3, .int x11), (0, .ref (ad 0)), (1, .int p1), (2, .int p2)]) hx hb dX4_days_45 hl (k := 4) rfl (by rw [ex12]; rfl) (by decide) rfl (fun ls hl => ?_)
        clear ex12
        refine lv_goto (tgt := 33) hx hb dX4_days_48 (by decide) ?_
        exact hk7 x11 x12 σ10 hX H locs hH hS ls (lv_sub hl [2, 3, 4, 1, 0] rfl)
    · replace hX := ipos hc hX; clear hc
      refine lv_bipush (v := (-2:Int32)) hx hb dX4_days_20 (by decide) ?_
      obtain ⟨e1, e2⟩ := Prod.mk.inj (rinv hX); subst e1; subst e2
      exact W.iret hx hb hr (fun t ht hW => ⟨⟨_, (), rfl, rfl, hH.to ht⟩, hS.F ht⟩) hS.2.2 dX4_days_22
  · replace hX := ipos hc hX; clear hc
    refine lv_iconst (v := (-1:Int32)) hx hb dX4_days_8 (by decide) ?_
    obtain ⟨e1, e2⟩ := Prod.mk.inj (rinv hX); subst e1; subst e2
    exact W.iret hx hb hr (fun t ht hW => ⟨⟨_, (), rfl, rfl, hH.to ht⟩, hS.F ht⟩) hS.2.2 dX4_days_9

abbrev rmX4_look : Room := { frames := 2, cells := 0, slots := 0, locals := 50 }
def fX4_look (p1 : Int32) (σ : MS) : Option (Int32 × MS) :=
 cl (fX4_isShip p1 σ) (fun (x1 : Int32) =>
 if x1 = (0:Int32) then
 some ((-1:Int32), σ)
 else
 cl (fX4_takes p1 σ) (fun (σ2 : MS) =>
 cl2 (fX4_looks (0:Int32) σ2) (fun (x4 : Int32) (σ3 : MS) =>
 cl (fX4_puts p1 σ3) (fun (σ5 : MS) =>
 some (x4, σ5)))))
set_option maxHeartbeats 4000000 in
set_option maxRecDepth 100000 in
theorem mX4_look (l : Launch) (D : va_G) (dA : Nat → ClassId) (ad : Nat → Nat) {p1 : Int32} {σ : MS} {r : Int32} {σz : MS} (hX : fX4_look p1 σ = some (r, σz)) : Met l yX4_look (ws_ yX4_look cX4_look 3 (some .int)) (rmX4_look) (mPc D dA ad σ [.int p1]) (mQi D dA ad r σz) 0 0 (AM ad) := by
  refine Met.ofW (cc := cX4_look) (maxL := 3) (ret := (some .int)) (by decide) rfl ?_
  intro p e s m args below meth c s₁ B hml hv
  obtain ⟨rfl, hH, hK⟩ := hv
  have hx := B.exec
  have hb := B.bytes
  have hr := B.returns
  have hts := atoms_spec (ws := (ws_ yX4_look cX4_look 3 (some .int))) B.pre
  have hts : ∀ w ∈ lw_all, w.before _ s = true := fun w h => hts w (List.mem_cons_of_mem _ h)
  have hown : s.vm.findClass RX4 = some m.cls := findClass_of_methodNamed B.named
  have hlocks := B.notSynchronized
  have hl := lv_entry ([.ref (ad 0), .int p1]) (n := 3) (Nat.le_of_ble_eq_true rfl)
  rw [lg_entry_eq]
  generalize (lg_sl ([.ref (ad 0), .int p1]) ++ List.replicate (3 - (lg_sl ([.ref (ad 0), .int p1])).length) Slot.unset).toArray = ls at hl ⊢
  have hl : lv_has ls 3 [(0, .ref (ad 0)), (1, .int p1)] := hl
  unfold fX4_look at hX
  refine m_start hH (fun H locs hH hS => ?_)
  refine lv_aload_n hx hb dX4_look_0 rfl (lv_at hl 0 rfl) ?_
  refine lv_iload_n hx hb dX4_look_1 rfl (lv_at hl 1 rfl) ?_
  obtain ⟨x1, hf, hX⟩ := cl_inv hX
  refine m_callVi (As := [.int p1]) ⟨hx, hb, hml, hown, hts⟩ (mX4_isShip l D dA ad hf) (cwV 1 hts (lw_V q1532 q1534 qs61 q95 q1535) rfl rfl rfl (by decide +kernel) ⟨Nat.le_of_ble_eq_true rfl, Nat.le_of_ble_eq_true rfl⟩) hK hH hS rfl hl.1 rfl (Nat.le_of_ble_eq_true rfl) dX4_look_2 (fun H locs hH hS => ?_)
  clear hf
  refine lv_if_ne (tgt := 10) hx hb dX4_look_5 (by decide) (fun hc => ?_) (fun hc => ?_)
  · replace hX := ineg hc hX; clear hc
    refine lv_aload_n hx hb dX4_look_10 rfl (lv_at hl 0 rfl) ?_
    refine lv_iload_n hx hb dX4_look_11 rfl (lv_at hl 1 rfl) ?_
    obtain ⟨σ2, hf, hX⟩ := cl_inv hX
    refine m_callVv (As := [.int p1]) ⟨hx, hb, hml, hown, hts⟩ (mX4_takes l D dA ad hf) (cwV 1 hts (lw_V q1507 q1509 qs57 q95 q1510) rfl rfl rfl (by decide +kernel) ⟨Nat.le_of_ble_eq_true rfl, Nat.le_of_ble_eq_true rfl⟩) hK hH hS rfl hl.1 rfl (Nat.le_of_ble_eq_true rfl) dX4_look_12 (fun H locs hH hS => ?_)
    clear hf
    refine lv_aload_n hx hb dX4_look_15 rfl (lv_at hl 0 rfl) ?_
    refine lv_iconst (v := (0:Int32)) hx hb dX4_look_16 (by decide) ?_
    obtain ⟨x4, σ3, hf, hX⟩ := cl2_inv hX
    refine m_callVi (As := [.int (0:Int32)]) ⟨hx, hb, hml, hown, hts⟩ (mX4_looks l D dA ad hf) (cwV 1 hts (lw_V q1565 q1567 qs65 q95 q1568) rfl rfl rfl (by decide +kernel) ⟨Nat.le_of_ble_eq_true rfl, Nat.le_of_ble_eq_true rfl⟩) hK hH hS rfl hl.1 rfl (Nat.le_of_ble_eq_true rfl) dX4_look_17 (fun H locs hH hS => ?_)
    clear hf
    refine lv_istore_n (lv' := [(2, .int x4), (0, .ref (ad 0)), (1, .int p1)]) hx hb dX4_look_20 rfl hl (by decide) rfl (fun ls hl => ?_)
    refine lv_aload_n hx hb dX4_look_21 rfl (lv_at hl 1 rfl) ?_
    refine lv_iload_n hx hb dX4_look_22 rfl (lv_at hl 2 rfl) ?_
    obtain ⟨σ5, hf, hX⟩ := cl_inv hX
    refine m_callVv (As := [.int p1]) ⟨hx, hb, hml, hown, hts⟩ (mX4_puts l D dA ad hf) (cwV 1 hts (lw_V q1524 q1526 qs60 q95 q1527) rfl rfl rfl (by decide +kernel) ⟨Nat.le_of_ble_eq_true rfl, Nat.le_of_ble_eq_true rfl⟩) hK hH hS rfl hl.1 rfl (Nat.le_of_ble_eq_true rfl) dX4_look_23 (fun H locs hH hS => ?_)
    clear hf
    refine lv_iload_n hx hb dX4_look_26 rfl (lv_at hl 0 rfl) ?_
    obtain ⟨e1, e2⟩ := Prod.mk.inj (rinv hX); subst e1; subst e2
    exact W.iret hx hb hr (fun t ht hW => ⟨⟨_, (), rfl, rfl, hH.to ht⟩, hS.F ht⟩) hS.2.2 dX4_look_27
  · replace hX := ipos hc hX; clear hc
    refine lv_iconst (v := (-1:Int32)) hx hb dX4_look_8 (by decide) ?_
    obtain ⟨e1, e2⟩ := Prod.mk.inj (rinv hX); subst e1; subst e2
    exact W.iret hx hb hr (fun t ht hW => ⟨⟨_, (), rfl, rfl, hH.to ht⟩, hS.F ht⟩) hS.2.2 dX4_look_9

abbrev rmX4_harm : Room := { frames := 2, cells := 0, slots := 0, locals := 43 }
def fX4_harm (p1 : Int32) (σ : MS) : Option (Int64 × MS) :=
 cl (fX4_isShip p1 σ) (fun (x1 : Int32) =>
 if x1 = (0:Int32) then
 some ((-9223372036854775808:Int64), σ)
 else
 cl (fX4_takes p1 σ) (fun (σ2 : MS) =>
 cl (fX4_harmOf (0:Int32) σ2) (fun (x3 : Int64) =>
 some (x3, σ2))))
set_option maxHeartbeats 4000000 in
set_option maxRecDepth 100000 in
theorem mX4_harm (l : Launch) (D : va_G) (dA : Nat → ClassId) (ad : Nat → Nat) {p1 : Int32} {σ : MS} {r : Int64} {σz : MS} (hX : fX4_harm p1 σ = some (r, σz)) : Met l yX4_harm (ws_ yX4_harm cX4_harm 2 (some .long)) (rmX4_harm) (mPc D dA ad σ [.int p1]) (mQl D dA ad r σz) 0 0 (AM ad) := by
  refine Met.ofW (cc := cX4_harm) (maxL := 2) (ret := (some .long)) (by decide) rfl ?_
  intro p e s m args below meth c s₁ B hml hv
  obtain ⟨rfl, hH, hK⟩ := hv
  have hx := B.exec
  have hb := B.bytes
  have hr := B.returns
  have hts := atoms_spec (ws := (ws_ yX4_harm cX4_harm 2 (some .long))) B.pre
  have hts : ∀ w ∈ lw_all, w.before _ s = true := fun w h => hts w (List.mem_cons_of_mem _ h)
  have hown : s.vm.findClass RX4 = some m.cls := findClass_of_methodNamed B.named
  have hlocks := B.notSynchronized
  have hl := lv_entry ([.ref (ad 0), .int p1]) (n := 2) (Nat.le_of_ble_eq_true rfl)
  rw [lg_entry_eq]
  generalize (lg_sl ([.ref (ad 0), .int p1]) ++ List.replicate (2 - (lg_sl ([.ref (ad 0), .int p1])).length) Slot.unset).toArray = ls at hl ⊢
  have hl : lv_has ls 2 [(0, .ref (ad 0)), (1, .int p1)] := hl
  unfold fX4_harm at hX
  refine m_start hH (fun H locs hH hS => ?_)
  refine lv_aload_n hx hb dX4_harm_0 rfl (lv_at hl 0 rfl) ?_
  refine lv_iload_n hx hb dX4_harm_1 rfl (lv_at hl 1 rfl) ?_
  obtain ⟨x1, hf, hX⟩ := cl_inv hX
  refine m_callVi (As := [.int p1]) ⟨hx, hb, hml, hown, hts⟩ (mX4_isShip l D dA ad hf) (cwV 1 hts (lw_V q1532 q1534 qs61 q95 q1535) rfl rfl rfl (by decide +kernel) ⟨Nat.le_of_ble_eq_true rfl, Nat.le_of_ble_eq_true rfl⟩) hK hH hS rfl hl.1 rfl (Nat.le_of_ble_eq_true rfl) dX4_harm_2 (fun H locs hH hS => ?_)
  clear hf
  refine lv_if_ne (tgt := 12) hx hb dX4_harm_5 (by decide) (fun hc => ?_) (fun hc => ?_)
  · replace hX := ineg hc hX; clear hc
    refine lv_aload_n hx hb dX4_harm_12 rfl (lv_at hl 0 rfl) ?_
    refine lv_iload_n hx hb dX4_harm_13 rfl (lv_at hl 1 rfl) ?_
    obtain ⟨σ2, hf, hX⟩ := cl_inv hX
    refine m_callVv (As := [.int p1]) ⟨hx, hb, hml, hown, hts⟩ (mX4_takes l D dA ad hf) (cwV 1 hts (lw_V q1507 q1509 qs57 q95 q1510) rfl rfl rfl (by decide +kernel) ⟨Nat.le_of_ble_eq_true rfl, Nat.le_of_ble_eq_true rfl⟩) hK hH hS rfl hl.1 rfl (Nat.le_of_ble_eq_true rfl) dX4_harm_14 (fun H locs hH hS => ?_)
    clear hf
    refine lv_aload_n hx hb dX4_harm_17 rfl (lv_at hl 0 rfl) ?_
    refine lv_iconst (v := (0:Int32)) hx hb dX4_harm_18 (by decide) ?_
    obtain ⟨x3, hf, hX⟩ := cl_inv hX
    refine m_callVl (As := [.int (0:Int32)]) ⟨hx, hb, hml, hown, hts⟩ (mX4_harmOf l D dA ad hf) (cwV 1 hts (lw_V q1574 q1576 qs66 q95 q1577) rfl rfl rfl (by decide +kernel) ⟨Nat.le_of_ble_eq_true rfl, Nat.le_of_ble_eq_true rfl⟩) hK hH hS rfl hl.1 rfl (Nat.le_of_ble_eq_true rfl) dX4_harm_19 (fun H locs hH hS => ?_)
    clear hf
    obtain ⟨e1, e2⟩ := Prod.mk.inj (rinv hX); subst e1; subst e2
    exact W.lret hx hb hr (fun t ht hW => ⟨⟨_, (), rfl, rfl, hH.to ht⟩, hS.F ht⟩) hS.2.2 dX4_harm_22
  · replace hX := ipos hc hX; clear hc
    refine lv_ldc2 (v := (-9223372036854775808:Int64)) hx hb hown (hts _ q1573) dX4_harm_8 ?_
    obtain ⟨e1, e2⟩ := Prod.mk.inj (rinv hX); subst e1; subst e2
    exact W.lret hx hb hr (fun t ht hW => ⟨⟨_, (), rfl, rfl, hH.to ht⟩, hS.F ht⟩) hS.2.2 dX4_harm_11

abbrev rmX4_rule : Room := { frames := 1, cells := 0, slots := 0, locals := 22 }
def fX4_rule (p1 : Int32) (p2 : Int32) (σ : MS) : Option (Int32 × MS) :=
 cl (fX4_in p1 (0:Int32) (6:Int32)) (fun (x1 : Int32) =>
 if x1 = (0:Int32) then
 some ((-1:Int32), σ)
 else
 cl (fX4_in p2 (0:Int32) (99:Int32)) (fun (x2 : Int32) =>
 if x2 = (0:Int32) then
 some ((-2:Int32), σ)
 else
 if (σ.2.1 1 (2:Int32).toNatClampNeg) = (12:Int32) then
 some ((-4:Int32), σ)
 else
 bd (σ.2.1 1 (2:Int32).toNatClampNeg) (fun (x3 : Int32) =>
 gd (ib ((1000:Int32) + x3) 1160) (
 bd (sa σ 1 ((1000:Int32) + x3).toNatClampNeg p1) (fun (σ4 : MS) =>
 gd (ib ((1012:Int32) + x3) 1160) (
 bd (sa σ4 1 ((1012:Int32) + x3).toNatClampNeg p2) (fun (σ5 : MS) =>
 gd (ib ((1024:Int32) + x3) 1160) (
 bd (sa σ5 1 ((1024:Int32) + x3).toNatClampNeg (0:Int32)) (fun (σ6 : MS) =>
 bd (sa σ6 1 (2:Int32).toNatClampNeg ((σ6.2.1 1 (2:Int32).toNatClampNeg) + (1:Int32))) (fun (σ7 : MS) =>
 some (x3, σ7)))))))))))
set_option maxHeartbeats 4000000 in
set_option maxRecDepth 100000 in
theorem mX4_rule (l : Launch) (D : va_G) (dA : Nat → ClassId) (ad : Nat → Nat) {p1 : Int32} {p2 : Int32} {σ : MS} {r : Int32} {σz : MS} (hX : fX4_rule p1 p2 σ = some (r, σz)) : Met l yX4_rule (ws_ yX4_rule cX4_rule 4 (some .int)) (rmX4_rule) (mPc D dA ad σ [.int p1, .int p2]) (mQi D dA ad r σz) 0 0 (AM ad) := by
  refine Met.ofW (cc := cX4_rule) (maxL := 4) (ret := (some .int)) (by decide) rfl ?_
  intro p e s m args below meth c s₁ B hml hv
  obtain ⟨rfl, hH, hK⟩ := hv
  have hx := B.exec
  have hb := B.bytes
  have hr := B.returns
  have hts := atoms_spec (ws := (ws_ yX4_rule cX4_rule 4 (some .int))) B.pre
  have hts : ∀ w ∈ lw_all, w.before _ s = true := fun w h => hts w (List.mem_cons_of_mem _ h)
  have hown : s.vm.findClass RX4 = some m.cls := findClass_of_methodNamed B.named
  have hlocks := B.notSynchronized
  have hl := lv_entry ([.ref (ad 0), .int p1, .int p2]) (n := 4) (Nat.le_of_ble_eq_true rfl)
  rw [lg_entry_eq]
  generalize (lg_sl ([.ref (ad 0), .int p1, .int p2]) ++ List.replicate (4 - (lg_sl ([.ref (ad 0), .int p1, .int p2])).length) Slot.unset).toArray = ls at hl ⊢
  have hl : lv_has ls 4 [(0, .ref (ad 0)), (1, .int p1), (2, .int p2)] := hl
  unfold fX4_rule at hX
  refine m_start hH (fun H locs hH hS => ?_)
  refine lv_iload_n hx hb dX4_rule_0 rfl (lv_at hl 1 rfl) ?_
  refine lv_iconst (v := (0:Int32)) hx hb dX4_rule_1 (by decide) ?_
  refine lv_bipush (v := (6:Int32)) hx hb dX4_rule_2 (by decide) ?_
  obtain ⟨x1, hf, hX⟩ := cl_inv hX
  refine m_callSi (As := [.int p1, .int (0:Int32), .int (6:Int32)]) ⟨hx, hb, hml, hown, hts⟩ (mX4_in l hf) (va_cwS 3 hts (lw_S q1368 q1369 q95 q1370) rfl rfl rfl (by decide +kernel) ⟨Nat.le_of_ble_eq_true rfl, Nat.le_of_ble_eq_true rfl⟩) hH hS rfl hl.1 rfl (Nat.le_of_ble_eq_true rfl) dX4_rule_4 (fun H locs hH hS => ?_)
  clear hf
  refine lv_if_ne (tgt := 12) hx hb dX4_rule_7 (by decide) (fun hc => ?_) (fun hc => ?_)
  · replace hX := ineg hc hX; clear hc
    refine lv_iload_n hx hb dX4_rule_12 rfl (lv_at hl 2 rfl) ?_
    refine lv_iconst (v := (0:Int32)) hx hb dX4_rule_13 (by decide) ?_
    refine lv_bipush (v := (99:Int32)) hx hb dX4_rule_14 (by decide) ?_
    obtain ⟨x2, hf, hX⟩ := cl_inv hX
    refine m_callSi (As := [.int p2, .int (0:Int32), .int (99:Int32)]) ⟨hx, hb, hml, hown, hts⟩ (mX4_in l hf) (va_cwS 3 hts (lw_S q1368 q1369 q95 q1370) rfl rfl rfl (by decide +kernel) ⟨Nat.le_of_ble_eq_true rfl, Nat.le_of_ble_eq_true rfl⟩) hH hS rfl hl.1 rfl (Nat.le_of_ble_eq_true rfl) dX4_rule_16 (fun H locs hH hS => ?_)
    clear hf
    refine lv_if_ne (tgt := 25) hx hb dX4_rule_19 (by decide) (fun hc => ?_) (fun hc => ?_)
    · replace hX := ineg hc hX; clear hc
      refine lv_aload_n hx hb dX4_rule_25 rfl (lv_at hl 0 rfl) ?_
      refine m_get (v := .ref (ad 1)) hx hb hts hown hK hH 1 (by decide) (hts _ q1291) rfl dX4_rule_26 ?_
      refine lv_iconst (v := (2:Int32)) hx hb dX4_rule_29 (by decide) ?_
      refine m_iald hx hb hK hH 1 1 (n := 1160) rfl (by decide) dX4_rule_30 ?_
      refine lv_bipush (v := (12:Int32)) hx hb dX4_rule_31 (by decide) ?_
      refine lv_icmp_ne (tgt := 39) hx hb dX4_rule_33 (by decide) (fun hc => ?_) (fun hc => ?_)
      · replace hX := ineg hc hX; clear hc
        refine lv_aload_n hx hb dX4_rule_39 rfl (lv_at hl 0 rfl) ?_
        refine m_get (v := .ref (ad 1)) hx hb hts hown hK hH 1 (by decide) (hts _ q1291) rfl dX4_rule_40 ?_
        refine lv_iconst (v := (2:Int32)) hx hb dX4_rule_43 (by decide) ?_
        refine m_iald hx hb hK hH 1 1 (n := 1160) rfl (by decide) dX4_rule_44 ?_
        refine lv_topi (fun x3 ex3 => ?_)
        replace hX := bd_inv ex3 hX; clear ex3
        refine lv_istore_n (lv' := [(3, .int x3), (0, .ref (ad 0)), (1, .int p1), (2, .int p2)]) hx hb dX4_rule_45 rfl hl (by decide) rfl (fun ls hl => ?_)
        refine lv_aload_n hx hb dX4_rule_46 rfl (lv_at hl 1 rfl) ?_
        refine m_get (v := .ref (ad 1)) hx hb hts hown hK hH 1 (by decide) (hts _ q1291) rfl dX4_rule_47 ?_
        refine lv_sipush (v := (1000:Int32)) hx hb dX4_rule_50 (by decide) ?_
        refine lv_iload_n hx hb dX4_rule_53 rfl (lv_at hl 0 rfl) ?_
        refine lv_iadd hx hb dX4_rule_54 ?_
        refine lv_iload_n hx hb dX4_rule_55 rfl (lv_at hl 2 rfl) ?_
        obtain ⟨hg, hX⟩ := gd_inv hX
        refine m_iast hx hb hK hH hS 1 1 (n := 1160) rfl hg rfl dX4_rule_56 (fun σ4 eσ4 H locs hH hS => ?_)
        replace hX := bd_inv eσ4 hX; clear eσ4
        refine lv_aload_n hx hb dX4_rule_57 rfl (lv_at hl 1 rfl) ?_
        refine m_get (v := .ref (ad 1)) hx hb hts hown hK hH 1 (by decide) (hts _ q1291) rfl dX4_rule_58 ?_
        refine lv_sipush (v := (1012:Int32)) hx hb dX4_rule_61 (by decide) ?_
        refine lv_iload_n hx hb dX4_rule_64 rfl (lv_at hl 0 rfl) ?_
        refine lv_iadd hx hb dX4_rule_65 ?_
        refine lv_iload_n hx hb dX4_rule_66 rfl (lv_at hl 3 rfl) ?_
        obtain ⟨hg, hX⟩ := gd_inv hX
        refine m_iast hx hb hK hH hS 1 1 (n := 1160) rfl hg rfl dX4_rule_67 (fun σ5 eσ5 H locs hH hS => ?_)
        replace hX := bd_inv eσ5 hX; clear eσ5
        refine lv_aload_n hx hb dX4_rule_68 rfl (lv_at hl 1 rfl) ?_
        refine m_get (v := .ref (ad 1)) hx hb hts hown hK hH 1 (by decide) (hts _ q1291) rfl dX4_rule_69 ?_
        refine lv_sipush (v := (1024:Int32)) hx hb dX4_rule_72 (by decide) ?_
        refine lv_iload_n hx hb dX4_rule_75 rfl (lv_at hl 0 rfl) ?_
        refine lv_iadd hx hb dX4_rule_76 ?_
        refine lv_iconst (v := (0:Int32)) hx hb dX4_rule_77 (by decide) ?_
        obtain ⟨hg, hX⟩ := gd_inv hX
        refine m_iast hx hb hK hH hS 1 1 (n := 1160) rfl hg rfl dX4_rule_78 (fun σ6 eσ6 H locs hH hS => ?_)
        replace hX := bd_inv eσ6 hX; clear eσ6
        refine lv_aload_n hx hb dX4_rule_79 rfl (lv_at hl 1 rfl) ?_
        refine m_get (v := .ref (ad 1)) hx hb hts hown hK hH 1 (by decide) (hts _ q1291) rfl dX4_rule_80 ?_
        refine lv_iconst (v := (2:Int32)) hx hb dX4_rule_83 (by decide) ?_
        refine lv_dup2_11 hx hb dX4_rule_84 rfl rfl ?_
        refine m_iald hx hb hK hH 1 1 (n := 1160) rfl (by decide) dX4_rule_85 ?_
        refine lv_iconst (v := (1:Int32)) hx hb dX4_rule_86 (by decide) ?_
        refine lv_iadd hx hb dX4_rule_87 ?_
        refine m_iast hx hb hK hH hS 1 1 (n := 1160) rfl (by decide) rfl dX4_rule_88 (fun σ7 eσ7 H locs hH hS => ?_)
        replace hX := bd_inv eσ7 hX; clear eσ7
        refine lv_iload_n hx hb dX4_rule_89 rfl (lv_at hl 0 rfl) ?_
        obtain ⟨e1, e2⟩ := Prod.mk.inj (rinv hX); subst e1; subst e2
        exact W.iret hx hb hr (fun t ht hW => ⟨⟨_, (), rfl, rfl, hH.to ht⟩, hS.F ht⟩) hS.2.2 dX4_rule_90
      · replace hX := ipos hc hX; clear hc
        refine lv_bipush (v := (-4:Int32)) hx hb dX4_rule_36 (by decide) ?_
        obtain ⟨e1, e2⟩ := Prod.mk.inj (rinv hX); subst e1; subst e2
        exact W.iret hx hb hr (fun t ht hW => ⟨⟨_, (), rfl, rfl, hH.to ht⟩, hS.F ht⟩) hS.2.2 dX4_rule_38
    · replace hX := ipos hc hX; clear hc
      refine lv_bipush (v := (-2:Int32)) hx hb dX4_rule_22 (by decide) ?_
      obtain ⟨e1, e2⟩ := Prod.mk.inj (rinv hX); subst e1; subst e2
      exact W.iret hx hb hr (fun t ht hW => ⟨⟨_, (), rfl, rfl, hH.to ht⟩, hS.F ht⟩) hS.2.2 dX4_rule_24
  · replace hX := ipos hc hX; clear hc
    refine lv_iconst (v := (-1:Int32)) hx hb dX4_rule_10 (by decide) ?_
    obtain ⟨e1, e2⟩ := Prod.mk.inj (rinv hX); subst e1; subst e2
    exact W.iret hx hb hr (fun t ht hW => ⟨⟨_, (), rfl, rfl, hH.to ht⟩, hS.F ht⟩) hS.2.2 dX4_rule_11

abbrev rmX4_row : Room := { frames := 2, cells := 0, slots := 0, locals := 43 }
def fX4_row (p1 : Int32) (p2 : Int32) (σ : MS) : Option (Int32 × MS) :=
 cl (fX4_isRule p1 σ) (fun (x1 : Int32) =>
 if x1 = (0:Int32) then
 some ((-1:Int32), σ)
 else
 cl (fX4_in p2 (0:Int32) (1:Int32)) (fun (x2 : Int32) =>
 if x2 = (0:Int32) then
 some ((-2:Int32), σ)
 else
 gd (ib ((1000:Int32) + p1) 1160) (
 if (σ.2.1 1 ((1000:Int32) + p1).toNatClampNeg) = (5:Int32) then
 gd (ib ((1024:Int32) + p1) 1160) (
 if (σ.2.1 1 ((1024:Int32) + p1).toNatClampNeg) = (10:Int32) then
 some ((-4:Int32), σ)
 else
 gd (ib ((1024:Int32) + p1) 1160) (
 gd (ib (((1036:Int32) + ((10:Int32) * p1)) + (σ.2.1 1 ((1024:Int32) + p1).toNatClampNeg)) 1160) (
 bd (sa σ 1 (((1036:Int32) + ((10:Int32) * p1)) + (σ.2.1 1 ((1024:Int32) + p1).toNatClampNeg)).toNatClampNeg p2) (fun (σ3 : MS) =>
 gd (ib ((1024:Int32) + p1) 1160) (
 gd (ib ((1024:Int32) + p1) 1160) (
 bd (sa σ3 1 ((1024:Int32) + p1).toNatClampNeg ((σ3.2.1 1 ((1024:Int32) + p1).toNatClampNeg) + (1:Int32))) (fun (σ4 : MS) =>
 gd (ib ((1024:Int32) + p1) 1160) (
 some (σ4.2.1 1 ((1024:Int32) + p1).toNatClampNeg, σ4)))))))))
 else
 some ((-3:Int32), σ))))
set_option maxHeartbeats 4000000 in
set_option maxRecDepth 100000 in
theorem mX4_row (l : Launch) (D : va_G) (dA : Nat → ClassId) (ad : Nat → Nat) {p1 : Int32} {p2 : Int32} {σ : MS} {r : Int32} {σz : MS} (hX : fX4_row p1 p2 σ = some (r, σz)) : Met l yX4_row (ws_ yX4_row cX4_row 3 (some .int)) (rmX4_row) (mPc D dA ad σ [.int p1, .int p2]) (mQi D dA ad r σz) 0 0 (AM ad) := by
  refine Met.ofW (cc := cX4_row) (maxL := 3) (ret := (some .int)) (by decide) rfl ?_
  intro p e s m args below meth c s₁ B hml hv
  obtain ⟨rfl, hH, hK⟩ := hv
  have hx := B.exec
  have hb := B.bytes
  have hr := B.returns
  have hts := atoms_spec (ws := (ws_ yX4_row cX4_row 3 (some .int))) B.pre
  have hts : ∀ w ∈ lw_all, w.before _ s = true := fun w h => hts w (List.mem_cons_of_mem _ h)
  have hown : s.vm.findClass RX4 = some m.cls := findClass_of_methodNamed B.named
  have hlocks := B.notSynchronized
  have hl := lv_entry ([.ref (ad 0), .int p1, .int p2]) (n := 3) (Nat.le_of_ble_eq_true rfl)
  rw [lg_entry_eq]
  generalize (lg_sl ([.ref (ad 0), .int p1, .int p2]) ++ List.replicate (3 - (lg_sl ([.ref (ad 0), .int p1, .int p2])).length) Slot.unset).toArray = ls at hl ⊢
  have hl : lv_has ls 3 [(0, .ref (ad 0)), (1, .int p1), (2, .int p2)] := hl
  unfold fX4_row at hX
  refine m_start hH (fun H locs hH hS => ?_)
  refine lv_aload_n hx hb dX4_row_0 rfl (lv_at hl 0 rfl) ?_
  refine lv_iload_n hx hb dX4_row_1 rfl (lv_at hl 1 rfl) ?_
  obtain ⟨x1, hf, hX⟩ := cl_inv hX
  refine m_callVi (As := [.int p1]) ⟨hx, hb, hml, hown, hts⟩ (mX4_isRule l D dA ad hf) (cwV 1 hts (lw_V q1588 q1590 qs67 q95 q1591) rfl rfl rfl (by decide +kernel) ⟨Nat.le_of_ble_eq_true rfl, Nat.le_of_ble_eq_true rfl⟩) hK hH hS rfl hl.1 rfl (Nat.le_of_ble_eq_true rfl) dX4_row_2 (fun H locs hH hS => ?_)
  clear hf
  refine lv_if_ne (tgt := 10) hx hb dX4_row_5 (by decide) (fun hc => ?_) (fun hc => ?_)
  · replace hX := ineg hc hX; clear hc
    refine lv_iload_n hx hb dX4_row_10 rfl (lv_at hl 2 rfl) ?_
    refine lv_iconst (v := (0:Int32)) hx hb dX4_row_11 (by decide) ?_
    refine lv_iconst (v := (1:Int32)) hx hb dX4_row_12 (by decide) ?_
    obtain ⟨x2, hf, hX⟩ := cl_inv hX
    refine m_callSi (As := [.int p2, .int (0:Int32), .int (1:Int32)]) ⟨hx, hb, hml, hown, hts⟩ (mX4_in l hf) (va_cwS 3 hts (lw_S q1368 q1369 q95 q1370) rfl rfl rfl (by decide +kernel) ⟨Nat.le_of_ble_eq_true rfl, Nat.le_of_ble_eq_true rfl⟩) hH hS rfl hl.1 rfl (Nat.le_of_ble_eq_true rfl) dX4_row_13 (fun H locs hH hS => ?_)
    clear hf
    refine lv_if_ne (tgt := 22) hx hb dX4_row_16 (by decide) (fun hc => ?_) (fun hc => ?_)
    · replace hX := ineg hc hX; clear hc
      refine lv_aload_n hx hb dX4_row_22 rfl (lv_at hl 0 rfl) ?_
      refine m_get (v := .ref (ad 1)) hx hb hts hown hK hH 1 (by decide) (hts _ q1291) rfl dX4_row_23 ?_
      refine lv_sipush (v := (1000:Int32)) hx hb dX4_row_26 (by decide) ?_
      refine lv_iload_n hx hb dX4_row_29 rfl (lv_at hl 1 rfl) ?_
      refine lv_iadd hx hb dX4_row_30 ?_
      obtain ⟨hg, hX⟩ := gd_inv hX
      refine m_iald hx hb hK hH 1 1 (n := 1160) rfl hg dX4_row_31 ?_
      refine lv_iconst (v := (5:Int32)) hx hb dX4_row_32 (by decide) ?_
      refine lv_icmp_eq (tgt := 39) hx hb dX4_row_33 (by decide) (fun hc => ?_) (fun hc => ?_)
      · replace hX := ipos hc hX; clear hc
        refine lv_aload_n hx hb dX4_row_39 rfl (lv_at hl 0 rfl) ?_
        refine m_get (v := .ref (ad 1)) hx hb hts hown hK hH 1 (by decide) (hts _ q1291) rfl dX4_row_40 ?_
        refine lv_sipush (v := (1024:Int32)) hx hb dX4_row_43 (by decide) ?_
        refine lv_iload_n hx hb dX4_row_46 rfl (lv_at hl 1 rfl) ?_
        refine lv_iadd hx hb dX4_row_47 ?_
        obtain ⟨hg, hX⟩ := gd_inv hX
        refine m_iald hx hb hK hH 1 1 (n := 1160) rfl hg dX4_row_48 ?_
        refine lv_bipush (v := (10:Int32)) hx hb dX4_row_49 (by decide) ?_
        refine lv_icmp_ne (tgt := 57) hx hb dX4_row_51 (by decide) (fun hc => ?_) (fun hc => ?_)
        · replace hX := ineg hc hX; clear hc
          refine lv_aload_n hx hb dX4_row_57 rfl (lv_at hl 0 rfl) ?_
          refine m_get (v := .ref (ad 1)) hx hb hts hown hK hH 1 (by decide) (hts _ q1291) rfl dX4_row_58 ?_
          refine lv_sipush (v := (1036:Int32)) hx hb dX4_row_61 (by decide) ?_
          refine lv_bipush (v := (10:Int32)) hx hb dX4_row_64 (by decide) ?_
          refine lv_iload_n hx hb dX4_row_66 rfl (lv_at hl 1 rfl) ?_
          refine lv_imul hx hb dX4_row_67 ?_
          refine lv_iadd hx hb dX4_row_68 ?_
          refine lv_aload_n hx hb dX4_row_69 rfl (lv_at hl 0 rfl) ?_
          refine m_get (v := .ref (ad 1)) hx hb hts hown hK hH 1 (by decide) (hts _ q1291) rfl dX4_row_70 ?_
          refine lv_sipush (v := (1024:Int32)) hx hb dX4_row_73 (by decide) ?_
          refine lv_iload_n hx hb dX4_row_76 rfl (lv_at hl 1 rfl) ?_
          refine lv_iadd hx hb dX4_row_77 ?_
          obtain ⟨hg, hX⟩ := gd_inv hX
          refine m_iald hx hb hK hH 1 1 (n := 1160) rfl hg dX4_row_78 ?_
          refine lv_iadd hx hb dX4_row_79 ?_
          refine lv_iload_n hx hb dX4_row_80 rfl (lv_at hl 2 rfl) ?_
          obtain ⟨hg, hX⟩ := gd_inv hX
          refine m_iast hx hb hK hH hS 1 1 (n := 1160) rfl hg rfl dX4_row_81 (fun σ3 eσ3 H locs hH hS => ?_)
          replace hX := bd_inv eσ3 hX; clear eσ3
          refine lv_aload_n hx hb dX4_row_82 rfl (lv_at hl 0 rfl) ?_
          refine m_get (v := .ref (ad 1)) hx hb hts hown hK hH 1 (by decide) (hts _ q1291) rfl dX4_row_83 ?_
          refine lv_sipush (v := (1024:Int32)) hx hb dX4_row_86 (by decide) ?_
          refine lv_iload_n hx hb dX4_row_89 rfl (lv_at hl 1 rfl) ?_
          refine lv_iadd hx hb dX4_row_90 ?_
          refine lv_dup2_11 hx hb dX4_row_91 rfl rfl ?_
          obtain ⟨hg, hX⟩ := gd_inv hX
          refine m_iald hx hb hK hH 1 1 (n := 1160) rfl hg dX4_row_92 ?_
          refine lv_iconst (v := (1:Int32)) hx hb dX4_row_93 (by decide) ?_
          refine lv_iadd hx hb dX4_row_94 ?_
          obtain ⟨hg, hX⟩ := gd_inv hX
          refine m_iast hx hb hK hH hS 1 1 (n := 1160) rfl hg rfl dX4_row_95 (fun σ4 eσ4 H locs hH hS => ?_)
          replace hX := bd_inv eσ4 hX; clear eσ4
          refine lv_aload_n hx hb dX4_row_96 rfl (lv_at hl 0 rfl) ?_
          refine m_get (v := .ref (ad 1)) hx hb hts hown hK hH 1 (by decide) (hts _ q1291) rfl dX4_row_97 ?_
          refine lv_sipush (v := (1024:Int32)) hx hb dX4_row_100 (by decide) ?_
          refine lv_iload_n hx hb dX4_row_103 rfl (lv_at hl 1 rfl) ?_
          refine lv_iadd hx hb dX4_row_104 ?_
          obtain ⟨hg, hX⟩ := gd_inv hX
          refine m_iald hx hb hK hH 1 1 (n := 1160) rfl hg dX4_row_105 ?_
          obtain ⟨e1, e2⟩ := Prod.mk.inj (rinv hX); subst e1; subst e2
          exact W.iret hx hb hr (fun t ht hW => ⟨⟨_, (), rfl, rfl, hH.to ht⟩, hS.F ht⟩) hS.2.2 dX4_row_106
        · replace hX := ipos hc hX; clear hc
          refine lv_bipush (v := (-4:Int32)) hx hb dX4_row_54 (by decide) ?_
          obtain ⟨e1, e2⟩ := Prod.mk.inj (rinv hX); subst e1; subst e2
          exact W.iret hx hb hr (fun t ht hW => ⟨⟨_, (), rfl, rfl, hH.to ht⟩, hS.F ht⟩) hS.2.2 dX4_row_56
      · replace hX := ineg hc hX; clear hc
        refine lv_bipush (v := (-3:Int32)) hx hb dX4_row_36 (by decide) ?_
        obtain ⟨e1, e2⟩ := Prod.mk.inj (rinv hX); subst e1; subst e2
        exact W.iret hx hb hr (fun t ht hW => ⟨⟨_, (), rfl, rfl, hH.to ht⟩, hS.F ht⟩) hS.2.2 dX4_row_38
    · replace hX := ipos hc hX; clear hc
      refine lv_bipush (v := (-2:Int32)) hx hb dX4_row_19 (by decide) ?_
      obtain ⟨e1, e2⟩ := Prod.mk.inj (rinv hX); subst e1; subst e2
      exact W.iret hx hb hr (fun t ht hW => ⟨⟨_, (), rfl, rfl, hH.to ht⟩, hS.F ht⟩) hS.2.2 dX4_row_21
  · replace hX := ipos hc hX; clear hc
    refine lv_iconst (v := (-1:Int32)) hx hb dX4_row_8 (by decide) ?_
    obtain ⟨e1, e2⟩ := Prod.mk.inj (rinv hX); subst e1; subst e2
    exact W.iret hx hb hr (fun t ht hW => ⟨⟨_, (), rfl, rfl, hH.to ht⟩, hS.F ht⟩) hS.2.2 dX4_row_9

abbrev rmX4_held : Room := { frames := 0, cells := 0, slots := 0, locals := 0 }
def fX4_held (p1 : Int64) (p2 : Int64) (p3 : Int32) : Option (Int64) :=
 some ((p1 + ((p2 * (((1000000:Int32) - p3).toInt64)) / (1000000:Int64))) + ((((10:Int64) * p1) * (p3.toInt64)) / (1000000:Int64)))
set_option maxHeartbeats 4000000 in
set_option maxRecDepth 100000 in
theorem mX4_held (l : Launch) {p1 : Int64} {p2 : Int64} {p3 : Int32} {r : Int64} (hX : fX4_held p1 p2 p3 = some r) : Met l yX4_held (ws_ yX4_held cX4_held 5 (some .long)) (rmX4_held) (sPc [.long p1, .long p2, .int p3]) (sQl r) 0 0 noA := by
  refine Met.ofW (cc := cX4_held) (maxL := 5) (ret := (some .long)) (by decide) rfl ?_
  intro p e s m args below meth c s₁ B hml hv
  obtain ⟨rfl, -⟩ := hv
  have hx := B.exec
  have hb := B.bytes
  have hr := B.returns
  have hts := atoms_spec (ws := (ws_ yX4_held cX4_held 5 (some .long))) B.pre
  have hts : ∀ w ∈ lw_all, w.before _ s = true := fun w h => hts w (List.mem_cons_of_mem _ h)
  have hown : s.vm.findClass RX4 = some m.cls := findClass_of_methodNamed B.named
  have hlocks := B.notSynchronized
  have hl := lv_entry ([.long p1, .long p2, .int p3]) (n := 5) (Nat.le_of_ble_eq_true rfl)
  rw [lg_entry_eq]
  generalize (lg_sl ([.long p1, .long p2, .int p3]) ++ List.replicate (5 - (lg_sl ([.long p1, .long p2, .int p3])).length) Slot.unset).toArray = ls at hl ⊢
  have hl : lv_has ls 5 [(0, .long p1), (2, .long p2), (4, .int p3)] := hl
  unfold fX4_held at hX
  refine s_start (fun H locs hS => ?_)
  refine lv_lload_n hx hb dX4_held_0 rfl (lv_at hl 0 rfl) ?_
  refine lv_lload_n hx hb dX4_held_1 rfl (lv_at hl 1 rfl) ?_
  refine lv_ldc (v := (1000000:Int32)) hx hb hown (hts _ q1515) dX4_held_2 ?_
  refine lv_iload hx hb dX4_held_4 (lv_at hl 2 rfl) ?_
  refine lv_isub hx hb dX4_held_6 ?_
  refine lv_i2l hx hb dX4_held_7 rfl ?_
  refine lv_lmul hx hb dX4_held_8 ?_
  refine lv_ldc2 (v := (1000000:Int64)) hx hb hown (hts _ q1560) dX4_held_9 ?_
  refine lv_ldiv hx hb dX4_held_12 (by decide) ?_
  refine lv_ladd hx hb dX4_held_13 ?_
  refine lv_ldc2 (v := (10:Int64)) hx hb hown (hts _ q1619) dX4_held_14 ?_
  refine lv_lload_n hx hb dX4_held_17 rfl (lv_at hl 0 rfl) ?_
  refine lv_lmul hx hb dX4_held_18 ?_
  refine lv_iload hx hb dX4_held_19 (lv_at hl 2 rfl) ?_
  refine lv_i2l hx hb dX4_held_21 rfl ?_
  refine lv_lmul hx hb dX4_held_22 ?_
  refine lv_ldc2 (v := (1000000:Int64)) hx hb hown (hts _ q1560) dX4_held_23 ?_
  refine lv_ldiv hx hb dX4_held_26 (by decide) ?_
  refine lv_ladd hx hb dX4_held_27 ?_
  have e1 := rinv hX; subst e1
  exact W.lret hx hb hr (fun t ht hW => ⟨⟨_, (), rfl, rfl, trivial⟩, hS.F ht⟩) hS.2.2 dX4_held_28

abbrev rmX4_copies : Room := { frames := 0, cells := 0, slots := 0, locals := 0 }
def fX4_copies  (σ : MS) : Option MS :=
 lp (fun _ _ => none) (fun (k3 : Int32 → MS → Option MS) (x1 : Int32) (σ2 : MS) =>
 if (4:Int32) ≤ x1 then
 some σ2
 else
 gd (ib x1 8) (
 gd (ib ((4:Int32) + x1) 8) (
 bd (sa σ2 10 ((4:Int32) + x1).toNatClampNeg (σ2.2.1 10 x1.toNatClampNeg)) (fun (σ4 : MS) =>
 bd (x1 + (1:Int32)) (fun (x5 : Int32) =>
 k3 x5 σ4))))) NF (0:Int32) σ
set_option maxHeartbeats 4000000 in
set_option maxRecDepth 100000 in
theorem mX4_copies (l : Launch) (D : va_G) (dA : Nat → ClassId) (ad : Nat → Nat)  {σ : MS} {σz : MS} (hX : fX4_copies σ = some σz) : Met l yX4_copies (ws_ yX4_copies cX4_copies 2 none) (rmX4_copies) (mPc D dA ad σ []) (mQv D dA ad σz) 0 0 (AM ad) := by
  refine Met.ofW (cc := cX4_copies) (maxL := 2) (ret := none) (by decide) rfl ?_
  intro p e s m args below meth c s₁ B hml hv
  obtain ⟨rfl, hH, hK⟩ := hv
  have hx := B.exec
  have hb := B.bytes
  have hr := B.returns
  have hts := atoms_spec (ws := (ws_ yX4_copies cX4_copies 2 none)) B.pre
  have hts : ∀ w ∈ lw_all, w.before _ s = true := fun w h => hts w (List.mem_cons_of_mem _ h)
  have hown : s.vm.findClass RX4 = some m.cls := findClass_of_methodNamed B.named
  have hlocks := B.notSynchronized
  have hl := lv_entry ([.ref (ad 0)]) (n := 2) (Nat.le_of_ble_eq_true rfl)
  rw [lg_entry_eq]
  generalize (lg_sl ([.ref (ad 0)]) ++ List.replicate (2 - (lg_sl ([.ref (ad 0)])).length) Slot.unset).toArray = ls at hl ⊢
  have hl : lv_has ls 2 [(0, .ref (ad 0))] := hl
  unfold fX4_copies at hX
  refine m_start hH (fun H locs hH hS => ?_)
  refine lv_iconst (v := (0:Int32)) hx hb dX4_copies_0 (by decide) ?_
  refine lv_istore_n (lv' := [(1, .int (0:Int32)), (0, .ref (ad 0))]) hx hb dX4_copies_1 rfl hl (by decide) rfl (fun ls hl => ?_)
  refine lpu2 hX (fun (x1 : Int32) (σ2 : MS) => ∀ (H : Heap) (locs : List Loc), HM D dA ad σ2 H → va_S (AM ad) s.heap H locs → ∀ (ls : Array Slot), lv_has ls 2 [(0, .ref (ad 0)), (1, .int x1)] → W p l e (headSpec (ws_ yX4_copies cX4_copies 2 none) (rmX4_copies)).room s m ([.ref (ad 0)] : List Value).toArray below meth c H locs 0 0 (MQ below (mQv D dA ad σz) ([.ref (ad 0)] : List Value).toArray s 0 0 (AM ad)) (F0 m 2 ls [])) (fun k3 hk3 x1 σ2 hX H locs hH hS ls hl => ?_) H locs hH hS ls (lv_sub hl [1, 0] rfl)
  refine lv_iload_n hx hb dX4_copies_2 rfl (lv_at hl 1 rfl) ?_
  refine lv_iconst (v := (4:Int32)) hx hb dX4_copies_3 (by decide) ?_
  refine lv_icmp_ge (tgt := 27) hx hb dX4_copies_4 (by decide) (fun hc => ?_) (fun hc => ?_)
  · replace hX := ipos hc hX; clear hc
    have e1 := rinv hX; subst e1
    exact W.vret hx hb hr (fun t ht hW => ⟨⟨(), rfl, trivial, hH.to ht⟩, hS.F ht⟩) hS.2.2 dX4_copies_27
  · replace hX := ineg hc hX; clear hc
    refine lv_aload_n hx hb dX4_copies_7 rfl (lv_at hl 0 rfl) ?_
    refine m_get (v := .ref (ad 10)) hx hb hts hown hK hH 10 (by decide) (hts _ q1300) rfl dX4_copies_8 ?_
    refine lv_iconst (v := (4:Int32)) hx hb dX4_copies_11 (by decide) ?_
    refine lv_iload_n hx hb dX4_copies_12 rfl (lv_at hl 1 rfl) ?_
    refine lv_iadd hx hb dX4_copies_13 ?_
    refine lv_aload_n hx hb dX4_copies_14 rfl (lv_at hl 0 rfl) ?_
    refine m_get (v := .ref (ad 10)) hx hb hts hown hK hH 10 (by decide) (hts _ q1300) rfl dX4_copies_15 ?_
    refine lv_iload_n hx hb dX4_copies_18 rfl (lv_at hl 1 rfl) ?_
    obtain ⟨hg, hX⟩ := gd_inv hX
    refine m_iald hx hb hK hH 4 10 (n := 8) rfl hg dX4_copies_19 ?_
    obtain ⟨hg, hX⟩ := gd_inv hX
    refine m_iast hx hb hK hH hS 4 10 (n := 8) rfl hg rfl dX4_copies_20 (fun σ4 eσ4 H locs hH hS => ?_)
    replace hX := bd_inv eσ4 hX; clear eσ4
    obtain ⟨x5, ex5⟩ : ∃ y : Int32, y = x1 + (1:Int32) := ⟨_, rfl⟩
    replace hX := bd_inv ex5 hX
    refine lv_iinc (v := x5) (lv' := [(1, .int x5), (0, .ref (ad 0))]) hx hb dX4_copies_21 hl (k := 1) rfl (by rw [ex5]; rfl) (by decide) rfl (fun ls hl => ?_)
    clear ex5
    refine lv_goto (tgt := 2) hx hb dX4_copies_24 (by decide) ?_
    exact hk3 x5 σ4 hX H locs hH hS ls (lv_sub hl [1, 0] rfl)
