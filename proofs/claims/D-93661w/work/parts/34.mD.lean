/-! printed by gen/model.py -/
abbrev rmX4_meanFrom (rc : Room) : Room := { frames := rc.frames + 39, cells := 0, slots := 0, locals := rc.locals + 906 }
def fX4_meanFrom (km : Int32 → Int32 → Int32 → Int32 → MS → Option (Int64 × MS)) (p1 : Int32) (p2 : Int32) (p3 : Int32) (p4 : Int32) (σ : MS) : Option (Int64 × MS) :=
 jn (jn (fun (σ2 : MS) => cl (fX4_harmOf (0:Int32) σ2) (fun (x4 : Int64) =>
 some (x4, σ2))) (fun (k3 : MS → Option (Int64 × MS)) =>
 if p4 = (20:Int32) then
 k3 σ
 else
 cl2 (fX4_letsIn p1 p2 p3 p4 σ) (fun (x6 : Int32) (σ5 : MS) =>
 if x6 = (0:Int32) then
 cl2 (fX4_costOf p4 σ5) (fun (x8 : Int64) (σ7 : MS) =>
 cl2 (fX4_aboard (0:Int32) σ7) (fun (x10 : Int32) (σ9 : MS) =>
 cl2 (km p1 p2 p3 (p4 + (1:Int32)) σ9) (fun (x12 : Int64) (σ11 : MS) =>
 cl (fX4_held x8 x12 x10) (fun (x13 : Int64) =>
 some (x13, σ11)))))
 else
 k3 σ5))) (fun (k1 : Option (Int64 × MS)) =>
 if p1 = (3:Int32) then
 if p4 = p2 then
 if (20:Int32) ≤ p4 then
 k1
 else
 cl2 (fX4_costOf p4 σ) (fun (x15 : Int64) (σ14 : MS) =>
 cl2 (fX4_looks (0:Int32) σ14) (fun (x17 : Int32) (σ16 : MS) =>
 cl (fX4_chance (8:Int32) σ16) (fun (x18 : Int32) =>
 cl (fX4_harmOf (0:Int32) σ16) (fun (x19 : Int64) =>
 some ((((1000:Int64) * (x18.toInt64)) + ((x19 * (((1000000:Int32) - x17).toInt64)) / (1000000:Int64))) + ((((10:Int64) * x15) * (x17.toInt64)) / (1000000:Int64)), σ16)))))
 else
 k1
 else
 k1)
set_option maxHeartbeats 4000000 in
set_option maxRecDepth 100000 in
theorem mX4_meanFrom (l : Launch) (D : va_G) (dA : Nat → ClassId) (ad : Nat → Nat) {rc : Room} (hrc : rc.cells = 0 ∧ rc.slots = 0) {km : Int32 → Int32 → Int32 → Int32 → MS → Option (Int64 × MS)} (hkm : ∀ {q1 : Int32} {q2 : Int32} {q3 : Int32} {q4 : Int32} {σ1 : MS} {r2 : Int64} {σ2 : MS}, km q1 q2 q3 q4 σ1 = some (r2, σ2) → Met l yX4_meanFrom (ws_ yX4_meanFrom cX4_meanFrom 8 (some .long)) rc (mPc D dA ad σ1 [.int q1, .int q2, .int q3, .int q4]) (mQl D dA ad r2 σ2) 0 0 (AM ad)) {p1 : Int32} {p2 : Int32} {p3 : Int32} {p4 : Int32} {σ : MS} {r : Int64} {σz : MS} (hX : fX4_meanFrom km p1 p2 p3 p4 σ = some (r, σz)) : Met l yX4_meanFrom (ws_ yX4_meanFrom cX4_meanFrom 8 (some .long)) (rmX4_meanFrom rc) (mPc D dA ad σ [.int p1, .int p2, .int p3, .int p4]) (mQl D dA ad r σz) 0 0 (AM ad) := by
  refine Met.ofW (cc := cX4_meanFrom) (maxL := 8) (ret := (some .long)) (by decide) rfl ?_
  intro p e s m args below meth c s₁ B hml hv
  obtain ⟨rfl, hH, hK⟩ := hv
  have hx := B.exec
  have hb := B.bytes
  have hr := B.returns
  have hts := atoms_spec (ws := (ws_ yX4_meanFrom cX4_meanFrom 8 (some .long))) B.pre
  have hts : ∀ w ∈ lw_all, w.before _ s = true := fun w h => hts w (List.mem_cons_of_mem _ h)
  have hown : s.vm.findClass RX4 = some m.cls := findClass_of_methodNamed B.named
  have hlocks := B.notSynchronized
  have hl := lv_entry ([.ref (ad 0), .int p1, .int p2, .int p3, .int p4]) (n := 8) (Nat.le_of_ble_eq_true rfl)
  rw [lg_entry_eq]
  generalize (lg_sl ([.ref (ad 0), .int p1, .int p2, .int p3, .int p4]) ++ List.replicate (8 - (lg_sl ([.ref (ad 0), .int p1, .int p2, .int p3, .int p4])).length) Slot.unset).toArray = ls at hl ⊢
  have hl : lv_has ls 8 [(0, .ref (ad 0)), (1, .int p1), (2, .int p2), (3, .int p3), (4, .int p4)] := hl
  unfold fX4_meanFrom at hX
  refine m_start hH (fun H locs hH hS => ?_)
  refine lv_iload_n hx hb dX4_meanFrom_0 rfl (lv_at hl 1 rfl) ?_
  refine lv_iconst (v := (3:Int32)) hx hb dX4_meanFrom_1 (by decide) ?_
  refine jnu0 hX (∀ (H : Heap) (locs : List Loc), HM D dA ad σ H → va_S (AM ad) s.heap H locs → ∀ (ls : Array Slot), lv_has ls 8 [(0, .ref (ad 0)), (1, .int p1), (2, .int p2), (3, .int p3), (4, .int p4)] → W p l e (headSpec (ws_ yX4_meanFrom cX4_meanFrom 8 (some .long)) (rmX4_meanFrom rc)).room s m ([.ref (ad 0), .int p1, .int p2, .int p3, .int p4] : List Value).toArray below meth c H locs 0 0 (MQ below (mQl D dA ad r σz) ([.ref (ad 0), .int p1, .int p2, .int p3, .int p4] : List Value).toArray s 0 0 (AM ad)) (F0 m 77 ls [])) (fun  hX H locs hH hS ls hl => ?_) (fun k1 hk1 hX => ?_)
  · refine lv_iload hx hb dX4_meanFrom_77 (lv_at hl 4 rfl) ?_
    refine lv_bipush (v := (20:Int32)) hx hb dX4_meanFrom_79 (by decide) ?_
    refine jnu1 hX (fun (σ2 : MS) => ∀ (H : Heap) (locs : List Loc), HM D dA ad σ2 H → va_S (AM ad) s.heap H locs → ∀ (ls : Array Slot), lv_has ls 8 [(0, .ref (ad 0))] → W p l e (headSpec (ws_ yX4_meanFrom cX4_meanFrom 8 (some .long)) (rmX4_meanFrom rc)).room s m ([.ref (ad 0), .int p1, .int p2, .int p3, .int p4] : List Value).toArray below meth c H locs 0 0 (MQ below (mQl D dA ad r σz) ([.ref (ad 0), .int p1, .int p2, .int p3, .int p4] : List Value).toArray s 0 0 (AM ad)) (F0 m 96 ls [])) (fun σ2 hX H locs hH hS ls hl => ?_) (fun k3 hk3 hX => ?_)
    · refine lv_aload_n hx hb dX4_meanFrom_96 rfl (lv_at hl 0 rfl) ?_
      refine lv_iconst (v := (0:Int32)) hx hb dX4_meanFrom_97 (by decide) ?_
      obtain ⟨x4, hf, hX⟩ := cl_inv hX
      refine m_callVl (As := [.int (0:Int32)]) ⟨hx, hb, hml, hown, hts⟩ (mX4_harmOf l D dA ad hf) (cwV 1 hts (lw_V q1574 q1576 qs66 q95 q1577) rfl rfl rfl (by decide +kernel) ⟨(show 2 ≤ rc.frames + 39 by omega), (show 43 ≤ rc.locals + 906 by omega)⟩) hK hH hS rfl hl.1 rfl (Nat.le_of_ble_eq_true rfl) dX4_meanFrom_98 (fun H locs hH hS => ?_)
      clear hf
      obtain ⟨e1, e2⟩ := Prod.mk.inj (rinv hX); subst e1; subst e2
      exact W.lret hx hb hr (fun t ht hW => ⟨⟨_, (), rfl, rfl, hH.to ht⟩, hS.F ht⟩) hS.2.2 dX4_meanFrom_101
    · refine lv_icmp_eq (tgt := 96) hx hb dX4_meanFrom_81 (by decide) (fun hc => ?_) (fun hc => ?_)
      · replace hX := ipos hc hX; clear hc
        exact hk3 σ hX H locs hH hS ls (lv_sub hl [0] rfl)
      · replace hX := ineg hc hX; clear hc
        refine lv_aload_n hx hb dX4_meanFrom_84 rfl (lv_at hl 0 rfl) ?_
        refine lv_iload_n hx hb dX4_meanFrom_85 rfl (lv_at hl 1 rfl) ?_
        refine lv_iload_n hx hb dX4_meanFrom_86 rfl (lv_at hl 2 rfl) ?_
        refine lv_iload_n hx hb dX4_meanFrom_87 rfl (lv_at hl 3 rfl) ?_
        refine lv_iload hx hb dX4_meanFrom_88 (lv_at hl 4 rfl) ?_
        obtain ⟨x6, σ5, hf, hX⟩ := cl2_inv hX
        refine m_callVi (As := [.int p1, .int p2, .int p3, .int p4]) ⟨hx, hb, hml, hown, hts⟩ (mX4_letsIn l D dA ad hf) (cwV 4 hts (lw_V q1596 q1598 qs68 q95 q1599) rfl rfl rfl (by decide +kernel) ⟨(show 39 ≤ rc.frames + 39 by omega), (show 906 ≤ rc.locals + 906 by omega)⟩) hK hH hS rfl hl.1 rfl (Nat.le_of_ble_eq_true rfl) dX4_meanFrom_90 (fun H locs hH hS => ?_)
        clear hf
        refine lv_if_eq (tgt := 102) hx hb dX4_meanFrom_93 (by decide) (fun hc => ?_) (fun hc => ?_)
        · replace hX := ipos hc hX; clear hc
          refine lv_aload_n hx hb dX4_meanFrom_102 rfl (lv_at hl 0 rfl) ?_
          refine lv_iload hx hb dX4_meanFrom_103 (lv_at hl 4 rfl) ?_
          obtain ⟨x8, σ7, hf, hX⟩ := cl2_inv hX
          refine m_callVl (As := [.int p4]) ⟨hx, hb, hml, hown, hts⟩ (mX4_costOf l D dA ad hf) (cwV 1 hts (lw_V q1612 q1614 qs72 q95 q1615) rfl rfl rfl (by decide +kernel) ⟨(show 2 ≤ rc.frames + 39 by omega), (show 53 ≤ rc.locals + 906 by omega)⟩) hK hH hS rfl hl.1 rfl (Nat.le_of_ble_eq_true rfl) dX4_meanFrom_105 (fun H locs hH hS => ?_)
          clear hf
          refine lv_lstore (lv' := [(5, .long x8), (0, .ref (ad 0)), (1, .int p1), (2, .int p2), (3, .int p3), (4, .int p4)]) hx hb dX4_meanFrom_108 hl (by decide) rfl (fun ls hl => ?_)
          refine lv_aload_n hx hb dX4_meanFrom_110 rfl (lv_at hl 1 rfl) ?_
          refine lv_iconst (v := (0:Int32)) hx hb dX4_meanFrom_111 (by decide) ?_
          obtain ⟨x10, σ9, hf, hX⟩ := cl2_inv hX
          refine m_callVi (As := [.int (0:Int32)]) ⟨hx, hb, hml, hown, hts⟩ (mX4_aboard l D dA ad hf) (cwV 1 hts (lw_V q1548 q1550 qs62 q95 q1551) rfl rfl rfl (by decide +kernel) ⟨(show 3 ≤ rc.frames + 39 by omega), (show 69 ≤ rc.locals + 906 by omega)⟩) hK hH hS rfl hl.1 rfl (Nat.le_of_ble_eq_true rfl) dX4_meanFrom_112 (fun H locs hH hS => ?_)
          clear hf
          refine lv_istore (lv' := [(7, .int x10), (5, .long x8), (0, .ref (ad 0)), (1, .int p1), (2, .int p2), (3, .int p3), (4, .int p4)]) hx hb dX4_meanFrom_115 hl (by decide) rfl (fun ls hl => ?_)
          refine lv_lload hx hb dX4_meanFrom_117 (lv_at hl 1 rfl) ?_
          refine lv_aload_n hx hb dX4_meanFrom_119 rfl (lv_at hl 2 rfl) ?_
          refine lv_iload_n hx hb dX4_meanFrom_120 rfl (lv_at hl 3 rfl) ?_
          refine lv_iload_n hx hb dX4_meanFrom_121 rfl (lv_at hl 4 rfl) ?_
          refine lv_iload_n hx hb dX4_meanFrom_122 rfl (lv_at hl 5 rfl) ?_
          refine lv_iload hx hb dX4_meanFrom_123 (lv_at hl 6 rfl) ?_
          refine lv_iconst (v := (1:Int32)) hx hb dX4_meanFrom_125 (by decide) ?_
          refine lv_iadd hx hb dX4_meanFrom_126 ?_
          obtain ⟨x12, σ11, hf, hX⟩ := cl2_inv hX
          refine m_callVl (As := [.int p1, .int p2, .int p3, .int (p4 + (1:Int32))]) ⟨hx, hb, hml, hown, hts⟩ (hkm hf) (cwV 4 hts (lw_V q1628 q1630 qs74 q95 q1631) rfl hrc.1 hrc.2 (by decide +kernel) ⟨(show rc.frames + 1 ≤ rc.frames + 39 by omega), (show 27 + rc.locals ≤ rc.locals + 906 by omega)⟩) hK hH hS rfl hl.1 rfl (Nat.le_of_ble_eq_true rfl) dX4_meanFrom_127 (fun H locs hH hS => ?_)
          clear hf
          refine lv_iload hx hb dX4_meanFrom_130 (lv_at hl 0 rfl) ?_
          obtain ⟨x13, hf, hX⟩ := cl_inv hX
          refine m_callSl (As := [.long x8, .long x12, .int x10]) ⟨hx, hb, hml, hown, hts⟩ (mX4_held l hf) (va_cwS 3 hts (lw_S q1616 q1617 q95 q1618) rfl rfl rfl (by decide +kernel) ⟨(show 1 ≤ rc.frames + 39 by omega), (show 24 ≤ rc.locals + 906 by omega)⟩) hH hS rfl hl.1 rfl (Nat.le_of_ble_eq_true rfl) dX4_meanFrom_132 (fun H locs hH hS => ?_)
          clear hf
          obtain ⟨e1, e2⟩ := Prod.mk.inj (rinv hX); subst e1; subst e2
          exact W.lret hx hb hr (fun t ht hW => ⟨⟨_, (), rfl, rfl, hH.to ht⟩, hS.F ht⟩) hS.2.2 dX4_meanFrom_135
        · replace hX := ineg hc hX; clear hc
          exact hk3 σ5 hX H locs hH hS ls (lv_sub hl [0] rfl)
  · refine lv_icmp_ne (tgt := 77) hx hb dX4_meanFrom_2 (by decide) (fun hc => ?_) (fun hc => ?_)
    · replace hX := ineg hc hX; clear hc
      exact hk1  hX H locs hH hS ls (lv_sub hl [0, 1, 2, 3, 4] rfl)
    · replace hX := ipos hc hX; clear hc
      refine lv_iload hx hb dX4_meanFrom_5 (lv_at hl 4 rfl) ?_
      refine lv_iload_n hx hb dX4_meanFrom_7 rfl (lv_at hl 2 rfl) ?_
      refine lv_icmp_ne (tgt := 77) hx hb dX4_meanFrom_8 (by decide) (fun hc => ?_) (fun hc => ?_)
      · replace hX := ineg hc hX; clear hc
        exact hk1  hX H locs hH hS ls (lv_sub hl [0, 1, 2, 3, 4] rfl)
      · replace hX := ipos hc hX; clear hc
        refine lv_iload hx hb dX4_meanFrom_11 (lv_at hl 4 rfl) ?_
        refine lv_bipush (v := (20:Int32)) hx hb dX4_meanFrom_13 (by decide) ?_
        refine lv_icmp_ge (tgt := 77) hx hb dX4_meanFrom_15 (by decide) (fun hc => ?_) (fun hc => ?_)
        · replace hX := ipos hc hX; clear hc
          exact hk1  hX H locs hH hS ls (lv_sub hl [0, 1, 2, 3, 4] rfl)
        · replace hX := ineg hc hX; clear hc
          refine lv_aload_n hx hb dX4_meanFrom_18 rfl (lv_at hl 0 rfl) ?_
          refine lv_iload hx hb dX4_meanFrom_19 (lv_at hl 4 rfl) ?_
          obtain ⟨x15, σ14, hf, hX⟩ := cl2_inv hX
          refine m_callVl (As := [.int p4]) ⟨hx, hb, hml, hown, hts⟩ (mX4_costOf l D dA ad hf) (cwV 1 hts (lw_V q1612 q1614 qs72 q95 q1615) rfl rfl rfl (by decide +kernel) ⟨(show 2 ≤ rc.frames + 39 by omega), (show 53 ≤ rc.locals + 906 by omega)⟩) hK hH hS rfl hl.1 rfl (Nat.le_of_ble_eq_true rfl) dX4_meanFrom_21 (fun H locs hH hS => ?_)
          clear hf
          refine lv_lstore (lv' := [(5, .long x15), (0, .ref (ad 0)), (1, .int p1), (2, .int p2), (3, .int p3), (4, .int p4)]) hx hb dX4_meanFrom_24 hl (by decide) rfl (fun ls hl => ?_)
          refine lv_aload_n hx hb dX4_meanFrom_26 rfl (lv_at hl 1 rfl) ?_
          refine lv_iconst (v := (0:Int32)) hx hb dX4_meanFrom_27 (by decide) ?_
          obtain ⟨x17, σ16, hf, hX⟩ := cl2_inv hX
          refine m_callVi (As := [.int (0:Int32)]) ⟨hx, hb, hml, hown, hts⟩ (mX4_looks l D dA ad hf) (cwV 1 hts (lw_V q1565 q1567 qs65 q95 q1568) rfl rfl rfl (by decide +kernel) ⟨(show 2 ≤ rc.frames + 39 by omega), (show 50 ≤ rc.locals + 906 by omega)⟩) hK hH hS rfl hl.1 rfl (Nat.le_of_ble_eq_true rfl) dX4_meanFrom_28 (fun H locs hH hS => ?_)
          clear hf
          refine lv_istore (lv' := [(7, .int x17), (5, .long x15), (0, .ref (ad 0)), (1, .int p1), (2, .int p2), (3, .int p3), (4, .int p4)]) hx hb dX4_meanFrom_31 hl (by decide) rfl (fun ls hl => ?_)
          refine lv_ldc2 (v := (1000:Int64)) hx hb hown (hts _ q1523) dX4_meanFrom_33 ?_
          refine lv_aload_n hx hb dX4_meanFrom_36 rfl (lv_at hl 2 rfl) ?_
          refine lv_bipush (v := (8:Int32)) hx hb dX4_meanFrom_37 (by decide) ?_
          obtain ⟨x18, hf, hX⟩ := cl_inv hX
          refine m_callVi (As := [.int (8:Int32)]) ⟨hx, hb, hml, hown, hts⟩ (mX4_chance l D dA ad hf) (cwV 1 hts (lw_V q1552 q1554 qs63 q95 q1555) rfl rfl rfl (by decide +kernel) ⟨(show 1 ≤ rc.frames + 39 by omega), (show 22 ≤ rc.locals + 906 by omega)⟩) hK hH hS rfl hl.1 rfl (Nat.le_of_ble_eq_true rfl) dX4_meanFrom_39 (fun H locs hH hS => ?_)
          clear hf
          refine lv_i2l hx hb dX4_meanFrom_42 rfl ?_
          refine lv_lmul hx hb dX4_meanFrom_43 ?_
          refine lv_aload_n hx hb dX4_meanFrom_44 rfl (lv_at hl 2 rfl) ?_
          refine lv_iconst (v := (0:Int32)) hx hb dX4_meanFrom_45 (by decide) ?_
          obtain ⟨x19, hf, hX⟩ := cl_inv hX
          refine m_callVl (As := [.int (0:Int32)]) ⟨hx, hb, hml, hown, hts⟩ (mX4_harmOf l D dA ad hf) (cwV 1 hts (lw_V q1574 q1576 qs66 q95 q1577) rfl rfl rfl (by decide +kernel) ⟨(show 2 ≤ rc.frames + 39 by omega), (show 43 ≤ rc.locals + 906 by omega)⟩) hK hH hS rfl hl.1 rfl (Nat.le_of_ble_eq_true rfl) dX4_meanFrom_46 (fun H locs hH hS => ?_)
          clear hf
          refine lv_ldc (v := (1000000:Int32)) hx hb hown (hts _ q1515) dX4_meanFrom_49 ?_
          refine lv_iload hx hb dX4_meanFrom_51 (lv_at hl 0 rfl) ?_
          refine lv_isub hx hb dX4_meanFrom_53 ?_
          refine lv_i2l hx hb dX4_meanFrom_54 rfl ?_
          refine lv_lmul hx hb dX4_meanFrom_55 ?_
          refine lv_ldc2 (v := (1000000:Int64)) hx hb hown (hts _ q1560) dX4_meanFrom_56 ?_
          refine lv_ldiv hx hb dX4_meanFrom_59 (by decide) ?_
          refine lv_ladd hx hb dX4_meanFrom_60 ?_
          refine lv_ldc2 (v := (10:Int64)) hx hb hown (hts _ q1619) dX4_meanFrom_61 ?_
          refine lv_lload hx hb dX4_meanFrom_64 (lv_at hl 1 rfl) ?_
          refine lv_lmul hx hb dX4_meanFrom_66 ?_
          refine lv_iload hx hb dX4_meanFrom_67 (lv_at hl 0 rfl) ?_
          refine lv_i2l hx hb dX4_meanFrom_69 rfl ?_
          refine lv_lmul hx hb dX4_meanFrom_70 ?_
          refine lv_ldc2 (v := (1000000:Int64)) hx hb hown (hts _ q1560) dX4_meanFrom_71 ?_
          refine lv_ldiv hx hb dX4_meanFrom_74 (by decide) ?_
          refine lv_ladd hx hb dX4_meanFrom_75 ?_
          obtain ⟨e1, e2⟩ := Prod.mk.inj (rinv hX); subst e1; subst e2
          exact W.lret hx hb hr (fun t ht hW => ⟨⟨_, (), rfl, rfl, hH.to ht⟩, hS.F ht⟩) hS.2.2 dX4_meanFrom_76

def gX4_meanFrom : Nat → Int32 → Int32 → Int32 → Int32 → MS → Option (Int64 × MS)
  | 0 => fun _ _ _ _ _ => none
  | n + 1 => fX4_meanFrom (gX4_meanFrom n)
def rgX4_meanFrom : Nat → Room
  | 0 => { frames := 0, cells := 0, slots := 0, locals := 0 }
  | n + 1 => rmX4_meanFrom (rgX4_meanFrom n)
theorem rgX4_meanFrom_0 (n : Nat) : (rgX4_meanFrom n).cells = 0 ∧ (rgX4_meanFrom n).slots = 0 := by cases n <;> exact ⟨rfl, rfl⟩
theorem mgX4_meanFrom (l : Launch) (D : va_G) (dA : Nat → ClassId) (ad : Nat → Nat) : ∀ (n : Nat) {p1 : Int32} {p2 : Int32} {p3 : Int32} {p4 : Int32} {σ : MS} {r : Int64} {σz : MS}, gX4_meanFrom n p1 p2 p3 p4 σ = some (r, σz) → Met l yX4_meanFrom (ws_ yX4_meanFrom cX4_meanFrom 8 (some .long)) (rgX4_meanFrom n) (mPc D dA ad σ [.int p1, .int p2, .int p3, .int p4]) (mQl D dA ad r σz) 0 0 (AM ad) := by
  intro n
  induction n with
  | zero => intro _ _ _ _ _ _ _ h; cases h
  | succ n ih => intro _ _ _ _ _ _ _ h; exact mX4_meanFrom l D dA ad (rgX4_meanFrom_0 n) (fun hf => ih hf) h

abbrev rmX4_meanOf : Room := { frames := 937, cells := 0, slots := 0, locals := 21771 }
def fX4_meanOf (p1 : Int32) (σ : MS) : Option (Int64 × MS) :=
 gd (ib ((1000:Int32) + p1) 1160) (
 gd (ib ((1012:Int32) + p1) 1160) (
 cl2 (gX4_meanFrom 24 (σ.2.1 1 ((1000:Int32) + p1).toNatClampNeg) (σ.2.1 1 ((1012:Int32) + p1).toNatClampNeg) p1 (0:Int32) σ) (fun (x2 : Int64) (σ1 : MS) =>
 some (x2, σ1))))
set_option maxHeartbeats 4000000 in
set_option maxRecDepth 100000 in
theorem mX4_meanOf (l : Launch) (D : va_G) (dA : Nat → ClassId) (ad : Nat → Nat) {p1 : Int32} {σ : MS} {r : Int64} {σz : MS} (hX : fX4_meanOf p1 σ = some (r, σz)) : Met l yX4_meanOf (ws_ yX4_meanOf cX4_meanOf 2 (some .long)) (rmX4_meanOf) (mPc D dA ad σ [.int p1]) (mQl D dA ad r σz) 0 0 (AM ad) := by
  refine Met.ofW (cc := cX4_meanOf) (maxL := 2) (ret := (some .long)) (by decide) rfl ?_
  intro p e s m args below meth c s₁ B hml hv
  obtain ⟨rfl, hH, hK⟩ := hv
  have hx := B.exec
  have hb := B.bytes
  have hr := B.returns
  have hts := atoms_spec (ws := (ws_ yX4_meanOf cX4_meanOf 2 (some .long))) B.pre
  have hts : ∀ w ∈ lw_all, w.before _ s = true := fun w h => hts w (List.mem_cons_of_mem _ h)
  have hown : s.vm.findClass RX4 = some m.cls := findClass_of_methodNamed B.named
  have hlocks := B.notSynchronized
  have hl := lv_entry ([.ref (ad 0), .int p1]) (n := 2) (Nat.le_of_ble_eq_true rfl)
  rw [lg_entry_eq]
  generalize (lg_sl ([.ref (ad 0), .int p1]) ++ List.replicate (2 - (lg_sl ([.ref (ad 0), .int p1])).length) Slot.unset).toArray = ls at hl ⊢
  have hl : lv_has ls 2 [(0, .ref (ad 0)), (1, .int p1)] := hl
  unfold fX4_meanOf at hX
  refine m_start hH (fun H locs hH hS => ?_)
  refine lv_aload_n hx hb dX4_meanOf_0 rfl (lv_at hl 0 rfl) ?_
  refine lv_aload_n hx hb dX4_meanOf_1 rfl (lv_at hl 0 rfl) ?_
  refine m_get (v := .ref (ad 1)) hx hb hts hown hK hH 1 (by decide) (hts _ q1291) rfl dX4_meanOf_2 ?_
  refine lv_sipush (v := (1000:Int32)) hx hb dX4_meanOf_5 (by decide) ?_
  refine lv_iload_n hx hb dX4_meanOf_8 rfl (lv_at hl 1 rfl) ?_
  refine lv_iadd hx hb dX4_meanOf_9 ?_
  obtain ⟨hg, hX⟩ := gd_inv hX
  refine m_iald hx hb hK hH 1 1 (n := 1160) rfl hg dX4_meanOf_10 ?_
  refine lv_aload_n hx hb dX4_meanOf_11 rfl (lv_at hl 0 rfl) ?_
  refine m_get (v := .ref (ad 1)) hx hb hts hown hK hH 1 (by decide) (hts _ q1291) rfl dX4_meanOf_12 ?_
  refine lv_sipush (v := (1012:Int32)) hx hb dX4_meanOf_15 (by decide) ?_
  refine lv_iload_n hx hb dX4_meanOf_18 rfl (lv_at hl 1 rfl) ?_
  refine lv_iadd hx hb dX4_meanOf_19 ?_
  obtain ⟨hg, hX⟩ := gd_inv hX
  refine m_iald hx hb hK hH 1 1 (n := 1160) rfl hg dX4_meanOf_20 ?_
  refine lv_iload_n hx hb dX4_meanOf_21 rfl (lv_at hl 1 rfl) ?_
  refine lv_iconst (v := (0:Int32)) hx hb dX4_meanOf_22 (by decide) ?_
  obtain ⟨x2, σ1, hf, hX⟩ := cl2_inv hX
  refine m_callVl (As := [.int (σ.2.1 1 ((1000:Int32) + p1).toNatClampNeg), .int (σ.2.1 1 ((1012:Int32) + p1).toNatClampNeg), .int p1, .int (0:Int32)]) ⟨hx, hb, hml, hown, hts⟩ (mgX4_meanFrom l D dA ad 24 hf) (cwV 4 hts (lw_V q1628 q1630 qs74 q95 q1631) rfl rfl rfl (by decide +kernel) ⟨Nat.le_of_ble_eq_true rfl, Nat.le_of_ble_eq_true rfl⟩) hK hH hS rfl hl.1 rfl (Nat.le_of_ble_eq_true rfl) dX4_meanOf_23 (fun H locs hH hS => ?_)
  clear hf
  obtain ⟨e1, e2⟩ := Prod.mk.inj (rinv hX); subst e1; subst e2
  exact W.lret hx hb hr (fun t ht hW => ⟨⟨_, (), rfl, rfl, hH.to ht⟩, hS.F ht⟩) hS.2.2 dX4_meanOf_26

abbrev rmX4_mean : Room := { frames := 938, cells := 0, slots := 0, locals := 21792 }
def fX4_mean (p1 : Int32) (p2 : Int32) (σ : MS) : Option (Int64 × MS) :=
 cl (fX4_isRule p1 σ) (fun (x1 : Int32) =>
 jn (some ((-9223372036854775808:Int64), σ)) (fun (k2 : Option (Int64 × MS)) =>
 if x1 = (0:Int32) then
 k2
 else
 cl (fX4_isShip p2 σ) (fun (x3 : Int32) =>
 if x3 = (0:Int32) then
 k2
 else
 cl (fX4_takes p2 σ) (fun (σ4 : MS) =>
 cl2 (fX4_meanOf p1 σ4) (fun (x6 : Int64) (σ5 : MS) =>
 some (x6, σ5))))))
set_option maxHeartbeats 4000000 in
set_option maxRecDepth 100000 in
theorem mX4_mean (l : Launch) (D : va_G) (dA : Nat → ClassId) (ad : Nat → Nat) {p1 : Int32} {p2 : Int32} {σ : MS} {r : Int64} {σz : MS} (hX : fX4_mean p1 p2 σ = some (r, σz)) : Met l yX4_mean (ws_ yX4_mean cX4_mean 3 (some .long)) (rmX4_mean) (mPc D dA ad σ [.int p1, .int p2]) (mQl D dA ad r σz) 0 0 (AM ad) := by
  refine Met.ofW (cc := cX4_mean) (maxL := 3) (ret := (some .long)) (by decide) rfl ?_
  intro p e s m args below meth c s₁ B hml hv
  obtain ⟨rfl, hH, hK⟩ := hv
  have hx := B.exec
  have hb := B.bytes
  have hr := B.returns
  have hts := atoms_spec (ws := (ws_ yX4_mean cX4_mean 3 (some .long))) B.pre
  have hts : ∀ w ∈ lw_all, w.before _ s = true := fun w h => hts w (List.mem_cons_of_mem _ h)
  have hown : s.vm.findClass RX4 = some m.cls := findClass_of_methodNamed B.named
  have hlocks := B.notSynchronized
  have hl := lv_entry ([.ref (ad 0), .int p1, .int p2]) (n := 3) (Nat.le_of_ble_eq_true rfl)
  rw [lg_entry_eq]
  generalize (lg_sl ([.ref (ad 0), .int p1, .int p2]) ++ List.replicate (3 - (lg_sl ([.ref (ad 0), .int p1, .int p2])).length) Slot.unset).toArray = ls at hl ⊢
  have hl : lv_has ls 3 [(0, .ref (ad 0)), (1, .int p1), (2, .int p2)] := hl
  unfold fX4_mean at hX
  refine m_start hH (fun H locs hH hS => ?_)
  refine lv_aload_n hx hb dX4_mean_0 rfl (lv_at hl 0 rfl) ?_
  refine lv_iload_n hx hb dX4_mean_1 rfl (lv_at hl 1 rfl) ?_
  obtain ⟨x1, hf, hX⟩ := cl_inv hX
  refine m_callVi (As := [.int p1]) ⟨hx, hb, hml, hown, hts⟩ (mX4_isRule l D dA ad hf) (cwV 1 hts (lw_V q1588 q1590 qs67 q95 q1591) rfl rfl rfl (by decide +kernel) ⟨Nat.le_of_ble_eq_true rfl, Nat.le_of_ble_eq_true rfl⟩) hK hH hS rfl hl.1 rfl (Nat.le_of_ble_eq_true rfl) dX4_mean_2 (fun H locs hH hS => ?_)
  clear hf
  refine jnu0 hX (∀ (H : Heap) (locs : List Loc), HM D dA ad σ H → va_S (AM ad) s.heap H locs → ∀ (ls : Array Slot), lv_has ls 3 [] → W p l e (headSpec (ws_ yX4_mean cX4_mean 3 (some .long)) (rmX4_mean)).room s m ([.ref (ad 0), .int p1, .int p2] : List Value).toArray below meth c H locs 0 0 (MQ below (mQl D dA ad r σz) ([.ref (ad 0), .int p1, .int p2] : List Value).toArray s 0 0 (AM ad)) (F0 m 16 ls [])) (fun  hX H locs hH hS ls hl => ?_) (fun k2 hk2 hX => ?_)
  · refine lv_ldc2 (v := (-9223372036854775808:Int64)) hx hb hown (hts _ q1573) dX4_mean_16 ?_
    obtain ⟨e1, e2⟩ := Prod.mk.inj (rinv hX); subst e1; subst e2
    exact W.lret hx hb hr (fun t ht hW => ⟨⟨_, (), rfl, rfl, hH.to ht⟩, hS.F ht⟩) hS.2.2 dX4_mean_19
  · refine lv_if_eq (tgt := 16) hx hb dX4_mean_5 (by decide) (fun hc => ?_) (fun hc => ?_)
    · replace hX := ipos hc hX; clear hc
      exact hk2  hX H locs hH hS ls (lv_sub hl [] rfl)
    · replace hX := ineg hc hX; clear hc
      refine lv_aload_n hx hb dX4_mean_8 rfl (lv_at hl 0 rfl) ?_
      refine lv_iload_n hx hb dX4_mean_9 rfl (lv_at hl 2 rfl) ?_
      obtain ⟨x3, hf, hX⟩ := cl_inv hX
      refine m_callVi (As := [.int p2]) ⟨hx, hb, hml, hown, hts⟩ (mX4_isShip l D dA ad hf) (cwV 1 hts (lw_V q1532 q1534 qs61 q95 q1535) rfl rfl rfl (by decide +kernel) ⟨Nat.le_of_ble_eq_true rfl, Nat.le_of_ble_eq_true rfl⟩) hK hH hS rfl hl.1 rfl (Nat.le_of_ble_eq_true rfl) dX4_mean_10 (fun H locs hH hS => ?_)
      clear hf
      refine lv_if_ne (tgt := 20) hx hb dX4_mean_13 (by decide) (fun hc => ?_) (fun hc => ?_)
      · replace hX := ineg hc hX; clear hc
        refine lv_aload_n hx hb dX4_mean_20 rfl (lv_at hl 0 rfl) ?_
        refine lv_iload_n hx hb dX4_mean_21 rfl (lv_at hl 2 rfl) ?_
        obtain ⟨σ4, hf, hX⟩ := cl_inv hX
        refine m_callVv (As := [.int p2]) ⟨hx, hb, hml, hown, hts⟩ (mX4_takes l D dA ad hf) (cwV 1 hts (lw_V q1507 q1509 qs57 q95 q1510) rfl rfl rfl (by decide +kernel) ⟨Nat.le_of_ble_eq_true rfl, Nat.le_of_ble_eq_true rfl⟩) hK hH hS rfl hl.1 rfl (Nat.le_of_ble_eq_true rfl) dX4_mean_22 (fun H locs hH hS => ?_)
        clear hf
        refine lv_aload_n hx hb dX4_mean_25 rfl (lv_at hl 0 rfl) ?_
        refine lv_iload_n hx hb dX4_mean_26 rfl (lv_at hl 1 rfl) ?_
        obtain ⟨x6, σ5, hf, hX⟩ := cl2_inv hX
        refine m_callVl (As := [.int p1]) ⟨hx, hb, hml, hown, hts⟩ (mX4_meanOf l D dA ad hf) (cwV 1 hts (lw_V q1624 q1626 qs73 q95 q1627) rfl rfl rfl (by decide +kernel) ⟨Nat.le_of_ble_eq_true rfl, Nat.le_of_ble_eq_true rfl⟩) hK hH hS rfl hl.1 rfl (Nat.le_of_ble_eq_true rfl) dX4_mean_27 (fun H locs hH hS => ?_)
        clear hf
        obtain ⟨e1, e2⟩ := Prod.mk.inj (rinv hX); subst e1; subst e2
        exact W.lret hx hb hr (fun t ht hW => ⟨⟨_, (), rfl, rfl, hH.to ht⟩, hS.F ht⟩) hS.2.2 dX4_mean_30
      · replace hX := ipos hc hX; clear hc
        exact hk2  hX H locs hH hS ls (lv_sub hl [] rfl)

abbrev rmX4_leastOf : Room := { frames := 937, cells := 0, slots := 0, locals := 21771 }
def fX4_leastOf (p1 : Int32) (p2 : Int32) (p3 : Int32) (p4 : Int32) (σ : MS) : Option (Int32 × MS) :=
 lp (fun _ _ _ _ => none) (fun (k5 : Int32 → Int64 → Int32 → MS → Option (Int32 × MS)) (x1 : Int32) (x2 : Int64) (x3 : Int32) (σ4 : MS) =>
 if p3 < x3 then
 some (x1, σ4)
 else
 cl (fX4_takes p1 σ4) (fun (σ6 : MS) =>
 bd (sf σ6 14 p4) (fun (σ7 : MS) =>
 cl2 (gX4_meanFrom 24 p2 x3 (-1:Int32) (0:Int32) σ7) (fun (x9 : Int64) (σ8 : MS) =>
 jn (fun (x10 : Int32) => jn (fun (x12 : Int64) => bd (x3 + (1:Int32)) (fun (x14 : Int32) =>
 k5 x10 x12 x14 σ8)) (fun (k13 : Int64 → Option (Int32 × MS)) =>
 jn (k13 x9) (fun (k15 : Option (Int32 × MS)) =>
 if x3 = (0:Int32) then
 k15
 else
 if (0:Int32) ≤ (lg_cmp x9 x2) then
 k13 x2
 else
 k15))) (fun (k11 : Int32 → Option (Int32 × MS)) =>
 jn (k11 x3) (fun (k16 : Option (Int32 × MS)) =>
 if x3 = (0:Int32) then
 k16
 else
 if (0:Int32) ≤ (lg_cmp x9 x2) then
 k11 x1
 else
 k16)))))) NF (0:Int32) (0:Int64) (0:Int32) σ
set_option maxHeartbeats 4000000 in
set_option maxRecDepth 100000 in
theorem mX4_leastOf (l : Launch) (D : va_G) (dA : Nat → ClassId) (ad : Nat → Nat) {p1 : Int32} {p2 : Int32} {p3 : Int32} {p4 : Int32} {σ : MS} {r : Int32} {σz : MS} (hX : fX4_leastOf p1 p2 p3 p4 σ = some (r, σz)) : Met l yX4_leastOf (ws_ yX4_leastOf cX4_leastOf 11 (some .int)) (rmX4_leastOf) (mPc D dA ad σ [.int p1, .int p2, .int p3, .int p4]) (mQi D dA ad r σz) 0 0 (AM ad) := by
  refine Met.ofW (cc := cX4_leastOf) (maxL := 11) (ret := (some .int)) (by decide) rfl ?_
  intro p e s m args below meth c s₁ B hml hv
  obtain ⟨rfl, hH, hK⟩ := hv
  have hx := B.exec
  have hb := B.bytes
  have hr := B.returns
  have hts := atoms_spec (ws := (ws_ yX4_leastOf cX4_leastOf 11 (some .int))) B.pre
  have hts : ∀ w ∈ lw_all, w.before _ s = true := fun w h => hts w (List.mem_cons_of_mem _ h)
  have hown : s.vm.findClass RX4 = some m.cls := findClass_of_methodNamed B.named
  have hlocks := B.notSynchronized
  have hl := lv_entry ([.ref (ad 0), .int p1, .int p2, .int p3, .int p4]) (n := 11) (Nat.le_of_ble_eq_true rfl)
  rw [lg_entry_eq]
  generalize (lg_sl ([.ref (ad 0), .int p1, .int p2, .int p3, .int p4]) ++ List.replicate (11 - (lg_sl ([.ref (ad 0), .int p1, .int p2, .int p3, .int p4])).length) Slot.unset).toArray = ls at hl ⊢
  have hl : lv_has ls 11 [(0, .ref (ad 0)), (1, .int p1), (2, .int p2), (3, .int p3), (4, .int p4)] := hl
  unfold fX4_leastOf at hX
  refine m_start hH (fun H locs hH hS => ?_)
  refine lv_iconst (v := (0:Int32)) hx hb dX4_leastOf_0 (by decide) ?_
  refine lv_istore (lv' := [(5, .int (0:Int32)), (0, .ref (ad 0)), (1, .int p1), (2, .int p2), (3, .int p3), (4, .int p4)]) hx hb dX4_leastOf_1 hl (by decide) rfl (fun ls hl => ?_)
  refine lv_lconst (v := (0:Int64)) hx hb dX4_leastOf_3 (by decide) ?_
  refine lv_lstore (lv' := [(6, .long (0:Int64)), (5, .int (0:Int32)), (0, .ref (ad 0)), (1, .int p1), (2, .int p2), (3, .int p3), (4, .int p4)]) hx hb dX4_leastOf_4 hl (by decide) rfl (fun ls hl => ?_)
  refine lv_iconst (v := (0:Int32)) hx hb dX4_leastOf_6 (by decide) ?_
  refine lv_istore (lv' := [(8, .int (0:Int32)), (6, .long (0:Int64)), (5, .int (0:Int32)), (0, .ref (ad 0)), (1, .int p1), (2, .int p2), (3, .int p3), (4, .int p4)]) hx hb dX4_leastOf_7 hl (by decide) rfl (fun ls hl => ?_)
  refine lpu4 hX (fun (x1 : Int32) (x2 : Int64) (x3 : Int32) (σ4 : MS) => ∀ (H : Heap) (locs : List Loc), HM D dA ad σ4 H → va_S (AM ad) s.heap H locs → ∀ (ls : Array Slot), lv_has ls 11 [(0, .ref (ad 0)), (1, .int p1), (2, .int p2), (3, .int p3), (4, .int p4), (5, .int x1), (6, .long x2), (8, .int x3)] → W p l e (headSpec (ws_ yX4_leastOf cX4_leastOf 11 (some .int)) (rmX4_leastOf)).room s m ([.ref (ad 0), .int p1, .int p2, .int p3, .int p4] : List Value).toArray below meth c H locs 0 0 (MQ below (mQi D dA ad r σz) ([.ref (ad 0), .int p1, .int p2, .int p3, .int p4] : List Value).toArray s 0 0 (AM ad)) (F0 m 9 ls [])) (fun k5 hk5 x1 x2 x3 σ4 hX H locs hH hS ls hl => ?_) H locs hH hS ls (lv_sub hl [3, 4, 5, 6, 7, 2, 1, 0] rfl)
  refine lv_iload hx hb dX4_leastOf_9 (lv_at hl 7 rfl) ?_
  refine lv_iload_n hx hb dX4_leastOf_11 rfl (lv_at hl 3 rfl) ?_
  refine lv_icmp_gt (tgt := 87) hx hb dX4_leastOf_12 (by decide) (fun hc => ?_) (fun hc => ?_)
  · replace hX := ipos hc hX; clear hc
    refine lv_iload hx hb dX4_leastOf_87 (lv_at hl 5 rfl) ?_
    obtain ⟨e1, e2⟩ := Prod.mk.inj (rinv hX); subst e1; subst e2
    exact W.iret hx hb hr (fun t ht hW => ⟨⟨_, (), rfl, rfl, hH.to ht⟩, hS.F ht⟩) hS.2.2 dX4_leastOf_89
  · replace hX := ineg hc hX; clear hc
    refine lv_aload_n hx hb dX4_leastOf_15 rfl (lv_at hl 0 rfl) ?_
    refine lv_iload_n hx hb dX4_leastOf_16 rfl (lv_at hl 1 rfl) ?_
    obtain ⟨σ6, hf, hX⟩ := cl_inv hX
    refine m_callVv (As := [.int p1]) ⟨hx, hb, hml, hown, hts⟩ (mX4_takes l D dA ad hf) (cwV 1 hts (lw_V q1507 q1509 qs57 q95 q1510) rfl rfl rfl (by decide +kernel) ⟨Nat.le_of_ble_eq_true rfl, Nat.le_of_ble_eq_true rfl⟩) hK hH hS rfl hl.1 rfl (Nat.le_of_ble_eq_true rfl) dX4_leastOf_17 (fun H locs hH hS => ?_)
    clear hf
    refine lv_aload_n hx hb dX4_leastOf_20 rfl (lv_at hl 0 rfl) ?_
    refine lv_iload hx hb dX4_leastOf_21 (lv_at hl 4 rfl) ?_
    refine m_put (ty := .int) hx hb hts hown hK hH hS 14 (by decide) (hts _ q1304) rfl (tyX4_ok 14 (by decide)) rfl rfl rfl dX4_leastOf_23 (fun σ7 eσ7 H locs hH hS => ?_)
    replace hX := bd_inv eσ7 hX; clear eσ7
    refine lv_aload_n hx hb dX4_leastOf_26 rfl (lv_at hl 0 rfl) ?_
    refine lv_iload_n hx hb dX4_leastOf_27 rfl (lv_at hl 2 rfl) ?_
    refine lv_iload hx hb dX4_leastOf_28 (lv_at hl 7 rfl) ?_
    refine lv_iconst (v := (-1:Int32)) hx hb dX4_leastOf_30 (by decide) ?_
    refine lv_iconst (v := (0:Int32)) hx hb dX4_leastOf_31 (by decide) ?_
    obtain ⟨x9, σ8, hf, hX⟩ := cl2_inv hX
    refine m_callVl (As := [.int p2, .int x3, .int (-1:Int32), .int (0:Int32)]) ⟨hx, hb, hml, hown, hts⟩ (mgX4_meanFrom l D dA ad 24 hf) (cwV 4 hts (lw_V q1628 q1630 qs74 q95 q1631) rfl rfl rfl (by decide +kernel) ⟨Nat.le_of_ble_eq_true rfl, Nat.le_of_ble_eq_true rfl⟩) hK hH hS rfl hl.1 rfl (Nat.le_of_ble_eq_true rfl) dX4_leastOf_32 (fun H locs hH hS => ?_)
    clear hf
    refine lv_lstore (lv' := [(9, .long x9), (0, .ref (ad 0)), (1, .int p1), (2, .int p2), (3, .int p3), (4, .int p4), (5, .int x1), (6, .long x2), (8, .int x3)]) hx hb dX4_leastOf_35 hl (by decide) rfl (fun ls hl => ?_)
    refine lv_iload hx hb dX4_leastOf_37 (lv_at hl 8 rfl) ?_
    refine jnu1 hX (fun (x10 : Int32) => ∀ (H : Heap) (locs : List Loc), HM D dA ad σ8 H → va_S (AM ad) s.heap H locs → ∀ (ls : Array Slot), lv_has ls 11 [(0, .ref (ad 0)), (1, .int p1), (2, .int p2), (3, .int p3), (4, .int p4), (6, .long x2), (8, .int x3), (9, .long x9)] → W p l e (headSpec (ws_ yX4_leastOf cX4_leastOf 11 (some .int)) (rmX4_leastOf)).room s m ([.ref (ad 0), .int p1, .int p2, .int p3, .int p4] : List Value).toArray below meth c H locs 0 0 (MQ below (mQi D dA ad r σz) ([.ref (ad 0), .int p1, .int p2, .int p3, .int p4] : List Value).toArray s 0 0 (AM ad)) (F0 m 57 ls [.int x10])) (fun x10 hX H locs hH hS ls hl => ?_) (fun k11 hk11 hX => ?_)
    · refine lv_istore (lv' := [(5, .int x10), (0, .ref (ad 0)), (1, .int p1), (2, .int p2), (3, .int p3), (4, .int p4), (6, .long x2), (8, .int x3), (9, .long x9)]) hx hb dX4_leastOf_57 hl (by decide) rfl (fun ls hl => ?_)
      refine lv_iload hx hb dX4_leastOf_59 (lv_at hl 7 rfl) ?_
      refine jnu1 hX (fun (x12 : Int64) => ∀ (H : Heap) (locs : List Loc), HM D dA ad σ8 H → va_S (AM ad) s.heap H locs → ∀ (ls : Array Slot), lv_has ls 11 [(0, .ref (ad 0)), (1, .int p1), (2, .int p2), (3, .int p3), (4, .int p4), (5, .int x10), (8, .int x3)] → W p l e (headSpec (ws_ yX4_leastOf cX4_leastOf 11 (some .int)) (rmX4_leastOf)).room s m ([.ref (ad 0), .int p1, .int p2, .int p3, .int p4] : List Value).toArray below meth c H locs 0 0 (MQ below (mQi D dA ad r σz) ([.ref (ad 0), .int p1, .int p2, .int p3, .int p4] : List Value).toArray s 0 0 (AM ad)) (F0 m 79 ls [.long x12])) (fun x12 hX H locs hH hS ls hl => ?_) (fun k13 hk13 hX => ?_)
      · refine lv_lstore (lv' := [(6, .long x12), (0, .ref (ad 0)), (1, .int p1), (2, .int p2), (3, .int p3), (4, .int p4), (5, .int x10), (8, .int x3)]) hx hb dX4_leastOf_79 hl (by decide) rfl (fun ls hl => ?_)
        obtain ⟨x14, ex14⟩ : ∃ y : Int32, y = x3 + (1:Int32) := ⟨_, rfl⟩
        replace hX := bd_inv ex14 hX
        refine lv_iinc (v := x14) (lv' := [(8, .int x14), (6, .long x12), (0, .ref (ad 0)), (1, .int p1), (2, .int p2), (3, .int p3), (4, .int p4), (5, .int x10)]) hx hb dX4_leastOf_81 hl (k := 7) rfl (by rw [ex14]; rfl) (by decide) rfl (fun ls hl => ?_)
        clear ex14
        refine lv_goto (tgt := 9) hx hb dX4_leastOf_84 (by decide) ?_
        exact hk5 x10 x12 x14 σ8 hX H locs hH hS ls (lv_sub hl [2, 3, 4, 5, 6, 7, 1, 0] rfl)
      · refine jnu0 hX (∀ (H : Heap) (locs : List Loc), HM D dA ad σ8 H → va_S (AM ad) s.heap H locs → ∀ (ls : Array Slot), lv_has ls 11 [(0, .ref (ad 0)), (1, .int p1), (2, .int p2), (3, .int p3), (4, .int p4), (5, .int x10), (8, .int x3), (9, .long x9)] → W p l e (headSpec (ws_ yX4_leastOf cX4_leastOf 11 (some .int)) (rmX4_leastOf)).room s m ([.ref (ad 0), .int p1, .int p2, .int p3, .int p4] : List Value).toArray below meth c H locs 0 0 (MQ below (mQi D dA ad r σz) ([.ref (ad 0), .int p1, .int p2, .int p3, .int p4] : List Value).toArray s 0 0 (AM ad)) (F0 m 72 ls [])) (fun  hX H locs hH hS ls hl => ?_) (fun k15 hk15 hX => ?_)
        · refine lv_lload hx hb dX4_leastOf_72 (lv_at hl 7 rfl) ?_
          refine lv_goto (tgt := 79) hx hb dX4_leastOf_74 (by decide) ?_
          exact hk13 x9 hX H locs hH hS ls (lv_sub hl [0, 1, 2, 3, 4, 5, 6] rfl)
        · refine lv_if_eq (tgt := 72) hx hb dX4_leastOf_61 (by decide) (fun hc => ?_) (fun hc => ?_)
          · replace hX := ipos hc hX; clear hc
            exact hk15  hX H locs hH hS ls (lv_sub hl [1, 2, 3, 4, 5, 0, 7, 8] rfl)
          · replace hX := ineg hc hX; clear hc
            refine lv_lload hx hb dX4_leastOf_64 (lv_at hl 8 rfl) ?_
            refine lv_lload hx hb dX4_leastOf_66 (lv_at hl 6 rfl) ?_
            refine W.lcmp hx hb dX4_leastOf_68 ?_
            refine lv_if_ge (tgt := 77) hx hb dX4_leastOf_69 (by decide) (fun hc => ?_) (fun hc => ?_)
            · replace hX := ipos hc hX; clear hc
              refine lv_lload hx hb dX4_leastOf_77 (lv_at hl 6 rfl) ?_
              exact hk13 x2 hX H locs hH hS ls (lv_sub hl [1, 2, 3, 4, 5, 0, 7] rfl)
            · replace hX := ineg hc hX; clear hc
              exact hk15  hX H locs hH hS ls (lv_sub hl [1, 2, 3, 4, 5, 0, 7, 8] rfl)
    · refine jnu0 hX (∀ (H : Heap) (locs : List Loc), HM D dA ad σ8 H → va_S (AM ad) s.heap H locs → ∀ (ls : Array Slot), lv_has ls 11 [(0, .ref (ad 0)), (1, .int p1), (2, .int p2), (3, .int p3), (4, .int p4), (6, .long x2), (8, .int x3), (9, .long x9)] → W p l e (headSpec (ws_ yX4_leastOf cX4_leastOf 11 (some .int)) (rmX4_leastOf)).room s m ([.ref (ad 0), .int p1, .int p2, .int p3, .int p4] : List Value).toArray below meth c H locs 0 0 (MQ below (mQi D dA ad r σz) ([.ref (ad 0), .int p1, .int p2, .int p3, .int p4] : List Value).toArray s 0 0 (AM ad)) (F0 m 50 ls [])) (fun  hX H locs hH hS ls hl => ?_) (fun k16 hk16 hX => ?_)
      · refine lv_iload hx hb dX4_leastOf_50 (lv_at hl 6 rfl) ?_
        refine lv_goto (tgt := 57) hx hb dX4_leastOf_52 (by decide) ?_
        exact hk11 x3 hX H locs hH hS ls (lv_sub hl [0, 1, 2, 3, 4, 5, 6, 7] rfl)
      · refine lv_if_eq (tgt := 50) hx hb dX4_leastOf_39 (by decide) (fun hc => ?_) (fun hc => ?_)
        · replace hX := ipos hc hX; clear hc
          exact hk16  hX H locs hH hS ls (lv_sub hl [1, 2, 3, 4, 5, 7, 8, 0] rfl)
        · replace hX := ineg hc hX; clear hc
          refine lv_lload hx hb dX4_leastOf_42 (lv_at hl 0 rfl) ?_
          refine lv_lload hx hb dX4_leastOf_44 (lv_at hl 7 rfl) ?_
          refine W.lcmp hx hb dX4_leastOf_46 ?_
          refine lv_if_ge (tgt := 55) hx hb dX4_leastOf_47 (by decide) (fun hc => ?_) (fun hc => ?_)
          · replace hX := ipos hc hX; clear hc
            refine lv_iload hx hb dX4_leastOf_55 (lv_at hl 6 rfl) ?_
            exact hk11 x1 hX H locs hH hS ls (lv_sub hl [1, 2, 3, 4, 5, 7, 8, 0] rfl)
          · replace hX := ineg hc hX; clear hc
            exact hk16  hX H locs hH hS ls (lv_sub hl [1, 2, 3, 4, 5, 7, 8, 0] rfl)

abbrev rmX4_plain : Room := { frames := 938, cells := 0, slots := 0, locals := 21801 }
def fX4_plain (p1 : Int32) (p2 : Int32) (σ : MS) : Option (Int32 × MS) :=
 cl (fX4_isShip p1 σ) (fun (x1 : Int32) =>
 jn (some ((-1:Int32), σ)) (fun (k2 : Option (Int32 × MS)) =>
 if x1 = (0:Int32) then
 k2
 else
 cl (fX4_in p2 (0:Int32) (1:Int32)) (fun (x3 : Int32) =>
 if x3 = (0:Int32) then
 k2
 else
 jn (fun (x4 : Int32) (σ5 : MS) => some (x4, σ5)) (fun (k6 : Int32 → MS → Option (Int32 × MS)) =>
 if p2 = (0:Int32) then
 cl2 (fX4_leastOf p1 (1:Int32) (20:Int32) (0:Int32) σ) (fun (x10 : Int32) (σ9 : MS) =>
 k6 x10 σ9)
 else
 cl2 (fX4_leastOf p1 (3:Int32) (9:Int32) (0:Int32) σ) (fun (x8 : Int32) (σ7 : MS) =>
 k6 x8 σ7)))))
set_option maxHeartbeats 4000000 in
set_option maxRecDepth 100000 in
theorem mX4_plain (l : Launch) (D : va_G) (dA : Nat → ClassId) (ad : Nat → Nat) {p1 : Int32} {p2 : Int32} {σ : MS} {r : Int32} {σz : MS} (hX : fX4_plain p1 p2 σ = some (r, σz)) : Met l yX4_plain (ws_ yX4_plain cX4_plain 3 (some .int)) (rmX4_plain) (mPc D dA ad σ [.int p1, .int p2]) (mQi D dA ad r σz) 0 0 (AM ad) := by
  refine Met.ofW (cc := cX4_plain) (maxL := 3) (ret := (some .int)) (by decide) rfl ?_
  intro p e s m args below meth c s₁ B hml hv
  obtain ⟨rfl, hH, hK⟩ := hv
  have hx := B.exec
  have hb := B.bytes
  have hr := B.returns
  have hts := atoms_spec (ws := (ws_ yX4_plain cX4_plain 3 (some .int))) B.pre
  have hts : ∀ w ∈ lw_all, w.before _ s = true := fun w h => hts w (List.mem_cons_of_mem _ h)
  have hown : s.vm.findClass RX4 = some m.cls := findClass_of_methodNamed B.named
  have hlocks := B.notSynchronized
  have hl := lv_entry ([.ref (ad 0), .int p1, .int p2]) (n := 3) (Nat.le_of_ble_eq_true rfl)
  rw [lg_entry_eq]
  generalize (lg_sl ([.ref (ad 0), .int p1, .int p2]) ++ List.replicate (3 - (lg_sl ([.ref (ad 0), .int p1, .int p2])).length) Slot.unset).toArray = ls at hl ⊢
  have hl : lv_has ls 3 [(0, .ref (ad 0)), (1, .int p1), (2, .int p2)] := hl
  unfold fX4_plain at hX
  refine m_start hH (fun H locs hH hS => ?_)
  refine lv_aload_n hx hb dX4_plain_0 rfl (lv_at hl 0 rfl) ?_
  refine lv_iload_n hx hb dX4_plain_1 rfl (lv_at hl 1 rfl) ?_
  obtain ⟨x1, hf, hX⟩ := cl_inv hX
  refine m_callVi (As := [.int p1]) ⟨hx, hb, hml, hown, hts⟩ (mX4_isShip l D dA ad hf) (cwV 1 hts (lw_V q1532 q1534 qs61 q95 q1535) rfl rfl rfl (by decide +kernel) ⟨Nat.le_of_ble_eq_true rfl, Nat.le_of_ble_eq_true rfl⟩) hK hH hS rfl hl.1 rfl (Nat.le_of_ble_eq_true rfl) dX4_plain_2 (fun H locs hH hS => ?_)
  clear hf
  refine jnu0 hX (∀ (H : Heap) (locs : List Loc), HM D dA ad σ H → va_S (AM ad) s.heap H locs → ∀ (ls : Array Slot), lv_has ls 3 [] → W p l e (headSpec (ws_ yX4_plain cX4_plain 3 (some .int)) (rmX4_plain)).room s m ([.ref (ad 0), .int p1, .int p2] : List Value).toArray below meth c H locs 0 0 (MQ below (mQi D dA ad r σz) ([.ref (ad 0), .int p1, .int p2] : List Value).toArray s 0 0 (AM ad)) (F0 m 17 ls [])) (fun  hX H locs hH hS ls hl => ?_) (fun k2 hk2 hX => ?_)
  · refine lv_iconst (v := (-1:Int32)) hx hb dX4_plain_17 (by decide) ?_
    obtain ⟨e1, e2⟩ := Prod.mk.inj (rinv hX); subst e1; subst e2
    exact W.iret hx hb hr (fun t ht hW => ⟨⟨_, (), rfl, rfl, hH.to ht⟩, hS.F ht⟩) hS.2.2 dX4_plain_18
  · refine lv_if_eq (tgt := 17) hx hb dX4_plain_5 (by decide) (fun hc => ?_) (fun hc => ?_)
    · replace hX := ipos hc hX; clear hc
      exact hk2  hX H locs hH hS ls (lv_sub hl [] rfl)
    · replace hX := ineg hc hX; clear hc
      refine lv_iload_n hx hb dX4_plain_8 rfl (lv_at hl 2 rfl) ?_
      refine lv_iconst (v := (0:Int32)) hx hb dX4_plain_9 (by decide) ?_
      refine lv_iconst (v := (1:Int32)) hx hb dX4_plain_10 (by decide) ?_
      obtain ⟨x3, hf, hX⟩ := cl_inv hX
      refine m_callSi (As := [.int p2, .int (0:Int32), .int (1:Int32)]) ⟨hx, hb, hml, hown, hts⟩ (mX4_in l hf) (va_cwS 3 hts (lw_S q1368 q1369 q95 q1370) rfl rfl rfl (by decide +kernel) ⟨Nat.le_of_ble_eq_true rfl, Nat.le_of_ble_eq_true rfl⟩) hH hS rfl hl.1 rfl (Nat.le_of_ble_eq_true rfl) dX4_plain_11 (fun H locs hH hS => ?_)
      clear hf
      refine lv_if_ne (tgt := 19) hx hb dX4_plain_14 (by decide) (fun hc => ?_) (fun hc => ?_)
      · replace hX := ineg hc hX; clear hc
        refine lv_iload_n hx hb dX4_plain_19 rfl (lv_at hl 2 rfl) ?_
        refine jnu2 hX (fun (x4 : Int32) (σ5 : MS) => ∀ (H : Heap) (locs : List Loc), HM D dA ad σ5 H → va_S (AM ad) s.heap H locs → ∀ (ls : Array Slot), lv_has ls 3 [] → W p l e (headSpec (ws_ yX4_plain cX4_plain 3 (some .int)) (rmX4_plain)).room s m ([.ref (ad 0), .int p1, .int p2] : List Value).toArray below meth c H locs 0 0 (MQ below (mQi D dA ad r σz) ([.ref (ad 0), .int p1, .int p2] : List Value).toArray s 0 0 (AM ad)) (F0 m 44 ls [.int x4])) (fun x4 σ5 hX H locs hH hS ls hl => ?_) (fun k6 hk6 hX => ?_)
        · obtain ⟨e1, e2⟩ := Prod.mk.inj (rinv hX); subst e1; subst e2
          exact W.iret hx hb hr (fun t ht hW => ⟨⟨_, (), rfl, rfl, hH.to ht⟩, hS.F ht⟩) hS.2.2 dX4_plain_44
        · refine lv_if_ne (tgt := 35) hx hb dX4_plain_20 (by decide) (fun hc => ?_) (fun hc => ?_)
          · replace hX := ineg hc hX; clear hc
            refine lv_aload_n hx hb dX4_plain_35 rfl (lv_at hl 0 rfl) ?_
            refine lv_iload_n hx hb dX4_plain_36 rfl (lv_at hl 1 rfl) ?_
            refine lv_iconst (v := (3:Int32)) hx hb dX4_plain_37 (by decide) ?_
            refine lv_bipush (v := (9:Int32)) hx hb dX4_plain_38 (by decide) ?_
            refine lv_iconst (v := (0:Int32)) hx hb dX4_plain_40 (by decide) ?_
            obtain ⟨x8, σ7, hf, hX⟩ := cl2_inv hX
            refine m_callVi (As := [.int p1, .int (3:Int32), .int (9:Int32), .int (0:Int32)]) ⟨hx, hb, hml, hown, hts⟩ (mX4_leastOf l D dA ad hf) (cwV 4 hts (lw_V q1640 q1642 qs75 q95 q1643) rfl rfl rfl (by decide +kernel) ⟨Nat.le_of_ble_eq_true rfl, Nat.le_of_ble_eq_true rfl⟩) hK hH hS rfl hl.1 rfl (Nat.le_of_ble_eq_true rfl) dX4_plain_41 (fun H locs hH hS => ?_)
            clear hf
            exact hk6 x8 σ7 hX H locs hH hS ls (lv_sub hl [] rfl)
          · replace hX := ipos hc hX; clear hc
            refine lv_aload_n hx hb dX4_plain_23 rfl (lv_at hl 0 rfl) ?_
            refine lv_iload_n hx hb dX4_plain_24 rfl (lv_at hl 1 rfl) ?_
            refine lv_iconst (v := (1:Int32)) hx hb dX4_plain_25 (by decide) ?_
            refine lv_bipush (v := (20:Int32)) hx hb dX4_plain_26 (by decide) ?_
            refine lv_iconst (v := (0:Int32)) hx hb dX4_plain_28 (by decide) ?_
            obtain ⟨x10, σ9, hf, hX⟩ := cl2_inv hX
            refine m_callVi (As := [.int p1, .int (1:Int32), .int (20:Int32), .int (0:Int32)]) ⟨hx, hb, hml, hown, hts⟩ (mX4_leastOf l D dA ad hf) (cwV 4 hts (lw_V q1640 q1642 qs75 q95 q1643) rfl rfl rfl (by decide +kernel) ⟨Nat.le_of_ble_eq_true rfl, Nat.le_of_ble_eq_true rfl⟩) hK hH hS rfl hl.1 rfl (Nat.le_of_ble_eq_true rfl) dX4_plain_29 (fun H locs hH hS => ?_)
            clear hf
            refine lv_goto (tgt := 44) hx hb dX4_plain_32 (by decide) ?_
            exact hk6 x10 σ9 hX H locs hH hS ls (lv_sub hl [] rfl)
      · replace hX := ipos hc hX; clear hc
        exact hk2  hX H locs hH hS ls (lv_sub hl [] rfl)

abbrev rmX4_loses : Room := { frames := 938, cells := 0, slots := 0, locals := 21801 }
def fX4_loses (p1 : Int32) (σ : MS) : Option (Int64 × MS) :=
 cl (fX4_isShip p1 σ) (fun (x1 : Int32) =>
 if x1 = (0:Int32) then
 some ((-9223372036854775808:Int64), σ)
 else
 cl2 (fX4_leastOf p1 (1:Int32) (20:Int32) (0:Int32) σ) (fun (x3 : Int32) (σ2 : MS) =>
 cl (fX4_takes p1 σ2) (fun (σ4 : MS) =>
 cl2 (gX4_meanFrom 24 (1:Int32) x3 (-1:Int32) (0:Int32) σ4) (fun (x6 : Int64) (σ5 : MS) =>
 cl (fX4_takes p1 σ5) (fun (σ7 : MS) =>
 cl2 (gX4_bestFrom 12 (0:Int32) (9:Int32) (0:Int32) σ7) (fun (x9 : Int64) (σ8 : MS) =>
 some (x6 - x9, σ8)))))))
set_option maxHeartbeats 4000000 in
set_option maxRecDepth 100000 in
theorem mX4_loses (l : Launch) (D : va_G) (dA : Nat → ClassId) (ad : Nat → Nat) {p1 : Int32} {σ : MS} {r : Int64} {σz : MS} (hX : fX4_loses p1 σ = some (r, σz)) : Met l yX4_loses (ws_ yX4_loses cX4_loses 5 (some .long)) (rmX4_loses) (mPc D dA ad σ [.int p1]) (mQl D dA ad r σz) 0 0 (AM ad) := by
  refine Met.ofW (cc := cX4_loses) (maxL := 5) (ret := (some .long)) (by decide) rfl ?_
  intro p e s m args below meth c s₁ B hml hv
  obtain ⟨rfl, hH, hK⟩ := hv
  have hx := B.exec
  have hb := B.bytes
  have hr := B.returns
  have hts := atoms_spec (ws := (ws_ yX4_loses cX4_loses 5 (some .long))) B.pre
  have hts : ∀ w ∈ lw_all, w.before _ s = true := fun w h => hts w (List.mem_cons_of_mem _ h)
  have hown : s.vm.findClass RX4 = some m.cls := findClass_of_methodNamed B.named
  have hlocks := B.notSynchronized
  have hl := lv_entry ([.ref (ad 0), .int p1]) (n := 5) (Nat.le_of_ble_eq_true rfl)
  rw [lg_entry_eq]
  generalize (lg_sl ([.ref (ad 0), .int p1]) ++ List.replicate (5 - (lg_sl ([.ref (ad 0), .int p1])).length) Slot.unset).toArray = ls at hl ⊢
  have hl : lv_has ls 5 [(0, .ref (ad 0)), (1, .int p1)] := hl
  unfold fX4_loses at hX
  refine m_start hH (fun H locs hH hS => ?_)
  refine lv_aload_n hx hb dX4_loses_0 rfl (lv_at hl 0 rfl) ?_
  refine lv_iload_n hx hb dX4_loses_1 rfl (lv_at hl 1 rfl) ?_
  obtain ⟨x1, hf, hX⟩ := cl_inv hX
  refine m_callVi (As := [.int p1]) ⟨hx, hb, hml, hown, hts⟩ (mX4_isShip l D dA ad hf) (cwV 1 hts (lw_V q1532 q1534 qs61 q95 q1535) rfl rfl rfl (by decide +kernel) ⟨Nat.le_of_ble_eq_true rfl, Nat.le_of_ble_eq_true rfl⟩) hK hH hS rfl hl.1 rfl (Nat.le_of_ble_eq_true rfl) dX4_loses_2 (fun H locs hH hS => ?_)
  clear hf
  refine lv_if_ne (tgt := 12) hx hb dX4_loses_5 (by decide) (fun hc => ?_) (fun hc => ?_)
  · replace hX := ineg hc hX; clear hc
    refine lv_aload_n hx hb dX4_loses_12 rfl (lv_at hl 0 rfl) ?_
    refine lv_iload_n hx hb dX4_loses_13 rfl (lv_at hl 1 rfl) ?_
    refine lv_iconst (v := (1:Int32)) hx hb dX4_loses_14 (by decide) ?_
    refine lv_bipush (v := (20:Int32)) hx hb dX4_loses_15 (by decide) ?_
    refine lv_iconst (v := (0:Int32)) hx hb dX4_loses_17 (by decide) ?_
    obtain ⟨x3, σ2, hf, hX⟩ := cl2_inv hX
    refine m_callVi (As := [.int p1, .int (1:Int32), .int (20:Int32), .int (0:Int32)]) ⟨hx, hb, hml, hown, hts⟩ (mX4_leastOf l D dA ad hf) (cwV 4 hts (lw_V q1640 q1642 qs75 q95 q1643) rfl rfl rfl (by decide +kernel) ⟨Nat.le_of_ble_eq_true rfl, Nat.le_of_ble_eq_true rfl⟩) hK hH hS rfl hl.1 rfl (Nat.le_of_ble_eq_true rfl) dX4_loses_18 (fun H locs hH hS => ?_)
    clear hf
    refine lv_istore_n (lv' := [(2, .int x3), (0, .ref (ad 0)), (1, .int p1)]) hx hb dX4_loses_21 rfl hl (by decide) rfl (fun ls hl => ?_)
    refine lv_aload_n hx hb dX4_loses_22 rfl (lv_at hl 1 rfl) ?_
    refine lv_iload_n hx hb dX4_loses_23 rfl (lv_at hl 2 rfl) ?_
    obtain ⟨σ4, hf, hX⟩ := cl_inv hX
    refine m_callVv (As := [.int p1]) ⟨hx, hb, hml, hown, hts⟩ (mX4_takes l D dA ad hf) (cwV 1 hts (lw_V q1507 q1509 qs57 q95 q1510) rfl rfl rfl (by decide +kernel) ⟨Nat.le_of_ble_eq_true rfl, Nat.le_of_ble_eq_true rfl⟩) hK hH hS rfl hl.1 rfl (Nat.le_of_ble_eq_true rfl) dX4_loses_24 (fun H locs hH hS => ?_)
    clear hf
    refine lv_aload_n hx hb dX4_loses_27 rfl (lv_at hl 1 rfl) ?_
    refine lv_iconst (v := (1:Int32)) hx hb dX4_loses_28 (by decide) ?_
    refine lv_iload_n hx hb dX4_loses_29 rfl (lv_at hl 0 rfl) ?_
    refine lv_iconst (v := (-1:Int32)) hx hb dX4_loses_30 (by decide) ?_
    refine lv_iconst (v := (0:Int32)) hx hb dX4_loses_31 (by decide) ?_
    obtain ⟨x6, σ5, hf, hX⟩ := cl2_inv hX
    refine m_callVl (As := [.int (1:Int32), .int x3, .int (-1:Int32), .int (0:Int32)]) ⟨hx, hb, hml, hown, hts⟩ (mgX4_meanFrom l D dA ad 24 hf) (cwV 4 hts (lw_V q1628 q1630 qs74 q95 q1631) rfl rfl rfl (by decide +kernel) ⟨Nat.le_of_ble_eq_true rfl, Nat.le_of_ble_eq_true rfl⟩) hK hH hS rfl hl.1 rfl (Nat.le_of_ble_eq_true rfl) dX4_loses_32 (fun H locs hH hS => ?_)
    clear hf
    refine lv_lstore_n (lv' := [(3, .long x6), (2, .int x3), (0, .ref (ad 0)), (1, .int p1)]) hx hb dX4_loses_35 rfl hl (by decide) rfl (fun ls hl => ?_)
    refine lv_aload_n hx hb dX4_loses_36 rfl (lv_at hl 2 rfl) ?_
    refine lv_iload_n hx hb dX4_loses_37 rfl (lv_at hl 3 rfl) ?_
    obtain ⟨σ7, hf, hX⟩ := cl_inv hX
    refine m_callVv (As := [.int p1]) ⟨hx, hb, hml, hown, hts⟩ (mX4_takes l D dA ad hf) (cwV 1 hts (lw_V q1507 q1509 qs57 q95 q1510) rfl rfl rfl (by decide +kernel) ⟨Nat.le_of_ble_eq_true rfl, Nat.le_of_ble_eq_true rfl⟩) hK hH hS rfl hl.1 rfl (Nat.le_of_ble_eq_true rfl) dX4_loses_38 (fun H locs hH hS => ?_)
    clear hf
    refine lv_lload_n hx hb dX4_loses_41 rfl (lv_at hl 0 rfl) ?_
    refine lv_aload_n hx hb dX4_loses_42 rfl (lv_at hl 2 rfl) ?_
    refine lv_iconst (v := (0:Int32)) hx hb dX4_loses_43 (by decide) ?_
    refine lv_bipush (v := (9:Int32)) hx hb dX4_loses_44 (by decide) ?_
    refine lv_iconst (v := (0:Int32)) hx hb dX4_loses_46 (by decide) ?_
    obtain ⟨x9, σ8, hf, hX⟩ := cl2_inv hX
    refine m_callVl (As := [.int (0:Int32), .int (9:Int32), .int (0:Int32)]) ⟨hx, hb, hml, hown, hts⟩ (mgX4_bestFrom l D dA ad 12 hf) (cwV 3 hts (lw_V q1608 q1610 qs71 q95 q1611) rfl rfl rfl (by decide +kernel) ⟨Nat.le_of_ble_eq_true rfl, Nat.le_of_ble_eq_true rfl⟩) hK hH hS rfl hl.1 rfl (Nat.le_of_ble_eq_true rfl) dX4_loses_47 (fun H locs hH hS => ?_)
    clear hf
    refine lv_lsub hx hb dX4_loses_50 ?_
    obtain ⟨e1, e2⟩ := Prod.mk.inj (rinv hX); subst e1; subst e2
    exact W.lret hx hb hr (fun t ht hW => ⟨⟨_, (), rfl, rfl, hH.to ht⟩, hS.F ht⟩) hS.2.2 dX4_loses_51
  · replace hX := ipos hc hX; clear hc
    refine lv_ldc2 (v := (-9223372036854775808:Int64)) hx hb hown (hts _ q1573) dX4_loses_8 ?_
    obtain ⟨e1, e2⟩ := Prod.mk.inj (rinv hX); subst e1; subst e2
    exact W.lret hx hb hr (fun t ht hW => ⟨⟨_, (), rfl, rfl, hH.to ht⟩, hS.F ht⟩) hS.2.2 dX4_loses_11

abbrev rmX4_judged : Room := { frames := 39, cells := 0, slots := 0, locals := 906 }
def fX4_judged (p1 : Int32) (p2 : Int32) (σ : MS) : Option (Int32 × MS) :=
 cl (fX4_isRule p1 σ) (fun (x1 : Int32) =>
 jn (some ((-1:Int32), σ)) (fun (k2 : Option (Int32 × MS)) =>
 if x1 = (0:Int32) then
 k2
 else
 cl (fX4_isShip p2 σ) (fun (x3 : Int32) =>
 if x3 = (0:Int32) then
 k2
 else
 gd (ib ((1000:Int32) + p1) 1160) (
 if (σ.2.1 1 ((1000:Int32) + p1).toNatClampNeg) = (5:Int32) then
 cl (fX4_takes p2 σ) (fun (σ4 : MS) =>
 lp (fun _ _ => none) (fun (k7 : Int32 → MS → Option (Int32 × MS)) (x5 : Int32) (σ6 : MS) =>
 if (10:Int32) ≤ x5 then
 some ((-5:Int32), σ6)
 else
 cl2 (fX4_letsIn (5:Int32) (0:Int32) p1 x5 σ6) (fun (x9 : Int32) (σ8 : MS) =>
 cl2 (fX4_bestBeside ((9:Int32) - x5) x5 σ8) (fun (x11 : Int64) (σ10 : MS) =>
 if x9 = (σ10.1 15) then
 if x9 = (0:Int32) then
 cl2 (fX4_aboard (0:Int32) σ10) (fun (x13 : Int32) (σ12 : MS) =>
 bd (x5 + (1:Int32)) (fun (x14 : Int32) =>
 k7 x14 σ12))
 else
 some ((-5:Int32), σ10)
 else
 some (x5, σ10)))) NF (0:Int32) σ4)
 else
 some ((-3:Int32), σ)))))
set_option maxHeartbeats 4000000 in
set_option maxRecDepth 100000 in
theorem mX4_judged (l : Launch) (D : va_G) (dA : Nat → ClassId) (ad : Nat → Nat) {p1 : Int32} {p2 : Int32} {σ : MS} {r : Int32} {σz : MS} (hX : fX4_judged p1 p2 σ = some (r, σz)) : Met l yX4_judged (ws_ yX4_judged cX4_judged 8 (some .int)) (rmX4_judged) (mPc D dA ad σ [.int p1, .int p2]) (mQi D dA ad r σz) 0 0 (AM ad) := by
  refine Met.ofW (cc := cX4_judged) (maxL := 8) (ret := (some .int)) (by decide) rfl ?_
  intro p e s m args below meth c s₁ B hml hv
  obtain ⟨rfl, hH, hK⟩ := hv
  have hx := B.exec
  have hb := B.bytes
  have hr := B.returns
  have hts := atoms_spec (ws := (ws_ yX4_judged cX4_judged 8 (some .int))) B.pre
  have hts : ∀ w ∈ lw_all, w.before _ s = true := fun w h => hts w (List.mem_cons_of_mem _ h)
  have hown : s.vm.findClass RX4 = some m.cls := findClass_of_methodNamed B.named
  have hlocks := B.notSynchronized
  have hl := lv_entry ([.ref (ad 0), .int p1, .int p2]) (n := 8) (Nat.le_of_ble_eq_true rfl)
  rw [lg_entry_eq]
  generalize (lg_sl ([.ref (ad 0), .int p1, .int p2]) ++ List.replicate (8 - (lg_sl ([.ref (ad 0), .int p1, .int p2])).length) Slot.unset).toArray = ls at hl ⊢
  have hl : lv_has ls 8 [(0, .ref (ad 0)), (1, .int p1), (2, .int p2)] := hl
  unfold fX4_judged at hX
  refine m_start hH (fun H locs hH hS => ?_)
  refine lv_aload_n hx hb dX4_judged_0 rfl (lv_at hl 0 rfl) ?_
  refine lv_iload_n hx hb dX4_judged_1 rfl (lv_at hl 1 rfl) ?_
  obtain ⟨x1, hf, hX⟩ := cl_inv hX
  refine m_callVi (As := [.int p1]) ⟨hx, hb, hml, hown, hts⟩ (mX4_isRule l D dA ad hf) (cwV 1 hts (lw_V q1588 q1590 qs67 q95 q1591) rfl rfl rfl (by decide +kernel) ⟨Nat.le_of_ble_eq_true rfl, Nat.le_of_ble_eq_true rfl⟩) hK hH hS rfl hl.1 rfl (Nat.le_of_ble_eq_true rfl) dX4_judged_2 (fun H locs hH hS => ?_)
  clear hf
  refine jnu0 hX (∀ (H : Heap) (locs : List Loc), HM D dA ad σ H → va_S (AM ad) s.heap H locs → ∀ (ls : Array Slot), lv_has ls 8 [] → W p l e (headSpec (ws_ yX4_judged cX4_judged 8 (some .int)) (rmX4_judged)).room s m ([.ref (ad 0), .int p1, .int p2] : List Value).toArray below meth c H locs 0 0 (MQ below (mQi D dA ad r σz) ([.ref (ad 0), .int p1, .int p2] : List Value).toArray s 0 0 (AM ad)) (F0 m 16 ls [])) (fun  hX H locs hH hS ls hl => ?_) (fun k2 hk2 hX => ?_)
  · refine lv_iconst (v := (-1:Int32)) hx hb dX4_judged_16 (by decide) ?_
    obtain ⟨e1, e2⟩ := Prod.mk.inj (rinv hX); subst e1; subst e2
    exact W.iret hx hb hr (fun t ht hW => ⟨⟨_, (), rfl, rfl, hH.to ht⟩, hS.F ht⟩) hS.2.2 dX4_judged_17
  · refine lv_if_eq (tgt := 16) hx hb dX4_judged_5 (by decide) (fun hc => ?_) (fun hc => ?_)
    · replace hX := ipos hc hX; clear hc
      exact hk2  hX H locs hH hS ls (lv_sub hl [] rfl)
    · replace hX := ineg hc hX; clear hc
      refine lv_aload_n hx hb dX4_judged_8 rfl (lv_at hl 0 rfl) ?_
      refine lv_iload_n hx hb dX4_judged_9 rfl (lv_at hl 2 rfl) ?_
      obtain ⟨x3, hf, hX⟩ := cl_inv hX
      refine m_callVi (As := [.int p2]) ⟨hx, hb, hml, hown, hts⟩ (mX4_isShip l D dA ad hf) (cwV 1 hts (lw_V q1532 q1534 qs61 q95 q1535) rfl rfl rfl (by decide +kernel) ⟨Nat.le_of_ble_eq_true rfl, Nat.le_of_ble_eq_true rfl⟩) hK hH hS rfl hl.1 rfl (Nat.le_of_ble_eq_true rfl) dX4_judged_10 (fun H locs hH hS => ?_)
      clear hf
      refine lv_if_ne (tgt := 18) hx hb dX4_judged_13 (by decide) (fun hc => ?_) (fun hc => ?_)
      · replace hX := ineg hc hX; clear hc
        refine lv_aload_n hx hb dX4_judged_18 rfl (lv_at hl 0 rfl) ?_
        refine m_get (v := .ref (ad 1)) hx hb hts hown hK hH 1 (by decide) (hts _ q1291) rfl dX4_judged_19 ?_
        refine lv_sipush (v := (1000:Int32)) hx hb dX4_judged_22 (by decide) ?_
        refine lv_iload_n hx hb dX4_judged_25 rfl (lv_at hl 1 rfl) ?_
        refine lv_iadd hx hb dX4_judged_26 ?_
        obtain ⟨hg, hX⟩ := gd_inv hX
        refine m_iald hx hb hK hH 1 1 (n := 1160) rfl hg dX4_judged_27 ?_
        refine lv_iconst (v := (5:Int32)) hx hb dX4_judged_28 (by decide) ?_
        refine lv_icmp_eq (tgt := 35) hx hb dX4_judged_29 (by decide) (fun hc => ?_) (fun hc => ?_)
        · replace hX := ipos hc hX; clear hc
          refine lv_aload_n hx hb dX4_judged_35 rfl (lv_at hl 0 rfl) ?_
          refine lv_iload_n hx hb dX4_judged_36 rfl (lv_at hl 2 rfl) ?_
          obtain ⟨σ4, hf, hX⟩ := cl_inv hX
          refine m_callVv (As := [.int p2]) ⟨hx, hb, hml, hown, hts⟩ (mX4_takes l D dA ad hf) (cwV 1 hts (lw_V q1507 q1509 qs57 q95 q1510) rfl rfl rfl (by decide +kernel) ⟨Nat.le_of_ble_eq_true rfl, Nat.le_of_ble_eq_true rfl⟩) hK hH hS rfl hl.1 rfl (Nat.le_of_ble_eq_true rfl) dX4_judged_37 (fun H locs hH hS => ?_)
          clear hf
          refine lv_iconst (v := (0:Int32)) hx hb dX4_judged_40 (by decide) ?_
          refine lv_istore_n (lv' := [(3, .int (0:Int32)), (0, .ref (ad 0)), (1, .int p1), (2, .int p2)]) hx hb dX4_judged_41 rfl hl (by decide) rfl (fun ls hl => ?_)
          refine lpu2 hX (fun (x5 : Int32) (σ6 : MS) => ∀ (H : Heap) (locs : List Loc), HM D dA ad σ6 H → va_S (AM ad) s.heap H locs → ∀ (ls : Array Slot), lv_has ls 8 [(0, .ref (ad 0)), (1, .int p1), (3, .int x5)] → W p l e (headSpec (ws_ yX4_judged cX4_judged 8 (some .int)) (rmX4_judged)).room s m ([.ref (ad 0), .int p1, .int p2] : List Value).toArray below meth c H locs 0 0 (MQ below (mQi D dA ad r σz) ([.ref (ad 0), .int p1, .int p2] : List Value).toArray s 0 0 (AM ad)) (F0 m 42 ls [])) (fun k7 hk7 x5 σ6 hX H locs hH hS ls hl => ?_) H locs hH hS ls (lv_sub hl [1, 2, 0] rfl)
          refine lv_iload_n hx hb dX4_judged_42 rfl (lv_at hl 2 rfl) ?_
          refine lv_bipush (v := (10:Int32)) hx hb dX4_judged_43 (by decide) ?_
          refine lv_icmp_ge (tgt := 101) hx hb dX4_judged_45 (by decide) (fun hc => ?_) (fun hc => ?_)
          · replace hX := ipos hc hX; clear hc
            refine lv_bipush (v := (-5:Int32)) hx hb dX4_judged_101 (by decide) ?_
            obtain ⟨e1, e2⟩ := Prod.mk.inj (rinv hX); subst e1; subst e2
            exact W.iret hx hb hr (fun t ht hW => ⟨⟨_, (), rfl, rfl, hH.to ht⟩, hS.F ht⟩) hS.2.2 dX4_judged_103
          · replace hX := ineg hc hX; clear hc
            refine lv_aload_n hx hb dX4_judged_48 rfl (lv_at hl 0 rfl) ?_
            refine lv_iconst (v := (5:Int32)) hx hb dX4_judged_49 (by decide) ?_
            refine lv_iconst (v := (0:Int32)) hx hb dX4_judged_50 (by decide) ?_
            refine lv_iload_n hx hb dX4_judged_51 rfl (lv_at hl 1 rfl) ?_
            refine lv_iload_n hx hb dX4_judged_52 rfl (lv_at hl 2 rfl) ?_
            obtain ⟨x9, σ8, hf, hX⟩ := cl2_inv hX
            refine m_callVi (As := [.int (5:Int32), .int (0:Int32), .int p1, .int x5]) ⟨hx, hb, hml, hown, hts⟩ (mX4_letsIn l D dA ad hf) (cwV 4 hts (lw_V q1596 q1598 qs68 q95 q1599) rfl rfl rfl (by decide +kernel) ⟨Nat.le_of_ble_eq_true rfl, Nat.le_of_ble_eq_true rfl⟩) hK hH hS rfl hl.1 rfl (Nat.le_of_ble_eq_true rfl) dX4_judged_53 (fun H locs hH hS => ?_)
            clear hf
            refine lv_istore (lv' := [(4, .int x9), (0, .ref (ad 0)), (1, .int p1), (3, .int x5)]) hx hb dX4_judged_56 hl (by decide) rfl (fun ls hl => ?_)
            refine lv_aload_n hx hb dX4_judged_58 rfl (lv_at hl 1 rfl) ?_
            refine lv_bipush (v := (9:Int32)) hx hb dX4_judged_59 (by decide) ?_
            refine lv_iload_n hx hb dX4_judged_61 rfl (lv_at hl 3 rfl) ?_
            refine lv_isub hx hb dX4_judged_62 ?_
            refine lv_iload_n hx hb dX4_judged_63 rfl (lv_at hl 3 rfl) ?_
            obtain ⟨x11, σ10, hf, hX⟩ := cl2_inv hX
            refine m_callVl (As := [.int ((9:Int32) - x5), .int x5]) ⟨hx, hb, hml, hown, hts⟩ (mX4_bestBeside l D dA ad hf) (cwV 2 hts (lw_V q1600 q1602 qs69 q95 q1603) rfl rfl rfl (by decide +kernel) ⟨Nat.le_of_ble_eq_true rfl, Nat.le_of_ble_eq_true rfl⟩) hK hH hS rfl hl.1 rfl (Nat.le_of_ble_eq_true rfl) dX4_judged_64 (fun H locs hH hS => ?_)
            clear hf
            refine lv_lstore (lv' := [(5, .long x11), (4, .int x9), (0, .ref (ad 0)), (1, .int p1), (3, .int x5)]) hx hb dX4_judged_67 hl (by decide) rfl (fun ls hl => ?_)
            refine lv_iload hx hb dX4_judged_69 (lv_at hl 1 rfl) ?_
            refine lv_aload_n hx hb dX4_judged_71 rfl (lv_at hl 2 rfl) ?_
            refine m_get (v := .int (σ10.1 15)) hx hb hts hown hK hH 15 (by decide) (hts _ q1305) rfl dX4_judged_72 ?_
            refine lv_icmp_eq (tgt := 80) hx hb dX4_judged_75 (by decide) (fun hc => ?_) (fun hc => ?_)
            · replace hX := ipos hc hX; clear hc
              refine lv_iload hx hb dX4_judged_80 (lv_at hl 1 rfl) ?_
              refine lv_if_eq (tgt := 88) hx hb dX4_judged_82 (by decide) (fun hc => ?_) (fun hc => ?_)
              · replace hX := ipos hc hX; clear hc
                refine lv_aload_n hx hb dX4_judged_88 rfl (lv_at hl 2 rfl) ?_
                refine lv_iconst (v := (0:Int32)) hx hb dX4_judged_89 (by decide) ?_
                obtain ⟨x13, σ12, hf, hX⟩ := cl2_inv hX
                refine m_callVi (As := [.int (0:Int32)]) ⟨hx, hb, hml, hown, hts⟩ (mX4_aboard l D dA ad hf) (cwV 1 hts (lw_V q1548 q1550 qs62 q95 q1551) rfl rfl rfl (by decide +kernel) ⟨Nat.le_of_ble_eq_true rfl, Nat.le_of_ble_eq_true rfl⟩) hK hH hS rfl hl.1 rfl (Nat.le_of_ble_eq_true rfl) dX4_judged_90 (fun H locs hH hS => ?_)
                clear hf
                refine lv_istore (lv' := [(7, .int x13), (5, .long x11), (4, .int x9), (0, .ref (ad 0)), (1, .int p1), (3, .int x5)]) hx hb dX4_judged_93 hl (by decide) rfl (fun ls hl => ?_)
                obtain ⟨x14, ex14⟩ : ∃ y : Int32, y = x5 + (1:Int32) := ⟨_, rfl⟩
                replace hX := bd_inv ex14 hX
                refine lv_iinc (v := x14) (lv' := [(3, .int x14), (7, .int x13), (5, .long x11), (4, .int x9), (0, .ref (ad 0)), (1, .int p1)]) hx hb dX4_judged_95 hl (k := 5) rfl (by rw [ex14]; rfl) (by decide) rfl (fun ls hl => ?_)
                clear ex14
                refine lv_goto (tgt := 42) hx hb dX4_judged_98 (by decide) ?_
                exact hk7 x14 σ12 hX H locs hH hS ls (lv_sub hl [4, 5, 0] rfl)
              · replace hX := ineg hc hX; clear hc
                refine lv_bipush (v := (-5:Int32)) hx hb dX4_judged_85 (by decide) ?_
                obtain ⟨e1, e2⟩ := Prod.mk.inj (rinv hX); subst e1; subst e2
                exact W.iret hx hb hr (fun t ht hW => ⟨⟨_, (), rfl, rfl, hH.to ht⟩, hS.F ht⟩) hS.2.2 dX4_judged_87
            · replace hX := ineg hc hX; clear hc
              refine lv_iload_n hx hb dX4_judged_78 rfl (lv_at hl 4 rfl) ?_
              obtain ⟨e1, e2⟩ := Prod.mk.inj (rinv hX); subst e1; subst e2
              exact W.iret hx hb hr (fun t ht hW => ⟨⟨_, (), rfl, rfl, hH.to ht⟩, hS.F ht⟩) hS.2.2 dX4_judged_79
        · replace hX := ineg hc hX; clear hc
          refine lv_bipush (v := (-3:Int32)) hx hb dX4_judged_32 (by decide) ?_
          obtain ⟨e1, e2⟩ := Prod.mk.inj (rinv hX); subst e1; subst e2
          exact W.iret hx hb hr (fun t ht hW => ⟨⟨_, (), rfl, rfl, hH.to ht⟩, hS.F ht⟩) hS.2.2 dX4_judged_34
      · replace hX := ipos hc hX; clear hc
        exact hk2  hX H locs hH hS ls (lv_sub hl [] rfl)
