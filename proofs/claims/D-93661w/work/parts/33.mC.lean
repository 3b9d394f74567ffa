/-! printed by gen/model.py -/
abbrev rmX4_bestFrom (rc : Room) : Room := { frames := rc.frames + 3, cells := 0, slots := 0, locals := rc.locals + 69 }
def fX4_bestFrom (kb : Int32 → Int32 → Int32 → MS → Option (Int64 × MS)) (p1 : Int32) (p2 : Int32) (p3 : Int32) (σ : MS) : Option (Int64 × MS) :=
 cl (fX4_harmOf p1 σ) (fun (x1 : Int64) =>
 if p2 = (0:Int32) then
 bd (sf σ 15 (1:Int32)) (fun (σ14 : MS) =>
 some (x1, σ14))
 else
 cl2 (fX4_costOf p3 σ) (fun (x3 : Int64) (σ2 : MS) =>
 cl2 (fX4_aboard p1 σ2) (fun (x5 : Int32) (σ4 : MS) =>
 cl2 (kb p1 (p2 - (1:Int32)) (p3 + (1:Int32)) σ4) (fun (x7 : Int64) (σ6 : MS) =>
 cl (fX4_held x3 x7 x5) (fun (x8 : Int64) =>
 jn (fun (x9 : Int32) => gd (isb x9) (
 bd (sf σ6 15 x9) (fun (σ11 : MS) =>
 jn (fun (x12 : Int64) => some (x12, σ11)) (fun (k13 : Int64 → Option (Int64 × MS)) =>
 if (σ11.1 15) = (0:Int32) then
 k13 x8
 else
 k13 x1)))) (fun (k10 : Int32 → Option (Int64 × MS)) =>
 if (0:Int32) < (lg_cmp x1 x8) then
 k10 (0:Int32)
 else
 k10 (1:Int32)))))))
set_option maxHeartbeats 4000000 in
set_option maxRecDepth 100000 in
theorem mX4_bestFrom (l : Launch) (D : va_G) (dA : Nat → ClassId) (ad : Nat → Nat) {rc : Room} (hrc : rc.cells = 0 ∧ rc.slots = 0) {kb : Int32 → Int32 → Int32 → MS → Option (Int64 × MS)} (hkb : ∀ {q1 : Int32} {q2 : Int32} {q3 : Int32} {σ1 : MS} {r2 : Int64} {σ2 : MS}, kb q1 q2 q3 σ1 = some (r2, σ2) → Met l yX4_bestFrom (ws_ yX4_bestFrom cX4_bestFrom 11 (some .long)) rc (mPc D dA ad σ1 [.int q1, .int q2, .int q3]) (mQl D dA ad r2 σ2) 0 0 (AM ad)) {p1 : Int32} {p2 : Int32} {p3 : Int32} {σ : MS} {r : Int64} {σz : MS} (hX : fX4_bestFrom kb p1 p2 p3 σ = some (r, σz)) : Met l yX4_bestFrom (ws_ yX4_bestFrom cX4_bestFrom 11 (some .long)) (rmX4_bestFrom rc) (mPc D dA ad σ [.int p1, .int p2, .int p3]) (mQl D dA ad r σz) 0 0 (AM ad) := by
  refine Met.ofW (cc := cX4_bestFrom) (maxL := 11) (ret := (some .long)) (by decide) rfl ?_
  intro p e s m args below meth c s₁ B hml hv
  obtain ⟨rfl, hH, hK⟩ := hv
  have hx := B.exec
  have hb := B.bytes
  have hr := B.returns
  have hts := atoms_spec (ws := (ws_ yX4_bestFrom cX4_bestFrom 11 (some .long))) B.pre
  have hts : ∀ w ∈ lw_all, w.before _ s = true := fun w h => hts w (List.mem_cons_of_mem _ h)
  have hown : s.vm.findClass RX4 = some m.cls := findClass_of_methodNamed B.named
  have hlocks := B.notSynchronized
  have hl := lv_entry ([.ref (ad 0), .int p1, .int p2, .int p3]) (n := 11) (Nat.le_of_ble_eq_true rfl)
  rw [lg_entry_eq]
  generalize (lg_sl ([.ref (ad 0), .int p1, .int p2, .int p3]) ++ List.replicate (11 - (lg_sl ([.ref (ad 0), .int p1, .int p2, .int p3])).length) Slot.unset).toArray = ls at hl ⊢
  have hl : lv_has ls 11 [(0, .ref (ad 0)), (1, .int p1), (2, .int p2), (3, .int p3)] := hl
  unfold fX4_bestFrom at hX
  refine m_start hH (fun H locs hH hS => ?_)
  refine lv_aload_n hx hb dX4_bestFrom_0 rfl (lv_at hl 0 rfl) ?_
  refine lv_iload_n hx hb dX4_bestFrom_1 rfl (lv_at hl 1 rfl) ?_
  obtain ⟨x1, hf, hX⟩ := cl_inv hX
  refine m_callVl (As := [.int p1]) ⟨hx, hb, hml, hown, hts⟩ (mX4_harmOf l D dA ad hf) (cwV 1 hts (lw_V q1574 q1576 qs66 q95 q1577) rfl rfl rfl (by decide +kernel) ⟨(show 2 ≤ rc.frames + 3 by omega), (show 43 ≤ rc.locals + 69 by omega)⟩) hK hH hS rfl hl.1 rfl (Nat.le_of_ble_eq_true rfl) dX4_bestFrom_2 (fun H locs hH hS => ?_)
  clear hf
  refine lv_lstore (lv' := [(4, .long x1), (0, .ref (ad 0)), (1, .int p1), (2, .int p2), (3, .int p3)]) hx hb dX4_bestFrom_5 hl (by decide) rfl (fun ls hl => ?_)
  refine lv_iload_n hx hb dX4_bestFrom_7 rfl (lv_at hl 3 rfl) ?_
  refine lv_if_ne (tgt := 19) hx hb dX4_bestFrom_8 (by decide) (fun hc => ?_) (fun hc => ?_)
  · replace hX := ineg hc hX; clear hc
    refine lv_aload_n hx hb dX4_bestFrom_19 rfl (lv_at hl 1 rfl) ?_
    refine lv_iload_n hx hb dX4_bestFrom_20 rfl (lv_at hl 4 rfl) ?_
    obtain ⟨x3, σ2, hf, hX⟩ := cl2_inv hX
    refine m_callVl (As := [.int p3]) ⟨hx, hb, hml, hown, hts⟩ (mX4_costOf l D dA ad hf) (cwV 1 hts (lw_V q1612 q1614 qs72 q95 q1615) rfl rfl rfl (by decide +kernel) ⟨(show 2 ≤ rc.frames + 3 by omega), (show 53 ≤ rc.locals + 69 by omega)⟩) hK hH hS rfl hl.1 rfl (Nat.le_of_ble_eq_true rfl) dX4_bestFrom_21 (fun H locs hH hS => ?_)
    clear hf
    refine lv_lstore (lv' := [(6, .long x3), (4, .long x1), (0, .ref (ad 0)), (1, .int p1), (2, .int p2), (3, .int p3)]) hx hb dX4_bestFrom_24 hl (by decide) rfl (fun ls hl => ?_)
    refine lv_aload_n hx hb dX4_bestFrom_26 rfl (lv_at hl 2 rfl) ?_
    refine lv_iload_n hx hb dX4_bestFrom_27 rfl (lv_at hl 3 rfl) ?_
    obtain ⟨x5, σ4, hf, hX⟩ := cl2_inv hX
    refine m_callVi (As := [.int p1]) ⟨hx, hb, hml, hown, hts⟩ (mX4_aboard l D dA ad hf) (cwV 1 hts (lw_V q1548 q1550 qs62 q95 q1551) rfl rfl rfl (by decide +kernel) ⟨(show 3 ≤ rc.frames + 3 by omega), (show 69 ≤ rc.locals + 69 by omega)⟩) hK hH hS rfl hl.1 rfl (Nat.le_of_ble_eq_true rfl) dX4_bestFrom_28 (fun H locs hH hS => ?_)
    clear hf
    refine lv_istore (lv' := [(8, .int x5), (6, .long x3), (4, .long x1), (0, .ref (ad 0)), (1, .int p1), (2, .int p2), (3, .int p3)]) hx hb dX4_bestFrom_31 hl (by decide) rfl (fun ls hl => ?_)
    refine lv_lload hx hb dX4_bestFrom_33 (lv_at hl 1 rfl) ?_
    refine lv_aload_n hx hb dX4_bestFrom_35 rfl (lv_at hl 3 rfl) ?_
    refine lv_iload_n hx hb dX4_bestFrom_36 rfl (lv_at hl 4 rfl) ?_
    refine lv_iload_n hx hb dX4_bestFrom_37 rfl (lv_at hl 5 rfl) ?_
    refine lv_iconst (v := (1:Int32)) hx hb dX4_bestFrom_38 (by decide) ?_
    refine lv_isub hx hb dX4_bestFrom_39 ?_
    refine lv_iload_n hx hb dX4_bestFrom_40 rfl (lv_at hl 6 rfl) ?_
    refine lv_iconst (v := (1:Int32)) hx hb dX4_bestFrom_41 (by decide) ?_
    refine lv_iadd hx hb dX4_bestFrom_42 ?_
    obtain ⟨x7, σ6, hf, hX⟩ := cl2_inv hX
    refine m_callVl (As := [.int p1, .int (p2 - (1:Int32)), .int (p3 + (1:Int32))]) ⟨hx, hb, hml, hown, hts⟩ (hkb hf) (cwV 3 hts (lw_V q1608 q1610 qs71 q95 q1611) rfl hrc.1 hrc.2 (by decide +kernel) ⟨(show rc.frames + 1 ≤ rc.frames + 3 by omega), (show 30 + rc.locals ≤ rc.locals + 69 by omega)⟩) hK hH hS rfl hl.1 rfl (Nat.le_of_ble_eq_true rfl) dX4_bestFrom_43 (fun H locs hH hS => ?_)
    clear hf
    refine lv_iload hx hb dX4_bestFrom_46 (lv_at hl 0 rfl) ?_
    obtain ⟨x8, hf, hX⟩ := cl_inv hX
    refine m_callSl (As := [.long x3, .long x7, .int x5]) ⟨hx, hb, hml, hown, hts⟩ (mX4_held l hf) (va_cwS 3 hts (lw_S q1616 q1617 q95 q1618) rfl rfl rfl (by decide +kernel) ⟨(show 1 ≤ rc.frames + 3 by omega), (show 24 ≤ rc.locals + 69 by omega)⟩) hH hS rfl hl.1 rfl (Nat.le_of_ble_eq_true rfl) dX4_bestFrom_48 (fun H locs hH hS => ?_)
    clear hf
    refine lv_lstore (lv' := [(9, .long x8), (8, .int x5), (6, .long x3), (4, .long x1), (0, .ref (ad 0)), (1, .int p1), (2, .int p2), (3, .int p3)]) hx hb dX4_bestFrom_51 hl (by decide) rfl (fun ls hl => ?_)
    refine lv_aload_n hx hb dX4_bestFrom_53 rfl (lv_at hl 4 rfl) ?_
    refine lv_lload hx hb dX4_bestFrom_54 (lv_at hl 3 rfl) ?_
    refine lv_lload hx hb dX4_bestFrom_56 (lv_at hl 0 rfl) ?_
    refine W.lcmp hx hb dX4_bestFrom_58 ?_
    refine jnu1 hX (fun (x9 : Int32) => ∀ (H : Heap) (locs : List Loc), HM D dA ad σ6 H → va_S (AM ad) s.heap H locs → ∀ (ls : Array Slot), lv_has ls 11 [(0, .ref (ad 0)), (4, .long x1), (9, .long x8)] → W p l e (headSpec (ws_ yX4_bestFrom cX4_bestFrom 11 (some .long)) (rmX4_bestFrom rc)).room s m ([.ref (ad 0), .int p1, .int p2, .int p3] : List Value).toArray below meth c H locs 0 0 (MQ below (mQl D dA ad r σz) ([.ref (ad 0), .int p1, .int p2, .int p3] : List Value).toArray s 0 0 (AM ad)) (F0 m 67 ls [.int x9, .ref (ad 0)])) (fun x9 hX H locs hH hS ls hl => ?_) (fun k10 hk10 hX => ?_)
    · obtain ⟨hg, hX⟩ := gd_inv hX
      refine m_put (ty := .boolean) hx hb hts hown hK hH hS 15 (by decide) (hts _ q1305) rfl (tyX4_ok 15 (by decide)) (isb_n hg) (isb_f hg) rfl dX4_bestFrom_67 (fun σ11 eσ11 H locs hH hS => ?_)
      replace hX := bd_inv eσ11 hX; clear eσ11
      refine lv_aload_n hx hb dX4_bestFrom_70 rfl (lv_at hl 0 rfl) ?_
      refine m_get (v := .int (σ11.1 15)) hx hb hts hown hK hH 15 (by decide) (hts _ q1305) rfl dX4_bestFrom_71 ?_
      refine jnu1 hX (fun (x12 : Int64) => ∀ (H : Heap) (locs : List Loc), HM D dA ad σ11 H → va_S (AM ad) s.heap H locs → ∀ (ls : Array Slot), lv_has ls 11 [] → W p l e (headSpec (ws_ yX4_bestFrom cX4_bestFrom 11 (some .long)) (rmX4_bestFrom rc)).room s m ([.ref (ad 0), .int p1, .int p2, .int p3] : List Value).toArray below meth c H locs 0 0 (MQ below (mQl D dA ad r σz) ([.ref (ad 0), .int p1, .int p2, .int p3] : List Value).toArray s 0 0 (AM ad)) (F0 m 84 ls [.long x12])) (fun x12 hX H locs hH hS ls hl => ?_) (fun k13 hk13 hX => ?_)
      · obtain ⟨e1, e2⟩ := Prod.mk.inj (rinv hX); subst e1; subst e2
        exact W.lret hx hb hr (fun t ht hW => ⟨⟨_, (), rfl, rfl, hH.to ht⟩, hS.F ht⟩) hS.2.2 dX4_bestFrom_84
      · refine lv_if_eq (tgt := 82) hx hb dX4_bestFrom_74 (by decide) (fun hc => ?_) (fun hc => ?_)
        · replace hX := ipos hc hX; clear hc
          refine lv_lload hx hb dX4_bestFrom_82 (lv_at hl 2 rfl) ?_
          exact hk13 x8 hX H locs hH hS ls (lv_sub hl [] rfl)
        · replace hX := ineg hc hX; clear hc
          refine lv_lload hx hb dX4_bestFrom_77 (lv_at hl 1 rfl) ?_
          refine lv_goto (tgt := 84) hx hb dX4_bestFrom_79 (by decide) ?_
          exact hk13 x1 hX H locs hH hS ls (lv_sub hl [] rfl)
    · refine lv_if_gt (tgt := 66) hx hb dX4_bestFrom_59 (by decide) (fun hc => ?_) (fun hc => ?_)
      · replace hX := ipos hc hX; clear hc
        refine lv_iconst (v := (0:Int32)) hx hb dX4_bestFrom_66 (by decide) ?_
        exact hk10 (0:Int32) hX H locs hH hS ls (lv_sub hl [4, 3, 0] rfl)
      · replace hX := ineg hc hX; clear hc
        refine lv_iconst (v := (1:Int32)) hx hb dX4_bestFrom_62 (by decide) ?_
        refine lv_goto (tgt := 67) hx hb dX4_bestFrom_63 (by decide) ?_
        exact hk10 (1:Int32) hX H locs hH hS ls (lv_sub hl [4, 3, 0] rfl)
  · replace hX := ipos hc hX; clear hc
    refine lv_aload_n hx hb dX4_bestFrom_11 rfl (lv_at hl 1 rfl) ?_
    refine lv_iconst (v := (1:Int32)) hx hb dX4_bestFrom_12 (by decide) ?_
    refine m_put (ty := .boolean) hx hb hts hown hK hH hS 15 (by decide) (hts _ q1305) rfl (tyX4_ok 15 (by decide)) rfl rfl rfl dX4_bestFrom_13 (fun σ14 eσ14 H locs hH hS => ?_)
    replace hX := bd_inv eσ14 hX; clear eσ14
    refine lv_lload hx hb dX4_bestFrom_16 (lv_at hl 0 rfl) ?_
    obtain ⟨e1, e2⟩ := Prod.mk.inj (rinv hX); subst e1; subst e2
    exact W.lret hx hb hr (fun t ht hW => ⟨⟨_, (), rfl, rfl, hH.to ht⟩, hS.F ht⟩) hS.2.2 dX4_bestFrom_18

def gX4_bestFrom : Nat → Int32 → Int32 → Int32 → MS → Option (Int64 × MS)
  | 0 => fun _ _ _ _ => none
  | n + 1 => fX4_bestFrom (gX4_bestFrom n)
def rgX4_bestFrom : Nat → Room
  | 0 => { frames := 0, cells := 0, slots := 0, locals := 0 }
  | n + 1 => rmX4_bestFrom (rgX4_bestFrom n)
theorem rgX4_bestFrom_0 (n : Nat) : (rgX4_bestFrom n).cells = 0 ∧ (rgX4_bestFrom n).slots = 0 := by cases n <;> exact ⟨rfl, rfl⟩
theorem mgX4_bestFrom (l : Launch) (D : va_G) (dA : Nat → ClassId) (ad : Nat → Nat) : ∀ (n : Nat) {p1 : Int32} {p2 : Int32} {p3 : Int32} {σ : MS} {r : Int64} {σz : MS}, gX4_bestFrom n p1 p2 p3 σ = some (r, σz) → Met l yX4_bestFrom (ws_ yX4_bestFrom cX4_bestFrom 11 (some .long)) (rgX4_bestFrom n) (mPc D dA ad σ [.int p1, .int p2, .int p3]) (mQl D dA ad r σz) 0 0 (AM ad) := by
  intro n
  induction n with
  | zero => intro _ _ _ _ _ _ h; cases h
  | succ n ih => intro _ _ _ _ _ _ h; exact mX4_bestFrom l D dA ad (rgX4_bestFrom_0 n) (fun hf => ih hf) h

abbrev rmX4_bestBeside : Room := { frames := 37, cells := 0, slots := 0, locals := 858 }
def fX4_bestBeside (p1 : Int32) (p2 : Int32) (σ : MS) : Option (Int64 × MS) :=
 cl (fX4_copies σ) (fun (σ1 : MS) =>
 cl2 (gX4_bestFrom 12 (4:Int32) p1 p2 σ1) (fun (x3 : Int64) (σ2 : MS) =>
 some (x3, σ2)))
set_option maxHeartbeats 4000000 in
set_option maxRecDepth 100000 in
theorem mX4_bestBeside (l : Launch) (D : va_G) (dA : Nat → ClassId) (ad : Nat → Nat) {p1 : Int32} {p2 : Int32} {σ : MS} {r : Int64} {σz : MS} (hX : fX4_bestBeside p1 p2 σ = some (r, σz)) : Met l yX4_bestBeside (ws_ yX4_bestBeside cX4_bestBeside 3 (some .long)) (rmX4_bestBeside) (mPc D dA ad σ [.int p1, .int p2]) (mQl D dA ad r σz) 0 0 (AM ad) := by
  refine Met.ofW (cc := cX4_bestBeside) (maxL := 3) (ret := (some .long)) (by decide) rfl ?_
  intro p e s m args below meth c s₁ B hml hv
  obtain ⟨rfl, hH, hK⟩ := hv
  have hx := B.exec
  have hb := B.bytes
  have hr := B.returns
  have hts := atoms_spec (ws := (ws_ yX4_bestBeside cX4_bestBeside 3 (some .long))) B.pre
  have hts : ∀ w ∈ lw_all, w.before _ s = true := fun w h => hts w (List.mem_cons_of_mem _ h)
  have hown : s.vm.findClass RX4 = some m.cls := findClass_of_methodNamed B.named
  have hlocks := B.notSynchronized
  have hl := lv_entry ([.ref (ad 0), .int p1, .int p2]) (n := 3) (Nat.le_of_ble_eq_true rfl)
  rw [lg_entry_eq]
  generalize (lg_sl ([.ref (ad 0), .int p1, .int p2]) ++ List.replicate (3 - (lg_sl ([.ref (ad 0), .int p1, .int p2])).length) Slot.unset).toArray = ls at hl ⊢
  have hl : lv_has ls 3 [(0, .ref (ad 0)), (1, .int p1), (2, .int p2)] := hl
  unfold fX4_bestBeside at hX
  refine m_start hH (fun H locs hH hS => ?_)
  refine lv_aload_n hx hb dX4_bestBeside_0 rfl (lv_at hl 0 rfl) ?_
  obtain ⟨σ1, hf, hX⟩ := cl_inv hX
  refine m_callVv (As := []) ⟨hx, hb, hml, hown, hts⟩ (mX4_copies l D dA ad hf) (cwV 0 hts (lw_V q1604 q1606 qs70 q95 q1607) rfl rfl rfl (by decide +kernel) ⟨Nat.le_of_ble_eq_true rfl, Nat.le_of_ble_eq_true rfl⟩) hK hH hS rfl hl.1 rfl (Nat.le_of_ble_eq_true rfl) dX4_bestBeside_1 (fun H locs hH hS => ?_)
  clear hf
  refine lv_aload_n hx hb dX4_bestBeside_4 rfl (lv_at hl 0 rfl) ?_
  refine lv_iconst (v := (4:Int32)) hx hb dX4_bestBeside_5 (by decide) ?_
  refine lv_iload_n hx hb dX4_bestBeside_6 rfl (lv_at hl 1 rfl) ?_
  refine lv_iload_n hx hb dX4_bestBeside_7 rfl (lv_at hl 2 rfl) ?_
  obtain ⟨x3, σ2, hf, hX⟩ := cl2_inv hX
  refine m_callVl (As := [.int (4:Int32), .int p1, .int p2]) ⟨hx, hb, hml, hown, hts⟩ (mgX4_bestFrom l D dA ad 12 hf) (cwV 3 hts (lw_V q1608 q1610 qs71 q95 q1611) rfl rfl rfl (by decide +kernel) ⟨Nat.le_of_ble_eq_true rfl, Nat.le_of_ble_eq_true rfl⟩) hK hH hS rfl hl.1 rfl (Nat.le_of_ble_eq_true rfl) dX4_bestBeside_8 (fun H locs hH hS => ?_)
  clear hf
  obtain ⟨e1, e2⟩ := Prod.mk.inj (rinv hX); subst e1; subst e2
  exact W.lret hx hb hr (fun t ht hW => ⟨⟨_, (), rfl, rfl, hH.to ht⟩, hS.F ht⟩) hS.2.2 dX4_bestBeside_11

abbrev rmX4_letsIn : Room := { frames := 38, cells := 0, slots := 0, locals := 880 }
def fX4_letsIn (p1 : Int32) (p2 : Int32) (p3 : Int32) (p4 : Int32) (σ : MS) : Option (Int32 × MS) :=
 if p1 = (1:Int32) then
 jn (fun (x1 : Int32) => gd (isb x1) (some (x1, σ))) (fun (k2 : Int32 → Option (Int32 × MS)) =>
 if p4 < p2 then
 k2 (0:Int32)
 else
 k2 (1:Int32))
 else
 if p1 = (2:Int32) then
 jn (fun (x3 : Int32) => gd (isb x3) (some (x3, σ))) (fun (k4 : Int32 → Option (Int32 × MS)) =>
 if p4 < (p2 * (σ.1 13)) then
 k4 (0:Int32)
 else
 k4 (1:Int32))
 else
 if p1 = (3:Int32) then
 jn (fun (x5 : Int32) => gd (isb x5) (some (x5, σ))) (fun (k6 : Int32 → Option (Int32 × MS)) =>
 if p4 < p2 then
 k6 (0:Int32)
 else
 k6 (1:Int32))
 else
 if p1 = (4:Int32) then
 jn (fun (x7 : Int32) => gd (isb x7) (some (x7, σ))) (fun (k8 : Int32 → Option (Int32 × MS)) =>
 if ((1000:Int32) * p2) ≤ (((σ.2.1 10 (1:Int32).toNatClampNeg) + (σ.2.1 10 (2:Int32).toNatClampNeg)) + (σ.2.1 10 (3:Int32).toNatClampNeg)) then
 k8 (0:Int32)
 else
 k8 (1:Int32))
 else
 if p1 = (5:Int32) then
 gd (ib ((1024:Int32) + p3) 1160) (
 jn (fun (x9 : Int32) => gd (isb x9) (some (x9, σ))) (fun (k10 : Int32 → Option (Int32 × MS)) =>
 jn (k10 (1:Int32)) (fun (k11 : Option (Int32 × MS)) =>
 if (σ.2.1 1 ((1024:Int32) + p3).toNatClampNeg) ≤ p4 then
 k11
 else
 gd (ib (((1036:Int32) + ((10:Int32) * p3)) + p4) 1160) (
 if (σ.2.1 1 (((1036:Int32) + ((10:Int32) * p3)) + p4).toNatClampNeg) = (1:Int32) then
 k11
 else
 k10 (0:Int32)))))
 else
 if p1 = (6:Int32) then
 cl2 (fX4_bestBeside ((1:Int32) + (p2 - p2 / (9:Int32) * (9:Int32))) p4 σ) (fun (x13 : Int64) (σ12 : MS) =>
 gd (isb (σ12.1 15)) (some (σ12.1 15, σ12)))
 else
 some ((1:Int32), σ)
set_option maxHeartbeats 4000000 in
set_option maxRecDepth 100000 in
theorem mX4_letsIn (l : Launch) (D : va_G) (dA : Nat → ClassId) (ad : Nat → Nat) {p1 : Int32} {p2 : Int32} {p3 : Int32} {p4 : Int32} {σ : MS} {r : Int32} {σz : MS} (hX : fX4_letsIn p1 p2 p3 p4 σ = some (r, σz)) : Met l yX4_letsIn (ws_ yX4_letsIn cX4_letsIn 7 (some .boolean)) (rmX4_letsIn) (mPc D dA ad σ [.int p1, .int p2, .int p3, .int p4]) (mQi D dA ad r σz) 0 0 (AM ad) := by
  refine Met.ofW (cc := cX4_letsIn) (maxL := 7) (ret := (some .boolean)) (by decide) rfl ?_
  intro p e s m args below meth c s₁ B hml hv
  obtain ⟨rfl, hH, hK⟩ := hv
  have hx := B.exec
  have hb := B.bytes
  have hr := B.returns
  have hts := atoms_spec (ws := (ws_ yX4_letsIn cX4_letsIn 7 (some .boolean))) B.pre
  have hts : ∀ w ∈ lw_all, w.before _ s = true := fun w h => hts w (List.mem_cons_of_mem _ h)
  have hown : s.vm.findClass RX4 = some m.cls := findClass_of_methodNamed B.named
  have hlocks := B.notSynchronized
  have hl := lv_entry ([.ref (ad 0), .int p1, .int p2, .int p3, .int p4]) (n := 7) (Nat.le_of_ble_eq_true rfl)
  rw [lg_entry_eq]
  generalize (lg_sl ([.ref (ad 0), .int p1, .int p2, .int p3, .int p4]) ++ List.replicate (7 - (lg_sl ([.ref (ad 0), .int p1, .int p2, .int p3, .int p4])).length) Slot.unset).toArray = ls at hl ⊢
  have hl : lv_has ls 7 [(0, .ref (ad 0)), (1, .int p1), (2, .int p2), (3, .int p3), (4, .int p4)] := hl
  unfold fX4_letsIn at hX
  refine m_start hH (fun H locs hH hS => ?_)
  refine lv_iload_n hx hb dX4_letsIn_0 rfl (lv_at hl 1 rfl) ?_
  by_cases hc0 : p1 = (1:Int32)
  · replace hX := ipos hc0 hX
    refine lv_tableIn (off := 39) (tgt := 40) hx hb dX4_letsIn_1 (by rw [hc0]; decide) (by rw [hc0]; decide) (by rw [hc0]; decide) (by decide) ?_
    refine lv_iload hx hb dX4_letsIn_40 (lv_at hl 4 rfl) ?_
    refine lv_iload_n hx hb dX4_letsIn_42 rfl (lv_at hl 2 rfl) ?_
    refine jnu1 hX (fun (x1 : Int32) => ∀ (H : Heap) (locs : List Loc), HM D dA ad σ H → va_S (AM ad) s.heap H locs → ∀ (ls : Array Slot), lv_has ls 7 [] → W p l e (headSpec (ws_ yX4_letsIn cX4_letsIn 7 (some .boolean)) (rmX4_letsIn)).room s m ([.ref (ad 0), .int p1, .int p2, .int p3, .int p4] : List Value).toArray below meth c H locs 0 0 (MQ below (mQi D dA ad r σz) ([.ref (ad 0), .int p1, .int p2, .int p3, .int p4] : List Value).toArray s 0 0 (AM ad)) (F0 m 51 ls [.int x1])) (fun x1 hX H locs hH hS ls hl => ?_) (fun k2 hk2 hX => ?_)
    · obtain ⟨hg, hX⟩ := gd_inv hX
      obtain ⟨e1, e2⟩ := Prod.mk.inj (rinv hX); subst e1; subst e2
      exact W.zret hx hb hr (isb_n hg) (fun t ht hW => ⟨⟨_, (), rfl, rfl, hH.to ht⟩, hS.F ht⟩) hS.2.2 dX4_letsIn_51
    · refine lv_icmp_lt (tgt := 50) hx hb dX4_letsIn_43 (by decide) (fun hc => ?_) (fun hc => ?_)
      · replace hX := ipos hc hX; clear hc
        refine lv_iconst (v := (0:Int32)) hx hb dX4_letsIn_50 (by decide) ?_
        exact hk2 (0:Int32) hX H locs hH hS ls (lv_sub hl [] rfl)
      · replace hX := ineg hc hX; clear hc
        refine lv_iconst (v := (1:Int32)) hx hb dX4_letsIn_46 (by decide) ?_
        refine lv_goto (tgt := 51) hx hb dX4_letsIn_47 (by decide) ?_
        exact hk2 (1:Int32) hX H locs hH hS ls (lv_sub hl [] rfl)
  · replace hX := ineg hc0 hX
    by_cases hc1 : p1 = (2:Int32)
    · replace hX := ipos hc1 hX
      refine lv_tableIn (off := 51) (tgt := 52) hx hb dX4_letsIn_1 (by rw [hc1]; decide) (by rw [hc1]; decide) (by rw [hc1]; decide) (by decide) ?_
      refine lv_iload hx hb dX4_letsIn_52 (lv_at hl 4 rfl) ?_
      refine lv_iload_n hx hb dX4_letsIn_54 rfl (lv_at hl 2 rfl) ?_
      refine lv_aload_n hx hb dX4_letsIn_55 rfl (lv_at hl 0 rfl) ?_
      refine m_get (v := .int (σ.1 13)) hx hb hts hown hK hH 13 (by decide) (hts _ q1303) rfl dX4_letsIn_56 ?_
      refine lv_imul hx hb dX4_letsIn_59 ?_
      refine jnu1 hX (fun (x3 : Int32) => ∀ (H : Heap) (locs : List Loc), HM D dA ad σ H → va_S (AM ad) s.heap H locs → ∀ (ls : Array Slot), lv_has ls 7 [] → W p l e (headSpec (ws_ yX4_letsIn cX4_letsIn 7 (some .boolean)) (rmX4_letsIn)).room s m ([.ref (ad 0), .int p1, .int p2, .int p3, .int p4] : List Value).toArray below meth c H locs 0 0 (MQ below (mQi D dA ad r σz) ([.ref (ad 0), .int p1, .int p2, .int p3, .int p4] : List Value).toArray s 0 0 (AM ad)) (F0 m 68 ls [.int x3])) (fun x3 hX H locs hH hS ls hl => ?_) (fun k4 hk4 hX => ?_)
      · obtain ⟨hg, hX⟩ := gd_inv hX
        obtain ⟨e1, e2⟩ := Prod.mk.inj (rinv hX); subst e1; subst e2
        exact W.zret hx hb hr (isb_n hg) (fun t ht hW => ⟨⟨_, (), rfl, rfl, hH.to ht⟩, hS.F ht⟩) hS.2.2 dX4_letsIn_68
      · refine lv_icmp_lt (tgt := 67) hx hb dX4_letsIn_60 (by decide) (fun hc => ?_) (fun hc => ?_)
        · replace hX := ipos hc hX; clear hc
          refine lv_iconst (v := (0:Int32)) hx hb dX4_letsIn_67 (by decide) ?_
          exact hk4 (0:Int32) hX H locs hH hS ls (lv_sub hl [] rfl)
        · replace hX := ineg hc hX; clear hc
          refine lv_iconst (v := (1:Int32)) hx hb dX4_letsIn_63 (by decide) ?_
          refine lv_goto (tgt := 68) hx hb dX4_letsIn_64 (by decide) ?_
          exact hk4 (1:Int32) hX H locs hH hS ls (lv_sub hl [] rfl)
    · replace hX := ineg hc1 hX
      by_cases hc2 : p1 = (3:Int32)
      · replace hX := ipos hc2 hX
        refine lv_tableIn (off := 39) (tgt := 40) hx hb dX4_letsIn_1 (by rw [hc2]; decide) (by rw [hc2]; decide) (by rw [hc2]; decide) (by decide) ?_
        refine lv_iload hx hb dX4_letsIn_40 (lv_at hl 4 rfl) ?_
        refine lv_iload_n hx hb dX4_letsIn_42 rfl (lv_at hl 2 rfl) ?_
        refine jnu1 hX (fun (x5 : Int32) => ∀ (H : Heap) (locs : List Loc), HM D dA ad σ H → va_S (AM ad) s.heap H locs → ∀ (ls : Array Slot), lv_has ls 7 [] → W p l e (headSpec (ws_ yX4_letsIn cX4_letsIn 7 (some .boolean)) (rmX4_letsIn)).room s m ([.ref (ad 0), .int p1, .int p2, .int p3, .int p4] : List Value).toArray below meth c H locs 0 0 (MQ below (mQi D dA ad r σz) ([.ref (ad 0), .int p1, .int p2, .int p3, .int p4] : List Value).toArray s 0 0 (AM ad)) (F0 m 51 ls [.int x5])) (fun x5 hX H locs hH hS ls hl => ?_) (fun k6 hk6 hX => ?_)
        · obtain ⟨hg, hX⟩ := gd_inv hX
          obtain ⟨e1, e2⟩ := Prod.mk.inj (rinv hX); subst e1; subst e2
          exact W.zret hx hb hr (isb_n hg) (fun t ht hW => ⟨⟨_, (), rfl, rfl, hH.to ht⟩, hS.F ht⟩) hS.2.2 dX4_letsIn_51
        · refine lv_icmp_lt (tgt := 50) hx hb dX4_letsIn_43 (by decide) (fun hc => ?_) (fun hc => ?_)
          · replace hX := ipos hc hX; clear hc
            refine lv_iconst (v := (0:Int32)) hx hb dX4_letsIn_50 (by decide) ?_
            exact hk6 (0:Int32) hX H locs hH hS ls (lv_sub hl [] rfl)
          · replace hX := ineg hc hX; clear hc
            refine lv_iconst (v := (1:Int32)) hx hb dX4_letsIn_46 (by decide) ?_
            refine lv_goto (tgt := 51) hx hb dX4_letsIn_47 (by decide) ?_
            exact hk6 (1:Int32) hX H locs hH hS ls (lv_sub hl [] rfl)
      · replace hX := ineg hc2 hX
        by_cases hc3 : p1 = (4:Int32)
        · replace hX := ipos hc3 hX
          refine lv_tableIn (off := 68) (tgt := 69) hx hb dX4_letsIn_1 (by rw [hc3]; decide) (by rw [hc3]; decide) (by rw [hc3]; decide) (by decide) ?_
          refine lv_aload_n hx hb dX4_letsIn_69 rfl (lv_at hl 0 rfl) ?_
          refine m_get (v := .ref (ad 10)) hx hb hts hown hK hH 10 (by decide) (hts _ q1300) rfl dX4_letsIn_70 ?_
          refine lv_iconst (v := (1:Int32)) hx hb dX4_letsIn_73 (by decide) ?_
          refine m_iald hx hb hK hH 4 10 (n := 8) rfl (by decide) dX4_letsIn_74 ?_
          refine lv_aload_n hx hb dX4_letsIn_75 rfl (lv_at hl 0 rfl) ?_
          refine m_get (v := .ref (ad 10)) hx hb hts hown hK hH 10 (by decide) (hts _ q1300) rfl dX4_letsIn_76 ?_
          refine lv_iconst (v := (2:Int32)) hx hb dX4_letsIn_79 (by decide) ?_
          refine m_iald hx hb hK hH 4 10 (n := 8) rfl (by decide) dX4_letsIn_80 ?_
          refine lv_iadd hx hb dX4_letsIn_81 ?_
          refine lv_aload_n hx hb dX4_letsIn_82 rfl (lv_at hl 0 rfl) ?_
          refine m_get (v := .ref (ad 10)) hx hb hts hown hK hH 10 (by decide) (hts _ q1300) rfl dX4_letsIn_83 ?_
          refine lv_iconst (v := (3:Int32)) hx hb dX4_letsIn_86 (by decide) ?_
          refine m_iald hx hb hK hH 4 10 (n := 8) rfl (by decide) dX4_letsIn_87 ?_
          refine lv_iadd hx hb dX4_letsIn_88 ?_
          refine lv_sipush (v := (1000:Int32)) hx hb dX4_letsIn_89 (by decide) ?_
          refine lv_iload_n hx hb dX4_letsIn_92 rfl (lv_at hl 2 rfl) ?_
          refine lv_imul hx hb dX4_letsIn_93 ?_
          refine jnu1 hX (fun (x7 : Int32) => ∀ (H : Heap) (locs : List Loc), HM D dA ad σ H → va_S (AM ad) s.heap H locs → ∀ (ls : Array Slot), lv_has ls 7 [] → W p l e (headSpec (ws_ yX4_letsIn cX4_letsIn 7 (some .boolean)) (rmX4_letsIn)).room s m ([.ref (ad 0), .int p1, .int p2, .int p3, .int p4] : List Value).toArray below meth c H locs 0 0 (MQ below (mQi D dA ad r σz) ([.ref (ad 0), .int p1, .int p2, .int p3, .int p4] : List Value).toArray s 0 0 (AM ad)) (F0 m 102 ls [.int x7])) (fun x7 hX H locs hH hS ls hl => ?_) (fun k8 hk8 hX => ?_)
          · obtain ⟨hg, hX⟩ := gd_inv hX
            obtain ⟨e1, e2⟩ := Prod.mk.inj (rinv hX); subst e1; subst e2
            exact W.zret hx hb hr (isb_n hg) (fun t ht hW => ⟨⟨_, (), rfl, rfl, hH.to ht⟩, hS.F ht⟩) hS.2.2 dX4_letsIn_102
          · refine lv_icmp_ge (tgt := 101) hx hb dX4_letsIn_94 (by decide) (fun hc => ?_) (fun hc => ?_)
            · replace hX := ipos hc hX; clear hc
              refine lv_iconst (v := (0:Int32)) hx hb dX4_letsIn_101 (by decide) ?_
              exact hk8 (0:Int32) hX H locs hH hS ls (lv_sub hl [] rfl)
            · replace hX := ineg hc hX; clear hc
              refine lv_iconst (v := (1:Int32)) hx hb dX4_letsIn_97 (by decide) ?_
              refine lv_goto (tgt := 102) hx hb dX4_letsIn_98 (by decide) ?_
              exact hk8 (1:Int32) hX H locs hH hS ls (lv_sub hl [] rfl)
        · replace hX := ineg hc3 hX
          by_cases hc4 : p1 = (5:Int32)
          · replace hX := ipos hc4 hX
            refine lv_tableIn (off := 102) (tgt := 103) hx hb dX4_letsIn_1 (by rw [hc4]; decide) (by rw [hc4]; decide) (by rw [hc4]; decide) (by decide) ?_
            refine lv_iload hx hb dX4_letsIn_103 (lv_at hl 4 rfl) ?_
            refine lv_aload_n hx hb dX4_letsIn_105 rfl (lv_at hl 0 rfl) ?_
            refine m_get (v := .ref (ad 1)) hx hb hts hown hK hH 1 (by decide) (hts _ q1291) rfl dX4_letsIn_106 ?_
            refine lv_sipush (v := (1024:Int32)) hx hb dX4_letsIn_109 (by decide) ?_
            refine lv_iload_n hx hb dX4_letsIn_112 rfl (lv_at hl 3 rfl) ?_
            refine lv_iadd hx hb dX4_letsIn_113 ?_
            obtain ⟨hg, hX⟩ := gd_inv hX
            refine m_iald hx hb hK hH 1 1 (n := 1160) rfl hg dX4_letsIn_114 ?_
            refine jnu1 hX (fun (x9 : Int32) => ∀ (H : Heap) (locs : List Loc), HM D dA ad σ H → va_S (AM ad) s.heap H locs → ∀ (ls : Array Slot), lv_has ls 7 [] → W p l e (headSpec (ws_ yX4_letsIn cX4_letsIn 7 (some .boolean)) (rmX4_letsIn)).room s m ([.ref (ad 0), .int p1, .int p2, .int p3, .int p4] : List Value).toArray below meth c H locs 0 0 (MQ below (mQi D dA ad r σz) ([.ref (ad 0), .int p1, .int p2, .int p3, .int p4] : List Value).toArray s 0 0 (AM ad)) (F0 m 143 ls [.int x9])) (fun x9 hX H locs hH hS ls hl => ?_) (fun k10 hk10 hX => ?_)
            · obtain ⟨hg, hX⟩ := gd_inv hX
              obtain ⟨e1, e2⟩ := Prod.mk.inj (rinv hX); subst e1; subst e2
              exact W.zret hx hb hr (isb_n hg) (fun t ht hW => ⟨⟨_, (), rfl, rfl, hH.to ht⟩, hS.F ht⟩) hS.2.2 dX4_letsIn_143
            · refine jnu0 hX (∀ (H : Heap) (locs : List Loc), HM D dA ad σ H → va_S (AM ad) s.heap H locs → ∀ (ls : Array Slot), lv_has ls 7 [] → W p l e (headSpec (ws_ yX4_letsIn cX4_letsIn 7 (some .boolean)) (rmX4_letsIn)).room s m ([.ref (ad 0), .int p1, .int p2, .int p3, .int p4] : List Value).toArray below meth c H locs 0 0 (MQ below (mQi D dA ad r σz) ([.ref (ad 0), .int p1, .int p2, .int p3, .int p4] : List Value).toArray s 0 0 (AM ad)) (F0 m 138 ls [])) (fun  hX H locs hH hS ls hl => ?_) (fun k11 hk11 hX => ?_)
              · refine lv_iconst (v := (1:Int32)) hx hb dX4_letsIn_138 (by decide) ?_
                refine lv_goto (tgt := 143) hx hb dX4_letsIn_139 (by decide) ?_
                exact hk10 (1:Int32) hX H locs hH hS ls (lv_sub hl [] rfl)
              · refine lv_icmp_ge (tgt := 138) hx hb dX4_letsIn_115 (by decide) (fun hc => ?_) (fun hc => ?_)
                · replace hX := ipos hc hX; clear hc
                  exact hk11  hX H locs hH hS ls (lv_sub hl [] rfl)
                · replace hX := ineg hc hX; clear hc
                  refine lv_aload_n hx hb dX4_letsIn_118 rfl (lv_at hl 0 rfl) ?_
                  refine m_get (v := .ref (ad 1)) hx hb hts hown hK hH 1 (by decide) (hts _ q1291) rfl dX4_letsIn_119 ?_
                  refine lv_sipush (v := (1036:Int32)) hx hb dX4_letsIn_122 (by decide) ?_
                  refine lv_bipush (v := (10:Int32)) hx hb dX4_letsIn_125 (by decide) ?_
                  refine lv_iload_n hx hb dX4_letsIn_127 rfl (lv_at hl 3 rfl) ?_
                  refine lv_imul hx hb dX4_letsIn_128 ?_
                  refine lv_iadd hx hb dX4_letsIn_129 ?_
                  refine lv_iload hx hb dX4_letsIn_130 (lv_at hl 4 rfl) ?_
                  refine lv_iadd hx hb dX4_letsIn_132 ?_
                  obtain ⟨hg, hX⟩ := gd_inv hX
                  refine m_iald hx hb hK hH 1 1 (n := 1160) rfl hg dX4_letsIn_133 ?_
                  refine lv_iconst (v := (1:Int32)) hx hb dX4_letsIn_134 (by decide) ?_
                  refine lv_icmp_ne (tgt := 142) hx hb dX4_letsIn_135 (by decide) (fun hc => ?_) (fun hc => ?_)
                  · replace hX := ineg hc hX; clear hc
                    refine lv_iconst (v := (0:Int32)) hx hb dX4_letsIn_142 (by decide) ?_
                    exact hk10 (0:Int32) hX H locs hH hS ls (lv_sub hl [] rfl)
                  · replace hX := ipos hc hX; clear hc
                    exact hk11  hX H locs hH hS ls (lv_sub hl [] rfl)
          · replace hX := ineg hc4 hX
            by_cases hc5 : p1 = (6:Int32)
            · replace hX := ipos hc5 hX
              refine lv_tableIn (off := 143) (tgt := 144) hx hb dX4_letsIn_1 (by rw [hc5]; decide) (by rw [hc5]; decide) (by rw [hc5]; decide) (by decide) ?_
              refine lv_aload_n hx hb dX4_letsIn_144 rfl (lv_at hl 0 rfl) ?_
              refine lv_iconst (v := (1:Int32)) hx hb dX4_letsIn_145 (by decide) ?_
              refine lv_iload_n hx hb dX4_letsIn_146 rfl (lv_at hl 2 rfl) ?_
              refine lv_bipush (v := (9:Int32)) hx hb dX4_letsIn_147 (by decide) ?_
              refine lv_irem hx hb dX4_letsIn_149 (by decide) ?_
              refine lv_iadd hx hb dX4_letsIn_150 ?_
              refine lv_iload hx hb dX4_letsIn_151 (lv_at hl 4 rfl) ?_
              obtain ⟨x13, σ12, hf, hX⟩ := cl2_inv hX
              refine m_callVl (As := [.int ((1:Int32) + (p2 - p2 / (9:Int32) * (9:Int32))), .int p4]) ⟨hx, hb, hml, hown, hts⟩ (mX4_bestBeside l D dA ad hf) (cwV 2 hts (lw_V q1600 q1602 qs69 q95 q1603) rfl rfl rfl (by decide +kernel) ⟨Nat.le_of_ble_eq_true rfl, Nat.le_of_ble_eq_true rfl⟩) hK hH hS rfl hl.1 rfl (Nat.le_of_ble_eq_true rfl) dX4_letsIn_153 (fun H locs hH hS => ?_)
              clear hf
              refine lv_lstore (lv' := [(5, .long x13), (0, .ref (ad 0)), (1, .int p1), (2, .int p2), (3, .int p3), (4, .int p4)]) hx hb dX4_letsIn_156 hl (by decide) rfl (fun ls hl => ?_)
              refine lv_aload_n hx hb dX4_letsIn_158 rfl (lv_at hl 1 rfl) ?_
              refine m_get (v := .int (σ12.1 15)) hx hb hts hown hK hH 15 (by decide) (hts _ q1305) rfl dX4_letsIn_159 ?_
              obtain ⟨hg, hX⟩ := gd_inv hX
              obtain ⟨e1, e2⟩ := Prod.mk.inj (rinv hX); subst e1; subst e2
              exact W.zret hx hb hr (isb_n hg) (fun t ht hW => ⟨⟨_, (), rfl, rfl, hH.to ht⟩, hS.F ht⟩) hS.2.2 dX4_letsIn_162
            · replace hX := ineg hc5 hX
              refine lv_tableOut (tgt := 163) hx hb dX4_letsIn_1 (tb_out (fun v h1 h2 => ?_)) (by decide) ?_
              · have hv : v = 1 ∨ v = 2 ∨ v = 3 ∨ v = 4 ∨ v = 5 ∨ v = 6 := by omega
                rcases hv with rfl | rfl | rfl | rfl | rfl | rfl
                · exact lv_neT hc0 (by decide)
                · exact lv_neT hc1 (by decide)
                · exact lv_neT hc2 (by decide)
                · exact lv_neT hc3 (by decide)
                · exact lv_neT hc4 (by decide)
                · exact lv_neT hc5 (by decide)
              · refine lv_iconst (v := (1:Int32)) hx hb dX4_letsIn_163 (by decide) ?_
                obtain ⟨e1, e2⟩ := Prod.mk.inj (rinv hX); subst e1; subst e2
                exact W.zret hx hb hr rfl (fun t ht hW => ⟨⟨_, (), rfl, rfl, hH.to ht⟩, hS.F ht⟩) hS.2.2 dX4_letsIn_164

abbrev rmX4_lets : Room := { frames := 39, cells := 0, slots := 0, locals := 906 }
def fX4_lets (p1 : Int32) (p2 : Int32) (p3 : Int32) (σ : MS) : Option (Int32 × MS) :=
 cl (fX4_isRule p1 σ) (fun (x1 : Int32) =>
 jn (some ((-1:Int32), σ)) (fun (k2 : Option (Int32 × MS)) =>
 if x1 = (0:Int32) then
 k2
 else
 cl (fX4_isShip p2 σ) (fun (x3 : Int32) =>
 if x3 = (0:Int32) then
 k2
 else
 cl (fX4_in p3 (0:Int32) (20:Int32)) (fun (x4 : Int32) =>
 if x4 = (0:Int32) then
 some ((-2:Int32), σ)
 else
 cl (fX4_takes p2 σ) (fun (σ5 : MS) =>
 gd (ib ((1000:Int32) + p1) 1160) (
 gd (ib ((1012:Int32) + p1) 1160) (
 cl2 (fX4_letsIn (σ5.2.1 1 ((1000:Int32) + p1).toNatClampNeg) (σ5.2.1 1 ((1012:Int32) + p1).toNatClampNeg) p1 p3 σ5) (fun (x7 : Int32) (σ6 : MS) =>
 jn (fun (x8 : Int32) => some (x8, σ6)) (fun (k9 : Int32 → Option (Int32 × MS)) =>
 if x7 = (0:Int32) then
 k9 (0:Int32)
 else
 k9 (1:Int32))))))))))
set_option maxHeartbeats 4000000 in
set_option maxRecDepth 100000 in
theorem mX4_lets (l : Launch) (D : va_G) (dA : Nat → ClassId) (ad : Nat → Nat) {p1 : Int32} {p2 : Int32} {p3 : Int32} {σ : MS} {r : Int32} {σz : MS} (hX : fX4_lets p1 p2 p3 σ = some (r, σz)) : Met l yX4_lets (ws_ yX4_lets cX4_lets 4 (some .int)) (rmX4_lets) (mPc D dA ad σ [.int p1, .int p2, .int p3]) (mQi D dA ad r σz) 0 0 (AM ad) := by
  refine Met.ofW (cc := cX4_lets) (maxL := 4) (ret := (some .int)) (by decide) rfl ?_
  intro p e s m args below meth c s₁ B hml hv
  obtain ⟨rfl, hH, hK⟩ := hv
  have hx := B.exec
  have hb := B.bytes
  have hr := B.returns
  have hts := atoms_spec (ws := (ws_ yX4_lets cX4_lets 4 (some .int))) B.pre
  have hts : ∀ w ∈ lw_all, w.before _ s = true := fun w h => hts w (List.mem_cons_of_mem _ h)
  have hown : s.vm.findClass RX4 = some m.cls := findClass_of_methodNamed B.named
  have hlocks := B.notSynchronized
  have hl := lv_entry ([.ref (ad 0), .int p1, .int p2, .int p3]) (n := 4) (Nat.le_of_ble_eq_true rfl)
  rw [lg_entry_eq]
  generalize (lg_sl ([.ref (ad 0), .int p1, .int p2, .int p3]) ++ List.replicate (4 - (lg_sl ([.ref (ad 0), .int p1, .int p2, .int p3])).length) Slot.unset).toArray = ls at hl ⊢
  have hl : lv_has ls 4 [(0, .ref (ad 0)), (1, .int p1), (2, .int p2), (3, .int p3)] := hl
  unfold fX4_lets at hX
  refine m_start hH (fun H locs hH hS => ?_)
  refine lv_aload_n hx hb dX4_lets_0 rfl (lv_at hl 0 rfl) ?_
  refine lv_iload_n hx hb dX4_lets_1 rfl (lv_at hl 1 rfl) ?_
  obtain ⟨x1, hf, hX⟩ := cl_inv hX
  refine m_callVi (As := [.int p1]) ⟨hx, hb, hml, hown, hts⟩ (mX4_isRule l D dA ad hf) (cwV 1 hts (lw_V q1588 q1590 qs67 q95 q1591) rfl rfl rfl (by decide +kernel) ⟨Nat.le_of_ble_eq_true rfl, Nat.le_of_ble_eq_true rfl⟩) hK hH hS rfl hl.1 rfl (Nat.le_of_ble_eq_true rfl) dX4_lets_2 (fun H locs hH hS => ?_)
  clear hf
  refine jnu0 hX (∀ (H : Heap) (locs : List Loc), HM D dA ad σ H → va_S (AM ad) s.heap H locs → ∀ (ls : Array Slot), lv_has ls 4 [] → W p l e (headSpec (ws_ yX4_lets cX4_lets 4 (some .int)) (rmX4_lets)).room s m ([.ref (ad 0), .int p1, .int p2, .int p3] : List Value).toArray below meth c H locs 0 0 (MQ below (mQi D dA ad r σz) ([.ref (ad 0), .int p1, .int p2, .int p3] : List Value).toArray s 0 0 (AM ad)) (F0 m 16 ls [])) (fun  hX H locs hH hS ls hl => ?_) (fun k2 hk2 hX => ?_)
  · refine lv_iconst (v := (-1:Int32)) hx hb dX4_lets_16 (by decide) ?_
    obtain ⟨e1, e2⟩ := Prod.mk.inj (rinv hX); subst e1; subst e2
    exact W.iret hx hb hr (fun t ht hW => ⟨⟨_, (), rfl, rfl, hH.to ht⟩, hS.F ht⟩) hS.2.2 dX4_lets_17
  · refine lv_if_eq (tgt := 16) hx hb dX4_lets_5 (by decide) (fun hc => ?_) (fun hc => ?_)
    · replace hX := ipos hc hX; clear hc
      exact hk2  hX H locs hH hS ls (lv_sub hl [] rfl)
    · replace hX := ineg hc hX; clear hc
      refine lv_aload_n hx hb dX4_lets_8 rfl (lv_at hl 0 rfl) ?_
      refine lv_iload_n hx hb dX4_lets_9 rfl (lv_at hl 2 rfl) ?_
      obtain ⟨x3, hf, hX⟩ := cl_inv hX
      refine m_callVi (As := [.int p2]) ⟨hx, hb, hml, hown, hts⟩ (mX4_isShip l D dA ad hf) (cwV 1 hts (lw_V q1532 q1534 qs61 q95 q1535) rfl rfl rfl (by decide +kernel) ⟨Nat.le_of_ble_eq_true rfl, Nat.le_of_ble_eq_true rfl⟩) hK hH hS rfl hl.1 rfl (Nat.le_of_ble_eq_true rfl) dX4_lets_10 (fun H locs hH hS => ?_)
      clear hf
      refine lv_if_ne (tgt := 18) hx hb dX4_lets_13 (by decide) (fun hc => ?_) (fun hc => ?_)
      · replace hX := ineg hc hX; clear hc
        refine lv_iload_n hx hb dX4_lets_18 rfl (lv_at hl 3 rfl) ?_
        refine lv_iconst (v := (0:Int32)) hx hb dX4_lets_19 (by decide) ?_
        refine lv_bipush (v := (20:Int32)) hx hb dX4_lets_20 (by decide) ?_
        obtain ⟨x4, hf, hX⟩ := cl_inv hX
        refine m_callSi (As := [.int p3, .int (0:Int32), .int (20:Int32)]) ⟨hx, hb, hml, hown, hts⟩ (mX4_in l hf) (va_cwS 3 hts (lw_S q1368 q1369 q95 q1370) rfl rfl rfl (by decide +kernel) ⟨Nat.le_of_ble_eq_true rfl, Nat.le_of_ble_eq_true rfl⟩) hH hS rfl hl.1 rfl (Nat.le_of_ble_eq_true rfl) dX4_lets_22 (fun H locs hH hS => ?_)
        clear hf
        refine lv_if_ne (tgt := 31) hx hb dX4_lets_25 (by decide) (fun hc => ?_) (fun hc => ?_)
        · replace hX := ineg hc hX; clear hc
          refine lv_aload_n hx hb dX4_lets_31 rfl (lv_at hl 0 rfl) ?_
          refine lv_iload_n hx hb dX4_lets_32 rfl (lv_at hl 2 rfl) ?_
          obtain ⟨σ5, hf, hX⟩ := cl_inv hX
          refine m_callVv (As := [.int p2]) ⟨hx, hb, hml, hown, hts⟩ (mX4_takes l D dA ad hf) (cwV 1 hts (lw_V q1507 q1509 qs57 q95 q1510) rfl rfl rfl (by decide +kernel) ⟨Nat.le_of_ble_eq_true rfl, Nat.le_of_ble_eq_true rfl⟩) hK hH hS rfl hl.1 rfl (Nat.le_of_ble_eq_true rfl) dX4_lets_33 (fun H locs hH hS => ?_)
          clear hf
          refine lv_aload_n hx hb dX4_lets_36 rfl (lv_at hl 0 rfl) ?_
          refine lv_aload_n hx hb dX4_lets_37 rfl (lv_at hl 0 rfl) ?_
          refine m_get (v := .ref (ad 1)) hx hb hts hown hK hH 1 (by decide) (hts _ q1291) rfl dX4_lets_38 ?_
          refine lv_sipush (v := (1000:Int32)) hx hb dX4_lets_41 (by decide) ?_
          refine lv_iload_n hx hb dX4_lets_44 rfl (lv_at hl 1 rfl) ?_
          refine lv_iadd hx hb dX4_lets_45 ?_
          obtain ⟨hg, hX⟩ := gd_inv hX
          refine m_iald hx hb hK hH 1 1 (n := 1160) rfl hg dX4_lets_46 ?_
          refine lv_aload_n hx hb dX4_lets_47 rfl (lv_at hl 0 rfl) ?_
          refine m_get (v := .ref (ad 1)) hx hb hts hown hK hH 1 (by decide) (hts _ q1291) rfl dX4_lets_48 ?_
          refine lv_sipush (v := (1012:Int32)) hx hb dX4_lets_51 (by decide) ?_
          refine lv_iload_n hx hb dX4_lets_54 rfl (lv_at hl 1 rfl) ?_
          refine lv_iadd hx hb dX4_lets_55 ?_
          obtain ⟨hg, hX⟩ := gd_inv hX
          refine m_iald hx hb hK hH 1 1 (n := 1160) rfl hg dX4_lets_56 ?_
          refine lv_iload_n hx hb dX4_lets_57 rfl (lv_at hl 1 rfl) ?_
          refine lv_iload_n hx hb dX4_lets_58 rfl (lv_at hl 3 rfl) ?_
          obtain ⟨x7, σ6, hf, hX⟩ := cl2_inv hX
          refine m_callVi (As := [.int (σ5.2.1 1 ((1000:Int32) + p1).toNatClampNeg), .int (σ5.2.1 1 ((1012:Int32) + p1).toNatClampNeg), .int p1, .int p3]) ⟨hx, hb, hml, hown, hts⟩ (mX4_letsIn l D dA ad hf) (cwV 4 hts (lw_V q1596 q1598 qs68 q95 q1599) rfl rfl rfl (by decide +kernel) ⟨Nat.le_of_ble_eq_true rfl, Nat.le_of_ble_eq_true rfl⟩) hK hH hS rfl hl.1 rfl (Nat.le_of_ble_eq_true rfl) dX4_lets_59 (fun H locs hH hS => ?_)
          clear hf
          refine jnu1 hX (fun (x8 : Int32) => ∀ (H : Heap) (locs : List Loc), HM D dA ad σ6 H → va_S (AM ad) s.heap H locs → ∀ (ls : Array Slot), lv_has ls 4 [] → W p l e (headSpec (ws_ yX4_lets cX4_lets 4 (some .int)) (rmX4_lets)).room s m ([.ref (ad 0), .int p1, .int p2, .int p3] : List Value).toArray below meth c H locs 0 0 (MQ below (mQi D dA ad r σz) ([.ref (ad 0), .int p1, .int p2, .int p3] : List Value).toArray s 0 0 (AM ad)) (F0 m 70 ls [.int x8])) (fun x8 hX H locs hH hS ls hl => ?_) (fun k9 hk9 hX => ?_)
          · obtain ⟨e1, e2⟩ := Prod.mk.inj (rinv hX); subst e1; subst e2
            exact W.iret hx hb hr (fun t ht hW => ⟨⟨_, (), rfl, rfl, hH.to ht⟩, hS.F ht⟩) hS.2.2 dX4_lets_70
          · refine lv_if_eq (tgt := 69) hx hb dX4_lets_62 (by decide) (fun hc => ?_) (fun hc => ?_)
            · replace hX := ipos hc hX; clear hc
              refine lv_iconst (v := (0:Int32)) hx hb dX4_lets_69 (by decide) ?_
              exact hk9 (0:Int32) hX H locs hH hS ls (lv_sub hl [] rfl)
            · replace hX := ineg hc hX; clear hc
              refine lv_iconst (v := (1:Int32)) hx hb dX4_lets_65 (by decide) ?_
              refine lv_goto (tgt := 70) hx hb dX4_lets_66 (by decide) ?_
              exact hk9 (1:Int32) hX H locs hH hS ls (lv_sub hl [] rfl)
        · replace hX := ipos hc hX; clear hc
          refine lv_bipush (v := (-2:Int32)) hx hb dX4_lets_28 (by decide) ?_
          obtain ⟨e1, e2⟩ := Prod.mk.inj (rinv hX); subst e1; subst e2
          exact W.iret hx hb hr (fun t ht hW => ⟨⟨_, (), rfl, rfl, hH.to ht⟩, hS.F ht⟩) hS.2.2 dX4_lets_30
      · replace hX := ipos hc hX; clear hc
        exact hk2  hX H locs hH hS ls (lv_sub hl [] rfl)

abbrev rmX4_best : Room := { frames := 37, cells := 0, slots := 0, locals := 858 }
def fX4_best (p1 : Int32) (p2 : Int32) (p3 : Int32) (p4 : Int32) (σ : MS) : Option (Int64 × MS) :=
 cl (fX4_isShip p1 σ) (fun (x1 : Int32) =>
 jn (some ((-9223372036854775808:Int64), σ)) (fun (k2 : Option (Int64 × MS)) =>
 if x1 = (0:Int32) then
 k2
 else
 cl (fX4_in p2 (0:Int32) (9:Int32)) (fun (x3 : Int32) =>
 if x3 = (0:Int32) then
 k2
 else
 cl (fX4_in p3 (0:Int32) (20:Int32)) (fun (x4 : Int32) =>
 if x4 = (0:Int32) then
 k2
 else
 cl (fX4_in p4 (0:Int32) (1:Int32)) (fun (x5 : Int32) =>
 if x5 = (0:Int32) then
 k2
 else
 cl (fX4_takes p1 σ) (fun (σ6 : MS) =>
 cl2 (gX4_bestFrom 12 (0:Int32) p2 p3 σ6) (fun (x8 : Int64) (σ7 : MS) =>
 jn (fun (x9 : Int64) => some (x9, σ7)) (fun (k10 : Int64 → Option (Int64 × MS)) =>
 if p4 = (0:Int32) then
 k10 x8
 else
 if (σ7.1 15) = (0:Int32) then
 k10 (0:Int64)
 else
 k10 (1:Int64)))))))))
set_option maxHeartbeats 4000000 in
set_option maxRecDepth 100000 in
theorem mX4_best (l : Launch) (D : va_G) (dA : Nat → ClassId) (ad : Nat → Nat) {p1 : Int32} {p2 : Int32} {p3 : Int32} {p4 : Int32} {σ : MS} {r : Int64} {σz : MS} (hX : fX4_best p1 p2 p3 p4 σ = some (r, σz)) : Met l yX4_best (ws_ yX4_best cX4_best 7 (some .long)) (rmX4_best) (mPc D dA ad σ [.int p1, .int p2, .int p3, .int p4]) (mQl D dA ad r σz) 0 0 (AM ad) := by
  refine Met.ofW (cc := cX4_best) (maxL := 7) (ret := (some .long)) (by decide) rfl ?_
  intro p e s m args below meth c s₁ B hml hv
  obtain ⟨rfl, hH, hK⟩ := hv
  have hx := B.exec
  have hb := B.bytes
  have hr := B.returns
  have hts := atoms_spec (ws := (ws_ yX4_best cX4_best 7 (some .long))) B.pre
  have hts : ∀ w ∈ lw_all, w.before _ s = true := fun w h => hts w (List.mem_cons_of_mem _ h)
  have hown : s.vm.findClass RX4 = some m.cls := findClass_of_methodNamed B.named
  have hlocks := B.notSynchronized
  have hl := lv_entry ([.ref (ad 0), .int p1, .int p2, .int p3, .int p4]) (n := 7) (Nat.le_of_ble_eq_true rfl)
  rw [lg_entry_eq]
  generalize (lg_sl ([.ref (ad 0), .int p1, .int p2, .int p3, .int p4]) ++ List.replicate (7 - (lg_sl ([.ref (ad 0), .int p1, .int p2, .int p3, .int p4])).length) Slot.unset).toArray = ls at hl ⊢
  have hl : lv_has ls 7 [(0, .ref (ad 0)), (1, .int p1), (2, .int p2), (3, .int p3), (4, .int p4)] := hl
  unfold fX4_best at hX
  refine m_start hH (fun H locs hH hS => ?_)
  refine lv_aload_n hx hb dX4_best_0 rfl (lv_at hl 0 rfl) ?_
  refine lv_iload_n hx hb dX4_best_1 rfl (lv_at hl 1 rfl) ?_
  obtain ⟨x1, hf, hX⟩ := cl_inv hX
  refine m_callVi (As := [.int p1]) ⟨hx, hb, hml, hown, hts⟩ (mX4_isShip l D dA ad hf) (cwV 1 hts (lw_V q1532 q1534 qs61 q95 q1535) rfl rfl rfl (by decide +kernel) ⟨Nat.le_of_ble_eq_true rfl, Nat.le_of_ble_eq_true rfl⟩) hK hH hS rfl hl.1 rfl (Nat.le_of_ble_eq_true rfl) dX4_best_2 (fun H locs hH hS => ?_)
  clear hf
  refine jnu0 hX (∀ (H : Heap) (locs : List Loc), HM D dA ad σ H → va_S (AM ad) s.heap H locs → ∀ (ls : Array Slot), lv_has ls 7 [] → W p l e (headSpec (ws_ yX4_best cX4_best 7 (some .long)) (rmX4_best)).room s m ([.ref (ad 0), .int p1, .int p2, .int p3, .int p4] : List Value).toArray below meth c H locs 0 0 (MQ below (mQl D dA ad r σz) ([.ref (ad 0), .int p1, .int p2, .int p3, .int p4] : List Value).toArray s 0 0 (AM ad)) (F0 m 38 ls [])) (fun  hX H locs hH hS ls hl => ?_) (fun k2 hk2 hX => ?_)
  · refine lv_ldc2 (v := (-9223372036854775808:Int64)) hx hb hown (hts _ q1573) dX4_best_38 ?_
    obtain ⟨e1, e2⟩ := Prod.mk.inj (rinv hX); subst e1; subst e2
    exact W.lret hx hb hr (fun t ht hW => ⟨⟨_, (), rfl, rfl, hH.to ht⟩, hS.F ht⟩) hS.2.2 dX4_best_41
  · refine lv_if_eq (tgt := 38) hx hb dX4_best_5 (by decide) (fun hc => ?_) (fun hc => ?_)
    · replace hX := ipos hc hX; clear hc
      exact hk2  hX H locs hH hS ls (lv_sub hl [] rfl)
    · replace hX := ineg hc hX; clear hc
      refine lv_iload_n hx hb dX4_best_8 rfl (lv_at hl 2 rfl) ?_
      refine lv_iconst (v := (0:Int32)) hx hb dX4_best_9 (by decide) ?_
      refine lv_bipush (v := (9:Int32)) hx hb dX4_best_10 (by decide) ?_
      obtain ⟨x3, hf, hX⟩ := cl_inv hX
      refine m_callSi (As := [.int p2, .int (0:Int32), .int (9:Int32)]) ⟨hx, hb, hml, hown, hts⟩ (mX4_in l hf) (va_cwS 3 hts (lw_S q1368 q1369 q95 q1370) rfl rfl rfl (by decide +kernel) ⟨Nat.le_of_ble_eq_true rfl, Nat.le_of_ble_eq_true rfl⟩) hH hS rfl hl.1 rfl (Nat.le_of_ble_eq_true rfl) dX4_best_12 (fun H locs hH hS => ?_)
      clear hf
      refine lv_if_eq (tgt := 38) hx hb dX4_best_15 (by decide) (fun hc => ?_) (fun hc => ?_)
      · replace hX := ipos hc hX; clear hc
        exact hk2  hX H locs hH hS ls (lv_sub hl [] rfl)
      · replace hX := ineg hc hX; clear hc
        refine lv_iload_n hx hb dX4_best_18 rfl (lv_at hl 3 rfl) ?_
        refine lv_iconst (v := (0:Int32)) hx hb dX4_best_19 (by decide) ?_
        refine lv_bipush (v := (20:Int32)) hx hb dX4_best_20 (by decide) ?_
        obtain ⟨x4, hf, hX⟩ := cl_inv hX
        refine m_callSi (As := [.int p3, .int (0:Int32), .int (20:Int32)]) ⟨hx, hb, hml, hown, hts⟩ (mX4_in l hf) (va_cwS 3 hts (lw_S q1368 q1369 q95 q1370) rfl rfl rfl (by decide +kernel) ⟨Nat.le_of_ble_eq_true rfl, Nat.le_of_ble_eq_true rfl⟩) hH hS rfl hl.1 rfl (Nat.le_of_ble_eq_true rfl) dX4_best_22 (fun H locs hH hS => ?_)
        clear hf
        refine lv_if_eq (tgt := 38) hx hb dX4_best_25 (by decide) (fun hc => ?_) (fun hc => ?_)
        · replace hX := ipos hc hX; clear hc
          exact hk2  hX H locs hH hS ls (lv_sub hl [] rfl)
        · replace hX := ineg hc hX; clear hc
          refine lv_iload hx hb dX4_best_28 (lv_at hl 4 rfl) ?_
          refine lv_iconst (v := (0:Int32)) hx hb dX4_best_30 (by decide) ?_
          refine lv_iconst (v := (1:Int32)) hx hb dX4_best_31 (by decide) ?_
          obtain ⟨x5, hf, hX⟩ := cl_inv hX
          refine m_callSi (As := [.int p4, .int (0:Int32), .int (1:Int32)]) ⟨hx, hb, hml, hown, hts⟩ (mX4_in l hf) (va_cwS 3 hts (lw_S q1368 q1369 q95 q1370) rfl rfl rfl (by decide +kernel) ⟨Nat.le_of_ble_eq_true rfl, Nat.le_of_ble_eq_true rfl⟩) hH hS rfl hl.1 rfl (Nat.le_of_ble_eq_true rfl) dX4_best_32 (fun H locs hH hS => ?_)
          clear hf
          refine lv_if_ne (tgt := 42) hx hb dX4_best_35 (by decide) (fun hc => ?_) (fun hc => ?_)
          · replace hX := ineg hc hX; clear hc
            refine lv_aload_n hx hb dX4_best_42 rfl (lv_at hl 0 rfl) ?_
            refine lv_iload_n hx hb dX4_best_43 rfl (lv_at hl 1 rfl) ?_
            obtain ⟨σ6, hf, hX⟩ := cl_inv hX
            refine m_callVv (As := [.int p1]) ⟨hx, hb, hml, hown, hts⟩ (mX4_takes l D dA ad hf) (cwV 1 hts (lw_V q1507 q1509 qs57 q95 q1510) rfl rfl rfl (by decide +kernel) ⟨Nat.le_of_ble_eq_true rfl, Nat.le_of_ble_eq_true rfl⟩) hK hH hS rfl hl.1 rfl (Nat.le_of_ble_eq_true rfl) dX4_best_44 (fun H locs hH hS => ?_)
            clear hf
            refine lv_aload_n hx hb dX4_best_47 rfl (lv_at hl 0 rfl) ?_
            refine lv_iconst (v := (0:Int32)) hx hb dX4_best_48 (by decide) ?_
            refine lv_iload_n hx hb dX4_best_49 rfl (lv_at hl 2 rfl) ?_
            refine lv_iload_n hx hb dX4_best_50 rfl (lv_at hl 3 rfl) ?_
            obtain ⟨x8, σ7, hf, hX⟩ := cl2_inv hX
            refine m_callVl (As := [.int (0:Int32), .int p2, .int p3]) ⟨hx, hb, hml, hown, hts⟩ (mgX4_bestFrom l D dA ad 12 hf) (cwV 3 hts (lw_V q1608 q1610 qs71 q95 q1611) rfl rfl rfl (by decide +kernel) ⟨Nat.le_of_ble_eq_true rfl, Nat.le_of_ble_eq_true rfl⟩) hK hH hS rfl hl.1 rfl (Nat.le_of_ble_eq_true rfl) dX4_best_51 (fun H locs hH hS => ?_)
            clear hf
            refine lv_lstore (lv' := [(5, .long x8), (0, .ref (ad 0)), (1, .int p1), (2, .int p2), (3, .int p3), (4, .int p4)]) hx hb dX4_best_54 hl (by decide) rfl (fun ls hl => ?_)
            refine lv_iload hx hb dX4_best_56 (lv_at hl 5 rfl) ?_
            refine jnu1 hX (fun (x9 : Int64) => ∀ (H : Heap) (locs : List Loc), HM D dA ad σ7 H → va_S (AM ad) s.heap H locs → ∀ (ls : Array Slot), lv_has ls 7 [] → W p l e (headSpec (ws_ yX4_best cX4_best 7 (some .long)) (rmX4_best)).room s m ([.ref (ad 0), .int p1, .int p2, .int p3, .int p4] : List Value).toArray below meth c H locs 0 0 (MQ below (mQl D dA ad r σz) ([.ref (ad 0), .int p1, .int p2, .int p3, .int p4] : List Value).toArray s 0 0 (AM ad)) (F0 m 78 ls [.long x9])) (fun x9 hX H locs hH hS ls hl => ?_) (fun k10 hk10 hX => ?_)
            · obtain ⟨e1, e2⟩ := Prod.mk.inj (rinv hX); subst e1; subst e2
              exact W.lret hx hb hr (fun t ht hW => ⟨⟨_, (), rfl, rfl, hH.to ht⟩, hS.F ht⟩) hS.2.2 dX4_best_78
            · refine lv_if_ne (tgt := 66) hx hb dX4_best_58 (by decide) (fun hc => ?_) (fun hc => ?_)
              · replace hX := ineg hc hX; clear hc
                refine lv_aload_n hx hb dX4_best_66 rfl (lv_at hl 1 rfl) ?_
                refine m_get (v := .int (σ7.1 15)) hx hb hts hown hK hH 15 (by decide) (hts _ q1305) rfl dX4_best_67 ?_
                refine lv_if_eq (tgt := 77) hx hb dX4_best_70 (by decide) (fun hc => ?_) (fun hc => ?_)
                · replace hX := ipos hc hX; clear hc
                  refine lv_lconst (v := (0:Int64)) hx hb dX4_best_77 (by decide) ?_
                  exact hk10 (0:Int64) hX H locs hH hS ls (lv_sub hl [] rfl)
                · replace hX := ineg hc hX; clear hc
                  refine lv_lconst (v := (1:Int64)) hx hb dX4_best_73 (by decide) ?_
                  refine lv_goto (tgt := 78) hx hb dX4_best_74 (by decide) ?_
                  exact hk10 (1:Int64) hX H locs hH hS ls (lv_sub hl [] rfl)
              · replace hX := ipos hc hX; clear hc
                refine lv_lload hx hb dX4_best_61 (lv_at hl 0 rfl) ?_
                refine lv_goto (tgt := 78) hx hb dX4_best_63 (by decide) ?_
                exact hk10 x8 hX H locs hH hS ls (lv_sub hl [] rfl)
          · replace hX := ipos hc hX; clear hc
            exact hk2  hX H locs hH hS ls (lv_sub hl [] rfl)
