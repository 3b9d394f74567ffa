/-! printed by gen/model.py -/
abbrev rmX4_in : Room := { frames := 0, cells := 0, slots := 0, locals := 0 }
def fX4_in (p1 : Int32) (p2 : Int32) (p3 : Int32) : Option (Int32) :=
 jn (fun (x1 : Int32) => gd (isb x1) (some x1)) (fun (k2 : Int32 → Option (Int32)) =>
 jn (k2 (0:Int32)) (fun (k3 : Option (Int32)) =>
 if p1 < p2 then
 k3
 else
 if p3 < p1 then
 k3
 else
 k2 (1:Int32)))
set_option maxHeartbeats 4000000 in
set_option maxRecDepth 100000 in
theorem mX4_in (l : Launch) {p1 : Int32} {p2 : Int32} {p3 : Int32} {r : Int32} (hX : fX4_in p1 p2 p3 = some r) : Met l yX4_in (ws_ yX4_in cX4_in 3 (some .boolean)) (rmX4_in) (sPc [.int p1, .int p2, .int p3]) (sQi r) 0 0 noA := by
  refine Met.ofW (cc := cX4_in) (maxL := 3) (ret := (some .boolean)) (by decide) rfl ?_
  intro p e s m args below meth c s₁ B hml hv
  obtain ⟨rfl, -⟩ := hv
  have hx := B.exec
  have hb := B.bytes
  have hr := B.returns
  have hts := atoms_spec (ws := (ws_ yX4_in cX4_in 3 (some .boolean))) B.pre
  have hts : ∀ w ∈ lw_all, w.before _ s = true := fun w h => hts w (List.mem_cons_of_mem _ h)
  have hown : s.vm.findClass RX4 = some m.cls := findClass_of_methodNamed B.named
  have hlocks := B.notSynchronized
  have hl := lv_entry ([.int p1, .int p2, .int p3]) (n := 3) (Nat.le_of_ble_eq_true rfl)
  rw [lg_entry_eq]
  generalize (lg_sl ([.int p1, .int p2, .int p3]) ++ List.replicate (3 - (lg_sl ([.int p1, .int p2, .int p3])).length) Slot.unset).toArray = ls at hl ⊢
  have hl : lv_has ls 3 [(0, .int p1), (1, .int p2), (2, .int p3)] := hl
  unfold fX4_in at hX
  refine s_start (fun H locs hS => ?_)
  refine lv_iload_n hx hb dX4_in_0 rfl (lv_at hl 0 rfl) ?_
  refine lv_iload_n hx hb dX4_in_1 rfl (lv_at hl 1 rfl) ?_
  refine jnu1 hX (fun (x1 : Int32) => ∀ (H : Heap) (locs : List Loc), va_S noA s.heap H locs → ∀ (ls : Array Slot), lv_has ls 3 [] → W p l e (headSpec (ws_ yX4_in cX4_in 3 (some .boolean)) (rmX4_in)).room s m ([.int p1, .int p2, .int p3] : List Value).toArray below meth c H locs 0 0 (MQ below (sQi r) ([.int p1, .int p2, .int p3] : List Value).toArray s 0 0 noA) (F0 m 15 ls [.int x1])) (fun x1 hX H locs hS ls hl => ?_) (fun k2 hk2 hX => ?_)
  · obtain ⟨hg, hX⟩ := gd_inv hX
    have e1 := rinv hX; subst e1
    exact W.zret hx hb hr (isb_n hg) (fun t ht hW => ⟨⟨_, (), rfl, rfl, trivial⟩, hS.F ht⟩) hS.2.2 dX4_in_15
  · refine jnu0 hX (∀ (H : Heap) (locs : List Loc), va_S noA s.heap H locs → ∀ (ls : Array Slot), lv_has ls 3 [] → W p l e (headSpec (ws_ yX4_in cX4_in 3 (some .boolean)) (rmX4_in)).room s m ([.int p1, .int p2, .int p3] : List Value).toArray below meth c H locs 0 0 (MQ below (sQi r) ([.int p1, .int p2, .int p3] : List Value).toArray s 0 0 noA) (F0 m 14 ls [])) (fun  hX H locs hS ls hl => ?_) (fun k3 hk3 hX => ?_)
    · refine lv_iconst (v := (0:Int32)) hx hb dX4_in_14 (by decide) ?_
      exact hk2 (0:Int32) hX H locs hS ls (lv_sub hl [] rfl)
    · refine lv_icmp_lt (tgt := 14) hx hb dX4_in_2 (by decide) (fun hc => ?_) (fun hc => ?_)
      · replace hX := ipos hc hX; clear hc
        exact hk3  hX H locs hS ls (lv_sub hl [] rfl)
      · replace hX := ineg hc hX; clear hc
        refine lv_iload_n hx hb dX4_in_5 rfl (lv_at hl 0 rfl) ?_
        refine lv_iload_n hx hb dX4_in_6 rfl (lv_at hl 2 rfl) ?_
        refine lv_icmp_gt (tgt := 14) hx hb dX4_in_7 (by decide) (fun hc => ?_) (fun hc => ?_)
        · replace hX := ipos hc hX; clear hc
          exact hk3  hX H locs hS ls (lv_sub hl [] rfl)
        · replace hX := ineg hc hX; clear hc
          refine lv_iconst (v := (1:Int32)) hx hb dX4_in_10 (by decide) ?_
          refine lv_goto (tgt := 15) hx hb dX4_in_11 (by decide) ?_
          exact hk2 (1:Int32) hX H locs hS ls (lv_sub hl [] rfl)

abbrev rmX4_isPort : Room := { frames := 1, cells := 0, slots := 0, locals := 22 }
def fX4_isPort (p1 : Int32) (σ : MS) : Option (Int32) :=
 cl (fX4_in p1 (0:Int32) ((σ.2.1 1 (0:Int32).toNatClampNeg) - (1:Int32))) (fun (x1 : Int32) =>
 gd (isb x1) (some x1))
set_option maxHeartbeats 4000000 in
set_option maxRecDepth 100000 in
theorem mX4_isPort (l : Launch) (D : va_G) (dA : Nat → ClassId) (ad : Nat → Nat) {p1 : Int32} {σ : MS} {r : Int32} (hX : fX4_isPort p1 σ = some r) : Met l yX4_isPort (ws_ yX4_isPort cX4_isPort 2 (some .boolean)) (rmX4_isPort) (mPc D dA ad σ [.int p1]) (mQi D dA ad r σ) 0 0 (AM ad) := by
  refine Met.ofW (cc := cX4_isPort) (maxL := 2) (ret := (some .boolean)) (by decide) rfl ?_
  intro p e s m args below meth c s₁ B hml hv
  obtain ⟨rfl, hH, hK⟩ := hv
  have hx := B.exec
  have hb := B.bytes
  have hr := B.returns
  have hts := atoms_spec (ws := (ws_ yX4_isPort cX4_isPort 2 (some .boolean))) B.pre
  have hts : ∀ w ∈ lw_all, w.before _ s = true := fun w h => hts w (List.mem_cons_of_mem _ h)
  have hown : s.vm.findClass RX4 = some m.cls := findClass_of_methodNamed B.named
  have hlocks := B.notSynchronized
  have hl := lv_entry ([.ref (ad 0), .int p1]) (n := 2) (Nat.le_of_ble_eq_true rfl)
  rw [lg_entry_eq]
  generalize (lg_sl ([.ref (ad 0), .int p1]) ++ List.replicate (2 - (lg_sl ([.ref (ad 0), .int p1])).length) Slot.unset).toArray = ls at hl ⊢
  have hl : lv_has ls 2 [(0, .ref (ad 0)), (1, .int p1)] := hl
  unfold fX4_isPort at hX
  refine m_start hH (fun H locs hH hS => ?_)
  refine lv_iload_n hx hb dX4_isPort_0 rfl (lv_at hl 1 rfl) ?_
  refine lv_iconst (v := (0:Int32)) hx hb dX4_isPort_1 (by decide) ?_
  refine lv_aload_n hx hb dX4_isPort_2 rfl (lv_at hl 0 rfl) ?_
  refine m_get (v := .ref (ad 1)) hx hb hts hown hK hH 1 (by decide) (hts _ q1291) rfl dX4_isPort_3 ?_
  refine lv_iconst (v := (0:Int32)) hx hb dX4_isPort_6 (by decide) ?_
  refine m_iald hx hb hK hH 1 1 (n := 1160) rfl (by decide) dX4_isPort_7 ?_
  refine lv_iconst (v := (1:Int32)) hx hb dX4_isPort_8 (by decide) ?_
  refine lv_isub hx hb dX4_isPort_9 ?_
  obtain ⟨x1, hf, hX⟩ := cl_inv hX
  refine m_callSi (As := [.int p1, .int (0:Int32), .int ((σ.2.1 1 (0:Int32).toNatClampNeg) - (1:Int32))]) ⟨hx, hb, hml, hown, hts⟩ (mX4_in l hf) (va_cwS 3 hts (lw_S q1368 q1369 q95 q1370) rfl rfl rfl (by decide +kernel) ⟨Nat.le_of_ble_eq_true rfl, Nat.le_of_ble_eq_true rfl⟩) hH hS rfl hl.1 rfl (Nat.le_of_ble_eq_true rfl) dX4_isPort_10 (fun H locs hH hS => ?_)
  clear hf
  obtain ⟨hg, hX⟩ := gd_inv hX
  have e1 := rinv hX; subst e1
  exact W.zret hx hb hr (isb_n hg) (fun t ht hW => ⟨⟨_, (), rfl, rfl, hH.to ht⟩, hS.F ht⟩) hS.2.2 dX4_isPort_13

abbrev rmX4_isShip : Room := { frames := 1, cells := 0, slots := 0, locals := 22 }
def fX4_isShip (p1 : Int32) (σ : MS) : Option (Int32) :=
 cl (fX4_in p1 (0:Int32) ((σ.2.1 1 (1:Int32).toNatClampNeg) - (1:Int32))) (fun (x1 : Int32) =>
 gd (isb x1) (some x1))
set_option maxHeartbeats 4000000 in
set_option maxRecDepth 100000 in
theorem mX4_isShip (l : Launch) (D : va_G) (dA : Nat → ClassId) (ad : Nat → Nat) {p1 : Int32} {σ : MS} {r : Int32} (hX : fX4_isShip p1 σ = some r) : Met l yX4_isShip (ws_ yX4_isShip cX4_isShip 2 (some .boolean)) (rmX4_isShip) (mPc D dA ad σ [.int p1]) (mQi D dA ad r σ) 0 0 (AM ad) := by
  refine Met.ofW (cc := cX4_isShip) (maxL := 2) (ret := (some .boolean)) (by decide) rfl ?_
  intro p e s m args below meth c s₁ B hml hv
  obtain ⟨rfl, hH, hK⟩ := hv
  have hx := B.exec
  have hb := B.bytes
  have hr := B.returns
  have hts := atoms_spec (ws := (ws_ yX4_isShip cX4_isShip 2 (some .boolean))) B.pre
  have hts : ∀ w ∈ lw_all, w.before _ s = true := fun w h => hts w (List.mem_cons_of_mem _ h)
  have hown : s.vm.findClass RX4 = some m.cls := findClass_of_methodNamed B.named
  have hlocks := B.notSynchronized
  have hl := lv_entry ([.ref (ad 0), .int p1]) (n := 2) (Nat.le_of_ble_eq_true rfl)
  rw [lg_entry_eq]
  generalize (lg_sl ([.ref (ad 0), .int p1]) ++ List.replicate (2 - (lg_sl ([.ref (ad 0), .int p1])).length) Slot.unset).toArray = ls at hl ⊢
  have hl : lv_has ls 2 [(0, .ref (ad 0)), (1, .int p1)] := hl
  unfold fX4_isShip at hX
  refine m_start hH (fun H locs hH hS => ?_)
  refine lv_iload_n hx hb dX4_isShip_0 rfl (lv_at hl 1 rfl) ?_
  refine lv_iconst (v := (0:Int32)) hx hb dX4_isShip_1 (by decide) ?_
  refine lv_aload_n hx hb dX4_isShip_2 rfl (lv_at hl 0 rfl) ?_
  refine m_get (v := .ref (ad 1)) hx hb hts hown hK hH 1 (by decide) (hts _ q1291) rfl dX4_isShip_3 ?_
  refine lv_iconst (v := (1:Int32)) hx hb dX4_isShip_6 (by decide) ?_
  refine m_iald hx hb hK hH 1 1 (n := 1160) rfl (by decide) dX4_isShip_7 ?_
  refine lv_iconst (v := (1:Int32)) hx hb dX4_isShip_8 (by decide) ?_
  refine lv_isub hx hb dX4_isShip_9 ?_
  obtain ⟨x1, hf, hX⟩ := cl_inv hX
  refine m_callSi (As := [.int p1, .int (0:Int32), .int ((σ.2.1 1 (1:Int32).toNatClampNeg) - (1:Int32))]) ⟨hx, hb, hml, hown, hts⟩ (mX4_in l hf) (va_cwS 3 hts (lw_S q1368 q1369 q95 q1370) rfl rfl rfl (by decide +kernel) ⟨Nat.le_of_ble_eq_true rfl, Nat.le_of_ble_eq_true rfl⟩) hH hS rfl hl.1 rfl (Nat.le_of_ble_eq_true rfl) dX4_isShip_10 (fun H locs hH hS => ?_)
  clear hf
  obtain ⟨hg, hX⟩ := gd_inv hX
  have e1 := rinv hX; subst e1
  exact W.zret hx hb hr (isb_n hg) (fun t ht hW => ⟨⟨_, (), rfl, rfl, hH.to ht⟩, hS.F ht⟩) hS.2.2 dX4_isShip_13

abbrev rmX4_isRule : Room := { frames := 1, cells := 0, slots := 0, locals := 22 }
def fX4_isRule (p1 : Int32) (σ : MS) : Option (Int32) :=
 cl (fX4_in p1 (0:Int32) ((σ.2.1 1 (2:Int32).toNatClampNeg) - (1:Int32))) (fun (x1 : Int32) =>
 gd (isb x1) (some x1))
set_option maxHeartbeats 4000000 in
set_option maxRecDepth 100000 in
theorem mX4_isRule (l : Launch) (D : va_G) (dA : Nat → ClassId) (ad : Nat → Nat) {p1 : Int32} {σ : MS} {r : Int32} (hX : fX4_isRule p1 σ = some r) : Met l yX4_isRule (ws_ yX4_isRule cX4_isRule 2 (some .boolean)) (rmX4_isRule) (mPc D dA ad σ [.int p1]) (mQi D dA ad r σ) 0 0 (AM ad) := by
  refine Met.ofW (cc := cX4_isRule) (maxL := 2) (ret := (some .boolean)) (by decide) rfl ?_
  intro p e s m args below meth c s₁ B hml hv
  obtain ⟨rfl, hH, hK⟩ := hv
  have hx := B.exec
  have hb := B.bytes
  have hr := B.returns
  have hts := atoms_spec (ws := (ws_ yX4_isRule cX4_isRule 2 (some .boolean))) B.pre
  have hts : ∀ w ∈ lw_all, w.before _ s = true := fun w h => hts w (List.mem_cons_of_mem _ h)
  have hown : s.vm.findClass RX4 = some m.cls := findClass_of_methodNamed B.named
  have hlocks := B.notSynchronized
  have hl := lv_entry ([.ref (ad 0), .int p1]) (n := 2) (Nat.le_of_ble_eq_true rfl)
  rw [lg_entry_eq]
  generalize (lg_sl ([.ref (ad 0), .int p1]) ++ List.replicate (2 - (lg_sl ([.ref (ad 0), .int p1])).length) Slot.unset).toArray = ls at hl ⊢
  have hl : lv_has ls 2 [(0, .ref (ad 0)), (1, .int p1)] := hl
  unfold fX4_isRule at hX
  refine m_start hH (fun H locs hH hS => ?_)
  refine lv_iload_n hx hb dX4_isRule_0 rfl (lv_at hl 1 rfl) ?_
  refine lv_iconst (v := (0:Int32)) hx hb dX4_isRule_1 (by decide) ?_
  refine lv_aload_n hx hb dX4_isRule_2 rfl (lv_at hl 0 rfl) ?_
  refine m_get (v := .ref (ad 1)) hx hb hts hown hK hH 1 (by decide) (hts _ q1291) rfl dX4_isRule_3 ?_
  refine lv_iconst (v := (2:Int32)) hx hb dX4_isRule_6 (by decide) ?_
  refine m_iald hx hb hK hH 1 1 (n := 1160) rfl (by decide) dX4_isRule_7 ?_
  refine lv_iconst (v := (1:Int32)) hx hb dX4_isRule_8 (by decide) ?_
  refine lv_isub hx hb dX4_isRule_9 ?_
  obtain ⟨x1, hf, hX⟩ := cl_inv hX
  refine m_callSi (As := [.int p1, .int (0:Int32), .int ((σ.2.1 1 (2:Int32).toNatClampNeg) - (1:Int32))]) ⟨hx, hb, hml, hown, hts⟩ (mX4_in l hf) (va_cwS 3 hts (lw_S q1368 q1369 q95 q1370) rfl rfl rfl (by decide +kernel) ⟨Nat.le_of_ble_eq_true rfl, Nat.le_of_ble_eq_true rfl⟩) hH hS rfl hl.1 rfl (Nat.le_of_ble_eq_true rfl) dX4_isRule_10 (fun H locs hH hS => ?_)
  clear hf
  obtain ⟨hg, hX⟩ := gd_inv hX
  have e1 := rinv hX; subst e1
  exact W.zret hx hb hr (isb_n hg) (fun t ht hW => ⟨⟨_, (), rfl, rfl, hH.to ht⟩, hS.F ht⟩) hS.2.2 dX4_isRule_13

abbrev rmX4_feed : Room := { frames := 1, cells := 0, slots := 0, locals := 22 }
def fX4_feed (p1 : Int64) (p2 : Int32) (σ : MS) : Option (Int32 × MS) :=
 cl (fX4_in p2 (1:Int32) (8:Int32)) (fun (x1 : Int32) =>
 if x1 = (0:Int32) then
 some ((-2:Int32), σ)
 else
 if ((σ.2.1 1 (3:Int32).toNatClampNeg) + p2) ≤ (120:Int32) then
 bd (p2 - (1:Int32)) (fun (x2 : Int32) =>
 lp (fun _ _ => none) (fun (k5 : Int32 → MS → Option (Int32 × MS)) (x3 : Int32) (σ4 : MS) =>
 if x3 < (0:Int32) then
 some (σ4.2.1 1 (3:Int32).toNatClampNeg, σ4)
 else
 gd (ib ((10:Int32) + (σ4.2.1 1 (3:Int32).toNatClampNeg)) 1160) (
 bd (sa σ4 1 ((10:Int32) + (σ4.2.1 1 (3:Int32).toNatClampNeg)).toNatClampNeg (((p1 >>> (((8:Int32) * x3).toInt64 &&& 63)) &&& (255:Int64)).toInt32)) (fun (σ6 : MS) =>
 bd (sa σ6 1 (3:Int32).toNatClampNeg ((σ6.2.1 1 (3:Int32).toNatClampNeg) + (1:Int32))) (fun (σ7 : MS) =>
 bd (x3 + (-1:Int32)) (fun (x8 : Int32) =>
 k5 x8 σ7))))) NF x2 σ)
 else
 some ((-4:Int32), σ))
set_option maxHeartbeats 4000000 in
set_option maxRecDepth 100000 in
theorem mX4_feed (l : Launch) (D : va_G) (dA : Nat → ClassId) (ad : Nat → Nat) {p1 : Int64} {p2 : Int32} {σ : MS} {r : Int32} {σz : MS} (hX : fX4_feed p1 p2 σ = some (r, σz)) : Met l yX4_feed (ws_ yX4_feed cX4_feed 5 (some .int)) (rmX4_feed) (mPc D dA ad σ [.long p1, .int p2]) (mQi D dA ad r σz) 0 0 (AM ad) := by
  refine Met.ofW (cc := cX4_feed) (maxL := 5) (ret := (some .int)) (by decide) rfl ?_
  intro p e s m args below meth c s₁ B hml hv
  obtain ⟨rfl, hH, hK⟩ := hv
  have hx := B.exec
  have hb := B.bytes
  have hr := B.returns
  have hts := atoms_spec (ws := (ws_ yX4_feed cX4_feed 5 (some .int))) B.pre
  have hts : ∀ w ∈ lw_all, w.before _ s = true := fun w h => hts w (List.mem_cons_of_mem _ h)
  have hown : s.vm.findClass RX4 = some m.cls := findClass_of_methodNamed B.named
  have hlocks := B.notSynchronized
  have hl := lv_entry ([.ref (ad 0), .long p1, .int p2]) (n := 5) (Nat.le_of_ble_eq_true rfl)
  rw [lg_entry_eq]
  generalize (lg_sl ([.ref (ad 0), .long p1, .int p2]) ++ List.replicate (5 - (lg_sl ([.ref (ad 0), .long p1, .int p2])).length) Slot.unset).toArray = ls at hl ⊢
  have hl : lv_has ls 5 [(0, .ref (ad 0)), (1, .long p1), (3, .int p2)] := hl
  unfold fX4_feed at hX
  refine m_start hH (fun H locs hH hS => ?_)
  refine lv_iload_n hx hb dX4_feed_0 rfl (lv_at hl 2 rfl) ?_
  refine lv_iconst (v := (1:Int32)) hx hb dX4_feed_1 (by decide) ?_
  refine lv_bipush (v := (8:Int32)) hx hb dX4_feed_2 (by decide) ?_
  obtain ⟨x1, hf, hX⟩ := cl_inv hX
  refine m_callSi (As := [.int p2, .int (1:Int32), .int (8:Int32)]) ⟨hx, hb, hml, hown, hts⟩ (mX4_in l hf) (va_cwS 3 hts (lw_S q1368 q1369 q95 q1370) rfl rfl rfl (by decide +kernel) ⟨Nat.le_of_ble_eq_true rfl, Nat.le_of_ble_eq_true rfl⟩) hH hS rfl hl.1 rfl (Nat.le_of_ble_eq_true rfl) dX4_feed_4 (fun H locs hH hS => ?_)
  clear hf
  refine lv_if_ne (tgt := 13) hx hb dX4_feed_7 (by decide) (fun hc => ?_) (fun hc => ?_)
  · replace hX := ineg hc hX; clear hc
    refine lv_aload_n hx hb dX4_feed_13 rfl (lv_at hl 0 rfl) ?_
    refine m_get (v := .ref (ad 1)) hx hb hts hown hK hH 1 (by decide) (hts _ q1291) rfl dX4_feed_14 ?_
    refine lv_iconst (v := (3:Int32)) hx hb dX4_feed_17 (by decide) ?_
    refine m_iald hx hb hK hH 1 1 (n := 1160) rfl (by decide) dX4_feed_18 ?_
    refine lv_iload_n hx hb dX4_feed_19 rfl (lv_at hl 2 rfl) ?_
    refine lv_iadd hx hb dX4_feed_20 ?_
    refine lv_bipush (v := (120:Int32)) hx hb dX4_feed_21 (by decide) ?_
    refine lv_icmp_le (tgt := 29) hx hb dX4_feed_23 (by decide) (fun hc => ?_) (fun hc => ?_)
    · replace hX := ipos hc hX; clear hc
      refine lv_iload_n hx hb dX4_feed_29 rfl (lv_at hl 2 rfl) ?_
      refine lv_iconst (v := (1:Int32)) hx hb dX4_feed_30 (by decide) ?_
      refine lv_isub hx hb dX4_feed_31 ?_
      refine lv_topi (fun x2 ex2 => ?_)
      replace hX := bd_inv ex2 hX; clear ex2
      refine lv_istore (lv' := [(4, .int x2), (0, .ref (ad 0)), (1, .long p1), (3, .int p2)]) hx hb dX4_feed_32 hl (by decide) rfl (fun ls hl => ?_)
      refine lpu2 hX (fun (x3 : Int32) (σ4 : MS) => ∀ (H : Heap) (locs : List Loc), HM D dA ad σ4 H → va_S (AM ad) s.heap H locs → ∀ (ls : Array Slot), lv_has ls 5 [(0, .ref (ad 0)), (1, .long p1), (4, .int x3)] → W p l e (headSpec (ws_ yX4_feed cX4_feed 5 (some .int)) (rmX4_feed)).room s m ([.ref (ad 0), .long p1, .int p2] : List Value).toArray below meth c H locs 0 0 (MQ below (mQi D dA ad r σz) ([.ref (ad 0), .long p1, .int p2] : List Value).toArray s 0 0 (AM ad)) (F0 m 34 ls [])) (fun k5 hk5 x3 σ4 hX H locs hH hS ls hl => ?_) H locs hH hS ls (lv_sub hl [1, 2, 0] rfl)
      refine lv_iload hx hb dX4_feed_34 (lv_at hl 2 rfl) ?_
      refine lv_if_lt (tgt := 81) hx hb dX4_feed_36 (by decide) (fun hc => ?_) (fun hc => ?_)
      · replace hX := ipos hc hX; clear hc
        refine lv_aload_n hx hb dX4_feed_81 rfl (lv_at hl 0 rfl) ?_
        refine m_get (v := .ref (ad 1)) hx hb hts hown hK hH 1 (by decide) (hts _ q1291) rfl dX4_feed_82 ?_
        refine lv_iconst (v := (3:Int32)) hx hb dX4_feed_85 (by decide) ?_
        refine m_iald hx hb hK hH 1 1 (n := 1160) rfl (by decide) dX4_feed_86 ?_
        obtain ⟨e1, e2⟩ := Prod.mk.inj (rinv hX); subst e1; subst e2
        exact W.iret hx hb hr (fun t ht hW => ⟨⟨_, (), rfl, rfl, hH.to ht⟩, hS.F ht⟩) hS.2.2 dX4_feed_87
      · replace hX := ineg hc hX; clear hc
        refine lv_aload_n hx hb dX4_feed_39 rfl (lv_at hl 0 rfl) ?_
        refine m_get (v := .ref (ad 1)) hx hb hts hown hK hH 1 (by decide) (hts _ q1291) rfl dX4_feed_40 ?_
        refine lv_bipush (v := (10:Int32)) hx hb dX4_feed_43 (by decide) ?_
        refine lv_aload_n hx hb dX4_feed_45 rfl (lv_at hl 0 rfl) ?_
        refine m_get (v := .ref (ad 1)) hx hb hts hown hK hH 1 (by decide) (hts _ q1291) rfl dX4_feed_46 ?_
        refine lv_iconst (v := (3:Int32)) hx hb dX4_feed_49 (by decide) ?_
        refine m_iald hx hb hK hH 1 1 (n := 1160) rfl (by decide) dX4_feed_50 ?_
        refine lv_iadd hx hb dX4_feed_51 ?_
        refine lv_lload_n hx hb dX4_feed_52 rfl (lv_at hl 1 rfl) ?_
        refine lv_bipush (v := (8:Int32)) hx hb dX4_feed_53 (by decide) ?_
        refine lv_iload hx hb dX4_feed_55 (lv_at hl 2 rfl) ?_
        refine lv_imul hx hb dX4_feed_57 ?_
        refine lv_lshr hx hb dX4_feed_58 rfl ?_
        refine lv_ldc2 (v := (255:Int64)) hx hb hown (hts _ q1371) dX4_feed_59 ?_
        refine lv_land hx hb dX4_feed_62 ?_
        refine lv_l2i hx hb dX4_feed_63 rfl ?_
        obtain ⟨hg, hX⟩ := gd_inv hX
        refine m_iast hx hb hK hH hS 1 1 (n := 1160) rfl hg rfl dX4_feed_64 (fun σ6 eσ6 H locs hH hS => ?_)
        replace hX := bd_inv eσ6 hX; clear eσ6
        refine lv_aload_n hx hb dX4_feed_65 rfl (lv_at hl 0 rfl) ?_
        refine m_get (v := .ref (ad 1)) hx hb hts hown hK hH 1 (by decide) (hts _ q1291) rfl dX4_feed_66 ?_
        refine lv_iconst (v := (3:Int32)) hx hb dX4_feed_69 (by decide) ?_
        refine lv_dup2_11 hx hb dX4_feed_70 rfl rfl ?_
        refine m_iald hx hb hK hH 1 1 (n := 1160) rfl (by decide) dX4_feed_71 ?_
        refine lv_iconst (v := (1:Int32)) hx hb dX4_feed_72 (by decide) ?_
        refine lv_iadd hx hb dX4_feed_73 ?_
        refine m_iast hx hb hK hH hS 1 1 (n := 1160) rfl (by decide) rfl dX4_feed_74 (fun σ7 eσ7 H locs hH hS => ?_)
        replace hX := bd_inv eσ7 hX; clear eσ7
        obtain ⟨x8, ex8⟩ : ∃ y : Int32, y = x3 + (-1:Int32) := ⟨_, rfl⟩
        replace hX := bd_inv ex8 hX
        refine lv_iinc (v := x8) (lv' := [(4, .int x8), (0, .ref (ad 0)), (1, .long p1)]) hx hb dX4_feed_75 hl (k := 2) rfl (by rw [ex8]; rfl) (by decide) rfl (fun ls hl => ?_)
        clear ex8
        refine lv_goto (tgt := 34) hx hb dX4_feed_78 (by decide) ?_
        exact hk5 x8 σ7 hX H locs hH hS ls (lv_sub hl [1, 2, 0] rfl)
    · replace hX := ineg hc hX; clear hc
      refine lv_bipush (v := (-4:Int32)) hx hb dX4_feed_26 (by decide) ?_
      obtain ⟨e1, e2⟩ := Prod.mk.inj (rinv hX); subst e1; subst e2
      exact W.iret hx hb hr (fun t ht hW => ⟨⟨_, (), rfl, rfl, hH.to ht⟩, hS.F ht⟩) hS.2.2 dX4_feed_28
  · replace hX := ipos hc hX; clear hc
    refine lv_bipush (v := (-2:Int32)) hx hb dX4_feed_10 (by decide) ?_
    obtain ⟨e1, e2⟩ := Prod.mk.inj (rinv hX); subst e1; subst e2
    exact W.iret hx hb hr (fun t ht hW => ⟨⟨_, (), rfl, rfl, hH.to ht⟩, hS.F ht⟩) hS.2.2 dX4_feed_12

abbrev rmX4_here : Room := { frames := 0, cells := 0, slots := 0, locals := 0 }
def fX4_here  (σ : MS) : Option (Int32) :=
 jn (fun (x1 : Int32) => some x1) (fun (k2 : Int32 → Option (Int32)) =>
 if (σ.1 6) ≤ (σ.1 5) then
 k2 (-1:Int32)
 else
 gd (ib ((10:Int32) + (σ.1 5)) 1160) (
 k2 (σ.2.1 1 ((10:Int32) + (σ.1 5)).toNatClampNeg)))
set_option maxHeartbeats 4000000 in
set_option maxRecDepth 100000 in
theorem mX4_here (l : Launch) (D : va_G) (dA : Nat → ClassId) (ad : Nat → Nat)  {σ : MS} {r : Int32} (hX : fX4_here σ = some r) : Met l yX4_here (ws_ yX4_here cX4_here 1 (some .int)) (rmX4_here) (mPc D dA ad σ []) (mQi D dA ad r σ) 0 0 (AM ad) := by
  refine Met.ofW (cc := cX4_here) (maxL := 1) (ret := (some .int)) (by decide) rfl ?_
  intro p e s m args below meth c s₁ B hml hv
  obtain ⟨rfl, hH, hK⟩ := hv
  have hx := B.exec
  have hb := B.bytes
  have hr := B.returns
  have hts := atoms_spec (ws := (ws_ yX4_here cX4_here 1 (some .int))) B.pre
  have hts : ∀ w ∈ lw_all, w.before _ s = true := fun w h => hts w (List.mem_cons_of_mem _ h)
  have hown : s.vm.findClass RX4 = some m.cls := findClass_of_methodNamed B.named
  have hlocks := B.notSynchronized
  have hl := lv_entry ([.ref (ad 0)]) (n := 1) (Nat.le_of_ble_eq_true rfl)
  rw [lg_entry_eq]
  generalize (lg_sl ([.ref (ad 0)]) ++ List.replicate (1 - (lg_sl ([.ref (ad 0)])).length) Slot.unset).toArray = ls at hl ⊢
  have hl : lv_has ls 1 [(0, .ref (ad 0))] := hl
  unfold fX4_here at hX
  refine m_start hH (fun H locs hH hS => ?_)
  refine lv_aload_n hx hb dX4_here_0 rfl (lv_at hl 0 rfl) ?_
  refine m_get (v := .int (σ.1 5)) hx hb hts hown hK hH 5 (by decide) (hts _ q1295) rfl dX4_here_1 ?_
  refine lv_aload_n hx hb dX4_here_4 rfl (lv_at hl 0 rfl) ?_
  refine m_get (v := .int (σ.1 6)) hx hb hts hown hK hH 6 (by decide) (hts _ q1296) rfl dX4_here_5 ?_
  refine jnu1 hX (fun (x1 : Int32) => ∀ (H : Heap) (locs : List Loc), HM D dA ad σ H → va_S (AM ad) s.heap H locs → ∀ (ls : Array Slot), lv_has ls 1 [] → W p l e (headSpec (ws_ yX4_here cX4_here 1 (some .int)) (rmX4_here)).room s m ([.ref (ad 0)] : List Value).toArray below meth c H locs 0 0 (MQ below (mQi D dA ad r σ) ([.ref (ad 0)] : List Value).toArray s 0 0 (AM ad)) (F0 m 27 ls [.int x1])) (fun x1 hX H locs hH hS ls hl => ?_) (fun k2 hk2 hX => ?_)
  · have e1 := rinv hX; subst e1
    exact W.iret hx hb hr (fun t ht hW => ⟨⟨_, (), rfl, rfl, hH.to ht⟩, hS.F ht⟩) hS.2.2 dX4_here_27
  · refine lv_icmp_ge (tgt := 26) hx hb dX4_here_8 (by decide) (fun hc => ?_) (fun hc => ?_)
    · replace hX := ipos hc hX; clear hc
      refine lv_iconst (v := (-1:Int32)) hx hb dX4_here_26 (by decide) ?_
      exact hk2 (-1:Int32) hX H locs hH hS ls (lv_sub hl [] rfl)
    · replace hX := ineg hc hX; clear hc
      refine lv_aload_n hx hb dX4_here_11 rfl (lv_at hl 0 rfl) ?_
      refine m_get (v := .ref (ad 1)) hx hb hts hown hK hH 1 (by decide) (hts _ q1291) rfl dX4_here_12 ?_
      refine lv_bipush (v := (10:Int32)) hx hb dX4_here_15 (by decide) ?_
      refine lv_aload_n hx hb dX4_here_17 rfl (lv_at hl 0 rfl) ?_
      refine m_get (v := .int (σ.1 5)) hx hb hts hown hK hH 5 (by decide) (hts _ q1295) rfl dX4_here_18 ?_
      refine lv_iadd hx hb dX4_here_21 ?_
      obtain ⟨hg, hX⟩ := gd_inv hX
      refine m_iald hx hb hK hH 1 1 (n := 1160) rfl hg dX4_here_22 ?_
      refine lv_goto (tgt := 27) hx hb dX4_here_23 (by decide) ?_
      exact hk2 (σ.2.1 1 ((10:Int32) + (σ.1 5)).toNatClampNeg) hX H locs hH hS ls (lv_sub hl [] rfl)

abbrev rmX4_must : Room := { frames := 1, cells := 0, slots := 0, locals := 20 }
def fX4_must (p1 : Int32) (σ : MS) : Option MS :=
 jn (fun (x1 : Int32) => gd (isb x1) (
 bd (sf σ 7 x1) (fun (σ3 : MS) =>
 jn (fun (x4 : Int32) => bd (sf σ3 5 ((σ3.1 5) + x4)) (fun (σ6 : MS) =>
 some σ6)) (fun (k5 : Int32 → Option MS) =>
 if (σ3.1 7) = (0:Int32) then
 k5 (1:Int32)
 else
 k5 (0:Int32))))) (fun (k2 : Int32 → Option MS) =>
 jn (k2 (1:Int32)) (fun (k7 : Option MS) =>
 if (σ.1 7) = (0:Int32) then
 cl (fX4_here σ) (fun (x8 : Int32) =>
 if x8 = p1 then
 k2 (0:Int32)
 else
 k7)
 else
 k7))
set_option maxHeartbeats 4000000 in
set_option maxRecDepth 100000 in
theorem mX4_must (l : Launch) (D : va_G) (dA : Nat → ClassId) (ad : Nat → Nat) {p1 : Int32} {σ : MS} {σz : MS} (hX : fX4_must p1 σ = some σz) : Met l yX4_must (ws_ yX4_must cX4_must 2 none) (rmX4_must) (mPc D dA ad σ [.int p1]) (mQv D dA ad σz) 0 0 (AM ad) := by
  refine Met.ofW (cc := cX4_must) (maxL := 2) (ret := none) (by decide) rfl ?_
  intro p e s m args below meth c s₁ B hml hv
  obtain ⟨rfl, hH, hK⟩ := hv
  have hx := B.exec
  have hb := B.bytes
  have hr := B.returns
  have hts := atoms_spec (ws := (ws_ yX4_must cX4_must 2 none)) B.pre
  have hts : ∀ w ∈ lw_all, w.before _ s = true := fun w h => hts w (List.mem_cons_of_mem _ h)
  have hown : s.vm.findClass RX4 = some m.cls := findClass_of_methodNamed B.named
  have hlocks := B.notSynchronized
  have hl := lv_entry ([.ref (ad 0), .int p1]) (n := 2) (Nat.le_of_ble_eq_true rfl)
  rw [lg_entry_eq]
  generalize (lg_sl ([.ref (ad 0), .int p1]) ++ List.replicate (2 - (lg_sl ([.ref (ad 0), .int p1])).length) Slot.unset).toArray = ls at hl ⊢
  have hl : lv_has ls 2 [(0, .ref (ad 0)), (1, .int p1)] := hl
  unfold fX4_must at hX
  refine m_start hH (fun H locs hH hS => ?_)
  refine lv_aload_n hx hb dX4_must_0 rfl (lv_at hl 0 rfl) ?_
  refine lv_aload_n hx hb dX4_must_1 rfl (lv_at hl 0 rfl) ?_
  refine m_get (v := .int (σ.1 7)) hx hb hts hown hK hH 7 (by decide) (hts _ q1297) rfl dX4_must_2 ?_
  refine jnu1 hX (fun (x1 : Int32) => ∀ (H : Heap) (locs : List Loc), HM D dA ad σ H → va_S (AM ad) s.heap H locs → ∀ (ls : Array Slot), lv_has ls 2 [(0, .ref (ad 0))] → W p l e (headSpec (ws_ yX4_must cX4_must 2 none) (rmX4_must)).room s m ([.ref (ad 0), .int p1] : List Value).toArray below meth c H locs 0 0 (MQ below (mQv D dA ad σz) ([.ref (ad 0), .int p1] : List Value).toArray s 0 0 (AM ad)) (F0 m 21 ls [.int x1, .ref (ad 0)])) (fun x1 hX H locs hH hS ls hl => ?_) (fun k2 hk2 hX => ?_)
  · obtain ⟨hg, hX⟩ := gd_inv hX
    refine m_put (ty := .boolean) hx hb hts hown hK hH hS 7 (by decide) (hts _ q1297) rfl (tyX4_ok 7 (by decide)) (isb_n hg) (isb_f hg) rfl dX4_must_21 (fun σ3 eσ3 H locs hH hS => ?_)
    replace hX := bd_inv eσ3 hX; clear eσ3
    refine lv_aload_n hx hb dX4_must_24 rfl (lv_at hl 0 rfl) ?_
    refine lv_dup hx hb dX4_must_25 rfl ?_
    refine m_get (v := .int (σ3.1 5)) hx hb hts hown hK hH 5 (by decide) (hts _ q1295) rfl dX4_must_26 ?_
    refine lv_aload_n hx hb dX4_must_29 rfl (lv_at hl 0 rfl) ?_
    refine m_get (v := .int (σ3.1 7)) hx hb hts hown hK hH 7 (by decide) (hts _ q1297) rfl dX4_must_30 ?_
    refine jnu1 hX (fun (x4 : Int32) => ∀ (H : Heap) (locs : List Loc), HM D dA ad σ3 H → va_S (AM ad) s.heap H locs → ∀ (ls : Array Slot), lv_has ls 2 [] → W p l e (headSpec (ws_ yX4_must cX4_must 2 none) (rmX4_must)).room s m ([.ref (ad 0), .int p1] : List Value).toArray below meth c H locs 0 0 (MQ below (mQv D dA ad σz) ([.ref (ad 0), .int p1] : List Value).toArray s 0 0 (AM ad)) (F0 m 41 ls [.int x4, .int (σ3.1 5), .ref (ad 0)])) (fun x4 hX H locs hH hS ls hl => ?_) (fun k5 hk5 hX => ?_)
    · refine lv_iadd hx hb dX4_must_41 ?_
      refine m_put (ty := .int) hx hb hts hown hK hH hS 5 (by decide) (hts _ q1295) rfl (tyX4_ok 5 (by decide)) rfl rfl rfl dX4_must_42 (fun σ6 eσ6 H locs hH hS => ?_)
      replace hX := bd_inv eσ6 hX; clear eσ6
      have e1 := rinv hX; subst e1
      exact W.vret hx hb hr (fun t ht hW => ⟨⟨(), rfl, trivial, hH.to ht⟩, hS.F ht⟩) hS.2.2 dX4_must_45
    · refine lv_if_eq (tgt := 40) hx hb dX4_must_33 (by decide) (fun hc => ?_) (fun hc => ?_)
      · replace hX := ipos hc hX; clear hc
        refine lv_iconst (v := (1:Int32)) hx hb dX4_must_40 (by decide) ?_
        exact hk5 (1:Int32) hX H locs hH hS ls (lv_sub hl [] rfl)
      · replace hX := ineg hc hX; clear hc
        refine lv_iconst (v := (0:Int32)) hx hb dX4_must_36 (by decide) ?_
        refine lv_goto (tgt := 41) hx hb dX4_must_37 (by decide) ?_
        exact hk5 (0:Int32) hX H locs hH hS ls (lv_sub hl [] rfl)
  · refine jnu0 hX (∀ (H : Heap) (locs : List Loc), HM D dA ad σ H → va_S (AM ad) s.heap H locs → ∀ (ls : Array Slot), lv_has ls 2 [(0, .ref (ad 0))] → W p l e (headSpec (ws_ yX4_must cX4_must 2 none) (rmX4_must)).room s m ([.ref (ad 0), .int p1] : List Value).toArray below meth c H locs 0 0 (MQ below (mQv D dA ad σz) ([.ref (ad 0), .int p1] : List Value).toArray s 0 0 (AM ad)) (F0 m 16 ls [.ref (ad 0)])) (fun  hX H locs hH hS ls hl => ?_) (fun k7 hk7 hX => ?_)
    · refine lv_iconst (v := (1:Int32)) hx hb dX4_must_16 (by decide) ?_
      refine lv_goto (tgt := 21) hx hb dX4_must_17 (by decide) ?_
      exact hk2 (1:Int32) hX H locs hH hS ls (lv_sub hl [0] rfl)
    · refine lv_if_ne (tgt := 16) hx hb dX4_must_5 (by decide) (fun hc => ?_) (fun hc => ?_)
      · replace hX := ineg hc hX; clear hc
        exact hk7  hX H locs hH hS ls (lv_sub hl [0] rfl)
      · replace hX := ipos hc hX; clear hc
        refine lv_aload_n hx hb dX4_must_8 rfl (lv_at hl 0 rfl) ?_
        obtain ⟨x8, hf, hX⟩ := cl_inv hX
        refine m_callVi (As := []) ⟨hx, hb, hml, hown, hts⟩ (mX4_here l D dA ad hf) (cwV 0 hts (lw_V q1380 q1382 qs42 q95 q1383) rfl rfl rfl (by decide +kernel) ⟨Nat.le_of_ble_eq_true rfl, Nat.le_of_ble_eq_true rfl⟩) hK hH hS rfl hl.1 rfl (Nat.le_of_ble_eq_true rfl) dX4_must_9 (fun H locs hH hS => ?_)
        clear hf
        refine lv_iload_n hx hb dX4_must_12 rfl (lv_at hl 1 rfl) ?_
        refine lv_icmp_eq (tgt := 20) hx hb dX4_must_13 (by decide) (fun hc => ?_) (fun hc => ?_)
        · replace hX := ipos hc hX; clear hc
          refine lv_iconst (v := (0:Int32)) hx hb dX4_must_20 (by decide) ?_
          exact hk2 (0:Int32) hX H locs hH hS ls (lv_sub hl [0] rfl)
        · replace hX := ineg hc hX; clear hc
          exact hk7  hX H locs hH hS ls (lv_sub hl [0] rfl)

abbrev rmX4_figures : Room := { frames := 1, cells := 0, slots := 0, locals := 22 }
def fX4_figures  (σ : MS) : Option (Int32 × MS) :=
 jn (fun (x1 : Int32) => gd (isb x1) (
 bd (sf σ 7 x1) (fun (σ3 : MS) =>
 lp (fun _ _ _ => none) (fun (k7 : Int32 → Int32 → MS → Option (Int32 × MS)) (x4 : Int32) (x5 : Int32) (σ6 : MS) =>
 jn (some (x4, σ6)) (fun (k8 : Option (Int32 × MS)) =>
 if (3:Int32) ≤ x5 then
 k8
 else
 if (σ6.1 7) = (0:Int32) then
 cl (fX4_here σ6) (fun (x9 : Int32) =>
 cl (fX4_in x9 (48:Int32) (57:Int32)) (fun (x10 : Int32) =>
 if x10 = (0:Int32) then
 k8
 else
 jn (cl (fX4_here σ6) (fun (x12 : Int32) =>
 bd ((((10:Int32) * x4) + x12) - (48:Int32)) (fun (x13 : Int32) =>
 bd (sf σ6 5 ((σ6.1 5) + (1:Int32))) (fun (σ14 : MS) =>
 bd (x5 + (1:Int32)) (fun (x15 : Int32) =>
 k7 x13 x15 σ14))))) (fun (k11 : Option (Int32 × MS)) =>
 if x5 = (0:Int32) then
 k11
 else
 if x4 ≤ (0:Int32) then
 k8
 else
 k11)))
 else
 k8)) NF (0:Int32) (0:Int32) σ3))) (fun (k2 : Int32 → Option (Int32 × MS)) =>
 jn (k2 (1:Int32)) (fun (k16 : Option (Int32 × MS)) =>
 if (σ.1 7) = (0:Int32) then
 cl (fX4_here σ) (fun (x17 : Int32) =>
 cl (fX4_in x17 (48:Int32) (57:Int32)) (fun (x18 : Int32) =>
 if x18 = (0:Int32) then
 k16
 else
 k2 (0:Int32)))
 else
 k16))
set_option maxHeartbeats 4000000 in
set_option maxRecDepth 100000 in
theorem mX4_figures (l : Launch) (D : va_G) (dA : Nat → ClassId) (ad : Nat → Nat)  {σ : MS} {r : Int32} {σz : MS} (hX : fX4_figures σ = some (r, σz)) : Met l yX4_figures (ws_ yX4_figures cX4_figures 3 (some .int)) (rmX4_figures) (mPc D dA ad σ []) (mQi D dA ad r σz) 0 0 (AM ad) := by
  refine Met.ofW (cc := cX4_figures) (maxL := 3) (ret := (some .int)) (by decide) rfl ?_
  intro p e s m args below meth c s₁ B hml hv
  obtain ⟨rfl, hH, hK⟩ := hv
  have hx := B.exec
  have hb := B.bytes
  have hr := B.returns
  have hts := atoms_spec (ws := (ws_ yX4_figures cX4_figures 3 (some .int))) B.pre
  have hts : ∀ w ∈ lw_all, w.before _ s = true := fun w h => hts w (List.mem_cons_of_mem _ h)
  have hown : s.vm.findClass RX4 = some m.cls := findClass_of_methodNamed B.named
  have hlocks := B.notSynchronized
  have hl := lv_entry ([.ref (ad 0)]) (n := 3) (Nat.le_of_ble_eq_true rfl)
  rw [lg_entry_eq]
  generalize (lg_sl ([.ref (ad 0)]) ++ List.replicate (3 - (lg_sl ([.ref (ad 0)])).length) Slot.unset).toArray = ls at hl ⊢
  have hl : lv_has ls 3 [(0, .ref (ad 0))] := hl
  unfold fX4_figures at hX
  refine m_start hH (fun H locs hH hS => ?_)
  refine lv_aload_n hx hb dX4_figures_0 rfl (lv_at hl 0 rfl) ?_
  refine lv_aload_n hx hb dX4_figures_1 rfl (lv_at hl 0 rfl) ?_
  refine m_get (v := .int (σ.1 7)) hx hb hts hown hK hH 7 (by decide) (hts _ q1297) rfl dX4_figures_2 ?_
  refine jnu1 hX (fun (x1 : Int32) => ∀ (H : Heap) (locs : List Loc), HM D dA ad σ H → va_S (AM ad) s.heap H locs → ∀ (ls : Array Slot), lv_has ls 3 [(0, .ref (ad 0))] → W p l e (headSpec (ws_ yX4_figures cX4_figures 3 (some .int)) (rmX4_figures)).room s m ([.ref (ad 0)] : List Value).toArray below meth c H locs 0 0 (MQ below (mQi D dA ad r σz) ([.ref (ad 0)] : List Value).toArray s 0 0 (AM ad)) (F0 m 27 ls [.int x1, .ref (ad 0)])) (fun x1 hX H locs hH hS ls hl => ?_) (fun k2 hk2 hX => ?_)
  · obtain ⟨hg, hX⟩ := gd_inv hX
    refine m_put (ty := .boolean) hx hb hts hown hK hH hS 7 (by decide) (hts _ q1297) rfl (tyX4_ok 7 (by decide)) (isb_n hg) (isb_f hg) rfl dX4_figures_27 (fun σ3 eσ3 H locs hH hS => ?_)
    replace hX := bd_inv eσ3 hX; clear eσ3
    refine lv_iconst (v := (0:Int32)) hx hb dX4_figures_30 (by decide) ?_
    refine lv_istore_n (lv' := [(1, .int (0:Int32)), (0, .ref (ad 0))]) hx hb dX4_figures_31 rfl hl (by decide) rfl (fun ls hl => ?_)
    refine lv_iconst (v := (0:Int32)) hx hb dX4_figures_32 (by decide) ?_
    refine lv_istore_n (lv' := [(2, .int (0:Int32)), (1, .int (0:Int32)), (0, .ref (ad 0))]) hx hb dX4_figures_33 rfl hl (by decide) rfl (fun ls hl => ?_)
    refine lpu3 hX (fun (x4 : Int32) (x5 : Int32) (σ6 : MS) => ∀ (H : Heap) (locs : List Loc), HM D dA ad σ6 H → va_S (AM ad) s.heap H locs → ∀ (ls : Array Slot), lv_has ls 3 [(0, .ref (ad 0)), (1, .int x4), (2, .int x5)] → W p l e (headSpec (ws_ yX4_figures cX4_figures 3 (some .int)) (rmX4_figures)).room s m ([.ref (ad 0)] : List Value).toArray below meth c H locs 0 0 (MQ below (mQi D dA ad r σz) ([.ref (ad 0)] : List Value).toArray s 0 0 (AM ad)) (F0 m 34 ls [])) (fun k7 hk7 x4 x5 σ6 hX H locs hH hS ls hl => ?_) H locs hH hS ls (lv_sub hl [2, 1, 0] rfl)
    refine lv_iload_n hx hb dX4_figures_34 rfl (lv_at hl 2 rfl) ?_
    refine lv_iconst (v := (3:Int32)) hx hb dX4_figures_35 (by decide) ?_
    refine jnu0 hX (∀ (H : Heap) (locs : List Loc), HM D dA ad σ6 H → va_S (AM ad) s.heap H locs → ∀ (ls : Array Slot), lv_has ls 3 [(1, .int x4)] → W p l e (headSpec (ws_ yX4_figures cX4_figures 3 (some .int)) (rmX4_figures)).room s m ([.ref (ad 0)] : List Value).toArray below meth c H locs 0 0 (MQ below (mQi D dA ad r σz) ([.ref (ad 0)] : List Value).toArray s 0 0 (AM ad)) (F0 m 97 ls [])) (fun  hX H locs hH hS ls hl => ?_) (fun k8 hk8 hX => ?_)
    · refine lv_iload_n hx hb dX4_figures_97 rfl (lv_at hl 0 rfl) ?_
      obtain ⟨e1, e2⟩ := Prod.mk.inj (rinv hX); subst e1; subst e2
      exact W.iret hx hb hr (fun t ht hW => ⟨⟨_, (), rfl, rfl, hH.to ht⟩, hS.F ht⟩) hS.2.2 dX4_figures_98
    · refine lv_icmp_ge (tgt := 97) hx hb dX4_figures_36 (by decide) (fun hc => ?_) (fun hc => ?_)
      · replace hX := ipos hc hX; clear hc
        exact hk8  hX H locs hH hS ls (lv_sub hl [1] rfl)
      · replace hX := ineg hc hX; clear hc
        refine lv_aload_n hx hb dX4_figures_39 rfl (lv_at hl 0 rfl) ?_
        refine m_get (v := .int (σ6.1 7)) hx hb hts hown hK hH 7 (by decide) (hts _ q1297) rfl dX4_figures_40 ?_
        refine lv_if_ne (tgt := 97) hx hb dX4_figures_43 (by decide) (fun hc => ?_) (fun hc => ?_)
        · replace hX := ineg hc hX; clear hc
          exact hk8  hX H locs hH hS ls (lv_sub hl [1] rfl)
        · replace hX := ipos hc hX; clear hc
          refine lv_aload_n hx hb dX4_figures_46 rfl (lv_at hl 0 rfl) ?_
          obtain ⟨x9, hf, hX⟩ := cl_inv hX
          refine m_callVi (As := []) ⟨hx, hb, hml, hown, hts⟩ (mX4_here l D dA ad hf) (cwV 0 hts (lw_V q1380 q1382 qs42 q95 q1383) rfl rfl rfl (by decide +kernel) ⟨Nat.le_of_ble_eq_true rfl, Nat.le_of_ble_eq_true rfl⟩) hK hH hS rfl hl.1 rfl (Nat.le_of_ble_eq_true rfl) dX4_figures_47 (fun H locs hH hS => ?_)
          clear hf
          refine lv_bipush (v := (48:Int32)) hx hb dX4_figures_50 (by decide) ?_
          refine lv_bipush (v := (57:Int32)) hx hb dX4_figures_52 (by decide) ?_
          obtain ⟨x10, hf, hX⟩ := cl_inv hX
          refine m_callSi (As := [.int x9, .int (48:Int32), .int (57:Int32)]) ⟨hx, hb, hml, hown, hts⟩ (mX4_in l hf) (va_cwS 3 hts (lw_S q1368 q1369 q95 q1370) rfl rfl rfl (by decide +kernel) ⟨Nat.le_of_ble_eq_true rfl, Nat.le_of_ble_eq_true rfl⟩) hH hS rfl hl.1 rfl (Nat.le_of_ble_eq_true rfl) dX4_figures_54 (fun H locs hH hS => ?_)
          clear hf
          refine lv_if_eq (tgt := 97) hx hb dX4_figures_57 (by decide) (fun hc => ?_) (fun hc => ?_)
          · replace hX := ipos hc hX; clear hc
            exact hk8  hX H locs hH hS ls (lv_sub hl [1] rfl)
          · replace hX := ineg hc hX; clear hc
            refine lv_iload_n hx hb dX4_figures_60 rfl (lv_at hl 2 rfl) ?_
            refine jnu0 hX (∀ (H : Heap) (locs : List Loc), HM D dA ad σ6 H → va_S (AM ad) s.heap H locs → ∀ (ls : Array Slot), lv_has ls 3 [(0, .ref (ad 0)), (1, .int x4), (2, .int x5)] → W p l e (headSpec (ws_ yX4_figures cX4_figures 3 (some .int)) (rmX4_figures)).room s m ([.ref (ad 0)] : List Value).toArray below meth c H locs 0 0 (MQ below (mQi D dA ad r σz) ([.ref (ad 0)] : List Value).toArray s 0 0 (AM ad)) (F0 m 68 ls [])) (fun  hX H locs hH hS ls hl => ?_) (fun k11 hk11 hX => ?_)
            · refine lv_bipush (v := (10:Int32)) hx hb dX4_figures_68 (by decide) ?_
              refine lv_iload_n hx hb dX4_figures_70 rfl (lv_at hl 1 rfl) ?_
              refine lv_imul hx hb dX4_figures_71 ?_
              refine lv_aload_n hx hb dX4_figures_72 rfl (lv_at hl 0 rfl) ?_
              obtain ⟨x12, hf, hX⟩ := cl_inv hX
              refine m_callVi (As := []) ⟨hx, hb, hml, hown, hts⟩ (mX4_here l D dA ad hf) (cwV 0 hts (lw_V q1380 q1382 qs42 q95 q1383) rfl rfl rfl (by decide +kernel) ⟨Nat.le_of_ble_eq_true rfl, Nat.le_of_ble_eq_true rfl⟩) hK hH hS rfl hl.1 rfl (Nat.le_of_ble_eq_true rfl) dX4_figures_73 (fun H locs hH hS => ?_)
              clear hf
              refine lv_iadd hx hb dX4_figures_76 ?_
              refine lv_bipush (v := (48:Int32)) hx hb dX4_figures_77 (by decide) ?_
              refine lv_isub hx hb dX4_figures_79 ?_
              refine lv_topi (fun x13 ex13 => ?_)
              replace hX := bd_inv ex13 hX; clear ex13
              refine lv_istore_n (lv' := [(1, .int x13), (0, .ref (ad 0)), (2, .int x5)]) hx hb dX4_figures_80 rfl hl (by decide) rfl (fun ls hl => ?_)
              refine lv_aload_n hx hb dX4_figures_81 rfl (lv_at hl 1 rfl) ?_
              refine lv_dup hx hb dX4_figures_82 rfl ?_
              refine m_get (v := .int (σ6.1 5)) hx hb hts hown hK hH 5 (by decide) (hts _ q1295) rfl dX4_figures_83 ?_
              refine lv_iconst (v := (1:Int32)) hx hb dX4_figures_86 (by decide) ?_
              refine lv_iadd hx hb dX4_figures_87 ?_
              refine m_put (ty := .int) hx hb hts hown hK hH hS 5 (by decide) (hts _ q1295) rfl (tyX4_ok 5 (by decide)) rfl rfl rfl dX4_figures_88 (fun σ14 eσ14 H locs hH hS => ?_)
              replace hX := bd_inv eσ14 hX; clear eσ14
              obtain ⟨x15, ex15⟩ : ∃ y : Int32, y = x5 + (1:Int32) := ⟨_, rfl⟩
              replace hX := bd_inv ex15 hX
              refine lv_iinc (v := x15) (lv' := [(2, .int x15), (1, .int x13), (0, .ref (ad 0))]) hx hb dX4_figures_91 hl (k := 2) rfl (by rw [ex15]; rfl) (by decide) rfl (fun ls hl => ?_)
              clear ex15
              refine lv_goto (tgt := 34) hx hb dX4_figures_94 (by decide) ?_
              exact hk7 x13 x15 σ14 hX H locs hH hS ls (lv_sub hl [2, 1, 0] rfl)
            · refine lv_if_eq (tgt := 68) hx hb dX4_figures_61 (by decide) (fun hc => ?_) (fun hc => ?_)
              · replace hX := ipos hc hX; clear hc
                exact hk11  hX H locs hH hS ls (lv_sub hl [0, 1, 2] rfl)
              · replace hX := ineg hc hX; clear hc
                refine lv_iload_n hx hb dX4_figures_64 rfl (lv_at hl 1 rfl) ?_
                refine lv_if_le (tgt := 97) hx hb dX4_figures_65 (by decide) (fun hc => ?_) (fun hc => ?_)
                · replace hX := ipos hc hX; clear hc
                  exact hk8  hX H locs hH hS ls (lv_sub hl [1] rfl)
                · replace hX := ineg hc hX; clear hc
                  exact hk11  hX H locs hH hS ls (lv_sub hl [0, 1, 2] rfl)
  · refine jnu0 hX (∀ (H : Heap) (locs : List Loc), HM D dA ad σ H → va_S (AM ad) s.heap H locs → ∀ (ls : Array Slot), lv_has ls 3 [(0, .ref (ad 0))] → W p l e (headSpec (ws_ yX4_figures cX4_figures 3 (some .int)) (rmX4_figures)).room s m ([.ref (ad 0)] : List Value).toArray below meth c H locs 0 0 (MQ below (mQi D dA ad r σz) ([.ref (ad 0)] : List Value).toArray s 0 0 (AM ad)) (F0 m 22 ls [.ref (ad 0)])) (fun  hX H locs hH hS ls hl => ?_) (fun k16 hk16 hX => ?_)
    · refine lv_iconst (v := (1:Int32)) hx hb dX4_figures_22 (by decide) ?_
      refine lv_goto (tgt := 27) hx hb dX4_figures_23 (by decide) ?_
      exact hk2 (1:Int32) hX H locs hH hS ls (lv_sub hl [0] rfl)
    · refine lv_if_ne (tgt := 22) hx hb dX4_figures_5 (by decide) (fun hc => ?_) (fun hc => ?_)
      · replace hX := ineg hc hX; clear hc
        exact hk16  hX H locs hH hS ls (lv_sub hl [0] rfl)
      · replace hX := ipos hc hX; clear hc
        refine lv_aload_n hx hb dX4_figures_8 rfl (lv_at hl 0 rfl) ?_
        obtain ⟨x17, hf, hX⟩ := cl_inv hX
        refine m_callVi (As := []) ⟨hx, hb, hml, hown, hts⟩ (mX4_here l D dA ad hf) (cwV 0 hts (lw_V q1380 q1382 qs42 q95 q1383) rfl rfl rfl (by decide +kernel) ⟨Nat.le_of_ble_eq_true rfl, Nat.le_of_ble_eq_true rfl⟩) hK hH hS rfl hl.1 rfl (Nat.le_of_ble_eq_true rfl) dX4_figures_9 (fun H locs hH hS => ?_)
        clear hf
        refine lv_bipush (v := (48:Int32)) hx hb dX4_figures_12 (by decide) ?_
        refine lv_bipush (v := (57:Int32)) hx hb dX4_figures_14 (by decide) ?_
        obtain ⟨x18, hf, hX⟩ := cl_inv hX
        refine m_callSi (As := [.int x17, .int (48:Int32), .int (57:Int32)]) ⟨hx, hb, hml, hown, hts⟩ (mX4_in l hf) (va_cwS 3 hts (lw_S q1368 q1369 q95 q1370) rfl rfl rfl (by decide +kernel) ⟨Nat.le_of_ble_eq_true rfl, Nat.le_of_ble_eq_true rfl⟩) hH hS rfl hl.1 rfl (Nat.le_of_ble_eq_true rfl) dX4_figures_16 (fun H locs hH hS => ?_)
        clear hf
        refine lv_if_ne (tgt := 26) hx hb dX4_figures_19 (by decide) (fun hc => ?_) (fun hc => ?_)
        · replace hX := ineg hc hX; clear hc
          refine lv_iconst (v := (0:Int32)) hx hb dX4_figures_26 (by decide) ?_
          exact hk2 (0:Int32) hX H locs hH hS ls (lv_sub hl [0] rfl)
        · replace hX := ipos hc hX; clear hc
          exact hk16  hX H locs hH hS ls (lv_sub hl [0] rfl)

abbrev rmX4_emits : Room := { frames := 0, cells := 0, slots := 0, locals := 0 }
def fX4_emits (p1 : Int32) (σ : MS) : Option MS :=
 jn (fun (σ1 : MS) => some σ1) (fun (k2 : MS → Option MS) =>
 if (σ.1 7) = (0:Int32) then
 gd (ib ((180:Int32) + (σ.1 4)) 1160) (
 gd (ib (((190:Int32) + ((140:Int32) * (σ.1 4))) + (σ.2.1 1 ((180:Int32) + (σ.1 4)).toNatClampNeg)) 1160) (
 bd (sa σ 1 (((190:Int32) + ((140:Int32) * (σ.1 4))) + (σ.2.1 1 ((180:Int32) + (σ.1 4)).toNatClampNeg)).toNatClampNeg p1) (fun (σ3 : MS) =>
 gd (ib ((180:Int32) + (σ3.1 4)) 1160) (
 gd (ib ((180:Int32) + (σ3.1 4)) 1160) (
 bd (sa σ3 1 ((180:Int32) + (σ3.1 4)).toNatClampNeg ((σ3.2.1 1 ((180:Int32) + (σ3.1 4)).toNatClampNeg) + (1:Int32))) (fun (σ4 : MS) =>
 k2 σ4))))))
 else
 k2 σ)
set_option maxHeartbeats 4000000 in
set_option maxRecDepth 100000 in
theorem mX4_emits (l : Launch) (D : va_G) (dA : Nat → ClassId) (ad : Nat → Nat) {p1 : Int32} {σ : MS} {σz : MS} (hX : fX4_emits p1 σ = some σz) : Met l yX4_emits (ws_ yX4_emits cX4_emits 2 none) (rmX4_emits) (mPc D dA ad σ [.int p1]) (mQv D dA ad σz) 0 0 (AM ad) := by
  refine Met.ofW (cc := cX4_emits) (maxL := 2) (ret := none) (by decide) rfl ?_
  intro p e s m args below meth c s₁ B hml hv
  obtain ⟨rfl, hH, hK⟩ := hv
  have hx := B.exec
  have hb := B.bytes
  have hr := B.returns
  have hts := atoms_spec (ws := (ws_ yX4_emits cX4_emits 2 none)) B.pre
  have hts : ∀ w ∈ lw_all, w.before _ s = true := fun w h => hts w (List.mem_cons_of_mem _ h)
  have hown : s.vm.findClass RX4 = some m.cls := findClass_of_methodNamed B.named
  have hlocks := B.notSynchronized
  have hl := lv_entry ([.ref (ad 0), .int p1]) (n := 2) (Nat.le_of_ble_eq_true rfl)
  rw [lg_entry_eq]
  generalize (lg_sl ([.ref (ad 0), .int p1]) ++ List.replicate (2 - (lg_sl ([.ref (ad 0), .int p1])).length) Slot.unset).toArray = ls at hl ⊢
  have hl : lv_has ls 2 [(0, .ref (ad 0)), (1, .int p1)] := hl
  unfold fX4_emits at hX
  refine m_start hH (fun H locs hH hS => ?_)
  refine lv_aload_n hx hb dX4_emits_0 rfl (lv_at hl 0 rfl) ?_
  refine m_get (v := .int (σ.1 7)) hx hb hts hown hK hH 7 (by decide) (hts _ q1297) rfl dX4_emits_1 ?_
  refine jnu1 hX (fun (σ1 : MS) => ∀ (H : Heap) (locs : List Loc), HM D dA ad σ1 H → va_S (AM ad) s.heap H locs → ∀ (ls : Array Slot), lv_has ls 2 [] → W p l e (headSpec (ws_ yX4_emits cX4_emits 2 none) (rmX4_emits)).room s m ([.ref (ad 0), .int p1] : List Value).toArray below meth c H locs 0 0 (MQ below (mQv D dA ad σz) ([.ref (ad 0), .int p1] : List Value).toArray s 0 0 (AM ad)) (F0 m 56 ls [])) (fun σ1 hX H locs hH hS ls hl => ?_) (fun k2 hk2 hX => ?_)
  · have e1 := rinv hX; subst e1
    exact W.vret hx hb hr (fun t ht hW => ⟨⟨(), rfl, trivial, hH.to ht⟩, hS.F ht⟩) hS.2.2 dX4_emits_56
  · refine lv_if_ne (tgt := 56) hx hb dX4_emits_4 (by decide) (fun hc => ?_) (fun hc => ?_)
    · replace hX := ineg hc hX; clear hc
      exact hk2 σ hX H locs hH hS ls (lv_sub hl [] rfl)
    · replace hX := ipos hc hX; clear hc
      refine lv_aload_n hx hb dX4_emits_7 rfl (lv_at hl 0 rfl) ?_
      refine m_get (v := .ref (ad 1)) hx hb hts hown hK hH 1 (by decide) (hts _ q1291) rfl dX4_emits_8 ?_
      refine lv_sipush (v := (190:Int32)) hx hb dX4_emits_11 (by decide) ?_
      refine lv_sipush (v := (140:Int32)) hx hb dX4_emits_14 (by decide) ?_
      refine lv_aload_n hx hb dX4_emits_17 rfl (lv_at hl 0 rfl) ?_
      refine m_get (v := .int (σ.1 4)) hx hb hts hown hK hH 4 (by decide) (hts _ q1294) rfl dX4_emits_18 ?_
      refine lv_imul hx hb dX4_emits_21 ?_
      refine lv_iadd hx hb dX4_emits_22 ?_
      refine lv_aload_n hx hb dX4_emits_23 rfl (lv_at hl 0 rfl) ?_
      refine m_get (v := .ref (ad 1)) hx hb hts hown hK hH 1 (by decide) (hts _ q1291) rfl dX4_emits_24 ?_
      refine lv_sipush (v := (180:Int32)) hx hb dX4_emits_27 (by decide) ?_
      refine lv_aload_n hx hb dX4_emits_30 rfl (lv_at hl 0 rfl) ?_
      refine m_get (v := .int (σ.1 4)) hx hb hts hown hK hH 4 (by decide) (hts _ q1294) rfl dX4_emits_31 ?_
      refine lv_iadd hx hb dX4_emits_34 ?_
      obtain ⟨hg, hX⟩ := gd_inv hX
      refine m_iald hx hb hK hH 1 1 (n := 1160) rfl hg dX4_emits_35 ?_
      refine lv_iadd hx hb dX4_emits_36 ?_
      refine lv_iload_n hx hb dX4_emits_37 rfl (lv_at hl 1 rfl) ?_
      obtain ⟨hg, hX⟩ := gd_inv hX
      refine m_iast hx hb hK hH hS 1 1 (n := 1160) rfl hg rfl dX4_emits_38 (fun σ3 eσ3 H locs hH hS => ?_)
      replace hX := bd_inv eσ3 hX; clear eσ3
      refine lv_aload_n hx hb dX4_emits_39 rfl (lv_at hl 0 rfl) ?_
      refine m_get (v := .ref (ad 1)) hx hb hts hown hK hH 1 (by decide) (hts _ q1291) rfl dX4_emits_40 ?_
      refine lv_sipush (v := (180:Int32)) hx hb dX4_emits_43 (by decide) ?_
      refine lv_aload_n hx hb dX4_emits_46 rfl (lv_at hl 0 rfl) ?_
      refine m_get (v := .int (σ3.1 4)) hx hb hts hown hK hH 4 (by decide) (hts _ q1294) rfl dX4_emits_47 ?_
      refine lv_iadd hx hb dX4_emits_50 ?_
      refine lv_dup2_11 hx hb dX4_emits_51 rfl rfl ?_
      obtain ⟨hg, hX⟩ := gd_inv hX
      refine m_iald hx hb hK hH 1 1 (n := 1160) rfl hg dX4_emits_52 ?_
      refine lv_iconst (v := (1:Int32)) hx hb dX4_emits_53 (by decide) ?_
      refine lv_iadd hx hb dX4_emits_54 ?_
      obtain ⟨hg, hX⟩ := gd_inv hX
      refine m_iast hx hb hK hH hS 1 1 (n := 1160) rfl hg rfl dX4_emits_55 (fun σ4 eσ4 H locs hH hS => ?_)
      replace hX := bd_inv eσ4 hX; clear eσ4
      exact hk2 σ4 hX H locs hH hS ls (lv_sub hl [] rfl)

abbrev rmX4_told : Room := { frames := 2, cells := 0, slots := 0, locals := 43 }
def fX4_told (p1 : Int32) (p2 : Int32) (σ : MS) : Option (Int32) :=
 cl (fX4_isPort p1 σ) (fun (x1 : Int32) =>
 jn (fun (x2 : Int32) => some x2) (fun (k3 : Int32 → Option (Int32)) =>
 jn (k3 (-1:Int32)) (fun (k4 : Option (Int32)) =>
 if x1 = (0:Int32) then
 k4
 else
 cl (fX4_in p2 (0:Int32) (9:Int32)) (fun (x5 : Int32) =>
 if x5 = (0:Int32) then
 k4
 else
 gd (ib (((130:Int32) + ((10:Int32) * p1)) + p2) 1160) (
 k3 (σ.2.1 1 (((130:Int32) + ((10:Int32) * p1)) + p2).toNatClampNeg))))))
set_option maxHeartbeats 4000000 in
set_option maxRecDepth 100000 in
theorem mX4_told (l : Launch) (D : va_G) (dA : Nat → ClassId) (ad : Nat → Nat) {p1 : Int32} {p2 : Int32} {σ : MS} {r : Int32} (hX : fX4_told p1 p2 σ = some r) : Met l yX4_told (ws_ yX4_told cX4_told 3 (some .int)) (rmX4_told) (mPc D dA ad σ [.int p1, .int p2]) (mQi D dA ad r σ) 0 0 (AM ad) := by
  refine Met.ofW (cc := cX4_told) (maxL := 3) (ret := (some .int)) (by decide) rfl ?_
  intro p e s m args below meth c s₁ B hml hv
  obtain ⟨rfl, hH, hK⟩ := hv
  have hx := B.exec
  have hb := B.bytes
  have hr := B.returns
  have hts := atoms_spec (ws := (ws_ yX4_told cX4_told 3 (some .int))) B.pre
  have hts : ∀ w ∈ lw_all, w.before _ s = true := fun w h => hts w (List.mem_cons_of_mem _ h)
  have hown : s.vm.findClass RX4 = some m.cls := findClass_of_methodNamed B.named
  have hlocks := B.notSynchronized
  have hl := lv_entry ([.ref (ad 0), .int p1, .int p2]) (n := 3) (Nat.le_of_ble_eq_true rfl)
  rw [lg_entry_eq]
  generalize (lg_sl ([.ref (ad 0), .int p1, .int p2]) ++ List.replicate (3 - (lg_sl ([.ref (ad 0), .int p1, .int p2])).length) Slot.unset).toArray = ls at hl ⊢
  have hl : lv_has ls 3 [(0, .ref (ad 0)), (1, .int p1), (2, .int p2)] := hl
  unfold fX4_told at hX
  refine m_start hH (fun H locs hH hS => ?_)
  refine lv_aload_n hx hb dX4_told_0 rfl (lv_at hl 0 rfl) ?_
  refine lv_iload_n hx hb dX4_told_1 rfl (lv_at hl 1 rfl) ?_
  obtain ⟨x1, hf, hX⟩ := cl_inv hX
  refine m_callVi (As := [.int p1]) ⟨hx, hb, hml, hown, hts⟩ (mX4_isPort l D dA ad hf) (cwV 1 hts (lw_V q1487 q1489 qs54 q95 q1490) rfl rfl rfl (by decide +kernel) ⟨Nat.le_of_ble_eq_true rfl, Nat.le_of_ble_eq_true rfl⟩) hK hH hS rfl hl.1 rfl (Nat.le_of_ble_eq_true rfl) dX4_told_2 (fun H locs hH hS => ?_)
  clear hf
  refine jnu1 hX (fun (x2 : Int32) => ∀ (H : Heap) (locs : List Loc), HM D dA ad σ H → va_S (AM ad) s.heap H locs → ∀ (ls : Array Slot), lv_has ls 3 [] → W p l e (headSpec (ws_ yX4_told cX4_told 3 (some .int)) (rmX4_told)).room s m ([.ref (ad 0), .int p1, .int p2] : List Value).toArray below meth c H locs 0 0 (MQ below (mQi D dA ad r σ) ([.ref (ad 0), .int p1, .int p2] : List Value).toArray s 0 0 (AM ad)) (F0 m 37 ls [.int x2])) (fun x2 hX H locs hH hS ls hl => ?_) (fun k3 hk3 hX => ?_)
  · have e1 := rinv hX; subst e1
    exact W.iret hx hb hr (fun t ht hW => ⟨⟨_, (), rfl, rfl, hH.to ht⟩, hS.F ht⟩) hS.2.2 dX4_told_37
  · refine jnu0 hX (∀ (H : Heap) (locs : List Loc), HM D dA ad σ H → va_S (AM ad) s.heap H locs → ∀ (ls : Array Slot), lv_has ls 3 [] → W p l e (headSpec (ws_ yX4_told cX4_told 3 (some .int)) (rmX4_told)).room s m ([.ref (ad 0), .int p1, .int p2] : List Value).toArray below meth c H locs 0 0 (MQ below (mQi D dA ad r σ) ([.ref (ad 0), .int p1, .int p2] : List Value).toArray s 0 0 (AM ad)) (F0 m 36 ls [])) (fun  hX H locs hH hS ls hl => ?_) (fun k4 hk4 hX => ?_)
    · refine lv_iconst (v := (-1:Int32)) hx hb dX4_told_36 (by decide) ?_
      exact hk3 (-1:Int32) hX H locs hH hS ls (lv_sub hl [] rfl)
    · refine lv_if_eq (tgt := 36) hx hb dX4_told_5 (by decide) (fun hc => ?_) (fun hc => ?_)
      · replace hX := ipos hc hX; clear hc
        exact hk4  hX H locs hH hS ls (lv_sub hl [] rfl)
      · replace hX := ineg hc hX; clear hc
        refine lv_iload_n hx hb dX4_told_8 rfl (lv_at hl 2 rfl) ?_
        refine lv_iconst (v := (0:Int32)) hx hb dX4_told_9 (by decide) ?_
        refine lv_bipush (v := (9:Int32)) hx hb dX4_told_10 (by decide) ?_
        obtain ⟨x5, hf, hX⟩ := cl_inv hX
        refine m_callSi (As := [.int p2, .int (0:Int32), .int (9:Int32)]) ⟨hx, hb, hml, hown, hts⟩ (mX4_in l hf) (va_cwS 3 hts (lw_S q1368 q1369 q95 q1370) rfl rfl rfl (by decide +kernel) ⟨Nat.le_of_ble_eq_true rfl, Nat.le_of_ble_eq_true rfl⟩) hH hS rfl hl.1 rfl (Nat.le_of_ble_eq_true rfl) dX4_told_12 (fun H locs hH hS => ?_)
        clear hf
        refine lv_if_eq (tgt := 36) hx hb dX4_told_15 (by decide) (fun hc => ?_) (fun hc => ?_)
        · replace hX := ipos hc hX; clear hc
          exact hk4  hX H locs hH hS ls (lv_sub hl [] rfl)
        · replace hX := ineg hc hX; clear hc
          refine lv_aload_n hx hb dX4_told_18 rfl (lv_at hl 0 rfl) ?_
          refine m_get (v := .ref (ad 1)) hx hb hts hown hK hH 1 (by decide) (hts _ q1291) rfl dX4_told_19 ?_
          refine lv_sipush (v := (130:Int32)) hx hb dX4_told_22 (by decide) ?_
          refine lv_bipush (v := (10:Int32)) hx hb dX4_told_25 (by decide) ?_
          refine lv_iload_n hx hb dX4_told_27 rfl (lv_at hl 1 rfl) ?_
          refine lv_imul hx hb dX4_told_28 ?_
          refine lv_iadd hx hb dX4_told_29 ?_
          refine lv_iload_n hx hb dX4_told_30 rfl (lv_at hl 2 rfl) ?_
          refine lv_iadd hx hb dX4_told_31 ?_
          obtain ⟨hg, hX⟩ := gd_inv hX
          refine m_iald hx hb hK hH 1 1 (n := 1160) rfl hg dX4_told_32 ?_
          refine lv_goto (tgt := 37) hx hb dX4_told_33 (by decide) ?_
          exact hk3 (σ.2.1 1 (((130:Int32) + ((10:Int32) * p1)) + p2).toNatClampNeg) hX H locs hH hS ls (lv_sub hl [] rfl)

abbrev rmX4_holdOf : Room := { frames := 0, cells := 0, slots := 0, locals := 0 }
def fX4_holdOf (p1 : Int32) (p2 : Int32) (p3 : Int32) (p4 : Int32) (σ : MS) : Option (Int32 × MS) :=
 bd ((190:Int32) + ((140:Int32) * p1)) (fun (x1 : Int32) =>
 lp (fun _ _ _ _ => none) (fun (k6 : Int32 → Int32 → Int32 → MS → Option (Int32 × MS)) (x2 : Int32) (x3 : Int32) (x4 : Int32) (σ5 : MS) =>
 gd (ib ((180:Int32) + p1) 1160) (
 if (x1 + (σ5.2.1 1 ((180:Int32) + p1).toNatClampNeg)) ≤ x4 then
 some (x3, σ5)
 else
 gd (ib x4 1160) (
 bd (σ5.2.1 1 x4.toNatClampNeg) (fun (x7 : Int32) =>
 jn (fun (x8 : Int32) (x9 : Int32) (σ10 : MS) => bd (x4 + (1:Int32)) (fun (x12 : Int32) =>
 k6 x8 x9 x12 σ10)) (fun (k11 : Int32 → Int32 → MS → Option (Int32 × MS)) =>
 if x7 < (0:Int32) then
 if x7 = (-1:Int32) then
 gd (ib (x2 - (1:Int32)) 64) (
 jn (fun (x22 : Int32) => gd (ib (x2 - (1:Int32)) 64) (
 gd (isb x22) (
 bd (sa σ5 9 (x2 - (1:Int32)).toNatClampNeg x22) (fun (σ24 : MS) =>
 k11 x2 x3 σ24)))) (fun (k23 : Int32 → Option (Int32 × MS)) =>
 if (σ5.2.1 9 (x2 - (1:Int32)).toNatClampNeg) = (0:Int32) then
 k23 (1:Int32)
 else
 k23 (0:Int32)))
 else
 if x7 ≤ (-10:Int32) then
 jn (fun (x13 : Int32) => bd (x3 + x13) (fun (x15 : Int32) =>
 k11 (0:Int32) x15 σ5)) (fun (k14 : Int32 → Option (Int32 × MS)) =>
 if (σ5.2.1 9 (0:Int32).toNatClampNeg) = (0:Int32) then
 k14 (0:Int32)
 else
 k14 ((-10:Int32) - x7))
 else
 bd (x2 + (-1:Int32)) (fun (x16 : Int32) =>
 jn (fun (x17 : Int32) => gd (ib (x16 - (1:Int32)) 64) (
 gd (isb x17) (
 bd (sa σ5 9 (x16 - (1:Int32)).toNatClampNeg x17) (fun (σ19 : MS) =>
 k11 x16 x3 σ19)))) (fun (k18 : Int32 → Option (Int32 × MS)) =>
 if x7 = (-2:Int32) then
 gd (ib (x16 - (1:Int32)) 64) (
 jn (k18 (0:Int32)) (fun (k21 : Option (Int32 × MS)) =>
 if (σ5.2.1 9 (x16 - (1:Int32)).toNatClampNeg) = (0:Int32) then
 k21
 else
 gd (ib x16 64) (
 if (σ5.2.1 9 x16.toNatClampNeg) = (0:Int32) then
 k21
 else
 k18 (1:Int32))))
 else
 gd (ib (x16 - (1:Int32)) 64) (
 jn (k18 (1:Int32)) (fun (k20 : Option (Int32 × MS)) =>
 if (σ5.2.1 9 (x16 - (1:Int32)).toNatClampNeg) = (0:Int32) then
 gd (ib x16 64) (
 if (σ5.2.1 9 x16.toNatClampNeg) = (0:Int32) then
 k18 (0:Int32)
 else
 k20)
 else
 k20))))
 else
 jn (fun (x25 : Int32) => bd ((x7 / (4:Int32)) - (x7 / (4:Int32)) / (4:Int32) * (4:Int32)) (fun (x27 : Int32) =>
 bd (x7 / (16:Int32)) (fun (x28 : Int32) =>
 jn (fun (x29 : Int32) => gd (ib x2 64) (
 gd (isb x29) (
 bd (sa σ5 9 x2.toNatClampNeg x29) (fun (σ31 : MS) =>
 bd (x2 + (1:Int32)) (fun (x32 : Int32) =>
 k11 x32 x3 σ31))))) (fun (k30 : Int32 → Option (Int32 × MS)) =>
 if x27 = (0:Int32) then
 if x28 ≤ x25 then
 k30 (0:Int32)
 else
 k30 (1:Int32)
 else
 if x27 = (1:Int32) then
 if x25 = x28 then
 k30 (1:Int32)
 else
 k30 (0:Int32)
 else
 if x25 ≤ x28 then
 k30 (0:Int32)
 else
 k30 (1:Int32))))) (fun (k26 : Int32 → Option (Int32 × MS)) =>
 if (x7 - x7 / (4:Int32) * (4:Int32)) = (0:Int32) then
 k26 p2
 else
 if (x7 - x7 / (4:Int32) * (4:Int32)) = (1:Int32) then
 k26 p3
 else
 k26 p4)))))) NF (0:Int32) (0:Int32) x1 σ)
set_option maxHeartbeats 4000000 in
set_option maxRecDepth 100000 in
theorem mX4_holdOf (l : Launch) (D : va_G) (dA : Nat → ClassId) (ad : Nat → Nat) {p1 : Int32} {p2 : Int32} {p3 : Int32} {p4 : Int32} {σ : MS} {r : Int32} {σz : MS} (hX : fX4_holdOf p1 p2 p3 p4 σ = some (r, σz)) : Met l yX4_holdOf (ws_ yX4_holdOf cX4_holdOf 13 (some .int)) (rmX4_holdOf) (mPc D dA ad σ [.int p1, .int p2, .int p3, .int p4]) (mQi D dA ad r σz) 0 0 (AM ad) := by
  refine Met.ofW (cc := cX4_holdOf) (maxL := 13) (ret := (some .int)) (by decide) rfl ?_
  intro p e s m args below meth c s₁ B hml hv
  obtain ⟨rfl, hH, hK⟩ := hv
  have hx := B.exec
  have hb := B.bytes
  have hr := B.returns
  have hts := atoms_spec (ws := (ws_ yX4_holdOf cX4_holdOf 13 (some .int))) B.pre
  have hts : ∀ w ∈ lw_all, w.before _ s = true := fun w h => hts w (List.mem_cons_of_mem _ h)
  have hown : s.vm.findClass RX4 = some m.cls := findClass_of_methodNamed B.named
  have hlocks := B.notSynchronized
  have hl := lv_entry ([.ref (ad 0), .int p1, .int p2, .int p3, .int p4]) (n := 13) (Nat.le_of_ble_eq_true rfl)
  rw [lg_entry_eq]
  generalize (lg_sl ([.ref (ad 0), .int p1, .int p2, .int p3, .int p4]) ++ List.replicate (13 - (lg_sl ([.ref (ad 0), .int p1, .int p2, .int p3, .int p4])).length) Slot.unset).toArray = ls at hl ⊢
  have hl : lv_has ls 13 [(0, .ref (ad 0)), (1, .int p1), (2, .int p2), (3, .int p3), (4, .int p4)] := hl
  unfold fX4_holdOf at hX
  refine m_start hH (fun H locs hH hS => ?_)
  refine lv_iconst (v := (0:Int32)) hx hb dX4_holdOf_0 (by decide) ?_
  refine lv_istore (lv' := [(5, .int (0:Int32)), (0, .ref (ad 0)), (1, .int p1), (2, .int p2), (3, .int p3), (4, .int p4)]) hx hb dX4_holdOf_1 hl (by decide) rfl (fun ls hl => ?_)
  refine lv_iconst (v := (0:Int32)) hx hb dX4_holdOf_3 (by decide) ?_
  refine lv_istore (lv' := [(6, .int (0:Int32)), (5, .int (0:Int32)), (0, .ref (ad 0)), (1, .int p1), (2, .int p2), (3, .int p3), (4, .int p4)]) hx hb dX4_holdOf_4 hl (by decide) rfl (fun ls hl => ?_)
  refine lv_sipush (v := (190:Int32)) hx hb dX4_holdOf_6 (by decide) ?_
  refine lv_sipush (v := (140:Int32)) hx hb dX4_holdOf_9 (by decide) ?_
  refine lv_iload_n hx hb dX4_holdOf_12 rfl (lv_at hl 3 rfl) ?_
  refine lv_imul hx hb dX4_holdOf_13 ?_
  refine lv_iadd hx hb dX4_holdOf_14 ?_
  refine lv_topi (fun x1 ex1 => ?_)
  replace hX := bd_inv ex1 hX; clear ex1
  refine lv_istore (lv' := [(7, .int x1), (6, .int (0:Int32)), (5, .int (0:Int32)), (0, .ref (ad 0)), (1, .int p1), (2, .int p2), (3, .int p3), (4, .int p4)]) hx hb dX4_holdOf_15 hl (by decide) rfl (fun ls hl => ?_)
  refine lv_iload hx hb dX4_holdOf_17 (lv_at hl 0 rfl) ?_
  refine lv_istore (lv' := [(8, .int x1), (7, .int x1), (6, .int (0:Int32)), (5, .int (0:Int32)), (0, .ref (ad 0)), (1, .int p1), (2, .int p2), (3, .int p3), (4, .int p4)]) hx hb dX4_holdOf_19 hl (by decide) rfl (fun ls hl => ?_)
  refine lpu4 hX (fun (x2 : Int32) (x3 : Int32) (x4 : Int32) (σ5 : MS) => ∀ (H : Heap) (locs : List Loc), HM D dA ad σ5 H → va_S (AM ad) s.heap H locs → ∀ (ls : Array Slot), lv_has ls 13 [(0, .ref (ad 0)), (1, .int p1), (2, .int p2), (3, .int p3), (4, .int p4), (5, .int x2), (6, .int x3), (7, .int x1), (8, .int x4)] → W p l e (headSpec (ws_ yX4_holdOf cX4_holdOf 13 (some .int)) (rmX4_holdOf)).room s m ([.ref (ad 0), .int p1, .int p2, .int p3, .int p4] : List Value).toArray below meth c H locs 0 0 (MQ below (mQi D dA ad r σz) ([.ref (ad 0), .int p1, .int p2, .int p3, .int p4] : List Value).toArray s 0 0 (AM ad)) (F0 m 21 ls [])) (fun k6 hk6 x2 x3 x4 σ5 hX H locs hH hS ls hl => ?_) H locs hH hS ls (lv_sub hl [4, 5, 6, 7, 8, 3, 2, 1, 0] rfl)
  refine lv_iload hx hb dX4_holdOf_21 (lv_at hl 8 rfl) ?_
  refine lv_iload hx hb dX4_holdOf_23 (lv_at hl 7 rfl) ?_
  refine lv_aload_n hx hb dX4_holdOf_25 rfl (lv_at hl 0 rfl) ?_
  refine m_get (v := .ref (ad 1)) hx hb hts hown hK hH 1 (by decide) (hts _ q1291) rfl dX4_holdOf_26 ?_
  refine lv_sipush (v := (180:Int32)) hx hb dX4_holdOf_29 (by decide) ?_
  refine lv_iload_n hx hb dX4_holdOf_32 rfl (lv_at hl 1 rfl) ?_
  refine lv_iadd hx hb dX4_holdOf_33 ?_
  obtain ⟨hg, hX⟩ := gd_inv hX
  refine m_iald hx hb hK hH 1 1 (n := 1160) rfl hg dX4_holdOf_34 ?_
  refine lv_iadd hx hb dX4_holdOf_35 ?_
  refine lv_icmp_ge (tgt := 314) hx hb dX4_holdOf_36 (by decide) (fun hc => ?_) (fun hc => ?_)
  · replace hX := ipos hc hX; clear hc
    refine lv_iload hx hb dX4_holdOf_314 (lv_at hl 6 rfl) ?_
    obtain ⟨e1, e2⟩ := Prod.mk.inj (rinv hX); subst e1; subst e2
    exact W.iret hx hb hr (fun t ht hW => ⟨⟨_, (), rfl, rfl, hH.to ht⟩, hS.F ht⟩) hS.2.2 dX4_holdOf_316
  · replace hX := ineg hc hX; clear hc
    refine lv_aload_n hx hb dX4_holdOf_39 rfl (lv_at hl 0 rfl) ?_
    refine m_get (v := .ref (ad 1)) hx hb hts hown hK hH 1 (by decide) (hts _ q1291) rfl dX4_holdOf_40 ?_
    refine lv_iload hx hb dX4_holdOf_43 (lv_at hl 8 rfl) ?_
    obtain ⟨hg, hX⟩ := gd_inv hX
    refine m_iald hx hb hK hH 1 1 (n := 1160) rfl hg dX4_holdOf_45 ?_
    refine lv_topi (fun x7 ex7 => ?_)
    replace hX := bd_inv ex7 hX; clear ex7
    refine lv_istore (lv' := [(9, .int x7), (0, .ref (ad 0)), (1, .int p1), (2, .int p2), (3, .int p3), (4, .int p4), (5, .int x2), (6, .int x3), (7, .int x1), (8, .int x4)]) hx hb dX4_holdOf_46 hl (by decide) rfl (fun ls hl => ?_)
    refine lv_iload hx hb dX4_holdOf_48 (lv_at hl 0 rfl) ?_
    refine jnu3 hX (fun (x8 : Int32) (x9 : Int32) (σ10 : MS) => ∀ (H : Heap) (locs : List Loc), HM D dA ad σ10 H → va_S (AM ad) s.heap H locs → ∀ (ls : Array Slot), lv_has ls 13 [(0, .ref (ad 0)), (1, .int p1), (2, .int p2), (3, .int p3), (4, .int p4), (5, .int x8), (6, .int x9), (7, .int x1), (8, .int x4)] → W p l e (headSpec (ws_ yX4_holdOf cX4_holdOf 13 (some .int)) (rmX4_holdOf)).room s m ([.ref (ad 0), .int p1, .int p2, .int p3, .int p4] : List Value).toArray below meth c H locs 0 0 (MQ below (mQi D dA ad r σz) ([.ref (ad 0), .int p1, .int p2, .int p3, .int p4] : List Value).toArray s 0 0 (AM ad)) (F0 m 308 ls [])) (fun x8 x9 σ10 hX H locs hH hS ls hl => ?_) (fun k11 hk11 hX => ?_)
    · obtain ⟨x12, ex12⟩ : ∃ y : Int32, y = x4 + (1:Int32) := ⟨_, rfl⟩
      replace hX := bd_inv ex12 hX
      refine lv_iinc (v := x12) (lv' := [(8, .int x12), (0, .ref (ad 0)), (1, .int p1), (2, .int p2), (3, .int p3), (4, .int p4), (5, .int x8), (6, .int x9), (7, .int x1)]) hx hb dX4_holdOf_308 hl (k := 8) rfl (by rw [ex12]; rfl) (by decide) rfl (fun ls hl => ?_)
      clear ex12
      refine lv_goto (tgt := 21) hx hb dX4_holdOf_311 (by decide) ?_
      exact hk6 x8 x9 x12 σ10 hX H locs hH hS ls (lv_sub hl [1, 2, 3, 4, 5, 6, 7, 8, 0] rfl)
    · refine lv_if_lt (tgt := 161) hx hb dX4_holdOf_50 (by decide) (fun hc => ?_) (fun hc => ?_)
      · replace hX := ipos hc hX; clear hc
        refine lv_iload hx hb dX4_holdOf_161 (lv_at hl 0 rfl) ?_
        refine lv_iconst (v := (-1:Int32)) hx hb dX4_holdOf_163 (by decide) ?_
        refine lv_icmp_ne (tgt := 196) hx hb dX4_holdOf_164 (by decide) (fun hc => ?_) (fun hc => ?_)
        · replace hX := ineg hc hX; clear hc
          refine lv_iload hx hb dX4_holdOf_196 (lv_at hl 0 rfl) ?_
          refine lv_bipush (v := (-10:Int32)) hx hb dX4_holdOf_198 (by decide) ?_
          refine lv_icmp_le (tgt := 282) hx hb dX4_holdOf_200 (by decide) (fun hc => ?_) (fun hc => ?_)
          · replace hX := ipos hc hX; clear hc
            refine lv_iconst (v := (0:Int32)) hx hb dX4_holdOf_282 (by decide) ?_
            refine lv_istore (lv' := [(5, .int (0:Int32)), (9, .int x7), (0, .ref (ad 0)), (1, .int p1), (2, .int p2), (3, .int p3), (4, .int p4), (6, .int x3), (7, .int x1), (8, .int x4)]) hx hb dX4_holdOf_283 hl (by decide) rfl (fun ls hl => ?_)
            refine lv_iload hx hb dX4_holdOf_285 (lv_at hl 7 rfl) ?_
            refine lv_aload_n hx hb dX4_holdOf_287 rfl (lv_at hl 2 rfl) ?_
            refine m_get (v := .ref (ad 9)) hx hb hts hown hK hH 9 (by decide) (hts _ q1299) rfl dX4_holdOf_288 ?_
            refine lv_iconst (v := (0:Int32)) hx hb dX4_holdOf_291 (by decide) ?_
            refine m_zald hx hb hK hH 3 9 (n := 64) rfl (by decide) dX4_holdOf_292 ?_
            refine jnu1 hX (fun (x13 : Int32) => ∀ (H : Heap) (locs : List Loc), HM D dA ad σ5 H → va_S (AM ad) s.heap H locs → ∀ (ls : Array Slot), lv_has ls 13 [(0, .ref (ad 0)), (1, .int p1), (2, .int p2), (3, .int p3), (4, .int p4), (5, .int (0:Int32)), (7, .int x1), (8, .int x4)] → W p l e (headSpec (ws_ yX4_holdOf cX4_holdOf 13 (some .int)) (rmX4_holdOf)).room s m ([.ref (ad 0), .int p1, .int p2, .int p3, .int p4] : List Value).toArray below meth c H locs 0 0 (MQ below (mQi D dA ad r σz) ([.ref (ad 0), .int p1, .int p2, .int p3, .int p4] : List Value).toArray s 0 0 (AM ad)) (F0 m 305 ls [.int x13, .int x3])) (fun x13 hX H locs hH hS ls hl => ?_) (fun k14 hk14 hX => ?_)
            · refine lv_iadd hx hb dX4_holdOf_305 ?_
              refine lv_topi (fun x15 ex15 => ?_)
              replace hX := bd_inv ex15 hX; clear ex15
              refine lv_istore (lv' := [(6, .int x15), (0, .ref (ad 0)), (1, .int p1), (2, .int p2), (3, .int p3), (4, .int p4), (5, .int (0:Int32)), (7, .int x1), (8, .int x4)]) hx hb dX4_holdOf_306 hl (by decide) rfl (fun ls hl => ?_)
              exact hk11 (0:Int32) x15 σ5 hX H locs hH hS ls (lv_sub hl [1, 2, 3, 4, 5, 6, 0, 7, 8] rfl)
            · refine lv_if_eq (tgt := 304) hx hb dX4_holdOf_293 (by decide) (fun hc => ?_) (fun hc => ?_)
              · replace hX := ipos hc hX; clear hc
                refine lv_iconst (v := (0:Int32)) hx hb dX4_holdOf_304 (by decide) ?_
                exact hk14 (0:Int32) hX H locs hH hS ls (lv_sub hl [2, 3, 4, 5, 6, 0, 8, 9] rfl)
              · replace hX := ineg hc hX; clear hc
                refine lv_bipush (v := (-10:Int32)) hx hb dX4_holdOf_296 (by decide) ?_
                refine lv_iload hx hb dX4_holdOf_298 (lv_at hl 1 rfl) ?_
                refine lv_isub hx hb dX4_holdOf_300 ?_
                refine lv_goto (tgt := 305) hx hb dX4_holdOf_301 (by decide) ?_
                exact hk14 ((-10:Int32) - x7) hX H locs hH hS ls (lv_sub hl [2, 3, 4, 5, 6, 0, 8, 9] rfl)
          · replace hX := ineg hc hX; clear hc
            obtain ⟨x16, ex16⟩ : ∃ y : Int32, y = x2 + (-1:Int32) := ⟨_, rfl⟩
            replace hX := bd_inv ex16 hX
            refine lv_iinc (v := x16) (lv' := [(5, .int x16), (9, .int x7), (0, .ref (ad 0)), (1, .int p1), (2, .int p2), (3, .int p3), (4, .int p4), (6, .int x3), (7, .int x1), (8, .int x4)]) hx hb dX4_holdOf_203 hl (k := 6) rfl (by rw [ex16]; rfl) (by decide) rfl (fun ls hl => ?_)
            clear ex16
            refine lv_aload_n hx hb dX4_holdOf_206 rfl (lv_at hl 2 rfl) ?_
            refine m_get (v := .ref (ad 9)) hx hb hts hown hK hH 9 (by decide) (hts _ q1299) rfl dX4_holdOf_207 ?_
            refine lv_iload hx hb dX4_holdOf_210 (lv_at hl 0 rfl) ?_
            refine lv_iconst (v := (1:Int32)) hx hb dX4_holdOf_212 (by decide) ?_
            refine lv_isub hx hb dX4_holdOf_213 ?_
            refine lv_iload hx hb dX4_holdOf_214 (lv_at hl 1 rfl) ?_
            refine lv_bipush (v := (-2:Int32)) hx hb dX4_holdOf_216 (by decide) ?_
            refine jnu1 hX (fun (x17 : Int32) => ∀ (H : Heap) (locs : List Loc), HM D dA ad σ5 H → va_S (AM ad) s.heap H locs → ∀ (ls : Array Slot), lv_has ls 13 [(0, .ref (ad 0)), (1, .int p1), (2, .int p2), (3, .int p3), (4, .int p4), (5, .int x16), (6, .int x3), (7, .int x1), (8, .int x4)] → W p l e (headSpec (ws_ yX4_holdOf cX4_holdOf 13 (some .int)) (rmX4_holdOf)).room s m ([.ref (ad 0), .int p1, .int p2, .int p3, .int p4] : List Value).toArray below meth c H locs 0 0 (MQ below (mQi D dA ad r σz) ([.ref (ad 0), .int p1, .int p2, .int p3, .int p4] : List Value).toArray s 0 0 (AM ad)) (F0 m 278 ls [.int x17, .int (x16 - (1:Int32)), .ref (ad 9)])) (fun x17 hX H locs hH hS ls hl => ?_) (fun k18 hk18 hX => ?_)
            · obtain ⟨hg, hX⟩ := gd_inv hX
              obtain ⟨hg2, hX⟩ := gd_inv hX
              refine m_zast hx hb hK hH hS 3 9 (n := 64) rfl hg hg2 rfl dX4_holdOf_278 (fun σ19 eσ19 H locs hH hS => ?_)
              replace hX := bd_inv eσ19 hX; clear eσ19
              refine lv_goto (tgt := 308) hx hb dX4_holdOf_279 (by decide) ?_
              exact hk11 x16 x3 σ19 hX H locs hH hS ls (lv_sub hl [0, 1, 2, 3, 4, 5, 6, 7, 8] rfl)
            · refine lv_icmp_ne (tgt := 251) hx hb dX4_holdOf_218 (by decide) (fun hc => ?_) (fun hc => ?_)
              · replace hX := ineg hc hX; clear hc
                refine lv_aload_n hx hb dX4_holdOf_251 rfl (lv_at hl 2 rfl) ?_
                refine m_get (v := .ref (ad 9)) hx hb hts hown hK hH 9 (by decide) (hts _ q1299) rfl dX4_holdOf_252 ?_
                refine lv_iload hx hb dX4_holdOf_255 (lv_at hl 0 rfl) ?_
                refine lv_iconst (v := (1:Int32)) hx hb dX4_holdOf_257 (by decide) ?_
                refine lv_isub hx hb dX4_holdOf_258 ?_
                obtain ⟨hg, hX⟩ := gd_inv hX
                refine m_zald hx hb hK hH 3 9 (n := 64) rfl hg dX4_holdOf_259 ?_
                refine jnu0 hX (∀ (H : Heap) (locs : List Loc), HM D dA ad σ5 H → va_S (AM ad) s.heap H locs → ∀ (ls : Array Slot), lv_has ls 13 [(0, .ref (ad 0)), (1, .int p1), (2, .int p2), (3, .int p3), (4, .int p4), (5, .int x16), (6, .int x3), (7, .int x1), (8, .int x4)] → W p l e (headSpec (ws_ yX4_holdOf cX4_holdOf 13 (some .int)) (rmX4_holdOf)).room s m ([.ref (ad 0), .int p1, .int p2, .int p3, .int p4] : List Value).toArray below meth c H locs 0 0 (MQ below (mQi D dA ad r σz) ([.ref (ad 0), .int p1, .int p2, .int p3, .int p4] : List Value).toArray s 0 0 (AM ad)) (F0 m 273 ls [.int (x16 - (1:Int32)), .ref (ad 9)])) (fun  hX H locs hH hS ls hl => ?_) (fun k20 hk20 hX => ?_)
                · refine lv_iconst (v := (1:Int32)) hx hb dX4_holdOf_273 (by decide) ?_
                  refine lv_goto (tgt := 278) hx hb dX4_holdOf_274 (by decide) ?_
                  exact hk18 (1:Int32) hX H locs hH hS ls (lv_sub hl [0, 1, 2, 3, 4, 5, 6, 7, 8] rfl)
                · refine lv_if_ne (tgt := 273) hx hb dX4_holdOf_260 (by decide) (fun hc => ?_) (fun hc => ?_)
                  · replace hX := ineg hc hX; clear hc
                    exact hk20  hX H locs hH hS ls (lv_sub hl [2, 3, 4, 5, 6, 0, 7, 8, 9] rfl)
                  · replace hX := ipos hc hX; clear hc
                    refine lv_aload_n hx hb dX4_holdOf_263 rfl (lv_at hl 2 rfl) ?_
                    refine m_get (v := .ref (ad 9)) hx hb hts hown hK hH 9 (by decide) (hts _ q1299) rfl dX4_holdOf_264 ?_
                    refine lv_iload hx hb dX4_holdOf_267 (lv_at hl 0 rfl) ?_
                    obtain ⟨hg, hX⟩ := gd_inv hX
                    refine m_zald hx hb hK hH 3 9 (n := 64) rfl hg dX4_holdOf_269 ?_
                    refine lv_if_eq (tgt := 277) hx hb dX4_holdOf_270 (by decide) (fun hc => ?_) (fun hc => ?_)
                    · replace hX := ipos hc hX; clear hc
                      refine lv_iconst (v := (0:Int32)) hx hb dX4_holdOf_277 (by decide) ?_
                      exact hk18 (0:Int32) hX H locs hH hS ls (lv_sub hl [2, 3, 4, 5, 6, 0, 7, 8, 9] rfl)
                    · replace hX := ineg hc hX; clear hc
                      exact hk20  hX H locs hH hS ls (lv_sub hl [2, 3, 4, 5, 6, 0, 7, 8, 9] rfl)
              · replace hX := ipos hc hX; clear hc
                refine lv_aload_n hx hb dX4_holdOf_221 rfl (lv_at hl 2 rfl) ?_
                refine m_get (v := .ref (ad 9)) hx hb hts hown hK hH 9 (by decide) (hts _ q1299) rfl dX4_holdOf_222 ?_
                refine lv_iload hx hb dX4_holdOf_225 (lv_at hl 0 rfl) ?_
                refine lv_iconst (v := (1:Int32)) hx hb dX4_holdOf_227 (by decide) ?_
                refine lv_isub hx hb dX4_holdOf_228 ?_
                obtain ⟨hg, hX⟩ := gd_inv hX
                refine m_zald hx hb hK hH 3 9 (n := 64) rfl hg dX4_holdOf_229 ?_
                refine jnu0 hX (∀ (H : Heap) (locs : List Loc), HM D dA ad σ5 H → va_S (AM ad) s.heap H locs → ∀ (ls : Array Slot), lv_has ls 13 [(0, .ref (ad 0)), (1, .int p1), (2, .int p2), (3, .int p3), (4, .int p4), (5, .int x16), (6, .int x3), (7, .int x1), (8, .int x4)] → W p l e (headSpec (ws_ yX4_holdOf cX4_holdOf 13 (some .int)) (rmX4_holdOf)).room s m ([.ref (ad 0), .int p1, .int p2, .int p3, .int p4] : List Value).toArray below meth c H locs 0 0 (MQ below (mQi D dA ad r σz) ([.ref (ad 0), .int p1, .int p2, .int p3, .int p4] : List Value).toArray s 0 0 (AM ad)) (F0 m 247 ls [.int (x16 - (1:Int32)), .ref (ad 9)])) (fun  hX H locs hH hS ls hl => ?_) (fun k21 hk21 hX => ?_)
                · refine lv_iconst (v := (0:Int32)) hx hb dX4_holdOf_247 (by decide) ?_
                  refine lv_goto (tgt := 278) hx hb dX4_holdOf_248 (by decide) ?_
                  exact hk18 (0:Int32) hX H locs hH hS ls (lv_sub hl [0, 1, 2, 3, 4, 5, 6, 7, 8] rfl)
                · refine lv_if_eq (tgt := 247) hx hb dX4_holdOf_230 (by decide) (fun hc => ?_) (fun hc => ?_)
                  · replace hX := ipos hc hX; clear hc
                    exact hk21  hX H locs hH hS ls (lv_sub hl [2, 3, 4, 5, 6, 0, 7, 8, 9] rfl)
                  · replace hX := ineg hc hX; clear hc
                    refine lv_aload_n hx hb dX4_holdOf_233 rfl (lv_at hl 2 rfl) ?_
                    refine m_get (v := .ref (ad 9)) hx hb hts hown hK hH 9 (by decide) (hts _ q1299) rfl dX4_holdOf_234 ?_
                    refine lv_iload hx hb dX4_holdOf_237 (lv_at hl 0 rfl) ?_
                    obtain ⟨hg, hX⟩ := gd_inv hX
                    refine m_zald hx hb hK hH 3 9 (n := 64) rfl hg dX4_holdOf_239 ?_
                    refine lv_if_eq (tgt := 247) hx hb dX4_holdOf_240 (by decide) (fun hc => ?_) (fun hc => ?_)
                    · replace hX := ipos hc hX; clear hc
                      exact hk21  hX H locs hH hS ls (lv_sub hl [2, 3, 4, 5, 6, 0, 7, 8, 9] rfl)
                    · replace hX := ineg hc hX; clear hc
                      refine lv_iconst (v := (1:Int32)) hx hb dX4_holdOf_243 (by decide) ?_
                      refine lv_goto (tgt := 278) hx hb dX4_holdOf_244 (by decide) ?_
                      exact hk18 (1:Int32) hX H locs hH hS ls (lv_sub hl [2, 3, 4, 5, 6, 0, 7, 8, 9] rfl)
        · replace hX := ipos hc hX; clear hc
          refine lv_aload_n hx hb dX4_holdOf_167 rfl (lv_at hl 1 rfl) ?_
          refine m_get (v := .ref (ad 9)) hx hb hts hown hK hH 9 (by decide) (hts _ q1299) rfl dX4_holdOf_168 ?_
          refine lv_iload hx hb dX4_holdOf_171 (lv_at hl 6 rfl) ?_
          refine lv_iconst (v := (1:Int32)) hx hb dX4_holdOf_173 (by decide) ?_
          refine lv_isub hx hb dX4_holdOf_174 ?_
          refine lv_aload_n hx hb dX4_holdOf_175 rfl (lv_at hl 1 rfl) ?_
          refine m_get (v := .ref (ad 9)) hx hb hts hown hK hH 9 (by decide) (hts _ q1299) rfl dX4_holdOf_176 ?_
          refine lv_iload hx hb dX4_holdOf_179 (lv_at hl 6 rfl) ?_
          refine lv_iconst (v := (1:Int32)) hx hb dX4_holdOf_181 (by decide) ?_
          refine lv_isub hx hb dX4_holdOf_182 ?_
          obtain ⟨hg, hX⟩ := gd_inv hX
          refine m_zald hx hb hK hH 3 9 (n := 64) rfl hg dX4_holdOf_183 ?_
          refine jnu1 hX (fun (x22 : Int32) => ∀ (H : Heap) (locs : List Loc), HM D dA ad σ5 H → va_S (AM ad) s.heap H locs → ∀ (ls : Array Slot), lv_has ls 13 [(0, .ref (ad 0)), (1, .int p1), (2, .int p2), (3, .int p3), (4, .int p4), (5, .int x2), (6, .int x3), (7, .int x1), (8, .int x4)] → W p l e (headSpec (ws_ yX4_holdOf cX4_holdOf 13 (some .int)) (rmX4_holdOf)).room s m ([.ref (ad 0), .int p1, .int p2, .int p3, .int p4] : List Value).toArray below meth c H locs 0 0 (MQ below (mQi D dA ad r σz) ([.ref (ad 0), .int p1, .int p2, .int p3, .int p4] : List Value).toArray s 0 0 (AM ad)) (F0 m 192 ls [.int x22, .int (x2 - (1:Int32)), .ref (ad 9)])) (fun x22 hX H locs hH hS ls hl => ?_) (fun k23 hk23 hX => ?_)
          · obtain ⟨hg, hX⟩ := gd_inv hX
            obtain ⟨hg2, hX⟩ := gd_inv hX
            refine m_zast hx hb hK hH hS 3 9 (n := 64) rfl hg hg2 rfl dX4_holdOf_192 (fun σ24 eσ24 H locs hH hS => ?_)
            replace hX := bd_inv eσ24 hX; clear eσ24
            refine lv_goto (tgt := 308) hx hb dX4_holdOf_193 (by decide) ?_
            exact hk11 x2 x3 σ24 hX H locs hH hS ls (lv_sub hl [0, 1, 2, 3, 4, 5, 6, 7, 8] rfl)
          · refine lv_if_ne (tgt := 191) hx hb dX4_holdOf_184 (by decide) (fun hc => ?_) (fun hc => ?_)
            · replace hX := ineg hc hX; clear hc
              refine lv_iconst (v := (0:Int32)) hx hb dX4_holdOf_191 (by decide) ?_
              exact hk23 (0:Int32) hX H locs hH hS ls (lv_sub hl [1, 2, 3, 4, 5, 6, 7, 8, 9] rfl)
            · replace hX := ipos hc hX; clear hc
              refine lv_iconst (v := (1:Int32)) hx hb dX4_holdOf_187 (by decide) ?_
              refine lv_goto (tgt := 192) hx hb dX4_holdOf_188 (by decide) ?_
              exact hk23 (1:Int32) hX H locs hH hS ls (lv_sub hl [1, 2, 3, 4, 5, 6, 7, 8, 9] rfl)
      · replace hX := ineg hc hX; clear hc
        refine lv_iload hx hb dX4_holdOf_53 (lv_at hl 0 rfl) ?_
        refine lv_iconst (v := (4:Int32)) hx hb dX4_holdOf_55 (by decide) ?_
        refine lv_irem hx hb dX4_holdOf_56 (by decide) ?_
        refine jnu1 hX (fun (x25 : Int32) => ∀ (H : Heap) (locs : List Loc), HM D dA ad σ5 H → va_S (AM ad) s.heap H locs → ∀ (ls : Array Slot), lv_has ls 13 [(0, .ref (ad 0)), (1, .int p1), (2, .int p2), (3, .int p3), (4, .int p4), (5, .int x2), (6, .int x3), (7, .int x1), (8, .int x4), (9, .int x7)] → W p l e (headSpec (ws_ yX4_holdOf cX4_holdOf 13 (some .int)) (rmX4_holdOf)).room s m ([.ref (ad 0), .int p1, .int p2, .int p3, .int p4] : List Value).toArray below meth c H locs 0 0 (MQ below (mQi D dA ad r σz) ([.ref (ad 0), .int p1, .int p2, .int p3, .int p4] : List Value).toArray s 0 0 (AM ad)) (F0 m 78 ls [.int x25])) (fun x25 hX H locs hH hS ls hl => ?_) (fun k26 hk26 hX => ?_)
        · refine lv_istore (lv' := [(10, .int x25), (0, .ref (ad 0)), (1, .int p1), (2, .int p2), (3, .int p3), (4, .int p4), (5, .int x2), (6, .int x3), (7, .int x1), (8, .int x4), (9, .int x7)]) hx hb dX4_holdOf_78 hl (by decide) rfl (fun ls hl => ?_)
          refine lv_iload hx hb dX4_holdOf_80 (lv_at hl 10 rfl) ?_
          refine lv_iconst (v := (4:Int32)) hx hb dX4_holdOf_82 (by decide) ?_
          refine lv_idiv hx hb dX4_holdOf_83 (by decide) ?_
          refine lv_iconst (v := (4:Int32)) hx hb dX4_holdOf_84 (by decide) ?_
          refine lv_irem hx hb dX4_holdOf_85 (by decide) ?_
          refine lv_topi (fun x27 ex27 => ?_)
          replace hX := bd_inv ex27 hX; clear ex27
          refine lv_istore (lv' := [(11, .int x27), (10, .int x25), (0, .ref (ad 0)), (1, .int p1), (2, .int p2), (3, .int p3), (4, .int p4), (5, .int x2), (6, .int x3), (7, .int x1), (8, .int x4), (9, .int x7)]) hx hb dX4_holdOf_86 hl (by decide) rfl (fun ls hl => ?_)
          refine lv_iload hx hb dX4_holdOf_88 (lv_at hl 11 rfl) ?_
          refine lv_bipush (v := (16:Int32)) hx hb dX4_holdOf_90 (by decide) ?_
          refine lv_idiv hx hb dX4_holdOf_92 (by decide) ?_
          refine lv_topi (fun x28 ex28 => ?_)
          replace hX := bd_inv ex28 hX; clear ex28
          refine lv_istore (lv' := [(12, .int x28), (11, .int x27), (10, .int x25), (0, .ref (ad 0)), (1, .int p1), (2, .int p2), (3, .int p3), (4, .int p4), (5, .int x2), (6, .int x3), (7, .int x1), (8, .int x4), (9, .int x7)]) hx hb dX4_holdOf_93 hl (by decide) rfl (fun ls hl => ?_)
          refine lv_aload_n hx hb dX4_holdOf_95 rfl (lv_at hl 3 rfl) ?_
          refine m_get (v := .ref (ad 9)) hx hb hts hown hK hH 9 (by decide) (hts _ q1299) rfl dX4_holdOf_96 ?_
          refine lv_iload hx hb dX4_holdOf_99 (lv_at hl 8 rfl) ?_
          refine lv_iload hx hb dX4_holdOf_101 (lv_at hl 1 rfl) ?_
          refine jnu1 hX (fun (x29 : Int32) => ∀ (H : Heap) (locs : List Loc), HM D dA ad σ5 H → va_S (AM ad) s.heap H locs → ∀ (ls : Array Slot), lv_has ls 13 [(0, .ref (ad 0)), (1, .int p1), (2, .int p2), (3, .int p3), (4, .int p4), (5, .int x2), (6, .int x3), (7, .int x1), (8, .int x4)] → W p l e (headSpec (ws_ yX4_holdOf cX4_holdOf 13 (some .int)) (rmX4_holdOf)).room s m ([.ref (ad 0), .int p1, .int p2, .int p3, .int p4] : List Value).toArray below meth c H locs 0 0 (MQ below (mQi D dA ad r σz) ([.ref (ad 0), .int p1, .int p2, .int p3, .int p4] : List Value).toArray s 0 0 (AM ad)) (F0 m 154 ls [.int x29, .int x2, .ref (ad 9)])) (fun x29 hX H locs hH hS ls hl => ?_) (fun k30 hk30 hX => ?_)
          · obtain ⟨hg, hX⟩ := gd_inv hX
            obtain ⟨hg2, hX⟩ := gd_inv hX
            refine m_zast hx hb hK hH hS 3 9 (n := 64) rfl hg hg2 rfl dX4_holdOf_154 (fun σ31 eσ31 H locs hH hS => ?_)
            replace hX := bd_inv eσ31 hX; clear eσ31
            obtain ⟨x32, ex32⟩ : ∃ y : Int32, y = x2 + (1:Int32) := ⟨_, rfl⟩
            replace hX := bd_inv ex32 hX
            refine lv_iinc (v := x32) (lv' := [(5, .int x32), (0, .ref (ad 0)), (1, .int p1), (2, .int p2), (3, .int p3), (4, .int p4), (6, .int x3), (7, .int x1), (8, .int x4)]) hx hb dX4_holdOf_155 hl (k := 5) rfl (by rw [ex32]; rfl) (by decide) rfl (fun ls hl => ?_)
            clear ex32
            refine lv_goto (tgt := 308) hx hb dX4_holdOf_158 (by decide) ?_
            exact hk11 x32 x3 σ31 hX H locs hH hS ls (lv_sub hl [1, 2, 3, 4, 5, 0, 6, 7, 8] rfl)
          · refine lv_if_ne (tgt := 121) hx hb dX4_holdOf_103 (by decide) (fun hc => ?_) (fun hc => ?_)
            · replace hX := ineg hc hX; clear hc
              refine lv_iload hx hb dX4_holdOf_121 (lv_at hl 1 rfl) ?_
              refine lv_iconst (v := (1:Int32)) hx hb dX4_holdOf_123 (by decide) ?_
              refine lv_icmp_ne (tgt := 142) hx hb dX4_holdOf_124 (by decide) (fun hc => ?_) (fun hc => ?_)
              · replace hX := ineg hc hX; clear hc
                refine lv_iload hx hb dX4_holdOf_142 (lv_at hl 2 rfl) ?_
                refine lv_iload hx hb dX4_holdOf_144 (lv_at hl 0 rfl) ?_
                refine lv_icmp_le (tgt := 153) hx hb dX4_holdOf_146 (by decide) (fun hc => ?_) (fun hc => ?_)
                · replace hX := ipos hc hX; clear hc
                  refine lv_iconst (v := (0:Int32)) hx hb dX4_holdOf_153 (by decide) ?_
                  exact hk30 (0:Int32) hX H locs hH hS ls (lv_sub hl [3, 4, 5, 6, 7, 8, 9, 10, 11] rfl)
                · replace hX := ineg hc hX; clear hc
                  refine lv_iconst (v := (1:Int32)) hx hb dX4_holdOf_149 (by decide) ?_
                  refine lv_goto (tgt := 154) hx hb dX4_holdOf_150 (by decide) ?_
                  exact hk30 (1:Int32) hX H locs hH hS ls (lv_sub hl [3, 4, 5, 6, 7, 8, 9, 10, 11] rfl)
              · replace hX := ipos hc hX; clear hc
                refine lv_iload hx hb dX4_holdOf_127 (lv_at hl 2 rfl) ?_
                refine lv_iload hx hb dX4_holdOf_129 (lv_at hl 0 rfl) ?_
                refine lv_icmp_ne (tgt := 138) hx hb dX4_holdOf_131 (by decide) (fun hc => ?_) (fun hc => ?_)
                · replace hX := ineg hc hX; clear hc
                  refine lv_iconst (v := (0:Int32)) hx hb dX4_holdOf_138 (by decide) ?_
                  refine lv_goto (tgt := 154) hx hb dX4_holdOf_139 (by decide) ?_
                  exact hk30 (0:Int32) hX H locs hH hS ls (lv_sub hl [3, 4, 5, 6, 7, 8, 9, 10, 11] rfl)
                · replace hX := ipos hc hX; clear hc
                  refine lv_iconst (v := (1:Int32)) hx hb dX4_holdOf_134 (by decide) ?_
                  refine lv_goto (tgt := 154) hx hb dX4_holdOf_135 (by decide) ?_
                  exact hk30 (1:Int32) hX H locs hH hS ls (lv_sub hl [3, 4, 5, 6, 7, 8, 9, 10, 11] rfl)
            · replace hX := ipos hc hX; clear hc
              refine lv_iload hx hb dX4_holdOf_106 (lv_at hl 2 rfl) ?_
              refine lv_iload hx hb dX4_holdOf_108 (lv_at hl 0 rfl) ?_
              refine lv_icmp_ge (tgt := 117) hx hb dX4_holdOf_110 (by decide) (fun hc => ?_) (fun hc => ?_)
              · replace hX := ipos hc hX; clear hc
                refine lv_iconst (v := (0:Int32)) hx hb dX4_holdOf_117 (by decide) ?_
                refine lv_goto (tgt := 154) hx hb dX4_holdOf_118 (by decide) ?_
                exact hk30 (0:Int32) hX H locs hH hS ls (lv_sub hl [3, 4, 5, 6, 7, 8, 9, 10, 11] rfl)
              · replace hX := ineg hc hX; clear hc
                refine lv_iconst (v := (1:Int32)) hx hb dX4_holdOf_113 (by decide) ?_
                refine lv_goto (tgt := 154) hx hb dX4_holdOf_114 (by decide) ?_
                exact hk30 (1:Int32) hX H locs hH hS ls (lv_sub hl [3, 4, 5, 6, 7, 8, 9, 10, 11] rfl)
        · refine lv_if_ne (tgt := 64) hx hb dX4_holdOf_57 (by decide) (fun hc => ?_) (fun hc => ?_)
          · replace hX := ineg hc hX; clear hc
            refine lv_iload hx hb dX4_holdOf_64 (lv_at hl 0 rfl) ?_
            refine lv_iconst (v := (4:Int32)) hx hb dX4_holdOf_66 (by decide) ?_
            refine lv_irem hx hb dX4_holdOf_67 (by decide) ?_
            refine lv_iconst (v := (1:Int32)) hx hb dX4_holdOf_68 (by decide) ?_
            refine lv_icmp_ne (tgt := 76) hx hb dX4_holdOf_69 (by decide) (fun hc => ?_) (fun hc => ?_)
            · replace hX := ineg hc hX; clear hc
              refine lv_iload hx hb dX4_holdOf_76 (lv_at hl 5 rfl) ?_
              exact hk26 p4 hX H locs hH hS ls (lv_sub hl [1, 2, 3, 4, 5, 6, 7, 8, 9, 0] rfl)
            · replace hX := ipos hc hX; clear hc
              refine lv_iload_n hx hb dX4_holdOf_72 rfl (lv_at hl 4 rfl) ?_
              refine lv_goto (tgt := 78) hx hb dX4_holdOf_73 (by decide) ?_
              exact hk26 p3 hX H locs hH hS ls (lv_sub hl [1, 2, 3, 4, 5, 6, 7, 8, 9, 0] rfl)
          · replace hX := ipos hc hX; clear hc
            refine lv_iload_n hx hb dX4_holdOf_60 rfl (lv_at hl 3 rfl) ?_
            refine lv_goto (tgt := 78) hx hb dX4_holdOf_61 (by decide) ?_
            exact hk26 p2 hX H locs hH hS ls (lv_sub hl [1, 2, 3, 4, 5, 6, 7, 8, 9, 0] rfl)

abbrev rmX4_holds : Room := { frames := 2, cells := 0, slots := 0, locals := 43 }
def fX4_holds (p1 : Int32) (p2 : Int32) (p3 : Int32) (p4 : Int32) (σ : MS) : Option (Int32 × MS) :=
 cl (fX4_isPort p1 σ) (fun (x1 : Int32) =>
 if x1 = (0:Int32) then
 some ((-1:Int32), σ)
 else
 cl (fX4_in p2 (0:Int32) (99:Int32)) (fun (x2 : Int32) =>
 jn (fun (x3 : Int32) (σ4 : MS) => some (x3, σ4)) (fun (k5 : Int32 → MS → Option (Int32 × MS)) =>
 jn (k5 (-2:Int32) σ) (fun (k6 : Option (Int32 × MS)) =>
 if x2 = (0:Int32) then
 k6
 else
 cl (fX4_in p3 (1:Int32) (20:Int32)) (fun (x7 : Int32) =>
 if x7 = (0:Int32) then
 k6
 else
 cl (fX4_in p4 (0:Int32) (3:Int32)) (fun (x8 : Int32) =>
 if x8 = (0:Int32) then
 k6
 else
 cl2 (fX4_holdOf p1 p2 p3 p4 σ) (fun (x10 : Int32) (σ9 : MS) =>
 k5 x10 σ9)))))))
set_option maxHeartbeats 4000000 in
set_option maxRecDepth 100000 in
theorem mX4_holds (l : Launch) (D : va_G) (dA : Nat → ClassId) (ad : Nat → Nat) {p1 : Int32} {p2 : Int32} {p3 : Int32} {p4 : Int32} {σ : MS} {r : Int32} {σz : MS} (hX : fX4_holds p1 p2 p3 p4 σ = some (r, σz)) : Met l yX4_holds (ws_ yX4_holds cX4_holds 5 (some .int)) (rmX4_holds) (mPc D dA ad σ [.int p1, .int p2, .int p3, .int p4]) (mQi D dA ad r σz) 0 0 (AM ad) := by
  refine Met.ofW (cc := cX4_holds) (maxL := 5) (ret := (some .int)) (by decide) rfl ?_
  intro p e s m args below meth c s₁ B hml hv
  obtain ⟨rfl, hH, hK⟩ := hv
  have hx := B.exec
  have hb := B.bytes
  have hr := B.returns
  have hts := atoms_spec (ws := (ws_ yX4_holds cX4_holds 5 (some .int))) B.pre
  have hts : ∀ w ∈ lw_all, w.before _ s = true := fun w h => hts w (List.mem_cons_of_mem _ h)
  have hown : s.vm.findClass RX4 = some m.cls := findClass_of_methodNamed B.named
  have hlocks := B.notSynchronized
  have hl := lv_entry ([.ref (ad 0), .int p1, .int p2, .int p3, .int p4]) (n := 5) (Nat.le_of_ble_eq_true rfl)
  rw [lg_entry_eq]
  generalize (lg_sl ([.ref (ad 0), .int p1, .int p2, .int p3, .int p4]) ++ List.replicate (5 - (lg_sl ([.ref (ad 0), .int p1, .int p2, .int p3, .int p4])).length) Slot.unset).toArray = ls at hl ⊢
  have hl : lv_has ls 5 [(0, .ref (ad 0)), (1, .int p1), (2, .int p2), (3, .int p3), (4, .int p4)] := hl
  unfold fX4_holds at hX
  refine m_start hH (fun H locs hH hS => ?_)
  refine lv_aload_n hx hb dX4_holds_0 rfl (lv_at hl 0 rfl) ?_
  refine lv_iload_n hx hb dX4_holds_1 rfl (lv_at hl 1 rfl) ?_
  obtain ⟨x1, hf, hX⟩ := cl_inv hX
  refine m_callVi (As := [.int p1]) ⟨hx, hb, hml, hown, hts⟩ (mX4_isPort l D dA ad hf) (cwV 1 hts (lw_V q1487 q1489 qs54 q95 q1490) rfl rfl rfl (by decide +kernel) ⟨Nat.le_of_ble_eq_true rfl, Nat.le_of_ble_eq_true rfl⟩) hK hH hS rfl hl.1 rfl (Nat.le_of_ble_eq_true rfl) dX4_holds_2 (fun H locs hH hS => ?_)
  clear hf
  refine lv_if_ne (tgt := 10) hx hb dX4_holds_5 (by decide) (fun hc => ?_) (fun hc => ?_)
  · replace hX := ineg hc hX; clear hc
    refine lv_iload_n hx hb dX4_holds_10 rfl (lv_at hl 2 rfl) ?_
    refine lv_iconst (v := (0:Int32)) hx hb dX4_holds_11 (by decide) ?_
    refine lv_bipush (v := (99:Int32)) hx hb dX4_holds_12 (by decide) ?_
    obtain ⟨x2, hf, hX⟩ := cl_inv hX
    refine m_callSi (As := [.int p2, .int (0:Int32), .int (99:Int32)]) ⟨hx, hb, hml, hown, hts⟩ (mX4_in l hf) (va_cwS 3 hts (lw_S q1368 q1369 q95 q1370) rfl rfl rfl (by decide +kernel) ⟨Nat.le_of_ble_eq_true rfl, Nat.le_of_ble_eq_true rfl⟩) hH hS rfl hl.1 rfl (Nat.le_of_ble_eq_true rfl) dX4_holds_14 (fun H locs hH hS => ?_)
    clear hf
    refine jnu2 hX (fun (x3 : Int32) (σ4 : MS) => ∀ (H : Heap) (locs : List Loc), HM D dA ad σ4 H → va_S (AM ad) s.heap H locs → ∀ (ls : Array Slot), lv_has ls 5 [] → W p l e (headSpec (ws_ yX4_holds cX4_holds 5 (some .int)) (rmX4_holds)).room s m ([.ref (ad 0), .int p1, .int p2, .int p3, .int p4] : List Value).toArray below meth c H locs 0 0 (MQ below (mQi D dA ad r σz) ([.ref (ad 0), .int p1, .int p2, .int p3, .int p4] : List Value).toArray s 0 0 (AM ad)) (F0 m 54 ls [.int x3])) (fun x3 σ4 hX H locs hH hS ls hl => ?_) (fun k5 hk5 hX => ?_)
    · obtain ⟨e1, e2⟩ := Prod.mk.inj (rinv hX); subst e1; subst e2
      exact W.iret hx hb hr (fun t ht hW => ⟨⟨_, (), rfl, rfl, hH.to ht⟩, hS.F ht⟩) hS.2.2 dX4_holds_54
    · refine jnu0 hX (∀ (H : Heap) (locs : List Loc), HM D dA ad σ H → va_S (AM ad) s.heap H locs → ∀ (ls : Array Slot), lv_has ls 5 [] → W p l e (headSpec (ws_ yX4_holds cX4_holds 5 (some .int)) (rmX4_holds)).room s m ([.ref (ad 0), .int p1, .int p2, .int p3, .int p4] : List Value).toArray below meth c H locs 0 0 (MQ below (mQi D dA ad r σz) ([.ref (ad 0), .int p1, .int p2, .int p3, .int p4] : List Value).toArray s 0 0 (AM ad)) (F0 m 52 ls [])) (fun  hX H locs hH hS ls hl => ?_) (fun k6 hk6 hX => ?_)
      · refine lv_bipush (v := (-2:Int32)) hx hb dX4_holds_52 (by decide) ?_
        exact hk5 (-2:Int32) σ hX H locs hH hS ls (lv_sub hl [] rfl)
      · refine lv_if_eq (tgt := 52) hx hb dX4_holds_17 (by decide) (fun hc => ?_) (fun hc => ?_)
        · replace hX := ipos hc hX; clear hc
          exact hk6  hX H locs hH hS ls (lv_sub hl [] rfl)
        · replace hX := ineg hc hX; clear hc
          refine lv_iload_n hx hb dX4_holds_20 rfl (lv_at hl 3 rfl) ?_
          refine lv_iconst (v := (1:Int32)) hx hb dX4_holds_21 (by decide) ?_
          refine lv_bipush (v := (20:Int32)) hx hb dX4_holds_22 (by decide) ?_
          obtain ⟨x7, hf, hX⟩ := cl_inv hX
          refine m_callSi (As := [.int p3, .int (1:Int32), .int (20:Int32)]) ⟨hx, hb, hml, hown, hts⟩ (mX4_in l hf) (va_cwS 3 hts (lw_S q1368 q1369 q95 q1370) rfl rfl rfl (by decide +kernel) ⟨Nat.le_of_ble_eq_true rfl, Nat.le_of_ble_eq_true rfl⟩) hH hS rfl hl.1 rfl (Nat.le_of_ble_eq_true rfl) dX4_holds_24 (fun H locs hH hS => ?_)
          clear hf
          refine lv_if_eq (tgt := 52) hx hb dX4_holds_27 (by decide) (fun hc => ?_) (fun hc => ?_)
          · replace hX := ipos hc hX; clear hc
            exact hk6  hX H locs hH hS ls (lv_sub hl [] rfl)
          · replace hX := ineg hc hX; clear hc
            refine lv_iload hx hb dX4_holds_30 (lv_at hl 4 rfl) ?_
            refine lv_iconst (v := (0:Int32)) hx hb dX4_holds_32 (by decide) ?_
            refine lv_iconst (v := (3:Int32)) hx hb dX4_holds_33 (by decide) ?_
            obtain ⟨x8, hf, hX⟩ := cl_inv hX
            refine m_callSi (As := [.int p4, .int (0:Int32), .int (3:Int32)]) ⟨hx, hb, hml, hown, hts⟩ (mX4_in l hf) (va_cwS 3 hts (lw_S q1368 q1369 q95 q1370) rfl rfl rfl (by decide +kernel) ⟨Nat.le_of_ble_eq_true rfl, Nat.le_of_ble_eq_true rfl⟩) hH hS rfl hl.1 rfl (Nat.le_of_ble_eq_true rfl) dX4_holds_34 (fun H locs hH hS => ?_)
            clear hf
            refine lv_if_eq (tgt := 52) hx hb dX4_holds_37 (by decide) (fun hc => ?_) (fun hc => ?_)
            · replace hX := ipos hc hX; clear hc
              exact hk6  hX H locs hH hS ls (lv_sub hl [] rfl)
            · replace hX := ineg hc hX; clear hc
              refine lv_aload_n hx hb dX4_holds_40 rfl (lv_at hl 0 rfl) ?_
              refine lv_iload_n hx hb dX4_holds_41 rfl (lv_at hl 1 rfl) ?_
              refine lv_iload_n hx hb dX4_holds_42 rfl (lv_at hl 2 rfl) ?_
              refine lv_iload_n hx hb dX4_holds_43 rfl (lv_at hl 3 rfl) ?_
              refine lv_iload hx hb dX4_holds_44 (lv_at hl 4 rfl) ?_
              obtain ⟨x10, σ9, hf, hX⟩ := cl2_inv hX
              refine m_callVi (As := [.int p1, .int p2, .int p3, .int p4]) ⟨hx, hb, hml, hown, hts⟩ (mX4_holdOf l D dA ad hf) (cwV 4 hts (lw_V q1495 q1497 qs55 q95 q1498) rfl rfl rfl (by decide +kernel) ⟨Nat.le_of_ble_eq_true rfl, Nat.le_of_ble_eq_true rfl⟩) hK hH hS rfl hl.1 rfl (Nat.le_of_ble_eq_true rfl) dX4_holds_46 (fun H locs hH hS => ?_)
              clear hf
              refine lv_goto (tgt := 54) hx hb dX4_holds_49 (by decide) ?_
              exact hk5 x10 σ9 hX H locs hH hS ls (lv_sub hl [] rfl)
  · replace hX := ipos hc hX; clear hc
    refine lv_iconst (v := (-1:Int32)) hx hb dX4_holds_8 (by decide) ?_
    obtain ⟨e1, e2⟩ := Prod.mk.inj (rinv hX); subst e1; subst e2
    exact W.iret hx hb hr (fun t ht hW => ⟨⟨_, (), rfl, rfl, hH.to ht⟩, hS.F ht⟩) hS.2.2 dX4_holds_9

abbrev rmX4_chance : Room := { frames := 0, cells := 0, slots := 0, locals := 0 }
def fX4_chance (p1 : Int32) (σ : MS) : Option (Int32) :=
 gd (ib (((130:Int32) + ((10:Int32) * (σ.1 11))) + p1) 1160) (
 bd (σ.2.1 1 (((130:Int32) + ((10:Int32) * (σ.1 11))) + p1).toNatClampNeg) (fun (x1 : Int32) =>
 jn (fun (x2 : Int32) => some x2) (fun (k3 : Int32 → Option (Int32)) =>
 if p1 = (4:Int32) then
 k3 (x1 + (σ.1 14))
 else
 k3 x1)))
set_option maxHeartbeats 4000000 in
set_option maxRecDepth 100000 in
theorem mX4_chance (l : Launch) (D : va_G) (dA : Nat → ClassId) (ad : Nat → Nat) {p1 : Int32} {σ : MS} {r : Int32} (hX : fX4_chance p1 σ = some r) : Met l yX4_chance (ws_ yX4_chance cX4_chance 3 (some .int)) (rmX4_chance) (mPc D dA ad σ [.int p1]) (mQi D dA ad r σ) 0 0 (AM ad) := by
  refine Met.ofW (cc := cX4_chance) (maxL := 3) (ret := (some .int)) (by decide) rfl ?_
  intro p e s m args below meth c s₁ B hml hv
  obtain ⟨rfl, hH, hK⟩ := hv
  have hx := B.exec
  have hb := B.bytes
  have hr := B.returns
  have hts := atoms_spec (ws := (ws_ yX4_chance cX4_chance 3 (some .int))) B.pre
  have hts : ∀ w ∈ lw_all, w.before _ s = true := fun w h => hts w (List.mem_cons_of_mem _ h)
  have hown : s.vm.findClass RX4 = some m.cls := findClass_of_methodNamed B.named
  have hlocks := B.notSynchronized
  have hl := lv_entry ([.ref (ad 0), .int p1]) (n := 3) (Nat.le_of_ble_eq_true rfl)
  rw [lg_entry_eq]
  generalize (lg_sl ([.ref (ad 0), .int p1]) ++ List.replicate (3 - (lg_sl ([.ref (ad 0), .int p1])).length) Slot.unset).toArray = ls at hl ⊢
  have hl : lv_has ls 3 [(0, .ref (ad 0)), (1, .int p1)] := hl
  unfold fX4_chance at hX
  refine m_start hH (fun H locs hH hS => ?_)
  refine lv_aload_n hx hb dX4_chance_0 rfl (lv_at hl 0 rfl) ?_
  refine m_get (v := .ref (ad 1)) hx hb hts hown hK hH 1 (by decide) (hts _ q1291) rfl dX4_chance_1 ?_
  refine lv_sipush (v := (130:Int32)) hx hb dX4_chance_4 (by decide) ?_
  refine lv_bipush (v := (10:Int32)) hx hb dX4_chance_7 (by decide) ?_
  refine lv_aload_n hx hb dX4_chance_9 rfl (lv_at hl 0 rfl) ?_
  refine m_get (v := .int (σ.1 11)) hx hb hts hown hK hH 11 (by decide) (hts _ q1301) rfl dX4_chance_10 ?_
  refine lv_imul hx hb dX4_chance_13 ?_
  refine lv_iadd hx hb dX4_chance_14 ?_
  refine lv_iload_n hx hb dX4_chance_15 rfl (lv_at hl 1 rfl) ?_
  refine lv_iadd hx hb dX4_chance_16 ?_
  obtain ⟨hg, hX⟩ := gd_inv hX
  refine m_iald hx hb hK hH 1 1 (n := 1160) rfl hg dX4_chance_17 ?_
  refine lv_topi (fun x1 ex1 => ?_)
  replace hX := bd_inv ex1 hX; clear ex1
  refine lv_istore_n (lv' := [(2, .int x1), (0, .ref (ad 0)), (1, .int p1)]) hx hb dX4_chance_18 rfl hl (by decide) rfl (fun ls hl => ?_)
  refine lv_iload_n hx hb dX4_chance_19 rfl (lv_at hl 2 rfl) ?_
  refine lv_iconst (v := (4:Int32)) hx hb dX4_chance_20 (by decide) ?_
  refine jnu1 hX (fun (x2 : Int32) => ∀ (H : Heap) (locs : List Loc), HM D dA ad σ H → va_S (AM ad) s.heap H locs → ∀ (ls : Array Slot), lv_has ls 3 [] → W p l e (headSpec (ws_ yX4_chance cX4_chance 3 (some .int)) (rmX4_chance)).room s m ([.ref (ad 0), .int p1] : List Value).toArray below meth c H locs 0 0 (MQ below (mQi D dA ad r σ) ([.ref (ad 0), .int p1] : List Value).toArray s 0 0 (AM ad)) (F0 m 34 ls [.int x2])) (fun x2 hX H locs hH hS ls hl => ?_) (fun k3 hk3 hX => ?_)
  · have e1 := rinv hX; subst e1
    exact W.iret hx hb hr (fun t ht hW => ⟨⟨_, (), rfl, rfl, hH.to ht⟩, hS.F ht⟩) hS.2.2 dX4_chance_34
  · refine lv_icmp_ne (tgt := 33) hx hb dX4_chance_21 (by decide) (fun hc => ?_) (fun hc => ?_)
    · replace hX := ineg hc hX; clear hc
      refine lv_iload_n hx hb dX4_chance_33 rfl (lv_at hl 0 rfl) ?_
      exact hk3 x1 hX H locs hH hS ls (lv_sub hl [] rfl)
    · replace hX := ipos hc hX; clear hc
      refine lv_iload_n hx hb dX4_chance_24 rfl (lv_at hl 0 rfl) ?_
      refine lv_aload_n hx hb dX4_chance_25 rfl (lv_at hl 1 rfl) ?_
      refine m_get (v := .int (σ.1 14)) hx hb hts hown hK hH 14 (by decide) (hts _ q1304) rfl dX4_chance_26 ?_
      refine lv_iadd hx hb dX4_chance_29 ?_
      refine lv_goto (tgt := 34) hx hb dX4_chance_30 (by decide) ?_
      exact hk3 (x1 + (σ.1 14)) hX H locs hH hS ls (lv_sub hl [] rfl)

abbrev rmX4_part : Room := { frames := 0, cells := 0, slots := 0, locals := 0 }
def fX4_part (p1 : Int32) (p2 : Int32) : Option (Int64) :=
 jn (fun (x1 : Int32) => some (((p1.toInt64) * (x1.toInt64)) / (1000:Int64))) (fun (k2 : Int32 → Option (Int64)) =>
 if p2 ≤ (1000:Int32) then
 k2 p2
 else
 k2 (1000:Int32))
set_option maxHeartbeats 4000000 in
set_option maxRecDepth 100000 in
theorem mX4_part (l : Launch) {p1 : Int32} {p2 : Int32} {r : Int64} (hX : fX4_part p1 p2 = some r) : Met l yX4_part (ws_ yX4_part cX4_part 2 (some .long)) (rmX4_part) (sPc [.int p1, .int p2]) (sQl r) 0 0 noA := by
  refine Met.ofW (cc := cX4_part) (maxL := 2) (ret := (some .long)) (by decide) rfl ?_
  intro p e s m args below meth c s₁ B hml hv
  obtain ⟨rfl, -⟩ := hv
  have hx := B.exec
  have hb := B.bytes
  have hr := B.returns
  have hts := atoms_spec (ws := (ws_ yX4_part cX4_part 2 (some .long))) B.pre
  have hts : ∀ w ∈ lw_all, w.before _ s = true := fun w h => hts w (List.mem_cons_of_mem _ h)
  have hown : s.vm.findClass RX4 = some m.cls := findClass_of_methodNamed B.named
  have hlocks := B.notSynchronized
  have hl := lv_entry ([.int p1, .int p2]) (n := 2) (Nat.le_of_ble_eq_true rfl)
  rw [lg_entry_eq]
  generalize (lg_sl ([.int p1, .int p2]) ++ List.replicate (2 - (lg_sl ([.int p1, .int p2])).length) Slot.unset).toArray = ls at hl ⊢
  have hl : lv_has ls 2 [(0, .int p1), (1, .int p2)] := hl
  unfold fX4_part at hX
  refine s_start (fun H locs hS => ?_)
  refine lv_iload_n hx hb dX4_part_0 rfl (lv_at hl 0 rfl) ?_
  refine lv_i2l hx hb dX4_part_1 rfl ?_
  refine lv_iload_n hx hb dX4_part_2 rfl (lv_at hl 1 rfl) ?_
  refine lv_sipush (v := (1000:Int32)) hx hb dX4_part_3 (by decide) ?_
  refine jnu1 hX (fun (x1 : Int32) => ∀ (H : Heap) (locs : List Loc), va_S noA s.heap H locs → ∀ (ls : Array Slot), lv_has ls 2 [] → W p l e (headSpec (ws_ yX4_part cX4_part 2 (some .long)) (rmX4_part)).room s m ([.int p1, .int p2] : List Value).toArray below meth c H locs 0 0 (MQ below (sQl r) ([.int p1, .int p2] : List Value).toArray s 0 0 noA) (F0 m 16 ls [.int x1, .long (p1.toInt64)])) (fun x1 hX H locs hS ls hl => ?_) (fun k2 hk2 hX => ?_)
  · refine lv_i2l hx hb dX4_part_16 rfl ?_
    refine lv_lmul hx hb dX4_part_17 ?_
    refine lv_ldc2 (v := (1000:Int64)) hx hb hown (hts _ q1523) dX4_part_18 ?_
    refine lv_ldiv hx hb dX4_part_21 (by decide) ?_
    have e1 := rinv hX; subst e1
    exact W.lret hx hb hr (fun t ht hW => ⟨⟨_, (), rfl, rfl, trivial⟩, hS.F ht⟩) hS.2.2 dX4_part_22
  · refine lv_icmp_le (tgt := 15) hx hb dX4_part_6 (by decide) (fun hc => ?_) (fun hc => ?_)
    · replace hX := ipos hc hX; clear hc
      refine lv_iload_n hx hb dX4_part_15 rfl (lv_at hl 1 rfl) ?_
      exact hk2 p2 hX H locs hS ls (lv_sub hl [] rfl)
    · replace hX := ineg hc hX; clear hc
      refine lv_sipush (v := (1000:Int32)) hx hb dX4_part_9 (by decide) ?_
      refine lv_goto (tgt := 16) hx hb dX4_part_12 (by decide) ?_
      exact hk2 (1000:Int32) hX H locs hS ls (lv_sub hl [] rfl)

abbrev rmX4_moves : Room := { frames := 1, cells := 0, slots := 0, locals := 21 }
def fX4_moves (p1 : Int32) (p2 : Int32) (p3 : Int32) (σ : MS) : Option MS :=
 gd (ib p1 8) (
 cl (fX4_part (σ.2.1 10 p1.toNatClampNeg) p3) (fun (x1 : Int64) =>
 bd (x1.toInt32) (fun (x2 : Int32) =>
 gd (ib p1 8) (
 gd (ib p1 8) (
 bd (sa σ 10 p1.toNatClampNeg ((σ.2.1 10 p1.toNatClampNeg) - x2)) (fun (σ3 : MS) =>
 gd (ib p2 8) (
 gd (ib p2 8) (
 bd (sa σ3 10 p2.toNatClampNeg ((σ3.2.1 10 p2.toNatClampNeg) + x2)) (fun (σ4 : MS) =>
 some σ4)))))))))
set_option maxHeartbeats 4000000 in
set_option maxRecDepth 100000 in
theorem mX4_moves (l : Launch) (D : va_G) (dA : Nat → ClassId) (ad : Nat → Nat) {p1 : Int32} {p2 : Int32} {p3 : Int32} {σ : MS} {σz : MS} (hX : fX4_moves p1 p2 p3 σ = some σz) : Met l yX4_moves (ws_ yX4_moves cX4_moves 5 none) (rmX4_moves) (mPc D dA ad σ [.int p1, .int p2, .int p3]) (mQv D dA ad σz) 0 0 (AM ad) := by
  refine Met.ofW (cc := cX4_moves) (maxL := 5) (ret := none) (by decide) rfl ?_
  intro p e s m args below meth c s₁ B hml hv
  obtain ⟨rfl, hH, hK⟩ := hv
  have hx := B.exec
  have hb := B.bytes
  have hr := B.returns
  have hts := atoms_spec (ws := (ws_ yX4_moves cX4_moves 5 none)) B.pre
  have hts : ∀ w ∈ lw_all, w.before _ s = true := fun w h => hts w (List.mem_cons_of_mem _ h)
  have hown : s.vm.findClass RX4 = some m.cls := findClass_of_methodNamed B.named
  have hlocks := B.notSynchronized
  have hl := lv_entry ([.ref (ad 0), .int p1, .int p2, .int p3]) (n := 5) (Nat.le_of_ble_eq_true rfl)
  rw [lg_entry_eq]
  generalize (lg_sl ([.ref (ad 0), .int p1, .int p2, .int p3]) ++ List.replicate (5 - (lg_sl ([.ref (ad 0), .int p1, .int p2, .int p3])).length) Slot.unset).toArray = ls at hl ⊢
  have hl : lv_has ls 5 [(0, .ref (ad 0)), (1, .int p1), (2, .int p2), (3, .int p3)] := hl
  unfold fX4_moves at hX
  refine m_start hH (fun H locs hH hS => ?_)
  refine lv_aload_n hx hb dX4_moves_0 rfl (lv_at hl 0 rfl) ?_
  refine m_get (v := .ref (ad 10)) hx hb hts hown hK hH 10 (by decide) (hts _ q1300) rfl dX4_moves_1 ?_
  refine lv_iload_n hx hb dX4_moves_4 rfl (lv_at hl 1 rfl) ?_
  obtain ⟨hg, hX⟩ := gd_inv hX
  refine m_iald hx hb hK hH 4 10 (n := 8) rfl hg dX4_moves_5 ?_
  refine lv_iload_n hx hb dX4_moves_6 rfl (lv_at hl 3 rfl) ?_
  obtain ⟨x1, hf, hX⟩ := cl_inv hX
  refine m_callSl (As := [.int (σ.2.1 10 p1.toNatClampNeg), .int p3]) ⟨hx, hb, hml, hown, hts⟩ (mX4_part l hf) (va_cwS 2 hts (lw_S q1520 q1521 q95 q1522) rfl rfl rfl (by decide +kernel) ⟨Nat.le_of_ble_eq_true rfl, Nat.le_of_ble_eq_true rfl⟩) hH hS rfl hl.1 rfl (Nat.le_of_ble_eq_true rfl) dX4_moves_7 (fun H locs hH hS => ?_)
  clear hf
  refine lv_l2i hx hb dX4_moves_10 rfl ?_
  refine lv_topi (fun x2 ex2 => ?_)
  replace hX := bd_inv ex2 hX; clear ex2
  refine lv_istore (lv' := [(4, .int x2), (0, .ref (ad 0)), (1, .int p1), (2, .int p2), (3, .int p3)]) hx hb dX4_moves_11 hl (by decide) rfl (fun ls hl => ?_)
  refine lv_aload_n hx hb dX4_moves_13 rfl (lv_at hl 1 rfl) ?_
  refine m_get (v := .ref (ad 10)) hx hb hts hown hK hH 10 (by decide) (hts _ q1300) rfl dX4_moves_14 ?_
  refine lv_iload_n hx hb dX4_moves_17 rfl (lv_at hl 2 rfl) ?_
  refine lv_dup2_11 hx hb dX4_moves_18 rfl rfl ?_
  obtain ⟨hg, hX⟩ := gd_inv hX
  refine m_iald hx hb hK hH 4 10 (n := 8) rfl hg dX4_moves_19 ?_
  refine lv_iload hx hb dX4_moves_20 (lv_at hl 0 rfl) ?_
  refine lv_isub hx hb dX4_moves_22 ?_
  obtain ⟨hg, hX⟩ := gd_inv hX
  refine m_iast hx hb hK hH hS 4 10 (n := 8) rfl hg rfl dX4_moves_23 (fun σ3 eσ3 H locs hH hS => ?_)
  replace hX := bd_inv eσ3 hX; clear eσ3
  refine lv_aload_n hx hb dX4_moves_24 rfl (lv_at hl 1 rfl) ?_
  refine m_get (v := .ref (ad 10)) hx hb hts hown hK hH 10 (by decide) (hts _ q1300) rfl dX4_moves_25 ?_
  refine lv_iload_n hx hb dX4_moves_28 rfl (lv_at hl 3 rfl) ?_
  refine lv_dup2_11 hx hb dX4_moves_29 rfl rfl ?_
  obtain ⟨hg, hX⟩ := gd_inv hX
  refine m_iald hx hb hK hH 4 10 (n := 8) rfl hg dX4_moves_30 ?_
  refine lv_iload hx hb dX4_moves_31 (lv_at hl 0 rfl) ?_
  refine lv_iadd hx hb dX4_moves_33 ?_
  obtain ⟨hg, hX⟩ := gd_inv hX
  refine m_iast hx hb hK hH hS 4 10 (n := 8) rfl hg rfl dX4_moves_34 (fun σ4 eσ4 H locs hH hS => ?_)
  replace hX := bd_inv eσ4 hX; clear eσ4
  have e1 := rinv hX; subst e1
  exact W.vret hx hb hr (fun t ht hW => ⟨⟨(), rfl, trivial, hH.to ht⟩, hS.F ht⟩) hS.2.2 dX4_moves_35

abbrev rmX4_anew : Room := { frames := 2, cells := 0, slots := 0, locals := 45 }
def fX4_anew (p1 : Int32) (p2 : Int32) (p3 : Int32) (σ : MS) : Option MS :=
 gd (ib (((130:Int32) + ((10:Int32) * (σ.1 11))) + p2) 1160) (
 bd ((σ.2.1 1 (((130:Int32) + ((10:Int32) * (σ.1 11))) + p2).toNatClampNeg) - p3) (fun (x1 : Int32) =>
 gd (ib p1 8) (
 bd (sa σ 10 p1.toNatClampNeg (1000000:Int32)) (fun (σ2 : MS) =>
 lp (fun _ _ => none) (fun (k5 : Int32 → MS → Option MS) (x3 : Int32) (σ4 : MS) =>
 if (4:Int32) ≤ x3 then
 lp (fun _ _ => none) (fun (k8 : Int32 → MS → Option MS) (x6 : Int32) (σ7 : MS) =>
 jn (some σ7) (fun (k9 : Option MS) =>
 if (σ7.1 12) ≤ x6 then
 k9
 else
 if x1 ≤ (0:Int32) then
 k9
 else
 lp (fun _ _ => none) (fun (k12 : Int32 → MS → Option MS) (x10 : Int32) (σ11 : MS) =>
 if x10 < (0:Int32) then
 bd (x6 + (1:Int32)) (fun (x13 : Int32) =>
 k8 x13 σ11)
 else
 cl (fX4_moves (p1 + x10) ((p1 + x10) + (1:Int32)) x1 σ11) (fun (σ14 : MS) =>
 bd (x10 + (-1:Int32)) (fun (x15 : Int32) =>
 k12 x15 σ14))) NF (2:Int32) σ7)) NF (0:Int32) σ4
 else
 gd (ib (p1 + x3) 8) (
 bd (sa σ4 10 (p1 + x3).toNatClampNeg (0:Int32)) (fun (σ16 : MS) =>
 bd (x3 + (1:Int32)) (fun (x17 : Int32) =>
 k5 x17 σ16)))) NF (1:Int32) σ2))))
set_option maxHeartbeats 4000000 in
set_option maxRecDepth 100000 in
theorem mX4_anew (l : Launch) (D : va_G) (dA : Nat → ClassId) (ad : Nat → Nat) {p1 : Int32} {p2 : Int32} {p3 : Int32} {σ : MS} {σz : MS} (hX : fX4_anew p1 p2 p3 σ = some σz) : Met l yX4_anew (ws_ yX4_anew cX4_anew 7 none) (rmX4_anew) (mPc D dA ad σ [.int p1, .int p2, .int p3]) (mQv D dA ad σz) 0 0 (AM ad) := by
  refine Met.ofW (cc := cX4_anew) (maxL := 7) (ret := none) (by decide) rfl ?_
  intro p e s m args below meth c s₁ B hml hv
  obtain ⟨rfl, hH, hK⟩ := hv
  have hx := B.exec
  have hb := B.bytes
  have hr := B.returns
  have hts := atoms_spec (ws := (ws_ yX4_anew cX4_anew 7 none)) B.pre
  have hts : ∀ w ∈ lw_all, w.before _ s = true := fun w h => hts w (List.mem_cons_of_mem _ h)
  have hown : s.vm.findClass RX4 = some m.cls := findClass_of_methodNamed B.named
  have hlocks := B.notSynchronized
  have hl := lv_entry ([.ref (ad 0), .int p1, .int p2, .int p3]) (n := 7) (Nat.le_of_ble_eq_true rfl)
  rw [lg_entry_eq]
  generalize (lg_sl ([.ref (ad 0), .int p1, .int p2, .int p3]) ++ List.replicate (7 - (lg_sl ([.ref (ad 0), .int p1, .int p2, .int p3])).length) Slot.unset).toArray = ls at hl ⊢
  have hl : lv_has ls 7 [(0, .ref (ad 0)), (1, .int p1), (2, .int p2), (3, .int p3)] := hl
  unfold fX4_anew at hX
  refine m_start hH (fun H locs hH hS => ?_)
  refine lv_aload_n hx hb dX4_anew_0 rfl (lv_at hl 0 rfl) ?_
  refine m_get (v := .ref (ad 1)) hx hb hts hown hK hH 1 (by decide) (hts _ q1291) rfl dX4_anew_1 ?_
  refine lv_sipush (v := (130:Int32)) hx hb dX4_anew_4 (by decide) ?_
  refine lv_bipush (v := (10:Int32)) hx hb dX4_anew_7 (by decide) ?_
  refine lv_aload_n hx hb dX4_anew_9 rfl (lv_at hl 0 rfl) ?_
  refine m_get (v := .int (σ.1 11)) hx hb hts hown hK hH 11 (by decide) (hts _ q1301) rfl dX4_anew_10 ?_
  refine lv_imul hx hb dX4_anew_13 ?_
  refine lv_iadd hx hb dX4_anew_14 ?_
  refine lv_iload_n hx hb dX4_anew_15 rfl (lv_at hl 2 rfl) ?_
  refine lv_iadd hx hb dX4_anew_16 ?_
  obtain ⟨hg, hX⟩ := gd_inv hX
  refine m_iald hx hb hK hH 1 1 (n := 1160) rfl hg dX4_anew_17 ?_
  refine lv_iload_n hx hb dX4_anew_18 rfl (lv_at hl 3 rfl) ?_
  refine lv_isub hx hb dX4_anew_19 ?_
  refine lv_topi (fun x1 ex1 => ?_)
  replace hX := bd_inv ex1 hX; clear ex1
  refine lv_istore (lv' := [(4, .int x1), (0, .ref (ad 0)), (1, .int p1), (2, .int p2), (3, .int p3)]) hx hb dX4_anew_20 hl (by decide) rfl (fun ls hl => ?_)
  refine lv_aload_n hx hb dX4_anew_22 rfl (lv_at hl 1 rfl) ?_
  refine m_get (v := .ref (ad 10)) hx hb hts hown hK hH 10 (by decide) (hts _ q1300) rfl dX4_anew_23 ?_
  refine lv_iload_n hx hb dX4_anew_26 rfl (lv_at hl 2 rfl) ?_
  refine lv_ldc (v := (1000000:Int32)) hx hb hown (hts _ q1515) dX4_anew_27 ?_
  obtain ⟨hg, hX⟩ := gd_inv hX
  refine m_iast hx hb hK hH hS 4 10 (n := 8) rfl hg rfl dX4_anew_29 (fun σ2 eσ2 H locs hH hS => ?_)
  replace hX := bd_inv eσ2 hX; clear eσ2
  refine lv_iconst (v := (1:Int32)) hx hb dX4_anew_30 (by decide) ?_
  refine lv_istore (lv' := [(5, .int (1:Int32)), (4, .int x1), (0, .ref (ad 0)), (1, .int p1), (2, .int p2), (3, .int p3)]) hx hb dX4_anew_31 hl (by decide) rfl (fun ls hl => ?_)
  refine lpu2 hX (fun (x3 : Int32) (σ4 : MS) => ∀ (H : Heap) (locs : List Loc), HM D dA ad σ4 H → va_S (AM ad) s.heap H locs → ∀ (ls : Array Slot), lv_has ls 7 [(0, .ref (ad 0)), (1, .int p1), (4, .int x1), (5, .int x3)] → W p l e (headSpec (ws_ yX4_anew cX4_anew 7 none) (rmX4_anew)).room s m ([.ref (ad 0), .int p1, .int p2, .int p3] : List Value).toArray below meth c H locs 0 0 (MQ below (mQv D dA ad σz) ([.ref (ad 0), .int p1, .int p2, .int p3] : List Value).toArray s 0 0 (AM ad)) (F0 m 33 ls [])) (fun k5 hk5 x3 σ4 hX H locs hH hS ls hl => ?_) H locs hH hS ls (lv_sub hl [2, 3, 1, 0] rfl)
  refine lv_iload hx hb dX4_anew_33 (lv_at hl 3 rfl) ?_
  refine lv_iconst (v := (4:Int32)) hx hb dX4_anew_35 (by decide) ?_
  refine lv_icmp_ge (tgt := 55) hx hb dX4_anew_36 (by decide) (fun hc => ?_) (fun hc => ?_)
  · replace hX := ipos hc hX; clear hc
    refine lv_iconst (v := (0:Int32)) hx hb dX4_anew_55 (by decide) ?_
    refine lv_istore (lv' := [(5, .int (0:Int32)), (0, .ref (ad 0)), (1, .int p1), (4, .int x1)]) hx hb dX4_anew_56 hl (by decide) rfl (fun ls hl => ?_)
    refine lpu2 hX (fun (x6 : Int32) (σ7 : MS) => ∀ (H : Heap) (locs : List Loc), HM D dA ad σ7 H → va_S (AM ad) s.heap H locs → ∀ (ls : Array Slot), lv_has ls 7 [(0, .ref (ad 0)), (1, .int p1), (4, .int x1), (5, .int x6)] → W p l e (headSpec (ws_ yX4_anew cX4_anew 7 none) (rmX4_anew)).room s m ([.ref (ad 0), .int p1, .int p2, .int p3] : List Value).toArray below meth c H locs 0 0 (MQ below (mQv D dA ad σz) ([.ref (ad 0), .int p1, .int p2, .int p3] : List Value).toArray s 0 0 (AM ad)) (F0 m 58 ls [])) (fun k8 hk8 x6 σ7 hX H locs hH hS ls hl => ?_) H locs hH hS ls (lv_sub hl [1, 2, 3, 0] rfl)
    refine lv_iload hx hb dX4_anew_58 (lv_at hl 3 rfl) ?_
    refine lv_aload_n hx hb dX4_anew_60 rfl (lv_at hl 0 rfl) ?_
    refine m_get (v := .int (σ7.1 12)) hx hb hts hown hK hH 12 (by decide) (hts _ q1302) rfl dX4_anew_61 ?_
    refine jnu0 hX (∀ (H : Heap) (locs : List Loc), HM D dA ad σ7 H → va_S (AM ad) s.heap H locs → ∀ (ls : Array Slot), lv_has ls 7 [] → W p l e (headSpec (ws_ yX4_anew cX4_anew 7 none) (rmX4_anew)).room s m ([.ref (ad 0), .int p1, .int p2, .int p3] : List Value).toArray below meth c H locs 0 0 (MQ below (mQv D dA ad σz) ([.ref (ad 0), .int p1, .int p2, .int p3] : List Value).toArray s 0 0 (AM ad)) (F0 m 108 ls [])) (fun  hX H locs hH hS ls hl => ?_) (fun k9 hk9 hX => ?_)
    · have e1 := rinv hX; subst e1
      exact W.vret hx hb hr (fun t ht hW => ⟨⟨(), rfl, trivial, hH.to ht⟩, hS.F ht⟩) hS.2.2 dX4_anew_108
    · refine lv_icmp_ge (tgt := 108) hx hb dX4_anew_64 (by decide) (fun hc => ?_) (fun hc => ?_)
      · replace hX := ipos hc hX; clear hc
        exact hk9  hX H locs hH hS ls (lv_sub hl [] rfl)
      · replace hX := ineg hc hX; clear hc
        refine lv_iload hx hb dX4_anew_67 (lv_at hl 2 rfl) ?_
        refine lv_if_le (tgt := 108) hx hb dX4_anew_69 (by decide) (fun hc => ?_) (fun hc => ?_)
        · replace hX := ipos hc hX; clear hc
          exact hk9  hX H locs hH hS ls (lv_sub hl [] rfl)
        · replace hX := ineg hc hX; clear hc
          refine lv_iconst (v := (2:Int32)) hx hb dX4_anew_72 (by decide) ?_
          refine lv_istore (lv' := [(6, .int (2:Int32)), (0, .ref (ad 0)), (1, .int p1), (4, .int x1), (5, .int x6)]) hx hb dX4_anew_73 hl (by decide) rfl (fun ls hl => ?_)
          refine lpu2 hX (fun (x10 : Int32) (σ11 : MS) => ∀ (H : Heap) (locs : List Loc), HM D dA ad σ11 H → va_S (AM ad) s.heap H locs → ∀ (ls : Array Slot), lv_has ls 7 [(0, .ref (ad 0)), (1, .int p1), (4, .int x1), (5, .int x6), (6, .int x10)] → W p l e (headSpec (ws_ yX4_anew cX4_anew 7 none) (rmX4_anew)).room s m ([.ref (ad 0), .int p1, .int p2, .int p3] : List Value).toArray below meth c H locs 0 0 (MQ below (mQv D dA ad σz) ([.ref (ad 0), .int p1, .int p2, .int p3] : List Value).toArray s 0 0 (AM ad)) (F0 m 75 ls [])) (fun k12 hk12 x10 σ11 hX H locs hH hS ls hl => ?_) H locs hH hS ls (lv_sub hl [1, 2, 3, 4, 0] rfl)
          refine lv_iload hx hb dX4_anew_75 (lv_at hl 4 rfl) ?_
          refine lv_if_lt (tgt := 102) hx hb dX4_anew_77 (by decide) (fun hc => ?_) (fun hc => ?_)
          · replace hX := ipos hc hX; clear hc
            obtain ⟨x13, ex13⟩ : ∃ y : Int32, y = x6 + (1:Int32) := ⟨_, rfl⟩
            replace hX := bd_inv ex13 hX
            refine lv_iinc (v := x13) (lv' := [(5, .int x13), (0, .ref (ad 0)), (1, .int p1), (4, .int x1), (6, .int x10)]) hx hb dX4_anew_102 hl (k := 3) rfl (by rw [ex13]; rfl) (by decide) rfl (fun ls hl => ?_)
            clear ex13
            refine lv_goto (tgt := 58) hx hb dX4_anew_105 (by decide) ?_
            exact hk8 x13 σ11 hX H locs hH hS ls (lv_sub hl [1, 2, 3, 0] rfl)
          · replace hX := ineg hc hX; clear hc
            refine lv_aload_n hx hb dX4_anew_80 rfl (lv_at hl 0 rfl) ?_
            refine lv_iload_n hx hb dX4_anew_81 rfl (lv_at hl 1 rfl) ?_
            refine lv_iload hx hb dX4_anew_82 (lv_at hl 4 rfl) ?_
            refine lv_iadd hx hb dX4_anew_84 ?_
            refine lv_iload_n hx hb dX4_anew_85 rfl (lv_at hl 1 rfl) ?_
            refine lv_iload hx hb dX4_anew_86 (lv_at hl 4 rfl) ?_
            refine lv_iadd hx hb dX4_anew_88 ?_
            refine lv_iconst (v := (1:Int32)) hx hb dX4_anew_89 (by decide) ?_
            refine lv_iadd hx hb dX4_anew_90 ?_
            refine lv_iload hx hb dX4_anew_91 (lv_at hl 2 rfl) ?_
            obtain ⟨σ14, hf, hX⟩ := cl_inv hX
            refine m_callVv (As := [.int (p1 + x10), .int ((p1 + x10) + (1:Int32)), .int x1]) ⟨hx, hb, hml, hown, hts⟩ (mX4_moves l D dA ad hf) (cwV 3 hts (lw_V q1516 q1518 qs59 q95 q1519) rfl rfl rfl (by decide +kernel) ⟨Nat.le_of_ble_eq_true rfl, Nat.le_of_ble_eq_true rfl⟩) hK hH hS rfl hl.1 rfl (Nat.le_of_ble_eq_true rfl) dX4_anew_93 (fun H locs hH hS => ?_)
            clear hf
            obtain ⟨x15, ex15⟩ : ∃ y : Int32, y = x10 + (-1:Int32) := ⟨_, rfl⟩
            replace hX := bd_inv ex15 hX
            refine lv_iinc (v := x15) (lv' := [(6, .int x15), (0, .ref (ad 0)), (1, .int p1), (4, .int x1), (5, .int x6)]) hx hb dX4_anew_96 hl (k := 4) rfl (by rw [ex15]; rfl) (by decide) rfl (fun ls hl => ?_)
            clear ex15
            refine lv_goto (tgt := 75) hx hb dX4_anew_99 (by decide) ?_
            exact hk12 x15 σ14 hX H locs hH hS ls (lv_sub hl [1, 2, 3, 4, 0] rfl)
  · replace hX := ineg hc hX; clear hc
    refine lv_aload_n hx hb dX4_anew_39 rfl (lv_at hl 0 rfl) ?_
    refine m_get (v := .ref (ad 10)) hx hb hts hown hK hH 10 (by decide) (hts _ q1300) rfl dX4_anew_40 ?_
    refine lv_iload_n hx hb dX4_anew_43 rfl (lv_at hl 1 rfl) ?_
    refine lv_iload hx hb dX4_anew_44 (lv_at hl 3 rfl) ?_
    refine lv_iadd hx hb dX4_anew_46 ?_
    refine lv_iconst (v := (0:Int32)) hx hb dX4_anew_47 (by decide) ?_
    obtain ⟨hg, hX⟩ := gd_inv hX
    refine m_iast hx hb hK hH hS 4 10 (n := 8) rfl hg rfl dX4_anew_48 (fun σ16 eσ16 H locs hH hS => ?_)
    replace hX := bd_inv eσ16 hX; clear eσ16
    obtain ⟨x17, ex17⟩ : ∃ y : Int32, y = x3 + (1:Int32) := ⟨_, rfl⟩
    replace hX := bd_inv ex17 hX
    refine lv_iinc (v := x17) (lv' := [(5, .int x17), (0, .ref (ad 0)), (1, .int p1), (4, .int x1)]) hx hb dX4_anew_49 hl (k := 3) rfl (by rw [ex17]; rfl) (by decide) rfl (fun ls hl => ?_)
    clear ex17
    refine lv_goto (tgt := 33) hx hb dX4_anew_52 (by decide) ?_
    exact hk5 x17 σ16 hX H locs hH hS ls (lv_sub hl [1, 2, 3, 0] rfl)

abbrev rmX4_led : Room := { frames := 0, cells := 0, slots := 0, locals := 0 }
def fX4_led (p1 : Int32) (σ : MS) : Option MS :=
 gd (ib p1 8) (
 gd (ib (p1 + (1:Int32)) 8) (
 gd (ib (p1 + (2:Int32)) 8) (
 gd (ib (p1 + (3:Int32)) 8) (
 bd (((((σ.2.1 10 p1.toNatClampNeg).toInt64) + ((σ.2.1 10 (p1 + (1:Int32)).toNatClampNeg).toInt64)) + ((σ.2.1 10 (p1 + (2:Int32)).toNatClampNeg).toInt64)) + ((σ.2.1 10 (p1 + (3:Int32)).toNatClampNeg).toInt64)) (fun (x1 : Int64) =>
 lp (fun _ _ _ => none) (fun (k5 : Int32 → Int32 → MS → Option MS) (x2 : Int32) (x3 : Int32) (σ4 : MS) =>
 if (4:Int32) ≤ x3 then
 gd (ib p1 8) (
 gd (ib p1 8) (
 bd (sa σ4 10 p1.toNatClampNeg ((σ4.2.1 10 p1.toNatClampNeg) + ((1000000:Int32) - x2))) (fun (σ6 : MS) =>
 some σ6)))
 else
 jn (fun (x7 : Int32) => gd (ib (p1 + x3) 8) (
 bd (sa σ4 10 (p1 + x3).toNatClampNeg x7) (fun (σ9 : MS) =>
 gd (ib (p1 + x3) 8) (
 bd (x2 + (σ9.2.1 10 (p1 + x3).toNatClampNeg)) (fun (x10 : Int32) =>
 bd (x3 + (1:Int32)) (fun (x11 : Int32) =>
 k5 x10 x11 σ9)))))) (fun (k8 : Int32 → Option MS) =>
 if (lg_cmp x1 (0:Int64)) = (0:Int32) then
 k8 (0:Int32)
 else
 gd (ib (p1 + x3) 8) (
 gd (nzl x1) (
 k8 (((((σ4.2.1 10 (p1 + x3).toNatClampNeg).toInt64) * (1000000:Int64)) / x1).toInt32))))) NF (0:Int32) (0:Int32) σ)))))
set_option maxHeartbeats 4000000 in
set_option maxRecDepth 100000 in
theorem mX4_led (l : Launch) (D : va_G) (dA : Nat → ClassId) (ad : Nat → Nat) {p1 : Int32} {σ : MS} {σz : MS} (hX : fX4_led p1 σ = some σz) : Met l yX4_led (ws_ yX4_led cX4_led 6 none) (rmX4_led) (mPc D dA ad σ [.int p1]) (mQv D dA ad σz) 0 0 (AM ad) := by
  refine Met.ofW (cc := cX4_led) (maxL := 6) (ret := none) (by decide) rfl ?_
  intro p e s m args below meth c s₁ B hml hv
  obtain ⟨rfl, hH, hK⟩ := hv
  have hx := B.exec
  have hb := B.bytes
  have hr := B.returns
  have hts := atoms_spec (ws := (ws_ yX4_led cX4_led 6 none)) B.pre
  have hts : ∀ w ∈ lw_all, w.before _ s = true := fun w h => hts w (List.mem_cons_of_mem _ h)
  have hown : s.vm.findClass RX4 = some m.cls := findClass_of_methodNamed B.named
  have hlocks := B.notSynchronized
  have hl := lv_entry ([.ref (ad 0), .int p1]) (n := 6) (Nat.le_of_ble_eq_true rfl)
  rw [lg_entry_eq]
  generalize (lg_sl ([.ref (ad 0), .int p1]) ++ List.replicate (6 - (lg_sl ([.ref (ad 0), .int p1])).length) Slot.unset).toArray = ls at hl ⊢
  have hl : lv_has ls 6 [(0, .ref (ad 0)), (1, .int p1)] := hl
  unfold fX4_led at hX
  refine m_start hH (fun H locs hH hS => ?_)
  refine lv_aload_n hx hb dX4_led_0 rfl (lv_at hl 0 rfl) ?_
  refine m_get (v := .ref (ad 10)) hx hb hts hown hK hH 10 (by decide) (hts _ q1300) rfl dX4_led_1 ?_
  refine lv_iload_n hx hb dX4_led_4 rfl (lv_at hl 1 rfl) ?_
  obtain ⟨hg, hX⟩ := gd_inv hX
  refine m_iald hx hb hK hH 4 10 (n := 8) rfl hg dX4_led_5 ?_
  refine lv_i2l hx hb dX4_led_6 rfl ?_
  refine lv_aload_n hx hb dX4_led_7 rfl (lv_at hl 0 rfl) ?_
  refine m_get (v := .ref (ad 10)) hx hb hts hown hK hH 10 (by decide) (hts _ q1300) rfl dX4_led_8 ?_
  refine lv_iload_n hx hb dX4_led_11 rfl (lv_at hl 1 rfl) ?_
  refine lv_iconst (v := (1:Int32)) hx hb dX4_led_12 (by decide) ?_
  refine lv_iadd hx hb dX4_led_13 ?_
  obtain ⟨hg, hX⟩ := gd_inv hX
  refine m_iald hx hb hK hH 4 10 (n := 8) rfl hg dX4_led_14 ?_
  refine lv_i2l hx hb dX4_led_15 rfl ?_
  refine lv_ladd hx hb dX4_led_16 ?_
  refine lv_aload_n hx hb dX4_led_17 rfl (lv_at hl 0 rfl) ?_
  refine m_get (v := .ref (ad 10)) hx hb hts hown hK hH 10 (by decide) (hts _ q1300) rfl dX4_led_18 ?_
  refine lv_iload_n hx hb dX4_led_21 rfl (lv_at hl 1 rfl) ?_
  refine lv_iconst (v := (2:Int32)) hx hb dX4_led_22 (by decide) ?_
  refine lv_iadd hx hb dX4_led_23 ?_
  obtain ⟨hg, hX⟩ := gd_inv hX
  refine m_iald hx hb hK hH 4 10 (n := 8) rfl hg dX4_led_24 ?_
  refine lv_i2l hx hb dX4_led_25 rfl ?_
  refine lv_ladd hx hb dX4_led_26 ?_
  refine lv_aload_n hx hb dX4_led_27 rfl (lv_at hl 0 rfl) ?_
  refine m_get (v := .ref (ad 10)) hx hb hts hown hK hH 10 (by decide) (hts _ q1300) rfl dX4_led_28 ?_
  refine lv_iload_n hx hb dX4_led_31 rfl (lv_at hl 1 rfl) ?_
  refine lv_iconst (v := (3:Int32)) hx hb dX4_led_32 (by decide) ?_
  refine lv_iadd hx hb dX4_led_33 ?_
  obtain ⟨hg, hX⟩ := gd_inv hX
  refine m_iald hx hb hK hH 4 10 (n := 8) rfl hg dX4_led_34 ?_
  refine lv_i2l hx hb dX4_led_35 rfl ?_
  refine lv_ladd hx hb dX4_led_36 ?_
  refine lv_topl (fun x1 ex1 => ?_)
  replace hX := bd_inv ex1 hX; clear ex1
  refine lv_lstore_n (lv' := [(2, .long x1), (0, .ref (ad 0)), (1, .int p1)]) hx hb dX4_led_37 rfl hl (by decide) rfl (fun ls hl => ?_)
  refine lv_iconst (v := (0:Int32)) hx hb dX4_led_38 (by decide) ?_
  refine lv_istore (lv' := [(4, .int (0:Int32)), (2, .long x1), (0, .ref (ad 0)), (1, .int p1)]) hx hb dX4_led_39 hl (by decide) rfl (fun ls hl => ?_)
  refine lv_iconst (v := (0:Int32)) hx hb dX4_led_41 (by decide) ?_
  refine lv_istore (lv' := [(5, .int (0:Int32)), (4, .int (0:Int32)), (2, .long x1), (0, .ref (ad 0)), (1, .int p1)]) hx hb dX4_led_42 hl (by decide) rfl (fun ls hl => ?_)
  refine lpu3 hX (fun (x2 : Int32) (x3 : Int32) (σ4 : MS) => ∀ (H : Heap) (locs : List Loc), HM D dA ad σ4 H → va_S (AM ad) s.heap H locs → ∀ (ls : Array Slot), lv_has ls 6 [(0, .ref (ad 0)), (1, .int p1), (2, .long x1), (4, .int x2), (5, .int x3)] → W p l e (headSpec (ws_ yX4_led cX4_led 6 none) (rmX4_led)).room s m ([.ref (ad 0), .int p1] : List Value).toArray below meth c H locs 0 0 (MQ below (mQv D dA ad σz) ([.ref (ad 0), .int p1] : List Value).toArray s 0 0 (AM ad)) (F0 m 44 ls [])) (fun k5 hk5 x2 x3 σ4 hX H locs hH hS ls hl => ?_) H locs hH hS ls (lv_sub hl [3, 4, 2, 1, 0] rfl)
  refine lv_iload hx hb dX4_led_44 (lv_at hl 4 rfl) ?_
  refine lv_iconst (v := (4:Int32)) hx hb dX4_led_46 (by decide) ?_
  refine lv_icmp_ge (tgt := 106) hx hb dX4_led_47 (by decide) (fun hc => ?_) (fun hc => ?_)
  · replace hX := ipos hc hX; clear hc
    refine lv_aload_n hx hb dX4_led_106 rfl (lv_at hl 0 rfl) ?_
    refine m_get (v := .ref (ad 10)) hx hb hts hown hK hH 10 (by decide) (hts _ q1300) rfl dX4_led_107 ?_
    refine lv_iload_n hx hb dX4_led_110 rfl (lv_at hl 1 rfl) ?_
    refine lv_dup2_11 hx hb dX4_led_111 rfl rfl ?_
    obtain ⟨hg, hX⟩ := gd_inv hX
    refine m_iald hx hb hK hH 4 10 (n := 8) rfl hg dX4_led_112 ?_
    refine lv_ldc (v := (1000000:Int32)) hx hb hown (hts _ q1515) dX4_led_113 ?_
    refine lv_iload hx hb dX4_led_115 (lv_at hl 3 rfl) ?_
    refine lv_isub hx hb dX4_led_117 ?_
    refine lv_iadd hx hb dX4_led_118 ?_
    obtain ⟨hg, hX⟩ := gd_inv hX
    refine m_iast hx hb hK hH hS 4 10 (n := 8) rfl hg rfl dX4_led_119 (fun σ6 eσ6 H locs hH hS => ?_)
    replace hX := bd_inv eσ6 hX; clear eσ6
    have e1 := rinv hX; subst e1
    exact W.vret hx hb hr (fun t ht hW => ⟨⟨(), rfl, trivial, hH.to ht⟩, hS.F ht⟩) hS.2.2 dX4_led_120
  · replace hX := ineg hc hX; clear hc
    refine lv_aload_n hx hb dX4_led_50 rfl (lv_at hl 0 rfl) ?_
    refine m_get (v := .ref (ad 10)) hx hb hts hown hK hH 10 (by decide) (hts _ q1300) rfl dX4_led_51 ?_
    refine lv_iload_n hx hb dX4_led_54 rfl (lv_at hl 1 rfl) ?_
    refine lv_iload hx hb dX4_led_55 (lv_at hl 4 rfl) ?_
    refine lv_iadd hx hb dX4_led_57 ?_
    refine lv_lload_n hx hb dX4_led_58 rfl (lv_at hl 2 rfl) ?_
    refine lv_lconst (v := (0:Int64)) hx hb dX4_led_59 (by decide) ?_
    refine W.lcmp hx hb dX4_led_60 ?_
    refine jnu1 hX (fun (x7 : Int32) => ∀ (H : Heap) (locs : List Loc), HM D dA ad σ4 H → va_S (AM ad) s.heap H locs → ∀ (ls : Array Slot), lv_has ls 6 [(0, .ref (ad 0)), (1, .int p1), (2, .long x1), (4, .int x2), (5, .int x3)] → W p l e (headSpec (ws_ yX4_led cX4_led 6 none) (rmX4_led)).room s m ([.ref (ad 0), .int p1] : List Value).toArray below meth c H locs 0 0 (MQ below (mQv D dA ad σz) ([.ref (ad 0), .int p1] : List Value).toArray s 0 0 (AM ad)) (F0 m 85 ls [.int x7, .int (p1 + x3), .ref (ad 10)])) (fun x7 hX H locs hH hS ls hl => ?_) (fun k8 hk8 hX => ?_)
    · obtain ⟨hg, hX⟩ := gd_inv hX
      refine m_iast hx hb hK hH hS 4 10 (n := 8) rfl hg rfl dX4_led_85 (fun σ9 eσ9 H locs hH hS => ?_)
      replace hX := bd_inv eσ9 hX; clear eσ9
      refine lv_iload hx hb dX4_led_86 (lv_at hl 3 rfl) ?_
      refine lv_aload_n hx hb dX4_led_88 rfl (lv_at hl 0 rfl) ?_
      refine m_get (v := .ref (ad 10)) hx hb hts hown hK hH 10 (by decide) (hts _ q1300) rfl dX4_led_89 ?_
      refine lv_iload_n hx hb dX4_led_92 rfl (lv_at hl 1 rfl) ?_
      refine lv_iload hx hb dX4_led_93 (lv_at hl 4 rfl) ?_
      refine lv_iadd hx hb dX4_led_95 ?_
      obtain ⟨hg, hX⟩ := gd_inv hX
      refine m_iald hx hb hK hH 4 10 (n := 8) rfl hg dX4_led_96 ?_
      refine lv_iadd hx hb dX4_led_97 ?_
      refine lv_topi (fun x10 ex10 => ?_)
      replace hX := bd_inv ex10 hX; clear ex10
      refine lv_istore (lv' := [(4, .int x10), (0, .ref (ad 0)), (1, .int p1), (2, .long x1), (5, .int x3)]) hx hb dX4_led_98 hl (by decide) rfl (fun ls hl => ?_)
      obtain ⟨x11, ex11⟩ : ∃ y : Int32, y = x3 + (1:Int32) := ⟨_, rfl⟩
      replace hX := bd_inv ex11 hX
      refine lv_iinc (v := x11) (lv' := [(5, .int x11), (4, .int x10), (0, .ref (ad 0)), (1, .int p1), (2, .long x1)]) hx hb dX4_led_100 hl (k := 4) rfl (by rw [ex11]; rfl) (by decide) rfl (fun ls hl => ?_)
      clear ex11
      refine lv_goto (tgt := 44) hx hb dX4_led_103 (by decide) ?_
      exact hk5 x10 x11 σ9 hX H locs hH hS ls (lv_sub hl [2, 3, 4, 1, 0] rfl)
    · refine lv_if_ne (tgt := 68) hx hb dX4_led_61 (by decide) (fun hc => ?_) (fun hc => ?_)
      · replace hX := ineg hc hX; clear hc
        refine lv_aload_n hx hb dX4_led_68 rfl (lv_at hl 0 rfl) ?_
        refine m_get (v := .ref (ad 10)) hx hb hts hown hK hH 10 (by decide) (hts _ q1300) rfl dX4_led_69 ?_
        refine lv_iload_n hx hb dX4_led_72 rfl (lv_at hl 1 rfl) ?_
        refine lv_iload hx hb dX4_led_73 (lv_at hl 4 rfl) ?_
        refine lv_iadd hx hb dX4_led_75 ?_
        obtain ⟨hg, hX⟩ := gd_inv hX
        refine m_iald hx hb hK hH 4 10 (n := 8) rfl hg dX4_led_76 ?_
        refine lv_i2l hx hb dX4_led_77 rfl ?_
        refine lv_ldc2 (v := (1000000:Int64)) hx hb hown (hts _ q1560) dX4_led_78 ?_
        refine lv_lmul hx hb dX4_led_81 ?_
        refine lv_lload_n hx hb dX4_led_82 rfl (lv_at hl 2 rfl) ?_
        obtain ⟨hg, hX⟩ := gd_inv hX
        refine lv_ldiv hx hb dX4_led_83 (nzl_ne hg) ?_
        refine lv_l2i hx hb dX4_led_84 rfl ?_
        exact hk8 (((((σ4.2.1 10 (p1 + x3).toNatClampNeg).toInt64) * (1000000:Int64)) / x1).toInt32) hX H locs hH hS ls (lv_sub hl [0, 1, 2, 3, 4] rfl)
      · replace hX := ipos hc hX; clear hc
        refine lv_iconst (v := (0:Int32)) hx hb dX4_led_64 (by decide) ?_
        refine lv_goto (tgt := 85) hx hb dX4_led_65 (by decide) ?_
        exact hk8 (0:Int32) hX H locs hH hS ls (lv_sub hl [0, 1, 2, 3, 4] rfl)

abbrev rmX4_aboard : Room := { frames := 2, cells := 0, slots := 0, locals := 45 }
def fX4_aboard (p1 : Int32) (σ : MS) : Option (Int32 × MS) :=
 lp (fun _ _ => none) (fun (k3 : Int32 → MS → Option (Int32 × MS)) (x1 : Int32) (σ2 : MS) =>
 if x1 ≤ (0:Int32) then
 lp (fun _ _ => none) (fun (k6 : Int32 → MS → Option (Int32 × MS)) (x4 : Int32) (σ5 : MS) =>
 if (4:Int32) ≤ x4 then
 lp (fun _ _ _ => none) (fun (k10 : Int32 → Int32 → MS → Option (Int32 × MS)) (x7 : Int32) (x8 : Int32) (σ9 : MS) =>
 if (4:Int32) ≤ x8 then
 cl (fX4_led p1 σ9) (fun (σ11 : MS) =>
 some (x7, σ11))
 else
 gd (ib (p1 + x8) 8) (
 cl (fX4_chance (5:Int32) σ9) (fun (x12 : Int32) =>
 cl (fX4_part (σ9.2.1 10 (p1 + x8).toNatClampNeg) (x8 * x12)) (fun (x13 : Int64) =>
 bd (x13.toInt32) (fun (x14 : Int32) =>
 gd (ib (p1 + x8) 8) (
 gd (ib (p1 + x8) 8) (
 bd (sa σ9 10 (p1 + x8).toNatClampNeg ((σ9.2.1 10 (p1 + x8).toNatClampNeg) - x14)) (fun (σ15 : MS) =>
 bd (x7 + x14) (fun (x16 : Int32) =>
 bd (x8 + (1:Int32)) (fun (x17 : Int32) =>
 k10 x16 x17 σ15)))))))))) NF (0:Int32) (1:Int32) σ5
 else
 cl (fX4_chance (6:Int32) σ5) (fun (x18 : Int32) =>
 cl (fX4_moves (p1 + x4) ((p1 + x4) - (1:Int32)) (x4 * x18) σ5) (fun (σ19 : MS) =>
 bd (x4 + (1:Int32)) (fun (x20 : Int32) =>
 k6 x20 σ19)))) NF (1:Int32) σ2
 else
 jn (fun (σ21 : MS) => bd (x1 + (-1:Int32)) (fun (x23 : Int32) =>
 k3 x23 σ21)) (fun (k22 : MS → Option (Int32 × MS)) =>
 if (σ2.1 12) ≤ x1 then
 k22 σ2
 else
 cl (fX4_chance (4:Int32) σ2) (fun (x24 : Int32) =>
 cl (fX4_moves (p1 + x1) ((p1 + x1) + (1:Int32)) (x1 * x24) σ2) (fun (σ25 : MS) =>
 k22 σ25)))) NF (2:Int32) σ
set_option maxHeartbeats 4000000 in
set_option maxRecDepth 100000 in
theorem mX4_aboard (l : Launch) (D : va_G) (dA : Nat → ClassId) (ad : Nat → Nat) {p1 : Int32} {σ : MS} {r : Int32} {σz : MS} (hX : fX4_aboard p1 σ = some (r, σz)) : Met l yX4_aboard (ws_ yX4_aboard cX4_aboard 5 (some .int)) (rmX4_aboard) (mPc D dA ad σ [.int p1]) (mQi D dA ad r σz) 0 0 (AM ad) := by
  refine Met.ofW (cc := cX4_aboard) (maxL := 5) (ret := (some .int)) (by decide) rfl ?_
  intro p e s m args below meth c s₁ B hml hv
  obtain ⟨rfl, hH, hK⟩ := hv
  have hx := B.exec
  have hb := B.bytes
  have hr := B.returns
  have hts := atoms_spec (ws := (ws_ yX4_aboard cX4_aboard 5 (some .int))) B.pre
  have hts : ∀ w ∈ lw_all, w.before _ s = true := fun w h => hts w (List.mem_cons_of_mem _ h)
  have hown : s.vm.findClass RX4 = some m.cls := findClass_of_methodNamed B.named
  have hlocks := B.notSynchronized
  have hl := lv_entry ([.ref (ad 0), .int p1]) (n := 5) (Nat.le_of_ble_eq_true rfl)
  rw [lg_entry_eq]
  generalize (lg_sl ([.ref (ad 0), .int p1]) ++ List.replicate (5 - (lg_sl ([.ref (ad 0), .int p1])).length) Slot.unset).toArray = ls at hl ⊢
  have hl : lv_has ls 5 [(0, .ref (ad 0)), (1, .int p1)] := hl
  unfold fX4_aboard at hX
  refine m_start hH (fun H locs hH hS => ?_)
  refine lv_iconst (v := (2:Int32)) hx hb dX4_aboard_0 (by decide) ?_
  refine lv_istore_n (lv' := [(2, .int (2:Int32)), (0, .ref (ad 0)), (1, .int p1)]) hx hb dX4_aboard_1 rfl hl (by decide) rfl (fun ls hl => ?_)
  refine lpu2 hX (fun (x1 : Int32) (σ2 : MS) => ∀ (H : Heap) (locs : List Loc), HM D dA ad σ2 H → va_S (AM ad) s.heap H locs → ∀ (ls : Array Slot), lv_has ls 5 [(0, .ref (ad 0)), (1, .int p1), (2, .int x1)] → W p l e (headSpec (ws_ yX4_aboard cX4_aboard 5 (some .int)) (rmX4_aboard)).room s m ([.ref (ad 0), .int p1] : List Value).toArray below meth c H locs 0 0 (MQ below (mQi D dA ad r σz) ([.ref (ad 0), .int p1] : List Value).toArray s 0 0 (AM ad)) (F0 m 2 ls [])) (fun k3 hk3 x1 σ2 hX H locs hH hS ls hl => ?_) H locs hH hS ls (lv_sub hl [1, 2, 0] rfl)
  refine lv_iload_n hx hb dX4_aboard_2 rfl (lv_at hl 2 rfl) ?_
  refine lv_if_le (tgt := 39) hx hb dX4_aboard_3 (by decide) (fun hc => ?_) (fun hc => ?_)
  · replace hX := ipos hc hX; clear hc
    refine lv_iconst (v := (1:Int32)) hx hb dX4_aboard_39 (by decide) ?_
    refine lv_istore_n (lv' := [(2, .int (1:Int32)), (0, .ref (ad 0)), (1, .int p1)]) hx hb dX4_aboard_40 rfl hl (by decide) rfl (fun ls hl => ?_)
    refine lpu2 hX (fun (x4 : Int32) (σ5 : MS) => ∀ (H : Heap) (locs : List Loc), HM D dA ad σ5 H → va_S (AM ad) s.heap H locs → ∀ (ls : Array Slot), lv_has ls 5 [(0, .ref (ad 0)), (1, .int p1), (2, .int x4)] → W p l e (headSpec (ws_ yX4_aboard cX4_aboard 5 (some .int)) (rmX4_aboard)).room s m ([.ref (ad 0), .int p1] : List Value).toArray below meth c H locs 0 0 (MQ below (mQi D dA ad r σz) ([.ref (ad 0), .int p1] : List Value).toArray s 0 0 (AM ad)) (F0 m 41 ls [])) (fun k6 hk6 x4 σ5 hX H locs hH hS ls hl => ?_) H locs hH hS ls (lv_sub hl [1, 2, 0] rfl)
    refine lv_iload_n hx hb dX4_aboard_41 rfl (lv_at hl 2 rfl) ?_
    refine lv_iconst (v := (4:Int32)) hx hb dX4_aboard_42 (by decide) ?_
    refine lv_icmp_ge (tgt := 72) hx hb dX4_aboard_43 (by decide) (fun hc => ?_) (fun hc => ?_)
    · replace hX := ipos hc hX; clear hc
      refine lv_iconst (v := (0:Int32)) hx hb dX4_aboard_72 (by decide) ?_
      refine lv_istore_n (lv' := [(2, .int (0:Int32)), (0, .ref (ad 0)), (1, .int p1)]) hx hb dX4_aboard_73 rfl hl (by decide) rfl (fun ls hl => ?_)
      refine lv_iconst (v := (1:Int32)) hx hb dX4_aboard_74 (by decide) ?_
      refine lv_istore_n (lv' := [(3, .int (1:Int32)), (2, .int (0:Int32)), (0, .ref (ad 0)), (1, .int p1)]) hx hb dX4_aboard_75 rfl hl (by decide) rfl (fun ls hl => ?_)
      refine lpu3 hX (fun (x7 : Int32) (x8 : Int32) (σ9 : MS) => ∀ (H : Heap) (locs : List Loc), HM D dA ad σ9 H → va_S (AM ad) s.heap H locs → ∀ (ls : Array Slot), lv_has ls 5 [(0, .ref (ad 0)), (1, .int p1), (2, .int x7), (3, .int x8)] → W p l e (headSpec (ws_ yX4_aboard cX4_aboard 5 (some .int)) (rmX4_aboard)).room s m ([.ref (ad 0), .int p1] : List Value).toArray below meth c H locs 0 0 (MQ below (mQi D dA ad r σz) ([.ref (ad 0), .int p1] : List Value).toArray s 0 0 (AM ad)) (F0 m 76 ls [])) (fun k10 hk10 x7 x8 σ9 hX H locs hH hS ls hl => ?_) H locs hH hS ls (lv_sub hl [2, 3, 1, 0] rfl)
      refine lv_iload_n hx hb dX4_aboard_76 rfl (lv_at hl 3 rfl) ?_
      refine lv_iconst (v := (4:Int32)) hx hb dX4_aboard_77 (by decide) ?_
      refine lv_icmp_ge (tgt := 126) hx hb dX4_aboard_78 (by decide) (fun hc => ?_) (fun hc => ?_)
      · replace hX := ipos hc hX; clear hc
        refine lv_aload_n hx hb dX4_aboard_126 rfl (lv_at hl 0 rfl) ?_
        refine lv_iload_n hx hb dX4_aboard_127 rfl (lv_at hl 1 rfl) ?_
        obtain ⟨σ11, hf, hX⟩ := cl_inv hX
        refine m_callVv (As := [.int p1]) ⟨hx, hb, hml, hown, hts⟩ (mX4_led l D dA ad hf) (cwV 1 hts (lw_V q1556 q1558 qs64 q95 q1559) rfl rfl rfl (by decide +kernel) ⟨Nat.le_of_ble_eq_true rfl, Nat.le_of_ble_eq_true rfl⟩) hK hH hS rfl hl.1 rfl (Nat.le_of_ble_eq_true rfl) dX4_aboard_128 (fun H locs hH hS => ?_)
        clear hf
        refine lv_iload_n hx hb dX4_aboard_131 rfl (lv_at hl 2 rfl) ?_
        obtain ⟨e1, e2⟩ := Prod.mk.inj (rinv hX); subst e1; subst e2
        exact W.iret hx hb hr (fun t ht hW => ⟨⟨_, (), rfl, rfl, hH.to ht⟩, hS.F ht⟩) hS.2.2 dX4_aboard_132
      · replace hX := ineg hc hX; clear hc
        refine lv_aload_n hx hb dX4_aboard_81 rfl (lv_at hl 0 rfl) ?_
        refine m_get (v := .ref (ad 10)) hx hb hts hown hK hH 10 (by decide) (hts _ q1300) rfl dX4_aboard_82 ?_
        refine lv_iload_n hx hb dX4_aboard_85 rfl (lv_at hl 1 rfl) ?_
        refine lv_iload_n hx hb dX4_aboard_86 rfl (lv_at hl 3 rfl) ?_
        refine lv_iadd hx hb dX4_aboard_87 ?_
        obtain ⟨hg, hX⟩ := gd_inv hX
        refine m_iald hx hb hK hH 4 10 (n := 8) rfl hg dX4_aboard_88 ?_
        refine lv_iload_n hx hb dX4_aboard_89 rfl (lv_at hl 3 rfl) ?_
        refine lv_aload_n hx hb dX4_aboard_90 rfl (lv_at hl 0 rfl) ?_
        refine lv_iconst (v := (5:Int32)) hx hb dX4_aboard_91 (by decide) ?_
        obtain ⟨x12, hf, hX⟩ := cl_inv hX
        refine m_callVi (As := [.int (5:Int32)]) ⟨hx, hb, hml, hown, hts⟩ (mX4_chance l D dA ad hf) (cwV 1 hts (lw_V q1552 q1554 qs63 q95 q1555) rfl rfl rfl (by decide +kernel) ⟨Nat.le_of_ble_eq_true rfl, Nat.le_of_ble_eq_true rfl⟩) hK hH hS rfl hl.1 rfl (Nat.le_of_ble_eq_true rfl) dX4_aboard_92 (fun H locs hH hS => ?_)
        clear hf
        refine lv_imul hx hb dX4_aboard_95 ?_
        obtain ⟨x13, hf, hX⟩ := cl_inv hX
        refine m_callSl (As := [.int (σ9.2.1 10 (p1 + x8).toNatClampNeg), .int (x8 * x12)]) ⟨hx, hb, hml, hown, hts⟩ (mX4_part l hf) (va_cwS 2 hts (lw_S q1520 q1521 q95 q1522) rfl rfl rfl (by decide +kernel) ⟨Nat.le_of_ble_eq_true rfl, Nat.le_of_ble_eq_true rfl⟩) hH hS rfl hl.1 rfl (Nat.le_of_ble_eq_true rfl) dX4_aboard_96 (fun H locs hH hS => ?_)
        clear hf
        refine lv_l2i hx hb dX4_aboard_99 rfl ?_
        refine lv_topi (fun x14 ex14 => ?_)
        replace hX := bd_inv ex14 hX; clear ex14
        refine lv_istore (lv' := [(4, .int x14), (0, .ref (ad 0)), (1, .int p1), (2, .int x7), (3, .int x8)]) hx hb dX4_aboard_100 hl (by decide) rfl (fun ls hl => ?_)
        refine lv_aload_n hx hb dX4_aboard_102 rfl (lv_at hl 1 rfl) ?_
        refine m_get (v := .ref (ad 10)) hx hb hts hown hK hH 10 (by decide) (hts _ q1300) rfl dX4_aboard_103 ?_
        refine lv_iload_n hx hb dX4_aboard_106 rfl (lv_at hl 2 rfl) ?_
        refine lv_iload_n hx hb dX4_aboard_107 rfl (lv_at hl 4 rfl) ?_
        refine lv_iadd hx hb dX4_aboard_108 ?_
        refine lv_dup2_11 hx hb dX4_aboard_109 rfl rfl ?_
        obtain ⟨hg, hX⟩ := gd_inv hX
        refine m_iald hx hb hK hH 4 10 (n := 8) rfl hg dX4_aboard_110 ?_
        refine lv_iload hx hb dX4_aboard_111 (lv_at hl 0 rfl) ?_
        refine lv_isub hx hb dX4_aboard_113 ?_
        obtain ⟨hg, hX⟩ := gd_inv hX
        refine m_iast hx hb hK hH hS 4 10 (n := 8) rfl hg rfl dX4_aboard_114 (fun σ15 eσ15 H locs hH hS => ?_)
        replace hX := bd_inv eσ15 hX; clear eσ15
        refine lv_iload_n hx hb dX4_aboard_115 rfl (lv_at hl 3 rfl) ?_
        refine lv_iload hx hb dX4_aboard_116 (lv_at hl 0 rfl) ?_
        refine lv_iadd hx hb dX4_aboard_118 ?_
        refine lv_topi (fun x16 ex16 => ?_)
        replace hX := bd_inv ex16 hX; clear ex16
        refine lv_istore_n (lv' := [(2, .int x16), (4, .int x14), (0, .ref (ad 0)), (1, .int p1), (3, .int x8)]) hx hb dX4_aboard_119 rfl hl (by decide) rfl (fun ls hl => ?_)
        obtain ⟨x17, ex17⟩ : ∃ y : Int32, y = x8 + (1:Int32) := ⟨_, rfl⟩
        replace hX := bd_inv ex17 hX
        refine lv_iinc (v := x17) (lv' := [(3, .int x17), (2, .int x16), (4, .int x14), (0, .ref (ad 0)), (1, .int p1)]) hx hb dX4_aboard_120 hl (k := 4) rfl (by rw [ex17]; rfl) (by decide) rfl (fun ls hl => ?_)
        clear ex17
        refine lv_goto (tgt := 76) hx hb dX4_aboard_123 (by decide) ?_
        exact hk10 x16 x17 σ15 hX H locs hH hS ls (lv_sub hl [3, 4, 1, 0] rfl)
    · replace hX := ineg hc hX; clear hc
      refine lv_aload_n hx hb dX4_aboard_46 rfl (lv_at hl 0 rfl) ?_
      refine lv_iload_n hx hb dX4_aboard_47 rfl (lv_at hl 1 rfl) ?_
      refine lv_iload_n hx hb dX4_aboard_48 rfl (lv_at hl 2 rfl) ?_
      refine lv_iadd hx hb dX4_aboard_49 ?_
      refine lv_iload_n hx hb dX4_aboard_50 rfl (lv_at hl 1 rfl) ?_
      refine lv_iload_n hx hb dX4_aboard_51 rfl (lv_at hl 2 rfl) ?_
      refine lv_iadd hx hb dX4_aboard_52 ?_
      refine lv_iconst (v := (1:Int32)) hx hb dX4_aboard_53 (by decide) ?_
      refine lv_isub hx hb dX4_aboard_54 ?_
      refine lv_iload_n hx hb dX4_aboard_55 rfl (lv_at hl 2 rfl) ?_
      refine lv_aload_n hx hb dX4_aboard_56 rfl (lv_at hl 0 rfl) ?_
      refine lv_bipush (v := (6:Int32)) hx hb dX4_aboard_57 (by decide) ?_
      obtain ⟨x18, hf, hX⟩ := cl_inv hX
      refine m_callVi (As := [.int (6:Int32)]) ⟨hx, hb, hml, hown, hts⟩ (mX4_chance l D dA ad hf) (cwV 1 hts (lw_V q1552 q1554 qs63 q95 q1555) rfl rfl rfl (by decide +kernel) ⟨Nat.le_of_ble_eq_true rfl, Nat.le_of_ble_eq_true rfl⟩) hK hH hS rfl hl.1 rfl (Nat.le_of_ble_eq_true rfl) dX4_aboard_59 (fun H locs hH hS => ?_)
      clear hf
      refine lv_imul hx hb dX4_aboard_62 ?_
      obtain ⟨σ19, hf, hX⟩ := cl_inv hX
      refine m_callVv (As := [.int (p1 + x4), .int ((p1 + x4) - (1:Int32)), .int (x4 * x18)]) ⟨hx, hb, hml, hown, hts⟩ (mX4_moves l D dA ad hf) (cwV 3 hts (lw_V q1516 q1518 qs59 q95 q1519) rfl rfl rfl (by decide +kernel) ⟨Nat.le_of_ble_eq_true rfl, Nat.le_of_ble_eq_true rfl⟩) hK hH hS rfl hl.1 rfl (Nat.le_of_ble_eq_true rfl) dX4_aboard_63 (fun H locs hH hS => ?_)
      clear hf
      obtain ⟨x20, ex20⟩ : ∃ y : Int32, y = x4 + (1:Int32) := ⟨_, rfl⟩
      replace hX := bd_inv ex20 hX
      refine lv_iinc (v := x20) (lv' := [(2, .int x20), (0, .ref (ad 0)), (1, .int p1)]) hx hb dX4_aboard_66 hl (k := 2) rfl (by rw [ex20]; rfl) (by decide) rfl (fun ls hl => ?_)
      clear ex20
      refine lv_goto (tgt := 41) hx hb dX4_aboard_69 (by decide) ?_
      exact hk6 x20 σ19 hX H locs hH hS ls (lv_sub hl [1, 2, 0] rfl)
  · replace hX := ineg hc hX; clear hc
    refine lv_iload_n hx hb dX4_aboard_6 rfl (lv_at hl 2 rfl) ?_
    refine lv_aload_n hx hb dX4_aboard_7 rfl (lv_at hl 0 rfl) ?_
    refine m_get (v := .int (σ2.1 12)) hx hb hts hown hK hH 12 (by decide) (hts _ q1302) rfl dX4_aboard_8 ?_
    refine jnu1 hX (fun (σ21 : MS) => ∀ (H : Heap) (locs : List Loc), HM D dA ad σ21 H → va_S (AM ad) s.heap H locs → ∀ (ls : Array Slot), lv_has ls 5 [(0, .ref (ad 0)), (1, .int p1), (2, .int x1)] → W p l e (headSpec (ws_ yX4_aboard cX4_aboard 5 (some .int)) (rmX4_aboard)).room s m ([.ref (ad 0), .int p1] : List Value).toArray below meth c H locs 0 0 (MQ below (mQi D dA ad r σz) ([.ref (ad 0), .int p1] : List Value).toArray s 0 0 (AM ad)) (F0 m 33 ls [])) (fun σ21 hX H locs hH hS ls hl => ?_) (fun k22 hk22 hX => ?_)
    · obtain ⟨x23, ex23⟩ : ∃ y : Int32, y = x1 + (-1:Int32) := ⟨_, rfl⟩
      replace hX := bd_inv ex23 hX
      refine lv_iinc (v := x23) (lv' := [(2, .int x23), (0, .ref (ad 0)), (1, .int p1)]) hx hb dX4_aboard_33 hl (k := 2) rfl (by rw [ex23]; rfl) (by decide) rfl (fun ls hl => ?_)
      clear ex23
      refine lv_goto (tgt := 2) hx hb dX4_aboard_36 (by decide) ?_
      exact hk3 x23 σ21 hX H locs hH hS ls (lv_sub hl [1, 2, 0] rfl)
    · refine lv_icmp_ge (tgt := 33) hx hb dX4_aboard_11 (by decide) (fun hc => ?_) (fun hc => ?_)
      · replace hX := ipos hc hX; clear hc
        exact hk22 σ2 hX H locs hH hS ls (lv_sub hl [0, 1, 2] rfl)
      · replace hX := ineg hc hX; clear hc
        refine lv_aload_n hx hb dX4_aboard_14 rfl (lv_at hl 0 rfl) ?_
        refine lv_iload_n hx hb dX4_aboard_15 rfl (lv_at hl 1 rfl) ?_
        refine lv_iload_n hx hb dX4_aboard_16 rfl (lv_at hl 2 rfl) ?_
        refine lv_iadd hx hb dX4_aboard_17 ?_
        refine lv_iload_n hx hb dX4_aboard_18 rfl (lv_at hl 1 rfl) ?_
        refine lv_iload_n hx hb dX4_aboard_19 rfl (lv_at hl 2 rfl) ?_
        refine lv_iadd hx hb dX4_aboard_20 ?_
        refine lv_iconst (v := (1:Int32)) hx hb dX4_aboard_21 (by decide) ?_
        refine lv_iadd hx hb dX4_aboard_22 ?_
        refine lv_iload_n hx hb dX4_aboard_23 rfl (lv_at hl 2 rfl) ?_
        refine lv_aload_n hx hb dX4_aboard_24 rfl (lv_at hl 0 rfl) ?_
        refine lv_iconst (v := (4:Int32)) hx hb dX4_aboard_25 (by decide) ?_
        obtain ⟨x24, hf, hX⟩ := cl_inv hX
        refine m_callVi (As := [.int (4:Int32)]) ⟨hx, hb, hml, hown, hts⟩ (mX4_chance l D dA ad hf) (cwV 1 hts (lw_V q1552 q1554 qs63 q95 q1555) rfl rfl rfl (by decide +kernel) ⟨Nat.le_of_ble_eq_true rfl, Nat.le_of_ble_eq_true rfl⟩) hK hH hS rfl hl.1 rfl (Nat.le_of_ble_eq_true rfl) dX4_aboard_26 (fun H locs hH hS => ?_)
        clear hf
        refine lv_imul hx hb dX4_aboard_29 ?_
        obtain ⟨σ25, hf, hX⟩ := cl_inv hX
        refine m_callVv (As := [.int (p1 + x1), .int ((p1 + x1) + (1:Int32)), .int (x1 * x24)]) ⟨hx, hb, hml, hown, hts⟩ (mX4_moves l D dA ad hf) (cwV 3 hts (lw_V q1516 q1518 qs59 q95 q1519) rfl rfl rfl (by decide +kernel) ⟨Nat.le_of_ble_eq_true rfl, Nat.le_of_ble_eq_true rfl⟩) hK hH hS rfl hl.1 rfl (Nat.le_of_ble_eq_true rfl) dX4_aboard_30 (fun H locs hH hS => ?_)
        clear hf
        exact hk22 σ25 hX H locs hH hS ls (lv_sub hl [0, 1, 2] rfl)

abbrev rmX4_looks : Room := { frames := 1, cells := 0, slots := 0, locals := 25 }
def fX4_looks (p1 : Int32) (σ : MS) : Option (Int32 × MS) :=
 lp (fun _ _ _ => none) (fun (k4 : Int32 → Int32 → MS → Option (Int32 × MS)) (x1 : Int32) (x2 : Int32) (σ3 : MS) =>
 if (4:Int32) ≤ x2 then
 cl (fX4_led p1 σ3) (fun (σ5 : MS) =>
 some (x1, σ5))
 else
 lp (fun _ _ _ => none) (fun (k9 : Int32 → Int32 → MS → Option (Int32 × MS)) (x6 : Int32) (x7 : Int32) (σ8 : MS) =>
 if x2 ≤ x7 then
 bd (x2 + (1:Int32)) (fun (x10 : Int32) =>
 k4 x6 x10 σ8)
 else
 gd (ib (p1 + x2) 8) (
 cl (fX4_chance (9:Int32) σ8) (fun (x11 : Int32) =>
 cl (fX4_part (σ8.2.1 10 (p1 + x2).toNatClampNeg) x11) (fun (x12 : Int64) =>
 bd (x12.toInt32) (fun (x13 : Int32) =>
 gd (ib (p1 + x2) 8) (
 bd (x6 + ((σ8.2.1 10 (p1 + x2).toNatClampNeg) - x13)) (fun (x14 : Int32) =>
 gd (ib (p1 + x2) 8) (
 bd (sa σ8 10 (p1 + x2).toNatClampNeg x13) (fun (σ15 : MS) =>
 bd (x7 + (1:Int32)) (fun (x16 : Int32) =>
 k9 x14 x16 σ15)))))))))) NF x1 (0:Int32) σ3) NF (0:Int32) (1:Int32) σ
set_option maxHeartbeats 4000000 in
set_option maxRecDepth 100000 in
theorem mX4_looks (l : Launch) (D : va_G) (dA : Nat → ClassId) (ad : Nat → Nat) {p1 : Int32} {σ : MS} {r : Int32} {σz : MS} (hX : fX4_looks p1 σ = some (r, σz)) : Met l yX4_looks (ws_ yX4_looks cX4_looks 6 (some .int)) (rmX4_looks) (mPc D dA ad σ [.int p1]) (mQi D dA ad r σz) 0 0 (AM ad) := by
  refine Met.ofW (cc := cX4_looks) (maxL := 6) (ret := (some .int)) (by decide) rfl ?_
  intro p e s m args below meth c s₁ B hml hv
  obtain ⟨rfl, hH, hK⟩ := hv
  have hx := B.exec
  have hb := B.bytes
  have hr := B.returns
  have hts := atoms_spec (ws := (ws_ yX4_looks cX4_looks 6 (some .int))) B.pre
  have hts : ∀ w ∈ lw_all, w.before _ s = true := fun w h => hts w (List.mem_cons_of_mem _ h)
  have hown : s.vm.findClass RX4 = some m.cls := findClass_of_methodNamed B.named
  have hlocks := B.notSynchronized
  have hl := lv_entry ([.ref (ad 0), .int p1]) (n := 6) (Nat.le_of_ble_eq_true rfl)
  rw [lg_entry_eq]
  generalize (lg_sl ([.ref (ad 0), .int p1]) ++ List.replicate (6 - (lg_sl ([.ref (ad 0), .int p1])).length) Slot.unset).toArray = ls at hl ⊢
  have hl : lv_has ls 6 [(0, .ref (ad 0)), (1, .int p1)] := hl
  unfold fX4_looks at hX
  refine m_start hH (fun H locs hH hS => ?_)
  refine lv_iconst (v := (0:Int32)) hx hb dX4_looks_0 (by decide) ?_
  refine lv_istore_n (lv' := [(2, .int (0:Int32)), (0, .ref (ad 0)), (1, .int p1)]) hx hb dX4_looks_1 rfl hl (by decide) rfl (fun ls hl => ?_)
  refine lv_iconst (v := (1:Int32)) hx hb dX4_looks_2 (by decide) ?_
  refine lv_istore_n (lv' := [(3, .int (1:Int32)), (2, .int (0:Int32)), (0, .ref (ad 0)), (1, .int p1)]) hx hb dX4_looks_3 rfl hl (by decide) rfl (fun ls hl => ?_)
  refine lpu3 hX (fun (x1 : Int32) (x2 : Int32) (σ3 : MS) => ∀ (H : Heap) (locs : List Loc), HM D dA ad σ3 H → va_S (AM ad) s.heap H locs → ∀ (ls : Array Slot), lv_has ls 6 [(0, .ref (ad 0)), (1, .int p1), (2, .int x1), (3, .int x2)] → W p l e (headSpec (ws_ yX4_looks cX4_looks 6 (some .int)) (rmX4_looks)).room s m ([.ref (ad 0), .int p1] : List Value).toArray below meth c H locs 0 0 (MQ below (mQi D dA ad r σz) ([.ref (ad 0), .int p1] : List Value).toArray s 0 0 (AM ad)) (F0 m 4 ls [])) (fun k4 hk4 x1 x2 σ3 hX H locs hH hS ls hl => ?_) H locs hH hS ls (lv_sub hl [2, 3, 1, 0] rfl)
  refine lv_iload_n hx hb dX4_looks_4 rfl (lv_at hl 3 rfl) ?_
  refine lv_iconst (v := (4:Int32)) hx hb dX4_looks_5 (by decide) ?_
  refine lv_icmp_ge (tgt := 74) hx hb dX4_looks_6 (by decide) (fun hc => ?_) (fun hc => ?_)
  · replace hX := ipos hc hX; clear hc
    refine lv_aload_n hx hb dX4_looks_74 rfl (lv_at hl 0 rfl) ?_
    refine lv_iload_n hx hb dX4_looks_75 rfl (lv_at hl 1 rfl) ?_
    obtain ⟨σ5, hf, hX⟩ := cl_inv hX
    refine m_callVv (As := [.int p1]) ⟨hx, hb, hml, hown, hts⟩ (mX4_led l D dA ad hf) (cwV 1 hts (lw_V q1556 q1558 qs64 q95 q1559) rfl rfl rfl (by decide +kernel) ⟨Nat.le_of_ble_eq_true rfl, Nat.le_of_ble_eq_true rfl⟩) hK hH hS rfl hl.1 rfl (Nat.le_of_ble_eq_true rfl) dX4_looks_76 (fun H locs hH hS => ?_)
    clear hf
    refine lv_iload_n hx hb dX4_looks_79 rfl (lv_at hl 2 rfl) ?_
    obtain ⟨e1, e2⟩ := Prod.mk.inj (rinv hX); subst e1; subst e2
    exact W.iret hx hb hr (fun t ht hW => ⟨⟨_, (), rfl, rfl, hH.to ht⟩, hS.F ht⟩) hS.2.2 dX4_looks_80
  · replace hX := ineg hc hX; clear hc
    refine lv_iconst (v := (0:Int32)) hx hb dX4_looks_9 (by decide) ?_
    refine lv_istore (lv' := [(4, .int (0:Int32)), (0, .ref (ad 0)), (1, .int p1), (2, .int x1), (3, .int x2)]) hx hb dX4_looks_10 hl (by decide) rfl (fun ls hl => ?_)
    refine lpu3 hX (fun (x6 : Int32) (x7 : Int32) (σ8 : MS) => ∀ (H : Heap) (locs : List Loc), HM D dA ad σ8 H → va_S (AM ad) s.heap H locs → ∀ (ls : Array Slot), lv_has ls 6 [(0, .ref (ad 0)), (1, .int p1), (2, .int x6), (3, .int x2), (4, .int x7)] → W p l e (headSpec (ws_ yX4_looks cX4_looks 6 (some .int)) (rmX4_looks)).room s m ([.ref (ad 0), .int p1] : List Value).toArray below meth c H locs 0 0 (MQ below (mQi D dA ad r σz) ([.ref (ad 0), .int p1] : List Value).toArray s 0 0 (AM ad)) (F0 m 12 ls [])) (fun k9 hk9 x6 x7 σ8 hX H locs hH hS ls hl => ?_) H locs hH hS ls (lv_sub hl [1, 2, 3, 4, 0] rfl)
    refine lv_iload hx hb dX4_looks_12 (lv_at hl 4 rfl) ?_
    refine lv_iload_n hx hb dX4_looks_14 rfl (lv_at hl 3 rfl) ?_
    refine lv_icmp_ge (tgt := 68) hx hb dX4_looks_15 (by decide) (fun hc => ?_) (fun hc => ?_)
    · replace hX := ipos hc hX; clear hc
      obtain ⟨x10, ex10⟩ : ∃ y : Int32, y = x2 + (1:Int32) := ⟨_, rfl⟩
      replace hX := bd_inv ex10 hX
      refine lv_iinc (v := x10) (lv' := [(3, .int x10), (0, .ref (ad 0)), (1, .int p1), (2, .int x6), (4, .int x7)]) hx hb dX4_looks_68 hl (k := 3) rfl (by rw [ex10]; rfl) (by decide) rfl (fun ls hl => ?_)
      clear ex10
      refine lv_goto (tgt := 4) hx hb dX4_looks_71 (by decide) ?_
      exact hk4 x6 x10 σ8 hX H locs hH hS ls (lv_sub hl [1, 2, 3, 0] rfl)
    · replace hX := ineg hc hX; clear hc
      refine lv_aload_n hx hb dX4_looks_18 rfl (lv_at hl 0 rfl) ?_
      refine m_get (v := .ref (ad 10)) hx hb hts hown hK hH 10 (by decide) (hts _ q1300) rfl dX4_looks_19 ?_
      refine lv_iload_n hx hb dX4_looks_22 rfl (lv_at hl 1 rfl) ?_
      refine lv_iload_n hx hb dX4_looks_23 rfl (lv_at hl 3 rfl) ?_
      refine lv_iadd hx hb dX4_looks_24 ?_
      obtain ⟨hg, hX⟩ := gd_inv hX
      refine m_iald hx hb hK hH 4 10 (n := 8) rfl hg dX4_looks_25 ?_
      refine lv_aload_n hx hb dX4_looks_26 rfl (lv_at hl 0 rfl) ?_
      refine lv_bipush (v := (9:Int32)) hx hb dX4_looks_27 (by decide) ?_
      obtain ⟨x11, hf, hX⟩ := cl_inv hX
      refine m_callVi (As := [.int (9:Int32)]) ⟨hx, hb, hml, hown, hts⟩ (mX4_chance l D dA ad hf) (cwV 1 hts (lw_V q1552 q1554 qs63 q95 q1555) rfl rfl rfl (by decide +kernel) ⟨Nat.le_of_ble_eq_true rfl, Nat.le_of_ble_eq_true rfl⟩) hK hH hS rfl hl.1 rfl (Nat.le_of_ble_eq_true rfl) dX4_looks_29 (fun H locs hH hS => ?_)
      clear hf
      obtain ⟨x12, hf, hX⟩ := cl_inv hX
      refine m_callSl (As := [.int (σ8.2.1 10 (p1 + x2).toNatClampNeg), .int x11]) ⟨hx, hb, hml, hown, hts⟩ (mX4_part l hf) (va_cwS 2 hts (lw_S q1520 q1521 q95 q1522) rfl rfl rfl (by decide +kernel) ⟨Nat.le_of_ble_eq_true rfl, Nat.le_of_ble_eq_true rfl⟩) hH hS rfl hl.1 rfl (Nat.le_of_ble_eq_true rfl) dX4_looks_32 (fun H locs hH hS => ?_)
      clear hf
      refine lv_l2i hx hb dX4_looks_35 rfl ?_
      refine lv_topi (fun x13 ex13 => ?_)
      replace hX := bd_inv ex13 hX; clear ex13
      refine lv_istore (lv' := [(5, .int x13), (0, .ref (ad 0)), (1, .int p1), (2, .int x6), (3, .int x2), (4, .int x7)]) hx hb dX4_looks_36 hl (by decide) rfl (fun ls hl => ?_)
      refine lv_iload_n hx hb dX4_looks_38 rfl (lv_at hl 3 rfl) ?_
      refine lv_aload_n hx hb dX4_looks_39 rfl (lv_at hl 1 rfl) ?_
      refine m_get (v := .ref (ad 10)) hx hb hts hown hK hH 10 (by decide) (hts _ q1300) rfl dX4_looks_40 ?_
      refine lv_iload_n hx hb dX4_looks_43 rfl (lv_at hl 2 rfl) ?_
      refine lv_iload_n hx hb dX4_looks_44 rfl (lv_at hl 4 rfl) ?_
      refine lv_iadd hx hb dX4_looks_45 ?_
      obtain ⟨hg, hX⟩ := gd_inv hX
      refine m_iald hx hb hK hH 4 10 (n := 8) rfl hg dX4_looks_46 ?_
      refine lv_iload hx hb dX4_looks_47 (lv_at hl 0 rfl) ?_
      refine lv_isub hx hb dX4_looks_49 ?_
      refine lv_iadd hx hb dX4_looks_50 ?_
      refine lv_topi (fun x14 ex14 => ?_)
      replace hX := bd_inv ex14 hX; clear ex14
      refine lv_istore_n (lv' := [(2, .int x14), (5, .int x13), (0, .ref (ad 0)), (1, .int p1), (3, .int x2), (4, .int x7)]) hx hb dX4_looks_51 rfl hl (by decide) rfl (fun ls hl => ?_)
      refine lv_aload_n hx hb dX4_looks_52 rfl (lv_at hl 2 rfl) ?_
      refine m_get (v := .ref (ad 10)) hx hb hts hown hK hH 10 (by decide) (hts _ q1300) rfl dX4_looks_53 ?_
      refine lv_iload_n hx hb dX4_looks_56 rfl (lv_at hl 3 rfl) ?_
      refine lv_iload_n hx hb dX4_looks_57 rfl (lv_at hl 4 rfl) ?_
      refine lv_iadd hx hb dX4_looks_58 ?_
      refine lv_iload hx hb dX4_looks_59 (lv_at hl 1 rfl) ?_
      obtain ⟨hg, hX⟩ := gd_inv hX
      refine m_iast hx hb hK hH hS 4 10 (n := 8) rfl hg rfl dX4_looks_61 (fun σ15 eσ15 H locs hH hS => ?_)
      replace hX := bd_inv eσ15 hX; clear eσ15
      obtain ⟨x16, ex16⟩ : ∃ y : Int32, y = x7 + (1:Int32) := ⟨_, rfl⟩
      replace hX := bd_inv ex16 hX
      refine lv_iinc (v := x16) (lv' := [(4, .int x16), (2, .int x14), (5, .int x13), (0, .ref (ad 0)), (1, .int p1), (3, .int x2)]) hx hb dX4_looks_62 hl (k := 5) rfl (by rw [ex16]; rfl) (by decide) rfl (fun ls hl => ?_)
      clear ex16
      refine lv_goto (tgt := 12) hx hb dX4_looks_65 (by decide) ?_
      exact hk9 x14 x16 σ15 hX H locs hH hS ls (lv_sub hl [3, 4, 1, 5, 0] rfl)

abbrev rmX4_harmOf : Room := { frames := 1, cells := 0, slots := 0, locals := 22 }
def fX4_harmOf (p1 : Int32) (σ : MS) : Option (Int64) :=
 cl (fX4_chance (7:Int32) σ) (fun (x1 : Int32) =>
 gd (ib (p1 + (1:Int32)) 8) (
 gd (ib (p1 + (2:Int32)) 8) (
 gd (ib (p1 + (3:Int32)) 8) (
 some (((x1.toInt64) * ((((σ.2.1 10 (p1 + (1:Int32)).toNatClampNeg).toInt64) + ((2:Int64) * ((σ.2.1 10 (p1 + (2:Int32)).toNatClampNeg).toInt64))) + ((3:Int64) * ((σ.2.1 10 (p1 + (3:Int32)).toNatClampNeg).toInt64)))) / (1000:Int64))))))
set_option maxHeartbeats 4000000 in
set_option maxRecDepth 100000 in
theorem mX4_harmOf (l : Launch) (D : va_G) (dA : Nat → ClassId) (ad : Nat → Nat) {p1 : Int32} {σ : MS} {r : Int64} (hX : fX4_harmOf p1 σ = some r) : Met l yX4_harmOf (ws_ yX4_harmOf cX4_harmOf 2 (some .long)) (rmX4_harmOf) (mPc D dA ad σ [.int p1]) (mQl D dA ad r σ) 0 0 (AM ad) := by
  refine Met.ofW (cc := cX4_harmOf) (maxL := 2) (ret := (some .long)) (by decide) rfl ?_
  intro p e s m args below meth c s₁ B hml hv
  obtain ⟨rfl, hH, hK⟩ := hv
  have hx := B.exec
  have hb := B.bytes
  have hr := B.returns
  have hts := atoms_spec (ws := (ws_ yX4_harmOf cX4_harmOf 2 (some .long))) B.pre
  have hts : ∀ w ∈ lw_all, w.before _ s = true := fun w h => hts w (List.mem_cons_of_mem _ h)
  have hown : s.vm.findClass RX4 = some m.cls := findClass_of_methodNamed B.named
  have hlocks := B.notSynchronized
  have hl := lv_entry ([.ref (ad 0), .int p1]) (n := 2) (Nat.le_of_ble_eq_true rfl)
  rw [lg_entry_eq]
  generalize (lg_sl ([.ref (ad 0), .int p1]) ++ List.replicate (2 - (lg_sl ([.ref (ad 0), .int p1])).length) Slot.unset).toArray = ls at hl ⊢
  have hl : lv_has ls 2 [(0, .ref (ad 0)), (1, .int p1)] := hl
  unfold fX4_harmOf at hX
  refine m_start hH (fun H locs hH hS => ?_)
  refine lv_aload_n hx hb dX4_harmOf_0 rfl (lv_at hl 0 rfl) ?_
  refine lv_bipush (v := (7:Int32)) hx hb dX4_harmOf_1 (by decide) ?_
  obtain ⟨x1, hf, hX⟩ := cl_inv hX
  refine m_callVi (As := [.int (7:Int32)]) ⟨hx, hb, hml, hown, hts⟩ (mX4_chance l D dA ad hf) (cwV 1 hts (lw_V q1552 q1554 qs63 q95 q1555) rfl rfl rfl (by decide +kernel) ⟨Nat.le_of_ble_eq_true rfl, Nat.le_of_ble_eq_true rfl⟩) hK hH hS rfl hl.1 rfl (Nat.le_of_ble_eq_true rfl) dX4_harmOf_3 (fun H locs hH hS => ?_)
  clear hf
  refine lv_i2l hx hb dX4_harmOf_6 rfl ?_
  refine lv_aload_n hx hb dX4_harmOf_7 rfl (lv_at hl 0 rfl) ?_
  refine m_get (v := .ref (ad 10)) hx hb hts hown hK hH 10 (by decide) (hts _ q1300) rfl dX4_harmOf_8 ?_
  refine lv_iload_n hx hb dX4_harmOf_11 rfl (lv_at hl 1 rfl) ?_
  refine lv_iconst (v := (1:Int32)) hx hb dX4_harmOf_12 (by decide) ?_
  refine lv_iadd hx hb dX4_harmOf_13 ?_
  obtain ⟨hg, hX⟩ := gd_inv hX
  refine m_iald hx hb hK hH 4 10 (n := 8) rfl hg dX4_harmOf_14 ?_
  refine lv_i2l hx hb dX4_harmOf_15 rfl ?_
  refine lv_ldc2 (v := (2:Int64)) hx hb hown (hts _ q1578) dX4_harmOf_16 ?_
  refine lv_aload_n hx hb dX4_harmOf_19 rfl (lv_at hl 0 rfl) ?_
  refine m_get (v := .ref (ad 10)) hx hb hts hown hK hH 10 (by decide) (hts _ q1300) rfl dX4_harmOf_20 ?_
  refine lv_iload_n hx hb dX4_harmOf_23 rfl (lv_at hl 1 rfl) ?_
  refine lv_iconst (v := (2:Int32)) hx hb dX4_harmOf_24 (by decide) ?_
  refine lv_iadd hx hb dX4_harmOf_25 ?_
  obtain ⟨hg, hX⟩ := gd_inv hX
  refine m_iald hx hb hK hH 4 10 (n := 8) rfl hg dX4_harmOf_26 ?_
  refine lv_i2l hx hb dX4_harmOf_27 rfl ?_
  refine lv_lmul hx hb dX4_harmOf_28 ?_
  refine lv_ladd hx hb dX4_harmOf_29 ?_
  refine lv_ldc2 (v := (3:Int64)) hx hb hown (hts _ q1579) dX4_harmOf_30 ?_
  refine lv_aload_n hx hb dX4_harmOf_33 rfl (lv_at hl 0 rfl) ?_
  refine m_get (v := .ref (ad 10)) hx hb hts hown hK hH 10 (by decide) (hts _ q1300) rfl dX4_harmOf_34 ?_
  refine lv_iload_n hx hb dX4_harmOf_37 rfl (lv_at hl 1 rfl) ?_
  refine lv_iconst (v := (3:Int32)) hx hb dX4_harmOf_38 (by decide) ?_
  refine lv_iadd hx hb dX4_harmOf_39 ?_
  obtain ⟨hg, hX⟩ := gd_inv hX
  refine m_iald hx hb hK hH 4 10 (n := 8) rfl hg dX4_harmOf_40 ?_
  refine lv_i2l hx hb dX4_harmOf_41 rfl ?_
  refine lv_lmul hx hb dX4_harmOf_42 ?_
  refine lv_ladd hx hb dX4_harmOf_43 ?_
  refine lv_lmul hx hb dX4_harmOf_44 ?_
  refine lv_ldc2 (v := (1000:Int64)) hx hb hown (hts _ q1523) dX4_harmOf_45 ?_
  refine lv_ldiv hx hb dX4_harmOf_48 (by decide) ?_
  have e1 := rinv hX; subst e1
  exact W.lret hx hb hr (fun t ht hW => ⟨⟨_, (), rfl, rfl, hH.to ht⟩, hS.F ht⟩) hS.2.2 dX4_harmOf_49

abbrev rmX4_costOf : Room := { frames := 1, cells := 0, slots := 0, locals := 32 }
def fX4_costOf (p1 : Int32) (σ : MS) : Option (Int64 × MS) :=
 cl2 (fX4_holdOf (σ.1 11) p1 (σ.1 12) (σ.1 13) σ) (fun (x2 : Int32) (σ1 : MS) =>
 some ((1000:Int64) * (x2.toInt64), σ1))
set_option maxHeartbeats 4000000 in
set_option maxRecDepth 100000 in
theorem mX4_costOf (l : Launch) (D : va_G) (dA : Nat → ClassId) (ad : Nat → Nat) {p1 : Int32} {σ : MS} {r : Int64} {σz : MS} (hX : fX4_costOf p1 σ = some (r, σz)) : Met l yX4_costOf (ws_ yX4_costOf cX4_costOf 2 (some .long)) (rmX4_costOf) (mPc D dA ad σ [.int p1]) (mQl D dA ad r σz) 0 0 (AM ad) := by
  refine Met.ofW (cc := cX4_costOf) (maxL := 2) (ret := (some .long)) (by decide) rfl ?_
  intro p e s m args below meth c s₁ B hml hv
  obtain ⟨rfl, hH, hK⟩ := hv
  have hx := B.exec
  have hb := B.bytes
  have hr := B.returns
  have hts := atoms_spec (ws := (ws_ yX4_costOf cX4_costOf 2 (some .long))) B.pre
  have hts : ∀ w ∈ lw_all, w.before _ s = true := fun w h => hts w (List.mem_cons_of_mem _ h)
  have hown : s.vm.findClass RX4 = some m.cls := findClass_of_methodNamed B.named
  have hlocks := B.notSynchronized
  have hl := lv_entry ([.ref (ad 0), .int p1]) (n := 2) (Nat.le_of_ble_eq_true rfl)
  rw [lg_entry_eq]
  generalize (lg_sl ([.ref (ad 0), .int p1]) ++ List.replicate (2 - (lg_sl ([.ref (ad 0), .int p1])).length) Slot.unset).toArray = ls at hl ⊢
  have hl : lv_has ls 2 [(0, .ref (ad 0)), (1, .int p1)] := hl
  unfold fX4_costOf at hX
  refine m_start hH (fun H locs hH hS => ?_)
  refine lv_ldc2 (v := (1000:Int64)) hx hb hown (hts _ q1523) dX4_costOf_0 ?_
  refine lv_aload_n hx hb dX4_costOf_3 rfl (lv_at hl 0 rfl) ?_
  refine lv_aload_n hx hb dX4_costOf_4 rfl (lv_at hl 0 rfl) ?_
  refine m_get (v := .int (σ.1 11)) hx hb hts hown hK hH 11 (by decide) (hts _ q1301) rfl dX4_costOf_5 ?_
  refine lv_iload_n hx hb dX4_costOf_8 rfl (lv_at hl 1 rfl) ?_
  refine lv_aload_n hx hb dX4_costOf_9 rfl (lv_at hl 0 rfl) ?_
  refine m_get (v := .int (σ.1 12)) hx hb hts hown hK hH 12 (by decide) (hts _ q1302) rfl dX4_costOf_10 ?_
  refine lv_aload_n hx hb dX4_costOf_13 rfl (lv_at hl 0 rfl) ?_
  refine m_get (v := .int (σ.1 13)) hx hb hts hown hK hH 13 (by decide) (hts _ q1303) rfl dX4_costOf_14 ?_
  obtain ⟨x2, σ1, hf, hX⟩ := cl2_inv hX
  refine m_callVi (As := [.int (σ.1 11), .int p1, .int (σ.1 12), .int (σ.1 13)]) ⟨hx, hb, hml, hown, hts⟩ (mX4_holdOf l D dA ad hf) (cwV 4 hts (lw_V q1495 q1497 qs55 q95 q1498) rfl rfl rfl (by decide +kernel) ⟨Nat.le_of_ble_eq_true rfl, Nat.le_of_ble_eq_true rfl⟩) hK hH hS rfl hl.1 rfl (Nat.le_of_ble_eq_true rfl) dX4_costOf_17 (fun H locs hH hS => ?_)
  clear hf
  refine lv_i2l hx hb dX4_costOf_20 rfl ?_
  refine lv_lmul hx hb dX4_costOf_21 ?_
  obtain ⟨e1, e2⟩ := Prod.mk.inj (rinv hX); subst e1; subst e2
  exact W.lret hx hb hr (fun t ht hW => ⟨⟨_, (), rfl, rfl, hH.to ht⟩, hS.F ht⟩) hS.2.2 dX4_costOf_22

abbrev rmX4_takes : Room := { frames := 0, cells := 0, slots := 0, locals := 0 }
def fX4_takes (p1 : Int32) (σ : MS) : Option MS :=
 gd (ib ((890:Int32) + p1) 1160) (
 bd (sf σ 11 (σ.2.1 1 ((890:Int32) + p1).toNatClampNeg)) (fun (σ1 : MS) =>
 gd (ib ((926:Int32) + p1) 1160) (
 bd (sf σ1 12 (σ1.2.1 1 ((926:Int32) + p1).toNatClampNeg)) (fun (σ2 : MS) =>
 gd (ib ((914:Int32) + p1) 1160) (
 bd (sf σ2 13 (σ2.2.1 1 ((914:Int32) + p1).toNatClampNeg)) (fun (σ3 : MS) =>
 bd (sf σ3 14 (0:Int32)) (fun (σ4 : MS) =>
 lp (fun _ _ => none) (fun (k7 : Int32 → MS → Option MS) (x5 : Int32) (σ6 : MS) =>
 if (4:Int32) ≤ x5 then
 some σ6
 else
 gd (ib (((950:Int32) + ((4:Int32) * p1)) + x5) 1160) (
 gd (ib x5 8) (
 bd (sa σ6 10 x5.toNatClampNeg (σ6.2.1 1 (((950:Int32) + ((4:Int32) * p1)) + x5).toNatClampNeg)) (fun (σ8 : MS) =>
 bd (x5 + (1:Int32)) (fun (x9 : Int32) =>
 k7 x9 σ8))))) NF (0:Int32) σ4)))))))
set_option maxHeartbeats 4000000 in
set_option maxRecDepth 100000 in
theorem mX4_takes (l : Launch) (D : va_G) (dA : Nat → ClassId) (ad : Nat → Nat) {p1 : Int32} {σ : MS} {σz : MS} (hX : fX4_takes p1 σ = some σz) : Met l yX4_takes (ws_ yX4_takes cX4_takes 3 none) (rmX4_takes) (mPc D dA ad σ [.int p1]) (mQv D dA ad σz) 0 0 (AM ad) := by
  refine Met.ofW (cc := cX4_takes) (maxL := 3) (ret := none) (by decide) rfl ?_
  intro p e s m args below meth c s₁ B hml hv
  obtain ⟨rfl, hH, hK⟩ := hv
  have hx := B.exec
  have hb := B.bytes
  have hr := B.returns
  have hts := atoms_spec (ws := (ws_ yX4_takes cX4_takes 3 none)) B.pre
  have hts : ∀ w ∈ lw_all, w.before _ s = true := fun w h => hts w (List.mem_cons_of_mem _ h)
  have hown : s.vm.findClass RX4 = some m.cls := findClass_of_methodNamed B.named
  have hlocks := B.notSynchronized
  have hl := lv_entry ([.ref (ad 0), .int p1]) (n := 3) (Nat.le_of_ble_eq_true rfl)
  rw [lg_entry_eq]
  generalize (lg_sl ([.ref (ad 0), .int p1]) ++ List.replicate (3 - (lg_sl ([.ref (ad 0), .int p1])).length) Slot.unset).toArray = ls at hl ⊢
  have hl : lv_has ls 3 [(0, .ref (ad 0)), (1, .int p1)] := hl
  unfold fX4_takes at hX
  refine m_start hH (fun H locs hH hS => ?_)
  refine lv_aload_n hx hb dX4_takes_0 rfl (lv_at hl 0 rfl) ?_
  refine lv_aload_n hx hb dX4_takes_1 rfl (lv_at hl 0 rfl) ?_
  refine m_get (v := .ref (ad 1)) hx hb hts hown hK hH 1 (by decide) (hts _ q1291) rfl dX4_takes_2 ?_
  refine lv_sipush (v := (890:Int32)) hx hb dX4_takes_5 (by decide) ?_
  refine lv_iload_n hx hb dX4_takes_8 rfl (lv_at hl 1 rfl) ?_
  refine lv_iadd hx hb dX4_takes_9 ?_
  obtain ⟨hg, hX⟩ := gd_inv hX
  refine m_iald hx hb hK hH 1 1 (n := 1160) rfl hg dX4_takes_10 ?_
  refine m_put (ty := .int) hx hb hts hown hK hH hS 11 (by decide) (hts _ q1301) rfl (tyX4_ok 11 (by decide)) rfl rfl rfl dX4_takes_11 (fun σ1 eσ1 H locs hH hS => ?_)
  replace hX := bd_inv eσ1 hX; clear eσ1
  refine lv_aload_n hx hb dX4_takes_14 rfl (lv_at hl 0 rfl) ?_
  refine lv_aload_n hx hb dX4_takes_15 rfl (lv_at hl 0 rfl) ?_
  refine m_get (v := .ref (ad 1)) hx hb hts hown hK hH 1 (by decide) (hts _ q1291) rfl dX4_takes_16 ?_
  refine lv_sipush (v := (926:Int32)) hx hb dX4_takes_19 (by decide) ?_
  refine lv_iload_n hx hb dX4_takes_22 rfl (lv_at hl 1 rfl) ?_
  refine lv_iadd hx hb dX4_takes_23 ?_
  obtain ⟨hg, hX⟩ := gd_inv hX
  refine m_iald hx hb hK hH 1 1 (n := 1160) rfl hg dX4_takes_24 ?_
  refine m_put (ty := .int) hx hb hts hown hK hH hS 12 (by decide) (hts _ q1302) rfl (tyX4_ok 12 (by decide)) rfl rfl rfl dX4_takes_25 (fun σ2 eσ2 H locs hH hS => ?_)
  replace hX := bd_inv eσ2 hX; clear eσ2
  refine lv_aload_n hx hb dX4_takes_28 rfl (lv_at hl 0 rfl) ?_
  refine lv_aload_n hx hb dX4_takes_29 rfl (lv_at hl 0 rfl) ?_
  refine m_get (v := .ref (ad 1)) hx hb hts hown hK hH 1 (by decide) (hts _ q1291) rfl dX4_takes_30 ?_
  refine lv_sipush (v := (914:Int32)) hx hb dX4_takes_33 (by decide) ?_
  refine lv_iload_n hx hb dX4_takes_36 rfl (lv_at hl 1 rfl) ?_
  refine lv_iadd hx hb dX4_takes_37 ?_
  obtain ⟨hg, hX⟩ := gd_inv hX
  refine m_iald hx hb hK hH 1 1 (n := 1160) rfl hg dX4_takes_38 ?_
  refine m_put (ty := .int) hx hb hts hown hK hH hS 13 (by decide) (hts _ q1303) rfl (tyX4_ok 13 (by decide)) rfl rfl rfl dX4_takes_39 (fun σ3 eσ3 H locs hH hS => ?_)
  replace hX := bd_inv eσ3 hX; clear eσ3
  refine lv_aload_n hx hb dX4_takes_42 rfl (lv_at hl 0 rfl) ?_
  refine lv_iconst (v := (0:Int32)) hx hb dX4_takes_43 (by decide) ?_
  refine m_put (ty := .int) hx hb hts hown hK hH hS 14 (by decide) (hts _ q1304) rfl (tyX4_ok 14 (by decide)) rfl rfl rfl dX4_takes_44 (fun σ4 eσ4 H locs hH hS => ?_)
  replace hX := bd_inv eσ4 hX; clear eσ4
  refine lv_iconst (v := (0:Int32)) hx hb dX4_takes_47 (by decide) ?_
  refine lv_istore_n (lv' := [(2, .int (0:Int32)), (0, .ref (ad 0)), (1, .int p1)]) hx hb dX4_takes_48 rfl hl (by decide) rfl (fun ls hl => ?_)
  refine lpu2 hX (fun (x5 : Int32) (σ6 : MS) => ∀ (H : Heap) (locs : List Loc), HM D dA ad σ6 H → va_S (AM ad) s.heap H locs → ∀ (ls : Array Slot), lv_has ls 3 [(0, .ref (ad 0)), (1, .int p1), (2, .int x5)] → W p l e (headSpec (ws_ yX4_takes cX4_takes 3 none) (rmX4_takes)).room s m ([.ref (ad 0), .int p1] : List Value).toArray below meth c H locs 0 0 (MQ below (mQv D dA ad σz) ([.ref (ad 0), .int p1] : List Value).toArray s 0 0 (AM ad)) (F0 m 49 ls [])) (fun k7 hk7 x5 σ6 hX H locs hH hS ls hl => ?_) H locs hH hS ls (lv_sub hl [1, 2, 0] rfl)
  refine lv_iload_n hx hb dX4_takes_49 rfl (lv_at hl 2 rfl) ?_
  refine lv_iconst (v := (4:Int32)) hx hb dX4_takes_50 (by decide) ?_
  refine lv_icmp_ge (tgt := 80) hx hb dX4_takes_51 (by decide) (fun hc => ?_) (fun hc => ?_)
  · replace hX := ipos hc hX; clear hc
    have e1 := rinv hX; subst e1
    exact W.vret hx hb hr (fun t ht hW => ⟨⟨(), rfl, trivial, hH.to ht⟩, hS.F ht⟩) hS.2.2 dX4_takes_80
  · replace hX := ineg hc hX; clear hc
    refine lv_aload_n hx hb dX4_takes_54 rfl (lv_at hl 0 rfl) ?_
    refine m_get (v := .ref (ad 10)) hx hb hts hown hK hH 10 (by decide) (hts _ q1300) rfl dX4_takes_55 ?_
    refine lv_iload_n hx hb dX4_takes_58 rfl (lv_at hl 2 rfl) ?_
    refine lv_aload_n hx hb dX4_takes_59 rfl (lv_at hl 0 rfl) ?_
    refine m_get (v := .ref (ad 1)) hx hb hts hown hK hH 1 (by decide) (hts _ q1291) rfl dX4_takes_60 ?_
    refine lv_sipush (v := (950:Int32)) hx hb dX4_takes_63 (by decide) ?_
    refine lv_iconst (v := (4:Int32)) hx hb dX4_takes_66 (by decide) ?_
    refine lv_iload_n hx hb dX4_takes_67 rfl (lv_at hl 1 rfl) ?_
    refine lv_imul hx hb dX4_takes_68 ?_
    refine lv_iadd hx hb dX4_takes_69 ?_
    refine lv_iload_n hx hb dX4_takes_70 rfl (lv_at hl 2 rfl) ?_
    refine lv_iadd hx hb dX4_takes_71 ?_
    obtain ⟨hg, hX⟩ := gd_inv hX
    refine m_iald hx hb hK hH 1 1 (n := 1160) rfl hg dX4_takes_72 ?_
    obtain ⟨hg, hX⟩ := gd_inv hX
    refine m_iast hx hb hK hH hS 4 10 (n := 8) rfl hg rfl dX4_takes_73 (fun σ8 eσ8 H locs hH hS => ?_)
    replace hX := bd_inv eσ8 hX; clear eσ8
    obtain ⟨x9, ex9⟩ : ∃ y : Int32, y = x5 + (1:Int32) := ⟨_, rfl⟩
    replace hX := bd_inv ex9 hX
    refine lv_iinc (v := x9) (lv' := [(2, .int x9), (0, .ref (ad 0)), (1, .int p1)]) hx hb dX4_takes_74 hl (k := 2) rfl (by rw [ex9]; rfl) (by decide) rfl (fun ls hl => ?_)
    clear ex9
    refine lv_goto (tgt := 49) hx hb dX4_takes_77 (by decide) ?_
    exact hk7 x9 σ8 hX H locs hH hS ls (lv_sub hl [1, 2, 0] rfl)

abbrev rmX4_puts : Room := { frames := 0, cells := 0, slots := 0, locals := 0 }
def fX4_puts (p1 : Int32) (σ : MS) : Option MS :=
 lp (fun _ _ => none) (fun (k3 : Int32 → MS → Option MS) (x1 : Int32) (σ2 : MS) =>
 if (4:Int32) ≤ x1 then
 some σ2
 else
 gd (ib x1 8) (
 gd (ib (((950:Int32) + ((4:Int32) * p1)) + x1) 1160) (
 bd (sa σ2 1 (((950:Int32) + ((4:Int32) * p1)) + x1).toNatClampNeg (σ2.2.1 10 x1.toNatClampNeg)) (fun (σ4 : MS) =>
 bd (x1 + (1:Int32)) (fun (x5 : Int32) =>
 k3 x5 σ4))))) NF (0:Int32) σ
set_option maxHeartbeats 4000000 in
set_option maxRecDepth 100000 in
theorem mX4_puts (l : Launch) (D : va_G) (dA : Nat → ClassId) (ad : Nat → Nat) {p1 : Int32} {σ : MS} {σz : MS} (hX : fX4_puts p1 σ = some σz) : Met l yX4_puts (ws_ yX4_puts cX4_puts 3 none) (rmX4_puts) (mPc D dA ad σ [.int p1]) (mQv D dA ad σz) 0 0 (AM ad) := by
  refine Met.ofW (cc := cX4_puts) (maxL := 3) (ret := none) (by decide) rfl ?_
  intro p e s m args below meth c s₁ B hml hv
  obtain ⟨rfl, hH, hK⟩ := hv
  have hx := B.exec
  have hb := B.bytes
  have hr := B.returns
  have hts := atoms_spec (ws := (ws_ yX4_puts cX4_puts 3 none)) B.pre
  have hts : ∀ w ∈ lw_all, w.before _ s = true := fun w h => hts w (List.mem_cons_of_mem _ h)
  have hown : s.vm.findClass RX4 = some m.cls := findClass_of_methodNamed B.named
  have hlocks := B.notSynchronized
  have hl := lv_entry ([.ref (ad 0), .int p1]) (n := 3) (Nat.le_of_ble_eq_true rfl)
  rw [lg_entry_eq]
  generalize (lg_sl ([.ref (ad 0), .int p1]) ++ List.replicate (3 - (lg_sl ([.ref (ad 0), .int p1])).length) Slot.unset).toArray = ls at hl ⊢
  have hl : lv_has ls 3 [(0, .ref (ad 0)), (1, .int p1)] := hl
  unfold fX4_puts at hX
  refine m_start hH (fun H locs hH hS => ?_)
  refine lv_iconst (v := (0:Int32)) hx hb dX4_puts_0 (by decide) ?_
  refine lv_istore_n (lv' := [(2, .int (0:Int32)), (0, .ref (ad 0)), (1, .int p1)]) hx hb dX4_puts_1 rfl hl (by decide) rfl (fun ls hl => ?_)
  refine lpu2 hX (fun (x1 : Int32) (σ2 : MS) => ∀ (H : Heap) (locs : List Loc), HM D dA ad σ2 H → va_S (AM ad) s.heap H locs → ∀ (ls : Array Slot), lv_has ls 3 [(0, .ref (ad 0)), (1, .int p1), (2, .int x1)] → W p l e (headSpec (ws_ yX4_puts cX4_puts 3 none) (rmX4_puts)).room s m ([.ref (ad 0), .int p1] : List Value).toArray below meth c H locs 0 0 (MQ below (mQv D dA ad σz) ([.ref (ad 0), .int p1] : List Value).toArray s 0 0 (AM ad)) (F0 m 2 ls [])) (fun k3 hk3 x1 σ2 hX H locs hH hS ls hl => ?_) H locs hH hS ls (lv_sub hl [1, 2, 0] rfl)
  refine lv_iload_n hx hb dX4_puts_2 rfl (lv_at hl 2 rfl) ?_
  refine lv_iconst (v := (4:Int32)) hx hb dX4_puts_3 (by decide) ?_
  refine lv_icmp_ge (tgt := 33) hx hb dX4_puts_4 (by decide) (fun hc => ?_) (fun hc => ?_)
  · replace hX := ipos hc hX; clear hc
    have e1 := rinv hX; subst e1
    exact W.vret hx hb hr (fun t ht hW => ⟨⟨(), rfl, trivial, hH.to ht⟩, hS.F ht⟩) hS.2.2 dX4_puts_33
  · replace hX := ineg hc hX; clear hc
    refine lv_aload_n hx hb dX4_puts_7 rfl (lv_at hl 0 rfl) ?_
    refine m_get (v := .ref (ad 1)) hx hb hts hown hK hH 1 (by decide) (hts _ q1291) rfl dX4_puts_8 ?_
    refine lv_sipush (v := (950:Int32)) hx hb dX4_puts_11 (by decide) ?_
    refine lv_iconst (v := (4:Int32)) hx hb dX4_puts_14 (by decide) ?_
    refine lv_iload_n hx hb dX4_puts_15 rfl (lv_at hl 1 rfl) ?_
    refine lv_imul hx hb dX4_puts_16 ?_
    refine lv_iadd hx hb dX4_puts_17 ?_
    refine lv_iload_n hx hb dX4_puts_18 rfl (lv_at hl 2 rfl) ?_
    refine lv_iadd hx hb dX4_puts_19 ?_
    refine lv_aload_n hx hb dX4_puts_20 rfl (lv_at hl 0 rfl) ?_
    refine m_get (v := .ref (ad 10)) hx hb hts hown hK hH 10 (by decide) (hts _ q1300) rfl dX4_puts_21 ?_
    refine lv_iload_n hx hb dX4_puts_24 rfl (lv_at hl 2 rfl) ?_
    obtain ⟨hg, hX⟩ := gd_inv hX
    refine m_iald hx hb hK hH 4 10 (n := 8) rfl hg dX4_puts_25 ?_
    obtain ⟨hg, hX⟩ := gd_inv hX
    refine m_iast hx hb hK hH hS 1 1 (n := 1160) rfl hg rfl dX4_puts_26 (fun σ4 eσ4 H locs hH hS => ?_)
    replace hX := bd_inv eσ4 hX; clear eσ4
    obtain ⟨x5, ex5⟩ : ∃ y : Int32, y = x1 + (1:Int32) := ⟨_, rfl⟩
    replace hX := bd_inv ex5 hX
    refine lv_iinc (v := x5) (lv' := [(2, .int x5), (0, .ref (ad 0)), (1, .int p1)]) hx hb dX4_puts_27 hl (k := 2) rfl (by rw [ex5]; rfl) (by decide) rfl (fun ls hl => ?_)
    clear ex5
    refine lv_goto (tgt := 2) hx hb dX4_puts_30 (by decide) ?_
    exact hk3 x5 σ4 hX H locs hH hS ls (lv_sub hl [1, 2, 0] rfl)

abbrev rmX4_thinksAnew : Room := { frames := 3, cells := 0, slots := 0, locals := 71 }
def fX4_thinksAnew (p1 : Int32) (p2 : Int32) (σ : MS) : Option MS :=
 cl (fX4_takes p1 σ) (fun (σ1 : MS) =>
 cl (fX4_anew (0:Int32) (σ1.1 13) p2 σ1) (fun (σ2 : MS) =>
 cl (fX4_puts p1 σ2) (fun (σ3 : MS) =>
 gd (ib ((938:Int32) + p1) 1160) (
 bd (sa σ3 1 ((938:Int32) + p1).toNatClampNeg (0:Int32)) (fun (σ4 : MS) =>
 some σ4)))))
set_option maxHeartbeats 4000000 in
set_option maxRecDepth 100000 in
theorem mX4_thinksAnew (l : Launch) (D : va_G) (dA : Nat → ClassId) (ad : Nat → Nat) {p1 : Int32} {p2 : Int32} {σ : MS} {σz : MS} (hX : fX4_thinksAnew p1 p2 σ = some σz) : Met l yX4_thinksAnew (ws_ yX4_thinksAnew cX4_thinksAnew 3 none) (rmX4_thinksAnew) (mPc D dA ad σ [.int p1, .int p2]) (mQv D dA ad σz) 0 0 (AM ad) := by
  refine Met.ofW (cc := cX4_thinksAnew) (maxL := 3) (ret := none) (by decide) rfl ?_
  intro p e s m args below meth c s₁ B hml hv
  obtain ⟨rfl, hH, hK⟩ := hv
  have hx := B.exec
  have hb := B.bytes
  have hr := B.returns
  have hts := atoms_spec (ws := (ws_ yX4_thinksAnew cX4_thinksAnew 3 none)) B.pre
  have hts : ∀ w ∈ lw_all, w.before _ s = true := fun w h => hts w (List.mem_cons_of_mem _ h)
  have hown : s.vm.findClass RX4 = some m.cls := findClass_of_methodNamed B.named
  have hlocks := B.notSynchronized
  have hl := lv_entry ([.ref (ad 0), .int p1, .int p2]) (n := 3) (Nat.le_of_ble_eq_true rfl)
  rw [lg_entry_eq]
  generalize (lg_sl ([.ref (ad 0), .int p1, .int p2]) ++ List.replicate (3 - (lg_sl ([.ref (ad 0), .int p1, .int p2])).length) Slot.unset).toArray = ls at hl ⊢
  have hl : lv_has ls 3 [(0, .ref (ad 0)), (1, .int p1), (2, .int p2)] := hl
  unfold fX4_thinksAnew at hX
  refine m_start hH (fun H locs hH hS => ?_)
  refine lv_aload_n hx hb dX4_thinksAnew_0 rfl (lv_at hl 0 rfl) ?_
  refine lv_iload_n hx hb dX4_thinksAnew_1 rfl (lv_at hl 1 rfl) ?_
  obtain ⟨σ1, hf, hX⟩ := cl_inv hX
  refine m_callVv (As := [.int p1]) ⟨hx, hb, hml, hown, hts⟩ (mX4_takes l D dA ad hf) (cwV 1 hts (lw_V q1507 q1509 qs57 q95 q1510) rfl rfl rfl (by decide +kernel) ⟨Nat.le_of_ble_eq_true rfl, Nat.le_of_ble_eq_true rfl⟩) hK hH hS rfl hl.1 rfl (Nat.le_of_ble_eq_true rfl) dX4_thinksAnew_2 (fun H locs hH hS => ?_)
  clear hf
  refine lv_aload_n hx hb dX4_thinksAnew_5 rfl (lv_at hl 0 rfl) ?_
  refine lv_iconst (v := (0:Int32)) hx hb dX4_thinksAnew_6 (by decide) ?_
  refine lv_aload_n hx hb dX4_thinksAnew_7 rfl (lv_at hl 0 rfl) ?_
  refine m_get (v := .int (σ1.1 13)) hx hb hts hown hK hH 13 (by decide) (hts _ q1303) rfl dX4_thinksAnew_8 ?_
  refine lv_iload_n hx hb dX4_thinksAnew_11 rfl (lv_at hl 2 rfl) ?_
  obtain ⟨σ2, hf, hX⟩ := cl_inv hX
  refine m_callVv (As := [.int (0:Int32), .int (σ1.1 13), .int p2]) ⟨hx, hb, hml, hown, hts⟩ (mX4_anew l D dA ad hf) (cwV 3 hts (lw_V q1511 q1513 qs58 q95 q1514) rfl rfl rfl (by decide +kernel) ⟨Nat.le_of_ble_eq_true rfl, Nat.le_of_ble_eq_true rfl⟩) hK hH hS rfl hl.1 rfl (Nat.le_of_ble_eq_true rfl) dX4_thinksAnew_12 (fun H locs hH hS => ?_)
  clear hf
  refine lv_aload_n hx hb dX4_thinksAnew_15 rfl (lv_at hl 0 rfl) ?_
  refine lv_iload_n hx hb dX4_thinksAnew_16 rfl (lv_at hl 1 rfl) ?_
  obtain ⟨σ3, hf, hX⟩ := cl_inv hX
  refine m_callVv (As := [.int p1]) ⟨hx, hb, hml, hown, hts⟩ (mX4_puts l D dA ad hf) (cwV 1 hts (lw_V q1524 q1526 qs60 q95 q1527) rfl rfl rfl (by decide +kernel) ⟨Nat.le_of_ble_eq_true rfl, Nat.le_of_ble_eq_true rfl⟩) hK hH hS rfl hl.1 rfl (Nat.le_of_ble_eq_true rfl) dX4_thinksAnew_17 (fun H locs hH hS => ?_)
  clear hf
  refine lv_aload_n hx hb dX4_thinksAnew_20 rfl (lv_at hl 0 rfl) ?_
  refine m_get (v := .ref (ad 1)) hx hb hts hown hK hH 1 (by decide) (hts _ q1291) rfl dX4_thinksAnew_21 ?_
  refine lv_sipush (v := (938:Int32)) hx hb dX4_thinksAnew_24 (by decide) ?_
  refine lv_iload_n hx hb dX4_thinksAnew_27 rfl (lv_at hl 1 rfl) ?_
  refine lv_iadd hx hb dX4_thinksAnew_28 ?_
  refine lv_iconst (v := (0:Int32)) hx hb dX4_thinksAnew_29 (by decide) ?_
  obtain ⟨hg, hX⟩ := gd_inv hX
  refine m_iast hx hb hK hH hS 1 1 (n := 1160) rfl hg rfl dX4_thinksAnew_30 (fun σ4 eσ4 H locs hH hS => ?_)
  replace hX := bd_inv eσ4 hX; clear eσ4
  have e1 := rinv hX; subst e1
  exact W.vret hx hb hr (fun t ht hW => ⟨⟨(), rfl, trivial, hH.to ht⟩, hS.F ht⟩) hS.2.2 dX4_thinksAnew_31
