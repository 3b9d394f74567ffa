/-! printed by gen/model.py -/
abbrev rmX4_runs : Room := { frames := 0, cells := 0, slots := 0, locals := 0 }
def fX4_runs (p1 : Int32) (σ : MS) : Option MS :=
 jn (fun (σ1 : MS) => bd (sf σ1 20 ((σ1.1 20) + (1:Int32))) (fun (σ3 : MS) =>
 some σ3)) (fun (k2 : MS → Option MS) =>
 if (20:Int32) ≤ (σ.1 20) then
 k2 σ
 else
 gd (ib (σ.1 20) 20) (
 bd (sa σ 19 (σ.1 20).toNatClampNeg p1) (fun (σ4 : MS) =>
 k2 σ4)))
set_option maxHeartbeats 4000000 in
set_option maxRecDepth 100000 in
theorem mX4_runs (l : Launch) (D : va_G) (dA : Nat → ClassId) (ad : Nat → Nat) {p1 : Int32} {σ : MS} {σz : MS} (hX : fX4_runs p1 σ = some σz) : Met l yX4_runs (ws_ yX4_runs cX4_runs 2 none) (rmX4_runs) (mPc D dA ad σ [.int p1]) (mQv D dA ad σz) 0 0 (AM ad) := by
  refine Met.ofW (cc := cX4_runs) (maxL := 2) (ret := none) (by decide) rfl ?_
  intro p e s m args below meth c s₁ B hml hv
  obtain ⟨rfl, hH, hK⟩ := hv
  have hx := B.exec
  have hb := B.bytes
  have hr := B.returns
  have hts := atoms_spec (ws := (ws_ yX4_runs cX4_runs 2 none)) B.pre
  have hts : ∀ w ∈ lw_all, w.before _ s = true := fun w h => hts w (List.mem_cons_of_mem _ h)
  have hown : s.vm.findClass RX4 = some m.cls := findClass_of_methodNamed B.named
  have hlocks := B.notSynchronized
  have hl := lv_entry ([.ref (ad 0), .int p1]) (n := 2) (Nat.le_of_ble_eq_true rfl)
  rw [lg_entry_eq]
  generalize (lg_sl ([.ref (ad 0), .int p1]) ++ List.replicate (2 - (lg_sl ([.ref (ad 0), .int p1])).length) Slot.unset).toArray = ls at hl ⊢
  have hl : lv_has ls 2 [(0, .ref (ad 0)), (1, .int p1)] := hl
  unfold fX4_runs at hX
  refine m_start hH (fun H locs hH hS => ?_)
  refine lv_aload_n hx hb dX4_runs_0 rfl (lv_at hl 0 rfl) ?_
  refine m_get (v := .int (σ.1 20)) hx hb hts hown hK hH 20 (by decide) (hts _ q1310) rfl dX4_runs_1 ?_
  refine lv_bipush (v := (20:Int32)) hx hb dX4_runs_4 (by decide) ?_
  refine jnu1 hX (fun (σ1 : MS) => ∀ (H : Heap) (locs : List Loc), HM D dA ad σ1 H → va_S (AM ad) s.heap H locs → ∀ (ls : Array Slot), lv_has ls 2 [(0, .ref (ad 0))] → W p l e (headSpec (ws_ yX4_runs cX4_runs 2 none) (rmX4_runs)).room s m ([.ref (ad 0), .int p1] : List Value).toArray below meth c H locs 0 0 (MQ below (mQv D dA ad σz) ([.ref (ad 0), .int p1] : List Value).toArray s 0 0 (AM ad)) (F0 m 19 ls [])) (fun σ1 hX H locs hH hS ls hl => ?_) (fun k2 hk2 hX => ?_)
  · refine lv_aload_n hx hb dX4_runs_19 rfl (lv_at hl 0 rfl) ?_
    refine lv_dup hx hb dX4_runs_20 rfl ?_
    refine m_get (v := .int (σ1.1 20)) hx hb hts hown hK hH 20 (by decide) (hts _ q1310) rfl dX4_runs_21 ?_
    refine lv_iconst (v := (1:Int32)) hx hb dX4_runs_24 (by decide) ?_
    refine lv_iadd hx hb dX4_runs_25 ?_
    refine m_put (ty := .int) hx hb hts hown hK hH hS 20 (by decide) (hts _ q1310) rfl (tyX4_ok 20 (by decide)) rfl rfl rfl dX4_runs_26 (fun σ3 eσ3 H locs hH hS => ?_)
    replace hX := bd_inv eσ3 hX; clear eσ3
    have e1 := rinv hX; subst e1
    exact W.vret hx hb hr (fun t ht hW => ⟨⟨(), rfl, trivial, hH.to ht⟩, hS.F ht⟩) hS.2.2 dX4_runs_29
  · refine lv_icmp_ge (tgt := 19) hx hb dX4_runs_6 (by decide) (fun hc => ?_) (fun hc => ?_)
    · replace hX := ipos hc hX; clear hc
      exact hk2 σ hX H locs hH hS ls (lv_sub hl [0] rfl)
    · replace hX := ineg hc hX; clear hc
      refine lv_aload_n hx hb dX4_runs_9 rfl (lv_at hl 0 rfl) ?_
      refine m_get (v := .ref (ad 19)) hx hb hts hown hK hH 19 (by decide) (hts _ q1309) rfl dX4_runs_10 ?_
      refine lv_aload_n hx hb dX4_runs_13 rfl (lv_at hl 0 rfl) ?_
      refine m_get (v := .int (σ.1 20)) hx hb hts hown hK hH 20 (by decide) (hts _ q1310) rfl dX4_runs_14 ?_
      refine lv_iload_n hx hb dX4_runs_17 rfl (lv_at hl 1 rfl) ?_
      obtain ⟨hg, hX⟩ := gd_inv hX
      refine m_iast hx hb hK hH hS 8 19 (n := 20) rfl hg rfl dX4_runs_18 (fun σ4 eσ4 H locs hH hS => ?_)
      replace hX := bd_inv eσ4 hX; clear eσ4
      exact hk2 σ4 hX H locs hH hS ls (lv_sub hl [0] rfl)

abbrev rmX4_isUnder : Room := { frames := 0, cells := 0, slots := 0, locals := 0 }
def fX4_isUnder (p1 : Int32) (p2 : Int32) : Option (Int32) :=
 jn (fun (x1 : Int32) => gd (isb x1) (some x1)) (fun (k2 : Int32 → Option (Int32)) =>
 jn (k2 (1:Int32)) (fun (k3 : Option (Int32)) =>
 if p2 = (0:Int32) then
 k3
 else
 if p2 = p1 then
 k3
 else
 jn (jn (k2 (0:Int32)) (fun (k5 : Option (Int32)) =>
 if p2 = (4:Int32) then
 if p1 = (6:Int32) then
 k3
 else
 k5
 else
 k5)) (fun (k4 : Option (Int32)) =>
 if p2 = (1:Int32) then
 if p1 = (2:Int32) then
 k3
 else
 if p1 = (3:Int32) then
 k3
 else
 k4
 else
 k4)))
set_option maxHeartbeats 4000000 in
set_option maxRecDepth 100000 in
theorem mX4_isUnder (l : Launch) {p1 : Int32} {p2 : Int32} {r : Int32} (hX : fX4_isUnder p1 p2 = some r) : Met l yX4_isUnder (ws_ yX4_isUnder cX4_isUnder 2 (some .boolean)) (rmX4_isUnder) (sPc [.int p1, .int p2]) (sQi r) 0 0 noA := by
  refine Met.ofW (cc := cX4_isUnder) (maxL := 2) (ret := (some .boolean)) (by decide) rfl ?_
  intro p e s m args below meth c s₁ B hml hv
  obtain ⟨rfl, -⟩ := hv
  have hx := B.exec
  have hb := B.bytes
  have hr := B.returns
  have hts := atoms_spec (ws := (ws_ yX4_isUnder cX4_isUnder 2 (some .boolean))) B.pre
  have hts : ∀ w ∈ lw_all, w.before _ s = true := fun w h => hts w (List.mem_cons_of_mem _ h)
  have hown : s.vm.findClass RX4 = some m.cls := findClass_of_methodNamed B.named
  have hlocks := B.notSynchronized
  have hl := lv_entry ([.int p1, .int p2]) (n := 2) (Nat.le_of_ble_eq_true rfl)
  rw [lg_entry_eq]
  generalize (lg_sl ([.int p1, .int p2]) ++ List.replicate (2 - (lg_sl ([.int p1, .int p2])).length) Slot.unset).toArray = ls at hl ⊢
  have hl : lv_has ls 2 [(0, .int p1), (1, .int p2)] := hl
  unfold fX4_isUnder at hX
  refine s_start (fun H locs hS => ?_)
  refine lv_iload_n hx hb dX4_isUnder_0 rfl (lv_at hl 1 rfl) ?_
  refine jnu1 hX (fun (x1 : Int32) => ∀ (H : Heap) (locs : List Loc), va_S noA s.heap H locs → ∀ (ls : Array Slot), lv_has ls 2 [] → W p l e (headSpec (ws_ yX4_isUnder cX4_isUnder 2 (some .boolean)) (rmX4_isUnder)).room s m ([.int p1, .int p2] : List Value).toArray below meth c H locs 0 0 (MQ below (sQi r) ([.int p1, .int p2] : List Value).toArray s 0 0 noA) (F0 m 40 ls [.int x1])) (fun x1 hX H locs hS ls hl => ?_) (fun k2 hk2 hX => ?_)
  · obtain ⟨hg, hX⟩ := gd_inv hX
    have e1 := rinv hX; subst e1
    exact W.zret hx hb hr (isb_n hg) (fun t ht hW => ⟨⟨_, (), rfl, rfl, trivial⟩, hS.F ht⟩) hS.2.2 dX4_isUnder_40
  · refine jnu0 hX (∀ (H : Heap) (locs : List Loc), va_S noA s.heap H locs → ∀ (ls : Array Slot), lv_has ls 2 [] → W p l e (headSpec (ws_ yX4_isUnder cX4_isUnder 2 (some .boolean)) (rmX4_isUnder)).room s m ([.int p1, .int p2] : List Value).toArray below meth c H locs 0 0 (MQ below (sQi r) ([.int p1, .int p2] : List Value).toArray s 0 0 noA) (F0 m 35 ls [])) (fun  hX H locs hS ls hl => ?_) (fun k3 hk3 hX => ?_)
    · refine lv_iconst (v := (1:Int32)) hx hb dX4_isUnder_35 (by decide) ?_
      refine lv_goto (tgt := 40) hx hb dX4_isUnder_36 (by decide) ?_
      exact hk2 (1:Int32) hX H locs hS ls (lv_sub hl [] rfl)
    · refine lv_if_eq (tgt := 35) hx hb dX4_isUnder_1 (by decide) (fun hc => ?_) (fun hc => ?_)
      · replace hX := ipos hc hX; clear hc
        exact hk3  hX H locs hS ls (lv_sub hl [] rfl)
      · replace hX := ineg hc hX; clear hc
        refine lv_iload_n hx hb dX4_isUnder_4 rfl (lv_at hl 1 rfl) ?_
        refine lv_iload_n hx hb dX4_isUnder_5 rfl (lv_at hl 0 rfl) ?_
        refine lv_icmp_eq (tgt := 35) hx hb dX4_isUnder_6 (by decide) (fun hc => ?_) (fun hc => ?_)
        · replace hX := ipos hc hX; clear hc
          exact hk3  hX H locs hS ls (lv_sub hl [] rfl)
        · replace hX := ineg hc hX; clear hc
          refine lv_iload_n hx hb dX4_isUnder_9 rfl (lv_at hl 1 rfl) ?_
          refine lv_iconst (v := (1:Int32)) hx hb dX4_isUnder_10 (by decide) ?_
          refine jnu0 hX (∀ (H : Heap) (locs : List Loc), va_S noA s.heap H locs → ∀ (ls : Array Slot), lv_has ls 2 [(0, .int p1), (1, .int p2)] → W p l e (headSpec (ws_ yX4_isUnder cX4_isUnder 2 (some .boolean)) (rmX4_isUnder)).room s m ([.int p1, .int p2] : List Value).toArray below meth c H locs 0 0 (MQ below (sQi r) ([.int p1, .int p2] : List Value).toArray s 0 0 noA) (F0 m 24 ls [])) (fun  hX H locs hS ls hl => ?_) (fun k4 hk4 hX => ?_)
          · refine lv_iload_n hx hb dX4_isUnder_24 rfl (lv_at hl 1 rfl) ?_
            refine lv_iconst (v := (4:Int32)) hx hb dX4_isUnder_25 (by decide) ?_
            refine jnu0 hX (∀ (H : Heap) (locs : List Loc), va_S noA s.heap H locs → ∀ (ls : Array Slot), lv_has ls 2 [] → W p l e (headSpec (ws_ yX4_isUnder cX4_isUnder 2 (some .boolean)) (rmX4_isUnder)).room s m ([.int p1, .int p2] : List Value).toArray below meth c H locs 0 0 (MQ below (sQi r) ([.int p1, .int p2] : List Value).toArray s 0 0 noA) (F0 m 39 ls [])) (fun  hX H locs hS ls hl => ?_) (fun k5 hk5 hX => ?_)
            · refine lv_iconst (v := (0:Int32)) hx hb dX4_isUnder_39 (by decide) ?_
              exact hk2 (0:Int32) hX H locs hS ls (lv_sub hl [] rfl)
            · refine lv_icmp_ne (tgt := 39) hx hb dX4_isUnder_26 (by decide) (fun hc => ?_) (fun hc => ?_)
              · replace hX := ineg hc hX; clear hc
                exact hk5  hX H locs hS ls (lv_sub hl [] rfl)
              · replace hX := ipos hc hX; clear hc
                refine lv_iload_n hx hb dX4_isUnder_29 rfl (lv_at hl 0 rfl) ?_
                refine lv_bipush (v := (6:Int32)) hx hb dX4_isUnder_30 (by decide) ?_
                refine lv_icmp_ne (tgt := 39) hx hb dX4_isUnder_32 (by decide) (fun hc => ?_) (fun hc => ?_)
                · replace hX := ineg hc hX; clear hc
                  exact hk5  hX H locs hS ls (lv_sub hl [] rfl)
                · replace hX := ipos hc hX; clear hc
                  exact hk3  hX H locs hS ls (lv_sub hl [] rfl)
          · refine lv_icmp_ne (tgt := 24) hx hb dX4_isUnder_11 (by decide) (fun hc => ?_) (fun hc => ?_)
            · replace hX := ineg hc hX; clear hc
              exact hk4  hX H locs hS ls (lv_sub hl [0, 1] rfl)
            · replace hX := ipos hc hX; clear hc
              refine lv_iload_n hx hb dX4_isUnder_14 rfl (lv_at hl 0 rfl) ?_
              refine lv_iconst (v := (2:Int32)) hx hb dX4_isUnder_15 (by decide) ?_
              refine lv_icmp_eq (tgt := 35) hx hb dX4_isUnder_16 (by decide) (fun hc => ?_) (fun hc => ?_)
              · replace hX := ipos hc hX; clear hc
                exact hk3  hX H locs hS ls (lv_sub hl [] rfl)
              · replace hX := ineg hc hX; clear hc
                refine lv_iload_n hx hb dX4_isUnder_19 rfl (lv_at hl 0 rfl) ?_
                refine lv_iconst (v := (3:Int32)) hx hb dX4_isUnder_20 (by decide) ?_
                refine lv_icmp_eq (tgt := 35) hx hb dX4_isUnder_21 (by decide) (fun hc => ?_) (fun hc => ?_)
                · replace hX := ipos hc hX; clear hc
                  exact hk3  hX H locs hS ls (lv_sub hl [] rfl)
                · replace hX := ineg hc hX; clear hc
                  exact hk4  hX H locs hS ls (lv_sub hl [0, 1] rfl)

abbrev rmX4_plainHolds : Room := { frames := 1, cells := 0, slots := 0, locals := 21 }
def fX4_plainHolds (p1 : Int32) (σ : MS) : Option (Int32 × MS) :=
 cl (fX4_runs (1:Int32) σ) (fun (σ1 : MS) =>
 some (p1 + (σ1.1 22), σ1))
set_option maxHeartbeats 4000000 in
set_option maxRecDepth 100000 in
theorem mX4_plainHolds (l : Launch) (D : va_G) (dA : Nat → ClassId) (ad : Nat → Nat) {p1 : Int32} {σ : MS} {r : Int32} {σz : MS} (hX : fX4_plainHolds p1 σ = some (r, σz)) : Met l yX4_plainHolds (ws_ yX4_plainHolds cX4_plainHolds 2 (some .int)) (rmX4_plainHolds) (mPc D dA ad σ [.int p1]) (mQi D dA ad r σz) 0 0 (AM ad) := by
  refine Met.ofW (cc := cX4_plainHolds) (maxL := 2) (ret := (some .int)) (by decide) rfl ?_
  intro p e s m args below meth c s₁ B hml hv
  obtain ⟨rfl, hH, hK⟩ := hv
  have hx := B.exec
  have hb := B.bytes
  have hr := B.returns
  have hts := atoms_spec (ws := (ws_ yX4_plainHolds cX4_plainHolds 2 (some .int))) B.pre
  have hts : ∀ w ∈ lw_all, w.before _ s = true := fun w h => hts w (List.mem_cons_of_mem _ h)
  have hown : s.vm.findClass RX4 = some m.cls := findClass_of_methodNamed B.named
  have hlocks := B.notSynchronized
  have hl := lv_entry ([.ref (ad 0), .int p1]) (n := 2) (Nat.le_of_ble_eq_true rfl)
  rw [lg_entry_eq]
  generalize (lg_sl ([.ref (ad 0), .int p1]) ++ List.replicate (2 - (lg_sl ([.ref (ad 0), .int p1])).length) Slot.unset).toArray = ls at hl ⊢
  have hl : lv_has ls 2 [(0, .ref (ad 0)), (1, .int p1)] := hl
  unfold fX4_plainHolds at hX
  refine m_start hH (fun H locs hH hS => ?_)
  refine lv_aload_n hx hb dX4_plainHolds_0 rfl (lv_at hl 0 rfl) ?_
  refine lv_iconst (v := (1:Int32)) hx hb dX4_plainHolds_1 (by decide) ?_
  obtain ⟨σ1, hf, hX⟩ := cl_inv hX
  refine m_callVv (As := [.int (1:Int32)]) ⟨hx, hb, hml, hown, hts⟩ (mX4_runs l D dA ad hf) (cwV 1 hts (lw_V q1707 q1709 qs81 q95 q1710) rfl rfl rfl (by decide +kernel) ⟨Nat.le_of_ble_eq_true rfl, Nat.le_of_ble_eq_true rfl⟩) hK hH hS rfl hl.1 rfl (Nat.le_of_ble_eq_true rfl) dX4_plainHolds_2 (fun H locs hH hS => ?_)
  clear hf
  refine lv_iload_n hx hb dX4_plainHolds_5 rfl (lv_at hl 1 rfl) ?_
  refine lv_aload_n hx hb dX4_plainHolds_6 rfl (lv_at hl 0 rfl) ?_
  refine m_get (v := .int (σ1.1 22)) hx hb hts hown hK hH 22 (by decide) (hts _ q1312) rfl dX4_plainHolds_7 ?_
  refine lv_iadd hx hb dX4_plainHolds_10 ?_
  obtain ⟨e1, e2⟩ := Prod.mk.inj (rinv hX); subst e1; subst e2
  exact W.iret hx hb hr (fun t ht hW => ⟨⟨_, (), rfl, rfl, hH.to ht⟩, hS.F ht⟩) hS.2.2 dX4_plainHolds_11

abbrev rmX4_holdsActs : Room := { frames := 2, cells := 0, slots := 0, locals := 42 }
def fX4_holdsActs (p1 : Int32) (σ : MS) : Option (Int32 × MS) :=
 if (σ.1 21) = (2:Int32) then
 cl (fX4_runs (21:Int32) σ) (fun (σ6 : MS) =>
 cl2 (fX4_plainHolds p1 σ6) (fun (x8 : Int32) (σ7 : MS) =>
 some (-x8, σ7)))
 else
 if (σ.1 21) = (5:Int32) then
 cl (fX4_runs (51:Int32) σ) (fun (σ3 : MS) =>
 cl2 (fX4_plainHolds p1 σ3) (fun (x5 : Int32) (σ4 : MS) =>
 some (x5 ^^^ (σ4.1 22), σ4)))
 else
 cl2 (fX4_plainHolds p1 σ) (fun (x2 : Int32) (σ1 : MS) =>
 some (x2, σ1))
set_option maxHeartbeats 4000000 in
set_option maxRecDepth 100000 in
theorem mX4_holdsActs (l : Launch) (D : va_G) (dA : Nat → ClassId) (ad : Nat → Nat) {p1 : Int32} {σ : MS} {r : Int32} {σz : MS} (hX : fX4_holdsActs p1 σ = some (r, σz)) : Met l yX4_holdsActs (ws_ yX4_holdsActs cX4_holdsActs 2 (some .int)) (rmX4_holdsActs) (mPc D dA ad σ [.int p1]) (mQi D dA ad r σz) 0 0 (AM ad) := by
  refine Met.ofW (cc := cX4_holdsActs) (maxL := 2) (ret := (some .int)) (by decide) rfl ?_
  intro p e s m args below meth c s₁ B hml hv
  obtain ⟨rfl, hH, hK⟩ := hv
  have hx := B.exec
  have hb := B.bytes
  have hr := B.returns
  have hts := atoms_spec (ws := (ws_ yX4_holdsActs cX4_holdsActs 2 (some .int))) B.pre
  have hts : ∀ w ∈ lw_all, w.before _ s = true := fun w h => hts w (List.mem_cons_of_mem _ h)
  have hown : s.vm.findClass RX4 = some m.cls := findClass_of_methodNamed B.named
  have hlocks := B.notSynchronized
  have hl := lv_entry ([.ref (ad 0), .int p1]) (n := 2) (Nat.le_of_ble_eq_true rfl)
  rw [lg_entry_eq]
  generalize (lg_sl ([.ref (ad 0), .int p1]) ++ List.replicate (2 - (lg_sl ([.ref (ad 0), .int p1])).length) Slot.unset).toArray = ls at hl ⊢
  have hl : lv_has ls 2 [(0, .ref (ad 0)), (1, .int p1)] := hl
  unfold fX4_holdsActs at hX
  refine m_start hH (fun H locs hH hS => ?_)
  refine lv_aload_n hx hb dX4_holdsActs_0 rfl (lv_at hl 0 rfl) ?_
  refine m_get (v := .int (σ.1 21)) hx hb hts hown hK hH 21 (by decide) (hts _ q1311) rfl dX4_holdsActs_1 ?_
  refine lv_iconst (v := (2:Int32)) hx hb dX4_holdsActs_4 (by decide) ?_
  refine lv_icmp_ne (tgt := 21) hx hb dX4_holdsActs_5 (by decide) (fun hc => ?_) (fun hc => ?_)
  · replace hX := ineg hc hX; clear hc
    refine lv_aload_n hx hb dX4_holdsActs_21 rfl (lv_at hl 0 rfl) ?_
    refine m_get (v := .int (σ.1 21)) hx hb hts hown hK hH 21 (by decide) (hts _ q1311) rfl dX4_holdsActs_22 ?_
    refine lv_iconst (v := (5:Int32)) hx hb dX4_holdsActs_25 (by decide) ?_
    refine lv_icmp_ne (tgt := 46) hx hb dX4_holdsActs_26 (by decide) (fun hc => ?_) (fun hc => ?_)
    · replace hX := ineg hc hX; clear hc
      refine lv_aload_n hx hb dX4_holdsActs_46 rfl (lv_at hl 0 rfl) ?_
      refine lv_iload_n hx hb dX4_holdsActs_47 rfl (lv_at hl 1 rfl) ?_
      obtain ⟨x2, σ1, hf, hX⟩ := cl2_inv hX
      refine m_callVi (As := [.int p1]) ⟨hx, hb, hml, hown, hts⟩ (mX4_plainHolds l D dA ad hf) (cwV 1 hts (lw_V q1711 q1713 qs82 q95 q1714) rfl rfl rfl (by decide +kernel) ⟨Nat.le_of_ble_eq_true rfl, Nat.le_of_ble_eq_true rfl⟩) hK hH hS rfl hl.1 rfl (Nat.le_of_ble_eq_true rfl) dX4_holdsActs_48 (fun H locs hH hS => ?_)
      clear hf
      obtain ⟨e1, e2⟩ := Prod.mk.inj (rinv hX); subst e1; subst e2
      exact W.iret hx hb hr (fun t ht hW => ⟨⟨_, (), rfl, rfl, hH.to ht⟩, hS.F ht⟩) hS.2.2 dX4_holdsActs_51
    · replace hX := ipos hc hX; clear hc
      refine lv_aload_n hx hb dX4_holdsActs_29 rfl (lv_at hl 0 rfl) ?_
      refine lv_bipush (v := (51:Int32)) hx hb dX4_holdsActs_30 (by decide) ?_
      obtain ⟨σ3, hf, hX⟩ := cl_inv hX
      refine m_callVv (As := [.int (51:Int32)]) ⟨hx, hb, hml, hown, hts⟩ (mX4_runs l D dA ad hf) (cwV 1 hts (lw_V q1707 q1709 qs81 q95 q1710) rfl rfl rfl (by decide +kernel) ⟨Nat.le_of_ble_eq_true rfl, Nat.le_of_ble_eq_true rfl⟩) hK hH hS rfl hl.1 rfl (Nat.le_of_ble_eq_true rfl) dX4_holdsActs_32 (fun H locs hH hS => ?_)
      clear hf
      refine lv_aload_n hx hb dX4_holdsActs_35 rfl (lv_at hl 0 rfl) ?_
      refine lv_iload_n hx hb dX4_holdsActs_36 rfl (lv_at hl 1 rfl) ?_
      obtain ⟨x5, σ4, hf, hX⟩ := cl2_inv hX
      refine m_callVi (As := [.int p1]) ⟨hx, hb, hml, hown, hts⟩ (mX4_plainHolds l D dA ad hf) (cwV 1 hts (lw_V q1711 q1713 qs82 q95 q1714) rfl rfl rfl (by decide +kernel) ⟨Nat.le_of_ble_eq_true rfl, Nat.le_of_ble_eq_true rfl⟩) hK hH hS rfl hl.1 rfl (Nat.le_of_ble_eq_true rfl) dX4_holdsActs_37 (fun H locs hH hS => ?_)
      clear hf
      refine lv_aload_n hx hb dX4_holdsActs_40 rfl (lv_at hl 0 rfl) ?_
      refine m_get (v := .int (σ4.1 22)) hx hb hts hown hK hH 22 (by decide) (hts _ q1312) rfl dX4_holdsActs_41 ?_
      refine lv_ixor hx hb dX4_holdsActs_44 ?_
      obtain ⟨e1, e2⟩ := Prod.mk.inj (rinv hX); subst e1; subst e2
      exact W.iret hx hb hr (fun t ht hW => ⟨⟨_, (), rfl, rfl, hH.to ht⟩, hS.F ht⟩) hS.2.2 dX4_holdsActs_45
  · replace hX := ipos hc hX; clear hc
    refine lv_aload_n hx hb dX4_holdsActs_8 rfl (lv_at hl 0 rfl) ?_
    refine lv_bipush (v := (21:Int32)) hx hb dX4_holdsActs_9 (by decide) ?_
    obtain ⟨σ6, hf, hX⟩ := cl_inv hX
    refine m_callVv (As := [.int (21:Int32)]) ⟨hx, hb, hml, hown, hts⟩ (mX4_runs l D dA ad hf) (cwV 1 hts (lw_V q1707 q1709 qs81 q95 q1710) rfl rfl rfl (by decide +kernel) ⟨Nat.le_of_ble_eq_true rfl, Nat.le_of_ble_eq_true rfl⟩) hK hH hS rfl hl.1 rfl (Nat.le_of_ble_eq_true rfl) dX4_holdsActs_11 (fun H locs hH hS => ?_)
    clear hf
    refine lv_aload_n hx hb dX4_holdsActs_14 rfl (lv_at hl 0 rfl) ?_
    refine lv_iload_n hx hb dX4_holdsActs_15 rfl (lv_at hl 1 rfl) ?_
    obtain ⟨x8, σ7, hf, hX⟩ := cl2_inv hX
    refine m_callVi (As := [.int p1]) ⟨hx, hb, hml, hown, hts⟩ (mX4_plainHolds l D dA ad hf) (cwV 1 hts (lw_V q1711 q1713 qs82 q95 q1714) rfl rfl rfl (by decide +kernel) ⟨Nat.le_of_ble_eq_true rfl, Nat.le_of_ble_eq_true rfl⟩) hK hH hS rfl hl.1 rfl (Nat.le_of_ble_eq_true rfl) dX4_holdsActs_16 (fun H locs hH hS => ?_)
    clear hf
    refine lv_ineg hx hb dX4_holdsActs_19 ?_
    obtain ⟨e1, e2⟩ := Prod.mk.inj (rinv hX); subst e1; subst e2
    exact W.iret hx hb hr (fun t ht hW => ⟨⟨_, (), rfl, rfl, hH.to ht⟩, hS.F ht⟩) hS.2.2 dX4_holdsActs_20

abbrev rmX4_plainLets : Room := { frames := 3, cells := 0, slots := 0, locals := 63 }
def fX4_plainLets (p1 : Int32) (σ : MS) : Option (Int32 × MS) :=
 cl (fX4_runs (2:Int32) σ) (fun (σ1 : MS) =>
 cl2 (fX4_holdsActs p1 σ1) (fun (x3 : Int32) (σ2 : MS) =>
 some (x3 - (σ2.1 23), σ2)))
set_option maxHeartbeats 4000000 in
set_option maxRecDepth 100000 in
theorem mX4_plainLets (l : Launch) (D : va_G) (dA : Nat → ClassId) (ad : Nat → Nat) {p1 : Int32} {σ : MS} {r : Int32} {σz : MS} (hX : fX4_plainLets p1 σ = some (r, σz)) : Met l yX4_plainLets (ws_ yX4_plainLets cX4_plainLets 2 (some .int)) (rmX4_plainLets) (mPc D dA ad σ [.int p1]) (mQi D dA ad r σz) 0 0 (AM ad) := by
  refine Met.ofW (cc := cX4_plainLets) (maxL := 2) (ret := (some .int)) (by decide) rfl ?_
  intro p e s m args below meth c s₁ B hml hv
  obtain ⟨rfl, hH, hK⟩ := hv
  have hx := B.exec
  have hb := B.bytes
  have hr := B.returns
  have hts := atoms_spec (ws := (ws_ yX4_plainLets cX4_plainLets 2 (some .int))) B.pre
  have hts : ∀ w ∈ lw_all, w.before _ s = true := fun w h => hts w (List.mem_cons_of_mem _ h)
  have hown : s.vm.findClass RX4 = some m.cls := findClass_of_methodNamed B.named
  have hlocks := B.notSynchronized
  have hl := lv_entry ([.ref (ad 0), .int p1]) (n := 2) (Nat.le_of_ble_eq_true rfl)
  rw [lg_entry_eq]
  generalize (lg_sl ([.ref (ad 0), .int p1]) ++ List.replicate (2 - (lg_sl ([.ref (ad 0), .int p1])).length) Slot.unset).toArray = ls at hl ⊢
  have hl : lv_has ls 2 [(0, .ref (ad 0)), (1, .int p1)] := hl
  unfold fX4_plainLets at hX
  refine m_start hH (fun H locs hH hS => ?_)
  refine lv_aload_n hx hb dX4_plainLets_0 rfl (lv_at hl 0 rfl) ?_
  refine lv_iconst (v := (2:Int32)) hx hb dX4_plainLets_1 (by decide) ?_
  obtain ⟨σ1, hf, hX⟩ := cl_inv hX
  refine m_callVv (As := [.int (2:Int32)]) ⟨hx, hb, hml, hown, hts⟩ (mX4_runs l D dA ad hf) (cwV 1 hts (lw_V q1707 q1709 qs81 q95 q1710) rfl rfl rfl (by decide +kernel) ⟨Nat.le_of_ble_eq_true rfl, Nat.le_of_ble_eq_true rfl⟩) hK hH hS rfl hl.1 rfl (Nat.le_of_ble_eq_true rfl) dX4_plainLets_2 (fun H locs hH hS => ?_)
  clear hf
  refine lv_aload_n hx hb dX4_plainLets_5 rfl (lv_at hl 0 rfl) ?_
  refine lv_iload_n hx hb dX4_plainLets_6 rfl (lv_at hl 1 rfl) ?_
  obtain ⟨x3, σ2, hf, hX⟩ := cl2_inv hX
  refine m_callVi (As := [.int p1]) ⟨hx, hb, hml, hown, hts⟩ (mX4_holdsActs l D dA ad hf) (cwV 1 hts (lw_V q1703 q1705 qs80 q95 q1706) rfl rfl rfl (by decide +kernel) ⟨Nat.le_of_ble_eq_true rfl, Nat.le_of_ble_eq_true rfl⟩) hK hH hS rfl hl.1 rfl (Nat.le_of_ble_eq_true rfl) dX4_plainLets_7 (fun H locs hH hS => ?_)
  clear hf
  refine lv_aload_n hx hb dX4_plainLets_10 rfl (lv_at hl 0 rfl) ?_
  refine m_get (v := .int (σ2.1 23)) hx hb hts hown hK hH 23 (by decide) (hts _ q1313) rfl dX4_plainLets_11 ?_
  refine lv_isub hx hb dX4_plainLets_14 ?_
  obtain ⟨e1, e2⟩ := Prod.mk.inj (rinv hX); subst e1; subst e2
  exact W.iret hx hb hr (fun t ht hW => ⟨⟨_, (), rfl, rfl, hH.to ht⟩, hS.F ht⟩) hS.2.2 dX4_plainLets_15

abbrev rmX4_letsActs : Room := { frames := 4, cells := 0, slots := 0, locals := 84 }
def fX4_letsActs (p1 : Int32) (σ : MS) : Option (Int32 × MS) :=
 if (σ.1 21) = (6:Int32) then
 cl (fX4_runs (61:Int32) σ) (fun (σ7 : MS) =>
 cl2 (fX4_plainLets p1 σ7) (fun (x9 : Int32) (σ8 : MS) =>
 some (x9 + (σ8.1 23), σ8)))
 else
 cl (fX4_isUnder (σ.1 21) (1:Int32)) (fun (x1 : Int32) =>
 if x1 = (0:Int32) then
 cl2 (fX4_plainLets p1 σ) (fun (x3 : Int32) (σ2 : MS) =>
 some (x3, σ2))
 else
 cl (fX4_runs (11:Int32) σ) (fun (σ4 : MS) =>
 cl2 (fX4_plainLets (p1 * (3:Int32)) σ4) (fun (x6 : Int32) (σ5 : MS) =>
 some (x6, σ5))))
set_option maxHeartbeats 4000000 in
set_option maxRecDepth 100000 in
theorem mX4_letsActs (l : Launch) (D : va_G) (dA : Nat → ClassId) (ad : Nat → Nat) {p1 : Int32} {σ : MS} {r : Int32} {σz : MS} (hX : fX4_letsActs p1 σ = some (r, σz)) : Met l yX4_letsActs (ws_ yX4_letsActs cX4_letsActs 2 (some .int)) (rmX4_letsActs) (mPc D dA ad σ [.int p1]) (mQi D dA ad r σz) 0 0 (AM ad) := by
  refine Met.ofW (cc := cX4_letsActs) (maxL := 2) (ret := (some .int)) (by decide) rfl ?_
  intro p e s m args below meth c s₁ B hml hv
  obtain ⟨rfl, hH, hK⟩ := hv
  have hx := B.exec
  have hb := B.bytes
  have hr := B.returns
  have hts := atoms_spec (ws := (ws_ yX4_letsActs cX4_letsActs 2 (some .int))) B.pre
  have hts : ∀ w ∈ lw_all, w.before _ s = true := fun w h => hts w (List.mem_cons_of_mem _ h)
  have hown : s.vm.findClass RX4 = some m.cls := findClass_of_methodNamed B.named
  have hlocks := B.notSynchronized
  have hl := lv_entry ([.ref (ad 0), .int p1]) (n := 2) (Nat.le_of_ble_eq_true rfl)
  rw [lg_entry_eq]
  generalize (lg_sl ([.ref (ad 0), .int p1]) ++ List.replicate (2 - (lg_sl ([.ref (ad 0), .int p1])).length) Slot.unset).toArray = ls at hl ⊢
  have hl : lv_has ls 2 [(0, .ref (ad 0)), (1, .int p1)] := hl
  unfold fX4_letsActs at hX
  refine m_start hH (fun H locs hH hS => ?_)
  refine lv_aload_n hx hb dX4_letsActs_0 rfl (lv_at hl 0 rfl) ?_
  refine m_get (v := .int (σ.1 21)) hx hb hts hown hK hH 21 (by decide) (hts _ q1311) rfl dX4_letsActs_1 ?_
  refine lv_bipush (v := (6:Int32)) hx hb dX4_letsActs_4 (by decide) ?_
  refine lv_icmp_ne (tgt := 26) hx hb dX4_letsActs_6 (by decide) (fun hc => ?_) (fun hc => ?_)
  · replace hX := ineg hc hX; clear hc
    refine lv_aload_n hx hb dX4_letsActs_26 rfl (lv_at hl 0 rfl) ?_
    refine m_get (v := .int (σ.1 21)) hx hb hts hown hK hH 21 (by decide) (hts _ q1311) rfl dX4_letsActs_27 ?_
    refine lv_iconst (v := (1:Int32)) hx hb dX4_letsActs_30 (by decide) ?_
    obtain ⟨x1, hf, hX⟩ := cl_inv hX
    refine m_callSi (As := [.int (σ.1 21), .int (1:Int32)]) ⟨hx, hb, hml, hown, hts⟩ (mX4_isUnder l hf) (va_cwS 2 hts (lw_S q1723 q1724 q95 q1725) rfl rfl rfl (by decide +kernel) ⟨Nat.le_of_ble_eq_true rfl, Nat.le_of_ble_eq_true rfl⟩) hH hS rfl hl.1 rfl (Nat.le_of_ble_eq_true rfl) dX4_letsActs_31 (fun H locs hH hS => ?_)
    clear hf
    refine lv_if_eq (tgt := 51) hx hb dX4_letsActs_34 (by decide) (fun hc => ?_) (fun hc => ?_)
    · replace hX := ipos hc hX; clear hc
      refine lv_aload_n hx hb dX4_letsActs_51 rfl (lv_at hl 0 rfl) ?_
      refine lv_iload_n hx hb dX4_letsActs_52 rfl (lv_at hl 1 rfl) ?_
      obtain ⟨x3, σ2, hf, hX⟩ := cl2_inv hX
      refine m_callVi (As := [.int p1]) ⟨hx, hb, hml, hown, hts⟩ (mX4_plainLets l D dA ad hf) (cwV 1 hts (lw_V q1719 q1721 qs84 q95 q1722) rfl rfl rfl (by decide +kernel) ⟨Nat.le_of_ble_eq_true rfl, Nat.le_of_ble_eq_true rfl⟩) hK hH hS rfl hl.1 rfl (Nat.le_of_ble_eq_true rfl) dX4_letsActs_53 (fun H locs hH hS => ?_)
      clear hf
      obtain ⟨e1, e2⟩ := Prod.mk.inj (rinv hX); subst e1; subst e2
      exact W.iret hx hb hr (fun t ht hW => ⟨⟨_, (), rfl, rfl, hH.to ht⟩, hS.F ht⟩) hS.2.2 dX4_letsActs_56
    · replace hX := ineg hc hX; clear hc
      refine lv_aload_n hx hb dX4_letsActs_37 rfl (lv_at hl 0 rfl) ?_
      refine lv_bipush (v := (11:Int32)) hx hb dX4_letsActs_38 (by decide) ?_
      obtain ⟨σ4, hf, hX⟩ := cl_inv hX
      refine m_callVv (As := [.int (11:Int32)]) ⟨hx, hb, hml, hown, hts⟩ (mX4_runs l D dA ad hf) (cwV 1 hts (lw_V q1707 q1709 qs81 q95 q1710) rfl rfl rfl (by decide +kernel) ⟨Nat.le_of_ble_eq_true rfl, Nat.le_of_ble_eq_true rfl⟩) hK hH hS rfl hl.1 rfl (Nat.le_of_ble_eq_true rfl) dX4_letsActs_40 (fun H locs hH hS => ?_)
      clear hf
      refine lv_aload_n hx hb dX4_letsActs_43 rfl (lv_at hl 0 rfl) ?_
      refine lv_iload_n hx hb dX4_letsActs_44 rfl (lv_at hl 1 rfl) ?_
      refine lv_iconst (v := (3:Int32)) hx hb dX4_letsActs_45 (by decide) ?_
      refine lv_imul hx hb dX4_letsActs_46 ?_
      obtain ⟨x6, σ5, hf, hX⟩ := cl2_inv hX
      refine m_callVi (As := [.int (p1 * (3:Int32))]) ⟨hx, hb, hml, hown, hts⟩ (mX4_plainLets l D dA ad hf) (cwV 1 hts (lw_V q1719 q1721 qs84 q95 q1722) rfl rfl rfl (by decide +kernel) ⟨Nat.le_of_ble_eq_true rfl, Nat.le_of_ble_eq_true rfl⟩) hK hH hS rfl hl.1 rfl (Nat.le_of_ble_eq_true rfl) dX4_letsActs_47 (fun H locs hH hS => ?_)
      clear hf
      obtain ⟨e1, e2⟩ := Prod.mk.inj (rinv hX); subst e1; subst e2
      exact W.iret hx hb hr (fun t ht hW => ⟨⟨_, (), rfl, rfl, hH.to ht⟩, hS.F ht⟩) hS.2.2 dX4_letsActs_50
  · replace hX := ipos hc hX; clear hc
    refine lv_aload_n hx hb dX4_letsActs_9 rfl (lv_at hl 0 rfl) ?_
    refine lv_bipush (v := (61:Int32)) hx hb dX4_letsActs_10 (by decide) ?_
    obtain ⟨σ7, hf, hX⟩ := cl_inv hX
    refine m_callVv (As := [.int (61:Int32)]) ⟨hx, hb, hml, hown, hts⟩ (mX4_runs l D dA ad hf) (cwV 1 hts (lw_V q1707 q1709 qs81 q95 q1710) rfl rfl rfl (by decide +kernel) ⟨Nat.le_of_ble_eq_true rfl, Nat.le_of_ble_eq_true rfl⟩) hK hH hS rfl hl.1 rfl (Nat.le_of_ble_eq_true rfl) dX4_letsActs_12 (fun H locs hH hS => ?_)
    clear hf
    refine lv_aload_n hx hb dX4_letsActs_15 rfl (lv_at hl 0 rfl) ?_
    refine lv_iload_n hx hb dX4_letsActs_16 rfl (lv_at hl 1 rfl) ?_
    obtain ⟨x9, σ8, hf, hX⟩ := cl2_inv hX
    refine m_callVi (As := [.int p1]) ⟨hx, hb, hml, hown, hts⟩ (mX4_plainLets l D dA ad hf) (cwV 1 hts (lw_V q1719 q1721 qs84 q95 q1722) rfl rfl rfl (by decide +kernel) ⟨Nat.le_of_ble_eq_true rfl, Nat.le_of_ble_eq_true rfl⟩) hK hH hS rfl hl.1 rfl (Nat.le_of_ble_eq_true rfl) dX4_letsActs_17 (fun H locs hH hS => ?_)
    clear hf
    refine lv_aload_n hx hb dX4_letsActs_20 rfl (lv_at hl 0 rfl) ?_
    refine m_get (v := .int (σ8.1 23)) hx hb hts hown hK hH 23 (by decide) (hts _ q1313) rfl dX4_letsActs_21 ?_
    refine lv_iadd hx hb dX4_letsActs_24 ?_
    obtain ⟨e1, e2⟩ := Prod.mk.inj (rinv hX); subst e1; subst e2
    exact W.iret hx hb hr (fun t ht hW => ⟨⟨_, (), rfl, rfl, hH.to ht⟩, hS.F ht⟩) hS.2.2 dX4_letsActs_25

abbrev rmX4_plainCosts : Room := { frames := 5, cells := 0, slots := 0, locals := 105 }
def fX4_plainCosts (p1 : Int32) (σ : MS) : Option (Int32 × MS) :=
 cl (fX4_runs (3:Int32) σ) (fun (σ1 : MS) =>
 cl2 (fX4_letsActs p1 σ1) (fun (x3 : Int32) (σ2 : MS) =>
 some (x3 * (2:Int32), σ2)))
set_option maxHeartbeats 4000000 in
set_option maxRecDepth 100000 in
theorem mX4_plainCosts (l : Launch) (D : va_G) (dA : Nat → ClassId) (ad : Nat → Nat) {p1 : Int32} {σ : MS} {r : Int32} {σz : MS} (hX : fX4_plainCosts p1 σ = some (r, σz)) : Met l yX4_plainCosts (ws_ yX4_plainCosts cX4_plainCosts 2 (some .int)) (rmX4_plainCosts) (mPc D dA ad σ [.int p1]) (mQi D dA ad r σz) 0 0 (AM ad) := by
  refine Met.ofW (cc := cX4_plainCosts) (maxL := 2) (ret := (some .int)) (by decide) rfl ?_
  intro p e s m args below meth c s₁ B hml hv
  obtain ⟨rfl, hH, hK⟩ := hv
  have hx := B.exec
  have hb := B.bytes
  have hr := B.returns
  have hts := atoms_spec (ws := (ws_ yX4_plainCosts cX4_plainCosts 2 (some .int))) B.pre
  have hts : ∀ w ∈ lw_all, w.before _ s = true := fun w h => hts w (List.mem_cons_of_mem _ h)
  have hown : s.vm.findClass RX4 = some m.cls := findClass_of_methodNamed B.named
  have hlocks := B.notSynchronized
  have hl := lv_entry ([.ref (ad 0), .int p1]) (n := 2) (Nat.le_of_ble_eq_true rfl)
  rw [lg_entry_eq]
  generalize (lg_sl ([.ref (ad 0), .int p1]) ++ List.replicate (2 - (lg_sl ([.ref (ad 0), .int p1])).length) Slot.unset).toArray = ls at hl ⊢
  have hl : lv_has ls 2 [(0, .ref (ad 0)), (1, .int p1)] := hl
  unfold fX4_plainCosts at hX
  refine m_start hH (fun H locs hH hS => ?_)
  refine lv_aload_n hx hb dX4_plainCosts_0 rfl (lv_at hl 0 rfl) ?_
  refine lv_iconst (v := (3:Int32)) hx hb dX4_plainCosts_1 (by decide) ?_
  obtain ⟨σ1, hf, hX⟩ := cl_inv hX
  refine m_callVv (As := [.int (3:Int32)]) ⟨hx, hb, hml, hown, hts⟩ (mX4_runs l D dA ad hf) (cwV 1 hts (lw_V q1707 q1709 qs81 q95 q1710) rfl rfl rfl (by decide +kernel) ⟨Nat.le_of_ble_eq_true rfl, Nat.le_of_ble_eq_true rfl⟩) hK hH hS rfl hl.1 rfl (Nat.le_of_ble_eq_true rfl) dX4_plainCosts_2 (fun H locs hH hS => ?_)
  clear hf
  refine lv_aload_n hx hb dX4_plainCosts_5 rfl (lv_at hl 0 rfl) ?_
  refine lv_iload_n hx hb dX4_plainCosts_6 rfl (lv_at hl 1 rfl) ?_
  obtain ⟨x3, σ2, hf, hX⟩ := cl2_inv hX
  refine m_callVi (As := [.int p1]) ⟨hx, hb, hml, hown, hts⟩ (mX4_letsActs l D dA ad hf) (cwV 1 hts (lw_V q1715 q1717 qs83 q95 q1718) rfl rfl rfl (by decide +kernel) ⟨Nat.le_of_ble_eq_true rfl, Nat.le_of_ble_eq_true rfl⟩) hK hH hS rfl hl.1 rfl (Nat.le_of_ble_eq_true rfl) dX4_plainCosts_7 (fun H locs hH hS => ?_)
  clear hf
  refine lv_iconst (v := (2:Int32)) hx hb dX4_plainCosts_10 (by decide) ?_
  refine lv_imul hx hb dX4_plainCosts_11 ?_
  obtain ⟨e1, e2⟩ := Prod.mk.inj (rinv hX); subst e1; subst e2
  exact W.iret hx hb hr (fun t ht hW => ⟨⟨_, (), rfl, rfl, hH.to ht⟩, hS.F ht⟩) hS.2.2 dX4_plainCosts_12

abbrev rmX4_costsActs : Room := { frames := 6, cells := 0, slots := 0, locals := 126 }
def fX4_costsActs (p1 : Int32) (σ : MS) : Option (Int32 × MS) :=
 if (σ.1 21) = (3:Int32) then
 cl (fX4_runs (31:Int32) σ) (fun (σ9 : MS) =>
 cl2 (fX4_plainCosts p1 σ9) (fun (x11 : Int32) (σ10 : MS) =>
 some (x11 ^^^ (7:Int32), σ10)))
 else
 cl (fX4_isUnder (σ.1 21) (4:Int32)) (fun (x1 : Int32) =>
 if x1 = (0:Int32) then
 cl2 (fX4_plainCosts p1 σ) (fun (x3 : Int32) (σ2 : MS) =>
 some (x3, σ2))
 else
 cl (fX4_runs (41:Int32) σ) (fun (σ4 : MS) =>
 cl2 (fX4_plainCosts (p1 - (1:Int32)) σ4) (fun (x6 : Int32) (σ5 : MS) =>
 cl2 (fX4_holdsActs (2:Int32) σ5) (fun (x8 : Int32) (σ7 : MS) =>
 some (x6 + x8, σ7)))))
set_option maxHeartbeats 4000000 in
set_option maxRecDepth 100000 in
theorem mX4_costsActs (l : Launch) (D : va_G) (dA : Nat → ClassId) (ad : Nat → Nat) {p1 : Int32} {σ : MS} {r : Int32} {σz : MS} (hX : fX4_costsActs p1 σ = some (r, σz)) : Met l yX4_costsActs (ws_ yX4_costsActs cX4_costsActs 3 (some .int)) (rmX4_costsActs) (mPc D dA ad σ [.int p1]) (mQi D dA ad r σz) 0 0 (AM ad) := by
  refine Met.ofW (cc := cX4_costsActs) (maxL := 3) (ret := (some .int)) (by decide) rfl ?_
  intro p e s m args below meth c s₁ B hml hv
  obtain ⟨rfl, hH, hK⟩ := hv
  have hx := B.exec
  have hb := B.bytes
  have hr := B.returns
  have hts := atoms_spec (ws := (ws_ yX4_costsActs cX4_costsActs 3 (some .int))) B.pre
  have hts : ∀ w ∈ lw_all, w.before _ s = true := fun w h => hts w (List.mem_cons_of_mem _ h)
  have hown : s.vm.findClass RX4 = some m.cls := findClass_of_methodNamed B.named
  have hlocks := B.notSynchronized
  have hl := lv_entry ([.ref (ad 0), .int p1]) (n := 3) (Nat.le_of_ble_eq_true rfl)
  rw [lg_entry_eq]
  generalize (lg_sl ([.ref (ad 0), .int p1]) ++ List.replicate (3 - (lg_sl ([.ref (ad 0), .int p1])).length) Slot.unset).toArray = ls at hl ⊢
  have hl : lv_has ls 3 [(0, .ref (ad 0)), (1, .int p1)] := hl
  unfold fX4_costsActs at hX
  refine m_start hH (fun H locs hH hS => ?_)
  refine lv_aload_n hx hb dX4_costsActs_0 rfl (lv_at hl 0 rfl) ?_
  refine m_get (v := .int (σ.1 21)) hx hb hts hown hK hH 21 (by decide) (hts _ q1311) rfl dX4_costsActs_1 ?_
  refine lv_iconst (v := (3:Int32)) hx hb dX4_costsActs_4 (by decide) ?_
  refine lv_icmp_ne (tgt := 23) hx hb dX4_costsActs_5 (by decide) (fun hc => ?_) (fun hc => ?_)
  · replace hX := ineg hc hX; clear hc
    refine lv_aload_n hx hb dX4_costsActs_23 rfl (lv_at hl 0 rfl) ?_
    refine m_get (v := .int (σ.1 21)) hx hb hts hown hK hH 21 (by decide) (hts _ q1311) rfl dX4_costsActs_24 ?_
    refine lv_iconst (v := (4:Int32)) hx hb dX4_costsActs_27 (by decide) ?_
    obtain ⟨x1, hf, hX⟩ := cl_inv hX
    refine m_callSi (As := [.int (σ.1 21), .int (4:Int32)]) ⟨hx, hb, hml, hown, hts⟩ (mX4_isUnder l hf) (va_cwS 2 hts (lw_S q1723 q1724 q95 q1725) rfl rfl rfl (by decide +kernel) ⟨Nat.le_of_ble_eq_true rfl, Nat.le_of_ble_eq_true rfl⟩) hH hS rfl hl.1 rfl (Nat.le_of_ble_eq_true rfl) dX4_costsActs_28 (fun H locs hH hS => ?_)
    clear hf
    refine lv_if_eq (tgt := 56) hx hb dX4_costsActs_31 (by decide) (fun hc => ?_) (fun hc => ?_)
    · replace hX := ipos hc hX; clear hc
      refine lv_aload_n hx hb dX4_costsActs_56 rfl (lv_at hl 0 rfl) ?_
      refine lv_iload_n hx hb dX4_costsActs_57 rfl (lv_at hl 1 rfl) ?_
      obtain ⟨x3, σ2, hf, hX⟩ := cl2_inv hX
      refine m_callVi (As := [.int p1]) ⟨hx, hb, hml, hown, hts⟩ (mX4_plainCosts l D dA ad hf) (cwV 1 hts (lw_V q1730 q1732 qs86 q95 q1733) rfl rfl rfl (by decide +kernel) ⟨Nat.le_of_ble_eq_true rfl, Nat.le_of_ble_eq_true rfl⟩) hK hH hS rfl hl.1 rfl (Nat.le_of_ble_eq_true rfl) dX4_costsActs_58 (fun H locs hH hS => ?_)
      clear hf
      obtain ⟨e1, e2⟩ := Prod.mk.inj (rinv hX); subst e1; subst e2
      exact W.iret hx hb hr (fun t ht hW => ⟨⟨_, (), rfl, rfl, hH.to ht⟩, hS.F ht⟩) hS.2.2 dX4_costsActs_61
    · replace hX := ineg hc hX; clear hc
      refine lv_aload_n hx hb dX4_costsActs_34 rfl (lv_at hl 0 rfl) ?_
      refine lv_bipush (v := (41:Int32)) hx hb dX4_costsActs_35 (by decide) ?_
      obtain ⟨σ4, hf, hX⟩ := cl_inv hX
      refine m_callVv (As := [.int (41:Int32)]) ⟨hx, hb, hml, hown, hts⟩ (mX4_runs l D dA ad hf) (cwV 1 hts (lw_V q1707 q1709 qs81 q95 q1710) rfl rfl rfl (by decide +kernel) ⟨Nat.le_of_ble_eq_true rfl, Nat.le_of_ble_eq_true rfl⟩) hK hH hS rfl hl.1 rfl (Nat.le_of_ble_eq_true rfl) dX4_costsActs_37 (fun H locs hH hS => ?_)
      clear hf
      refine lv_aload_n hx hb dX4_costsActs_40 rfl (lv_at hl 0 rfl) ?_
      refine lv_iload_n hx hb dX4_costsActs_41 rfl (lv_at hl 1 rfl) ?_
      refine lv_iconst (v := (1:Int32)) hx hb dX4_costsActs_42 (by decide) ?_
      refine lv_isub hx hb dX4_costsActs_43 ?_
      obtain ⟨x6, σ5, hf, hX⟩ := cl2_inv hX
      refine m_callVi (As := [.int (p1 - (1:Int32))]) ⟨hx, hb, hml, hown, hts⟩ (mX4_plainCosts l D dA ad hf) (cwV 1 hts (lw_V q1730 q1732 qs86 q95 q1733) rfl rfl rfl (by decide +kernel) ⟨Nat.le_of_ble_eq_true rfl, Nat.le_of_ble_eq_true rfl⟩) hK hH hS rfl hl.1 rfl (Nat.le_of_ble_eq_true rfl) dX4_costsActs_44 (fun H locs hH hS => ?_)
      clear hf
      refine lv_istore_n (lv' := [(2, .int x6), (0, .ref (ad 0)), (1, .int p1)]) hx hb dX4_costsActs_47 rfl hl (by decide) rfl (fun ls hl => ?_)
      refine lv_iload_n hx hb dX4_costsActs_48 rfl (lv_at hl 0 rfl) ?_
      refine lv_aload_n hx hb dX4_costsActs_49 rfl (lv_at hl 1 rfl) ?_
      refine lv_iconst (v := (2:Int32)) hx hb dX4_costsActs_50 (by decide) ?_
      obtain ⟨x8, σ7, hf, hX⟩ := cl2_inv hX
      refine m_callVi (As := [.int (2:Int32)]) ⟨hx, hb, hml, hown, hts⟩ (mX4_holdsActs l D dA ad hf) (cwV 1 hts (lw_V q1703 q1705 qs80 q95 q1706) rfl rfl rfl (by decide +kernel) ⟨Nat.le_of_ble_eq_true rfl, Nat.le_of_ble_eq_true rfl⟩) hK hH hS rfl hl.1 rfl (Nat.le_of_ble_eq_true rfl) dX4_costsActs_51 (fun H locs hH hS => ?_)
      clear hf
      refine lv_iadd hx hb dX4_costsActs_54 ?_
      obtain ⟨e1, e2⟩ := Prod.mk.inj (rinv hX); subst e1; subst e2
      exact W.iret hx hb hr (fun t ht hW => ⟨⟨_, (), rfl, rfl, hH.to ht⟩, hS.F ht⟩) hS.2.2 dX4_costsActs_55
  · replace hX := ipos hc hX; clear hc
    refine lv_aload_n hx hb dX4_costsActs_8 rfl (lv_at hl 0 rfl) ?_
    refine lv_bipush (v := (31:Int32)) hx hb dX4_costsActs_9 (by decide) ?_
    obtain ⟨σ9, hf, hX⟩ := cl_inv hX
    refine m_callVv (As := [.int (31:Int32)]) ⟨hx, hb, hml, hown, hts⟩ (mX4_runs l D dA ad hf) (cwV 1 hts (lw_V q1707 q1709 qs81 q95 q1710) rfl rfl rfl (by decide +kernel) ⟨Nat.le_of_ble_eq_true rfl, Nat.le_of_ble_eq_true rfl⟩) hK hH hS rfl hl.1 rfl (Nat.le_of_ble_eq_true rfl) dX4_costsActs_11 (fun H locs hH hS => ?_)
    clear hf
    refine lv_aload_n hx hb dX4_costsActs_14 rfl (lv_at hl 0 rfl) ?_
    refine lv_iload_n hx hb dX4_costsActs_15 rfl (lv_at hl 1 rfl) ?_
    obtain ⟨x11, σ10, hf, hX⟩ := cl2_inv hX
    refine m_callVi (As := [.int p1]) ⟨hx, hb, hml, hown, hts⟩ (mX4_plainCosts l D dA ad hf) (cwV 1 hts (lw_V q1730 q1732 qs86 q95 q1733) rfl rfl rfl (by decide +kernel) ⟨Nat.le_of_ble_eq_true rfl, Nat.le_of_ble_eq_true rfl⟩) hK hH hS rfl hl.1 rfl (Nat.le_of_ble_eq_true rfl) dX4_costsActs_16 (fun H locs hH hS => ?_)
    clear hf
    refine lv_bipush (v := (7:Int32)) hx hb dX4_costsActs_19 (by decide) ?_
    refine lv_ixor hx hb dX4_costsActs_21 ?_
    obtain ⟨e1, e2⟩ := Prod.mk.inj (rinv hX); subst e1; subst e2
    exact W.iret hx hb hr (fun t ht hW => ⟨⟨_, (), rfl, rfl, hH.to ht⟩, hS.F ht⟩) hS.2.2 dX4_costsActs_22

abbrev rmX4_act : Room := { frames := 7, cells := 0, slots := 0, locals := 148 }
def fX4_act (p1 : Int32) (p2 : Int32) (p3 : Int32) (σ : MS) : Option (Int32 × MS) :=
 bd (sf σ 20 (0:Int32)) (fun (σ1 : MS) =>
 cl (fX4_isRule p1 σ1) (fun (x2 : Int32) =>
 jn (some ((0:Int32), σ1)) (fun (k3 : Option (Int32 × MS)) =>
 if x2 = (0:Int32) then
 k3
 else
 cl (fX4_in p2 (0:Int32) (2:Int32)) (fun (x4 : Int32) =>
 if x4 = (0:Int32) then
 k3
 else
 gd (ib ((1000:Int32) + p1) 1160) (
 bd (sf σ1 21 (σ1.2.1 1 ((1000:Int32) + p1).toNatClampNeg)) (fun (σ5 : MS) =>
 bd (sf σ5 22 p1) (fun (σ6 : MS) =>
 gd (ib ((1012:Int32) + p1) 1160) (
 bd (sf σ6 23 (σ6.2.1 1 ((1012:Int32) + p1).toNatClampNeg)) (fun (σ7 : MS) =>
 jn (fun (x8 : Int32) (σ9 : MS) => some (x8, σ9)) (fun (k10 : Int32 → MS → Option (Int32 × MS)) =>
 if p2 = (0:Int32) then
 cl2 (fX4_holdsActs p3 σ7) (fun (x16 : Int32) (σ15 : MS) =>
 k10 x16 σ15)
 else
 if p2 = (1:Int32) then
 cl2 (fX4_letsActs p3 σ7) (fun (x14 : Int32) (σ13 : MS) =>
 k10 x14 σ13)
 else
 cl2 (fX4_costsActs p3 σ7) (fun (x12 : Int32) (σ11 : MS) =>
 k10 x12 σ11)))))))))))
set_option maxHeartbeats 4000000 in
set_option maxRecDepth 100000 in
theorem mX4_act (l : Launch) (D : va_G) (dA : Nat → ClassId) (ad : Nat → Nat) {p1 : Int32} {p2 : Int32} {p3 : Int32} {σ : MS} {r : Int32} {σz : MS} (hX : fX4_act p1 p2 p3 σ = some (r, σz)) : Met l yX4_act (ws_ yX4_act cX4_act 4 (some .int)) (rmX4_act) (mPc D dA ad σ [.int p1, .int p2, .int p3]) (mQi D dA ad r σz) 0 0 (AM ad) := by
  refine Met.ofW (cc := cX4_act) (maxL := 4) (ret := (some .int)) (by decide) rfl ?_
  intro p e s m args below meth c s₁ B hml hv
  obtain ⟨rfl, hH, hK⟩ := hv
  have hx := B.exec
  have hb := B.bytes
  have hr := B.returns
  have hts := atoms_spec (ws := (ws_ yX4_act cX4_act 4 (some .int))) B.pre
  have hts : ∀ w ∈ lw_all, w.before _ s = true := fun w h => hts w (List.mem_cons_of_mem _ h)
  have hown : s.vm.findClass RX4 = some m.cls := findClass_of_methodNamed B.named
  have hlocks := B.notSynchronized
  have hl := lv_entry ([.ref (ad 0), .int p1, .int p2, .int p3]) (n := 4) (Nat.le_of_ble_eq_true rfl)
  rw [lg_entry_eq]
  generalize (lg_sl ([.ref (ad 0), .int p1, .int p2, .int p3]) ++ List.replicate (4 - (lg_sl ([.ref (ad 0), .int p1, .int p2, .int p3])).length) Slot.unset).toArray = ls at hl ⊢
  have hl : lv_has ls 4 [(0, .ref (ad 0)), (1, .int p1), (2, .int p2), (3, .int p3)] := hl
  unfold fX4_act at hX
  refine m_start hH (fun H locs hH hS => ?_)
  refine lv_aload_n hx hb dX4_act_0 rfl (lv_at hl 0 rfl) ?_
  refine lv_iconst (v := (0:Int32)) hx hb dX4_act_1 (by decide) ?_
  refine m_put (ty := .int) hx hb hts hown hK hH hS 20 (by decide) (hts _ q1310) rfl (tyX4_ok 20 (by decide)) rfl rfl rfl dX4_act_2 (fun σ1 eσ1 H locs hH hS => ?_)
  replace hX := bd_inv eσ1 hX; clear eσ1
  refine lv_aload_n hx hb dX4_act_5 rfl (lv_at hl 0 rfl) ?_
  refine lv_iload_n hx hb dX4_act_6 rfl (lv_at hl 1 rfl) ?_
  obtain ⟨x2, hf, hX⟩ := cl_inv hX
  refine m_callVi (As := [.int p1]) ⟨hx, hb, hml, hown, hts⟩ (mX4_isRule l D dA ad hf) (cwV 1 hts (lw_V q1588 q1590 qs67 q95 q1591) rfl rfl rfl (by decide +kernel) ⟨Nat.le_of_ble_eq_true rfl, Nat.le_of_ble_eq_true rfl⟩) hK hH hS rfl hl.1 rfl (Nat.le_of_ble_eq_true rfl) dX4_act_7 (fun H locs hH hS => ?_)
  clear hf
  refine jnu0 hX (∀ (H : Heap) (locs : List Loc), HM D dA ad σ1 H → va_S (AM ad) s.heap H locs → ∀ (ls : Array Slot), lv_has ls 4 [] → W p l e (headSpec (ws_ yX4_act cX4_act 4 (some .int)) (rmX4_act)).room s m ([.ref (ad 0), .int p1, .int p2, .int p3] : List Value).toArray below meth c H locs 0 0 (MQ below (mQi D dA ad r σz) ([.ref (ad 0), .int p1, .int p2, .int p3] : List Value).toArray s 0 0 (AM ad)) (F0 m 22 ls [])) (fun  hX H locs hH hS ls hl => ?_) (fun k3 hk3 hX => ?_)
  · refine lv_iconst (v := (0:Int32)) hx hb dX4_act_22 (by decide) ?_
    obtain ⟨e1, e2⟩ := Prod.mk.inj (rinv hX); subst e1; subst e2
    exact W.iret hx hb hr (fun t ht hW => ⟨⟨_, (), rfl, rfl, hH.to ht⟩, hS.F ht⟩) hS.2.2 dX4_act_23
  · refine lv_if_eq (tgt := 22) hx hb dX4_act_10 (by decide) (fun hc => ?_) (fun hc => ?_)
    · replace hX := ipos hc hX; clear hc
      exact hk3  hX H locs hH hS ls (lv_sub hl [] rfl)
    · replace hX := ineg hc hX; clear hc
      refine lv_iload_n hx hb dX4_act_13 rfl (lv_at hl 2 rfl) ?_
      refine lv_iconst (v := (0:Int32)) hx hb dX4_act_14 (by decide) ?_
      refine lv_iconst (v := (2:Int32)) hx hb dX4_act_15 (by decide) ?_
      obtain ⟨x4, hf, hX⟩ := cl_inv hX
      refine m_callSi (As := [.int p2, .int (0:Int32), .int (2:Int32)]) ⟨hx, hb, hml, hown, hts⟩ (mX4_in l hf) (va_cwS 3 hts (lw_S q1368 q1369 q95 q1370) rfl rfl rfl (by decide +kernel) ⟨Nat.le_of_ble_eq_true rfl, Nat.le_of_ble_eq_true rfl⟩) hH hS rfl hl.1 rfl (Nat.le_of_ble_eq_true rfl) dX4_act_16 (fun H locs hH hS => ?_)
      clear hf
      refine lv_if_ne (tgt := 24) hx hb dX4_act_19 (by decide) (fun hc => ?_) (fun hc => ?_)
      · replace hX := ineg hc hX; clear hc
        refine lv_aload_n hx hb dX4_act_24 rfl (lv_at hl 0 rfl) ?_
        refine lv_aload_n hx hb dX4_act_25 rfl (lv_at hl 0 rfl) ?_
        refine m_get (v := .ref (ad 1)) hx hb hts hown hK hH 1 (by decide) (hts _ q1291) rfl dX4_act_26 ?_
        refine lv_sipush (v := (1000:Int32)) hx hb dX4_act_29 (by decide) ?_
        refine lv_iload_n hx hb dX4_act_32 rfl (lv_at hl 1 rfl) ?_
        refine lv_iadd hx hb dX4_act_33 ?_
        obtain ⟨hg, hX⟩ := gd_inv hX
        refine m_iald hx hb hK hH 1 1 (n := 1160) rfl hg dX4_act_34 ?_
        refine m_put (ty := .int) hx hb hts hown hK hH hS 21 (by decide) (hts _ q1311) rfl (tyX4_ok 21 (by decide)) rfl rfl rfl dX4_act_35 (fun σ5 eσ5 H locs hH hS => ?_)
        replace hX := bd_inv eσ5 hX; clear eσ5
        refine lv_aload_n hx hb dX4_act_38 rfl (lv_at hl 0 rfl) ?_
        refine lv_iload_n hx hb dX4_act_39 rfl (lv_at hl 1 rfl) ?_
        refine m_put (ty := .int) hx hb hts hown hK hH hS 22 (by decide) (hts _ q1312) rfl (tyX4_ok 22 (by decide)) rfl rfl rfl dX4_act_40 (fun σ6 eσ6 H locs hH hS => ?_)
        replace hX := bd_inv eσ6 hX; clear eσ6
        refine lv_aload_n hx hb dX4_act_43 rfl (lv_at hl 0 rfl) ?_
        refine lv_aload_n hx hb dX4_act_44 rfl (lv_at hl 0 rfl) ?_
        refine m_get (v := .ref (ad 1)) hx hb hts hown hK hH 1 (by decide) (hts _ q1291) rfl dX4_act_45 ?_
        refine lv_sipush (v := (1012:Int32)) hx hb dX4_act_48 (by decide) ?_
        refine lv_iload_n hx hb dX4_act_51 rfl (lv_at hl 1 rfl) ?_
        refine lv_iadd hx hb dX4_act_52 ?_
        obtain ⟨hg, hX⟩ := gd_inv hX
        refine m_iald hx hb hK hH 1 1 (n := 1160) rfl hg dX4_act_53 ?_
        refine m_put (ty := .int) hx hb hts hown hK hH hS 23 (by decide) (hts _ q1313) rfl (tyX4_ok 23 (by decide)) rfl rfl rfl dX4_act_54 (fun σ7 eσ7 H locs hH hS => ?_)
        replace hX := bd_inv eσ7 hX; clear eσ7
        refine lv_iload_n hx hb dX4_act_57 rfl (lv_at hl 2 rfl) ?_
        refine jnu2 hX (fun (x8 : Int32) (σ9 : MS) => ∀ (H : Heap) (locs : List Loc), HM D dA ad σ9 H → va_S (AM ad) s.heap H locs → ∀ (ls : Array Slot), lv_has ls 4 [] → W p l e (headSpec (ws_ yX4_act cX4_act 4 (some .int)) (rmX4_act)).room s m ([.ref (ad 0), .int p1, .int p2, .int p3] : List Value).toArray below meth c H locs 0 0 (MQ below (mQi D dA ad r σz) ([.ref (ad 0), .int p1, .int p2, .int p3] : List Value).toArray s 0 0 (AM ad)) (F0 m 87 ls [.int x8])) (fun x8 σ9 hX H locs hH hS ls hl => ?_) (fun k10 hk10 hX => ?_)
        · obtain ⟨e1, e2⟩ := Prod.mk.inj (rinv hX); subst e1; subst e2
          exact W.iret hx hb hr (fun t ht hW => ⟨⟨_, (), rfl, rfl, hH.to ht⟩, hS.F ht⟩) hS.2.2 dX4_act_87
        · refine lv_if_ne (tgt := 69) hx hb dX4_act_58 (by decide) (fun hc => ?_) (fun hc => ?_)
          · replace hX := ineg hc hX; clear hc
            refine lv_iload_n hx hb dX4_act_69 rfl (lv_at hl 2 rfl) ?_
            refine lv_iconst (v := (1:Int32)) hx hb dX4_act_70 (by decide) ?_
            refine lv_icmp_ne (tgt := 82) hx hb dX4_act_71 (by decide) (fun hc => ?_) (fun hc => ?_)
            · replace hX := ineg hc hX; clear hc
              refine lv_aload_n hx hb dX4_act_82 rfl (lv_at hl 0 rfl) ?_
              refine lv_iload_n hx hb dX4_act_83 rfl (lv_at hl 3 rfl) ?_
              obtain ⟨x12, σ11, hf, hX⟩ := cl2_inv hX
              refine m_callVi (As := [.int p3]) ⟨hx, hb, hml, hown, hts⟩ (mX4_costsActs l D dA ad hf) (cwV 1 hts (lw_V q1726 q1728 qs85 q95 q1729) rfl rfl rfl (by decide +kernel) ⟨Nat.le_of_ble_eq_true rfl, Nat.le_of_ble_eq_true rfl⟩) hK hH hS rfl hl.1 rfl (Nat.le_of_ble_eq_true rfl) dX4_act_84 (fun H locs hH hS => ?_)
              clear hf
              exact hk10 x12 σ11 hX H locs hH hS ls (lv_sub hl [] rfl)
            · replace hX := ipos hc hX; clear hc
              refine lv_aload_n hx hb dX4_act_74 rfl (lv_at hl 0 rfl) ?_
              refine lv_iload_n hx hb dX4_act_75 rfl (lv_at hl 3 rfl) ?_
              obtain ⟨x14, σ13, hf, hX⟩ := cl2_inv hX
              refine m_callVi (As := [.int p3]) ⟨hx, hb, hml, hown, hts⟩ (mX4_letsActs l D dA ad hf) (cwV 1 hts (lw_V q1715 q1717 qs83 q95 q1718) rfl rfl rfl (by decide +kernel) ⟨Nat.le_of_ble_eq_true rfl, Nat.le_of_ble_eq_true rfl⟩) hK hH hS rfl hl.1 rfl (Nat.le_of_ble_eq_true rfl) dX4_act_76 (fun H locs hH hS => ?_)
              clear hf
              refine lv_goto (tgt := 87) hx hb dX4_act_79 (by decide) ?_
              exact hk10 x14 σ13 hX H locs hH hS ls (lv_sub hl [] rfl)
          · replace hX := ipos hc hX; clear hc
            refine lv_aload_n hx hb dX4_act_61 rfl (lv_at hl 0 rfl) ?_
            refine lv_iload_n hx hb dX4_act_62 rfl (lv_at hl 3 rfl) ?_
            obtain ⟨x16, σ15, hf, hX⟩ := cl2_inv hX
            refine m_callVi (As := [.int p3]) ⟨hx, hb, hml, hown, hts⟩ (mX4_holdsActs l D dA ad hf) (cwV 1 hts (lw_V q1703 q1705 qs80 q95 q1706) rfl rfl rfl (by decide +kernel) ⟨Nat.le_of_ble_eq_true rfl, Nat.le_of_ble_eq_true rfl⟩) hK hH hS rfl hl.1 rfl (Nat.le_of_ble_eq_true rfl) dX4_act_63 (fun H locs hH hS => ?_)
            clear hf
            refine lv_goto (tgt := 87) hx hb dX4_act_66 (by decide) ?_
            exact hk10 x16 σ15 hX H locs hH hS ls (lv_sub hl [] rfl)
      · replace hX := ipos hc hX; clear hc
        exact hk3  hX H locs hH hS ls (lv_sub hl [] rfl)

abbrev rmX4_trace : Room := { frames := 1, cells := 0, slots := 0, locals := 22 }
def fX4_trace (p1 : Int32) (σ : MS) : Option (Int32) :=
 jn (fun (x1 : Int32) => cl (fX4_in p1 (0:Int32) (x1 - (1:Int32))) (fun (x3 : Int32) =>
 jn (fun (x4 : Int32) => some x4) (fun (k5 : Int32 → Option (Int32)) =>
 if x3 = (0:Int32) then
 k5 (-1:Int32)
 else
 gd (ib p1 20) (
 k5 (σ.2.1 19 p1.toNatClampNeg))))) (fun (k2 : Int32 → Option (Int32)) =>
 if (20:Int32) ≤ (σ.1 20) then
 k2 (20:Int32)
 else
 k2 (σ.1 20))
set_option maxHeartbeats 4000000 in
set_option maxRecDepth 100000 in
theorem mX4_trace (l : Launch) (D : va_G) (dA : Nat → ClassId) (ad : Nat → Nat) {p1 : Int32} {σ : MS} {r : Int32} (hX : fX4_trace p1 σ = some r) : Met l yX4_trace (ws_ yX4_trace cX4_trace 2 (some .int)) (rmX4_trace) (mPc D dA ad σ [.int p1]) (mQi D dA ad r σ) 0 0 (AM ad) := by
  refine Met.ofW (cc := cX4_trace) (maxL := 2) (ret := (some .int)) (by decide) rfl ?_
  intro p e s m args below meth c s₁ B hml hv
  obtain ⟨rfl, hH, hK⟩ := hv
  have hx := B.exec
  have hb := B.bytes
  have hr := B.returns
  have hts := atoms_spec (ws := (ws_ yX4_trace cX4_trace 2 (some .int))) B.pre
  have hts : ∀ w ∈ lw_all, w.before _ s = true := fun w h => hts w (List.mem_cons_of_mem _ h)
  have hown : s.vm.findClass RX4 = some m.cls := findClass_of_methodNamed B.named
  have hlocks := B.notSynchronized
  have hl := lv_entry ([.ref (ad 0), .int p1]) (n := 2) (Nat.le_of_ble_eq_true rfl)
  rw [lg_entry_eq]
  generalize (lg_sl ([.ref (ad 0), .int p1]) ++ List.replicate (2 - (lg_sl ([.ref (ad 0), .int p1])).length) Slot.unset).toArray = ls at hl ⊢
  have hl : lv_has ls 2 [(0, .ref (ad 0)), (1, .int p1)] := hl
  unfold fX4_trace at hX
  refine m_start hH (fun H locs hH hS => ?_)
  refine lv_iload_n hx hb dX4_trace_0 rfl (lv_at hl 1 rfl) ?_
  refine lv_iconst (v := (0:Int32)) hx hb dX4_trace_1 (by decide) ?_
  refine lv_aload_n hx hb dX4_trace_2 rfl (lv_at hl 0 rfl) ?_
  refine m_get (v := .int (σ.1 20)) hx hb hts hown hK hH 20 (by decide) (hts _ q1310) rfl dX4_trace_3 ?_
  refine lv_bipush (v := (20:Int32)) hx hb dX4_trace_6 (by decide) ?_
  refine jnu1 hX (fun (x1 : Int32) => ∀ (H : Heap) (locs : List Loc), HM D dA ad σ H → va_S (AM ad) s.heap H locs → ∀ (ls : Array Slot), lv_has ls 2 [(0, .ref (ad 0)), (1, .int p1)] → W p l e (headSpec (ws_ yX4_trace cX4_trace 2 (some .int)) (rmX4_trace)).room s m ([.ref (ad 0), .int p1] : List Value).toArray below meth c H locs 0 0 (MQ below (mQi D dA ad r σ) ([.ref (ad 0), .int p1] : List Value).toArray s 0 0 (AM ad)) (F0 m 20 ls [.int x1, .int (0:Int32), .int p1])) (fun x1 hX H locs hH hS ls hl => ?_) (fun k2 hk2 hX => ?_)
  · refine lv_iconst (v := (1:Int32)) hx hb dX4_trace_20 (by decide) ?_
    refine lv_isub hx hb dX4_trace_21 ?_
    obtain ⟨x3, hf, hX⟩ := cl_inv hX
    refine m_callSi (As := [.int p1, .int (0:Int32), .int (x1 - (1:Int32))]) ⟨hx, hb, hml, hown, hts⟩ (mX4_in l hf) (va_cwS 3 hts (lw_S q1368 q1369 q95 q1370) rfl rfl rfl (by decide +kernel) ⟨Nat.le_of_ble_eq_true rfl, Nat.le_of_ble_eq_true rfl⟩) hH hS rfl hl.1 rfl (Nat.le_of_ble_eq_true rfl) dX4_trace_22 (fun H locs hH hS => ?_)
    clear hf
    refine jnu1 hX (fun (x4 : Int32) => ∀ (H : Heap) (locs : List Loc), HM D dA ad σ H → va_S (AM ad) s.heap H locs → ∀ (ls : Array Slot), lv_has ls 2 [] → W p l e (headSpec (ws_ yX4_trace cX4_trace 2 (some .int)) (rmX4_trace)).room s m ([.ref (ad 0), .int p1] : List Value).toArray below meth c H locs 0 0 (MQ below (mQi D dA ad r σ) ([.ref (ad 0), .int p1] : List Value).toArray s 0 0 (AM ad)) (F0 m 38 ls [.int x4])) (fun x4 hX H locs hH hS ls hl => ?_) (fun k5 hk5 hX => ?_)
    · have e1 := rinv hX; subst e1
      exact W.iret hx hb hr (fun t ht hW => ⟨⟨_, (), rfl, rfl, hH.to ht⟩, hS.F ht⟩) hS.2.2 dX4_trace_38
    · refine lv_if_eq (tgt := 37) hx hb dX4_trace_25 (by decide) (fun hc => ?_) (fun hc => ?_)
      · replace hX := ipos hc hX; clear hc
        refine lv_iconst (v := (-1:Int32)) hx hb dX4_trace_37 (by decide) ?_
        exact hk5 (-1:Int32) hX H locs hH hS ls (lv_sub hl [] rfl)
      · replace hX := ineg hc hX; clear hc
        refine lv_aload_n hx hb dX4_trace_28 rfl (lv_at hl 0 rfl) ?_
        refine m_get (v := .ref (ad 19)) hx hb hts hown hK hH 19 (by decide) (hts _ q1309) rfl dX4_trace_29 ?_
        refine lv_iload_n hx hb dX4_trace_32 rfl (lv_at hl 1 rfl) ?_
        obtain ⟨hg, hX⟩ := gd_inv hX
        refine m_iald hx hb hK hH 8 19 (n := 20) rfl hg dX4_trace_33 ?_
        refine lv_goto (tgt := 38) hx hb dX4_trace_34 (by decide) ?_
        exact hk5 (σ.2.1 19 p1.toNatClampNeg) hX H locs hH hS ls (lv_sub hl [] rfl)
  · refine lv_icmp_ge (tgt := 18) hx hb dX4_trace_8 (by decide) (fun hc => ?_) (fun hc => ?_)
    · replace hX := ipos hc hX; clear hc
      refine lv_bipush (v := (20:Int32)) hx hb dX4_trace_18 (by decide) ?_
      exact hk2 (20:Int32) hX H locs hH hS ls (lv_sub hl [0, 1] rfl)
    · replace hX := ineg hc hX; clear hc
      refine lv_aload_n hx hb dX4_trace_11 rfl (lv_at hl 0 rfl) ?_
      refine m_get (v := .int (σ.1 20)) hx hb hts hown hK hH 20 (by decide) (hts _ q1310) rfl dX4_trace_12 ?_
      refine lv_goto (tgt := 20) hx hb dX4_trace_15 (by decide) ?_
      exact hk2 (σ.1 20) hX H locs hH hS ls (lv_sub hl [0, 1] rfl)

abbrev rmX4_as : Room := { frames := 2, cells := 0, slots := 0, locals := 43 }
def fX4_as (p1 : Int32) (p2 : Int32) (σ : MS) : Option (Int32) :=
 cl (fX4_isRule p1 σ) (fun (x1 : Int32) =>
 jn (some (-1:Int32)) (fun (k2 : Option (Int32)) =>
 if x1 = (0:Int32) then
 k2
 else
 cl (fX4_in p2 (0:Int32) (6:Int32)) (fun (x3 : Int32) =>
 if x3 = (0:Int32) then
 k2
 else
 gd (ib ((1000:Int32) + p1) 1160) (
 cl (fX4_isUnder (σ.2.1 1 ((1000:Int32) + p1).toNatClampNeg) p2) (fun (x4 : Int32) =>
 jn (fun (x5 : Int32) => some x5) (fun (k6 : Int32 → Option (Int32)) =>
 if x4 = (0:Int32) then
 k6 (-6:Int32)
 else
 gd (ib ((1012:Int32) + p1) 1160) (
 k6 (σ.2.1 1 ((1012:Int32) + p1).toNatClampNeg))))))))
set_option maxHeartbeats 4000000 in
set_option maxRecDepth 100000 in
theorem mX4_as (l : Launch) (D : va_G) (dA : Nat → ClassId) (ad : Nat → Nat) {p1 : Int32} {p2 : Int32} {σ : MS} {r : Int32} (hX : fX4_as p1 p2 σ = some r) : Met l yX4_as (ws_ yX4_as cX4_as 3 (some .int)) (rmX4_as) (mPc D dA ad σ [.int p1, .int p2]) (mQi D dA ad r σ) 0 0 (AM ad) := by
  refine Met.ofW (cc := cX4_as) (maxL := 3) (ret := (some .int)) (by decide) rfl ?_
  intro p e s m args below meth c s₁ B hml hv
  obtain ⟨rfl, hH, hK⟩ := hv
  have hx := B.exec
  have hb := B.bytes
  have hr := B.returns
  have hts := atoms_spec (ws := (ws_ yX4_as cX4_as 3 (some .int))) B.pre
  have hts : ∀ w ∈ lw_all, w.before _ s = true := fun w h => hts w (List.mem_cons_of_mem _ h)
  have hown : s.vm.findClass RX4 = some m.cls := findClass_of_methodNamed B.named
  have hlocks := B.notSynchronized
  have hl := lv_entry ([.ref (ad 0), .int p1, .int p2]) (n := 3) (Nat.le_of_ble_eq_true rfl)
  rw [lg_entry_eq]
  generalize (lg_sl ([.ref (ad 0), .int p1, .int p2]) ++ List.replicate (3 - (lg_sl ([.ref (ad 0), .int p1, .int p2])).length) Slot.unset).toArray = ls at hl ⊢
  have hl : lv_has ls 3 [(0, .ref (ad 0)), (1, .int p1), (2, .int p2)] := hl
  unfold fX4_as at hX
  refine m_start hH (fun H locs hH hS => ?_)
  refine lv_aload_n hx hb dX4_as_0 rfl (lv_at hl 0 rfl) ?_
  refine lv_iload_n hx hb dX4_as_1 rfl (lv_at hl 1 rfl) ?_
  obtain ⟨x1, hf, hX⟩ := cl_inv hX
  refine m_callVi (As := [.int p1]) ⟨hx, hb, hml, hown, hts⟩ (mX4_isRule l D dA ad hf) (cwV 1 hts (lw_V q1588 q1590 qs67 q95 q1591) rfl rfl rfl (by decide +kernel) ⟨Nat.le_of_ble_eq_true rfl, Nat.le_of_ble_eq_true rfl⟩) hK hH hS rfl hl.1 rfl (Nat.le_of_ble_eq_true rfl) dX4_as_2 (fun H locs hH hS => ?_)
  clear hf
  refine jnu0 hX (∀ (H : Heap) (locs : List Loc), HM D dA ad σ H → va_S (AM ad) s.heap H locs → ∀ (ls : Array Slot), lv_has ls 3 [] → W p l e (headSpec (ws_ yX4_as cX4_as 3 (some .int)) (rmX4_as)).room s m ([.ref (ad 0), .int p1, .int p2] : List Value).toArray below meth c H locs 0 0 (MQ below (mQi D dA ad r σ) ([.ref (ad 0), .int p1, .int p2] : List Value).toArray s 0 0 (AM ad)) (F0 m 18 ls [])) (fun  hX H locs hH hS ls hl => ?_) (fun k2 hk2 hX => ?_)
  · refine lv_iconst (v := (-1:Int32)) hx hb dX4_as_18 (by decide) ?_
    have e1 := rinv hX; subst e1
    exact W.iret hx hb hr (fun t ht hW => ⟨⟨_, (), rfl, rfl, hH.to ht⟩, hS.F ht⟩) hS.2.2 dX4_as_19
  · refine lv_if_eq (tgt := 18) hx hb dX4_as_5 (by decide) (fun hc => ?_) (fun hc => ?_)
    · replace hX := ipos hc hX; clear hc
      exact hk2  hX H locs hH hS ls (lv_sub hl [] rfl)
    · replace hX := ineg hc hX; clear hc
      refine lv_iload_n hx hb dX4_as_8 rfl (lv_at hl 2 rfl) ?_
      refine lv_iconst (v := (0:Int32)) hx hb dX4_as_9 (by decide) ?_
      refine lv_bipush (v := (6:Int32)) hx hb dX4_as_10 (by decide) ?_
      obtain ⟨x3, hf, hX⟩ := cl_inv hX
      refine m_callSi (As := [.int p2, .int (0:Int32), .int (6:Int32)]) ⟨hx, hb, hml, hown, hts⟩ (mX4_in l hf) (va_cwS 3 hts (lw_S q1368 q1369 q95 q1370) rfl rfl rfl (by decide +kernel) ⟨Nat.le_of_ble_eq_true rfl, Nat.le_of_ble_eq_true rfl⟩) hH hS rfl hl.1 rfl (Nat.le_of_ble_eq_true rfl) dX4_as_12 (fun H locs hH hS => ?_)
      clear hf
      refine lv_if_ne (tgt := 20) hx hb dX4_as_15 (by decide) (fun hc => ?_) (fun hc => ?_)
      · replace hX := ineg hc hX; clear hc
        refine lv_aload_n hx hb dX4_as_20 rfl (lv_at hl 0 rfl) ?_
        refine m_get (v := .ref (ad 1)) hx hb hts hown hK hH 1 (by decide) (hts _ q1291) rfl dX4_as_21 ?_
        refine lv_sipush (v := (1000:Int32)) hx hb dX4_as_24 (by decide) ?_
        refine lv_iload_n hx hb dX4_as_27 rfl (lv_at hl 1 rfl) ?_
        refine lv_iadd hx hb dX4_as_28 ?_
        obtain ⟨hg, hX⟩ := gd_inv hX
        refine m_iald hx hb hK hH 1 1 (n := 1160) rfl hg dX4_as_29 ?_
        refine lv_iload_n hx hb dX4_as_30 rfl (lv_at hl 2 rfl) ?_
        obtain ⟨x4, hf, hX⟩ := cl_inv hX
        refine m_callSi (As := [.int (σ.2.1 1 ((1000:Int32) + p1).toNatClampNeg), .int p2]) ⟨hx, hb, hml, hown, hts⟩ (mX4_isUnder l hf) (va_cwS 2 hts (lw_S q1723 q1724 q95 q1725) rfl rfl rfl (by decide +kernel) ⟨Nat.le_of_ble_eq_true rfl, Nat.le_of_ble_eq_true rfl⟩) hH hS rfl hl.1 rfl (Nat.le_of_ble_eq_true rfl) dX4_as_31 (fun H locs hH hS => ?_)
        clear hf
        refine jnu1 hX (fun (x5 : Int32) => ∀ (H : Heap) (locs : List Loc), HM D dA ad σ H → va_S (AM ad) s.heap H locs → ∀ (ls : Array Slot), lv_has ls 3 [] → W p l e (headSpec (ws_ yX4_as cX4_as 3 (some .int)) (rmX4_as)).room s m ([.ref (ad 0), .int p1, .int p2] : List Value).toArray below meth c H locs 0 0 (MQ below (mQi D dA ad r σ) ([.ref (ad 0), .int p1, .int p2] : List Value).toArray s 0 0 (AM ad)) (F0 m 52 ls [.int x5])) (fun x5 hX H locs hH hS ls hl => ?_) (fun k6 hk6 hX => ?_)
        · have e1 := rinv hX; subst e1
          exact W.iret hx hb hr (fun t ht hW => ⟨⟨_, (), rfl, rfl, hH.to ht⟩, hS.F ht⟩) hS.2.2 dX4_as_52
        · refine lv_if_eq (tgt := 50) hx hb dX4_as_34 (by decide) (fun hc => ?_) (fun hc => ?_)
          · replace hX := ipos hc hX; clear hc
            refine lv_bipush (v := (-6:Int32)) hx hb dX4_as_50 (by decide) ?_
            exact hk6 (-6:Int32) hX H locs hH hS ls (lv_sub hl [] rfl)
          · replace hX := ineg hc hX; clear hc
            refine lv_aload_n hx hb dX4_as_37 rfl (lv_at hl 0 rfl) ?_
            refine m_get (v := .ref (ad 1)) hx hb hts hown hK hH 1 (by decide) (hts _ q1291) rfl dX4_as_38 ?_
            refine lv_sipush (v := (1012:Int32)) hx hb dX4_as_41 (by decide) ?_
            refine lv_iload_n hx hb dX4_as_44 rfl (lv_at hl 1 rfl) ?_
            refine lv_iadd hx hb dX4_as_45 ?_
            obtain ⟨hg, hX⟩ := gd_inv hX
            refine m_iald hx hb hK hH 1 1 (n := 1160) rfl hg dX4_as_46 ?_
            refine lv_goto (tgt := 52) hx hb dX4_as_47 (by decide) ?_
            exact hk6 (σ.2.1 1 ((1012:Int32) + p1).toNatClampNeg) hX H locs hH hS ls (lv_sub hl [] rfl)
      · replace hX := ipos hc hX; clear hc
        exact hk2  hX H locs hH hS ls (lv_sub hl [] rfl)

abbrev rmX4_image : Room := { frames := 0, cells := 0, slots := 0, locals := 0 }
def fX4_image  (σ : MS) : Option (Int32 × MS) :=
 lp (fun _ _ => none) (fun (k3 : Int32 → MS → Option (Int32 × MS)) (x1 : Int32) (σ2 : MS) =>
 if (1160:Int32) ≤ x1 then
 bd (sf σ2 3 (1:Int32)) (fun (σ4 : MS) =>
 some (σ4.2.1 1 (1:Int32).toNatClampNeg, σ4))
 else
 gd (ib x1 1160) (
 gd (ib x1 1160) (
 bd (sa σ2 2 x1.toNatClampNeg (σ2.2.1 1 x1.toNatClampNeg)) (fun (σ5 : MS) =>
 bd (x1 + (1:Int32)) (fun (x6 : Int32) =>
 k3 x6 σ5))))) NF (0:Int32) σ
set_option maxHeartbeats 4000000 in
set_option maxRecDepth 100000 in
theorem mX4_image (l : Launch) (D : va_G) (dA : Nat → ClassId) (ad : Nat → Nat)  {σ : MS} {r : Int32} {σz : MS} (hX : fX4_image σ = some (r, σz)) : Met l yX4_image (ws_ yX4_image cX4_image 2 (some .int)) (rmX4_image) (mPc D dA ad σ []) (mQi D dA ad r σz) 0 0 (AM ad) := by
  refine Met.ofW (cc := cX4_image) (maxL := 2) (ret := (some .int)) (by decide) rfl ?_
  intro p e s m args below meth c s₁ B hml hv
  obtain ⟨rfl, hH, hK⟩ := hv
  have hx := B.exec
  have hb := B.bytes
  have hr := B.returns
  have hts := atoms_spec (ws := (ws_ yX4_image cX4_image 2 (some .int))) B.pre
  have hts : ∀ w ∈ lw_all, w.before _ s = true := fun w h => hts w (List.mem_cons_of_mem _ h)
  have hown : s.vm.findClass RX4 = some m.cls := findClass_of_methodNamed B.named
  have hlocks := B.notSynchronized
  have hl := lv_entry ([.ref (ad 0)]) (n := 2) (Nat.le_of_ble_eq_true rfl)
  rw [lg_entry_eq]
  generalize (lg_sl ([.ref (ad 0)]) ++ List.replicate (2 - (lg_sl ([.ref (ad 0)])).length) Slot.unset).toArray = ls at hl ⊢
  have hl : lv_has ls 2 [(0, .ref (ad 0))] := hl
  unfold fX4_image at hX
  refine m_start hH (fun H locs hH hS => ?_)
  refine lv_iconst (v := (0:Int32)) hx hb dX4_image_0 (by decide) ?_
  refine lv_istore_n (lv' := [(1, .int (0:Int32)), (0, .ref (ad 0))]) hx hb dX4_image_1 rfl hl (by decide) rfl (fun ls hl => ?_)
  refine lpu2 hX (fun (x1 : Int32) (σ2 : MS) => ∀ (H : Heap) (locs : List Loc), HM D dA ad σ2 H → va_S (AM ad) s.heap H locs → ∀ (ls : Array Slot), lv_has ls 2 [(0, .ref (ad 0)), (1, .int x1)] → W p l e (headSpec (ws_ yX4_image cX4_image 2 (some .int)) (rmX4_image)).room s m ([.ref (ad 0)] : List Value).toArray below meth c H locs 0 0 (MQ below (mQi D dA ad r σz) ([.ref (ad 0)] : List Value).toArray s 0 0 (AM ad)) (F0 m 2 ls [])) (fun k3 hk3 x1 σ2 hX H locs hH hS ls hl => ?_) H locs hH hS ls (lv_sub hl [1, 0] rfl)
  refine lv_iload_n hx hb dX4_image_2 rfl (lv_at hl 1 rfl) ?_
  refine lv_sipush (v := (1160:Int32)) hx hb dX4_image_3 (by decide) ?_
  refine lv_icmp_ge (tgt := 27) hx hb dX4_image_6 (by decide) (fun hc => ?_) (fun hc => ?_)
  · replace hX := ipos hc hX; clear hc
    refine lv_aload_n hx hb dX4_image_27 rfl (lv_at hl 0 rfl) ?_
    refine lv_iconst (v := (1:Int32)) hx hb dX4_image_28 (by decide) ?_
    refine m_put (ty := .boolean) hx hb hts hown hK hH hS 3 (by decide) (hts _ q1293) rfl (tyX4_ok 3 (by decide)) rfl rfl rfl dX4_image_29 (fun σ4 eσ4 H locs hH hS => ?_)
    replace hX := bd_inv eσ4 hX; clear eσ4
    refine lv_aload_n hx hb dX4_image_32 rfl (lv_at hl 0 rfl) ?_
    refine m_get (v := .ref (ad 1)) hx hb hts hown hK hH 1 (by decide) (hts _ q1291) rfl dX4_image_33 ?_
    refine lv_iconst (v := (1:Int32)) hx hb dX4_image_36 (by decide) ?_
    refine m_iald hx hb hK hH 1 1 (n := 1160) rfl (by decide) dX4_image_37 ?_
    obtain ⟨e1, e2⟩ := Prod.mk.inj (rinv hX); subst e1; subst e2
    exact W.iret hx hb hr (fun t ht hW => ⟨⟨_, (), rfl, rfl, hH.to ht⟩, hS.F ht⟩) hS.2.2 dX4_image_38
  · replace hX := ineg hc hX; clear hc
    refine lv_aload_n hx hb dX4_image_9 rfl (lv_at hl 0 rfl) ?_
    refine m_get (v := .ref (ad 2)) hx hb hts hown hK hH 2 (by decide) (hts _ q1292) rfl dX4_image_10 ?_
    refine lv_iload_n hx hb dX4_image_13 rfl (lv_at hl 1 rfl) ?_
    refine lv_aload_n hx hb dX4_image_14 rfl (lv_at hl 0 rfl) ?_
    refine m_get (v := .ref (ad 1)) hx hb hts hown hK hH 1 (by decide) (hts _ q1291) rfl dX4_image_15 ?_
    refine lv_iload_n hx hb dX4_image_18 rfl (lv_at hl 1 rfl) ?_
    obtain ⟨hg, hX⟩ := gd_inv hX
    refine m_iald hx hb hK hH 1 1 (n := 1160) rfl hg dX4_image_19 ?_
    obtain ⟨hg, hX⟩ := gd_inv hX
    refine m_iast hx hb hK hH hS 2 2 (n := 1160) rfl hg rfl dX4_image_20 (fun σ5 eσ5 H locs hH hS => ?_)
    replace hX := bd_inv eσ5 hX; clear eσ5
    obtain ⟨x6, ex6⟩ : ∃ y : Int32, y = x1 + (1:Int32) := ⟨_, rfl⟩
    replace hX := bd_inv ex6 hX
    refine lv_iinc (v := x6) (lv' := [(1, .int x6), (0, .ref (ad 0))]) hx hb dX4_image_21 hl (k := 1) rfl (by rw [ex6]; rfl) (by decide) rfl (fun ls hl => ?_)
    clear ex6
    refine lv_goto (tgt := 2) hx hb dX4_image_24 (by decide) ?_
    exact hk3 x6 σ5 hX H locs hH hS ls (lv_sub hl [1, 0] rfl)

abbrev rmX4_undo : Room := { frames := 0, cells := 0, slots := 0, locals := 0 }
def fX4_undo  (σ : MS) : Option (Int32 × MS) :=
 if (σ.1 3) = (0:Int32) then
 some ((-3:Int32), σ)
 else
 lp (fun _ _ => none) (fun (k3 : Int32 → MS → Option (Int32 × MS)) (x1 : Int32) (σ2 : MS) =>
 if (1160:Int32) ≤ x1 then
 some (σ2.2.1 1 (1:Int32).toNatClampNeg, σ2)
 else
 gd (ib x1 1160) (
 gd (ib x1 1160) (
 bd (sa σ2 1 x1.toNatClampNeg (σ2.2.1 2 x1.toNatClampNeg)) (fun (σ4 : MS) =>
 bd (x1 + (1:Int32)) (fun (x5 : Int32) =>
 k3 x5 σ4))))) NF (0:Int32) σ
set_option maxHeartbeats 4000000 in
set_option maxRecDepth 100000 in
theorem mX4_undo (l : Launch) (D : va_G) (dA : Nat → ClassId) (ad : Nat → Nat)  {σ : MS} {r : Int32} {σz : MS} (hX : fX4_undo σ = some (r, σz)) : Met l yX4_undo (ws_ yX4_undo cX4_undo 2 (some .int)) (rmX4_undo) (mPc D dA ad σ []) (mQi D dA ad r σz) 0 0 (AM ad) := by
  refine Met.ofW (cc := cX4_undo) (maxL := 2) (ret := (some .int)) (by decide) rfl ?_
  intro p e s m args below meth c s₁ B hml hv
  obtain ⟨rfl, hH, hK⟩ := hv
  have hx := B.exec
  have hb := B.bytes
  have hr := B.returns
  have hts := atoms_spec (ws := (ws_ yX4_undo cX4_undo 2 (some .int))) B.pre
  have hts : ∀ w ∈ lw_all, w.before _ s = true := fun w h => hts w (List.mem_cons_of_mem _ h)
  have hown : s.vm.findClass RX4 = some m.cls := findClass_of_methodNamed B.named
  have hlocks := B.notSynchronized
  have hl := lv_entry ([.ref (ad 0)]) (n := 2) (Nat.le_of_ble_eq_true rfl)
  rw [lg_entry_eq]
  generalize (lg_sl ([.ref (ad 0)]) ++ List.replicate (2 - (lg_sl ([.ref (ad 0)])).length) Slot.unset).toArray = ls at hl ⊢
  have hl : lv_has ls 2 [(0, .ref (ad 0))] := hl
  unfold fX4_undo at hX
  refine m_start hH (fun H locs hH hS => ?_)
  refine lv_aload_n hx hb dX4_undo_0 rfl (lv_at hl 0 rfl) ?_
  refine m_get (v := .int (σ.1 3)) hx hb hts hown hK hH 3 (by decide) (hts _ q1293) rfl dX4_undo_1 ?_
  refine lv_if_ne (tgt := 10) hx hb dX4_undo_4 (by decide) (fun hc => ?_) (fun hc => ?_)
  · replace hX := ineg hc hX; clear hc
    refine lv_iconst (v := (0:Int32)) hx hb dX4_undo_10 (by decide) ?_
    refine lv_istore_n (lv' := [(1, .int (0:Int32)), (0, .ref (ad 0))]) hx hb dX4_undo_11 rfl hl (by decide) rfl (fun ls hl => ?_)
    refine lpu2 hX (fun (x1 : Int32) (σ2 : MS) => ∀ (H : Heap) (locs : List Loc), HM D dA ad σ2 H → va_S (AM ad) s.heap H locs → ∀ (ls : Array Slot), lv_has ls 2 [(0, .ref (ad 0)), (1, .int x1)] → W p l e (headSpec (ws_ yX4_undo cX4_undo 2 (some .int)) (rmX4_undo)).room s m ([.ref (ad 0)] : List Value).toArray below meth c H locs 0 0 (MQ below (mQi D dA ad r σz) ([.ref (ad 0)] : List Value).toArray s 0 0 (AM ad)) (F0 m 12 ls [])) (fun k3 hk3 x1 σ2 hX H locs hH hS ls hl => ?_) H locs hH hS ls (lv_sub hl [1, 0] rfl)
    refine lv_iload_n hx hb dX4_undo_12 rfl (lv_at hl 1 rfl) ?_
    refine lv_sipush (v := (1160:Int32)) hx hb dX4_undo_13 (by decide) ?_
    refine lv_icmp_ge (tgt := 37) hx hb dX4_undo_16 (by decide) (fun hc => ?_) (fun hc => ?_)
    · replace hX := ipos hc hX; clear hc
      refine lv_aload_n hx hb dX4_undo_37 rfl (lv_at hl 0 rfl) ?_
      refine m_get (v := .ref (ad 1)) hx hb hts hown hK hH 1 (by decide) (hts _ q1291) rfl dX4_undo_38 ?_
      refine lv_iconst (v := (1:Int32)) hx hb dX4_undo_41 (by decide) ?_
      refine m_iald hx hb hK hH 1 1 (n := 1160) rfl (by decide) dX4_undo_42 ?_
      obtain ⟨e1, e2⟩ := Prod.mk.inj (rinv hX); subst e1; subst e2
      exact W.iret hx hb hr (fun t ht hW => ⟨⟨_, (), rfl, rfl, hH.to ht⟩, hS.F ht⟩) hS.2.2 dX4_undo_43
    · replace hX := ineg hc hX; clear hc
      refine lv_aload_n hx hb dX4_undo_19 rfl (lv_at hl 0 rfl) ?_
      refine m_get (v := .ref (ad 1)) hx hb hts hown hK hH 1 (by decide) (hts _ q1291) rfl dX4_undo_20 ?_
      refine lv_iload_n hx hb dX4_undo_23 rfl (lv_at hl 1 rfl) ?_
      refine lv_aload_n hx hb dX4_undo_24 rfl (lv_at hl 0 rfl) ?_
      refine m_get (v := .ref (ad 2)) hx hb hts hown hK hH 2 (by decide) (hts _ q1292) rfl dX4_undo_25 ?_
      refine lv_iload_n hx hb dX4_undo_28 rfl (lv_at hl 1 rfl) ?_
      obtain ⟨hg, hX⟩ := gd_inv hX
      refine m_iald hx hb hK hH 2 2 (n := 1160) rfl hg dX4_undo_29 ?_
      obtain ⟨hg, hX⟩ := gd_inv hX
      refine m_iast hx hb hK hH hS 1 1 (n := 1160) rfl hg rfl dX4_undo_30 (fun σ4 eσ4 H locs hH hS => ?_)
      replace hX := bd_inv eσ4 hX; clear eσ4
      obtain ⟨x5, ex5⟩ : ∃ y : Int32, y = x1 + (1:Int32) := ⟨_, rfl⟩
      replace hX := bd_inv ex5 hX
      refine lv_iinc (v := x5) (lv' := [(1, .int x5), (0, .ref (ad 0))]) hx hb dX4_undo_31 hl (k := 1) rfl (by rw [ex5]; rfl) (by decide) rfl (fun ls hl => ?_)
      clear ex5
      refine lv_goto (tgt := 12) hx hb dX4_undo_34 (by decide) ?_
      exact hk3 x5 σ4 hX H locs hH hS ls (lv_sub hl [1, 0] rfl)
  · replace hX := ipos hc hX; clear hc
    refine lv_bipush (v := (-3:Int32)) hx hb dX4_undo_7 (by decide) ?_
    obtain ⟨e1, e2⟩ := Prod.mk.inj (rinv hX); subst e1; subst e2
    exact W.iret hx hb hr (fun t ht hW => ⟨⟨_, (), rfl, rfl, hH.to ht⟩, hS.F ht⟩) hS.2.2 dX4_undo_9

abbrev rmX4_count : Room := { frames := 0, cells := 0, slots := 0, locals := 0 }
def fX4_count (p1 : Int32) (σ : MS) : Option (Int32) :=
 if p1 = (0:Int32) then
 some (σ.2.1 1 (0:Int32).toNatClampNeg)
 else
 if p1 = (1:Int32) then
 some (σ.2.1 1 (1:Int32).toNatClampNeg)
 else
 if p1 = (2:Int32) then
 some (σ.2.1 1 (2:Int32).toNatClampNeg)
 else
 if p1 = (3:Int32) then
 some (σ.2.1 1 (3:Int32).toNatClampNeg)
 else
 if p1 = (4:Int32) then
 some (σ.1 20)
 else
 some (-1:Int32)
set_option maxHeartbeats 4000000 in
set_option maxRecDepth 100000 in
theorem mX4_count (l : Launch) (D : va_G) (dA : Nat → ClassId) (ad : Nat → Nat) {p1 : Int32} {σ : MS} {r : Int32} (hX : fX4_count p1 σ = some r) : Met l yX4_count (ws_ yX4_count cX4_count 2 (some .int)) (rmX4_count) (mPc D dA ad σ [.int p1]) (mQi D dA ad r σ) 0 0 (AM ad) := by
  refine Met.ofW (cc := cX4_count) (maxL := 2) (ret := (some .int)) (by decide) rfl ?_
  intro p e s m args below meth c s₁ B hml hv
  obtain ⟨rfl, hH, hK⟩ := hv
  have hx := B.exec
  have hb := B.bytes
  have hr := B.returns
  have hts := atoms_spec (ws := (ws_ yX4_count cX4_count 2 (some .int))) B.pre
  have hts : ∀ w ∈ lw_all, w.before _ s = true := fun w h => hts w (List.mem_cons_of_mem _ h)
  have hown : s.vm.findClass RX4 = some m.cls := findClass_of_methodNamed B.named
  have hlocks := B.notSynchronized
  have hl := lv_entry ([.ref (ad 0), .int p1]) (n := 2) (Nat.le_of_ble_eq_true rfl)
  rw [lg_entry_eq]
  generalize (lg_sl ([.ref (ad 0), .int p1]) ++ List.replicate (2 - (lg_sl ([.ref (ad 0), .int p1])).length) Slot.unset).toArray = ls at hl ⊢
  have hl : lv_has ls 2 [(0, .ref (ad 0)), (1, .int p1)] := hl
  unfold fX4_count at hX
  refine m_start hH (fun H locs hH hS => ?_)
  refine lv_iload_n hx hb dX4_count_0 rfl (lv_at hl 1 rfl) ?_
  by_cases hc0 : p1 = (0:Int32)
  · replace hX := ipos hc0 hX
    refine lv_tableIn (off := 35) (tgt := 36) hx hb dX4_count_1 (by rw [hc0]; decide) (by rw [hc0]; decide) (by rw [hc0]; decide) (by decide) ?_
    refine lv_aload_n hx hb dX4_count_36 rfl (lv_at hl 0 rfl) ?_
    refine m_get (v := .ref (ad 1)) hx hb hts hown hK hH 1 (by decide) (hts _ q1291) rfl dX4_count_37 ?_
    refine lv_iconst (v := (0:Int32)) hx hb dX4_count_40 (by decide) ?_
    refine m_iald hx hb hK hH 1 1 (n := 1160) rfl (by decide) dX4_count_41 ?_
    have e1 := rinv hX; subst e1
    exact W.iret hx hb hr (fun t ht hW => ⟨⟨_, (), rfl, rfl, hH.to ht⟩, hS.F ht⟩) hS.2.2 dX4_count_42
  · replace hX := ineg hc0 hX
    by_cases hc1 : p1 = (1:Int32)
    · replace hX := ipos hc1 hX
      refine lv_tableIn (off := 42) (tgt := 43) hx hb dX4_count_1 (by rw [hc1]; decide) (by rw [hc1]; decide) (by rw [hc1]; decide) (by decide) ?_
      refine lv_aload_n hx hb dX4_count_43 rfl (lv_at hl 0 rfl) ?_
      refine m_get (v := .ref (ad 1)) hx hb hts hown hK hH 1 (by decide) (hts _ q1291) rfl dX4_count_44 ?_
      refine lv_iconst (v := (1:Int32)) hx hb dX4_count_47 (by decide) ?_
      refine m_iald hx hb hK hH 1 1 (n := 1160) rfl (by decide) dX4_count_48 ?_
      have e1 := rinv hX; subst e1
      exact W.iret hx hb hr (fun t ht hW => ⟨⟨_, (), rfl, rfl, hH.to ht⟩, hS.F ht⟩) hS.2.2 dX4_count_49
    · replace hX := ineg hc1 hX
      by_cases hc2 : p1 = (2:Int32)
      · replace hX := ipos hc2 hX
        refine lv_tableIn (off := 49) (tgt := 50) hx hb dX4_count_1 (by rw [hc2]; decide) (by rw [hc2]; decide) (by rw [hc2]; decide) (by decide) ?_
        refine lv_aload_n hx hb dX4_count_50 rfl (lv_at hl 0 rfl) ?_
        refine m_get (v := .ref (ad 1)) hx hb hts hown hK hH 1 (by decide) (hts _ q1291) rfl dX4_count_51 ?_
        refine lv_iconst (v := (2:Int32)) hx hb dX4_count_54 (by decide) ?_
        refine m_iald hx hb hK hH 1 1 (n := 1160) rfl (by decide) dX4_count_55 ?_
        have e1 := rinv hX; subst e1
        exact W.iret hx hb hr (fun t ht hW => ⟨⟨_, (), rfl, rfl, hH.to ht⟩, hS.F ht⟩) hS.2.2 dX4_count_56
      · replace hX := ineg hc2 hX
        by_cases hc3 : p1 = (3:Int32)
        · replace hX := ipos hc3 hX
          refine lv_tableIn (off := 56) (tgt := 57) hx hb dX4_count_1 (by rw [hc3]; decide) (by rw [hc3]; decide) (by rw [hc3]; decide) (by decide) ?_
          refine lv_aload_n hx hb dX4_count_57 rfl (lv_at hl 0 rfl) ?_
          refine m_get (v := .ref (ad 1)) hx hb hts hown hK hH 1 (by decide) (hts _ q1291) rfl dX4_count_58 ?_
          refine lv_iconst (v := (3:Int32)) hx hb dX4_count_61 (by decide) ?_
          refine m_iald hx hb hK hH 1 1 (n := 1160) rfl (by decide) dX4_count_62 ?_
          have e1 := rinv hX; subst e1
          exact W.iret hx hb hr (fun t ht hW => ⟨⟨_, (), rfl, rfl, hH.to ht⟩, hS.F ht⟩) hS.2.2 dX4_count_63
        · replace hX := ineg hc3 hX
          by_cases hc4 : p1 = (4:Int32)
          · replace hX := ipos hc4 hX
            refine lv_tableIn (off := 63) (tgt := 64) hx hb dX4_count_1 (by rw [hc4]; decide) (by rw [hc4]; decide) (by rw [hc4]; decide) (by decide) ?_
            refine lv_aload_n hx hb dX4_count_64 rfl (lv_at hl 0 rfl) ?_
            refine m_get (v := .int (σ.1 20)) hx hb hts hown hK hH 20 (by decide) (hts _ q1310) rfl dX4_count_65 ?_
            have e1 := rinv hX; subst e1
            exact W.iret hx hb hr (fun t ht hW => ⟨⟨_, (), rfl, rfl, hH.to ht⟩, hS.F ht⟩) hS.2.2 dX4_count_68
          · replace hX := ineg hc4 hX
            refine lv_tableOut (tgt := 69) hx hb dX4_count_1 (tb_out (fun v h1 h2 => ?_)) (by decide) ?_
            · have hv : v = 0 ∨ v = 1 ∨ v = 2 ∨ v = 3 ∨ v = 4 := by omega
              rcases hv with rfl | rfl | rfl | rfl | rfl
              · exact lv_neT hc0 (by decide)
              · exact lv_neT hc1 (by decide)
              · exact lv_neT hc2 (by decide)
              · exact lv_neT hc3 (by decide)
              · exact lv_neT hc4 (by decide)
            · refine lv_iconst (v := (-1:Int32)) hx hb dX4_count_69 (by decide) ?_
              have e1 := rinv hX; subst e1
              exact W.iret hx hb hr (fun t ht hW => ⟨⟨_, (), rfl, rfl, hH.to ht⟩, hS.F ht⟩) hS.2.2 dX4_count_70
