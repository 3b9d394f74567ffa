/-! printed by gen/comp.py -/
abbrev rmX0_in : Room := { frames := 0, cells := 0, slots := 0, locals := 0 }
def fX0_in (p1 : Int32) (p2 : Int32) (p3 : Int32) : Option (Int32) :=
 jn (fun (x1 : Int32) => gd (isb x1) (some x1)) (fun (k2 : Int32 → Option (Int32)) =>
 jn (k2 (0:Int32)) (fun (k3 : Option (Int32)) =>
 if p1 < p2 then
 k3
 else
 if p3 < p1 then
 k3
 else
 k2 (1:Int32)))
set_option maxHeartbeats 4000000 in
set_option maxRecDepth 100000 in
theorem mX0_in (l : Launch) {p1 : Int32} {p2 : Int32} {p3 : Int32} {r : Int32} (hX : fX0_in p1 p2 p3 = some r) : Met l yX0_in (ws_ yX0_in cX0_in 3 (some .boolean)) (rmX0_in) (sPc [.int p1, .int p2, .int p3]) (sQi r) 0 0 noA := by
  refine Met.ofW (cc := cX0_in) (maxL := 3) (ret := (some .boolean)) (by decide) rfl ?_
  intro p e s m args below meth c s₁ B hml hv
  obtain ⟨rfl, -⟩ := hv
  have hx := B.exec
  have hb := B.bytes
  have hr := B.returns
  have hts := atoms_spec (ws := (ws_ yX0_in cX0_in 3 (some .boolean))) B.pre
  have hts : ∀ w ∈ lw_all, w.before _ s = true := fun w h => hts w (List.mem_cons_of_mem _ h)
  have hown : s.vm.findClass RX0 = some m.cls := findClass_of_methodNamed B.named
  have hlocks := B.notSynchronized
  have hl := lv_entry ([.int p1, .int p2, .int p3]) (n := 3) (Nat.le_of_ble_eq_true rfl)
  rw [lg_entry_eq]
  generalize (lg_sl ([.int p1, .int p2, .int p3]) ++ List.replicate (3 - (lg_sl ([.int p1, .int p2, .int p3])).length) Slot.unset).toArray = ls at hl ⊢
  have hl : lv_has ls 3 [(0, .int p1), (1, .int p2), (2, .int p3)] := hl
  unfold fX0_in at hX
  refine s_start (fun H locs hS => ?_)
  refine lv_iload_n hx hb dX0_in_0 rfl (lv_at hl 0 rfl) ?_
  refine lv_iload_n hx hb dX0_in_1 rfl (lv_at hl 1 rfl) ?_
  refine jnu1 hX (fun (x1 : Int32) => ∀ (H : Heap) (locs : List Loc), va_S noA s.heap H locs → ∀ (ls : Array Slot), lv_has ls 3 [] → W p l e (headSpec (ws_ yX0_in cX0_in 3 (some .boolean)) (rmX0_in)).room s m ([.int p1, .int p2, .int p3] : List Value).toArray below meth c H locs 0 0 (MQ below (sQi r) ([.int p1, .int p2, .int p3] : List Value).toArray s 0 0 noA) (F0 m 15 ls [.int x1])) (fun x1 hX H locs hS ls hl => ?_) (fun k2 hk2 hX => ?_)
  · obtain ⟨hg, hX⟩ := gd_inv hX
    have e1 := rinv hX; subst e1
    exact W.zret hx hb hr (isb_n hg) (fun t ht hW => ⟨⟨_, (), rfl, rfl, trivial⟩, hS.F ht⟩) hS.2.2 dX0_in_15
  · refine jnu0 hX (∀ (H : Heap) (locs : List Loc), va_S noA s.heap H locs → ∀ (ls : Array Slot), lv_has ls 3 [] → W p l e (headSpec (ws_ yX0_in cX0_in 3 (some .boolean)) (rmX0_in)).room s m ([.int p1, .int p2, .int p3] : List Value).toArray below meth c H locs 0 0 (MQ below (sQi r) ([.int p1, .int p2, .int p3] : List Value).toArray s 0 0 noA) (F0 m 14 ls [])) (fun  hX H locs hS ls hl => ?_) (fun k3 hk3 hX => ?_)
    · refine lv_iconst (v := (0:Int32)) hx hb dX0_in_14 (by decide) ?_
      exact hk2 (0:Int32) hX H locs hS ls (lv_sub hl [] rfl)
    · refine lv_icmp_lt (tgt := 14) hx hb dX0_in_2 (by decide) (fun hc => ?_) (fun hc => ?_)
      · replace hX := ipos hc hX; clear hc
        exact hk3  hX H locs hS ls (lv_sub hl [] rfl)
      · replace hX := ineg hc hX; clear hc
        refine lv_iload_n hx hb dX0_in_5 rfl (lv_at hl 0 rfl) ?_
        refine lv_iload_n hx hb dX0_in_6 rfl (lv_at hl 2 rfl) ?_
        refine lv_icmp_gt (tgt := 14) hx hb dX0_in_7 (by decide) (fun hc => ?_) (fun hc => ?_)
        · replace hX := ipos hc hX; clear hc
          exact hk3  hX H locs hS ls (lv_sub hl [] rfl)
        · replace hX := ineg hc hX; clear hc
          refine lv_iconst (v := (1:Int32)) hx hb dX0_in_10 (by decide) ?_
          refine lv_goto (tgt := 15) hx hb dX0_in_11 (by decide) ?_
          exact hk2 (1:Int32) hX H locs hS ls (lv_sub hl [] rfl)

abbrev rmX0_isPlace : Room := { frames := 1, cells := 0, slots := 0, locals := 22 }
def fX0_isPlace (p1 : Int32) : Option (Int32) :=
 cl (fX0_in p1 (0:Int32) (3:Int32)) (fun (x1 : Int32) =>
 gd (isb x1) (some x1))
set_option maxHeartbeats 4000000 in
set_option maxRecDepth 100000 in
theorem mX0_isPlace (l : Launch) {p1 : Int32} {r : Int32} (hX : fX0_isPlace p1 = some r) : Met l yX0_isPlace (ws_ yX0_isPlace cX0_isPlace 1 (some .boolean)) (rmX0_isPlace) (sPc [.int p1]) (sQi r) 0 0 noA := by
  refine Met.ofW (cc := cX0_isPlace) (maxL := 1) (ret := (some .boolean)) (by decide) rfl ?_
  intro p e s m args below meth c s₁ B hml hv
  obtain ⟨rfl, -⟩ := hv
  have hx := B.exec
  have hb := B.bytes
  have hr := B.returns
  have hts := atoms_spec (ws := (ws_ yX0_isPlace cX0_isPlace 1 (some .boolean))) B.pre
  have hts : ∀ w ∈ lw_all, w.before _ s = true := fun w h => hts w (List.mem_cons_of_mem _ h)
  have hown : s.vm.findClass RX0 = some m.cls := findClass_of_methodNamed B.named
  have hlocks := B.notSynchronized
  have hl := lv_entry ([.int p1]) (n := 1) (Nat.le_of_ble_eq_true rfl)
  rw [lg_entry_eq]
  generalize (lg_sl ([.int p1]) ++ List.replicate (1 - (lg_sl ([.int p1])).length) Slot.unset).toArray = ls at hl ⊢
  have hl : lv_has ls 1 [(0, .int p1)] := hl
  unfold fX0_isPlace at hX
  refine s_start (fun H locs hS => ?_)
  refine lv_iload_n hx hb dX0_isPlace_0 rfl (lv_at hl 0 rfl) ?_
  refine lv_iconst (v := (0:Int32)) hx hb dX0_isPlace_1 (by decide) ?_
  refine lv_iconst (v := (3:Int32)) hx hb dX0_isPlace_2 (by decide) ?_
  obtain ⟨x1, hf, hX⟩ := cl_inv hX
  refine s_callSi (As := [.int p1, .int (0:Int32), .int (3:Int32)]) ⟨hx, hb, hml, hown, hts⟩ (mX0_in l hf) (va_cwS 3 hts (lw_S q319 q320 q88 q321) rfl rfl rfl (by decide +kernel) ⟨Nat.le_of_ble_eq_true rfl, Nat.le_of_ble_eq_true rfl⟩) hS rfl hl.1 rfl (Nat.le_of_ble_eq_true rfl) dX0_isPlace_3 (fun H locs hS => ?_)
  clear hf
  obtain ⟨hg, hX⟩ := gd_inv hX
  have e1 := rinv hX; subst e1
  exact W.zret hx hb hr (isb_n hg) (fun t ht hW => ⟨⟨_, (), rfl, rfl, trivial⟩, hS.F ht⟩) hS.2.2 dX0_isPlace_6

abbrev rmX0_joint : Room := { frames := 0, cells := 0, slots := 0, locals := 0 }
def fX0_joint (p1 : Int64) (p2 : Int64) (p3 : Int32) : Option (Int64) :=
 some (((p1 * (((1000000:Int32) - p3).toInt64)) / (1000000:Int64)) + ((p2 * (p3.toInt64)) / (1000000:Int64)))
set_option maxHeartbeats 4000000 in
set_option maxRecDepth 100000 in
theorem mX0_joint (l : Launch) {p1 : Int64} {p2 : Int64} {p3 : Int32} {r : Int64} (hX : fX0_joint p1 p2 p3 = some r) : Met l yX0_joint (ws_ yX0_joint cX0_joint 5 (some .long)) (rmX0_joint) (sPc [.long p1, .long p2, .int p3]) (sQl r) 0 0 noA := by
  refine Met.ofW (cc := cX0_joint) (maxL := 5) (ret := (some .long)) (by decide) rfl ?_
  intro p e s m args below meth c s₁ B hml hv
  obtain ⟨rfl, -⟩ := hv
  have hx := B.exec
  have hb := B.bytes
  have hr := B.returns
  have hts := atoms_spec (ws := (ws_ yX0_joint cX0_joint 5 (some .long))) B.pre
  have hts : ∀ w ∈ lw_all, w.before _ s = true := fun w h => hts w (List.mem_cons_of_mem _ h)
  have hown : s.vm.findClass RX0 = some m.cls := findClass_of_methodNamed B.named
  have hlocks := B.notSynchronized
  have hl := lv_entry ([.long p1, .long p2, .int p3]) (n := 5) (Nat.le_of_ble_eq_true rfl)
  rw [lg_entry_eq]
  generalize (lg_sl ([.long p1, .long p2, .int p3]) ++ List.replicate (5 - (lg_sl ([.long p1, .long p2, .int p3])).length) Slot.unset).toArray = ls at hl ⊢
  have hl : lv_has ls 5 [(0, .long p1), (2, .long p2), (4, .int p3)] := hl
  unfold fX0_joint at hX
  refine s_start (fun H locs hS => ?_)
  refine lv_lload_n hx hb dX0_joint_0 rfl (lv_at hl 0 rfl) ?_
  refine lv_ldc (v := (1000000:Int32)) hx hb hown (hts _ q937) dX0_joint_1 ?_
  refine lv_iload hx hb dX0_joint_3 (lv_at hl 2 rfl) ?_
  refine lv_isub hx hb dX0_joint_5 ?_
  refine lv_i2l hx hb dX0_joint_6 rfl ?_
  refine lv_lmul hx hb dX0_joint_7 ?_
  refine lv_ldc2 (v := (1000000:Int64)) hx hb hown (hts _ q938) dX0_joint_8 ?_
  refine lv_ldiv hx hb dX0_joint_11 (by decide) ?_
  refine lv_lload_n hx hb dX0_joint_12 rfl (lv_at hl 1 rfl) ?_
  refine lv_iload hx hb dX0_joint_13 (lv_at hl 2 rfl) ?_
  refine lv_i2l hx hb dX0_joint_15 rfl ?_
  refine lv_lmul hx hb dX0_joint_16 ?_
  refine lv_ldc2 (v := (1000000:Int64)) hx hb hown (hts _ q938) dX0_joint_17 ?_
  refine lv_ldiv hx hb dX0_joint_20 (by decide) ?_
  refine lv_ladd hx hb dX0_joint_21 ?_
  have e1 := rinv hX; subst e1
  exact W.lret hx hb hr (fun t ht hW => ⟨⟨_, (), rfl, rfl, trivial⟩, hS.F ht⟩) hS.2.2 dX0_joint_22

abbrev rmX2_share : Room := { frames := 0, cells := 0, slots := 0, locals := 0 }
def fX2_share (p1 : Int32) (p2 : Int32) : Option (Int32) :=
 some ((((p1.toInt64) * (p2.toInt64)) / (1000:Int64)).toInt32)
set_option maxHeartbeats 4000000 in
set_option maxRecDepth 100000 in
theorem mX2_share (l : Launch) {p1 : Int32} {p2 : Int32} {r : Int32} (hX : fX2_share p1 p2 = some r) : Met l yX2_share (ws_ yX2_share cX2_share 2 (some .int)) (rmX2_share) (sPc [.int p1, .int p2]) (sQi r) 0 0 noA := by
  refine Met.ofW (cc := cX2_share) (maxL := 2) (ret := (some .int)) (by decide) rfl ?_
  intro p e s m args below meth c s₁ B hml hv
  obtain ⟨rfl, -⟩ := hv
  have hx := B.exec
  have hb := B.bytes
  have hr := B.returns
  have hts := atoms_spec (ws := (ws_ yX2_share cX2_share 2 (some .int))) B.pre
  have hts : ∀ w ∈ lw_all, w.before _ s = true := fun w h => hts w (List.mem_cons_of_mem _ h)
  have hown : s.vm.findClass RX2 = some m.cls := findClass_of_methodNamed B.named
  have hlocks := B.notSynchronized
  have hl := lv_entry ([.int p1, .int p2]) (n := 2) (Nat.le_of_ble_eq_true rfl)
  rw [lg_entry_eq]
  generalize (lg_sl ([.int p1, .int p2]) ++ List.replicate (2 - (lg_sl ([.int p1, .int p2])).length) Slot.unset).toArray = ls at hl ⊢
  have hl : lv_has ls 2 [(0, .int p1), (1, .int p2)] := hl
  unfold fX2_share at hX
  refine s_start (fun H locs hS => ?_)
  refine lv_iload_n hx hb dX2_share_0 rfl (lv_at hl 0 rfl) ?_
  refine lv_i2l hx hb dX2_share_1 rfl ?_
  refine lv_iload_n hx hb dX2_share_2 rfl (lv_at hl 1 rfl) ?_
  refine lv_i2l hx hb dX2_share_3 rfl ?_
  refine lv_lmul hx hb dX2_share_4 ?_
  refine lv_ldc2 (v := (1000:Int64)) hx hb hown (hts _ q684) dX2_share_5 ?_
  refine lv_ldiv hx hb dX2_share_8 (by decide) ?_
  refine lv_l2i hx hb dX2_share_9 rfl ?_
  have e1 := rinv hX; subst e1
  exact W.iret hx hb hr (fun t ht hW => ⟨⟨_, (), rfl, rfl, trivial⟩, hS.F ht⟩) hS.2.2 dX2_share_10

abbrev rmX5_times : Room := { frames := 1, cells := 0, slots := 0, locals := 24 }
def fX5_times (p1 : Int32) (p2 : Int32) : Option (Int32) :=
 bd (if (p1 * p2) < (1000:Int32) then (p1 * p2) else (1000:Int32)) (fun (x1 : Int32) =>
 some x1)
set_option maxHeartbeats 4000000 in
set_option maxRecDepth 100000 in
theorem mX5_times (l : Launch) {p1 : Int32} {p2 : Int32} {r : Int32} (hX : fX5_times p1 p2 = some r) : Met l yX5_times (ws_ yX5_times cX5_times 2 (some .int)) (rmX5_times) (sPc [.int p1, .int p2]) (sQi r) 0 0 noA := by
  refine Met.ofW (cc := cX5_times) (maxL := 2) (ret := (some .int)) (by decide) rfl ?_
  intro p e s m args below meth c s₁ B hml hv
  obtain ⟨rfl, -⟩ := hv
  have hx := B.exec
  have hb := B.bytes
  have hr := B.returns
  have hts := atoms_spec (ws := (ws_ yX5_times cX5_times 2 (some .int))) B.pre
  have hts : ∀ w ∈ lw_all, w.before _ s = true := fun w h => hts w (List.mem_cons_of_mem _ h)
  have hown : s.vm.findClass RX5 = some m.cls := findClass_of_methodNamed B.named
  have hlocks := B.notSynchronized
  have hl := lv_entry ([.int p1, .int p2]) (n := 2) (Nat.le_of_ble_eq_true rfl)
  rw [lg_entry_eq]
  generalize (lg_sl ([.int p1, .int p2]) ++ List.replicate (2 - (lg_sl ([.int p1, .int p2])).length) Slot.unset).toArray = ls at hl ⊢
  have hl : lv_has ls 2 [(0, .int p1), (1, .int p2)] := hl
  unfold fX5_times at hX
  refine s_start (fun H locs hS => ?_)
  refine lv_sipush (v := (1000:Int32)) hx hb dX5_times_0 (by decide) ?_
  refine lv_iload_n hx hb dX5_times_3 rfl (lv_at hl 0 rfl) ?_
  refine lv_iload_n hx hb dX5_times_4 rfl (lv_at hl 1 rfl) ?_
  refine lv_imul hx hb dX5_times_5 ?_
  refine va_mmin hx hb (hml.trans hl.1.symm) hown (hts _ q739) (hts _ q585) (hts _ q104) (hts _ q586) (Nat.le_of_ble_eq_true rfl) (Nat.le_of_ble_eq_true rfl) (Nat.zero_le _) (Nat.zero_le _) dX5_times_6 ?_
  refine lv_topi (fun x1 ex1 => ?_)
  replace hX := bd_inv ex1 hX; clear ex1
  have e1 := rinv hX; subst e1
  exact W.iret hx hb hr (fun t ht hW => ⟨⟨_, (), rfl, rfl, trivial⟩, hS.F ht⟩) hS.2.2 dX5_times_9
