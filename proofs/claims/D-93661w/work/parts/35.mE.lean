/-! printed by gen/model.py -/
abbrev rmX4_room : Room := { frames := 2, cells := 0, slots := 0, locals := 43 }
def fX4_room (p1 : Int32) (p2 : Int32) (σ : MS) : Option (Int32 × MS) :=
 cl (fX4_in p1 (0:Int32) (((1:Int32) <<< ((σ.2.1 1 (1:Int32).toNatClampNeg) &&& 31)) - (1:Int32))) (fun (x1 : Int32) =>
 jn (some ((-2:Int32), σ)) (fun (k2 : Option (Int32 × MS)) =>
 if x1 = (0:Int32) then
 k2
 else
 cl (fX4_in p2 (0:Int32) (99:Int32)) (fun (x3 : Int32) =>
 if x3 = (0:Int32) then
 k2
 else
 lp (fun _ _ => none) (fun (k6 : Int32 → MS → Option (Int32 × MS)) (x4 : Int32) (σ5 : MS) =>
 if (σ5.2.1 1 (1:Int32).toNatClampNeg) ≤ x4 then
 lp (fun _ _ _ => none) (fun (k10 : Int32 → Int64 → Int32 → Option (Int32 × MS)) (x7 : Int32) (x8 : Int64) (x9 : Int32) =>
 if p1 < x9 then
 some (x7, σ5)
 else
 lp (fun _ _ _ => none) (fun (k14 : Int64 → Int32 → Int32 → Option (Int32 × MS)) (x11 : Int64) (x12 : Int32) (x13 : Int32) =>
 if (σ5.2.1 1 (1:Int32).toNatClampNeg) ≤ x13 then
 jn (fun (x15 : Int32) => jn (fun (x17 : Int32) => jn (fun (x19 : Int64) => bd (x9 + (1:Int32)) (fun (x21 : Int32) =>
 k10 x17 x19 x21)) (fun (k20 : Int64 → Option (Int32 × MS)) =>
 if x15 = (0:Int32) then
 k20 x8
 else
 k20 x11)) (fun (k18 : Int32 → Option (Int32 × MS)) =>
 if x15 = (0:Int32) then
 k18 x7
 else
 k18 x9)) (fun (k16 : Int32 → Option (Int32 × MS)) =>
 jn (k16 (0:Int32)) (fun (k22 : Option (Int32 × MS)) =>
 if (x9 &&& (p1 ^^^ (-1:Int32))) = (0:Int32) then
 if p2 < x12 then
 k22
 else
 if (lg_cmp x11 x8) ≤ (0:Int32) then
 k22
 else
 k16 (1:Int32)
 else
 k22))
 else
 jn (fun (x23 : Int32) => jn (fun (x25 : Int64) => bd (x11 + x25) (fun (x27 : Int64) =>
 jn (fun (x28 : Int32) => bd (x12 + x28) (fun (x30 : Int32) =>
 bd (x13 + (1:Int32)) (fun (x31 : Int32) =>
 k14 x27 x30 x31))) (fun (k29 : Int32 → Option (Int32 × MS)) =>
 if x23 = (0:Int32) then
 k29 (0:Int32)
 else
 gd (ib ((926:Int32) + x13) 1160) (
 k29 (σ5.2.1 1 ((926:Int32) + x13).toNatClampNeg))))) (fun (k26 : Int64 → Option (Int32 × MS)) =>
 if x23 = (0:Int32) then
 k26 (0:Int64)
 else
 gd (ib x13 12) (
 k26 (σ5.2.2 16 x13.toNatClampNeg)))) (fun (k24 : Int32 → Option (Int32 × MS)) =>
 if ((x9 >>> (x13 &&& 31)) &&& (1:Int32)) = (1:Int32) then
 k24 (1:Int32)
 else
 k24 (0:Int32))) NF (0:Int64) (0:Int32) (0:Int32)) NF (0:Int32) (0:Int64) (1:Int32)
 else
 cl (fX4_takes x4 σ5) (fun (σ32 : MS) =>
 cl (fX4_harmOf (0:Int32) σ32) (fun (x33 : Int64) =>
 gd (ib x4 12) (
 bd (sl σ32 16 x4.toNatClampNeg x33) (fun (σ34 : MS) =>
 bd (x4 + (1:Int32)) (fun (x35 : Int32) =>
 k6 x35 σ34)))))) NF (0:Int32) σ)))
set_option maxHeartbeats 4000000 in
set_option maxRecDepth 100000 in
theorem mX4_room (l : Launch) (D : va_G) (dA : Nat → ClassId) (ad : Nat → Nat) {p1 : Int32} {p2 : Int32} {σ : MS} {r : Int32} {σz : MS} (hX : fX4_room p1 p2 σ = some (r, σz)) : Met l yX4_room (ws_ yX4_room cX4_room 12 (some .int)) (rmX4_room) (mPc D dA ad σ [.int p1, .int p2]) (mQi D dA ad r σz) 0 0 (AM ad) := by
  refine Met.ofW (cc := cX4_room) (maxL := 12) (ret := (some .int)) (by decide) rfl ?_
  intro p e s m args below meth c s₁ B hml hv
  obtain ⟨rfl, hH, hK⟩ := hv
  have hx := B.exec
  have hb := B.bytes
  have hr := B.returns
  have hts := atoms_spec (ws := (ws_ yX4_room cX4_room 12 (some .int))) B.pre
  have hts : ∀ w ∈ lw_all, w.before _ s = true := fun w h => hts w (List.mem_cons_of_mem _ h)
  have hown : s.vm.findClass RX4 = some m.cls := findClass_of_methodNamed B.named
  have hlocks := B.notSynchronized
  have hl := lv_entry ([.ref (ad 0), .int p1, .int p2]) (n := 12) (Nat.le_of_ble_eq_true rfl)
  rw [lg_entry_eq]
  generalize (lg_sl ([.ref (ad 0), .int p1, .int p2]) ++ List.replicate (12 - (lg_sl ([.ref (ad 0), .int p1, .int p2])).length) Slot.unset).toArray = ls at hl ⊢
  have hl : lv_has ls 12 [(0, .ref (ad 0)), (1, .int p1), (2, .int p2)] := hl
  unfold fX4_room at hX
  refine m_start hH (fun H locs hH hS => ?_)
  refine lv_iload_n hx hb dX4_room_0 rfl (lv_at hl 1 rfl) ?_
  refine lv_iconst (v := (0:Int32)) hx hb dX4_room_1 (by decide) ?_
  refine lv_iconst (v := (1:Int32)) hx hb dX4_room_2 (by decide) ?_
  refine lv_aload_n hx hb dX4_room_3 rfl (lv_at hl 0 rfl) ?_
  refine m_get (v := .ref (ad 1)) hx hb hts hown hK hH 1 (by decide) (hts _ q1291) rfl dX4_room_4 ?_
  refine lv_iconst (v := (1:Int32)) hx hb dX4_room_7 (by decide) ?_
  refine m_iald hx hb hK hH 1 1 (n := 1160) rfl (by decide) dX4_room_8 ?_
  refine lv_ishl hx hb dX4_room_9 ?_
  refine lv_iconst (v := (1:Int32)) hx hb dX4_room_10 (by decide) ?_
  refine lv_isub hx hb dX4_room_11 ?_
  obtain ⟨x1, hf, hX⟩ := cl_inv hX
  refine m_callSi (As := [.int p1, .int (0:Int32), .int (((1:Int32) <<< ((σ.2.1 1 (1:Int32).toNatClampNeg) &&& 31)) - (1:Int32))]) ⟨hx, hb, hml, hown, hts⟩ (mX4_in l hf) (va_cwS 3 hts (lw_S q1368 q1369 q95 q1370) rfl rfl rfl (by decide +kernel) ⟨Nat.le_of_ble_eq_true rfl, Nat.le_of_ble_eq_true rfl⟩) hH hS rfl hl.1 rfl (Nat.le_of_ble_eq_true rfl) dX4_room_12 (fun H locs hH hS => ?_)
  clear hf
  refine jnu0 hX (∀ (H : Heap) (locs : List Loc), HM D dA ad σ H → va_S (AM ad) s.heap H locs → ∀ (ls : Array Slot), lv_has ls 12 [] → W p l e (headSpec (ws_ yX4_room cX4_room 12 (some .int)) (rmX4_room)).room s m ([.ref (ad 0), .int p1, .int p2] : List Value).toArray below meth c H locs 0 0 (MQ below (mQi D dA ad r σz) ([.ref (ad 0), .int p1, .int p2] : List Value).toArray s 0 0 (AM ad)) (F0 m 28 ls [])) (fun  hX H locs hH hS ls hl => ?_) (fun k2 hk2 hX => ?_)
  · refine lv_bipush (v := (-2:Int32)) hx hb dX4_room_28 (by decide) ?_
    obtain ⟨e1, e2⟩ := Prod.mk.inj (rinv hX); subst e1; subst e2
    exact W.iret hx hb hr (fun t ht hW => ⟨⟨_, (), rfl, rfl, hH.to ht⟩, hS.F ht⟩) hS.2.2 dX4_room_30
  · refine lv_if_eq (tgt := 28) hx hb dX4_room_15 (by decide) (fun hc => ?_) (fun hc => ?_)
    · replace hX := ipos hc hX; clear hc
      exact hk2  hX H locs hH hS ls (lv_sub hl [] rfl)
    · replace hX := ineg hc hX; clear hc
      refine lv_iload_n hx hb dX4_room_18 rfl (lv_at hl 2 rfl) ?_
      refine lv_iconst (v := (0:Int32)) hx hb dX4_room_19 (by decide) ?_
      refine lv_bipush (v := (99:Int32)) hx hb dX4_room_20 (by decide) ?_
      obtain ⟨x3, hf, hX⟩ := cl_inv hX
      refine m_callSi (As := [.int p2, .int (0:Int32), .int (99:Int32)]) ⟨hx, hb, hml, hown, hts⟩ (mX4_in l hf) (va_cwS 3 hts (lw_S q1368 q1369 q95 q1370) rfl rfl rfl (by decide +kernel) ⟨Nat.le_of_ble_eq_true rfl, Nat.le_of_ble_eq_true rfl⟩) hH hS rfl hl.1 rfl (Nat.le_of_ble_eq_true rfl) dX4_room_22 (fun H locs hH hS => ?_)
      clear hf
      refine lv_if_ne (tgt := 31) hx hb dX4_room_25 (by decide) (fun hc => ?_) (fun hc => ?_)
      · replace hX := ineg hc hX; clear hc
        refine lv_iconst (v := (0:Int32)) hx hb dX4_room_31 (by decide) ?_
        refine lv_istore_n (lv' := [(3, .int (0:Int32)), (0, .ref (ad 0)), (1, .int p1), (2, .int p2)]) hx hb dX4_room_32 rfl hl (by decide) rfl (fun ls hl => ?_)
        refine lpu2 hX (fun (x4 : Int32) (σ5 : MS) => ∀ (H : Heap) (locs : List Loc), HM D dA ad σ5 H → va_S (AM ad) s.heap H locs → ∀ (ls : Array Slot), lv_has ls 12 [(0, .ref (ad 0)), (1, .int p1), (2, .int p2), (3, .int x4)] → W p l e (headSpec (ws_ yX4_room cX4_room 12 (some .int)) (rmX4_room)).room s m ([.ref (ad 0), .int p1, .int p2] : List Value).toArray below meth c H locs 0 0 (MQ below (mQi D dA ad r σz) ([.ref (ad 0), .int p1, .int p2] : List Value).toArray s 0 0 (AM ad)) (F0 m 33 ls [])) (fun k6 hk6 x4 σ5 hX H locs hH hS ls hl => ?_) H locs hH hS ls (lv_sub hl [1, 2, 3, 0] rfl)
        refine lv_iload_n hx hb dX4_room_33 rfl (lv_at hl 3 rfl) ?_
        refine lv_aload_n hx hb dX4_room_34 rfl (lv_at hl 0 rfl) ?_
        refine m_get (v := .ref (ad 1)) hx hb hts hown hK hH 1 (by decide) (hts _ q1291) rfl dX4_room_35 ?_
        refine lv_iconst (v := (1:Int32)) hx hb dX4_room_38 (by decide) ?_
        refine m_iald hx hb hK hH 1 1 (n := 1160) rfl (by decide) dX4_room_39 ?_
        refine lv_icmp_ge (tgt := 65) hx hb dX4_room_40 (by decide) (fun hc => ?_) (fun hc => ?_)
        · replace hX := ipos hc hX; clear hc
          refine lv_iconst (v := (0:Int32)) hx hb dX4_room_65 (by decide) ?_
          refine lv_istore_n (lv' := [(3, .int (0:Int32)), (0, .ref (ad 0)), (1, .int p1), (2, .int p2)]) hx hb dX4_room_66 rfl hl (by decide) rfl (fun ls hl => ?_)
          refine lv_lconst (v := (0:Int64)) hx hb dX4_room_67 (by decide) ?_
          refine lv_lstore (lv' := [(4, .long (0:Int64)), (3, .int (0:Int32)), (0, .ref (ad 0)), (1, .int p1), (2, .int p2)]) hx hb dX4_room_68 hl (by decide) rfl (fun ls hl => ?_)
          refine lv_iconst (v := (1:Int32)) hx hb dX4_room_70 (by decide) ?_
          refine lv_istore (lv' := [(6, .int (1:Int32)), (4, .long (0:Int64)), (3, .int (0:Int32)), (0, .ref (ad 0)), (1, .int p1), (2, .int p2)]) hx hb dX4_room_71 hl (by decide) rfl (fun ls hl => ?_)
          refine lpu3 hX (fun (x7 : Int32) (x8 : Int64) (x9 : Int32) => ∀ (H : Heap) (locs : List Loc), HM D dA ad σ5 H → va_S (AM ad) s.heap H locs → ∀ (ls : Array Slot), lv_has ls 12 [(0, .ref (ad 0)), (1, .int p1), (2, .int p2), (3, .int x7), (4, .long x8), (6, .int x9)] → W p l e (headSpec (ws_ yX4_room cX4_room 12 (some .int)) (rmX4_room)).room s m ([.ref (ad 0), .int p1, .int p2] : List Value).toArray below meth c H locs 0 0 (MQ below (mQi D dA ad r σz) ([.ref (ad 0), .int p1, .int p2] : List Value).toArray s 0 0 (AM ad)) (F0 m 73 ls [])) (fun k10 hk10 x7 x8 x9 hX H locs hH hS ls hl => ?_) H locs hH hS ls (lv_sub hl [3, 4, 5, 2, 1, 0] rfl)
          refine lv_iload hx hb dX4_room_73 (lv_at hl 5 rfl) ?_
          refine lv_iload_n hx hb dX4_room_75 rfl (lv_at hl 1 rfl) ?_
          refine lv_icmp_gt (tgt := 231) hx hb dX4_room_76 (by decide) (fun hc => ?_) (fun hc => ?_)
          · replace hX := ipos hc hX; clear hc
            refine lv_iload_n hx hb dX4_room_231 rfl (lv_at hl 3 rfl) ?_
            obtain ⟨e1, e2⟩ := Prod.mk.inj (rinv hX); subst e1; subst e2
            exact W.iret hx hb hr (fun t ht hW => ⟨⟨_, (), rfl, rfl, hH.to ht⟩, hS.F ht⟩) hS.2.2 dX4_room_232
          · replace hX := ineg hc hX; clear hc
            refine lv_lconst (v := (0:Int64)) hx hb dX4_room_79 (by decide) ?_
            refine lv_lstore (lv' := [(7, .long (0:Int64)), (0, .ref (ad 0)), (1, .int p1), (2, .int p2), (3, .int x7), (4, .long x8), (6, .int x9)]) hx hb dX4_room_80 hl (by decide) rfl (fun ls hl => ?_)
            refine lv_iconst (v := (0:Int32)) hx hb dX4_room_82 (by decide) ?_
            refine lv_istore (lv' := [(9, .int (0:Int32)), (7, .long (0:Int64)), (0, .ref (ad 0)), (1, .int p1), (2, .int p2), (3, .int x7), (4, .long x8), (6, .int x9)]) hx hb dX4_room_83 hl (by decide) rfl (fun ls hl => ?_)
            refine lv_iconst (v := (0:Int32)) hx hb dX4_room_85 (by decide) ?_
            refine lv_istore (lv' := [(10, .int (0:Int32)), (9, .int (0:Int32)), (7, .long (0:Int64)), (0, .ref (ad 0)), (1, .int p1), (2, .int p2), (3, .int x7), (4, .long x8), (6, .int x9)]) hx hb dX4_room_86 hl (by decide) rfl (fun ls hl => ?_)
            refine lpu3 hX (fun (x11 : Int64) (x12 : Int32) (x13 : Int32) => ∀ (H : Heap) (locs : List Loc), HM D dA ad σ5 H → va_S (AM ad) s.heap H locs → ∀ (ls : Array Slot), lv_has ls 12 [(0, .ref (ad 0)), (1, .int p1), (2, .int p2), (3, .int x7), (4, .long x8), (6, .int x9), (7, .long x11), (9, .int x12), (10, .int x13)] → W p l e (headSpec (ws_ yX4_room cX4_room 12 (some .int)) (rmX4_room)).room s m ([.ref (ad 0), .int p1, .int p2] : List Value).toArray below meth c H locs 0 0 (MQ below (mQi D dA ad r σz) ([.ref (ad 0), .int p1, .int p2] : List Value).toArray s 0 0 (AM ad)) (F0 m 88 ls [])) (fun k14 hk14 x11 x12 x13 hX H locs hH hS ls hl => ?_) H locs hH hS ls (lv_sub hl [3, 4, 5, 6, 7, 8, 2, 1, 0] rfl)
            refine lv_iload hx hb dX4_room_88 (lv_at hl 8 rfl) ?_
            refine lv_aload_n hx hb dX4_room_90 rfl (lv_at hl 0 rfl) ?_
            refine m_get (v := .ref (ad 1)) hx hb hts hown hK hH 1 (by decide) (hts _ q1291) rfl dX4_room_91 ?_
            refine lv_iconst (v := (1:Int32)) hx hb dX4_room_94 (by decide) ?_
            refine m_iald hx hb hK hH 1 1 (n := 1160) rfl (by decide) dX4_room_95 ?_
            refine lv_icmp_ge (tgt := 169) hx hb dX4_room_96 (by decide) (fun hc => ?_) (fun hc => ?_)
            · replace hX := ipos hc hX; clear hc
              refine lv_iload hx hb dX4_room_169 (lv_at hl 5 rfl) ?_
              refine lv_iload_n hx hb dX4_room_171 rfl (lv_at hl 1 rfl) ?_
              refine lv_iconst (v := (-1:Int32)) hx hb dX4_room_172 (by decide) ?_
              refine lv_ixor hx hb dX4_room_173 ?_
              refine lv_iand hx hb dX4_room_174 ?_
              refine jnu1 hX (fun (x15 : Int32) => ∀ (H : Heap) (locs : List Loc), HM D dA ad σ5 H → va_S (AM ad) s.heap H locs → ∀ (ls : Array Slot), lv_has ls 12 [(0, .ref (ad 0)), (1, .int p1), (2, .int p2), (3, .int x7), (4, .long x8), (6, .int x9), (7, .long x11)] → W p l e (headSpec (ws_ yX4_room cX4_room 12 (some .int)) (rmX4_room)).room s m ([.ref (ad 0), .int p1, .int p2] : List Value).toArray below meth c H locs 0 0 (MQ below (mQi D dA ad r σz) ([.ref (ad 0), .int p1, .int p2] : List Value).toArray s 0 0 (AM ad)) (F0 m 197 ls [.int x15])) (fun x15 hX H locs hH hS ls hl => ?_) (fun k16 hk16 hX => ?_)
              · refine lv_istore (lv' := [(10, .int x15), (0, .ref (ad 0)), (1, .int p1), (2, .int p2), (3, .int x7), (4, .long x8), (6, .int x9), (7, .long x11)]) hx hb dX4_room_197 hl (by decide) rfl (fun ls hl => ?_)
                refine lv_iload hx hb dX4_room_199 (lv_at hl 0 rfl) ?_
                refine jnu1 hX (fun (x17 : Int32) => ∀ (H : Heap) (locs : List Loc), HM D dA ad σ5 H → va_S (AM ad) s.heap H locs → ∀ (ls : Array Slot), lv_has ls 12 [(0, .ref (ad 0)), (1, .int p1), (2, .int p2), (4, .long x8), (6, .int x9), (7, .long x11), (10, .int x15)] → W p l e (headSpec (ws_ yX4_room cX4_room 12 (some .int)) (rmX4_room)).room s m ([.ref (ad 0), .int p1, .int p2] : List Value).toArray below meth c H locs 0 0 (MQ below (mQi D dA ad r σz) ([.ref (ad 0), .int p1, .int p2] : List Value).toArray s 0 0 (AM ad)) (F0 m 210 ls [.int x17])) (fun x17 hX H locs hH hS ls hl => ?_) (fun k18 hk18 hX => ?_)
                · refine lv_istore_n (lv' := [(3, .int x17), (0, .ref (ad 0)), (1, .int p1), (2, .int p2), (4, .long x8), (6, .int x9), (7, .long x11), (10, .int x15)]) hx hb dX4_room_210 rfl hl (by decide) rfl (fun ls hl => ?_)
                  refine lv_iload hx hb dX4_room_211 (lv_at hl 7 rfl) ?_
                  refine jnu1 hX (fun (x19 : Int64) => ∀ (H : Heap) (locs : List Loc), HM D dA ad σ5 H → va_S (AM ad) s.heap H locs → ∀ (ls : Array Slot), lv_has ls 12 [(0, .ref (ad 0)), (1, .int p1), (2, .int p2), (3, .int x17), (6, .int x9)] → W p l e (headSpec (ws_ yX4_room cX4_room 12 (some .int)) (rmX4_room)).room s m ([.ref (ad 0), .int p1, .int p2] : List Value).toArray below meth c H locs 0 0 (MQ below (mQi D dA ad r σz) ([.ref (ad 0), .int p1, .int p2] : List Value).toArray s 0 0 (AM ad)) (F0 m 223 ls [.long x19])) (fun x19 hX H locs hH hS ls hl => ?_) (fun k20 hk20 hX => ?_)
                  · refine lv_lstore (lv' := [(4, .long x19), (0, .ref (ad 0)), (1, .int p1), (2, .int p2), (3, .int x17), (6, .int x9)]) hx hb dX4_room_223 hl (by decide) rfl (fun ls hl => ?_)
                    obtain ⟨x21, ex21⟩ : ∃ y : Int32, y = x9 + (1:Int32) := ⟨_, rfl⟩
                    replace hX := bd_inv ex21 hX
                    refine lv_iinc (v := x21) (lv' := [(6, .int x21), (4, .long x19), (0, .ref (ad 0)), (1, .int p1), (2, .int p2), (3, .int x17)]) hx hb dX4_room_225 hl (k := 5) rfl (by rw [ex21]; rfl) (by decide) rfl (fun ls hl => ?_)
                    clear ex21
                    refine lv_goto (tgt := 73) hx hb dX4_room_228 (by decide) ?_
                    exact hk10 x17 x19 x21 hX H locs hH hS ls (lv_sub hl [2, 3, 4, 5, 1, 0] rfl)
                  · refine lv_if_eq (tgt := 221) hx hb dX4_room_213 (by decide) (fun hc => ?_) (fun hc => ?_)
                    · replace hX := ipos hc hX; clear hc
                      refine lv_lload hx hb dX4_room_221 (lv_at hl 4 rfl) ?_
                      exact hk20 x8 hX H locs hH hS ls (lv_sub hl [1, 2, 3, 0, 5] rfl)
                    · replace hX := ineg hc hX; clear hc
                      refine lv_lload hx hb dX4_room_216 (lv_at hl 6 rfl) ?_
                      refine lv_goto (tgt := 223) hx hb dX4_room_218 (by decide) ?_
                      exact hk20 x11 hX H locs hH hS ls (lv_sub hl [1, 2, 3, 0, 5] rfl)
                · refine lv_if_eq (tgt := 209) hx hb dX4_room_201 (by decide) (fun hc => ?_) (fun hc => ?_)
                  · replace hX := ipos hc hX; clear hc
                    refine lv_iload_n hx hb dX4_room_209 rfl (lv_at hl 4 rfl) ?_
                    exact hk18 x7 hX H locs hH hS ls (lv_sub hl [1, 2, 3, 5, 6, 7, 0] rfl)
                  · replace hX := ineg hc hX; clear hc
                    refine lv_iload hx hb dX4_room_204 (lv_at hl 6 rfl) ?_
                    refine lv_goto (tgt := 210) hx hb dX4_room_206 (by decide) ?_
                    exact hk18 x9 hX H locs hH hS ls (lv_sub hl [1, 2, 3, 5, 6, 7, 0] rfl)
              · refine jnu0 hX (∀ (H : Heap) (locs : List Loc), HM D dA ad σ5 H → va_S (AM ad) s.heap H locs → ∀ (ls : Array Slot), lv_has ls 12 [(0, .ref (ad 0)), (1, .int p1), (2, .int p2), (3, .int x7), (4, .long x8), (6, .int x9), (7, .long x11)] → W p l e (headSpec (ws_ yX4_room cX4_room 12 (some .int)) (rmX4_room)).room s m ([.ref (ad 0), .int p1, .int p2] : List Value).toArray below meth c H locs 0 0 (MQ below (mQi D dA ad r σz) ([.ref (ad 0), .int p1, .int p2] : List Value).toArray s 0 0 (AM ad)) (F0 m 196 ls [])) (fun  hX H locs hH hS ls hl => ?_) (fun k22 hk22 hX => ?_)
                · refine lv_iconst (v := (0:Int32)) hx hb dX4_room_196 (by decide) ?_
                  exact hk16 (0:Int32) hX H locs hH hS ls (lv_sub hl [0, 1, 2, 3, 4, 5, 6] rfl)
                · refine lv_if_ne (tgt := 196) hx hb dX4_room_175 (by decide) (fun hc => ?_) (fun hc => ?_)
                  · replace hX := ineg hc hX; clear hc
                    exact hk22  hX H locs hH hS ls (lv_sub hl [0, 1, 2, 3, 4, 5, 6] rfl)
                  · replace hX := ipos hc hX; clear hc
                    refine lv_iload hx hb dX4_room_178 (lv_at hl 7 rfl) ?_
                    refine lv_iload_n hx hb dX4_room_180 rfl (lv_at hl 2 rfl) ?_
                    refine lv_icmp_gt (tgt := 196) hx hb dX4_room_181 (by decide) (fun hc => ?_) (fun hc => ?_)
                    · replace hX := ipos hc hX; clear hc
                      exact hk22  hX H locs hH hS ls (lv_sub hl [0, 1, 2, 3, 4, 5, 6] rfl)
                    · replace hX := ineg hc hX; clear hc
                      refine lv_lload hx hb dX4_room_184 (lv_at hl 6 rfl) ?_
                      refine lv_lload hx hb dX4_room_186 (lv_at hl 4 rfl) ?_
                      refine W.lcmp hx hb dX4_room_188 ?_
                      refine lv_if_le (tgt := 196) hx hb dX4_room_189 (by decide) (fun hc => ?_) (fun hc => ?_)
                      · replace hX := ipos hc hX; clear hc
                        exact hk22  hX H locs hH hS ls (lv_sub hl [0, 1, 2, 3, 4, 5, 6] rfl)
                      · replace hX := ineg hc hX; clear hc
                        refine lv_iconst (v := (1:Int32)) hx hb dX4_room_192 (by decide) ?_
                        refine lv_goto (tgt := 197) hx hb dX4_room_193 (by decide) ?_
                        exact hk16 (1:Int32) hX H locs hH hS ls (lv_sub hl [0, 1, 2, 3, 4, 5, 6] rfl)
            · replace hX := ineg hc hX; clear hc
              refine lv_iload hx hb dX4_room_99 (lv_at hl 5 rfl) ?_
              refine lv_iload hx hb dX4_room_101 (lv_at hl 8 rfl) ?_
              refine lv_ishr hx hb dX4_room_103 ?_
              refine lv_iconst (v := (1:Int32)) hx hb dX4_room_104 (by decide) ?_
              refine lv_iand hx hb dX4_room_105 ?_
              refine lv_iconst (v := (1:Int32)) hx hb dX4_room_106 (by decide) ?_
              refine jnu1 hX (fun (x23 : Int32) => ∀ (H : Heap) (locs : List Loc), HM D dA ad σ5 H → va_S (AM ad) s.heap H locs → ∀ (ls : Array Slot), lv_has ls 12 [(0, .ref (ad 0)), (1, .int p1), (2, .int p2), (3, .int x7), (4, .long x8), (6, .int x9), (7, .long x11), (9, .int x12), (10, .int x13)] → W p l e (headSpec (ws_ yX4_room cX4_room 12 (some .int)) (rmX4_room)).room s m ([.ref (ad 0), .int p1, .int p2] : List Value).toArray below meth c H locs 0 0 (MQ below (mQi D dA ad r σz) ([.ref (ad 0), .int p1, .int p2] : List Value).toArray s 0 0 (AM ad)) (F0 m 115 ls [.int x23])) (fun x23 hX H locs hH hS ls hl => ?_) (fun k24 hk24 hX => ?_)
              · refine lv_istore (lv' := [(11, .int x23), (0, .ref (ad 0)), (1, .int p1), (2, .int p2), (3, .int x7), (4, .long x8), (6, .int x9), (7, .long x11), (9, .int x12), (10, .int x13)]) hx hb dX4_room_115 hl (by decide) rfl (fun ls hl => ?_)
                refine lv_lload hx hb dX4_room_117 (lv_at hl 7 rfl) ?_
                refine lv_iload hx hb dX4_room_119 (lv_at hl 0 rfl) ?_
                refine jnu1 hX (fun (x25 : Int64) => ∀ (H : Heap) (locs : List Loc), HM D dA ad σ5 H → va_S (AM ad) s.heap H locs → ∀ (ls : Array Slot), lv_has ls 12 [(0, .ref (ad 0)), (1, .int p1), (2, .int p2), (3, .int x7), (4, .long x8), (6, .int x9), (9, .int x12), (10, .int x13), (11, .int x23)] → W p l e (headSpec (ws_ yX4_room cX4_room 12 (some .int)) (rmX4_room)).room s m ([.ref (ad 0), .int p1, .int p2] : List Value).toArray below meth c H locs 0 0 (MQ below (mQi D dA ad r σz) ([.ref (ad 0), .int p1, .int p2] : List Value).toArray s 0 0 (AM ad)) (F0 m 135 ls [.long x25, .long x11])) (fun x25 hX H locs hH hS ls hl => ?_) (fun k26 hk26 hX => ?_)
                · refine lv_ladd hx hb dX4_room_135 ?_
                  refine lv_topl (fun x27 ex27 => ?_)
                  replace hX := bd_inv ex27 hX; clear ex27
                  refine lv_lstore (lv' := [(7, .long x27), (0, .ref (ad 0)), (1, .int p1), (2, .int p2), (3, .int x7), (4, .long x8), (6, .int x9), (9, .int x12), (10, .int x13), (11, .int x23)]) hx hb dX4_room_136 hl (by decide) rfl (fun ls hl => ?_)
                  refine lv_iload hx hb dX4_room_138 (lv_at hl 7 rfl) ?_
                  refine lv_iload hx hb dX4_room_140 (lv_at hl 9 rfl) ?_
                  refine jnu1 hX (fun (x28 : Int32) => ∀ (H : Heap) (locs : List Loc), HM D dA ad σ5 H → va_S (AM ad) s.heap H locs → ∀ (ls : Array Slot), lv_has ls 12 [(0, .ref (ad 0)), (1, .int p1), (2, .int p2), (3, .int x7), (4, .long x8), (6, .int x9), (7, .long x27), (10, .int x13)] → W p l e (headSpec (ws_ yX4_room cX4_room 12 (some .int)) (rmX4_room)).room s m ([.ref (ad 0), .int p1, .int p2] : List Value).toArray below meth c H locs 0 0 (MQ below (mQi D dA ad r σz) ([.ref (ad 0), .int p1, .int p2] : List Value).toArray s 0 0 (AM ad)) (F0 m 160 ls [.int x28, .int x12])) (fun x28 hX H locs hH hS ls hl => ?_) (fun k29 hk29 hX => ?_)
                  · refine lv_iadd hx hb dX4_room_160 ?_
                    refine lv_topi (fun x30 ex30 => ?_)
                    replace hX := bd_inv ex30 hX; clear ex30
                    refine lv_istore (lv' := [(9, .int x30), (0, .ref (ad 0)), (1, .int p1), (2, .int p2), (3, .int x7), (4, .long x8), (6, .int x9), (7, .long x27), (10, .int x13)]) hx hb dX4_room_161 hl (by decide) rfl (fun ls hl => ?_)
                    obtain ⟨x31, ex31⟩ : ∃ y : Int32, y = x13 + (1:Int32) := ⟨_, rfl⟩
                    replace hX := bd_inv ex31 hX
                    refine lv_iinc (v := x31) (lv' := [(10, .int x31), (9, .int x30), (0, .ref (ad 0)), (1, .int p1), (2, .int p2), (3, .int x7), (4, .long x8), (6, .int x9), (7, .long x27)]) hx hb dX4_room_163 hl (k := 8) rfl (by rw [ex31]; rfl) (by decide) rfl (fun ls hl => ?_)
                    clear ex31
                    refine lv_goto (tgt := 88) hx hb dX4_room_166 (by decide) ?_
                    exact hk14 x27 x30 x31 hX H locs hH hS ls (lv_sub hl [2, 3, 4, 5, 6, 7, 8, 1, 0] rfl)
                  · refine lv_if_eq (tgt := 159) hx hb dX4_room_142 (by decide) (fun hc => ?_) (fun hc => ?_)
                    · replace hX := ipos hc hX; clear hc
                      refine lv_iconst (v := (0:Int32)) hx hb dX4_room_159 (by decide) ?_
                      exact hk29 (0:Int32) hX H locs hH hS ls (lv_sub hl [1, 2, 3, 4, 5, 6, 0, 8] rfl)
                    · replace hX := ineg hc hX; clear hc
                      refine lv_aload_n hx hb dX4_room_145 rfl (lv_at hl 1 rfl) ?_
                      refine m_get (v := .ref (ad 1)) hx hb hts hown hK hH 1 (by decide) (hts _ q1291) rfl dX4_room_146 ?_
                      refine lv_sipush (v := (926:Int32)) hx hb dX4_room_149 (by decide) ?_
                      refine lv_iload hx hb dX4_room_152 (lv_at hl 8 rfl) ?_
                      refine lv_iadd hx hb dX4_room_154 ?_
                      obtain ⟨hg, hX⟩ := gd_inv hX
                      refine m_iald hx hb hK hH 1 1 (n := 1160) rfl hg dX4_room_155 ?_
                      refine lv_goto (tgt := 160) hx hb dX4_room_156 (by decide) ?_
                      exact hk29 (σ5.2.1 1 ((926:Int32) + x13).toNatClampNeg) hX H locs hH hS ls (lv_sub hl [1, 2, 3, 4, 5, 6, 0, 8] rfl)
                · refine lv_if_eq (tgt := 134) hx hb dX4_room_121 (by decide) (fun hc => ?_) (fun hc => ?_)
                  · replace hX := ipos hc hX; clear hc
                    refine lv_lconst (v := (0:Int64)) hx hb dX4_room_134 (by decide) ?_
                    exact hk26 (0:Int64) hX H locs hH hS ls (lv_sub hl [1, 2, 3, 4, 5, 6, 8, 9, 0] rfl)
                  · replace hX := ineg hc hX; clear hc
                    refine lv_aload_n hx hb dX4_room_124 rfl (lv_at hl 1 rfl) ?_
                    refine m_get (v := .ref (ad 16)) hx hb hts hown hK hH 16 (by decide) (hts _ q1306) rfl dX4_room_125 ?_
                    refine lv_iload hx hb dX4_room_128 (lv_at hl 9 rfl) ?_
                    obtain ⟨hg, hX⟩ := gd_inv hX
                    refine m_lald hx hb hK hH 5 16 (n := 12) rfl hg dX4_room_130 ?_
                    refine lv_goto (tgt := 135) hx hb dX4_room_131 (by decide) ?_
                    exact hk26 (σ5.2.2 16 x13.toNatClampNeg) hX H locs hH hS ls (lv_sub hl [1, 2, 3, 4, 5, 6, 8, 9, 0] rfl)
              · refine lv_icmp_ne (tgt := 114) hx hb dX4_room_107 (by decide) (fun hc => ?_) (fun hc => ?_)
                · replace hX := ineg hc hX; clear hc
                  refine lv_iconst (v := (0:Int32)) hx hb dX4_room_114 (by decide) ?_
                  exact hk24 (0:Int32) hX H locs hH hS ls (lv_sub hl [0, 1, 2, 3, 4, 5, 6, 7, 8] rfl)
                · replace hX := ipos hc hX; clear hc
                  refine lv_iconst (v := (1:Int32)) hx hb dX4_room_110 (by decide) ?_
                  refine lv_goto (tgt := 115) hx hb dX4_room_111 (by decide) ?_
                  exact hk24 (1:Int32) hX H locs hH hS ls (lv_sub hl [0, 1, 2, 3, 4, 5, 6, 7, 8] rfl)
        · replace hX := ineg hc hX; clear hc
          refine lv_aload_n hx hb dX4_room_43 rfl (lv_at hl 0 rfl) ?_
          refine lv_iload_n hx hb dX4_room_44 rfl (lv_at hl 3 rfl) ?_
          obtain ⟨σ32, hf, hX⟩ := cl_inv hX
          refine m_callVv (As := [.int x4]) ⟨hx, hb, hml, hown, hts⟩ (mX4_takes l D dA ad hf) (cwV 1 hts (lw_V q1507 q1509 qs57 q95 q1510) rfl rfl rfl (by decide +kernel) ⟨Nat.le_of_ble_eq_true rfl, Nat.le_of_ble_eq_true rfl⟩) hK hH hS rfl hl.1 rfl (Nat.le_of_ble_eq_true rfl) dX4_room_45 (fun H locs hH hS => ?_)
          clear hf
          refine lv_aload_n hx hb dX4_room_48 rfl (lv_at hl 0 rfl) ?_
          refine m_get (v := .ref (ad 16)) hx hb hts hown hK hH 16 (by decide) (hts _ q1306) rfl dX4_room_49 ?_
          refine lv_iload_n hx hb dX4_room_52 rfl (lv_at hl 3 rfl) ?_
          refine lv_aload_n hx hb dX4_room_53 rfl (lv_at hl 0 rfl) ?_
          refine lv_iconst (v := (0:Int32)) hx hb dX4_room_54 (by decide) ?_
          obtain ⟨x33, hf, hX⟩ := cl_inv hX
          refine m_callVl (As := [.int (0:Int32)]) ⟨hx, hb, hml, hown, hts⟩ (mX4_harmOf l D dA ad hf) (cwV 1 hts (lw_V q1574 q1576 qs66 q95 q1577) rfl rfl rfl (by decide +kernel) ⟨Nat.le_of_ble_eq_true rfl, Nat.le_of_ble_eq_true rfl⟩) hK hH hS rfl hl.1 rfl (Nat.le_of_ble_eq_true rfl) dX4_room_55 (fun H locs hH hS => ?_)
          clear hf
          obtain ⟨hg, hX⟩ := gd_inv hX
          refine m_last hx hb hK hH hS 5 16 (n := 12) rfl hg rfl dX4_room_58 (fun σ34 eσ34 H locs hH hS => ?_)
          replace hX := bd_inv eσ34 hX; clear eσ34
          obtain ⟨x35, ex35⟩ : ∃ y : Int32, y = x4 + (1:Int32) := ⟨_, rfl⟩
          replace hX := bd_inv ex35 hX
          refine lv_iinc (v := x35) (lv' := [(3, .int x35), (0, .ref (ad 0)), (1, .int p1), (2, .int p2)]) hx hb dX4_room_59 hl (k := 3) rfl (by rw [ex35]; rfl) (by decide) rfl (fun ls hl => ?_)
          clear ex35
          refine lv_goto (tgt := 33) hx hb dX4_room_62 (by decide) ?_
          exact hk6 x35 σ34 hX H locs hH hS ls (lv_sub hl [1, 2, 3, 0] rfl)
      · replace hX := ipos hc hX; clear hc
        exact hk2  hX H locs hH hS ls (lv_sub hl [] rfl)

abbrev rmX4_meanFromPlace : Room := { frames := 938, cells := 0, slots := 0, locals := 21792 }
def fX4_meanFromPlace (p1 : Int32) (p2 : Int32) (p3 : Int32) (σ : MS) : Option (Int64 × MS) :=
 cl (fX4_takes p2 σ) (fun (σ1 : MS) =>
 bd (sf σ1 13 p3) (fun (σ2 : MS) =>
 cl (fX4_anew (0:Int32) p3 (0:Int32) σ2) (fun (σ3 : MS) =>
 cl2 (fX4_meanOf p1 σ3) (fun (x5 : Int64) (σ4 : MS) =>
 some (x5, σ4)))))
set_option maxHeartbeats 4000000 in
set_option maxRecDepth 100000 in
theorem mX4_meanFromPlace (l : Launch) (D : va_G) (dA : Nat → ClassId) (ad : Nat → Nat) {p1 : Int32} {p2 : Int32} {p3 : Int32} {σ : MS} {r : Int64} {σz : MS} (hX : fX4_meanFromPlace p1 p2 p3 σ = some (r, σz)) : Met l yX4_meanFromPlace (ws_ yX4_meanFromPlace cX4_meanFromPlace 4 (some .long)) (rmX4_meanFromPlace) (mPc D dA ad σ [.int p1, .int p2, .int p3]) (mQl D dA ad r σz) 0 0 (AM ad) := by
  refine Met.ofW (cc := cX4_meanFromPlace) (maxL := 4) (ret := (some .long)) (by decide) rfl ?_
  intro p e s m args below meth c s₁ B hml hv
  obtain ⟨rfl, hH, hK⟩ := hv
  have hx := B.exec
  have hb := B.bytes
  have hr := B.returns
  have hts := atoms_spec (ws := (ws_ yX4_meanFromPlace cX4_meanFromPlace 4 (some .long))) B.pre
  have hts : ∀ w ∈ lw_all, w.before _ s = true := fun w h => hts w (List.mem_cons_of_mem _ h)
  have hown : s.vm.findClass RX4 = some m.cls := findClass_of_methodNamed B.named
  have hlocks := B.notSynchronized
  have hl := lv_entry ([.ref (ad 0), .int p1, .int p2, .int p3]) (n := 4) (Nat.le_of_ble_eq_true rfl)
  rw [lg_entry_eq]
  generalize (lg_sl ([.ref (ad 0), .int p1, .int p2, .int p3]) ++ List.replicate (4 - (lg_sl ([.ref (ad 0), .int p1, .int p2, .int p3])).length) Slot.unset).toArray = ls at hl ⊢
  have hl : lv_has ls 4 [(0, .ref (ad 0)), (1, .int p1), (2, .int p2), (3, .int p3)] := hl
  unfold fX4_meanFromPlace at hX
  refine m_start hH (fun H locs hH hS => ?_)
  refine lv_aload_n hx hb dX4_meanFromPlace_0 rfl (lv_at hl 0 rfl) ?_
  refine lv_iload_n hx hb dX4_meanFromPlace_1 rfl (lv_at hl 2 rfl) ?_
  obtain ⟨σ1, hf, hX⟩ := cl_inv hX
  refine m_callVv (As := [.int p2]) ⟨hx, hb, hml, hown, hts⟩ (mX4_takes l D dA ad hf) (cwV 1 hts (lw_V q1507 q1509 qs57 q95 q1510) rfl rfl rfl (by decide +kernel) ⟨Nat.le_of_ble_eq_true rfl, Nat.le_of_ble_eq_true rfl⟩) hK hH hS rfl hl.1 rfl (Nat.le_of_ble_eq_true rfl) dX4_meanFromPlace_2 (fun H locs hH hS => ?_)
  clear hf
  refine lv_aload_n hx hb dX4_meanFromPlace_5 rfl (lv_at hl 0 rfl) ?_
  refine lv_iload_n hx hb dX4_meanFromPlace_6 rfl (lv_at hl 3 rfl) ?_
  refine m_put (ty := .int) hx hb hts hown hK hH hS 13 (by decide) (hts _ q1303) rfl (tyX4_ok 13 (by decide)) rfl rfl rfl dX4_meanFromPlace_7 (fun σ2 eσ2 H locs hH hS => ?_)
  replace hX := bd_inv eσ2 hX; clear eσ2
  refine lv_aload_n hx hb dX4_meanFromPlace_10 rfl (lv_at hl 0 rfl) ?_
  refine lv_iconst (v := (0:Int32)) hx hb dX4_meanFromPlace_11 (by decide) ?_
  refine lv_iload_n hx hb dX4_meanFromPlace_12 rfl (lv_at hl 3 rfl) ?_
  refine lv_iconst (v := (0:Int32)) hx hb dX4_meanFromPlace_13 (by decide) ?_
  obtain ⟨σ3, hf, hX⟩ := cl_inv hX
  refine m_callVv (As := [.int (0:Int32), .int p3, .int (0:Int32)]) ⟨hx, hb, hml, hown, hts⟩ (mX4_anew l D dA ad hf) (cwV 3 hts (lw_V q1511 q1513 qs58 q95 q1514) rfl rfl rfl (by decide +kernel) ⟨Nat.le_of_ble_eq_true rfl, Nat.le_of_ble_eq_true rfl⟩) hK hH hS rfl hl.1 rfl (Nat.le_of_ble_eq_true rfl) dX4_meanFromPlace_14 (fun H locs hH hS => ?_)
  clear hf
  refine lv_aload_n hx hb dX4_meanFromPlace_17 rfl (lv_at hl 0 rfl) ?_
  refine lv_iload_n hx hb dX4_meanFromPlace_18 rfl (lv_at hl 1 rfl) ?_
  obtain ⟨x5, σ4, hf, hX⟩ := cl2_inv hX
  refine m_callVl (As := [.int p1]) ⟨hx, hb, hml, hown, hts⟩ (mX4_meanOf l D dA ad hf) (cwV 1 hts (lw_V q1624 q1626 qs73 q95 q1627) rfl rfl rfl (by decide +kernel) ⟨Nat.le_of_ble_eq_true rfl, Nat.le_of_ble_eq_true rfl⟩) hK hH hS rfl hl.1 rfl (Nat.le_of_ble_eq_true rfl) dX4_meanFromPlace_19 (fun H locs hH hS => ?_)
  clear hf
  obtain ⟨e1, e2⟩ := Prod.mk.inj (rinv hX); subst e1; subst e2
  exact W.lret hx hb hr (fun t ht hW => ⟨⟨_, (), rfl, rfl, hH.to ht⟩, hS.F ht⟩) hS.2.2 dX4_meanFromPlace_22

abbrev rmX4_lies : Room := { frames := 939, cells := 0, slots := 0, locals := 21815 }
def fX4_lies (p1 : Int32) (p2 : Int32) (σ : MS) : Option (Int32 × MS) :=
 cl (fX4_isRule p1 σ) (fun (x1 : Int32) =>
 jn (some ((-1:Int32), σ)) (fun (k2 : Option (Int32 × MS)) =>
 if x1 = (0:Int32) then
 k2
 else
 cl (fX4_isShip p2 σ) (fun (x3 : Int32) =>
 if x3 = (0:Int32) then
 k2
 else
 lp (fun _ _ _ _ => none) (fun (k8 : Int32 → Int64 → Int32 → MS → Option (Int32 × MS)) (x4 : Int32) (x5 : Int64) (x6 : Int32) (σ7 : MS) =>
 if (4:Int32) ≤ x6 then
 some (x4, σ7)
 else
 cl2 (fX4_meanFromPlace p1 p2 x6 σ7) (fun (x10 : Int64) (σ9 : MS) =>
 jn (fun (x11 : Int32) => jn (fun (x13 : Int64) => bd (x6 + (1:Int32)) (fun (x15 : Int32) =>
 k8 x11 x13 x15 σ9)) (fun (k14 : Int64 → Option (Int32 × MS)) =>
 jn (k14 x10) (fun (k16 : Option (Int32 × MS)) =>
 if x6 = (0:Int32) then
 k16
 else
 if (0:Int32) ≤ (lg_cmp x10 x5) then
 k14 x5
 else
 k16))) (fun (k12 : Int32 → Option (Int32 × MS)) =>
 jn (k12 x6) (fun (k17 : Option (Int32 × MS)) =>
 if x6 = (0:Int32) then
 k17
 else
 if (0:Int32) ≤ (lg_cmp x10 x5) then
 k12 x4
 else
 k17)))) NF (0:Int32) (0:Int64) (0:Int32) σ)))
set_option maxHeartbeats 4000000 in
set_option maxRecDepth 100000 in
theorem mX4_lies (l : Launch) (D : va_G) (dA : Nat → ClassId) (ad : Nat → Nat) {p1 : Int32} {p2 : Int32} {σ : MS} {r : Int32} {σz : MS} (hX : fX4_lies p1 p2 σ = some (r, σz)) : Met l yX4_lies (ws_ yX4_lies cX4_lies 9 (some .int)) (rmX4_lies) (mPc D dA ad σ [.int p1, .int p2]) (mQi D dA ad r σz) 0 0 (AM ad) := by
  refine Met.ofW (cc := cX4_lies) (maxL := 9) (ret := (some .int)) (by decide) rfl ?_
  intro p e s m args below meth c s₁ B hml hv
  obtain ⟨rfl, hH, hK⟩ := hv
  have hx := B.exec
  have hb := B.bytes
  have hr := B.returns
  have hts := atoms_spec (ws := (ws_ yX4_lies cX4_lies 9 (some .int))) B.pre
  have hts : ∀ w ∈ lw_all, w.before _ s = true := fun w h => hts w (List.mem_cons_of_mem _ h)
  have hown : s.vm.findClass RX4 = some m.cls := findClass_of_methodNamed B.named
  have hlocks := B.notSynchronized
  have hl := lv_entry ([.ref (ad 0), .int p1, .int p2]) (n := 9) (Nat.le_of_ble_eq_true rfl)
  rw [lg_entry_eq]
  generalize (lg_sl ([.ref (ad 0), .int p1, .int p2]) ++ List.replicate (9 - (lg_sl ([.ref (ad 0), .int p1, .int p2])).length) Slot.unset).toArray = ls at hl ⊢
  have hl : lv_has ls 9 [(0, .ref (ad 0)), (1, .int p1), (2, .int p2)] := hl
  unfold fX4_lies at hX
  refine m_start hH (fun H locs hH hS => ?_)
  refine lv_aload_n hx hb dX4_lies_0 rfl (lv_at hl 0 rfl) ?_
  refine lv_iload_n hx hb dX4_lies_1 rfl (lv_at hl 1 rfl) ?_
  obtain ⟨x1, hf, hX⟩ := cl_inv hX
  refine m_callVi (As := [.int p1]) ⟨hx, hb, hml, hown, hts⟩ (mX4_isRule l D dA ad hf) (cwV 1 hts (lw_V q1588 q1590 qs67 q95 q1591) rfl rfl rfl (by decide +kernel) ⟨Nat.le_of_ble_eq_true rfl, Nat.le_of_ble_eq_true rfl⟩) hK hH hS rfl hl.1 rfl (Nat.le_of_ble_eq_true rfl) dX4_lies_2 (fun H locs hH hS => ?_)
  clear hf
  refine jnu0 hX (∀ (H : Heap) (locs : List Loc), HM D dA ad σ H → va_S (AM ad) s.heap H locs → ∀ (ls : Array Slot), lv_has ls 9 [] → W p l e (headSpec (ws_ yX4_lies cX4_lies 9 (some .int)) (rmX4_lies)).room s m ([.ref (ad 0), .int p1, .int p2] : List Value).toArray below meth c H locs 0 0 (MQ below (mQi D dA ad r σz) ([.ref (ad 0), .int p1, .int p2] : List Value).toArray s 0 0 (AM ad)) (F0 m 16 ls [])) (fun  hX H locs hH hS ls hl => ?_) (fun k2 hk2 hX => ?_)
  · refine lv_iconst (v := (-1:Int32)) hx hb dX4_lies_16 (by decide) ?_
    obtain ⟨e1, e2⟩ := Prod.mk.inj (rinv hX); subst e1; subst e2
    exact W.iret hx hb hr (fun t ht hW => ⟨⟨_, (), rfl, rfl, hH.to ht⟩, hS.F ht⟩) hS.2.2 dX4_lies_17
  · refine lv_if_eq (tgt := 16) hx hb dX4_lies_5 (by decide) (fun hc => ?_) (fun hc => ?_)
    · replace hX := ipos hc hX; clear hc
      exact hk2  hX H locs hH hS ls (lv_sub hl [] rfl)
    · replace hX := ineg hc hX; clear hc
      refine lv_aload_n hx hb dX4_lies_8 rfl (lv_at hl 0 rfl) ?_
      refine lv_iload_n hx hb dX4_lies_9 rfl (lv_at hl 2 rfl) ?_
      obtain ⟨x3, hf, hX⟩ := cl_inv hX
      refine m_callVi (As := [.int p2]) ⟨hx, hb, hml, hown, hts⟩ (mX4_isShip l D dA ad hf) (cwV 1 hts (lw_V q1532 q1534 qs61 q95 q1535) rfl rfl rfl (by decide +kernel) ⟨Nat.le_of_ble_eq_true rfl, Nat.le_of_ble_eq_true rfl⟩) hK hH hS rfl hl.1 rfl (Nat.le_of_ble_eq_true rfl) dX4_lies_10 (fun H locs hH hS => ?_)
      clear hf
      refine lv_if_ne (tgt := 18) hx hb dX4_lies_13 (by decide) (fun hc => ?_) (fun hc => ?_)
      · replace hX := ineg hc hX; clear hc
        refine lv_iconst (v := (0:Int32)) hx hb dX4_lies_18 (by decide) ?_
        refine lv_istore_n (lv' := [(3, .int (0:Int32)), (0, .ref (ad 0)), (1, .int p1), (2, .int p2)]) hx hb dX4_lies_19 rfl hl (by decide) rfl (fun ls hl => ?_)
        refine lv_lconst (v := (0:Int64)) hx hb dX4_lies_20 (by decide) ?_
        refine lv_lstore (lv' := [(4, .long (0:Int64)), (3, .int (0:Int32)), (0, .ref (ad 0)), (1, .int p1), (2, .int p2)]) hx hb dX4_lies_21 hl (by decide) rfl (fun ls hl => ?_)
        refine lv_iconst (v := (0:Int32)) hx hb dX4_lies_23 (by decide) ?_
        refine lv_istore (lv' := [(6, .int (0:Int32)), (4, .long (0:Int64)), (3, .int (0:Int32)), (0, .ref (ad 0)), (1, .int p1), (2, .int p2)]) hx hb dX4_lies_24 hl (by decide) rfl (fun ls hl => ?_)
        refine lpu4 hX (fun (x4 : Int32) (x5 : Int64) (x6 : Int32) (σ7 : MS) => ∀ (H : Heap) (locs : List Loc), HM D dA ad σ7 H → va_S (AM ad) s.heap H locs → ∀ (ls : Array Slot), lv_has ls 9 [(0, .ref (ad 0)), (1, .int p1), (2, .int p2), (3, .int x4), (4, .long x5), (6, .int x6)] → W p l e (headSpec (ws_ yX4_lies cX4_lies 9 (some .int)) (rmX4_lies)).room s m ([.ref (ad 0), .int p1, .int p2] : List Value).toArray below meth c H locs 0 0 (MQ below (mQi D dA ad r σz) ([.ref (ad 0), .int p1, .int p2] : List Value).toArray s 0 0 (AM ad)) (F0 m 26 ls [])) (fun k8 hk8 x4 x5 x6 σ7 hX H locs hH hS ls hl => ?_) H locs hH hS ls (lv_sub hl [3, 4, 5, 2, 1, 0] rfl)
        refine lv_iload hx hb dX4_lies_26 (lv_at hl 5 rfl) ?_
        refine lv_iconst (v := (4:Int32)) hx hb dX4_lies_28 (by decide) ?_
        refine lv_icmp_ge (tgt := 90) hx hb dX4_lies_29 (by decide) (fun hc => ?_) (fun hc => ?_)
        · replace hX := ipos hc hX; clear hc
          refine lv_iload_n hx hb dX4_lies_90 rfl (lv_at hl 3 rfl) ?_
          obtain ⟨e1, e2⟩ := Prod.mk.inj (rinv hX); subst e1; subst e2
          exact W.iret hx hb hr (fun t ht hW => ⟨⟨_, (), rfl, rfl, hH.to ht⟩, hS.F ht⟩) hS.2.2 dX4_lies_91
        · replace hX := ineg hc hX; clear hc
          refine lv_aload_n hx hb dX4_lies_32 rfl (lv_at hl 0 rfl) ?_
          refine lv_iload_n hx hb dX4_lies_33 rfl (lv_at hl 1 rfl) ?_
          refine lv_iload_n hx hb dX4_lies_34 rfl (lv_at hl 2 rfl) ?_
          refine lv_iload hx hb dX4_lies_35 (lv_at hl 5 rfl) ?_
          obtain ⟨x10, σ9, hf, hX⟩ := cl2_inv hX
          refine m_callVl (As := [.int p1, .int p2, .int x6]) ⟨hx, hb, hml, hown, hts⟩ (mX4_meanFromPlace l D dA ad hf) (cwV 3 hts (lw_V q1660 q1662 qs76 q95 q1663) rfl rfl rfl (by decide +kernel) ⟨Nat.le_of_ble_eq_true rfl, Nat.le_of_ble_eq_true rfl⟩) hK hH hS rfl hl.1 rfl (Nat.le_of_ble_eq_true rfl) dX4_lies_37 (fun H locs hH hS => ?_)
          clear hf
          refine lv_lstore (lv' := [(7, .long x10), (0, .ref (ad 0)), (1, .int p1), (2, .int p2), (3, .int x4), (4, .long x5), (6, .int x6)]) hx hb dX4_lies_40 hl (by decide) rfl (fun ls hl => ?_)
          refine lv_iload hx hb dX4_lies_42 (lv_at hl 6 rfl) ?_
          refine jnu1 hX (fun (x11 : Int32) => ∀ (H : Heap) (locs : List Loc), HM D dA ad σ9 H → va_S (AM ad) s.heap H locs → ∀ (ls : Array Slot), lv_has ls 9 [(0, .ref (ad 0)), (1, .int p1), (2, .int p2), (4, .long x5), (6, .int x6), (7, .long x10)] → W p l e (headSpec (ws_ yX4_lies cX4_lies 9 (some .int)) (rmX4_lies)).room s m ([.ref (ad 0), .int p1, .int p2] : List Value).toArray below meth c H locs 0 0 (MQ below (mQi D dA ad r σz) ([.ref (ad 0), .int p1, .int p2] : List Value).toArray s 0 0 (AM ad)) (F0 m 61 ls [.int x11])) (fun x11 hX H locs hH hS ls hl => ?_) (fun k12 hk12 hX => ?_)
          · refine lv_istore_n (lv' := [(3, .int x11), (0, .ref (ad 0)), (1, .int p1), (2, .int p2), (4, .long x5), (6, .int x6), (7, .long x10)]) hx hb dX4_lies_61 rfl hl (by decide) rfl (fun ls hl => ?_)
            refine lv_iload hx hb dX4_lies_62 (lv_at hl 5 rfl) ?_
            refine jnu1 hX (fun (x13 : Int64) => ∀ (H : Heap) (locs : List Loc), HM D dA ad σ9 H → va_S (AM ad) s.heap H locs → ∀ (ls : Array Slot), lv_has ls 9 [(0, .ref (ad 0)), (1, .int p1), (2, .int p2), (3, .int x11), (6, .int x6)] → W p l e (headSpec (ws_ yX4_lies cX4_lies 9 (some .int)) (rmX4_lies)).room s m ([.ref (ad 0), .int p1, .int p2] : List Value).toArray below meth c H locs 0 0 (MQ below (mQi D dA ad r σz) ([.ref (ad 0), .int p1, .int p2] : List Value).toArray s 0 0 (AM ad)) (F0 m 82 ls [.long x13])) (fun x13 hX H locs hH hS ls hl => ?_) (fun k14 hk14 hX => ?_)
            · refine lv_lstore (lv' := [(4, .long x13), (0, .ref (ad 0)), (1, .int p1), (2, .int p2), (3, .int x11), (6, .int x6)]) hx hb dX4_lies_82 hl (by decide) rfl (fun ls hl => ?_)
              obtain ⟨x15, ex15⟩ : ∃ y : Int32, y = x6 + (1:Int32) := ⟨_, rfl⟩
              replace hX := bd_inv ex15 hX
              refine lv_iinc (v := x15) (lv' := [(6, .int x15), (4, .long x13), (0, .ref (ad 0)), (1, .int p1), (2, .int p2), (3, .int x11)]) hx hb dX4_lies_84 hl (k := 5) rfl (by rw [ex15]; rfl) (by decide) rfl (fun ls hl => ?_)
              clear ex15
              refine lv_goto (tgt := 26) hx hb dX4_lies_87 (by decide) ?_
              exact hk8 x11 x13 x15 σ9 hX H locs hH hS ls (lv_sub hl [2, 3, 4, 5, 1, 0] rfl)
            · refine jnu0 hX (∀ (H : Heap) (locs : List Loc), HM D dA ad σ9 H → va_S (AM ad) s.heap H locs → ∀ (ls : Array Slot), lv_has ls 9 [(0, .ref (ad 0)), (1, .int p1), (2, .int p2), (3, .int x11), (6, .int x6), (7, .long x10)] → W p l e (headSpec (ws_ yX4_lies cX4_lies 9 (some .int)) (rmX4_lies)).room s m ([.ref (ad 0), .int p1, .int p2] : List Value).toArray below meth c H locs 0 0 (MQ below (mQi D dA ad r σz) ([.ref (ad 0), .int p1, .int p2] : List Value).toArray s 0 0 (AM ad)) (F0 m 75 ls [])) (fun  hX H locs hH hS ls hl => ?_) (fun k16 hk16 hX => ?_)
              · refine lv_lload hx hb dX4_lies_75 (lv_at hl 5 rfl) ?_
                refine lv_goto (tgt := 82) hx hb dX4_lies_77 (by decide) ?_
                exact hk14 x10 hX H locs hH hS ls (lv_sub hl [0, 1, 2, 3, 4] rfl)
              · refine lv_if_eq (tgt := 75) hx hb dX4_lies_64 (by decide) (fun hc => ?_) (fun hc => ?_)
                · replace hX := ipos hc hX; clear hc
                  exact hk16  hX H locs hH hS ls (lv_sub hl [1, 2, 3, 0, 5, 6] rfl)
                · replace hX := ineg hc hX; clear hc
                  refine lv_lload hx hb dX4_lies_67 (lv_at hl 6 rfl) ?_
                  refine lv_lload hx hb dX4_lies_69 (lv_at hl 4 rfl) ?_
                  refine W.lcmp hx hb dX4_lies_71 ?_
                  refine lv_if_ge (tgt := 80) hx hb dX4_lies_72 (by decide) (fun hc => ?_) (fun hc => ?_)
                  · replace hX := ipos hc hX; clear hc
                    refine lv_lload hx hb dX4_lies_80 (lv_at hl 4 rfl) ?_
                    exact hk14 x5 hX H locs hH hS ls (lv_sub hl [1, 2, 3, 0, 5] rfl)
                  · replace hX := ineg hc hX; clear hc
                    exact hk16  hX H locs hH hS ls (lv_sub hl [1, 2, 3, 0, 5, 6] rfl)
          · refine jnu0 hX (∀ (H : Heap) (locs : List Loc), HM D dA ad σ9 H → va_S (AM ad) s.heap H locs → ∀ (ls : Array Slot), lv_has ls 9 [(0, .ref (ad 0)), (1, .int p1), (2, .int p2), (4, .long x5), (6, .int x6), (7, .long x10)] → W p l e (headSpec (ws_ yX4_lies cX4_lies 9 (some .int)) (rmX4_lies)).room s m ([.ref (ad 0), .int p1, .int p2] : List Value).toArray below meth c H locs 0 0 (MQ below (mQi D dA ad r σz) ([.ref (ad 0), .int p1, .int p2] : List Value).toArray s 0 0 (AM ad)) (F0 m 55 ls [])) (fun  hX H locs hH hS ls hl => ?_) (fun k17 hk17 hX => ?_)
            · refine lv_iload hx hb dX4_lies_55 (lv_at hl 4 rfl) ?_
              refine lv_goto (tgt := 61) hx hb dX4_lies_57 (by decide) ?_
              exact hk12 x6 hX H locs hH hS ls (lv_sub hl [0, 1, 2, 3, 4, 5] rfl)
            · refine lv_if_eq (tgt := 55) hx hb dX4_lies_44 (by decide) (fun hc => ?_) (fun hc => ?_)
              · replace hX := ipos hc hX; clear hc
                exact hk17  hX H locs hH hS ls (lv_sub hl [1, 2, 3, 5, 6, 0] rfl)
              · replace hX := ineg hc hX; clear hc
                refine lv_lload hx hb dX4_lies_47 (lv_at hl 0 rfl) ?_
                refine lv_lload hx hb dX4_lies_49 (lv_at hl 5 rfl) ?_
                refine W.lcmp hx hb dX4_lies_51 ?_
                refine lv_if_ge (tgt := 60) hx hb dX4_lies_52 (by decide) (fun hc => ?_) (fun hc => ?_)
                · replace hX := ipos hc hX; clear hc
                  refine lv_iload_n hx hb dX4_lies_60 rfl (lv_at hl 4 rfl) ?_
                  exact hk12 x4 hX H locs hH hS ls (lv_sub hl [1, 2, 3, 5, 6, 0] rfl)
                · replace hX := ineg hc hX; clear hc
                  exact hk17  hX H locs hH hS ls (lv_sub hl [1, 2, 3, 5, 6, 0] rfl)
      · replace hX := ipos hc hX; clear hc
        exact hk2  hX H locs hH hS ls (lv_sub hl [] rfl)

abbrev rmX4_fine : Room := { frames := 939, cells := 0, slots := 0, locals := 21815 }
def fX4_fine (p1 : Int32) (p2 : Int32) (σ : MS) : Option (Int32 × MS) :=
 cl (fX4_isRule p1 σ) (fun (x1 : Int32) =>
 jn (some ((-1:Int32), σ)) (fun (k2 : Option (Int32 × MS)) =>
 if x1 = (0:Int32) then
 k2
 else
 cl (fX4_isShip p2 σ) (fun (x3 : Int32) =>
 if x3 = (0:Int32) then
 k2
 else
 gd (ib ((902:Int32) + p2) 1160) (
 cl2 (fX4_meanFromPlace p1 p2 (σ.2.1 1 ((902:Int32) + p2).toNatClampNeg) σ) (fun (x5 : Int64) (σ4 : MS) =>
 lp (fun _ _ _ => none) (fun (k9 : Int64 → Int32 → MS → Option (Int32 × MS)) (x6 : Int64) (x7 : Int32) (σ8 : MS) =>
 if (4:Int32) ≤ x7 then
 bd ((x6 + (499:Int64)) / (500:Int64)) (fun (x10 : Int64) =>
 jn (fun (x11 : Int32) => some (x11, σ8)) (fun (k12 : Int32 → Option (Int32 × MS)) =>
 if (lg_cmp x10 (999:Int64)) ≤ (0:Int32) then
 k12 (x10.toInt32)
 else
 k12 (-5:Int32)))
 else
 cl2 (fX4_meanFromPlace p1 p2 x7 σ8) (fun (x14 : Int64) (σ13 : MS) =>
 bd (x5 - x14) (fun (x15 : Int64) =>
 jn (fun (x16 : Int64) => bd (x7 + (1:Int32)) (fun (x18 : Int32) =>
 k9 x16 x18 σ13)) (fun (k17 : Int64 → Option (Int32 × MS)) =>
 if (lg_cmp x15 x6) ≤ (0:Int32) then
 k17 x6
 else
 k17 x15)))) NF (0:Int64) (0:Int32) σ4)))))
set_option maxHeartbeats 4000000 in
set_option maxRecDepth 100000 in
theorem mX4_fine (l : Launch) (D : va_G) (dA : Nat → ClassId) (ad : Nat → Nat) {p1 : Int32} {p2 : Int32} {σ : MS} {r : Int32} {σz : MS} (hX : fX4_fine p1 p2 σ = some (r, σz)) : Met l yX4_fine (ws_ yX4_fine cX4_fine 10 (some .int)) (rmX4_fine) (mPc D dA ad σ [.int p1, .int p2]) (mQi D dA ad r σz) 0 0 (AM ad) := by
  refine Met.ofW (cc := cX4_fine) (maxL := 10) (ret := (some .int)) (by decide) rfl ?_
  intro p e s m args below meth c s₁ B hml hv
  obtain ⟨rfl, hH, hK⟩ := hv
  have hx := B.exec
  have hb := B.bytes
  have hr := B.returns
  have hts := atoms_spec (ws := (ws_ yX4_fine cX4_fine 10 (some .int))) B.pre
  have hts : ∀ w ∈ lw_all, w.before _ s = true := fun w h => hts w (List.mem_cons_of_mem _ h)
  have hown : s.vm.findClass RX4 = some m.cls := findClass_of_methodNamed B.named
  have hlocks := B.notSynchronized
  have hl := lv_entry ([.ref (ad 0), .int p1, .int p2]) (n := 10) (Nat.le_of_ble_eq_true rfl)
  rw [lg_entry_eq]
  generalize (lg_sl ([.ref (ad 0), .int p1, .int p2]) ++ List.replicate (10 - (lg_sl ([.ref (ad 0), .int p1, .int p2])).length) Slot.unset).toArray = ls at hl ⊢
  have hl : lv_has ls 10 [(0, .ref (ad 0)), (1, .int p1), (2, .int p2)] := hl
  unfold fX4_fine at hX
  refine m_start hH (fun H locs hH hS => ?_)
  refine lv_aload_n hx hb dX4_fine_0 rfl (lv_at hl 0 rfl) ?_
  refine lv_iload_n hx hb dX4_fine_1 rfl (lv_at hl 1 rfl) ?_
  obtain ⟨x1, hf, hX⟩ := cl_inv hX
  refine m_callVi (As := [.int p1]) ⟨hx, hb, hml, hown, hts⟩ (mX4_isRule l D dA ad hf) (cwV 1 hts (lw_V q1588 q1590 qs67 q95 q1591) rfl rfl rfl (by decide +kernel) ⟨Nat.le_of_ble_eq_true rfl, Nat.le_of_ble_eq_true rfl⟩) hK hH hS rfl hl.1 rfl (Nat.le_of_ble_eq_true rfl) dX4_fine_2 (fun H locs hH hS => ?_)
  clear hf
  refine jnu0 hX (∀ (H : Heap) (locs : List Loc), HM D dA ad σ H → va_S (AM ad) s.heap H locs → ∀ (ls : Array Slot), lv_has ls 10 [] → W p l e (headSpec (ws_ yX4_fine cX4_fine 10 (some .int)) (rmX4_fine)).room s m ([.ref (ad 0), .int p1, .int p2] : List Value).toArray below meth c H locs 0 0 (MQ below (mQi D dA ad r σz) ([.ref (ad 0), .int p1, .int p2] : List Value).toArray s 0 0 (AM ad)) (F0 m 16 ls [])) (fun  hX H locs hH hS ls hl => ?_) (fun k2 hk2 hX => ?_)
  · refine lv_iconst (v := (-1:Int32)) hx hb dX4_fine_16 (by decide) ?_
    obtain ⟨e1, e2⟩ := Prod.mk.inj (rinv hX); subst e1; subst e2
    exact W.iret hx hb hr (fun t ht hW => ⟨⟨_, (), rfl, rfl, hH.to ht⟩, hS.F ht⟩) hS.2.2 dX4_fine_17
  · refine lv_if_eq (tgt := 16) hx hb dX4_fine_5 (by decide) (fun hc => ?_) (fun hc => ?_)
    · replace hX := ipos hc hX; clear hc
      exact hk2  hX H locs hH hS ls (lv_sub hl [] rfl)
    · replace hX := ineg hc hX; clear hc
      refine lv_aload_n hx hb dX4_fine_8 rfl (lv_at hl 0 rfl) ?_
      refine lv_iload_n hx hb dX4_fine_9 rfl (lv_at hl 2 rfl) ?_
      obtain ⟨x3, hf, hX⟩ := cl_inv hX
      refine m_callVi (As := [.int p2]) ⟨hx, hb, hml, hown, hts⟩ (mX4_isShip l D dA ad hf) (cwV 1 hts (lw_V q1532 q1534 qs61 q95 q1535) rfl rfl rfl (by decide +kernel) ⟨Nat.le_of_ble_eq_true rfl, Nat.le_of_ble_eq_true rfl⟩) hK hH hS rfl hl.1 rfl (Nat.le_of_ble_eq_true rfl) dX4_fine_10 (fun H locs hH hS => ?_)
      clear hf
      refine lv_if_ne (tgt := 18) hx hb dX4_fine_13 (by decide) (fun hc => ?_) (fun hc => ?_)
      · replace hX := ineg hc hX; clear hc
        refine lv_aload_n hx hb dX4_fine_18 rfl (lv_at hl 0 rfl) ?_
        refine lv_iload_n hx hb dX4_fine_19 rfl (lv_at hl 1 rfl) ?_
        refine lv_iload_n hx hb dX4_fine_20 rfl (lv_at hl 2 rfl) ?_
        refine lv_aload_n hx hb dX4_fine_21 rfl (lv_at hl 0 rfl) ?_
        refine m_get (v := .ref (ad 1)) hx hb hts hown hK hH 1 (by decide) (hts _ q1291) rfl dX4_fine_22 ?_
        refine lv_sipush (v := (902:Int32)) hx hb dX4_fine_25 (by decide) ?_
        refine lv_iload_n hx hb dX4_fine_28 rfl (lv_at hl 2 rfl) ?_
        refine lv_iadd hx hb dX4_fine_29 ?_
        obtain ⟨hg, hX⟩ := gd_inv hX
        refine m_iald hx hb hK hH 1 1 (n := 1160) rfl hg dX4_fine_30 ?_
        obtain ⟨x5, σ4, hf, hX⟩ := cl2_inv hX
        refine m_callVl (As := [.int p1, .int p2, .int (σ.2.1 1 ((902:Int32) + p2).toNatClampNeg)]) ⟨hx, hb, hml, hown, hts⟩ (mX4_meanFromPlace l D dA ad hf) (cwV 3 hts (lw_V q1660 q1662 qs76 q95 q1663) rfl rfl rfl (by decide +kernel) ⟨Nat.le_of_ble_eq_true rfl, Nat.le_of_ble_eq_true rfl⟩) hK hH hS rfl hl.1 rfl (Nat.le_of_ble_eq_true rfl) dX4_fine_31 (fun H locs hH hS => ?_)
        clear hf
        refine lv_lstore_n (lv' := [(3, .long x5), (0, .ref (ad 0)), (1, .int p1), (2, .int p2)]) hx hb dX4_fine_34 rfl hl (by decide) rfl (fun ls hl => ?_)
        refine lv_lconst (v := (0:Int64)) hx hb dX4_fine_35 (by decide) ?_
        refine lv_lstore (lv' := [(5, .long (0:Int64)), (3, .long x5), (0, .ref (ad 0)), (1, .int p1), (2, .int p2)]) hx hb dX4_fine_36 hl (by decide) rfl (fun ls hl => ?_)
        refine lv_iconst (v := (0:Int32)) hx hb dX4_fine_38 (by decide) ?_
        refine lv_istore (lv' := [(7, .int (0:Int32)), (5, .long (0:Int64)), (3, .long x5), (0, .ref (ad 0)), (1, .int p1), (2, .int p2)]) hx hb dX4_fine_39 hl (by decide) rfl (fun ls hl => ?_)
        refine lpu3 hX (fun (x6 : Int64) (x7 : Int32) (σ8 : MS) => ∀ (H : Heap) (locs : List Loc), HM D dA ad σ8 H → va_S (AM ad) s.heap H locs → ∀ (ls : Array Slot), lv_has ls 10 [(0, .ref (ad 0)), (1, .int p1), (2, .int p2), (3, .long x5), (5, .long x6), (7, .int x7)] → W p l e (headSpec (ws_ yX4_fine cX4_fine 10 (some .int)) (rmX4_fine)).room s m ([.ref (ad 0), .int p1, .int p2] : List Value).toArray below meth c H locs 0 0 (MQ below (mQi D dA ad r σz) ([.ref (ad 0), .int p1, .int p2] : List Value).toArray s 0 0 (AM ad)) (F0 m 41 ls [])) (fun k9 hk9 x6 x7 σ8 hX H locs hH hS ls hl => ?_) H locs hH hS ls (lv_sub hl [3, 4, 5, 2, 1, 0] rfl)
        refine lv_iload hx hb dX4_fine_41 (lv_at hl 5 rfl) ?_
        refine lv_iconst (v := (4:Int32)) hx hb dX4_fine_43 (by decide) ?_
        refine lv_icmp_ge (tgt := 82) hx hb dX4_fine_44 (by decide) (fun hc => ?_) (fun hc => ?_)
        · replace hX := ipos hc hX; clear hc
          refine lv_lload hx hb dX4_fine_82 (lv_at hl 4 rfl) ?_
          refine lv_ldc2 (v := (499:Int64)) hx hb hown (hts _ q1668) dX4_fine_84 ?_
          refine lv_ladd hx hb dX4_fine_87 ?_
          refine lv_ldc2 (v := (500:Int64)) hx hb hown (hts _ q1669) dX4_fine_88 ?_
          refine lv_ldiv hx hb dX4_fine_91 (by decide) ?_
          refine lv_topl (fun x10 ex10 => ?_)
          replace hX := bd_inv ex10 hX; clear ex10
          refine lv_lstore (lv' := [(7, .long x10), (0, .ref (ad 0)), (1, .int p1), (2, .int p2), (3, .long x5), (5, .long x6)]) hx hb dX4_fine_92 hl (by decide) rfl (fun ls hl => ?_)
          refine lv_lload hx hb dX4_fine_94 (lv_at hl 0 rfl) ?_
          refine lv_ldc2 (v := (999:Int64)) hx hb hown (hts _ q1670) dX4_fine_96 ?_
          refine W.lcmp hx hb dX4_fine_99 ?_
          refine jnu1 hX (fun (x11 : Int32) => ∀ (H : Heap) (locs : List Loc), HM D dA ad σ8 H → va_S (AM ad) s.heap H locs → ∀ (ls : Array Slot), lv_has ls 10 [] → W p l e (headSpec (ws_ yX4_fine cX4_fine 10 (some .int)) (rmX4_fine)).room s m ([.ref (ad 0), .int p1, .int p2] : List Value).toArray below meth c H locs 0 0 (MQ below (mQi D dA ad r σz) ([.ref (ad 0), .int p1, .int p2] : List Value).toArray s 0 0 (AM ad)) (F0 m 111 ls [.int x11])) (fun x11 hX H locs hH hS ls hl => ?_) (fun k12 hk12 hX => ?_)
          · obtain ⟨e1, e2⟩ := Prod.mk.inj (rinv hX); subst e1; subst e2
            exact W.iret hx hb hr (fun t ht hW => ⟨⟨_, (), rfl, rfl, hH.to ht⟩, hS.F ht⟩) hS.2.2 dX4_fine_111
          · refine lv_if_le (tgt := 108) hx hb dX4_fine_100 (by decide) (fun hc => ?_) (fun hc => ?_)
            · replace hX := ipos hc hX; clear hc
              refine lv_lload hx hb dX4_fine_108 (lv_at hl 0 rfl) ?_
              refine lv_l2i hx hb dX4_fine_110 rfl ?_
              exact hk12 (x10.toInt32) hX H locs hH hS ls (lv_sub hl [] rfl)
            · replace hX := ineg hc hX; clear hc
              refine lv_bipush (v := (-5:Int32)) hx hb dX4_fine_103 (by decide) ?_
              refine lv_goto (tgt := 111) hx hb dX4_fine_105 (by decide) ?_
              exact hk12 (-5:Int32) hX H locs hH hS ls (lv_sub hl [] rfl)
        · replace hX := ineg hc hX; clear hc
          refine lv_lload_n hx hb dX4_fine_47 rfl (lv_at hl 3 rfl) ?_
          refine lv_aload_n hx hb dX4_fine_48 rfl (lv_at hl 0 rfl) ?_
          refine lv_iload_n hx hb dX4_fine_49 rfl (lv_at hl 1 rfl) ?_
          refine lv_iload_n hx hb dX4_fine_50 rfl (lv_at hl 2 rfl) ?_
          refine lv_iload hx hb dX4_fine_51 (lv_at hl 5 rfl) ?_
          obtain ⟨x14, σ13, hf, hX⟩ := cl2_inv hX
          refine m_callVl (As := [.int p1, .int p2, .int x7]) ⟨hx, hb, hml, hown, hts⟩ (mX4_meanFromPlace l D dA ad hf) (cwV 3 hts (lw_V q1660 q1662 qs76 q95 q1663) rfl rfl rfl (by decide +kernel) ⟨Nat.le_of_ble_eq_true rfl, Nat.le_of_ble_eq_true rfl⟩) hK hH hS rfl hl.1 rfl (Nat.le_of_ble_eq_true rfl) dX4_fine_53 (fun H locs hH hS => ?_)
          clear hf
          refine lv_lsub hx hb dX4_fine_56 ?_
          refine lv_topl (fun x15 ex15 => ?_)
          replace hX := bd_inv ex15 hX; clear ex15
          refine lv_lstore (lv' := [(8, .long x15), (0, .ref (ad 0)), (1, .int p1), (2, .int p2), (3, .long x5), (5, .long x6), (7, .int x7)]) hx hb dX4_fine_57 hl (by decide) rfl (fun ls hl => ?_)
          refine lv_lload hx hb dX4_fine_59 (lv_at hl 0 rfl) ?_
          refine lv_lload hx hb dX4_fine_61 (lv_at hl 5 rfl) ?_
          refine W.lcmp hx hb dX4_fine_63 ?_
          refine jnu1 hX (fun (x16 : Int64) => ∀ (H : Heap) (locs : List Loc), HM D dA ad σ13 H → va_S (AM ad) s.heap H locs → ∀ (ls : Array Slot), lv_has ls 10 [(0, .ref (ad 0)), (1, .int p1), (2, .int p2), (3, .long x5), (7, .int x7)] → W p l e (headSpec (ws_ yX4_fine cX4_fine 10 (some .int)) (rmX4_fine)).room s m ([.ref (ad 0), .int p1, .int p2] : List Value).toArray below meth c H locs 0 0 (MQ below (mQi D dA ad r σz) ([.ref (ad 0), .int p1, .int p2] : List Value).toArray s 0 0 (AM ad)) (F0 m 74 ls [.long x16])) (fun x16 hX H locs hH hS ls hl => ?_) (fun k17 hk17 hX => ?_)
          · refine lv_lstore (lv' := [(5, .long x16), (0, .ref (ad 0)), (1, .int p1), (2, .int p2), (3, .long x5), (7, .int x7)]) hx hb dX4_fine_74 hl (by decide) rfl (fun ls hl => ?_)
            obtain ⟨x18, ex18⟩ : ∃ y : Int32, y = x7 + (1:Int32) := ⟨_, rfl⟩
            replace hX := bd_inv ex18 hX
            refine lv_iinc (v := x18) (lv' := [(7, .int x18), (5, .long x16), (0, .ref (ad 0)), (1, .int p1), (2, .int p2), (3, .long x5)]) hx hb dX4_fine_76 hl (k := 5) rfl (by rw [ex18]; rfl) (by decide) rfl (fun ls hl => ?_)
            clear ex18
            refine lv_goto (tgt := 41) hx hb dX4_fine_79 (by decide) ?_
            exact hk9 x16 x18 σ13 hX H locs hH hS ls (lv_sub hl [2, 3, 4, 5, 1, 0] rfl)
          · refine lv_if_le (tgt := 72) hx hb dX4_fine_64 (by decide) (fun hc => ?_) (fun hc => ?_)
            · replace hX := ipos hc hX; clear hc
              refine lv_lload hx hb dX4_fine_72 (lv_at hl 5 rfl) ?_
              exact hk17 x6 hX H locs hH hS ls (lv_sub hl [1, 2, 3, 4, 6] rfl)
            · replace hX := ineg hc hX; clear hc
              refine lv_lload hx hb dX4_fine_67 (lv_at hl 0 rfl) ?_
              refine lv_goto (tgt := 74) hx hb dX4_fine_69 (by decide) ?_
              exact hk17 x15 hX H locs hH hS ls (lv_sub hl [1, 2, 3, 4, 6] rfl)
      · replace hX := ipos hc hX; clear hc
        exact hk2  hX H locs hH hS ls (lv_sub hl [] rfl)

abbrev rmX4_sides : Room := { frames := 937, cells := 0, slots := 0, locals := 21771 }
def fX4_sides (p1 : Int32) (p2 : Int32) (p3 : Int32) (p4 : Int32) (σ : MS) : Option MS :=
 lp (fun _ _ => none) (fun (k3 : Int32 → MS → Option MS) (x1 : Int32) (σ2 : MS) =>
 if (10:Int32) ≤ x1 then
 some σ2
 else
 cl (fX4_takes p1 σ2) (fun (σ4 : MS) =>
 bd (sf σ4 11 p2) (fun (σ5 : MS) =>
 cl (fX4_anew (0:Int32) (σ5.1 13) (0:Int32) σ5) (fun (σ6 : MS) =>
 cl2 (gX4_meanFrom 24 (1:Int32) x1 (-1:Int32) (0:Int32) σ6) (fun (x8 : Int64) (σ7 : MS) =>
 gd (ib (((10:Int32) * p4) + x1) 20) (
 bd (sl σ7 17 (((10:Int32) * p4) + x1).toNatClampNeg x8) (fun (σ9 : MS) =>
 cl (fX4_anew (0:Int32) (σ9.1 13) (0:Int32) σ9) (fun (σ10 : MS) =>
 lp (fun _ _ => none) (fun (k13 : Int32 → MS → Option MS) (x11 : Int32) (σ12 : MS) =>
 if x1 ≤ x11 then
 bd (sf σ12 11 p3) (fun (σ14 : MS) =>
 cl (fX4_harmOf (0:Int32) σ14) (fun (x15 : Int64) =>
 gd (ib (((10:Int32) * p4) + x1) 20) (
 bd (sl σ14 18 (((10:Int32) * p4) + x1).toNatClampNeg (x15 / (2:Int64))) (fun (σ16 : MS) =>
 bd (x1 + (1:Int32)) (fun (x17 : Int32) =>
 k3 x17 σ16)))))
 else
 cl2 (fX4_aboard (0:Int32) σ12) (fun (x19 : Int32) (σ18 : MS) =>
 bd (x11 + (1:Int32)) (fun (x20 : Int32) =>
 k13 x20 σ18))) NF (0:Int32) σ10)))))))) NF (0:Int32) σ
set_option maxHeartbeats 4000000 in
set_option maxRecDepth 100000 in
theorem mX4_sides (l : Launch) (D : va_G) (dA : Nat → ClassId) (ad : Nat → Nat) {p1 : Int32} {p2 : Int32} {p3 : Int32} {p4 : Int32} {σ : MS} {σz : MS} (hX : fX4_sides p1 p2 p3 p4 σ = some σz) : Met l yX4_sides (ws_ yX4_sides cX4_sides 8 none) (rmX4_sides) (mPc D dA ad σ [.int p1, .int p2, .int p3, .int p4]) (mQv D dA ad σz) 0 0 (AM ad) := by
  refine Met.ofW (cc := cX4_sides) (maxL := 8) (ret := none) (by decide) rfl ?_
  intro p e s m args below meth c s₁ B hml hv
  obtain ⟨rfl, hH, hK⟩ := hv
  have hx := B.exec
  have hb := B.bytes
  have hr := B.returns
  have hts := atoms_spec (ws := (ws_ yX4_sides cX4_sides 8 none)) B.pre
  have hts : ∀ w ∈ lw_all, w.before _ s = true := fun w h => hts w (List.mem_cons_of_mem _ h)
  have hown : s.vm.findClass RX4 = some m.cls := findClass_of_methodNamed B.named
  have hlocks := B.notSynchronized
  have hl := lv_entry ([.ref (ad 0), .int p1, .int p2, .int p3, .int p4]) (n := 8) (Nat.le_of_ble_eq_true rfl)
  rw [lg_entry_eq]
  generalize (lg_sl ([.ref (ad 0), .int p1, .int p2, .int p3, .int p4]) ++ List.replicate (8 - (lg_sl ([.ref (ad 0), .int p1, .int p2, .int p3, .int p4])).length) Slot.unset).toArray = ls at hl ⊢
  have hl : lv_has ls 8 [(0, .ref (ad 0)), (1, .int p1), (2, .int p2), (3, .int p3), (4, .int p4)] := hl
  unfold fX4_sides at hX
  refine m_start hH (fun H locs hH hS => ?_)
  refine lv_iconst (v := (0:Int32)) hx hb dX4_sides_0 (by decide) ?_
  refine lv_istore (lv' := [(5, .int (0:Int32)), (0, .ref (ad 0)), (1, .int p1), (2, .int p2), (3, .int p3), (4, .int p4)]) hx hb dX4_sides_1 hl (by decide) rfl (fun ls hl => ?_)
  refine lpu2 hX (fun (x1 : Int32) (σ2 : MS) => ∀ (H : Heap) (locs : List Loc), HM D dA ad σ2 H → va_S (AM ad) s.heap H locs → ∀ (ls : Array Slot), lv_has ls 8 [(0, .ref (ad 0)), (1, .int p1), (2, .int p2), (3, .int p3), (4, .int p4), (5, .int x1)] → W p l e (headSpec (ws_ yX4_sides cX4_sides 8 none) (rmX4_sides)).room s m ([.ref (ad 0), .int p1, .int p2, .int p3, .int p4] : List Value).toArray below meth c H locs 0 0 (MQ below (mQv D dA ad σz) ([.ref (ad 0), .int p1, .int p2, .int p3, .int p4] : List Value).toArray s 0 0 (AM ad)) (F0 m 3 ls [])) (fun k3 hk3 x1 σ2 hX H locs hH hS ls hl => ?_) H locs hH hS ls (lv_sub hl [1, 2, 3, 4, 5, 0] rfl)
  refine lv_iload hx hb dX4_sides_3 (lv_at hl 5 rfl) ?_
  refine lv_bipush (v := (10:Int32)) hx hb dX4_sides_5 (by decide) ?_
  refine lv_icmp_ge (tgt := 118) hx hb dX4_sides_7 (by decide) (fun hc => ?_) (fun hc => ?_)
  · replace hX := ipos hc hX; clear hc
    have e1 := rinv hX; subst e1
    exact W.vret hx hb hr (fun t ht hW => ⟨⟨(), rfl, trivial, hH.to ht⟩, hS.F ht⟩) hS.2.2 dX4_sides_118
  · replace hX := ineg hc hX; clear hc
    refine lv_aload_n hx hb dX4_sides_10 rfl (lv_at hl 0 rfl) ?_
    refine lv_iload_n hx hb dX4_sides_11 rfl (lv_at hl 1 rfl) ?_
    obtain ⟨σ4, hf, hX⟩ := cl_inv hX
    refine m_callVv (As := [.int p1]) ⟨hx, hb, hml, hown, hts⟩ (mX4_takes l D dA ad hf) (cwV 1 hts (lw_V q1507 q1509 qs57 q95 q1510) rfl rfl rfl (by decide +kernel) ⟨Nat.le_of_ble_eq_true rfl, Nat.le_of_ble_eq_true rfl⟩) hK hH hS rfl hl.1 rfl (Nat.le_of_ble_eq_true rfl) dX4_sides_12 (fun H locs hH hS => ?_)
    clear hf
    refine lv_aload_n hx hb dX4_sides_15 rfl (lv_at hl 0 rfl) ?_
    refine lv_iload_n hx hb dX4_sides_16 rfl (lv_at hl 2 rfl) ?_
    refine m_put (ty := .int) hx hb hts hown hK hH hS 11 (by decide) (hts _ q1301) rfl (tyX4_ok 11 (by decide)) rfl rfl rfl dX4_sides_17 (fun σ5 eσ5 H locs hH hS => ?_)
    replace hX := bd_inv eσ5 hX; clear eσ5
    refine lv_aload_n hx hb dX4_sides_20 rfl (lv_at hl 0 rfl) ?_
    refine lv_iconst (v := (0:Int32)) hx hb dX4_sides_21 (by decide) ?_
    refine lv_aload_n hx hb dX4_sides_22 rfl (lv_at hl 0 rfl) ?_
    refine m_get (v := .int (σ5.1 13)) hx hb hts hown hK hH 13 (by decide) (hts _ q1303) rfl dX4_sides_23 ?_
    refine lv_iconst (v := (0:Int32)) hx hb dX4_sides_26 (by decide) ?_
    obtain ⟨σ6, hf, hX⟩ := cl_inv hX
    refine m_callVv (As := [.int (0:Int32), .int (σ5.1 13), .int (0:Int32)]) ⟨hx, hb, hml, hown, hts⟩ (mX4_anew l D dA ad hf) (cwV 3 hts (lw_V q1511 q1513 qs58 q95 q1514) rfl rfl rfl (by decide +kernel) ⟨Nat.le_of_ble_eq_true rfl, Nat.le_of_ble_eq_true rfl⟩) hK hH hS rfl hl.1 rfl (Nat.le_of_ble_eq_true rfl) dX4_sides_27 (fun H locs hH hS => ?_)
    clear hf
    refine lv_aload_n hx hb dX4_sides_30 rfl (lv_at hl 0 rfl) ?_
    refine m_get (v := .ref (ad 17)) hx hb hts hown hK hH 17 (by decide) (hts _ q1307) rfl dX4_sides_31 ?_
    refine lv_bipush (v := (10:Int32)) hx hb dX4_sides_34 (by decide) ?_
    refine lv_iload hx hb dX4_sides_36 (lv_at hl 4 rfl) ?_
    refine lv_imul hx hb dX4_sides_38 ?_
    refine lv_iload hx hb dX4_sides_39 (lv_at hl 5 rfl) ?_
    refine lv_iadd hx hb dX4_sides_41 ?_
    refine lv_aload_n hx hb dX4_sides_42 rfl (lv_at hl 0 rfl) ?_
    refine lv_iconst (v := (1:Int32)) hx hb dX4_sides_43 (by decide) ?_
    refine lv_iload hx hb dX4_sides_44 (lv_at hl 5 rfl) ?_
    refine lv_iconst (v := (-1:Int32)) hx hb dX4_sides_46 (by decide) ?_
    refine lv_iconst (v := (0:Int32)) hx hb dX4_sides_47 (by decide) ?_
    obtain ⟨x8, σ7, hf, hX⟩ := cl2_inv hX
    refine m_callVl (As := [.int (1:Int32), .int x1, .int (-1:Int32), .int (0:Int32)]) ⟨hx, hb, hml, hown, hts⟩ (mgX4_meanFrom l D dA ad 24 hf) (cwV 4 hts (lw_V q1628 q1630 qs74 q95 q1631) rfl rfl rfl (by decide +kernel) ⟨Nat.le_of_ble_eq_true rfl, Nat.le_of_ble_eq_true rfl⟩) hK hH hS rfl hl.1 rfl (Nat.le_of_ble_eq_true rfl) dX4_sides_48 (fun H locs hH hS => ?_)
    clear hf
    obtain ⟨hg, hX⟩ := gd_inv hX
    refine m_last hx hb hK hH hS 6 17 (n := 20) rfl hg rfl dX4_sides_51 (fun σ9 eσ9 H locs hH hS => ?_)
    replace hX := bd_inv eσ9 hX; clear eσ9
    refine lv_aload_n hx hb dX4_sides_52 rfl (lv_at hl 0 rfl) ?_
    refine lv_iconst (v := (0:Int32)) hx hb dX4_sides_53 (by decide) ?_
    refine lv_aload_n hx hb dX4_sides_54 rfl (lv_at hl 0 rfl) ?_
    refine m_get (v := .int (σ9.1 13)) hx hb hts hown hK hH 13 (by decide) (hts _ q1303) rfl dX4_sides_55 ?_
    refine lv_iconst (v := (0:Int32)) hx hb dX4_sides_58 (by decide) ?_
    obtain ⟨σ10, hf, hX⟩ := cl_inv hX
    refine m_callVv (As := [.int (0:Int32), .int (σ9.1 13), .int (0:Int32)]) ⟨hx, hb, hml, hown, hts⟩ (mX4_anew l D dA ad hf) (cwV 3 hts (lw_V q1511 q1513 qs58 q95 q1514) rfl rfl rfl (by decide +kernel) ⟨Nat.le_of_ble_eq_true rfl, Nat.le_of_ble_eq_true rfl⟩) hK hH hS rfl hl.1 rfl (Nat.le_of_ble_eq_true rfl) dX4_sides_59 (fun H locs hH hS => ?_)
    clear hf
    refine lv_iconst (v := (0:Int32)) hx hb dX4_sides_62 (by decide) ?_
    refine lv_istore (lv' := [(6, .int (0:Int32)), (0, .ref (ad 0)), (1, .int p1), (2, .int p2), (3, .int p3), (4, .int p4), (5, .int x1)]) hx hb dX4_sides_63 hl (by decide) rfl (fun ls hl => ?_)
    refine lpu2 hX (fun (x11 : Int32) (σ12 : MS) => ∀ (H : Heap) (locs : List Loc), HM D dA ad σ12 H → va_S (AM ad) s.heap H locs → ∀ (ls : Array Slot), lv_has ls 8 [(0, .ref (ad 0)), (1, .int p1), (2, .int p2), (3, .int p3), (4, .int p4), (5, .int x1), (6, .int x11)] → W p l e (headSpec (ws_ yX4_sides cX4_sides 8 none) (rmX4_sides)).room s m ([.ref (ad 0), .int p1, .int p2, .int p3, .int p4] : List Value).toArray below meth c H locs 0 0 (MQ below (mQv D dA ad σz) ([.ref (ad 0), .int p1, .int p2, .int p3, .int p4] : List Value).toArray s 0 0 (AM ad)) (F0 m 65 ls [])) (fun k13 hk13 x11 σ12 hX H locs hH hS ls hl => ?_) H locs hH hS ls (lv_sub hl [1, 2, 3, 4, 5, 6, 0] rfl)
    refine lv_iload hx hb dX4_sides_65 (lv_at hl 6 rfl) ?_
    refine lv_iload hx hb dX4_sides_67 (lv_at hl 5 rfl) ?_
    refine lv_icmp_ge (tgt := 85) hx hb dX4_sides_69 (by decide) (fun hc => ?_) (fun hc => ?_)
    · replace hX := ipos hc hX; clear hc
      refine lv_aload_n hx hb dX4_sides_85 rfl (lv_at hl 0 rfl) ?_
      refine lv_iload_n hx hb dX4_sides_86 rfl (lv_at hl 3 rfl) ?_
      refine m_put (ty := .int) hx hb hts hown hK hH hS 11 (by decide) (hts _ q1301) rfl (tyX4_ok 11 (by decide)) rfl rfl rfl dX4_sides_87 (fun σ14 eσ14 H locs hH hS => ?_)
      replace hX := bd_inv eσ14 hX; clear eσ14
      refine lv_aload_n hx hb dX4_sides_90 rfl (lv_at hl 0 rfl) ?_
      refine m_get (v := .ref (ad 18)) hx hb hts hown hK hH 18 (by decide) (hts _ q1308) rfl dX4_sides_91 ?_
      refine lv_bipush (v := (10:Int32)) hx hb dX4_sides_94 (by decide) ?_
      refine lv_iload hx hb dX4_sides_96 (lv_at hl 4 rfl) ?_
      refine lv_imul hx hb dX4_sides_98 ?_
      refine lv_iload hx hb dX4_sides_99 (lv_at hl 5 rfl) ?_
      refine lv_iadd hx hb dX4_sides_101 ?_
      refine lv_aload_n hx hb dX4_sides_102 rfl (lv_at hl 0 rfl) ?_
      refine lv_iconst (v := (0:Int32)) hx hb dX4_sides_103 (by decide) ?_
      obtain ⟨x15, hf, hX⟩ := cl_inv hX
      refine m_callVl (As := [.int (0:Int32)]) ⟨hx, hb, hml, hown, hts⟩ (mX4_harmOf l D dA ad hf) (cwV 1 hts (lw_V q1574 q1576 qs66 q95 q1577) rfl rfl rfl (by decide +kernel) ⟨Nat.le_of_ble_eq_true rfl, Nat.le_of_ble_eq_true rfl⟩) hK hH hS rfl hl.1 rfl (Nat.le_of_ble_eq_true rfl) dX4_sides_104 (fun H locs hH hS => ?_)
      clear hf
      refine lv_ldc2 (v := (2:Int64)) hx hb hown (hts _ q1578) dX4_sides_107 ?_
      refine lv_ldiv hx hb dX4_sides_110 (by decide) ?_
      obtain ⟨hg, hX⟩ := gd_inv hX
      refine m_last hx hb hK hH hS 7 18 (n := 20) rfl hg rfl dX4_sides_111 (fun σ16 eσ16 H locs hH hS => ?_)
      replace hX := bd_inv eσ16 hX; clear eσ16
      obtain ⟨x17, ex17⟩ : ∃ y : Int32, y = x1 + (1:Int32) := ⟨_, rfl⟩
      replace hX := bd_inv ex17 hX
      refine lv_iinc (v := x17) (lv' := [(5, .int x17), (0, .ref (ad 0)), (1, .int p1), (2, .int p2), (3, .int p3), (4, .int p4), (6, .int x11)]) hx hb dX4_sides_112 hl (k := 5) rfl (by rw [ex17]; rfl) (by decide) rfl (fun ls hl => ?_)
      clear ex17
      refine lv_goto (tgt := 3) hx hb dX4_sides_115 (by decide) ?_
      exact hk3 x17 σ16 hX H locs hH hS ls (lv_sub hl [1, 2, 3, 4, 5, 0] rfl)
    · replace hX := ineg hc hX; clear hc
      refine lv_aload_n hx hb dX4_sides_72 rfl (lv_at hl 0 rfl) ?_
      refine lv_iconst (v := (0:Int32)) hx hb dX4_sides_73 (by decide) ?_
      obtain ⟨x19, σ18, hf, hX⟩ := cl2_inv hX
      refine m_callVi (As := [.int (0:Int32)]) ⟨hx, hb, hml, hown, hts⟩ (mX4_aboard l D dA ad hf) (cwV 1 hts (lw_V q1548 q1550 qs62 q95 q1551) rfl rfl rfl (by decide +kernel) ⟨Nat.le_of_ble_eq_true rfl, Nat.le_of_ble_eq_true rfl⟩) hK hH hS rfl hl.1 rfl (Nat.le_of_ble_eq_true rfl) dX4_sides_74 (fun H locs hH hS => ?_)
      clear hf
      refine lv_istore (lv' := [(7, .int x19), (0, .ref (ad 0)), (1, .int p1), (2, .int p2), (3, .int p3), (4, .int p4), (5, .int x1), (6, .int x11)]) hx hb dX4_sides_77 hl (by decide) rfl (fun ls hl => ?_)
      obtain ⟨x20, ex20⟩ : ∃ y : Int32, y = x11 + (1:Int32) := ⟨_, rfl⟩
      replace hX := bd_inv ex20 hX
      refine lv_iinc (v := x20) (lv' := [(6, .int x20), (7, .int x19), (0, .ref (ad 0)), (1, .int p1), (2, .int p2), (3, .int p3), (4, .int p4), (5, .int x1)]) hx hb dX4_sides_79 hl (k := 7) rfl (by rw [ex20]; rfl) (by decide) rfl (fun ls hl => ?_)
      clear ex20
      refine lv_goto (tgt := 65) hx hb dX4_sides_82 (by decide) ?_
      exact hk13 x20 σ18 hX H locs hH hS ls (lv_sub hl [2, 3, 4, 5, 6, 7, 0] rfl)

abbrev rmX4_sideOf : Room := { frames := 0, cells := 0, slots := 0, locals := 0 }
def fX4_sideOf (p1 : Int32) (p2 : Int32) (p3 : Int32) (σ : MS) : Option (Int64) :=
 jn (fun (x1 : Int32) => jn (fun (x3 : Int32) => jn (fun (x5 : Int64) => some x5) (fun (k6 : Int64 → Option (Int64)) =>
 if x1 = x3 then
 jn (fun (x9 : Int32) => gd (ib (((10:Int32) * p1) + x9) 20) (
 k6 (σ.2.2 17 (((10:Int32) * p1) + x9).toNatClampNeg))) (fun (k10 : Int32 → Option (Int64)) =>
 if p1 = (0:Int32) then
 k10 p2
 else
 k10 p3)
 else
 jn (fun (x7 : Int32) => gd (ib x7 20) (
 k6 (σ.2.2 18 x7.toNatClampNeg))) (fun (k8 : Int32 → Option (Int64)) =>
 if x1 = (0:Int32) then
 k8 ((10:Int32) + p3)
 else
 k8 p2))) (fun (k4 : Int32 → Option (Int64)) =>
 if p1 = (0:Int32) then
 k4 (1:Int32)
 else
 k4 (0:Int32))) (fun (k2 : Int32 → Option (Int64)) =>
 if p3 < p2 then
 k2 (0:Int32)
 else
 k2 (1:Int32))
set_option maxHeartbeats 4000000 in
set_option maxRecDepth 100000 in
theorem mX4_sideOf (l : Launch) (D : va_G) (dA : Nat → ClassId) (ad : Nat → Nat) {p1 : Int32} {p2 : Int32} {p3 : Int32} {σ : MS} {r : Int64} (hX : fX4_sideOf p1 p2 p3 σ = some r) : Met l yX4_sideOf (ws_ yX4_sideOf cX4_sideOf 5 (some .long)) (rmX4_sideOf) (mPc D dA ad σ [.int p1, .int p2, .int p3]) (mQl D dA ad r σ) 0 0 (AM ad) := by
  refine Met.ofW (cc := cX4_sideOf) (maxL := 5) (ret := (some .long)) (by decide) rfl ?_
  intro p e s m args below meth c s₁ B hml hv
  obtain ⟨rfl, hH, hK⟩ := hv
  have hx := B.exec
  have hb := B.bytes
  have hr := B.returns
  have hts := atoms_spec (ws := (ws_ yX4_sideOf cX4_sideOf 5 (some .long))) B.pre
  have hts : ∀ w ∈ lw_all, w.before _ s = true := fun w h => hts w (List.mem_cons_of_mem _ h)
  have hown : s.vm.findClass RX4 = some m.cls := findClass_of_methodNamed B.named
  have hlocks := B.notSynchronized
  have hl := lv_entry ([.ref (ad 0), .int p1, .int p2, .int p3]) (n := 5) (Nat.le_of_ble_eq_true rfl)
  rw [lg_entry_eq]
  generalize (lg_sl ([.ref (ad 0), .int p1, .int p2, .int p3]) ++ List.replicate (5 - (lg_sl ([.ref (ad 0), .int p1, .int p2, .int p3])).length) Slot.unset).toArray = ls at hl ⊢
  have hl : lv_has ls 5 [(0, .ref (ad 0)), (1, .int p1), (2, .int p2), (3, .int p3)] := hl
  unfold fX4_sideOf at hX
  refine m_start hH (fun H locs hH hS => ?_)
  refine lv_iload_n hx hb dX4_sideOf_0 rfl (lv_at hl 2 rfl) ?_
  refine lv_iload_n hx hb dX4_sideOf_1 rfl (lv_at hl 3 rfl) ?_
  refine jnu1 hX (fun (x1 : Int32) => ∀ (H : Heap) (locs : List Loc), HM D dA ad σ H → va_S (AM ad) s.heap H locs → ∀ (ls : Array Slot), lv_has ls 5 [(0, .ref (ad 0)), (1, .int p1), (2, .int p2), (3, .int p3)] → W p l e (headSpec (ws_ yX4_sideOf cX4_sideOf 5 (some .long)) (rmX4_sideOf)).room s m ([.ref (ad 0), .int p1, .int p2, .int p3] : List Value).toArray below meth c H locs 0 0 (MQ below (mQl D dA ad r σ) ([.ref (ad 0), .int p1, .int p2, .int p3] : List Value).toArray s 0 0 (AM ad)) (F0 m 10 ls [.int x1])) (fun x1 hX H locs hH hS ls hl => ?_) (fun k2 hk2 hX => ?_)
  · refine lv_istore (lv' := [(4, .int x1), (0, .ref (ad 0)), (1, .int p1), (2, .int p2), (3, .int p3)]) hx hb dX4_sideOf_10 hl (by decide) rfl (fun ls hl => ?_)
    refine lv_iload hx hb dX4_sideOf_12 (lv_at hl 0 rfl) ?_
    refine lv_iload_n hx hb dX4_sideOf_14 rfl (lv_at hl 2 rfl) ?_
    refine jnu1 hX (fun (x3 : Int32) => ∀ (H : Heap) (locs : List Loc), HM D dA ad σ H → va_S (AM ad) s.heap H locs → ∀ (ls : Array Slot), lv_has ls 5 [(0, .ref (ad 0)), (1, .int p1), (2, .int p2), (3, .int p3), (4, .int x1)] → W p l e (headSpec (ws_ yX4_sideOf cX4_sideOf 5 (some .long)) (rmX4_sideOf)).room s m ([.ref (ad 0), .int p1, .int p2, .int p3] : List Value).toArray below meth c H locs 0 0 (MQ below (mQl D dA ad r σ) ([.ref (ad 0), .int p1, .int p2, .int p3] : List Value).toArray s 0 0 (AM ad)) (F0 m 23 ls [.int x3, .int x1])) (fun x3 hX H locs hH hS ls hl => ?_) (fun k4 hk4 hX => ?_)
    · refine jnu1 hX (fun (x5 : Int64) => ∀ (H : Heap) (locs : List Loc), HM D dA ad σ H → va_S (AM ad) s.heap H locs → ∀ (ls : Array Slot), lv_has ls 5 [] → W p l e (headSpec (ws_ yX4_sideOf cX4_sideOf 5 (some .long)) (rmX4_sideOf)).room s m ([.ref (ad 0), .int p1, .int p2, .int p3] : List Value).toArray below meth c H locs 0 0 (MQ below (mQl D dA ad r σ) ([.ref (ad 0), .int p1, .int p2, .int p3] : List Value).toArray s 0 0 (AM ad)) (F0 m 66 ls [.long x5])) (fun x5 hX H locs hH hS ls hl => ?_) (fun k6 hk6 hX => ?_)
      · have e1 := rinv hX; subst e1
        exact W.lret hx hb hr (fun t ht hW => ⟨⟨_, (), rfl, rfl, hH.to ht⟩, hS.F ht⟩) hS.2.2 dX4_sideOf_66
      · refine lv_icmp_ne (tgt := 48) hx hb dX4_sideOf_23 (by decide) (fun hc => ?_) (fun hc => ?_)
        · replace hX := ineg hc hX; clear hc
          refine lv_aload_n hx hb dX4_sideOf_48 rfl (lv_at hl 0 rfl) ?_
          refine m_get (v := .ref (ad 18)) hx hb hts hown hK hH 18 (by decide) (hts _ q1308) rfl dX4_sideOf_49 ?_
          refine lv_iload hx hb dX4_sideOf_52 (lv_at hl 4 rfl) ?_
          refine jnu1 hX (fun (x7 : Int32) => ∀ (H : Heap) (locs : List Loc), HM D dA ad σ H → va_S (AM ad) s.heap H locs → ∀ (ls : Array Slot), lv_has ls 5 [] → W p l e (headSpec (ws_ yX4_sideOf cX4_sideOf 5 (some .long)) (rmX4_sideOf)).room s m ([.ref (ad 0), .int p1, .int p2, .int p3] : List Value).toArray below meth c H locs 0 0 (MQ below (mQl D dA ad r σ) ([.ref (ad 0), .int p1, .int p2, .int p3] : List Value).toArray s 0 0 (AM ad)) (F0 m 65 ls [.int x7, .ref (ad 18)])) (fun x7 hX H locs hH hS ls hl => ?_) (fun k8 hk8 hX => ?_)
          · obtain ⟨hg, hX⟩ := gd_inv hX
            refine m_lald hx hb hK hH 7 18 (n := 20) rfl hg dX4_sideOf_65 ?_
            exact hk6 (σ.2.2 18 x7.toNatClampNeg) hX H locs hH hS ls (lv_sub hl [] rfl)
          · refine lv_if_eq (tgt := 61) hx hb dX4_sideOf_54 (by decide) (fun hc => ?_) (fun hc => ?_)
            · replace hX := ipos hc hX; clear hc
              refine lv_bipush (v := (10:Int32)) hx hb dX4_sideOf_61 (by decide) ?_
              refine lv_iload_n hx hb dX4_sideOf_63 rfl (lv_at hl 3 rfl) ?_
              refine lv_iadd hx hb dX4_sideOf_64 ?_
              exact hk8 ((10:Int32) + p3) hX H locs hH hS ls (lv_sub hl [] rfl)
            · replace hX := ineg hc hX; clear hc
              refine lv_iload_n hx hb dX4_sideOf_57 rfl (lv_at hl 2 rfl) ?_
              refine lv_goto (tgt := 65) hx hb dX4_sideOf_58 (by decide) ?_
              exact hk8 p2 hX H locs hH hS ls (lv_sub hl [] rfl)
        · replace hX := ipos hc hX; clear hc
          refine lv_aload_n hx hb dX4_sideOf_26 rfl (lv_at hl 0 rfl) ?_
          refine m_get (v := .ref (ad 17)) hx hb hts hown hK hH 17 (by decide) (hts _ q1307) rfl dX4_sideOf_27 ?_
          refine lv_bipush (v := (10:Int32)) hx hb dX4_sideOf_30 (by decide) ?_
          refine lv_iload_n hx hb dX4_sideOf_32 rfl (lv_at hl 1 rfl) ?_
          refine lv_imul hx hb dX4_sideOf_33 ?_
          refine lv_iload_n hx hb dX4_sideOf_34 rfl (lv_at hl 1 rfl) ?_
          refine jnu1 hX (fun (x9 : Int32) => ∀ (H : Heap) (locs : List Loc), HM D dA ad σ H → va_S (AM ad) s.heap H locs → ∀ (ls : Array Slot), lv_has ls 5 [] → W p l e (headSpec (ws_ yX4_sideOf cX4_sideOf 5 (some .long)) (rmX4_sideOf)).room s m ([.ref (ad 0), .int p1, .int p2, .int p3] : List Value).toArray below meth c H locs 0 0 (MQ below (mQl D dA ad r σ) ([.ref (ad 0), .int p1, .int p2, .int p3] : List Value).toArray s 0 0 (AM ad)) (F0 m 43 ls [.int x9, .int ((10:Int32) * p1), .ref (ad 17)])) (fun x9 hX H locs hH hS ls hl => ?_) (fun k10 hk10 hX => ?_)
          · refine lv_iadd hx hb dX4_sideOf_43 ?_
            obtain ⟨hg, hX⟩ := gd_inv hX
            refine m_lald hx hb hK hH 6 17 (n := 20) rfl hg dX4_sideOf_44 ?_
            refine lv_goto (tgt := 66) hx hb dX4_sideOf_45 (by decide) ?_
            exact hk6 (σ.2.2 17 (((10:Int32) * p1) + x9).toNatClampNeg) hX H locs hH hS ls (lv_sub hl [] rfl)
          · refine lv_if_ne (tgt := 42) hx hb dX4_sideOf_35 (by decide) (fun hc => ?_) (fun hc => ?_)
            · replace hX := ineg hc hX; clear hc
              refine lv_iload_n hx hb dX4_sideOf_42 rfl (lv_at hl 3 rfl) ?_
              exact hk10 p3 hX H locs hH hS ls (lv_sub hl [] rfl)
            · replace hX := ipos hc hX; clear hc
              refine lv_iload_n hx hb dX4_sideOf_38 rfl (lv_at hl 2 rfl) ?_
              refine lv_goto (tgt := 43) hx hb dX4_sideOf_39 (by decide) ?_
              exact hk10 p2 hX H locs hH hS ls (lv_sub hl [] rfl)
    · refine lv_if_ne (tgt := 22) hx hb dX4_sideOf_15 (by decide) (fun hc => ?_) (fun hc => ?_)
      · replace hX := ineg hc hX; clear hc
        refine lv_iconst (v := (0:Int32)) hx hb dX4_sideOf_22 (by decide) ?_
        exact hk4 (0:Int32) hX H locs hH hS ls (lv_sub hl [1, 2, 3, 4, 0] rfl)
      · replace hX := ipos hc hX; clear hc
        refine lv_iconst (v := (1:Int32)) hx hb dX4_sideOf_18 (by decide) ?_
        refine lv_goto (tgt := 23) hx hb dX4_sideOf_19 (by decide) ?_
        exact hk4 (1:Int32) hX H locs hH hS ls (lv_sub hl [1, 2, 3, 4, 0] rfl)
  · refine lv_icmp_gt (tgt := 9) hx hb dX4_sideOf_2 (by decide) (fun hc => ?_) (fun hc => ?_)
    · replace hX := ipos hc hX; clear hc
      refine lv_iconst (v := (0:Int32)) hx hb dX4_sideOf_9 (by decide) ?_
      exact hk2 (0:Int32) hX H locs hH hS ls (lv_sub hl [0, 1, 2, 3] rfl)
    · replace hX := ineg hc hX; clear hc
      refine lv_iconst (v := (1:Int32)) hx hb dX4_sideOf_5 (by decide) ?_
      refine lv_goto (tgt := 10) hx hb dX4_sideOf_6 (by decide) ?_
      exact hk2 (1:Int32) hX H locs hH hS ls (lv_sub hl [0, 1, 2, 3] rfl)

abbrev rmX4_isRest : Room := { frames := 1, cells := 0, slots := 0, locals := 24 }
def fX4_isRest (p1 : Int32) (p2 : Int32) (σ : MS) : Option (Int32) :=
 lp (fun _ _ => none) (fun (k3 : Int32 → Int32 → Option (Int32)) (x1 : Int32) (x2 : Int32) =>
 if (10:Int32) ≤ x2 then
 gd (isb x1) (some x1)
 else
 jn (fun (x4 : Int32) => bd (x2 + (1:Int32)) (fun (x6 : Int32) =>
 k3 x4 x6)) (fun (k5 : Int32 → Option (Int32)) =>
 jn (k5 (0:Int32)) (fun (k7 : Option (Int32)) =>
 if x1 = (0:Int32) then
 k7
 else
 cl (fX4_sideOf (0:Int32) x2 p2 σ) (fun (x8 : Int64) =>
 cl (fX4_sideOf (0:Int32) p1 p2 σ) (fun (x9 : Int64) =>
 if (lg_cmp x8 x9) < (0:Int32) then
 k7
 else
 cl (fX4_sideOf (1:Int32) p1 x2 σ) (fun (x10 : Int64) =>
 cl (fX4_sideOf (1:Int32) p1 p2 σ) (fun (x11 : Int64) =>
 if (lg_cmp x10 x11) < (0:Int32) then
 k7
 else
 k5 (1:Int32)))))))) NF (1:Int32) (0:Int32)
set_option maxHeartbeats 4000000 in
set_option maxRecDepth 100000 in
theorem mX4_isRest (l : Launch) (D : va_G) (dA : Nat → ClassId) (ad : Nat → Nat) {p1 : Int32} {p2 : Int32} {σ : MS} {r : Int32} (hX : fX4_isRest p1 p2 σ = some r) : Met l yX4_isRest (ws_ yX4_isRest cX4_isRest 5 (some .boolean)) (rmX4_isRest) (mPc D dA ad σ [.int p1, .int p2]) (mQi D dA ad r σ) 0 0 (AM ad) := by
  refine Met.ofW (cc := cX4_isRest) (maxL := 5) (ret := (some .boolean)) (by decide) rfl ?_
  intro p e s m args below meth c s₁ B hml hv
  obtain ⟨rfl, hH, hK⟩ := hv
  have hx := B.exec
  have hb := B.bytes
  have hr := B.returns
  have hts := atoms_spec (ws := (ws_ yX4_isRest cX4_isRest 5 (some .boolean))) B.pre
  have hts : ∀ w ∈ lw_all, w.before _ s = true := fun w h => hts w (List.mem_cons_of_mem _ h)
  have hown : s.vm.findClass RX4 = some m.cls := findClass_of_methodNamed B.named
  have hlocks := B.notSynchronized
  have hl := lv_entry ([.ref (ad 0), .int p1, .int p2]) (n := 5) (Nat.le_of_ble_eq_true rfl)
  rw [lg_entry_eq]
  generalize (lg_sl ([.ref (ad 0), .int p1, .int p2]) ++ List.replicate (5 - (lg_sl ([.ref (ad 0), .int p1, .int p2])).length) Slot.unset).toArray = ls at hl ⊢
  have hl : lv_has ls 5 [(0, .ref (ad 0)), (1, .int p1), (2, .int p2)] := hl
  unfold fX4_isRest at hX
  refine m_start hH (fun H locs hH hS => ?_)
  refine lv_iconst (v := (1:Int32)) hx hb dX4_isRest_0 (by decide) ?_
  refine lv_istore_n (lv' := [(3, .int (1:Int32)), (0, .ref (ad 0)), (1, .int p1), (2, .int p2)]) hx hb dX4_isRest_1 rfl hl (by decide) rfl (fun ls hl => ?_)
  refine lv_iconst (v := (0:Int32)) hx hb dX4_isRest_2 (by decide) ?_
  refine lv_istore (lv' := [(4, .int (0:Int32)), (3, .int (1:Int32)), (0, .ref (ad 0)), (1, .int p1), (2, .int p2)]) hx hb dX4_isRest_3 hl (by decide) rfl (fun ls hl => ?_)
  refine lpu2 hX (fun (x1 : Int32) (x2 : Int32) => ∀ (H : Heap) (locs : List Loc), HM D dA ad σ H → va_S (AM ad) s.heap H locs → ∀ (ls : Array Slot), lv_has ls 5 [(0, .ref (ad 0)), (1, .int p1), (2, .int p2), (3, .int x1), (4, .int x2)] → W p l e (headSpec (ws_ yX4_isRest cX4_isRest 5 (some .boolean)) (rmX4_isRest)).room s m ([.ref (ad 0), .int p1, .int p2] : List Value).toArray below meth c H locs 0 0 (MQ below (mQi D dA ad r σ) ([.ref (ad 0), .int p1, .int p2] : List Value).toArray s 0 0 (AM ad)) (F0 m 5 ls [])) (fun k3 hk3 x1 x2 hX H locs hH hS ls hl => ?_) H locs hH hS ls (lv_sub hl [2, 3, 4, 1, 0] rfl)
  refine lv_iload hx hb dX4_isRest_5 (lv_at hl 4 rfl) ?_
  refine lv_bipush (v := (10:Int32)) hx hb dX4_isRest_7 (by decide) ?_
  refine lv_icmp_ge (tgt := 66) hx hb dX4_isRest_9 (by decide) (fun hc => ?_) (fun hc => ?_)
  · replace hX := ipos hc hX; clear hc
    refine lv_iload_n hx hb dX4_isRest_66 rfl (lv_at hl 3 rfl) ?_
    obtain ⟨hg, hX⟩ := gd_inv hX
    have e1 := rinv hX; subst e1
    exact W.zret hx hb hr (isb_n hg) (fun t ht hW => ⟨⟨_, (), rfl, rfl, hH.to ht⟩, hS.F ht⟩) hS.2.2 dX4_isRest_67
  · replace hX := ineg hc hX; clear hc
    refine lv_iload_n hx hb dX4_isRest_12 rfl (lv_at hl 3 rfl) ?_
    refine jnu1 hX (fun (x4 : Int32) => ∀ (H : Heap) (locs : List Loc), HM D dA ad σ H → va_S (AM ad) s.heap H locs → ∀ (ls : Array Slot), lv_has ls 5 [(0, .ref (ad 0)), (1, .int p1), (2, .int p2), (4, .int x2)] → W p l e (headSpec (ws_ yX4_isRest cX4_isRest 5 (some .boolean)) (rmX4_isRest)).room s m ([.ref (ad 0), .int p1, .int p2] : List Value).toArray below meth c H locs 0 0 (MQ below (mQi D dA ad r σ) ([.ref (ad 0), .int p1, .int p2] : List Value).toArray s 0 0 (AM ad)) (F0 m 59 ls [.int x4])) (fun x4 hX H locs hH hS ls hl => ?_) (fun k5 hk5 hX => ?_)
    · refine lv_istore_n (lv' := [(3, .int x4), (0, .ref (ad 0)), (1, .int p1), (2, .int p2), (4, .int x2)]) hx hb dX4_isRest_59 rfl hl (by decide) rfl (fun ls hl => ?_)
      obtain ⟨x6, ex6⟩ : ∃ y : Int32, y = x2 + (1:Int32) := ⟨_, rfl⟩
      replace hX := bd_inv ex6 hX
      refine lv_iinc (v := x6) (lv' := [(4, .int x6), (3, .int x4), (0, .ref (ad 0)), (1, .int p1), (2, .int p2)]) hx hb dX4_isRest_60 hl (k := 4) rfl (by rw [ex6]; rfl) (by decide) rfl (fun ls hl => ?_)
      clear ex6
      refine lv_goto (tgt := 5) hx hb dX4_isRest_63 (by decide) ?_
      exact hk3 x4 x6 hX H locs hH hS ls (lv_sub hl [2, 3, 4, 1, 0] rfl)
    · refine jnu0 hX (∀ (H : Heap) (locs : List Loc), HM D dA ad σ H → va_S (AM ad) s.heap H locs → ∀ (ls : Array Slot), lv_has ls 5 [(0, .ref (ad 0)), (1, .int p1), (2, .int p2), (4, .int x2)] → W p l e (headSpec (ws_ yX4_isRest cX4_isRest 5 (some .boolean)) (rmX4_isRest)).room s m ([.ref (ad 0), .int p1, .int p2] : List Value).toArray below meth c H locs 0 0 (MQ below (mQi D dA ad r σ) ([.ref (ad 0), .int p1, .int p2] : List Value).toArray s 0 0 (AM ad)) (F0 m 58 ls [])) (fun  hX H locs hH hS ls hl => ?_) (fun k7 hk7 hX => ?_)
      · refine lv_iconst (v := (0:Int32)) hx hb dX4_isRest_58 (by decide) ?_
        exact hk5 (0:Int32) hX H locs hH hS ls (lv_sub hl [0, 1, 2, 3] rfl)
      · refine lv_if_eq (tgt := 58) hx hb dX4_isRest_13 (by decide) (fun hc => ?_) (fun hc => ?_)
        · replace hX := ipos hc hX; clear hc
          exact hk7  hX H locs hH hS ls (lv_sub hl [0, 1, 2, 4] rfl)
        · replace hX := ineg hc hX; clear hc
          refine lv_aload_n hx hb dX4_isRest_16 rfl (lv_at hl 0 rfl) ?_
          refine lv_iconst (v := (0:Int32)) hx hb dX4_isRest_17 (by decide) ?_
          refine lv_iload hx hb dX4_isRest_18 (lv_at hl 4 rfl) ?_
          refine lv_iload_n hx hb dX4_isRest_20 rfl (lv_at hl 2 rfl) ?_
          obtain ⟨x8, hf, hX⟩ := cl_inv hX
          refine m_callVl (As := [.int (0:Int32), .int x2, .int p2]) ⟨hx, hb, hml, hown, hts⟩ (mX4_sideOf l D dA ad hf) (cwV 3 hts (lw_V q1683 q1685 qs79 q95 q1686) rfl rfl rfl (by decide +kernel) ⟨Nat.le_of_ble_eq_true rfl, Nat.le_of_ble_eq_true rfl⟩) hK hH hS rfl hl.1 rfl (Nat.le_of_ble_eq_true rfl) dX4_isRest_21 (fun H locs hH hS => ?_)
          clear hf
          refine lv_aload_n hx hb dX4_isRest_24 rfl (lv_at hl 0 rfl) ?_
          refine lv_iconst (v := (0:Int32)) hx hb dX4_isRest_25 (by decide) ?_
          refine lv_iload_n hx hb dX4_isRest_26 rfl (lv_at hl 1 rfl) ?_
          refine lv_iload_n hx hb dX4_isRest_27 rfl (lv_at hl 2 rfl) ?_
          obtain ⟨x9, hf, hX⟩ := cl_inv hX
          refine m_callVl (As := [.int (0:Int32), .int p1, .int p2]) ⟨hx, hb, hml, hown, hts⟩ (mX4_sideOf l D dA ad hf) (cwV 3 hts (lw_V q1683 q1685 qs79 q95 q1686) rfl rfl rfl (by decide +kernel) ⟨Nat.le_of_ble_eq_true rfl, Nat.le_of_ble_eq_true rfl⟩) hK hH hS rfl hl.1 rfl (Nat.le_of_ble_eq_true rfl) dX4_isRest_28 (fun H locs hH hS => ?_)
          clear hf
          refine W.lcmp hx hb dX4_isRest_31 ?_
          refine lv_if_lt (tgt := 58) hx hb dX4_isRest_32 (by decide) (fun hc => ?_) (fun hc => ?_)
          · replace hX := ipos hc hX; clear hc
            exact hk7  hX H locs hH hS ls (lv_sub hl [0, 1, 2, 4] rfl)
          · replace hX := ineg hc hX; clear hc
            refine lv_aload_n hx hb dX4_isRest_35 rfl (lv_at hl 0 rfl) ?_
            refine lv_iconst (v := (1:Int32)) hx hb dX4_isRest_36 (by decide) ?_
            refine lv_iload_n hx hb dX4_isRest_37 rfl (lv_at hl 1 rfl) ?_
            refine lv_iload hx hb dX4_isRest_38 (lv_at hl 4 rfl) ?_
            obtain ⟨x10, hf, hX⟩ := cl_inv hX
            refine m_callVl (As := [.int (1:Int32), .int p1, .int x2]) ⟨hx, hb, hml, hown, hts⟩ (mX4_sideOf l D dA ad hf) (cwV 3 hts (lw_V q1683 q1685 qs79 q95 q1686) rfl rfl rfl (by decide +kernel) ⟨Nat.le_of_ble_eq_true rfl, Nat.le_of_ble_eq_true rfl⟩) hK hH hS rfl hl.1 rfl (Nat.le_of_ble_eq_true rfl) dX4_isRest_40 (fun H locs hH hS => ?_)
            clear hf
            refine lv_aload_n hx hb dX4_isRest_43 rfl (lv_at hl 0 rfl) ?_
            refine lv_iconst (v := (1:Int32)) hx hb dX4_isRest_44 (by decide) ?_
            refine lv_iload_n hx hb dX4_isRest_45 rfl (lv_at hl 1 rfl) ?_
            refine lv_iload_n hx hb dX4_isRest_46 rfl (lv_at hl 2 rfl) ?_
            obtain ⟨x11, hf, hX⟩ := cl_inv hX
            refine m_callVl (As := [.int (1:Int32), .int p1, .int p2]) ⟨hx, hb, hml, hown, hts⟩ (mX4_sideOf l D dA ad hf) (cwV 3 hts (lw_V q1683 q1685 qs79 q95 q1686) rfl rfl rfl (by decide +kernel) ⟨Nat.le_of_ble_eq_true rfl, Nat.le_of_ble_eq_true rfl⟩) hK hH hS rfl hl.1 rfl (Nat.le_of_ble_eq_true rfl) dX4_isRest_47 (fun H locs hH hS => ?_)
            clear hf
            refine W.lcmp hx hb dX4_isRest_50 ?_
            refine lv_if_lt (tgt := 58) hx hb dX4_isRest_51 (by decide) (fun hc => ?_) (fun hc => ?_)
            · replace hX := ipos hc hX; clear hc
              exact hk7  hX H locs hH hS ls (lv_sub hl [0, 1, 2, 4] rfl)
            · replace hX := ineg hc hX; clear hc
              refine lv_iconst (v := (1:Int32)) hx hb dX4_isRest_54 (by decide) ?_
              refine lv_goto (tgt := 59) hx hb dX4_isRest_55 (by decide) ?_
              exact hk5 (1:Int32) hX H locs hH hS ls (lv_sub hl [0, 1, 2, 4] rfl)

abbrev rmX4_rest : Room := { frames := 938, cells := 0, slots := 0, locals := 21798 }
def fX4_rest (p1 : Int32) (p2 : Int32) (p3 : Int32) (σ : MS) : Option (Int32 × MS) :=
 cl (fX4_isPort p1 σ) (fun (x1 : Int32) =>
 jn (some ((-1:Int32), σ)) (fun (k2 : Option (Int32 × MS)) =>
 if x1 = (0:Int32) then
 k2
 else
 cl (fX4_isPort p2 σ) (fun (x3 : Int32) =>
 if x3 = (0:Int32) then
 k2
 else
 cl (fX4_isShip p3 σ) (fun (x4 : Int32) =>
 if x4 = (0:Int32) then
 k2
 else
 if p1 = p2 then
 some ((-2:Int32), σ)
 else
 cl (fX4_sides p3 p1 p2 (0:Int32) σ) (fun (σ5 : MS) =>
 cl (fX4_sides p3 p2 p1 (1:Int32) σ5) (fun (σ6 : MS) =>
 lp (fun _ => none) (fun (k8 : Int32 → Option (Int32 × MS)) (x7 : Int32) =>
 if (10:Int32) ≤ x7 then
 some ((-5:Int32), σ6)
 else
 lp (fun _ => none) (fun (k10 : Int32 → Option (Int32 × MS)) (x9 : Int32) =>
 if (10:Int32) ≤ x9 then
 bd (x7 + (1:Int32)) (fun (x11 : Int32) =>
 k8 x11)
 else
 cl (fX4_isRest x7 x9 σ6) (fun (x12 : Int32) =>
 if x12 = (0:Int32) then
 bd (x9 + (1:Int32)) (fun (x13 : Int32) =>
 k10 x13)
 else
 some (((10:Int32) * x7) + x9, σ6))) NF (0:Int32)) NF (0:Int32)))))))
set_option maxHeartbeats 4000000 in
set_option maxRecDepth 100000 in
theorem mX4_rest (l : Launch) (D : va_G) (dA : Nat → ClassId) (ad : Nat → Nat) {p1 : Int32} {p2 : Int32} {p3 : Int32} {σ : MS} {r : Int32} {σz : MS} (hX : fX4_rest p1 p2 p3 σ = some (r, σz)) : Met l yX4_rest (ws_ yX4_rest cX4_rest 6 (some .int)) (rmX4_rest) (mPc D dA ad σ [.int p1, .int p2, .int p3]) (mQi D dA ad r σz) 0 0 (AM ad) := by
  refine Met.ofW (cc := cX4_rest) (maxL := 6) (ret := (some .int)) (by decide) rfl ?_
  intro p e s m args below meth c s₁ B hml hv
  obtain ⟨rfl, hH, hK⟩ := hv
  have hx := B.exec
  have hb := B.bytes
  have hr := B.returns
  have hts := atoms_spec (ws := (ws_ yX4_rest cX4_rest 6 (some .int))) B.pre
  have hts : ∀ w ∈ lw_all, w.before _ s = true := fun w h => hts w (List.mem_cons_of_mem _ h)
  have hown : s.vm.findClass RX4 = some m.cls := findClass_of_methodNamed B.named
  have hlocks := B.notSynchronized
  have hl := lv_entry ([.ref (ad 0), .int p1, .int p2, .int p3]) (n := 6) (Nat.le_of_ble_eq_true rfl)
  rw [lg_entry_eq]
  generalize (lg_sl ([.ref (ad 0), .int p1, .int p2, .int p3]) ++ List.replicate (6 - (lg_sl ([.ref (ad 0), .int p1, .int p2, .int p3])).length) Slot.unset).toArray = ls at hl ⊢
  have hl : lv_has ls 6 [(0, .ref (ad 0)), (1, .int p1), (2, .int p2), (3, .int p3)] := hl
  unfold fX4_rest at hX
  refine m_start hH (fun H locs hH hS => ?_)
  refine lv_aload_n hx hb dX4_rest_0 rfl (lv_at hl 0 rfl) ?_
  refine lv_iload_n hx hb dX4_rest_1 rfl (lv_at hl 1 rfl) ?_
  obtain ⟨x1, hf, hX⟩ := cl_inv hX
  refine m_callVi (As := [.int p1]) ⟨hx, hb, hml, hown, hts⟩ (mX4_isPort l D dA ad hf) (cwV 1 hts (lw_V q1487 q1489 qs54 q95 q1490) rfl rfl rfl (by decide +kernel) ⟨Nat.le_of_ble_eq_true rfl, Nat.le_of_ble_eq_true rfl⟩) hK hH hS rfl hl.1 rfl (Nat.le_of_ble_eq_true rfl) dX4_rest_2 (fun H locs hH hS => ?_)
  clear hf
  refine jnu0 hX (∀ (H : Heap) (locs : List Loc), HM D dA ad σ H → va_S (AM ad) s.heap H locs → ∀ (ls : Array Slot), lv_has ls 6 [] → W p l e (headSpec (ws_ yX4_rest cX4_rest 6 (some .int)) (rmX4_rest)).room s m ([.ref (ad 0), .int p1, .int p2, .int p3] : List Value).toArray below meth c H locs 0 0 (MQ below (mQi D dA ad r σz) ([.ref (ad 0), .int p1, .int p2, .int p3] : List Value).toArray s 0 0 (AM ad)) (F0 m 24 ls [])) (fun  hX H locs hH hS ls hl => ?_) (fun k2 hk2 hX => ?_)
  · refine lv_iconst (v := (-1:Int32)) hx hb dX4_rest_24 (by decide) ?_
    obtain ⟨e1, e2⟩ := Prod.mk.inj (rinv hX); subst e1; subst e2
    exact W.iret hx hb hr (fun t ht hW => ⟨⟨_, (), rfl, rfl, hH.to ht⟩, hS.F ht⟩) hS.2.2 dX4_rest_25
  · refine lv_if_eq (tgt := 24) hx hb dX4_rest_5 (by decide) (fun hc => ?_) (fun hc => ?_)
    · replace hX := ipos hc hX; clear hc
      exact hk2  hX H locs hH hS ls (lv_sub hl [] rfl)
    · replace hX := ineg hc hX; clear hc
      refine lv_aload_n hx hb dX4_rest_8 rfl (lv_at hl 0 rfl) ?_
      refine lv_iload_n hx hb dX4_rest_9 rfl (lv_at hl 2 rfl) ?_
      obtain ⟨x3, hf, hX⟩ := cl_inv hX
      refine m_callVi (As := [.int p2]) ⟨hx, hb, hml, hown, hts⟩ (mX4_isPort l D dA ad hf) (cwV 1 hts (lw_V q1487 q1489 qs54 q95 q1490) rfl rfl rfl (by decide +kernel) ⟨Nat.le_of_ble_eq_true rfl, Nat.le_of_ble_eq_true rfl⟩) hK hH hS rfl hl.1 rfl (Nat.le_of_ble_eq_true rfl) dX4_rest_10 (fun H locs hH hS => ?_)
      clear hf
      refine lv_if_eq (tgt := 24) hx hb dX4_rest_13 (by decide) (fun hc => ?_) (fun hc => ?_)
      · replace hX := ipos hc hX; clear hc
        exact hk2  hX H locs hH hS ls (lv_sub hl [] rfl)
      · replace hX := ineg hc hX; clear hc
        refine lv_aload_n hx hb dX4_rest_16 rfl (lv_at hl 0 rfl) ?_
        refine lv_iload_n hx hb dX4_rest_17 rfl (lv_at hl 3 rfl) ?_
        obtain ⟨x4, hf, hX⟩ := cl_inv hX
        refine m_callVi (As := [.int p3]) ⟨hx, hb, hml, hown, hts⟩ (mX4_isShip l D dA ad hf) (cwV 1 hts (lw_V q1532 q1534 qs61 q95 q1535) rfl rfl rfl (by decide +kernel) ⟨Nat.le_of_ble_eq_true rfl, Nat.le_of_ble_eq_true rfl⟩) hK hH hS rfl hl.1 rfl (Nat.le_of_ble_eq_true rfl) dX4_rest_18 (fun H locs hH hS => ?_)
        clear hf
        refine lv_if_ne (tgt := 26) hx hb dX4_rest_21 (by decide) (fun hc => ?_) (fun hc => ?_)
        · replace hX := ineg hc hX; clear hc
          refine lv_iload_n hx hb dX4_rest_26 rfl (lv_at hl 1 rfl) ?_
          refine lv_iload_n hx hb dX4_rest_27 rfl (lv_at hl 2 rfl) ?_
          refine lv_icmp_ne (tgt := 34) hx hb dX4_rest_28 (by decide) (fun hc => ?_) (fun hc => ?_)
          · replace hX := ineg hc hX; clear hc
            refine lv_aload_n hx hb dX4_rest_34 rfl (lv_at hl 0 rfl) ?_
            refine lv_iload_n hx hb dX4_rest_35 rfl (lv_at hl 3 rfl) ?_
            refine lv_iload_n hx hb dX4_rest_36 rfl (lv_at hl 1 rfl) ?_
            refine lv_iload_n hx hb dX4_rest_37 rfl (lv_at hl 2 rfl) ?_
            refine lv_iconst (v := (0:Int32)) hx hb dX4_rest_38 (by decide) ?_
            obtain ⟨σ5, hf, hX⟩ := cl_inv hX
            refine m_callVv (As := [.int p3, .int p1, .int p2, .int (0:Int32)]) ⟨hx, hb, hml, hown, hts⟩ (mX4_sides l D dA ad hf) (cwV 4 hts (lw_V q1675 q1677 qs77 q95 q1678) rfl rfl rfl (by decide +kernel) ⟨Nat.le_of_ble_eq_true rfl, Nat.le_of_ble_eq_true rfl⟩) hK hH hS rfl hl.1 rfl (Nat.le_of_ble_eq_true rfl) dX4_rest_39 (fun H locs hH hS => ?_)
            clear hf
            refine lv_aload_n hx hb dX4_rest_42 rfl (lv_at hl 0 rfl) ?_
            refine lv_iload_n hx hb dX4_rest_43 rfl (lv_at hl 3 rfl) ?_
            refine lv_iload_n hx hb dX4_rest_44 rfl (lv_at hl 2 rfl) ?_
            refine lv_iload_n hx hb dX4_rest_45 rfl (lv_at hl 1 rfl) ?_
            refine lv_iconst (v := (1:Int32)) hx hb dX4_rest_46 (by decide) ?_
            obtain ⟨σ6, hf, hX⟩ := cl_inv hX
            refine m_callVv (As := [.int p3, .int p2, .int p1, .int (1:Int32)]) ⟨hx, hb, hml, hown, hts⟩ (mX4_sides l D dA ad hf) (cwV 4 hts (lw_V q1675 q1677 qs77 q95 q1678) rfl rfl rfl (by decide +kernel) ⟨Nat.le_of_ble_eq_true rfl, Nat.le_of_ble_eq_true rfl⟩) hK hH hS rfl hl.1 rfl (Nat.le_of_ble_eq_true rfl) dX4_rest_47 (fun H locs hH hS => ?_)
            clear hf
            refine lv_iconst (v := (0:Int32)) hx hb dX4_rest_50 (by decide) ?_
            refine lv_istore (lv' := [(4, .int (0:Int32)), (0, .ref (ad 0)), (1, .int p1), (2, .int p2), (3, .int p3)]) hx hb dX4_rest_51 hl (by decide) rfl (fun ls hl => ?_)
            refine lpu1 hX (fun (x7 : Int32) => ∀ (H : Heap) (locs : List Loc), HM D dA ad σ6 H → va_S (AM ad) s.heap H locs → ∀ (ls : Array Slot), lv_has ls 6 [(0, .ref (ad 0)), (4, .int x7)] → W p l e (headSpec (ws_ yX4_rest cX4_rest 6 (some .int)) (rmX4_rest)).room s m ([.ref (ad 0), .int p1, .int p2, .int p3] : List Value).toArray below meth c H locs 0 0 (MQ below (mQi D dA ad r σz) ([.ref (ad 0), .int p1, .int p2, .int p3] : List Value).toArray s 0 0 (AM ad)) (F0 m 53 ls [])) (fun k8 hk8 x7 hX H locs hH hS ls hl => ?_) H locs hH hS ls (lv_sub hl [1, 0] rfl)
            refine lv_iload hx hb dX4_rest_53 (lv_at hl 1 rfl) ?_
            refine lv_bipush (v := (10:Int32)) hx hb dX4_rest_55 (by decide) ?_
            refine lv_icmp_ge (tgt := 102) hx hb dX4_rest_57 (by decide) (fun hc => ?_) (fun hc => ?_)
            · replace hX := ipos hc hX; clear hc
              refine lv_bipush (v := (-5:Int32)) hx hb dX4_rest_102 (by decide) ?_
              obtain ⟨e1, e2⟩ := Prod.mk.inj (rinv hX); subst e1; subst e2
              exact W.iret hx hb hr (fun t ht hW => ⟨⟨_, (), rfl, rfl, hH.to ht⟩, hS.F ht⟩) hS.2.2 dX4_rest_104
            · replace hX := ineg hc hX; clear hc
              refine lv_iconst (v := (0:Int32)) hx hb dX4_rest_60 (by decide) ?_
              refine lv_istore (lv' := [(5, .int (0:Int32)), (0, .ref (ad 0)), (4, .int x7)]) hx hb dX4_rest_61 hl (by decide) rfl (fun ls hl => ?_)
              refine lpu1 hX (fun (x9 : Int32) => ∀ (H : Heap) (locs : List Loc), HM D dA ad σ6 H → va_S (AM ad) s.heap H locs → ∀ (ls : Array Slot), lv_has ls 6 [(0, .ref (ad 0)), (4, .int x7), (5, .int x9)] → W p l e (headSpec (ws_ yX4_rest cX4_rest 6 (some .int)) (rmX4_rest)).room s m ([.ref (ad 0), .int p1, .int p2, .int p3] : List Value).toArray below meth c H locs 0 0 (MQ below (mQi D dA ad r σz) ([.ref (ad 0), .int p1, .int p2, .int p3] : List Value).toArray s 0 0 (AM ad)) (F0 m 63 ls [])) (fun k10 hk10 x9 hX H locs hH hS ls hl => ?_) H locs hH hS ls (lv_sub hl [1, 2, 0] rfl)
              refine lv_iload hx hb dX4_rest_63 (lv_at hl 2 rfl) ?_
              refine lv_bipush (v := (10:Int32)) hx hb dX4_rest_65 (by decide) ?_
              refine lv_icmp_ge (tgt := 96) hx hb dX4_rest_67 (by decide) (fun hc => ?_) (fun hc => ?_)
              · replace hX := ipos hc hX; clear hc
                obtain ⟨x11, ex11⟩ : ∃ y : Int32, y = x7 + (1:Int32) := ⟨_, rfl⟩
                replace hX := bd_inv ex11 hX
                refine lv_iinc (v := x11) (lv' := [(4, .int x11), (0, .ref (ad 0)), (5, .int x9)]) hx hb dX4_rest_96 hl (k := 1) rfl (by rw [ex11]; rfl) (by decide) rfl (fun ls hl => ?_)
                clear ex11
                refine lv_goto (tgt := 53) hx hb dX4_rest_99 (by decide) ?_
                exact hk8 x11 hX H locs hH hS ls (lv_sub hl [1, 0] rfl)
              · replace hX := ineg hc hX; clear hc
                refine lv_aload_n hx hb dX4_rest_70 rfl (lv_at hl 0 rfl) ?_
                refine lv_iload hx hb dX4_rest_71 (lv_at hl 1 rfl) ?_
                refine lv_iload hx hb dX4_rest_73 (lv_at hl 2 rfl) ?_
                obtain ⟨x12, hf, hX⟩ := cl_inv hX
                refine m_callVi (As := [.int x7, .int x9]) ⟨hx, hb, hml, hown, hts⟩ (mX4_isRest l D dA ad hf) (cwV 2 hts (lw_V q1679 q1681 qs78 q95 q1682) rfl rfl rfl (by decide +kernel) ⟨Nat.le_of_ble_eq_true rfl, Nat.le_of_ble_eq_true rfl⟩) hK hH hS rfl hl.1 rfl (Nat.le_of_ble_eq_true rfl) dX4_rest_75 (fun H locs hH hS => ?_)
                clear hf
                refine lv_if_eq (tgt := 90) hx hb dX4_rest_78 (by decide) (fun hc => ?_) (fun hc => ?_)
                · replace hX := ipos hc hX; clear hc
                  obtain ⟨x13, ex13⟩ : ∃ y : Int32, y = x9 + (1:Int32) := ⟨_, rfl⟩
                  replace hX := bd_inv ex13 hX
                  refine lv_iinc (v := x13) (lv' := [(5, .int x13), (0, .ref (ad 0)), (4, .int x7)]) hx hb dX4_rest_90 hl (k := 2) rfl (by rw [ex13]; rfl) (by decide) rfl (fun ls hl => ?_)
                  clear ex13
                  refine lv_goto (tgt := 63) hx hb dX4_rest_93 (by decide) ?_
                  exact hk10 x13 hX H locs hH hS ls (lv_sub hl [1, 2, 0] rfl)
                · replace hX := ineg hc hX; clear hc
                  refine lv_bipush (v := (10:Int32)) hx hb dX4_rest_81 (by decide) ?_
                  refine lv_iload hx hb dX4_rest_83 (lv_at hl 1 rfl) ?_
                  refine lv_imul hx hb dX4_rest_85 ?_
                  refine lv_iload hx hb dX4_rest_86 (lv_at hl 2 rfl) ?_
                  refine lv_iadd hx hb dX4_rest_88 ?_
                  obtain ⟨e1, e2⟩ := Prod.mk.inj (rinv hX); subst e1; subst e2
                  exact W.iret hx hb hr (fun t ht hW => ⟨⟨_, (), rfl, rfl, hH.to ht⟩, hS.F ht⟩) hS.2.2 dX4_rest_89
          · replace hX := ipos hc hX; clear hc
            refine lv_bipush (v := (-2:Int32)) hx hb dX4_rest_31 (by decide) ?_
            obtain ⟨e1, e2⟩ := Prod.mk.inj (rinv hX); subst e1; subst e2
            exact W.iret hx hb hr (fun t ht hW => ⟨⟨_, (), rfl, rfl, hH.to ht⟩, hS.F ht⟩) hS.2.2 dX4_rest_33
        · replace hX := ipos hc hX; clear hc
          exact hk2  hX H locs hH hS ls (lv_sub hl [] rfl)

abbrev rmX4_matter : Room := { frames := 38, cells := 0, slots := 0, locals := 880 }
def fX4_matter (p1 : Int32) (σ : MS) : Option (Int32 × MS) :=
 cl (fX4_isShip p1 σ) (fun (x1 : Int32) =>
 if x1 = (0:Int32) then
 some ((-1:Int32), σ)
 else
 cl (fX4_takes p1 σ) (fun (σ2 : MS) =>
 cl (fX4_harmOf (0:Int32) σ2) (fun (x3 : Int64) =>
 cl2 (fX4_bestBeside (9:Int32) (0:Int32) σ2) (fun (x5 : Int64) (σ4 : MS) =>
 bd (x3 - x5) (fun (x6 : Int64) =>
 lp (fun _ => none) (fun (k8 : Int32 → Option (Int32 × MS)) (x7 : Int32) =>
 if (20:Int32) < x7 then
 some ((-5:Int32), σ4)
 else
 cl (fX4_chance (7:Int32) σ4) (fun (x9 : Int32) =>
 if (lg_cmp (((1000:Int64) * (x7.toInt64)) * (x9.toInt64)) x6) < (0:Int32) then
 bd (x7 + (1:Int32)) (fun (x10 : Int32) =>
 k8 x10)
 else
 some (x7, σ4))) NF (0:Int32))))))
set_option maxHeartbeats 4000000 in
set_option maxRecDepth 100000 in
theorem mX4_matter (l : Launch) (D : va_G) (dA : Nat → ClassId) (ad : Nat → Nat) {p1 : Int32} {σ : MS} {r : Int32} {σz : MS} (hX : fX4_matter p1 σ = some (r, σz)) : Met l yX4_matter (ws_ yX4_matter cX4_matter 5 (some .int)) (rmX4_matter) (mPc D dA ad σ [.int p1]) (mQi D dA ad r σz) 0 0 (AM ad) := by
  refine Met.ofW (cc := cX4_matter) (maxL := 5) (ret := (some .int)) (by decide) rfl ?_
  intro p e s m args below meth c s₁ B hml hv
  obtain ⟨rfl, hH, hK⟩ := hv
  have hx := B.exec
  have hb := B.bytes
  have hr := B.returns
  have hts := atoms_spec (ws := (ws_ yX4_matter cX4_matter 5 (some .int))) B.pre
  have hts : ∀ w ∈ lw_all, w.before _ s = true := fun w h => hts w (List.mem_cons_of_mem _ h)
  have hown : s.vm.findClass RX4 = some m.cls := findClass_of_methodNamed B.named
  have hlocks := B.notSynchronized
  have hl := lv_entry ([.ref (ad 0), .int p1]) (n := 5) (Nat.le_of_ble_eq_true rfl)
  rw [lg_entry_eq]
  generalize (lg_sl ([.ref (ad 0), .int p1]) ++ List.replicate (5 - (lg_sl ([.ref (ad 0), .int p1])).length) Slot.unset).toArray = ls at hl ⊢
  have hl : lv_has ls 5 [(0, .ref (ad 0)), (1, .int p1)] := hl
  unfold fX4_matter at hX
  refine m_start hH (fun H locs hH hS => ?_)
  refine lv_aload_n hx hb dX4_matter_0 rfl (lv_at hl 0 rfl) ?_
  refine lv_iload_n hx hb dX4_matter_1 rfl (lv_at hl 1 rfl) ?_
  obtain ⟨x1, hf, hX⟩ := cl_inv hX
  refine m_callVi (As := [.int p1]) ⟨hx, hb, hml, hown, hts⟩ (mX4_isShip l D dA ad hf) (cwV 1 hts (lw_V q1532 q1534 qs61 q95 q1535) rfl rfl rfl (by decide +kernel) ⟨Nat.le_of_ble_eq_true rfl, Nat.le_of_ble_eq_true rfl⟩) hK hH hS rfl hl.1 rfl (Nat.le_of_ble_eq_true rfl) dX4_matter_2 (fun H locs hH hS => ?_)
  clear hf
  refine lv_if_ne (tgt := 10) hx hb dX4_matter_5 (by decide) (fun hc => ?_) (fun hc => ?_)
  · replace hX := ineg hc hX; clear hc
    refine lv_aload_n hx hb dX4_matter_10 rfl (lv_at hl 0 rfl) ?_
    refine lv_iload_n hx hb dX4_matter_11 rfl (lv_at hl 1 rfl) ?_
    obtain ⟨σ2, hf, hX⟩ := cl_inv hX
    refine m_callVv (As := [.int p1]) ⟨hx, hb, hml, hown, hts⟩ (mX4_takes l D dA ad hf) (cwV 1 hts (lw_V q1507 q1509 qs57 q95 q1510) rfl rfl rfl (by decide +kernel) ⟨Nat.le_of_ble_eq_true rfl, Nat.le_of_ble_eq_true rfl⟩) hK hH hS rfl hl.1 rfl (Nat.le_of_ble_eq_true rfl) dX4_matter_12 (fun H locs hH hS => ?_)
    clear hf
    refine lv_aload_n hx hb dX4_matter_15 rfl (lv_at hl 0 rfl) ?_
    refine lv_iconst (v := (0:Int32)) hx hb dX4_matter_16 (by decide) ?_
    obtain ⟨x3, hf, hX⟩ := cl_inv hX
    refine m_callVl (As := [.int (0:Int32)]) ⟨hx, hb, hml, hown, hts⟩ (mX4_harmOf l D dA ad hf) (cwV 1 hts (lw_V q1574 q1576 qs66 q95 q1577) rfl rfl rfl (by decide +kernel) ⟨Nat.le_of_ble_eq_true rfl, Nat.le_of_ble_eq_true rfl⟩) hK hH hS rfl hl.1 rfl (Nat.le_of_ble_eq_true rfl) dX4_matter_17 (fun H locs hH hS => ?_)
    clear hf
    refine lv_aload_n hx hb dX4_matter_20 rfl (lv_at hl 0 rfl) ?_
    refine lv_bipush (v := (9:Int32)) hx hb dX4_matter_21 (by decide) ?_
    refine lv_iconst (v := (0:Int32)) hx hb dX4_matter_23 (by decide) ?_
    obtain ⟨x5, σ4, hf, hX⟩ := cl2_inv hX
    refine m_callVl (As := [.int (9:Int32), .int (0:Int32)]) ⟨hx, hb, hml, hown, hts⟩ (mX4_bestBeside l D dA ad hf) (cwV 2 hts (lw_V q1600 q1602 qs69 q95 q1603) rfl rfl rfl (by decide +kernel) ⟨Nat.le_of_ble_eq_true rfl, Nat.le_of_ble_eq_true rfl⟩) hK hH hS rfl hl.1 rfl (Nat.le_of_ble_eq_true rfl) dX4_matter_24 (fun H locs hH hS => ?_)
    clear hf
    refine lv_lsub hx hb dX4_matter_27 ?_
    refine lv_topl (fun x6 ex6 => ?_)
    replace hX := bd_inv ex6 hX; clear ex6
    refine lv_lstore_n (lv' := [(2, .long x6), (0, .ref (ad 0)), (1, .int p1)]) hx hb dX4_matter_28 rfl hl (by decide) rfl (fun ls hl => ?_)
    refine lv_iconst (v := (0:Int32)) hx hb dX4_matter_29 (by decide) ?_
    refine lv_istore (lv' := [(4, .int (0:Int32)), (2, .long x6), (0, .ref (ad 0)), (1, .int p1)]) hx hb dX4_matter_30 hl (by decide) rfl (fun ls hl => ?_)
    refine lpu1 hX (fun (x7 : Int32) => ∀ (H : Heap) (locs : List Loc), HM D dA ad σ4 H → va_S (AM ad) s.heap H locs → ∀ (ls : Array Slot), lv_has ls 5 [(0, .ref (ad 0)), (2, .long x6), (4, .int x7)] → W p l e (headSpec (ws_ yX4_matter cX4_matter 5 (some .int)) (rmX4_matter)).room s m ([.ref (ad 0), .int p1] : List Value).toArray below meth c H locs 0 0 (MQ below (mQi D dA ad r σz) ([.ref (ad 0), .int p1] : List Value).toArray s 0 0 (AM ad)) (F0 m 32 ls [])) (fun k8 hk8 x7 hX H locs hH hS ls hl => ?_) H locs hH hS ls (lv_sub hl [2, 1, 0] rfl)
    refine lv_iload hx hb dX4_matter_32 (lv_at hl 2 rfl) ?_
    refine lv_bipush (v := (20:Int32)) hx hb dX4_matter_34 (by decide) ?_
    refine lv_icmp_gt (tgt := 68) hx hb dX4_matter_36 (by decide) (fun hc => ?_) (fun hc => ?_)
    · replace hX := ipos hc hX; clear hc
      refine lv_bipush (v := (-5:Int32)) hx hb dX4_matter_68 (by decide) ?_
      obtain ⟨e1, e2⟩ := Prod.mk.inj (rinv hX); subst e1; subst e2
      exact W.iret hx hb hr (fun t ht hW => ⟨⟨_, (), rfl, rfl, hH.to ht⟩, hS.F ht⟩) hS.2.2 dX4_matter_70
    · replace hX := ineg hc hX; clear hc
      refine lv_ldc2 (v := (1000:Int64)) hx hb hown (hts _ q1523) dX4_matter_39 ?_
      refine lv_iload hx hb dX4_matter_42 (lv_at hl 2 rfl) ?_
      refine lv_i2l hx hb dX4_matter_44 rfl ?_
      refine lv_lmul hx hb dX4_matter_45 ?_
      refine lv_aload_n hx hb dX4_matter_46 rfl (lv_at hl 0 rfl) ?_
      refine lv_bipush (v := (7:Int32)) hx hb dX4_matter_47 (by decide) ?_
      obtain ⟨x9, hf, hX⟩ := cl_inv hX
      refine m_callVi (As := [.int (7:Int32)]) ⟨hx, hb, hml, hown, hts⟩ (mX4_chance l D dA ad hf) (cwV 1 hts (lw_V q1552 q1554 qs63 q95 q1555) rfl rfl rfl (by decide +kernel) ⟨Nat.le_of_ble_eq_true rfl, Nat.le_of_ble_eq_true rfl⟩) hK hH hS rfl hl.1 rfl (Nat.le_of_ble_eq_true rfl) dX4_matter_49 (fun H locs hH hS => ?_)
      clear hf
      refine lv_i2l hx hb dX4_matter_52 rfl ?_
      refine lv_lmul hx hb dX4_matter_53 ?_
      refine lv_lload_n hx hb dX4_matter_54 rfl (lv_at hl 1 rfl) ?_
      refine W.lcmp hx hb dX4_matter_55 ?_
      refine lv_if_lt (tgt := 62) hx hb dX4_matter_56 (by decide) (fun hc => ?_) (fun hc => ?_)
      · replace hX := ipos hc hX; clear hc
        obtain ⟨x10, ex10⟩ : ∃ y : Int32, y = x7 + (1:Int32) := ⟨_, rfl⟩
        replace hX := bd_inv ex10 hX
        refine lv_iinc (v := x10) (lv' := [(4, .int x10), (0, .ref (ad 0)), (2, .long x6)]) hx hb dX4_matter_62 hl (k := 2) rfl (by rw [ex10]; rfl) (by decide) rfl (fun ls hl => ?_)
        clear ex10
        refine lv_goto (tgt := 32) hx hb dX4_matter_65 (by decide) ?_
        exact hk8 x10 hX H locs hH hS ls (lv_sub hl [1, 2, 0] rfl)
      · replace hX := ineg hc hX; clear hc
        refine lv_iload hx hb dX4_matter_59 (lv_at hl 2 rfl) ?_
        obtain ⟨e1, e2⟩ := Prod.mk.inj (rinv hX); subst e1; subst e2
        exact W.iret hx hb hr (fun t ht hW => ⟨⟨_, (), rfl, rfl, hH.to ht⟩, hS.F ht⟩) hS.2.2 dX4_matter_61
  · replace hX := ipos hc hX; clear hc
    refine lv_iconst (v := (-1:Int32)) hx hb dX4_matter_8 (by decide) ?_
    obtain ⟨e1, e2⟩ := Prod.mk.inj (rinv hX); subst e1; subst e2
    exact W.iret hx hb hr (fun t ht hW => ⟨⟨_, (), rfl, rfl, hH.to ht⟩, hS.F ht⟩) hS.2.2 dX4_matter_9

abbrev rmX4_edge : Room := { frames := 938, cells := 0, slots := 0, locals := 21801 }
def fX4_edge (p1 : Int32) (σ : MS) : Option (Int32 × MS) :=
 cl (fX4_isShip p1 σ) (fun (x1 : Int32) =>
 if x1 = (0:Int32) then
 some ((-1:Int32), σ)
 else
 cl2 (fX4_leastOf p1 (1:Int32) (20:Int32) (0:Int32) σ) (fun (x3 : Int32) (σ2 : MS) =>
 gd (ib ((890:Int32) + p1) 1160) (
 gd (ib (((130:Int32) + ((10:Int32) * (σ2.2.1 1 ((890:Int32) + p1).toNatClampNeg))) + (4:Int32)) 1160) (
 bd (σ2.2.1 1 (((130:Int32) + ((10:Int32) * (σ2.2.1 1 ((890:Int32) + p1).toNatClampNeg))) + (4:Int32)).toNatClampNeg) (fun (x4 : Int32) =>
 lp (fun _ _ => none) (fun (k7 : Int32 → MS → Option (Int32 × MS)) (x5 : Int32) (σ6 : MS) =>
 if (50:Int32) < x5 then
 some ((0:Int32), σ6)
 else
 jn (fun (σ8 : MS) => jn (fun (σ10 : MS) => bd (x5 + (1:Int32)) (fun (x12 : Int32) =>
 k7 x12 σ10)) (fun (k11 : MS → Option (Int32 × MS)) =>
 if (1000:Int32) < (x4 + x5) then
 k11 σ8
 else
 cl2 (fX4_leastOf p1 (1:Int32) (20:Int32) x5 σ8) (fun (x14 : Int32) (σ13 : MS) =>
 if x14 = x3 then
 k11 σ13
 else
 some (x5, σ13)))) (fun (k9 : MS → Option (Int32 × MS)) =>
 if (x4 - x5) < (0:Int32) then
 k9 σ6
 else
 cl2 (fX4_leastOf p1 (1:Int32) (20:Int32) (-x5) σ6) (fun (x16 : Int32) (σ15 : MS) =>
 if x16 = x3 then
 k9 σ15
 else
 some (-x5, σ15)))) NF (1:Int32) σ2)))))
set_option maxHeartbeats 4000000 in
set_option maxRecDepth 100000 in
theorem mX4_edge (l : Launch) (D : va_G) (dA : Nat → ClassId) (ad : Nat → Nat) {p1 : Int32} {σ : MS} {r : Int32} {σz : MS} (hX : fX4_edge p1 σ = some (r, σz)) : Met l yX4_edge (ws_ yX4_edge cX4_edge 5 (some .int)) (rmX4_edge) (mPc D dA ad σ [.int p1]) (mQi D dA ad r σz) 0 0 (AM ad) := by
  refine Met.ofW (cc := cX4_edge) (maxL := 5) (ret := (some .int)) (by decide) rfl ?_
  intro p e s m args below meth c s₁ B hml hv
  obtain ⟨rfl, hH, hK⟩ := hv
  have hx := B.exec
  have hb := B.bytes
  have hr := B.returns
  have hts := atoms_spec (ws := (ws_ yX4_edge cX4_edge 5 (some .int))) B.pre
  have hts : ∀ w ∈ lw_all, w.before _ s = true := fun w h => hts w (List.mem_cons_of_mem _ h)
  have hown : s.vm.findClass RX4 = some m.cls := findClass_of_methodNamed B.named
  have hlocks := B.notSynchronized
  have hl := lv_entry ([.ref (ad 0), .int p1]) (n := 5) (Nat.le_of_ble_eq_true rfl)
  rw [lg_entry_eq]
  generalize (lg_sl ([.ref (ad 0), .int p1]) ++ List.replicate (5 - (lg_sl ([.ref (ad 0), .int p1])).length) Slot.unset).toArray = ls at hl ⊢
  have hl : lv_has ls 5 [(0, .ref (ad 0)), (1, .int p1)] := hl
  unfold fX4_edge at hX
  refine m_start hH (fun H locs hH hS => ?_)
  refine lv_aload_n hx hb dX4_edge_0 rfl (lv_at hl 0 rfl) ?_
  refine lv_iload_n hx hb dX4_edge_1 rfl (lv_at hl 1 rfl) ?_
  obtain ⟨x1, hf, hX⟩ := cl_inv hX
  refine m_callVi (As := [.int p1]) ⟨hx, hb, hml, hown, hts⟩ (mX4_isShip l D dA ad hf) (cwV 1 hts (lw_V q1532 q1534 qs61 q95 q1535) rfl rfl rfl (by decide +kernel) ⟨Nat.le_of_ble_eq_true rfl, Nat.le_of_ble_eq_true rfl⟩) hK hH hS rfl hl.1 rfl (Nat.le_of_ble_eq_true rfl) dX4_edge_2 (fun H locs hH hS => ?_)
  clear hf
  refine lv_if_ne (tgt := 10) hx hb dX4_edge_5 (by decide) (fun hc => ?_) (fun hc => ?_)
  · replace hX := ineg hc hX; clear hc
    refine lv_aload_n hx hb dX4_edge_10 rfl (lv_at hl 0 rfl) ?_
    refine lv_iload_n hx hb dX4_edge_11 rfl (lv_at hl 1 rfl) ?_
    refine lv_iconst (v := (1:Int32)) hx hb dX4_edge_12 (by decide) ?_
    refine lv_bipush (v := (20:Int32)) hx hb dX4_edge_13 (by decide) ?_
    refine lv_iconst (v := (0:Int32)) hx hb dX4_edge_15 (by decide) ?_
    obtain ⟨x3, σ2, hf, hX⟩ := cl2_inv hX
    refine m_callVi (As := [.int p1, .int (1:Int32), .int (20:Int32), .int (0:Int32)]) ⟨hx, hb, hml, hown, hts⟩ (mX4_leastOf l D dA ad hf) (cwV 4 hts (lw_V q1640 q1642 qs75 q95 q1643) rfl rfl rfl (by decide +kernel) ⟨Nat.le_of_ble_eq_true rfl, Nat.le_of_ble_eq_true rfl⟩) hK hH hS rfl hl.1 rfl (Nat.le_of_ble_eq_true rfl) dX4_edge_16 (fun H locs hH hS => ?_)
    clear hf
    refine lv_istore_n (lv' := [(2, .int x3), (0, .ref (ad 0)), (1, .int p1)]) hx hb dX4_edge_19 rfl hl (by decide) rfl (fun ls hl => ?_)
    refine lv_aload_n hx hb dX4_edge_20 rfl (lv_at hl 1 rfl) ?_
    refine m_get (v := .ref (ad 1)) hx hb hts hown hK hH 1 (by decide) (hts _ q1291) rfl dX4_edge_21 ?_
    refine lv_sipush (v := (130:Int32)) hx hb dX4_edge_24 (by decide) ?_
    refine lv_bipush (v := (10:Int32)) hx hb dX4_edge_27 (by decide) ?_
    refine lv_aload_n hx hb dX4_edge_29 rfl (lv_at hl 1 rfl) ?_
    refine m_get (v := .ref (ad 1)) hx hb hts hown hK hH 1 (by decide) (hts _ q1291) rfl dX4_edge_30 ?_
    refine lv_sipush (v := (890:Int32)) hx hb dX4_edge_33 (by decide) ?_
    refine lv_iload_n hx hb dX4_edge_36 rfl (lv_at hl 2 rfl) ?_
    refine lv_iadd hx hb dX4_edge_37 ?_
    obtain ⟨hg, hX⟩ := gd_inv hX
    refine m_iald hx hb hK hH 1 1 (n := 1160) rfl hg dX4_edge_38 ?_
    refine lv_imul hx hb dX4_edge_39 ?_
    refine lv_iadd hx hb dX4_edge_40 ?_
    refine lv_iconst (v := (4:Int32)) hx hb dX4_edge_41 (by decide) ?_
    refine lv_iadd hx hb dX4_edge_42 ?_
    obtain ⟨hg, hX⟩ := gd_inv hX
    refine m_iald hx hb hK hH 1 1 (n := 1160) rfl hg dX4_edge_43 ?_
    refine lv_topi (fun x4 ex4 => ?_)
    replace hX := bd_inv ex4 hX; clear ex4
    refine lv_istore_n (lv' := [(3, .int x4), (2, .int x3), (0, .ref (ad 0)), (1, .int p1)]) hx hb dX4_edge_44 rfl hl (by decide) rfl (fun ls hl => ?_)
    refine lv_iconst (v := (1:Int32)) hx hb dX4_edge_45 (by decide) ?_
    refine lv_istore (lv' := [(4, .int (1:Int32)), (3, .int x4), (2, .int x3), (0, .ref (ad 0)), (1, .int p1)]) hx hb dX4_edge_46 hl (by decide) rfl (fun ls hl => ?_)
    refine lpu2 hX (fun (x5 : Int32) (σ6 : MS) => ∀ (H : Heap) (locs : List Loc), HM D dA ad σ6 H → va_S (AM ad) s.heap H locs → ∀ (ls : Array Slot), lv_has ls 5 [(0, .ref (ad 0)), (1, .int p1), (2, .int x3), (3, .int x4), (4, .int x5)] → W p l e (headSpec (ws_ yX4_edge cX4_edge 5 (some .int)) (rmX4_edge)).room s m ([.ref (ad 0), .int p1] : List Value).toArray below meth c H locs 0 0 (MQ below (mQi D dA ad r σz) ([.ref (ad 0), .int p1] : List Value).toArray s 0 0 (AM ad)) (F0 m 48 ls [])) (fun k7 hk7 x5 σ6 hX H locs hH hS ls hl => ?_) H locs hH hS ls (lv_sub hl [3, 4, 2, 1, 0] rfl)
    refine lv_iload hx hb dX4_edge_48 (lv_at hl 4 rfl) ?_
    refine lv_bipush (v := (50:Int32)) hx hb dX4_edge_50 (by decide) ?_
    refine lv_icmp_gt (tgt := 114) hx hb dX4_edge_52 (by decide) (fun hc => ?_) (fun hc => ?_)
    · replace hX := ipos hc hX; clear hc
      refine lv_iconst (v := (0:Int32)) hx hb dX4_edge_114 (by decide) ?_
      obtain ⟨e1, e2⟩ := Prod.mk.inj (rinv hX); subst e1; subst e2
      exact W.iret hx hb hr (fun t ht hW => ⟨⟨_, (), rfl, rfl, hH.to ht⟩, hS.F ht⟩) hS.2.2 dX4_edge_115
    · replace hX := ineg hc hX; clear hc
      refine lv_iload_n hx hb dX4_edge_55 rfl (lv_at hl 3 rfl) ?_
      refine lv_iload hx hb dX4_edge_56 (lv_at hl 4 rfl) ?_
      refine lv_isub hx hb dX4_edge_58 ?_
      refine jnu1 hX (fun (σ8 : MS) => ∀ (H : Heap) (locs : List Loc), HM D dA ad σ8 H → va_S (AM ad) s.heap H locs → ∀ (ls : Array Slot), lv_has ls 5 [(0, .ref (ad 0)), (1, .int p1), (2, .int x3), (3, .int x4), (4, .int x5)] → W p l e (headSpec (ws_ yX4_edge cX4_edge 5 (some .int)) (rmX4_edge)).room s m ([.ref (ad 0), .int p1] : List Value).toArray below meth c H locs 0 0 (MQ below (mQi D dA ad r σz) ([.ref (ad 0), .int p1] : List Value).toArray s 0 0 (AM ad)) (F0 m 81 ls [])) (fun σ8 hX H locs hH hS ls hl => ?_) (fun k9 hk9 hX => ?_)
      · refine lv_iload_n hx hb dX4_edge_81 rfl (lv_at hl 3 rfl) ?_
        refine lv_iload hx hb dX4_edge_82 (lv_at hl 4 rfl) ?_
        refine lv_iadd hx hb dX4_edge_84 ?_
        refine lv_sipush (v := (1000:Int32)) hx hb dX4_edge_85 (by decide) ?_
        refine jnu1 hX (fun (σ10 : MS) => ∀ (H : Heap) (locs : List Loc), HM D dA ad σ10 H → va_S (AM ad) s.heap H locs → ∀ (ls : Array Slot), lv_has ls 5 [(0, .ref (ad 0)), (1, .int p1), (2, .int x3), (3, .int x4), (4, .int x5)] → W p l e (headSpec (ws_ yX4_edge cX4_edge 5 (some .int)) (rmX4_edge)).room s m ([.ref (ad 0), .int p1] : List Value).toArray below meth c H locs 0 0 (MQ below (mQi D dA ad r σz) ([.ref (ad 0), .int p1] : List Value).toArray s 0 0 (AM ad)) (F0 m 108 ls [])) (fun σ10 hX H locs hH hS ls hl => ?_) (fun k11 hk11 hX => ?_)
        · obtain ⟨x12, ex12⟩ : ∃ y : Int32, y = x5 + (1:Int32) := ⟨_, rfl⟩
          replace hX := bd_inv ex12 hX
          refine lv_iinc (v := x12) (lv' := [(4, .int x12), (0, .ref (ad 0)), (1, .int p1), (2, .int x3), (3, .int x4)]) hx hb dX4_edge_108 hl (k := 4) rfl (by rw [ex12]; rfl) (by decide) rfl (fun ls hl => ?_)
          clear ex12
          refine lv_goto (tgt := 48) hx hb dX4_edge_111 (by decide) ?_
          exact hk7 x12 σ10 hX H locs hH hS ls (lv_sub hl [1, 2, 3, 4, 0] rfl)
        · refine lv_icmp_gt (tgt := 108) hx hb dX4_edge_88 (by decide) (fun hc => ?_) (fun hc => ?_)
          · replace hX := ipos hc hX; clear hc
            exact hk11 σ8 hX H locs hH hS ls (lv_sub hl [0, 1, 2, 3, 4] rfl)
          · replace hX := ineg hc hX; clear hc
            refine lv_aload_n hx hb dX4_edge_91 rfl (lv_at hl 0 rfl) ?_
            refine lv_iload_n hx hb dX4_edge_92 rfl (lv_at hl 1 rfl) ?_
            refine lv_iconst (v := (1:Int32)) hx hb dX4_edge_93 (by decide) ?_
            refine lv_bipush (v := (20:Int32)) hx hb dX4_edge_94 (by decide) ?_
            refine lv_iload hx hb dX4_edge_96 (lv_at hl 4 rfl) ?_
            obtain ⟨x14, σ13, hf, hX⟩ := cl2_inv hX
            refine m_callVi (As := [.int p1, .int (1:Int32), .int (20:Int32), .int x5]) ⟨hx, hb, hml, hown, hts⟩ (mX4_leastOf l D dA ad hf) (cwV 4 hts (lw_V q1640 q1642 qs75 q95 q1643) rfl rfl rfl (by decide +kernel) ⟨Nat.le_of_ble_eq_true rfl, Nat.le_of_ble_eq_true rfl⟩) hK hH hS rfl hl.1 rfl (Nat.le_of_ble_eq_true rfl) dX4_edge_98 (fun H locs hH hS => ?_)
            clear hf
            refine lv_iload_n hx hb dX4_edge_101 rfl (lv_at hl 2 rfl) ?_
            refine lv_icmp_eq (tgt := 108) hx hb dX4_edge_102 (by decide) (fun hc => ?_) (fun hc => ?_)
            · replace hX := ipos hc hX; clear hc
              exact hk11 σ13 hX H locs hH hS ls (lv_sub hl [0, 1, 2, 3, 4] rfl)
            · replace hX := ineg hc hX; clear hc
              refine lv_iload hx hb dX4_edge_105 (lv_at hl 4 rfl) ?_
              obtain ⟨e1, e2⟩ := Prod.mk.inj (rinv hX); subst e1; subst e2
              exact W.iret hx hb hr (fun t ht hW => ⟨⟨_, (), rfl, rfl, hH.to ht⟩, hS.F ht⟩) hS.2.2 dX4_edge_107
      · refine lv_if_lt (tgt := 81) hx hb dX4_edge_59 (by decide) (fun hc => ?_) (fun hc => ?_)
        · replace hX := ipos hc hX; clear hc
          exact hk9 σ6 hX H locs hH hS ls (lv_sub hl [0, 1, 2, 3, 4] rfl)
        · replace hX := ineg hc hX; clear hc
          refine lv_aload_n hx hb dX4_edge_62 rfl (lv_at hl 0 rfl) ?_
          refine lv_iload_n hx hb dX4_edge_63 rfl (lv_at hl 1 rfl) ?_
          refine lv_iconst (v := (1:Int32)) hx hb dX4_edge_64 (by decide) ?_
          refine lv_bipush (v := (20:Int32)) hx hb dX4_edge_65 (by decide) ?_
          refine lv_iload hx hb dX4_edge_67 (lv_at hl 4 rfl) ?_
          refine lv_ineg hx hb dX4_edge_69 ?_
          obtain ⟨x16, σ15, hf, hX⟩ := cl2_inv hX
          refine m_callVi (As := [.int p1, .int (1:Int32), .int (20:Int32), .int (-x5)]) ⟨hx, hb, hml, hown, hts⟩ (mX4_leastOf l D dA ad hf) (cwV 4 hts (lw_V q1640 q1642 qs75 q95 q1643) rfl rfl rfl (by decide +kernel) ⟨Nat.le_of_ble_eq_true rfl, Nat.le_of_ble_eq_true rfl⟩) hK hH hS rfl hl.1 rfl (Nat.le_of_ble_eq_true rfl) dX4_edge_70 (fun H locs hH hS => ?_)
          clear hf
          refine lv_iload_n hx hb dX4_edge_73 rfl (lv_at hl 2 rfl) ?_
          refine lv_icmp_eq (tgt := 81) hx hb dX4_edge_74 (by decide) (fun hc => ?_) (fun hc => ?_)
          · replace hX := ipos hc hX; clear hc
            exact hk9 σ15 hX H locs hH hS ls (lv_sub hl [0, 1, 2, 3, 4] rfl)
          · replace hX := ineg hc hX; clear hc
            refine lv_iload hx hb dX4_edge_77 (lv_at hl 4 rfl) ?_
            refine lv_ineg hx hb dX4_edge_79 ?_
            obtain ⟨e1, e2⟩ := Prod.mk.inj (rinv hX); subst e1; subst e2
            exact W.iret hx hb hr (fun t ht hW => ⟨⟨_, (), rfl, rfl, hH.to ht⟩, hS.F ht⟩) hS.2.2 dX4_edge_80
  · replace hX := ipos hc hX; clear hc
    refine lv_iconst (v := (-1:Int32)) hx hb dX4_edge_8 (by decide) ?_
    obtain ⟨e1, e2⟩ := Prod.mk.inj (rinv hX); subst e1; subst e2
    exact W.iret hx hb hr (fun t ht hW => ⟨⟨_, (), rfl, rfl, hH.to ht⟩, hS.F ht⟩) hS.2.2 dX4_edge_9

abbrev rmX4_run : Room := { frames := 39, cells := 0, slots := 0, locals := 906 }
def fX4_run (p1 : Int32) (p2 : Int32) (p3 : Int32) (σ : MS) : Option (Int32 × MS) :=
 cl (fX4_isRule p1 σ) (fun (x1 : Int32) =>
 jn (some ((-1:Int32), σ)) (fun (k2 : Option (Int32 × MS)) =>
 if x1 = (0:Int32) then
 k2
 else
 cl (fX4_isShip p2 σ) (fun (x3 : Int32) =>
 if x3 = (0:Int32) then
 k2
 else
 cl (fX4_in p3 (0:Int32) (999:Int32)) (fun (x4 : Int32) =>
 if x4 = (0:Int32) then
 some ((-2:Int32), σ)
 else
 cl (fX4_takes p2 σ) (fun (σ5 : MS) =>
 gd (ib ((902:Int32) + p2) 1160) (
 gd (ib (((130:Int32) + ((10:Int32) * (σ5.1 11))) + (σ5.2.1 1 ((902:Int32) + p2).toNatClampNeg)) 1160) (
 bd (σ5.2.1 1 (((130:Int32) + ((10:Int32) * (σ5.1 11))) + (σ5.2.1 1 ((902:Int32) + p2).toNatClampNeg)).toNatClampNeg) (fun (x6 : Int32) =>
 lp (fun _ _ => none) (fun (k9 : Int32 → Int32 → Option (Int32 × MS)) (x7 : Int32) (x8 : Int32) =>
 if (σ5.1 12) ≤ x8 then
 lp (fun _ _ _ _ => none) (fun (k14 : Int32 → Int32 → Int32 → MS → Option (Int32 × MS)) (x10 : Int32) (x11 : Int32) (x12 : Int32) (σ13 : MS) =>
 jn (fun (σ15 : MS) => jn (fun (x17 : Int32) => some ((x11 + ((100:Int32) * x10)) + x17, σ15)) (fun (k18 : Int32 → Option (Int32 × MS)) =>
 if x12 = (0:Int32) then
 k18 (0:Int32)
 else
 k18 (10000:Int32))) (fun (k16 : MS → Option (Int32 × MS)) =>
 if x12 = (0:Int32) then
 if (20:Int32) ≤ x11 then
 k16 σ13
 else
 gd (ib ((1000:Int32) + p1) 1160) (
 gd (ib ((1012:Int32) + p1) 1160) (
 cl2 (fX4_letsIn (σ13.2.1 1 ((1000:Int32) + p1).toNatClampNeg) (σ13.2.1 1 ((1012:Int32) + p1).toNatClampNeg) p1 x11 σ13) (fun (x20 : Int32) (σ19 : MS) =>
 if x20 = (0:Int32) then
 jn (fun (x21 : Int32) => cl (fX4_chance (5:Int32) σ19) (fun (x23 : Int32) =>
 jn (fun (x24 : Int32) => jn (fun (x26 : Int32) (x27 : Int32) (σ28 : MS) => k14 x26 x27 x24 σ28) (fun (k29 : Int32 → Int32 → MS → Option (Int32 × MS)) =>
 if x24 = (0:Int32) then
 cl (fX4_chance (4:Int32) σ19) (fun (x30 : Int32) =>
 jn (fun (x31 : Int32) => bd (x10 + x31) (fun (x33 : Int32) =>
 cl2 (fX4_aboard (0:Int32) σ19) (fun (x35 : Int32) (σ34 : MS) =>
 bd (x11 + (1:Int32)) (fun (x36 : Int32) =>
 k29 x33 x36 σ34)))) (fun (k32 : Int32 → Option (Int32 × MS)) =>
 jn (k32 (0:Int32)) (fun (k37 : Option (Int32 × MS)) =>
 if (x21 * x30) ≤ ((((7:Int32) * p3) + ((11:Int32) * x11)) - (((7:Int32) * p3) + ((11:Int32) * x11)) / (1000:Int32) * (1000:Int32)) then
 k37
 else
 if (σ19.1 12) ≤ x10 then
 k37
 else
 k32 (1:Int32))))
 else
 k29 x10 x11 σ19)) (fun (k25 : Int32 → Option (Int32 × MS)) =>
 if (x21 * x23) ≤ (((((13:Int32) * p3) + ((29:Int32) * x11)) * (3:Int32)) - ((((13:Int32) * p3) + ((29:Int32) * x11)) * (3:Int32)) / (1000:Int32) * (1000:Int32)) then
 k25 (0:Int32)
 else
 k25 (1:Int32)))) (fun (k22 : Int32 → Option (Int32 × MS)) =>
 if (3:Int32) ≤ x10 then
 k22 (3:Int32)
 else
 k22 x10)
 else
 k16 σ19)))
 else
 k16 σ13)) NF x7 (0:Int32) (0:Int32) σ5
 else
 jn (fun (x38 : Int32) => bd (x7 + x38) (fun (x40 : Int32) =>
 bd (x8 + (1:Int32)) (fun (x41 : Int32) =>
 k9 x40 x41))) (fun (k39 : Int32 → Option (Int32 × MS)) =>
 if x6 ≤ (((((31:Int32) * p3) + ((17:Int32) * x8)) * (7:Int32)) - ((((31:Int32) * p3) + ((17:Int32) * x8)) * (7:Int32)) / (1000:Int32) * (1000:Int32)) then
 k39 (0:Int32)
 else
 k39 (1:Int32))) NF (0:Int32) (0:Int32)))))))))
set_option maxHeartbeats 4000000 in
set_option maxRecDepth 100000 in
theorem mX4_run (l : Launch) (D : va_G) (dA : Nat → ClassId) (ad : Nat → Nat) {p1 : Int32} {p2 : Int32} {p3 : Int32} {σ : MS} {r : Int32} {σz : MS} (hX : fX4_run p1 p2 p3 σ = some (r, σz)) : Met l yX4_run (ws_ yX4_run cX4_run 10 (some .int)) (rmX4_run) (mPc D dA ad σ [.int p1, .int p2, .int p3]) (mQi D dA ad r σz) 0 0 (AM ad) := by
  refine Met.ofW (cc := cX4_run) (maxL := 10) (ret := (some .int)) (by decide) rfl ?_
  intro p e s m args below meth c s₁ B hml hv
  obtain ⟨rfl, hH, hK⟩ := hv
  have hx := B.exec
  have hb := B.bytes
  have hr := B.returns
  have hts := atoms_spec (ws := (ws_ yX4_run cX4_run 10 (some .int))) B.pre
  have hts : ∀ w ∈ lw_all, w.before _ s = true := fun w h => hts w (List.mem_cons_of_mem _ h)
  have hown : s.vm.findClass RX4 = some m.cls := findClass_of_methodNamed B.named
  have hlocks := B.notSynchronized
  have hl := lv_entry ([.ref (ad 0), .int p1, .int p2, .int p3]) (n := 10) (Nat.le_of_ble_eq_true rfl)
  rw [lg_entry_eq]
  generalize (lg_sl ([.ref (ad 0), .int p1, .int p2, .int p3]) ++ List.replicate (10 - (lg_sl ([.ref (ad 0), .int p1, .int p2, .int p3])).length) Slot.unset).toArray = ls at hl ⊢
  have hl : lv_has ls 10 [(0, .ref (ad 0)), (1, .int p1), (2, .int p2), (3, .int p3)] := hl
  unfold fX4_run at hX
  refine m_start hH (fun H locs hH hS => ?_)
  refine lv_aload_n hx hb dX4_run_0 rfl (lv_at hl 0 rfl) ?_
  refine lv_iload_n hx hb dX4_run_1 rfl (lv_at hl 1 rfl) ?_
  obtain ⟨x1, hf, hX⟩ := cl_inv hX
  refine m_callVi (As := [.int p1]) ⟨hx, hb, hml, hown, hts⟩ (mX4_isRule l D dA ad hf) (cwV 1 hts (lw_V q1588 q1590 qs67 q95 q1591) rfl rfl rfl (by decide +kernel) ⟨Nat.le_of_ble_eq_true rfl, Nat.le_of_ble_eq_true rfl⟩) hK hH hS rfl hl.1 rfl (Nat.le_of_ble_eq_true rfl) dX4_run_2 (fun H locs hH hS => ?_)
  clear hf
  refine jnu0 hX (∀ (H : Heap) (locs : List Loc), HM D dA ad σ H → va_S (AM ad) s.heap H locs → ∀ (ls : Array Slot), lv_has ls 10 [] → W p l e (headSpec (ws_ yX4_run cX4_run 10 (some .int)) (rmX4_run)).room s m ([.ref (ad 0), .int p1, .int p2, .int p3] : List Value).toArray below meth c H locs 0 0 (MQ below (mQi D dA ad r σz) ([.ref (ad 0), .int p1, .int p2, .int p3] : List Value).toArray s 0 0 (AM ad)) (F0 m 16 ls [])) (fun  hX H locs hH hS ls hl => ?_) (fun k2 hk2 hX => ?_)
  · refine lv_iconst (v := (-1:Int32)) hx hb dX4_run_16 (by decide) ?_
    obtain ⟨e1, e2⟩ := Prod.mk.inj (rinv hX); subst e1; subst e2
    exact W.iret hx hb hr (fun t ht hW => ⟨⟨_, (), rfl, rfl, hH.to ht⟩, hS.F ht⟩) hS.2.2 dX4_run_17
  · refine lv_if_eq (tgt := 16) hx hb dX4_run_5 (by decide) (fun hc => ?_) (fun hc => ?_)
    · replace hX := ipos hc hX; clear hc
      exact hk2  hX H locs hH hS ls (lv_sub hl [] rfl)
    · replace hX := ineg hc hX; clear hc
      refine lv_aload_n hx hb dX4_run_8 rfl (lv_at hl 0 rfl) ?_
      refine lv_iload_n hx hb dX4_run_9 rfl (lv_at hl 2 rfl) ?_
      obtain ⟨x3, hf, hX⟩ := cl_inv hX
      refine m_callVi (As := [.int p2]) ⟨hx, hb, hml, hown, hts⟩ (mX4_isShip l D dA ad hf) (cwV 1 hts (lw_V q1532 q1534 qs61 q95 q1535) rfl rfl rfl (by decide +kernel) ⟨Nat.le_of_ble_eq_true rfl, Nat.le_of_ble_eq_true rfl⟩) hK hH hS rfl hl.1 rfl (Nat.le_of_ble_eq_true rfl) dX4_run_10 (fun H locs hH hS => ?_)
      clear hf
      refine lv_if_ne (tgt := 18) hx hb dX4_run_13 (by decide) (fun hc => ?_) (fun hc => ?_)
      · replace hX := ineg hc hX; clear hc
        refine lv_iload_n hx hb dX4_run_18 rfl (lv_at hl 3 rfl) ?_
        refine lv_iconst (v := (0:Int32)) hx hb dX4_run_19 (by decide) ?_
        refine lv_sipush (v := (999:Int32)) hx hb dX4_run_20 (by decide) ?_
        obtain ⟨x4, hf, hX⟩ := cl_inv hX
        refine m_callSi (As := [.int p3, .int (0:Int32), .int (999:Int32)]) ⟨hx, hb, hml, hown, hts⟩ (mX4_in l hf) (va_cwS 3 hts (lw_S q1368 q1369 q95 q1370) rfl rfl rfl (by decide +kernel) ⟨Nat.le_of_ble_eq_true rfl, Nat.le_of_ble_eq_true rfl⟩) hH hS rfl hl.1 rfl (Nat.le_of_ble_eq_true rfl) dX4_run_23 (fun H locs hH hS => ?_)
        clear hf
        refine lv_if_ne (tgt := 32) hx hb dX4_run_26 (by decide) (fun hc => ?_) (fun hc => ?_)
        · replace hX := ineg hc hX; clear hc
          refine lv_aload_n hx hb dX4_run_32 rfl (lv_at hl 0 rfl) ?_
          refine lv_iload_n hx hb dX4_run_33 rfl (lv_at hl 2 rfl) ?_
          obtain ⟨σ5, hf, hX⟩ := cl_inv hX
          refine m_callVv (As := [.int p2]) ⟨hx, hb, hml, hown, hts⟩ (mX4_takes l D dA ad hf) (cwV 1 hts (lw_V q1507 q1509 qs57 q95 q1510) rfl rfl rfl (by decide +kernel) ⟨Nat.le_of_ble_eq_true rfl, Nat.le_of_ble_eq_true rfl⟩) hK hH hS rfl hl.1 rfl (Nat.le_of_ble_eq_true rfl) dX4_run_34 (fun H locs hH hS => ?_)
          clear hf
          refine lv_aload_n hx hb dX4_run_37 rfl (lv_at hl 0 rfl) ?_
          refine m_get (v := .ref (ad 1)) hx hb hts hown hK hH 1 (by decide) (hts _ q1291) rfl dX4_run_38 ?_
          refine lv_sipush (v := (130:Int32)) hx hb dX4_run_41 (by decide) ?_
          refine lv_bipush (v := (10:Int32)) hx hb dX4_run_44 (by decide) ?_
          refine lv_aload_n hx hb dX4_run_46 rfl (lv_at hl 0 rfl) ?_
          refine m_get (v := .int (σ5.1 11)) hx hb hts hown hK hH 11 (by decide) (hts _ q1301) rfl dX4_run_47 ?_
          refine lv_imul hx hb dX4_run_50 ?_
          refine lv_iadd hx hb dX4_run_51 ?_
          refine lv_aload_n hx hb dX4_run_52 rfl (lv_at hl 0 rfl) ?_
          refine m_get (v := .ref (ad 1)) hx hb hts hown hK hH 1 (by decide) (hts _ q1291) rfl dX4_run_53 ?_
          refine lv_sipush (v := (902:Int32)) hx hb dX4_run_56 (by decide) ?_
          refine lv_iload_n hx hb dX4_run_59 rfl (lv_at hl 2 rfl) ?_
          refine lv_iadd hx hb dX4_run_60 ?_
          obtain ⟨hg, hX⟩ := gd_inv hX
          refine m_iald hx hb hK hH 1 1 (n := 1160) rfl hg dX4_run_61 ?_
          refine lv_iadd hx hb dX4_run_62 ?_
          obtain ⟨hg, hX⟩ := gd_inv hX
          refine m_iald hx hb hK hH 1 1 (n := 1160) rfl hg dX4_run_63 ?_
          refine lv_topi (fun x6 ex6 => ?_)
          replace hX := bd_inv ex6 hX; clear ex6
          refine lv_istore (lv' := [(4, .int x6), (0, .ref (ad 0)), (1, .int p1), (2, .int p2), (3, .int p3)]) hx hb dX4_run_64 hl (by decide) rfl (fun ls hl => ?_)
          refine lv_iconst (v := (0:Int32)) hx hb dX4_run_66 (by decide) ?_
          refine lv_istore (lv' := [(5, .int (0:Int32)), (4, .int x6), (0, .ref (ad 0)), (1, .int p1), (2, .int p2), (3, .int p3)]) hx hb dX4_run_67 hl (by decide) rfl (fun ls hl => ?_)
          refine lv_iconst (v := (0:Int32)) hx hb dX4_run_69 (by decide) ?_
          refine lv_istore (lv' := [(6, .int (0:Int32)), (5, .int (0:Int32)), (4, .int x6), (0, .ref (ad 0)), (1, .int p1), (2, .int p2), (3, .int p3)]) hx hb dX4_run_70 hl (by decide) rfl (fun ls hl => ?_)
          refine lpu2 hX (fun (x7 : Int32) (x8 : Int32) => ∀ (H : Heap) (locs : List Loc), HM D dA ad σ5 H → va_S (AM ad) s.heap H locs → ∀ (ls : Array Slot), lv_has ls 10 [(0, .ref (ad 0)), (1, .int p1), (3, .int p3), (4, .int x6), (5, .int x7), (6, .int x8)] → W p l e (headSpec (ws_ yX4_run cX4_run 10 (some .int)) (rmX4_run)).room s m ([.ref (ad 0), .int p1, .int p2, .int p3] : List Value).toArray below meth c H locs 0 0 (MQ below (mQi D dA ad r σz) ([.ref (ad 0), .int p1, .int p2, .int p3] : List Value).toArray s 0 0 (AM ad)) (F0 m 72 ls [])) (fun k9 hk9 x7 x8 hX H locs hH hS ls hl => ?_) H locs hH hS ls (lv_sub hl [3, 4, 6, 2, 1, 0] rfl)
          refine lv_iload hx hb dX4_run_72 (lv_at hl 5 rfl) ?_
          refine lv_aload_n hx hb dX4_run_74 rfl (lv_at hl 0 rfl) ?_
          refine m_get (v := .int (σ5.1 12)) hx hb hts hown hK hH 12 (by decide) (hts _ q1302) rfl dX4_run_75 ?_
          refine lv_icmp_ge (tgt := 119) hx hb dX4_run_78 (by decide) (fun hc => ?_) (fun hc => ?_)
          · replace hX := ipos hc hX; clear hc
            refine lv_iconst (v := (0:Int32)) hx hb dX4_run_119 (by decide) ?_
            refine lv_istore (lv' := [(6, .int (0:Int32)), (0, .ref (ad 0)), (1, .int p1), (3, .int p3), (4, .int x6), (5, .int x7)]) hx hb dX4_run_120 hl (by decide) rfl (fun ls hl => ?_)
            refine lv_iconst (v := (0:Int32)) hx hb dX4_run_122 (by decide) ?_
            refine lv_istore (lv' := [(7, .int (0:Int32)), (6, .int (0:Int32)), (0, .ref (ad 0)), (1, .int p1), (3, .int p3), (4, .int x6), (5, .int x7)]) hx hb dX4_run_123 hl (by decide) rfl (fun ls hl => ?_)
            refine lpu4 hX (fun (x10 : Int32) (x11 : Int32) (x12 : Int32) (σ13 : MS) => ∀ (H : Heap) (locs : List Loc), HM D dA ad σ13 H → va_S (AM ad) s.heap H locs → ∀ (ls : Array Slot), lv_has ls 10 [(0, .ref (ad 0)), (1, .int p1), (3, .int p3), (5, .int x10), (6, .int x11), (7, .int x12)] → W p l e (headSpec (ws_ yX4_run cX4_run 10 (some .int)) (rmX4_run)).room s m ([.ref (ad 0), .int p1, .int p2, .int p3] : List Value).toArray below meth c H locs 0 0 (MQ below (mQi D dA ad r σz) ([.ref (ad 0), .int p1, .int p2, .int p3] : List Value).toArray s 0 0 (AM ad)) (F0 m 125 ls [])) (fun k14 hk14 x10 x11 x12 σ13 hX H locs hH hS ls hl => ?_) H locs hH hS ls (lv_sub hl [2, 3, 4, 6, 1, 0] rfl)
            refine lv_iload hx hb dX4_run_125 (lv_at hl 5 rfl) ?_
            refine jnu1 hX (fun (σ15 : MS) => ∀ (H : Heap) (locs : List Loc), HM D dA ad σ15 H → va_S (AM ad) s.heap H locs → ∀ (ls : Array Slot), lv_has ls 10 [(5, .int x10), (6, .int x11), (7, .int x12)] → W p l e (headSpec (ws_ yX4_run cX4_run 10 (some .int)) (rmX4_run)).room s m ([.ref (ad 0), .int p1, .int p2, .int p3] : List Value).toArray below meth c H locs 0 0 (MQ below (mQi D dA ad r σz) ([.ref (ad 0), .int p1, .int p2, .int p3] : List Value).toArray s 0 0 (AM ad)) (F0 m 277 ls [])) (fun σ15 hX H locs hH hS ls hl => ?_) (fun k16 hk16 hX => ?_)
            · refine lv_iload hx hb dX4_run_277 (lv_at hl 1 rfl) ?_
              refine lv_bipush (v := (100:Int32)) hx hb dX4_run_279 (by decide) ?_
              refine lv_iload hx hb dX4_run_281 (lv_at hl 0 rfl) ?_
              refine lv_imul hx hb dX4_run_283 ?_
              refine lv_iadd hx hb dX4_run_284 ?_
              refine lv_iload hx hb dX4_run_285 (lv_at hl 2 rfl) ?_
              refine jnu1 hX (fun (x17 : Int32) => ∀ (H : Heap) (locs : List Loc), HM D dA ad σ15 H → va_S (AM ad) s.heap H locs → ∀ (ls : Array Slot), lv_has ls 10 [] → W p l e (headSpec (ws_ yX4_run cX4_run 10 (some .int)) (rmX4_run)).room s m ([.ref (ad 0), .int p1, .int p2, .int p3] : List Value).toArray below meth c H locs 0 0 (MQ below (mQi D dA ad r σz) ([.ref (ad 0), .int p1, .int p2, .int p3] : List Value).toArray s 0 0 (AM ad)) (F0 m 297 ls [.int x17, .int (x11 + ((100:Int32) * x10))])) (fun x17 hX H locs hH hS ls hl => ?_) (fun k18 hk18 hX => ?_)
              · refine lv_iadd hx hb dX4_run_297 ?_
                obtain ⟨e1, e2⟩ := Prod.mk.inj (rinv hX); subst e1; subst e2
                exact W.iret hx hb hr (fun t ht hW => ⟨⟨_, (), rfl, rfl, hH.to ht⟩, hS.F ht⟩) hS.2.2 dX4_run_298
              · refine lv_if_eq (tgt := 296) hx hb dX4_run_287 (by decide) (fun hc => ?_) (fun hc => ?_)
                · replace hX := ipos hc hX; clear hc
                  refine lv_iconst (v := (0:Int32)) hx hb dX4_run_296 (by decide) ?_
                  exact hk18 (0:Int32) hX H locs hH hS ls (lv_sub hl [] rfl)
                · replace hX := ineg hc hX; clear hc
                  refine lv_sipush (v := (10000:Int32)) hx hb dX4_run_290 (by decide) ?_
                  refine lv_goto (tgt := 297) hx hb dX4_run_293 (by decide) ?_
                  exact hk18 (10000:Int32) hX H locs hH hS ls (lv_sub hl [] rfl)
            · refine lv_if_ne (tgt := 277) hx hb dX4_run_127 (by decide) (fun hc => ?_) (fun hc => ?_)
              · replace hX := ineg hc hX; clear hc
                exact hk16 σ13 hX H locs hH hS ls (lv_sub hl [3, 4, 5] rfl)
              · replace hX := ipos hc hX; clear hc
                refine lv_iload hx hb dX4_run_130 (lv_at hl 4 rfl) ?_
                refine lv_bipush (v := (20:Int32)) hx hb dX4_run_132 (by decide) ?_
                refine lv_icmp_ge (tgt := 277) hx hb dX4_run_134 (by decide) (fun hc => ?_) (fun hc => ?_)
                · replace hX := ipos hc hX; clear hc
                  exact hk16 σ13 hX H locs hH hS ls (lv_sub hl [3, 4, 5] rfl)
                · replace hX := ineg hc hX; clear hc
                  refine lv_aload_n hx hb dX4_run_137 rfl (lv_at hl 0 rfl) ?_
                  refine lv_aload_n hx hb dX4_run_138 rfl (lv_at hl 0 rfl) ?_
                  refine m_get (v := .ref (ad 1)) hx hb hts hown hK hH 1 (by decide) (hts _ q1291) rfl dX4_run_139 ?_
                  refine lv_sipush (v := (1000:Int32)) hx hb dX4_run_142 (by decide) ?_
                  refine lv_iload_n hx hb dX4_run_145 rfl (lv_at hl 1 rfl) ?_
                  refine lv_iadd hx hb dX4_run_146 ?_
                  obtain ⟨hg, hX⟩ := gd_inv hX
                  refine m_iald hx hb hK hH 1 1 (n := 1160) rfl hg dX4_run_147 ?_
                  refine lv_aload_n hx hb dX4_run_148 rfl (lv_at hl 0 rfl) ?_
                  refine m_get (v := .ref (ad 1)) hx hb hts hown hK hH 1 (by decide) (hts _ q1291) rfl dX4_run_149 ?_
                  refine lv_sipush (v := (1012:Int32)) hx hb dX4_run_152 (by decide) ?_
                  refine lv_iload_n hx hb dX4_run_155 rfl (lv_at hl 1 rfl) ?_
                  refine lv_iadd hx hb dX4_run_156 ?_
                  obtain ⟨hg, hX⟩ := gd_inv hX
                  refine m_iald hx hb hK hH 1 1 (n := 1160) rfl hg dX4_run_157 ?_
                  refine lv_iload_n hx hb dX4_run_158 rfl (lv_at hl 1 rfl) ?_
                  refine lv_iload hx hb dX4_run_159 (lv_at hl 4 rfl) ?_
                  obtain ⟨x20, σ19, hf, hX⟩ := cl2_inv hX
                  refine m_callVi (As := [.int (σ13.2.1 1 ((1000:Int32) + p1).toNatClampNeg), .int (σ13.2.1 1 ((1012:Int32) + p1).toNatClampNeg), .int p1, .int x11]) ⟨hx, hb, hml, hown, hts⟩ (mX4_letsIn l D dA ad hf) (cwV 4 hts (lw_V q1596 q1598 qs68 q95 q1599) rfl rfl rfl (by decide +kernel) ⟨Nat.le_of_ble_eq_true rfl, Nat.le_of_ble_eq_true rfl⟩) hK hH hS rfl hl.1 rfl (Nat.le_of_ble_eq_true rfl) dX4_run_161 (fun H locs hH hS => ?_)
                  clear hf
                  refine lv_if_ne (tgt := 277) hx hb dX4_run_164 (by decide) (fun hc => ?_) (fun hc => ?_)
                  · replace hX := ineg hc hX; clear hc
                    exact hk16 σ19 hX H locs hH hS ls (lv_sub hl [3, 4, 5] rfl)
                  · replace hX := ipos hc hX; clear hc
                    refine lv_iload hx hb dX4_run_167 (lv_at hl 3 rfl) ?_
                    refine lv_iconst (v := (3:Int32)) hx hb dX4_run_169 (by decide) ?_
                    refine jnu1 hX (fun (x21 : Int32) => ∀ (H : Heap) (locs : List Loc), HM D dA ad σ19 H → va_S (AM ad) s.heap H locs → ∀ (ls : Array Slot), lv_has ls 10 [(0, .ref (ad 0)), (1, .int p1), (3, .int p3), (5, .int x10), (6, .int x11)] → W p l e (headSpec (ws_ yX4_run cX4_run 10 (some .int)) (rmX4_run)).room s m ([.ref (ad 0), .int p1, .int p2, .int p3] : List Value).toArray below meth c H locs 0 0 (MQ below (mQi D dA ad r σz) ([.ref (ad 0), .int p1, .int p2, .int p3] : List Value).toArray s 0 0 (AM ad)) (F0 m 179 ls [.int x21])) (fun x21 hX H locs hH hS ls hl => ?_) (fun k22 hk22 hX => ?_)
                    · refine lv_istore (lv' := [(8, .int x21), (0, .ref (ad 0)), (1, .int p1), (3, .int p3), (5, .int x10), (6, .int x11)]) hx hb dX4_run_179 hl (by decide) rfl (fun ls hl => ?_)
                      refine lv_bipush (v := (13:Int32)) hx hb dX4_run_181 (by decide) ?_
                      refine lv_iload_n hx hb dX4_run_183 rfl (lv_at hl 3 rfl) ?_
                      refine lv_imul hx hb dX4_run_184 ?_
                      refine lv_bipush (v := (29:Int32)) hx hb dX4_run_185 (by decide) ?_
                      refine lv_iload hx hb dX4_run_187 (lv_at hl 5 rfl) ?_
                      refine lv_imul hx hb dX4_run_189 ?_
                      refine lv_iadd hx hb dX4_run_190 ?_
                      refine lv_iconst (v := (3:Int32)) hx hb dX4_run_191 (by decide) ?_
                      refine lv_imul hx hb dX4_run_192 ?_
                      refine lv_sipush (v := (1000:Int32)) hx hb dX4_run_193 (by decide) ?_
                      refine lv_irem hx hb dX4_run_196 (by decide) ?_
                      refine lv_iload hx hb dX4_run_197 (lv_at hl 0 rfl) ?_
                      refine lv_aload_n hx hb dX4_run_199 rfl (lv_at hl 1 rfl) ?_
                      refine lv_iconst (v := (5:Int32)) hx hb dX4_run_200 (by decide) ?_
                      obtain ⟨x23, hf, hX⟩ := cl_inv hX
                      refine m_callVi (As := [.int (5:Int32)]) ⟨hx, hb, hml, hown, hts⟩ (mX4_chance l D dA ad hf) (cwV 1 hts (lw_V q1552 q1554 qs63 q95 q1555) rfl rfl rfl (by decide +kernel) ⟨Nat.le_of_ble_eq_true rfl, Nat.le_of_ble_eq_true rfl⟩) hK hH hS rfl hl.1 rfl (Nat.le_of_ble_eq_true rfl) dX4_run_201 (fun H locs hH hS => ?_)
                      clear hf
                      refine lv_imul hx hb dX4_run_204 ?_
                      refine jnu1 hX (fun (x24 : Int32) => ∀ (H : Heap) (locs : List Loc), HM D dA ad σ19 H → va_S (AM ad) s.heap H locs → ∀ (ls : Array Slot), lv_has ls 10 [(0, .ref (ad 0)), (1, .int p1), (3, .int p3), (5, .int x10), (6, .int x11), (8, .int x21)] → W p l e (headSpec (ws_ yX4_run cX4_run 10 (some .int)) (rmX4_run)).room s m ([.ref (ad 0), .int p1, .int p2, .int p3] : List Value).toArray below meth c H locs 0 0 (MQ below (mQi D dA ad r σz) ([.ref (ad 0), .int p1, .int p2, .int p3] : List Value).toArray s 0 0 (AM ad)) (F0 m 213 ls [.int x24])) (fun x24 hX H locs hH hS ls hl => ?_) (fun k25 hk25 hX => ?_)
                      · refine lv_istore (lv' := [(7, .int x24), (0, .ref (ad 0)), (1, .int p1), (3, .int p3), (5, .int x10), (6, .int x11), (8, .int x21)]) hx hb dX4_run_213 hl (by decide) rfl (fun ls hl => ?_)
                        refine lv_iload hx hb dX4_run_215 (lv_at hl 0 rfl) ?_
                        refine jnu3 hX (fun (x26 : Int32) (x27 : Int32) (σ28 : MS) => ∀ (H : Heap) (locs : List Loc), HM D dA ad σ28 H → va_S (AM ad) s.heap H locs → ∀ (ls : Array Slot), lv_has ls 10 [(0, .ref (ad 0)), (1, .int p1), (3, .int p3), (5, .int x26), (6, .int x27), (7, .int x24)] → W p l e (headSpec (ws_ yX4_run cX4_run 10 (some .int)) (rmX4_run)).room s m ([.ref (ad 0), .int p1, .int p2, .int p3] : List Value).toArray below meth c H locs 0 0 (MQ below (mQi D dA ad r σz) ([.ref (ad 0), .int p1, .int p2, .int p3] : List Value).toArray s 0 0 (AM ad)) (F0 m 274 ls [])) (fun x26 x27 σ28 hX H locs hH hS ls hl => ?_) (fun k29 hk29 hX => ?_)
                        · refine lv_goto (tgt := 125) hx hb dX4_run_274 (by decide) ?_
                          exact hk14 x26 x27 x24 σ28 hX H locs hH hS ls (lv_sub hl [0, 1, 2, 3, 4, 5] rfl)
                        · refine lv_if_ne (tgt := 274) hx hb dX4_run_217 (by decide) (fun hc => ?_) (fun hc => ?_)
                          · replace hX := ineg hc hX; clear hc
                            exact hk29 x10 x11 σ19 hX H locs hH hS ls (lv_sub hl [1, 2, 3, 4, 5, 0] rfl)
                          · replace hX := ipos hc hX; clear hc
                            refine lv_iload hx hb dX4_run_220 (lv_at hl 4 rfl) ?_
                            refine lv_bipush (v := (7:Int32)) hx hb dX4_run_222 (by decide) ?_
                            refine lv_iload_n hx hb dX4_run_224 rfl (lv_at hl 3 rfl) ?_
                            refine lv_imul hx hb dX4_run_225 ?_
                            refine lv_bipush (v := (11:Int32)) hx hb dX4_run_226 (by decide) ?_
                            refine lv_iload hx hb dX4_run_228 (lv_at hl 5 rfl) ?_
                            refine lv_imul hx hb dX4_run_230 ?_
                            refine lv_iadd hx hb dX4_run_231 ?_
                            refine lv_sipush (v := (1000:Int32)) hx hb dX4_run_232 (by decide) ?_
                            refine lv_irem hx hb dX4_run_235 (by decide) ?_
                            refine lv_iload hx hb dX4_run_236 (lv_at hl 6 rfl) ?_
                            refine lv_aload_n hx hb dX4_run_238 rfl (lv_at hl 1 rfl) ?_
                            refine lv_iconst (v := (4:Int32)) hx hb dX4_run_239 (by decide) ?_
                            obtain ⟨x30, hf, hX⟩ := cl_inv hX
                            refine m_callVi (As := [.int (4:Int32)]) ⟨hx, hb, hml, hown, hts⟩ (mX4_chance l D dA ad hf) (cwV 1 hts (lw_V q1552 q1554 qs63 q95 q1555) rfl rfl rfl (by decide +kernel) ⟨Nat.le_of_ble_eq_true rfl, Nat.le_of_ble_eq_true rfl⟩) hK hH hS rfl hl.1 rfl (Nat.le_of_ble_eq_true rfl) dX4_run_240 (fun H locs hH hS => ?_)
                            clear hf
                            refine lv_imul hx hb dX4_run_243 ?_
                            refine jnu1 hX (fun (x31 : Int32) => ∀ (H : Heap) (locs : List Loc), HM D dA ad σ19 H → va_S (AM ad) s.heap H locs → ∀ (ls : Array Slot), lv_has ls 10 [(0, .ref (ad 0)), (1, .int p1), (3, .int p3), (6, .int x11), (7, .int x24)] → W p l e (headSpec (ws_ yX4_run cX4_run 10 (some .int)) (rmX4_run)).room s m ([.ref (ad 0), .int p1, .int p2, .int p3] : List Value).toArray below meth c H locs 0 0 (MQ below (mQi D dA ad r σz) ([.ref (ad 0), .int p1, .int p2, .int p3] : List Value).toArray s 0 0 (AM ad)) (F0 m 261 ls [.int x31, .int x10])) (fun x31 hX H locs hH hS ls hl => ?_) (fun k32 hk32 hX => ?_)
                            · refine lv_iadd hx hb dX4_run_261 ?_
                              refine lv_topi (fun x33 ex33 => ?_)
                              replace hX := bd_inv ex33 hX; clear ex33
                              refine lv_istore (lv' := [(5, .int x33), (0, .ref (ad 0)), (1, .int p1), (3, .int p3), (6, .int x11), (7, .int x24)]) hx hb dX4_run_262 hl (by decide) rfl (fun ls hl => ?_)
                              refine lv_aload_n hx hb dX4_run_264 rfl (lv_at hl 1 rfl) ?_
                              refine lv_iconst (v := (0:Int32)) hx hb dX4_run_265 (by decide) ?_
                              obtain ⟨x35, σ34, hf, hX⟩ := cl2_inv hX
                              refine m_callVi (As := [.int (0:Int32)]) ⟨hx, hb, hml, hown, hts⟩ (mX4_aboard l D dA ad hf) (cwV 1 hts (lw_V q1548 q1550 qs62 q95 q1551) rfl rfl rfl (by decide +kernel) ⟨Nat.le_of_ble_eq_true rfl, Nat.le_of_ble_eq_true rfl⟩) hK hH hS rfl hl.1 rfl (Nat.le_of_ble_eq_true rfl) dX4_run_266 (fun H locs hH hS => ?_)
                              clear hf
                              refine lv_istore (lv' := [(9, .int x35), (5, .int x33), (0, .ref (ad 0)), (1, .int p1), (3, .int p3), (6, .int x11), (7, .int x24)]) hx hb dX4_run_269 hl (by decide) rfl (fun ls hl => ?_)
                              obtain ⟨x36, ex36⟩ : ∃ y : Int32, y = x11 + (1:Int32) := ⟨_, rfl⟩
                              replace hX := bd_inv ex36 hX
                              refine lv_iinc (v := x36) (lv' := [(6, .int x36), (9, .int x35), (5, .int x33), (0, .ref (ad 0)), (1, .int p1), (3, .int p3), (7, .int x24)]) hx hb dX4_run_271 hl (k := 5) rfl (by rw [ex36]; rfl) (by decide) rfl (fun ls hl => ?_)
                              clear ex36
                              exact hk29 x33 x36 σ34 hX H locs hH hS ls (lv_sub hl [3, 4, 5, 2, 0, 6] rfl)
                            · refine jnu0 hX (∀ (H : Heap) (locs : List Loc), HM D dA ad σ19 H → va_S (AM ad) s.heap H locs → ∀ (ls : Array Slot), lv_has ls 10 [(0, .ref (ad 0)), (1, .int p1), (3, .int p3), (6, .int x11), (7, .int x24)] → W p l e (headSpec (ws_ yX4_run cX4_run 10 (some .int)) (rmX4_run)).room s m ([.ref (ad 0), .int p1, .int p2, .int p3] : List Value).toArray below meth c H locs 0 0 (MQ below (mQi D dA ad r σz) ([.ref (ad 0), .int p1, .int p2, .int p3] : List Value).toArray s 0 0 (AM ad)) (F0 m 260 ls [.int x10])) (fun  hX H locs hH hS ls hl => ?_) (fun k37 hk37 hX => ?_)
                              · refine lv_iconst (v := (0:Int32)) hx hb dX4_run_260 (by decide) ?_
                                exact hk32 (0:Int32) hX H locs hH hS ls (lv_sub hl [0, 1, 2, 3, 4] rfl)
                              · refine lv_icmp_ge (tgt := 260) hx hb dX4_run_244 (by decide) (fun hc => ?_) (fun hc => ?_)
                                · replace hX := ipos hc hX; clear hc
                                  exact hk37  hX H locs hH hS ls (lv_sub hl [1, 2, 3, 5, 0] rfl)
                                · replace hX := ineg hc hX; clear hc
                                  refine lv_iload hx hb dX4_run_247 (lv_at hl 4 rfl) ?_
                                  refine lv_aload_n hx hb dX4_run_249 rfl (lv_at hl 1 rfl) ?_
                                  refine m_get (v := .int (σ19.1 12)) hx hb hts hown hK hH 12 (by decide) (hts _ q1302) rfl dX4_run_250 ?_
                                  refine lv_icmp_ge (tgt := 260) hx hb dX4_run_253 (by decide) (fun hc => ?_) (fun hc => ?_)
                                  · replace hX := ipos hc hX; clear hc
                                    exact hk37  hX H locs hH hS ls (lv_sub hl [1, 2, 3, 5, 0] rfl)
                                  · replace hX := ineg hc hX; clear hc
                                    refine lv_iconst (v := (1:Int32)) hx hb dX4_run_256 (by decide) ?_
                                    refine lv_goto (tgt := 261) hx hb dX4_run_257 (by decide) ?_
                                    exact hk32 (1:Int32) hX H locs hH hS ls (lv_sub hl [1, 2, 3, 5, 0] rfl)
                      · refine lv_icmp_ge (tgt := 212) hx hb dX4_run_205 (by decide) (fun hc => ?_) (fun hc => ?_)
                        · replace hX := ipos hc hX; clear hc
                          refine lv_iconst (v := (0:Int32)) hx hb dX4_run_212 (by decide) ?_
                          exact hk25 (0:Int32) hX H locs hH hS ls (lv_sub hl [1, 2, 3, 4, 5, 0] rfl)
                        · replace hX := ineg hc hX; clear hc
                          refine lv_iconst (v := (1:Int32)) hx hb dX4_run_208 (by decide) ?_
                          refine lv_goto (tgt := 213) hx hb dX4_run_209 (by decide) ?_
                          exact hk25 (1:Int32) hX H locs hH hS ls (lv_sub hl [1, 2, 3, 4, 5, 0] rfl)
                    · refine lv_icmp_ge (tgt := 178) hx hb dX4_run_170 (by decide) (fun hc => ?_) (fun hc => ?_)
                      · replace hX := ipos hc hX; clear hc
                        refine lv_iconst (v := (3:Int32)) hx hb dX4_run_178 (by decide) ?_
                        exact hk22 (3:Int32) hX H locs hH hS ls (lv_sub hl [0, 1, 2, 3, 4] rfl)
                      · replace hX := ineg hc hX; clear hc
                        refine lv_iload hx hb dX4_run_173 (lv_at hl 3 rfl) ?_
                        refine lv_goto (tgt := 179) hx hb dX4_run_175 (by decide) ?_
                        exact hk22 x10 hX H locs hH hS ls (lv_sub hl [0, 1, 2, 3, 4] rfl)
          · replace hX := ineg hc hX; clear hc
            refine lv_iload hx hb dX4_run_81 (lv_at hl 4 rfl) ?_
            refine lv_bipush (v := (31:Int32)) hx hb dX4_run_83 (by decide) ?_
            refine lv_iload_n hx hb dX4_run_85 rfl (lv_at hl 2 rfl) ?_
            refine lv_imul hx hb dX4_run_86 ?_
            refine lv_bipush (v := (17:Int32)) hx hb dX4_run_87 (by decide) ?_
            refine lv_iload hx hb dX4_run_89 (lv_at hl 5 rfl) ?_
            refine lv_imul hx hb dX4_run_91 ?_
            refine lv_iadd hx hb dX4_run_92 ?_
            refine lv_bipush (v := (7:Int32)) hx hb dX4_run_93 (by decide) ?_
            refine lv_imul hx hb dX4_run_95 ?_
            refine lv_sipush (v := (1000:Int32)) hx hb dX4_run_96 (by decide) ?_
            refine lv_irem hx hb dX4_run_99 (by decide) ?_
            refine lv_iload hx hb dX4_run_100 (lv_at hl 3 rfl) ?_
            refine jnu1 hX (fun (x38 : Int32) => ∀ (H : Heap) (locs : List Loc), HM D dA ad σ5 H → va_S (AM ad) s.heap H locs → ∀ (ls : Array Slot), lv_has ls 10 [(0, .ref (ad 0)), (1, .int p1), (3, .int p3), (4, .int x6), (6, .int x8)] → W p l e (headSpec (ws_ yX4_run cX4_run 10 (some .int)) (rmX4_run)).room s m ([.ref (ad 0), .int p1, .int p2, .int p3] : List Value).toArray below meth c H locs 0 0 (MQ below (mQi D dA ad r σz) ([.ref (ad 0), .int p1, .int p2, .int p3] : List Value).toArray s 0 0 (AM ad)) (F0 m 110 ls [.int x38, .int x7])) (fun x38 hX H locs hH hS ls hl => ?_) (fun k39 hk39 hX => ?_)
            · refine lv_iadd hx hb dX4_run_110 ?_
              refine lv_topi (fun x40 ex40 => ?_)
              replace hX := bd_inv ex40 hX; clear ex40
              refine lv_istore (lv' := [(5, .int x40), (0, .ref (ad 0)), (1, .int p1), (3, .int p3), (4, .int x6), (6, .int x8)]) hx hb dX4_run_111 hl (by decide) rfl (fun ls hl => ?_)
              obtain ⟨x41, ex41⟩ : ∃ y : Int32, y = x8 + (1:Int32) := ⟨_, rfl⟩
              replace hX := bd_inv ex41 hX
              refine lv_iinc (v := x41) (lv' := [(6, .int x41), (5, .int x40), (0, .ref (ad 0)), (1, .int p1), (3, .int p3), (4, .int x6)]) hx hb dX4_run_113 hl (k := 5) rfl (by rw [ex41]; rfl) (by decide) rfl (fun ls hl => ?_)
              clear ex41
              refine lv_goto (tgt := 72) hx hb dX4_run_116 (by decide) ?_
              exact hk9 x40 x41 hX H locs hH hS ls (lv_sub hl [2, 3, 4, 5, 1, 0] rfl)
            · refine lv_icmp_ge (tgt := 109) hx hb dX4_run_102 (by decide) (fun hc => ?_) (fun hc => ?_)
              · replace hX := ipos hc hX; clear hc
                refine lv_iconst (v := (0:Int32)) hx hb dX4_run_109 (by decide) ?_
                exact hk39 (0:Int32) hX H locs hH hS ls (lv_sub hl [0, 1, 2, 3, 5] rfl)
              · replace hX := ineg hc hX; clear hc
                refine lv_iconst (v := (1:Int32)) hx hb dX4_run_105 (by decide) ?_
                refine lv_goto (tgt := 110) hx hb dX4_run_106 (by decide) ?_
                exact hk39 (1:Int32) hX H locs hH hS ls (lv_sub hl [0, 1, 2, 3, 5] rfl)
        · replace hX := ipos hc hX; clear hc
          refine lv_bipush (v := (-2:Int32)) hx hb dX4_run_29 (by decide) ?_
          obtain ⟨e1, e2⟩ := Prod.mk.inj (rinv hX); subst e1; subst e2
          exact W.iret hx hb hr (fun t ht hW => ⟨⟨_, (), rfl, rfl, hH.to ht⟩, hS.F ht⟩) hS.2.2 dX4_run_31
      · replace hX := ipos hc hX; clear hc
        exact hk2  hX H locs hH hS ls (lv_sub hl [] rfl)
