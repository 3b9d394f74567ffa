/-! printed by gen/comp.py -/
def fX0_costOf (a0 : Nat) (p1 : Int32) (p2 : Int32) (p3 : Int32) (σ : CS) : Option (Int64 × CS) :=
 jn (fun (x1 : Int32) => jn (fun (x3 : Int64) => some (x3, σ)) (fun (k4 : Int64 → Option (Int64 × CS)) =>
 if x1 = (0:Int32) then
 gd (hf (cK σ a0) 41) (
 cl (cFR σ a0 41) (fun (x5 : Nat) =>
 gd (kd σ x5 108) (
 gd (ib p1 (cLN σ x5)) (
 cl (cAR σ x5 p1.toNatClampNeg) (fun (x6 : Nat) =>
 gd (kd σ x6 103) (
 gd (ib p3 (cLN σ x6)) (
 k4 (cAL σ x6 p3.toNatClampNeg))))))))
 else
 gd (hf (cK σ a0) 40) (
 cl (cFR σ a0 40) (fun (x7 : Nat) =>
 gd (kd σ x7 108) (
 gd (ib p1 (cLN σ x7)) (
 cl (cAR σ x7 p1.toNatClampNeg) (fun (x8 : Nat) =>
 gd (kd σ x8 103) (
 gd (ib p2 (cLN σ x8)) (
 k4 (cAL σ x8 p2.toNatClampNeg)))))))))) (fun (k2 : Int32 → Option (Int64 × CS)) =>
 if p1 = (0:Int32) then
 if p3 < p2 then
 k2 (0:Int32)
 else
 k2 (1:Int32)
 else
 if p3 ≤ p2 then
 k2 (0:Int32)
 else
 k2 (1:Int32))
theorem nX0_costOf {a0 : Nat} {p1 : Int32} {p2 : Int32} {p3 : Int32} {σ : CS} : Mn σ (fX0_costOf a0 p1 p2 p3 σ) := by
  unfold fX0_costOf
  refine Mjn1 (fun (x1 : Int32) (X10 : Option (Int64 × CS)) => Mn σ X10) (fun x1 => ?_) (fun k2 hk2 => ?_)
  · refine Mjn1 (fun (x3 : Int64) (X9 : Option (Int64 × CS)) => Mn σ X9) (fun x3 => ?_) (fun k4 hk4 => ?_)
    · exact Mret
    · refine Mite ?_ ?_
      · refine Mgd ?_
        refine Mcl (fun x5 => ?_)
        refine Mgd ?_
        refine Mgd ?_
        refine Mcl (fun x6 => ?_)
        refine Mgd ?_
        refine Mgd ?_
        exact hk4 (cAL σ x6 p3.toNatClampNeg)
      · refine Mgd ?_
        refine Mcl (fun x7 => ?_)
        refine Mgd ?_
        refine Mgd ?_
        refine Mcl (fun x8 => ?_)
        refine Mgd ?_
        refine Mgd ?_
        exact hk4 (cAL σ x8 p2.toNatClampNeg)
  · refine Mite ?_ ?_
    · refine Mite ?_ ?_
      · exact hk2 (0:Int32)
      · exact hk2 (1:Int32)
    · refine Mite ?_ ?_
      · exact hk2 (0:Int32)
      · exact hk2 (1:Int32)
set_option maxHeartbeats 4000000 in
set_option maxRecDepth 100000 in
theorem mX0_costOf (l : Launch) (E : CE) {a0 : Nat} {p1 : Int32} {p2 : Int32} {p3 : Int32} {σ : CS} {r : Int64} {σz : CS} (hX : fX0_costOf a0 p1 p2 p3 σ = some (r, σz)) : MetC l yX0_costOf (ws_ yX0_costOf cX0_costOf 5 (some .long)) 0 0 E σ [.ref a0, .int p1, .int p2, .int p3] (some (.long r)) σz := by
  refine MetC.of hX (by decide) (Nat.le_of_ble_eq_true rfl) (nX0_costOf _ hX) ?_
  intro p e s m below meth c hx hb hr hml hts hown hlocks hnm hk hz0
  have hK := hk.1
  show J p l e (headSpec (ws_ yX0_costOf cX0_costOf 5 (some .long)) (rmC 0 0 σ σz)).room s m ([.ref a0, .int p1, .int p2, .int p3] : List Value).toArray below meth c 5 E (cZ σ) (cS σ) (MQ below (cQ E (some (.long r)) σz) ([.ref a0, .int p1, .int p2, .int p3] : List Value).toArray s (cZ σz - cZ σ) (cS σz - cS σ) (EA E)) (r, σz) (fX0_costOf a0 p1 p2 p3 σ) σ 0 [(0, .ref a0), (1, .int p1), (2, .int p2), (3, .int p3)] []
  unfold fX0_costOf
  refine Jrow (fun H locs ls hH hS hl k => lv_iload_n hx hb dX0_costOf_0 rfl (lv_at hl 1 rfl) (k ls hl)) ?_
  refine Jjn1 (fun (x1 : Int32) X10 => J p l e (headSpec (ws_ yX0_costOf cX0_costOf 5 (some .long)) (rmC 0 0 σ σz)).room s m ([.ref a0, .int p1, .int p2, .int p3] : List Value).toArray below meth c 5 E (cZ σ) (cS σ) (MQ below (cQ E (some (.long r)) σz) ([.ref a0, .int p1, .int p2, .int p3] : List Value).toArray s (cZ σz - cZ σ) (cS σz - cS σ) (EA E)) (r, σz) X10 σ 27 [(0, .ref a0), (1, .int p1), (2, .int p2), (3, .int p3)] [.int x1]) (fun x1 => ?_) (fun k2 hk2 => ?_)
  · refine Jrow (fun H locs ls hH hS hl k => lv_istore (lv' := [(4, .int x1), (0, .ref a0), (1, .int p1), (2, .int p2), (3, .int p3)]) hx hb dX0_costOf_27 hl (by decide) rfl k) ?_
    refine Jrow (fun H locs ls hH hS hl k => lv_iload hx hb dX0_costOf_29 (lv_at hl 0 rfl) (k ls hl)) ?_
    refine Jjn1 (fun (x3 : Int64) X9 => J p l e (headSpec (ws_ yX0_costOf cX0_costOf 5 (some .long)) (rmC 0 0 σ σz)).room s m ([.ref a0, .int p1, .int p2, .int p3] : List Value).toArray below meth c 5 E (cZ σ) (cS σ) (MQ below (cQ E (some (.long r)) σz) ([.ref a0, .int p1, .int p2, .int p3] : List Value).toArray s (cZ σz - cZ σ) (cS σz - cS σ) (EA E)) (r, σz) X9 σ 53 [] [.long x3]) (fun x3 => ?_) (fun k4 hk4 => ?_)
    · exact Jlret hx hb hr hlocks dX0_costOf_53
    · refine Jite (fun hc => ?_) (fun hc => ?_)
      · refine Jrow (fun H locs ls hH hS hl k => lv_if_eq (tgt := 45) hx hb dX0_costOf_31 (by decide) (fun _ => (k ls hl)) (fun h => absurd hc h)) ?_
        clear hc
        refine Jrow (fun H locs ls hH hS hl k => lv_aload_n hx hb dX0_costOf_45 rfl (lv_at hl 1 rfl) (k ls hl)) ?_
        refine Jgd (fun hg => ?_)
        refine Jcl (fun x5 hq => ?_)
        refine Jrow (fun H locs ls hH hS hl k => c_get (F := 41) (v := .ref x5) hx hb hts hown hK hH hg (hts _ q274) (fun _ h => h) (fvR rfl hq) dX0_costOf_46 (k ls hl)) ?_
        clear hq
        refine Jrow (fun H locs ls hH hS hl k => lv_iload_n hx hb dX0_costOf_49 rfl (lv_at hl 2 rfl) (k ls hl)) ?_
        refine Jgd (fun hk1 => ?_)
        refine Jgd (fun hg => ?_)
        refine Jcl (fun x6 hq => ?_)
        refine Jrow (fun H locs ls hH hS hl k => c_aald (t := 7) (q := some x6) hx hb hK hH (by decide) (by decide) hk1 hg hq dX0_costOf_50 (k ls hl)) ?_
        clear hq
        refine Jrow (fun H locs ls hH hS hl k => lv_iload_n hx hb dX0_costOf_51 rfl (lv_at hl 4 rfl) (k ls hl)) ?_
        refine Jgd (fun hk1 => ?_)
        refine Jgd (fun hg => ?_)
        refine Jrow (fun H locs ls hH hS hl k => c_lald hx hb hK hH hk1 hg dX0_costOf_52 (k ls hl)) ?_
        exact Jsub [] rfl (hk4 (cAL σ x6 p3.toNatClampNeg))
      · refine Jrow (fun H locs ls hH hS hl k => lv_if_eq (tgt := 45) hx hb dX0_costOf_31 (by decide) (fun h => absurd h hc) (fun _ => (k ls hl))) ?_
        clear hc
        refine Jrow (fun H locs ls hH hS hl k => lv_aload_n hx hb dX0_costOf_34 rfl (lv_at hl 1 rfl) (k ls hl)) ?_
        refine Jgd (fun hg => ?_)
        refine Jcl (fun x7 hq => ?_)
        refine Jrow (fun H locs ls hH hS hl k => c_get (F := 40) (v := .ref x7) hx hb hts hown hK hH hg (hts _ q273) (fun _ h => h) (fvR rfl hq) dX0_costOf_35 (k ls hl)) ?_
        clear hq
        refine Jrow (fun H locs ls hH hS hl k => lv_iload_n hx hb dX0_costOf_38 rfl (lv_at hl 2 rfl) (k ls hl)) ?_
        refine Jgd (fun hk1 => ?_)
        refine Jgd (fun hg => ?_)
        refine Jcl (fun x8 hq => ?_)
        refine Jrow (fun H locs ls hH hS hl k => c_aald (t := 7) (q := some x8) hx hb hK hH (by decide) (by decide) hk1 hg hq dX0_costOf_39 (k ls hl)) ?_
        clear hq
        refine Jrow (fun H locs ls hH hS hl k => lv_iload_n hx hb dX0_costOf_40 rfl (lv_at hl 3 rfl) (k ls hl)) ?_
        refine Jgd (fun hk1 => ?_)
        refine Jgd (fun hg => ?_)
        refine Jrow (fun H locs ls hH hS hl k => c_lald hx hb hK hH hk1 hg dX0_costOf_41 (k ls hl)) ?_
        refine Jrow (fun H locs ls hH hS hl k => lv_goto (tgt := 53) hx hb dX0_costOf_42 (by decide) (k ls hl)) ?_
        exact Jsub [] rfl (hk4 (cAL σ x8 p2.toNatClampNeg))
  · refine Jite (fun hc => ?_) (fun hc => ?_)
    · refine Jrow (fun H locs ls hH hS hl k => lv_if_ne (tgt := 17) hx hb dX0_costOf_1 (by decide) (fun h => absurd hc h) (fun _ => (k ls hl))) ?_
      clear hc
      refine Jrow (fun H locs ls hH hS hl k => lv_iload_n hx hb dX0_costOf_4 rfl (lv_at hl 2 rfl) (k ls hl)) ?_
      refine Jrow (fun H locs ls hH hS hl k => lv_iload_n hx hb dX0_costOf_5 rfl (lv_at hl 3 rfl) (k ls hl)) ?_
      refine Jite (fun hc => ?_) (fun hc => ?_)
      · refine Jrow (fun H locs ls hH hS hl k => lv_icmp_gt (tgt := 13) hx hb dX0_costOf_6 (by decide) (fun _ => (k ls hl)) (fun h => absurd hc h)) ?_
        clear hc
        refine Jrow (fun H locs ls hH hS hl k => lv_iconst (v := (0:Int32)) hx hb dX0_costOf_13 (by decide) (k ls hl)) ?_
        refine Jrow (fun H locs ls hH hS hl k => lv_goto (tgt := 27) hx hb dX0_costOf_14 (by decide) (k ls hl)) ?_
        exact Jsub [0, 1, 2, 3] rfl (hk2 (0:Int32))
      · refine Jrow (fun H locs ls hH hS hl k => lv_icmp_gt (tgt := 13) hx hb dX0_costOf_6 (by decide) (fun h => absurd h hc) (fun _ => (k ls hl))) ?_
        clear hc
        refine Jrow (fun H locs ls hH hS hl k => lv_iconst (v := (1:Int32)) hx hb dX0_costOf_9 (by decide) (k ls hl)) ?_
        refine Jrow (fun H locs ls hH hS hl k => lv_goto (tgt := 27) hx hb dX0_costOf_10 (by decide) (k ls hl)) ?_
        exact Jsub [0, 1, 2, 3] rfl (hk2 (1:Int32))
    · refine Jrow (fun H locs ls hH hS hl k => lv_if_ne (tgt := 17) hx hb dX0_costOf_1 (by decide) (fun _ => (k ls hl)) (fun h => absurd h hc)) ?_
      clear hc
      refine Jrow (fun H locs ls hH hS hl k => lv_iload_n hx hb dX0_costOf_17 rfl (lv_at hl 2 rfl) (k ls hl)) ?_
      refine Jrow (fun H locs ls hH hS hl k => lv_iload_n hx hb dX0_costOf_18 rfl (lv_at hl 3 rfl) (k ls hl)) ?_
      refine Jite (fun hc => ?_) (fun hc => ?_)
      · refine Jrow (fun H locs ls hH hS hl k => lv_icmp_ge (tgt := 26) hx hb dX0_costOf_19 (by decide) (fun _ => (k ls hl)) (fun h => absurd hc h)) ?_
        clear hc
        refine Jrow (fun H locs ls hH hS hl k => lv_iconst (v := (0:Int32)) hx hb dX0_costOf_26 (by decide) (k ls hl)) ?_
        exact Jsub [0, 1, 2, 3] rfl (hk2 (0:Int32))
      · refine Jrow (fun H locs ls hH hS hl k => lv_icmp_ge (tgt := 26) hx hb dX0_costOf_19 (by decide) (fun h => absurd h hc) (fun _ => (k ls hl))) ?_
        clear hc
        refine Jrow (fun H locs ls hH hS hl k => lv_iconst (v := (1:Int32)) hx hb dX0_costOf_22 (by decide) (k ls hl)) ?_
        refine Jrow (fun H locs ls hH hS hl k => lv_goto (tgt := 27) hx hb dX0_costOf_23 (by decide) (k ls hl)) ?_
        exact Jsub [0, 1, 2, 3] rfl (hk2 (1:Int32))

def fX0_isRest (a0 : Nat) (p1 : Int32) (p2 : Int32) (σ : CS) : Option (Int32 × CS) :=
 lp (fun _ _ => none) (fun (k3 : Int32 → CS → Option (Int32 × CS)) (x1 : Int32) (σ2 : CS) =>
 if (10:Int32) ≤ x1 then
 some ((1:Int32), σ2)
 else
 gd (kd σ2 a0 2) (
 cl2 (fX0_costOf a0 (0:Int32) x1 p2 σ2) (fun (x5 : Int64) (σ4 : CS) =>
 gd (kd σ4 a0 2) (
 cl2 (fX0_costOf a0 (0:Int32) p1 p2 σ4) (fun (x7 : Int64) (σ6 : CS) =>
 jn (fun (σ8 : CS) => some ((0:Int32), σ8)) (fun (k9 : CS → Option (Int32 × CS)) =>
 if (lg_cmp x5 x7) < (0:Int32) then
 k9 σ6
 else
 gd (kd σ6 a0 2) (
 cl2 (fX0_costOf a0 (1:Int32) x1 p1 σ6) (fun (x11 : Int64) (σ10 : CS) =>
 gd (kd σ10 a0 2) (
 cl2 (fX0_costOf a0 (1:Int32) p2 p1 σ10) (fun (x13 : Int64) (σ12 : CS) =>
 if (0:Int32) ≤ (lg_cmp x11 x13) then
 bd (x1 + (1:Int32)) (fun (x14 : Int32) =>
 k3 x14 σ12)
 else
 k9 σ12)))))))))) NF (0:Int32) σ
theorem nX0_isRest {a0 : Nat} {p1 : Int32} {p2 : Int32} {σ : CS} : Mn σ (fX0_isRest a0 p1 p2 σ) := by
  unfold fX0_isRest
  refine Plp2 (fun (x1 : Int32) (σ2 : CS) (X16 : Option (Int32 × CS)) => Mn σ2 X16) (fun _ _ => Mnone) (fun k3 hk3 x1 σ2 => ?_)
  refine Mite ?_ ?_
  · exact Mret
  · refine Mgd ?_
    refine Mcl2 (nX0_costOf) (fun x5 σ4 => ?_)
    refine Mgd ?_
    refine Mcl2 (nX0_costOf) (fun x7 σ6 => ?_)
    refine Mjn1 (fun (σ8 : CS) (X15 : Option (Int32 × CS)) => Mn σ8 X15) (fun σ8 => ?_) (fun k9 hk9 => ?_)
    · exact Mret
    · refine Mite ?_ ?_
      · exact hk9 σ6
      · refine Mgd ?_
        refine Mcl2 (nX0_costOf) (fun x11 σ10 => ?_)
        refine Mgd ?_
        refine Mcl2 (nX0_costOf) (fun x13 σ12 => ?_)
        refine Mite ?_ ?_
        · refine Mbd (fun x14 => ?_)
          exact hk3 x14 σ12
        · exact hk9 σ12
set_option maxHeartbeats 4000000 in
set_option maxRecDepth 100000 in
theorem mX0_isRest (l : Launch) (E : CE) {a0 : Nat} {p1 : Int32} {p2 : Int32} {σ : CS} {r : Int32} {σz : CS} (hX : fX0_isRest a0 p1 p2 σ = some (r, σz)) : MetC l yX0_isRest (ws_ yX0_isRest cX0_isRest 4 (some .boolean)) 1 24 E σ [.ref a0, .int p1, .int p2] (some (.int r)) σz := by
  refine MetC.of hX (by decide) (Nat.le_of_ble_eq_true rfl) (nX0_isRest _ hX) ?_
  intro p e s m below meth c hx hb hr hml hts hown hlocks hnm hk hz0
  have hK := hk.1
  show J p l e (headSpec (ws_ yX0_isRest cX0_isRest 4 (some .boolean)) (rmC 1 24 σ σz)).room s m ([.ref a0, .int p1, .int p2] : List Value).toArray below meth c 4 E (cZ σ) (cS σ) (MQ below (cQ E (some (.int r)) σz) ([.ref a0, .int p1, .int p2] : List Value).toArray s (cZ σz - cZ σ) (cS σz - cS σ) (EA E)) (r, σz) (fX0_isRest a0 p1 p2 σ) σ 0 [(0, .ref a0), (1, .int p1), (2, .int p2)] []
  unfold fX0_isRest
  refine Jrow (fun H locs ls hH hS hl k => lv_iconst (v := (0:Int32)) hx hb dX0_isRest_0 (by decide) (k ls hl)) ?_
  refine Jrow (fun H locs ls hH hS hl k => lv_istore_n (lv' := [(3, .int (0:Int32)), (0, .ref a0), (1, .int p1), (2, .int p2)]) hx hb dX0_isRest_1 rfl hl (by decide) rfl k) ?_
  refine Jsub [1, 2, 3, 0] rfl (Plp2 (fun (x1 : Int32) (σ2 : CS) X16 => J p l e (headSpec (ws_ yX0_isRest cX0_isRest 4 (some .boolean)) (rmC 1 24 σ σz)).room s m ([.ref a0, .int p1, .int p2] : List Value).toArray below meth c 4 E (cZ σ) (cS σ) (MQ below (cQ E (some (.int r)) σz) ([.ref a0, .int p1, .int p2] : List Value).toArray s (cZ σz - cZ σ) (cS σz - cS σ) (EA E)) (r, σz) X16 σ2 2 [(0, .ref a0), (1, .int p1), (2, .int p2), (3, .int x1)] []) (fun _ _ => Jnone) (fun k3 hk3 x1 σ2 => ?_))
  refine Jrow (fun H locs ls hH hS hl k => lv_iload_n hx hb dX0_isRest_2 rfl (lv_at hl 3 rfl) (k ls hl)) ?_
  refine Jrow (fun H locs ls hH hS hl k => lv_bipush (v := (10:Int32)) hx hb dX0_isRest_3 (by decide) (k ls hl)) ?_
  refine Jite (fun hc => ?_) (fun hc => ?_)
  · refine Jrow (fun H locs ls hH hS hl k => lv_icmp_ge (tgt := 52) hx hb dX0_isRest_5 (by decide) (fun _ => (k ls hl)) (fun h => absurd hc h)) ?_
    clear hc
    refine Jrow (fun H locs ls hH hS hl k => lv_iconst (v := (1:Int32)) hx hb dX0_isRest_52 (by decide) (k ls hl)) ?_
    exact Jzret hx hb hr hlocks rfl dX0_isRest_53
  · refine Jrow (fun H locs ls hH hS hl k => lv_icmp_ge (tgt := 52) hx hb dX0_isRest_5 (by decide) (fun h => absurd h hc) (fun _ => (k ls hl))) ?_
    clear hc
    refine Jrow (fun H locs ls hH hS hl k => lv_aload_n hx hb dX0_isRest_8 rfl (lv_at hl 0 rfl) (k ls hl)) ?_
    refine Jrow (fun H locs ls hH hS hl k => lv_iconst (v := (0:Int32)) hx hb dX0_isRest_9 (by decide) (k ls hl)) ?_
    refine Jrow (fun H locs ls hH hS hl k => lv_iload_n hx hb dX0_isRest_10 rfl (lv_at hl 3 rfl) (k ls hl)) ?_
    refine Jrow (fun H locs ls hH hS hl k => lv_iload_n hx hb dX0_isRest_11 rfl (lv_at hl 2 rfl) (k ls hl)) ?_
    refine Jgd (fun hg => ?_)
    refine Jcl2 (fun x5 σ4 hf => ?_)
    refine Jcall (v := (some (.long x5))) (rest := []) (mX0_costOf l E hf).1 ⟨rfl, rfl⟩ (fun H locs ls hH hS hl hR => ⟨_, va_runV (C := RX0) (As := [.int (0:Int32), .int x1, .int p2]) ⟨hx, hb, hml, hown, hts⟩ (mX0_costOf l E hf).2 (cwV 3 hts (lw_V q1070 q1072 qs35 q88 q1073) rfl rfl rfl (by decide +kernel) ⟨Nat.le_of_ble_eq_true rfl, Nat.le_of_ble_eq_true rfl⟩) (c_preV (ci := 1) hk hH hS hg rfl) rfl rfl hl.1 rfl (lv_room (Nat.le_of_ble_eq_true rfl)) dX0_isRest_12 hR⟩) ?_
    clear hf
    refine Jrow (fun H locs ls hH hS hl k => lv_aload_n hx hb dX0_isRest_15 rfl (lv_at hl 0 rfl) (k ls hl)) ?_
    refine Jrow (fun H locs ls hH hS hl k => lv_iconst (v := (0:Int32)) hx hb dX0_isRest_16 (by decide) (k ls hl)) ?_
    refine Jrow (fun H locs ls hH hS hl k => lv_iload_n hx hb dX0_isRest_17 rfl (lv_at hl 1 rfl) (k ls hl)) ?_
    refine Jrow (fun H locs ls hH hS hl k => lv_iload_n hx hb dX0_isRest_18 rfl (lv_at hl 2 rfl) (k ls hl)) ?_
    refine Jgd (fun hg => ?_)
    refine Jcl2 (fun x7 σ6 hf => ?_)
    refine Jcall (v := (some (.long x7))) (rest := [.long x5]) (mX0_costOf l E hf).1 ⟨rfl, rfl⟩ (fun H locs ls hH hS hl hR => ⟨_, va_runV (C := RX0) (As := [.int (0:Int32), .int p1, .int p2]) ⟨hx, hb, hml, hown, hts⟩ (mX0_costOf l E hf).2 (cwV 3 hts (lw_V q1070 q1072 qs35 q88 q1073) rfl rfl rfl (by decide +kernel) ⟨Nat.le_of_ble_eq_true rfl, Nat.le_of_ble_eq_true rfl⟩) (c_preV (ci := 1) hk hH hS hg rfl) rfl rfl hl.1 rfl (lv_room (Nat.le_of_ble_eq_true rfl)) dX0_isRest_19 hR⟩) ?_
    clear hf
    refine Jrow (fun H locs ls hH hS hl k => W.lcmp hx hb dX0_isRest_22 (k ls hl)) ?_
    refine Jjn1 (fun (σ8 : CS) X15 => J p l e (headSpec (ws_ yX0_isRest cX0_isRest 4 (some .boolean)) (rmC 1 24 σ σz)).room s m ([.ref a0, .int p1, .int p2] : List Value).toArray below meth c 4 E (cZ σ) (cS σ) (MQ below (cQ E (some (.int r)) σz) ([.ref a0, .int p1, .int p2] : List Value).toArray s (cZ σz - cZ σ) (cS σz - cS σ) (EA E)) (r, σz) X15 σ8 44 [] []) (fun σ8 => ?_) (fun k9 hk9 => ?_)
    · refine Jrow (fun H locs ls hH hS hl k => lv_iconst (v := (0:Int32)) hx hb dX0_isRest_44 (by decide) (k ls hl)) ?_
      exact Jzret hx hb hr hlocks rfl dX0_isRest_45
    · refine Jite (fun hc => ?_) (fun hc => ?_)
      · refine Jrow (fun H locs ls hH hS hl k => lv_if_lt (tgt := 44) hx hb dX0_isRest_23 (by decide) (fun _ => (k ls hl)) (fun h => absurd hc h)) ?_
        clear hc
        exact Jsub [] rfl (hk9 σ6)
      · refine Jrow (fun H locs ls hH hS hl k => lv_if_lt (tgt := 44) hx hb dX0_isRest_23 (by decide) (fun h => absurd h hc) (fun _ => (k ls hl))) ?_
        clear hc
        refine Jrow (fun H locs ls hH hS hl k => lv_aload_n hx hb dX0_isRest_26 rfl (lv_at hl 0 rfl) (k ls hl)) ?_
        refine Jrow (fun H locs ls hH hS hl k => lv_iconst (v := (1:Int32)) hx hb dX0_isRest_27 (by decide) (k ls hl)) ?_
        refine Jrow (fun H locs ls hH hS hl k => lv_iload_n hx hb dX0_isRest_28 rfl (lv_at hl 3 rfl) (k ls hl)) ?_
        refine Jrow (fun H locs ls hH hS hl k => lv_iload_n hx hb dX0_isRest_29 rfl (lv_at hl 1 rfl) (k ls hl)) ?_
        refine Jgd (fun hg => ?_)
        refine Jcl2 (fun x11 σ10 hf => ?_)
        refine Jcall (v := (some (.long x11))) (rest := []) (mX0_costOf l E hf).1 ⟨rfl, rfl⟩ (fun H locs ls hH hS hl hR => ⟨_, va_runV (C := RX0) (As := [.int (1:Int32), .int x1, .int p1]) ⟨hx, hb, hml, hown, hts⟩ (mX0_costOf l E hf).2 (cwV 3 hts (lw_V q1070 q1072 qs35 q88 q1073) rfl rfl rfl (by decide +kernel) ⟨Nat.le_of_ble_eq_true rfl, Nat.le_of_ble_eq_true rfl⟩) (c_preV (ci := 1) hk hH hS hg rfl) rfl rfl hl.1 rfl (lv_room (Nat.le_of_ble_eq_true rfl)) dX0_isRest_30 hR⟩) ?_
        clear hf
        refine Jrow (fun H locs ls hH hS hl k => lv_aload_n hx hb dX0_isRest_33 rfl (lv_at hl 0 rfl) (k ls hl)) ?_
        refine Jrow (fun H locs ls hH hS hl k => lv_iconst (v := (1:Int32)) hx hb dX0_isRest_34 (by decide) (k ls hl)) ?_
        refine Jrow (fun H locs ls hH hS hl k => lv_iload_n hx hb dX0_isRest_35 rfl (lv_at hl 2 rfl) (k ls hl)) ?_
        refine Jrow (fun H locs ls hH hS hl k => lv_iload_n hx hb dX0_isRest_36 rfl (lv_at hl 1 rfl) (k ls hl)) ?_
        refine Jgd (fun hg => ?_)
        refine Jcl2 (fun x13 σ12 hf => ?_)
        refine Jcall (v := (some (.long x13))) (rest := [.long x11]) (mX0_costOf l E hf).1 ⟨rfl, rfl⟩ (fun H locs ls hH hS hl hR => ⟨_, va_runV (C := RX0) (As := [.int (1:Int32), .int p2, .int p1]) ⟨hx, hb, hml, hown, hts⟩ (mX0_costOf l E hf).2 (cwV 3 hts (lw_V q1070 q1072 qs35 q88 q1073) rfl rfl rfl (by decide +kernel) ⟨Nat.le_of_ble_eq_true rfl, Nat.le_of_ble_eq_true rfl⟩) (c_preV (ci := 1) hk hH hS hg rfl) rfl rfl hl.1 rfl (lv_room (Nat.le_of_ble_eq_true rfl)) dX0_isRest_37 hR⟩) ?_
        clear hf
        refine Jrow (fun H locs ls hH hS hl k => W.lcmp hx hb dX0_isRest_40 (k ls hl)) ?_
        refine Jite (fun hc => ?_) (fun hc => ?_)
        · refine Jrow (fun H locs ls hH hS hl k => lv_if_ge (tgt := 46) hx hb dX0_isRest_41 (by decide) (fun _ => (k ls hl)) (fun h => absurd hc h)) ?_
          clear hc
          refine Jbd (fun x14 ex14 => ?_)
          refine Jrow (fun H locs ls hH hS hl k => lv_iinc (v := x14) (lv' := [(3, .int x14), (0, .ref a0), (1, .int p1), (2, .int p2)]) hx hb dX0_isRest_46 hl (k := 3) rfl (by rw [ex14]; rfl) (by decide) rfl k) ?_
          clear ex14
          refine Jrow (fun H locs ls hH hS hl k => lv_goto (tgt := 2) hx hb dX0_isRest_49 (by decide) (k ls hl)) ?_
          exact Jsub [1, 2, 3, 0] rfl (hk3 x14 σ12)
        · refine Jrow (fun H locs ls hH hS hl k => lv_if_ge (tgt := 46) hx hb dX0_isRest_41 (by decide) (fun h => absurd h hc) (fun _ => (k ls hl))) ?_
          clear hc
          exact Jsub [] rfl (hk9 σ12)

def fX0_findSide (a0 : Nat) (p1 : Int32) (p2 : Nat) (p3 : Nat) (p4 : Nat) (σ : CS) : Option (Unit × CS) :=
 gd (hf (cK σ a0) 34) (
 cl (cFR σ a0 34) (fun (x1 : Nat) =>
 gd (hf (cK σ p4) 82) (
 gd (hf (cK σ p4) 83) (
 cl (cFR σ p4 83) (fun (x2 : Nat) =>
 gd (hf (cK σ x2) 52) (
 gd (hf (cK σ p2) 62) (
 cl (cFR σ p2 62) (fun (x3 : Nat) =>
 gd (hf (cK σ p4) 83) (
 cl (cFR σ p4 83) (fun (x4 : Nat) =>
 gd (hf (cK σ x4) 52) (
 gd (kd σ x3 101) (
 gd (ib (cFI σ x4 52) (cLN σ x3)) (
 gd (kd σ x1 4) (
 cl2 (fX2_begin x1 p2 (cFI σ p4 82) (cFI σ x2 52) (cAI σ x3 (cFI σ x4 52).toNatClampNeg) σ) (fun (_ : Unit) (σ5 : CS) =>
 gd (hf (cK σ5 a0) 34) (
 cl (cFR σ5 a0 34) (fun (x7 : Nat) =>
 gd (kd σ5 a0 2) (
 cl2 (fX0_goForward a0 x7 (0:Int32) σ5) (fun (_ : Unit) (σ8 : CS) =>
 lp (fun _ _ => none) (fun (k12 : Int32 → CS → Option (Unit × CS)) (x10 : Int32) (σ11 : CS) =>
 if (10:Int32) ≤ x10 then
 some ((), σ11)
 else
 gd (hf (cK σ11 a0) 40) (
 cl (cFR σ11 a0 40) (fun (x13 : Nat) =>
 gd (kd σ11 x13 108) (
 gd (ib p1 (cLN σ11 x13)) (
 cl (cAR σ11 x13 p1.toNatClampNeg) (fun (x14 : Nat) =>
 gd (hf (cK σ11 a0) 31) (
 cl (cFR σ11 a0 31) (fun (x15 : Nat) =>
 gd (kd σ11 x15 103) (
 gd (ib x10 (cLN σ11 x15)) (
 gd (kd σ11 a0 2) (
 cl2 (fX0_fold a0 x10 (cAL σ11 x15 x10.toNatClampNeg) σ11) (fun (x17 : Int64) (σ16 : CS) =>
 gd (kd σ16 x14 103) (
 gd (ib x10 (cLN σ16 x14)) (
 bd (uAL σ16 x14 x10.toNatClampNeg x17) (fun (σ18 : CS) =>
 gd (hf (cK σ18 a0) 41) (
 cl (cFR σ18 a0 41) (fun (x19 : Nat) =>
 gd (kd σ18 x19 108) (
 gd (ib ((1:Int32) - p1) (cLN σ18 x19)) (
 cl (cAR σ18 x19 ((1:Int32) - p1).toNatClampNeg) (fun (x20 : Nat) =>
 gd (hf (cK σ18 a0) 29) (
 cl (cFR σ18 a0 29) (fun (x21 : Nat) =>
 gd (kd σ18 x21 107) (
 gd (ib x10 (cLN σ18 x21)) (
 cl (cAR σ18 x21 x10.toNatClampNeg) (fun (x22 : Nat) =>
 gd (kd σ18 x22 4) (
 cl2 (fX2_harmIn x22 p3 σ18) (fun (x24 : Int64) (σ23 : CS) =>
 gd (kd σ23 x20 103) (
 gd (ib x10 (cLN σ23 x20)) (
 bd (uAL σ23 x20 x10.toNatClampNeg (x24 / (2:Int64))) (fun (σ25 : CS) =>
 bd (x10 + (1:Int32)) (fun (x26 : Int32) =>
 k12 x26 σ25))))))))))))))))))))))))))))))) NF (0:Int32) σ8)))))))))))))))))))
theorem nX0_findSide {a0 : Nat} {p1 : Int32} {p2 : Nat} {p3 : Nat} {p4 : Nat} {σ : CS} : Mn σ (fX0_findSide a0 p1 p2 p3 p4 σ) := by
  unfold fX0_findSide
  refine Mgd ?_
  refine Mcl (fun x1 => ?_)
  refine Mgd ?_
  refine Mgd ?_
  refine Mcl (fun x2 => ?_)
  refine Mgd ?_
  refine Mgd ?_
  refine Mcl (fun x3 => ?_)
  refine Mgd ?_
  refine Mcl (fun x4 => ?_)
  refine Mgd ?_
  refine Mgd ?_
  refine Mgd ?_
  refine Mgd ?_
  refine Mcl2 (nX2_begin) (fun _ σ5 => ?_)
  refine Mgd ?_
  refine Mcl (fun x7 => ?_)
  refine Mgd ?_
  refine Mcl2 (nX0_goForward) (fun _ σ8 => ?_)
  refine Plp2 (fun (x10 : Int32) (σ11 : CS) (X27 : Option (Unit × CS)) => Mn σ11 X27) (fun _ _ => Mnone) (fun k12 hk12 x10 σ11 => ?_)
  refine Mite ?_ ?_
  · exact Mret
  · refine Mgd ?_
    refine Mcl (fun x13 => ?_)
    refine Mgd ?_
    refine Mgd ?_
    refine Mcl (fun x14 => ?_)
    refine Mgd ?_
    refine Mcl (fun x15 => ?_)
    refine Mgd ?_
    refine Mgd ?_
    refine Mgd ?_
    refine Mcl2 (nX0_fold) (fun x17 σ16 => ?_)
    refine Mgd ?_
    refine Mgd ?_
    refine Mst (Nat.le_refl _) (Nat.le_refl _) (fun σ18 => ?_)
    refine Mgd ?_
    refine Mcl (fun x19 => ?_)
    refine Mgd ?_
    refine Mgd ?_
    refine Mcl (fun x20 => ?_)
    refine Mgd ?_
    refine Mcl (fun x21 => ?_)
    refine Mgd ?_
    refine Mgd ?_
    refine Mcl (fun x22 => ?_)
    refine Mgd ?_
    refine Mcl2 (nX2_harmIn) (fun x24 σ23 => ?_)
    refine Mgd ?_
    refine Mgd ?_
    refine Mst (Nat.le_refl _) (Nat.le_refl _) (fun σ25 => ?_)
    refine Mbd (fun x26 => ?_)
    exact hk12 x26 σ25
set_option maxHeartbeats 4000000 in
set_option maxRecDepth 100000 in
theorem mX0_findSide (l : Launch) (E : CE) {a0 : Nat} {p1 : Int32} {p2 : Nat} {p3 : Nat} {p4 : Nat} {σ : CS} {σz : CS} (hX : fX0_findSide a0 p1 p2 p3 p4 σ = some ((), σz)) : MetC l yX0_findSide (ws_ yX0_findSide cX0_findSide 6 none) 104 4099 E σ [.ref a0, .int p1, .ref p2, .ref p3, .ref p4] none σz := by
  refine MetC.of hX (by decide) (Nat.le_of_ble_eq_true rfl) (nX0_findSide _ hX) ?_
  intro p e s m below meth c hx hb hr hml hts hown hlocks hnm hk hz0
  have hK := hk.1
  show J p l e (headSpec (ws_ yX0_findSide cX0_findSide 6 none) (rmC 104 4099 σ σz)).room s m ([.ref a0, .int p1, .ref p2, .ref p3, .ref p4] : List Value).toArray below meth c 6 E (cZ σ) (cS σ) (MQ below (cQ E none σz) ([.ref a0, .int p1, .ref p2, .ref p3, .ref p4] : List Value).toArray s (cZ σz - cZ σ) (cS σz - cS σ) (EA E)) ((), σz) (fX0_findSide a0 p1 p2 p3 p4 σ) σ 0 [(0, .ref a0), (1, .int p1), (2, .ref p2), (3, .ref p3), (4, .ref p4)] []
  unfold fX0_findSide
  refine Jrow (fun H locs ls hH hS hl k => lv_aload_n hx hb dX0_findSide_0 rfl (lv_at hl 0 rfl) (k ls hl)) ?_
  refine Jgd (fun hg => ?_)
  refine Jcl (fun x1 hq => ?_)
  refine Jrow (fun H locs ls hH hS hl k => c_get (F := 34) (v := .ref x1) hx hb hts hown hK hH hg (hts _ q264) (fun _ h => h) (fvR rfl hq) dX0_findSide_1 (k ls hl)) ?_
  clear hq
  refine Jrow (fun H locs ls hH hS hl k => lv_aload_n hx hb dX0_findSide_4 rfl (lv_at hl 2 rfl) (k ls hl)) ?_
  refine Jrow (fun H locs ls hH hS hl k => lv_aload hx hb dX0_findSide_5 (lv_at hl 4 rfl) (k ls hl)) ?_
  refine Jgd (fun hg => ?_)
  refine Jrow (fun H locs ls hH hS hl k => c_getN (F := 82) (v := .int (cFI σ p4 82)) hx hb hts hown hK hH hg (cN hk.2.2.1 21 rfl) (fun _ h => h) rfl dX0_findSide_7 (k ls hl)) ?_
  refine Jrow (fun H locs ls hH hS hl k => lv_aload hx hb dX0_findSide_10 (lv_at hl 4 rfl) (k ls hl)) ?_
  refine Jgd (fun hg => ?_)
  refine Jcl (fun x2 hq => ?_)
  refine Jrow (fun H locs ls hH hS hl k => c_getN (F := 83) (v := .ref x2) hx hb hts hown hK hH hg (cN hk.2.2.1 22 rfl) (fun _ h => h) (fvR rfl hq) dX0_findSide_12 (k ls hl)) ?_
  clear hq
  refine Jgd (fun hg => ?_)
  refine Jrow (fun H locs ls hH hS hl k => c_getN (F := 52) (v := .int (cFI σ x2 52)) hx hb hts hown hK hH hg (cN hk.2.2.1 12 rfl) (fun _ h => h) rfl dX0_findSide_15 (k ls hl)) ?_
  refine Jrow (fun H locs ls hH hS hl k => lv_aload_n hx hb dX0_findSide_18 rfl (lv_at hl 2 rfl) (k ls hl)) ?_
  refine Jgd (fun hg => ?_)
  refine Jcl (fun x3 hq => ?_)
  refine Jrow (fun H locs ls hH hS hl k => c_getN (F := 62) (v := .ref x3) hx hb hts hown hK hH hg (cN hk.2.2.1 16 rfl) (fun _ h => h) (fvR rfl hq) dX0_findSide_19 (k ls hl)) ?_
  clear hq
  refine Jrow (fun H locs ls hH hS hl k => lv_aload hx hb dX0_findSide_22 (lv_at hl 4 rfl) (k ls hl)) ?_
  refine Jgd (fun hg => ?_)
  refine Jcl (fun x4 hq => ?_)
  refine Jrow (fun H locs ls hH hS hl k => c_getN (F := 83) (v := .ref x4) hx hb hts hown hK hH hg (cN hk.2.2.1 22 rfl) (fun _ h => h) (fvR rfl hq) dX0_findSide_24 (k ls hl)) ?_
  clear hq
  refine Jgd (fun hg => ?_)
  refine Jrow (fun H locs ls hH hS hl k => c_getN (F := 52) (v := .int (cFI σ x4 52)) hx hb hts hown hK hH hg (cN hk.2.2.1 12 rfl) (fun _ h => h) rfl dX0_findSide_27 (k ls hl)) ?_
  refine Jgd (fun hk1 => ?_)
  refine Jgd (fun hg => ?_)
  refine Jrow (fun H locs ls hH hS hl k => c_iald hx hb hK hH hk1 hg dX0_findSide_30 (k ls hl)) ?_
  refine Jgd (fun hg => ?_)
  refine Jcl2 (fun _ σ5 hf => ?_)
  refine Jcall (v := none) (rest := []) (mX2_begin l E hf).1 ⟨rfl, rfl⟩ (fun H locs ls hH hS hl hR => ⟨_, va_runV (C := RX2) (As := [.ref p2, .int (cFI σ p4 82), .int (cFI σ x2 52), .int (cAI σ x3 (cFI σ x4 52).toNatClampNeg)]) ⟨hx, hb, hml, hown, hts⟩ (mX2_begin l E hf).2 (cwV 4 hts (lw_V q1048 q673 q674 q93 q675) rfl rfl rfl (by decide +kernel) ⟨Nat.le_of_ble_eq_true rfl, Nat.le_of_ble_eq_true rfl⟩) (c_preV (ci := 3) hk hH hS hg rfl) rfl rfl hl.1 rfl (lv_room (Nat.le_of_ble_eq_true rfl)) dX0_findSide_31 hR⟩) ?_
  clear hf
  refine Jrow (fun H locs ls hH hS hl k => lv_aload_n hx hb dX0_findSide_34 rfl (lv_at hl 0 rfl) (k ls hl)) ?_
  refine Jrow (fun H locs ls hH hS hl k => lv_aload_n hx hb dX0_findSide_35 rfl (lv_at hl 0 rfl) (k ls hl)) ?_
  refine Jgd (fun hg => ?_)
  refine Jcl (fun x7 hq => ?_)
  refine Jrow (fun H locs ls hH hS hl k => c_get (F := 34) (v := .ref x7) hx hb hts hown hK hH hg (hts _ q264) (fun _ h => h) (fvR rfl hq) dX0_findSide_36 (k ls hl)) ?_
  clear hq
  refine Jrow (fun H locs ls hH hS hl k => lv_iconst (v := (0:Int32)) hx hb dX0_findSide_39 (by decide) (k ls hl)) ?_
  refine Jgd (fun hg => ?_)
  refine Jcl2 (fun _ σ8 hf => ?_)
  refine Jcall (v := none) (rest := []) (mX0_goForward l E hf).1 ⟨rfl, rfl⟩ (fun H locs ls hH hS hl hR => ⟨_, va_runV (C := RX0) (As := [.ref x7, .int (0:Int32)]) ⟨hx, hb, hml, hown, hts⟩ (mX0_goForward l E hf).2 (cwV 2 hts (lw_V q965 q967 qs24 q88 q968) rfl rfl rfl (by decide +kernel) ⟨Nat.le_of_ble_eq_true rfl, Nat.le_of_ble_eq_true rfl⟩) (c_preV (ci := 1) hk hH hS hg rfl) rfl rfl hl.1 rfl (lv_room (Nat.le_of_ble_eq_true rfl)) dX0_findSide_40 hR⟩) ?_
  clear hf
  refine Jrow (fun H locs ls hH hS hl k => lv_iconst (v := (0:Int32)) hx hb dX0_findSide_43 (by decide) (k ls hl)) ?_
  refine Jrow (fun H locs ls hH hS hl k => lv_istore (lv' := [(5, .int (0:Int32)), (0, .ref a0), (1, .int p1), (2, .ref p2), (3, .ref p3), (4, .ref p4)]) hx hb dX0_findSide_44 hl (by decide) rfl k) ?_
  refine Jsub [1, 2, 4, 0] rfl (Plp2 (fun (x10 : Int32) (σ11 : CS) X27 => J p l e (headSpec (ws_ yX0_findSide cX0_findSide 6 none) (rmC 104 4099 σ σz)).room s m ([.ref a0, .int p1, .ref p2, .ref p3, .ref p4] : List Value).toArray below meth c 6 E (cZ σ) (cS σ) (MQ below (cQ E none σz) ([.ref a0, .int p1, .ref p2, .ref p3, .ref p4] : List Value).toArray s (cZ σz - cZ σ) (cS σz - cS σ) (EA E)) ((), σz) X27 σ11 46 [(0, .ref a0), (1, .int p1), (3, .ref p3), (5, .int x10)] []) (fun _ _ => Jnone) (fun k12 hk12 x10 σ11 => ?_))
  refine Jrow (fun H locs ls hH hS hl k => lv_iload hx hb dX0_findSide_46 (lv_at hl 3 rfl) (k ls hl)) ?_
  refine Jrow (fun H locs ls hH hS hl k => lv_bipush (v := (10:Int32)) hx hb dX0_findSide_48 (by decide) (k ls hl)) ?_
  refine Jite (fun hc => ?_) (fun hc => ?_)
  · refine Jrow (fun H locs ls hH hS hl k => lv_icmp_ge (tgt := 107) hx hb dX0_findSide_50 (by decide) (fun _ => (k ls hl)) (fun h => absurd hc h)) ?_
    clear hc
    exact Jvret hx hb hr hlocks dX0_findSide_107
  · refine Jrow (fun H locs ls hH hS hl k => lv_icmp_ge (tgt := 107) hx hb dX0_findSide_50 (by decide) (fun h => absurd h hc) (fun _ => (k ls hl))) ?_
    clear hc
    refine Jrow (fun H locs ls hH hS hl k => lv_aload_n hx hb dX0_findSide_53 rfl (lv_at hl 0 rfl) (k ls hl)) ?_
    refine Jgd (fun hg => ?_)
    refine Jcl (fun x13 hq => ?_)
    refine Jrow (fun H locs ls hH hS hl k => c_get (F := 40) (v := .ref x13) hx hb hts hown hK hH hg (hts _ q273) (fun _ h => h) (fvR rfl hq) dX0_findSide_54 (k ls hl)) ?_
    clear hq
    refine Jrow (fun H locs ls hH hS hl k => lv_iload_n hx hb dX0_findSide_57 rfl (lv_at hl 1 rfl) (k ls hl)) ?_
    refine Jgd (fun hk1 => ?_)
    refine Jgd (fun hg => ?_)
    refine Jcl (fun x14 hq => ?_)
    refine Jrow (fun H locs ls hH hS hl k => c_aald (t := 7) (q := some x14) hx hb hK hH (by decide) (by decide) hk1 hg hq dX0_findSide_58 (k ls hl)) ?_
    clear hq
    refine Jrow (fun H locs ls hH hS hl k => lv_iload hx hb dX0_findSide_59 (lv_at hl 3 rfl) (k ls hl)) ?_
    refine Jrow (fun H locs ls hH hS hl k => lv_aload_n hx hb dX0_findSide_61 rfl (lv_at hl 0 rfl) (k ls hl)) ?_
    refine Jrow (fun H locs ls hH hS hl k => lv_iload hx hb dX0_findSide_62 (lv_at hl 3 rfl) (k ls hl)) ?_
    refine Jrow (fun H locs ls hH hS hl k => lv_aload_n hx hb dX0_findSide_64 rfl (lv_at hl 0 rfl) (k ls hl)) ?_
    refine Jgd (fun hg => ?_)
    refine Jcl (fun x15 hq => ?_)
    refine Jrow (fun H locs ls hH hS hl k => c_get (F := 31) (v := .ref x15) hx hb hts hown hK hH hg (hts _ q260) (fun _ h => h) (fvR rfl hq) dX0_findSide_65 (k ls hl)) ?_
    clear hq
    refine Jrow (fun H locs ls hH hS hl k => lv_iload hx hb dX0_findSide_68 (lv_at hl 3 rfl) (k ls hl)) ?_
    refine Jgd (fun hk1 => ?_)
    refine Jgd (fun hg => ?_)
    refine Jrow (fun H locs ls hH hS hl k => c_lald hx hb hK hH hk1 hg dX0_findSide_70 (k ls hl)) ?_
    refine Jgd (fun hg => ?_)
    refine Jcl2 (fun x17 σ16 hf => ?_)
    refine Jcall (v := (some (.long x17))) (rest := [.int x10, .ref x14]) (mX0_fold l E hf).1 ⟨rfl, rfl⟩ (fun H locs ls hH hS hl hR => ⟨_, va_runV (C := RX0) (As := [.int x10, .long (cAL σ11 x15 x10.toNatClampNeg)]) ⟨hx, hb, hml, hown, hts⟩ (mX0_fold l E hf).2 (cwV 2 hts (lw_V q994 q996 qs26 q88 q997) rfl rfl rfl (by decide +kernel) ⟨Nat.le_of_ble_eq_true rfl, Nat.le_of_ble_eq_true rfl⟩) (c_preV (ci := 1) hk hH hS hg rfl) rfl rfl hl.1 rfl (lv_room (Nat.le_of_ble_eq_true rfl)) dX0_findSide_71 hR⟩) ?_
    clear hf
    refine Jgd (fun hk1 => ?_)
    refine Jgd (fun hg => ?_)
    refine Jst (σ1 := uAL σ16 x14 x10.toNatClampNeg x17) rfl rfl (fun H locs ls hH hS hl k => c_last hx hb hK hH hS hk1 hg dX0_findSide_74 k) (fun σ18 => ?_)
    refine Jrow (fun H locs ls hH hS hl k => lv_aload_n hx hb dX0_findSide_75 rfl (lv_at hl 0 rfl) (k ls hl)) ?_
    refine Jgd (fun hg => ?_)
    refine Jcl (fun x19 hq => ?_)
    refine Jrow (fun H locs ls hH hS hl k => c_get (F := 41) (v := .ref x19) hx hb hts hown hK hH hg (hts _ q274) (fun _ h => h) (fvR rfl hq) dX0_findSide_76 (k ls hl)) ?_
    clear hq
    refine Jrow (fun H locs ls hH hS hl k => lv_iconst (v := (1:Int32)) hx hb dX0_findSide_79 (by decide) (k ls hl)) ?_
    refine Jrow (fun H locs ls hH hS hl k => lv_iload_n hx hb dX0_findSide_80 rfl (lv_at hl 1 rfl) (k ls hl)) ?_
    refine Jrow (fun H locs ls hH hS hl k => lv_isub hx hb dX0_findSide_81 (k ls hl)) ?_
    refine Jgd (fun hk1 => ?_)
    refine Jgd (fun hg => ?_)
    refine Jcl (fun x20 hq => ?_)
    refine Jrow (fun H locs ls hH hS hl k => c_aald (t := 7) (q := some x20) hx hb hK hH (by decide) (by decide) hk1 hg hq dX0_findSide_82 (k ls hl)) ?_
    clear hq
    refine Jrow (fun H locs ls hH hS hl k => lv_iload hx hb dX0_findSide_83 (lv_at hl 3 rfl) (k ls hl)) ?_
    refine Jrow (fun H locs ls hH hS hl k => lv_aload_n hx hb dX0_findSide_85 rfl (lv_at hl 0 rfl) (k ls hl)) ?_
    refine Jgd (fun hg => ?_)
    refine Jcl (fun x21 hq => ?_)
    refine Jrow (fun H locs ls hH hS hl k => c_get (F := 29) (v := .ref x21) hx hb hts hown hK hH hg (hts _ q258) (fun _ h => h) (fvR rfl hq) dX0_findSide_86 (k ls hl)) ?_
    clear hq
    refine Jrow (fun H locs ls hH hS hl k => lv_iload hx hb dX0_findSide_89 (lv_at hl 3 rfl) (k ls hl)) ?_
    refine Jgd (fun hk1 => ?_)
    refine Jgd (fun hg => ?_)
    refine Jcl (fun x22 hq => ?_)
    refine Jrow (fun H locs ls hH hS hl k => c_aald (t := 6) (q := some x22) hx hb hK hH (by decide) (by decide) hk1 hg hq dX0_findSide_91 (k ls hl)) ?_
    clear hq
    refine Jrow (fun H locs ls hH hS hl k => lv_aload_n hx hb dX0_findSide_92 rfl (lv_at hl 2 rfl) (k ls hl)) ?_
    refine Jgd (fun hg => ?_)
    refine Jcl2 (fun x24 σ23 hf => ?_)
    refine Jcall (v := (some (.long x24))) (rest := [.int x10, .ref x20]) (mX2_harmIn l E hf).1 ⟨rfl, rfl⟩ (fun H locs ls hH hS hl hR => ⟨_, va_runV (C := RX2) (As := [.ref p3]) ⟨hx, hb, hml, hown, hts⟩ (mX2_harmIn l E hf).2 (cwV 1 hts (lw_V q1064 q763 q764 q93 q765) rfl rfl rfl (by decide +kernel) ⟨Nat.le_of_ble_eq_true rfl, Nat.le_of_ble_eq_true rfl⟩) (c_preV (ci := 3) hk hH hS hg rfl) rfl rfl hl.1 rfl (lv_room (Nat.le_of_ble_eq_true rfl)) dX0_findSide_93 hR⟩) ?_
    clear hf
    refine Jrow (fun H locs ls hH hS hl k => lv_ldc2 (v := (2:Int64)) hx hb hown (hts _ q1065) dX0_findSide_96 (k ls hl)) ?_
    refine Jrow (fun H locs ls hH hS hl k => lv_ldiv hx hb dX0_findSide_99 (by decide) (k ls hl)) ?_
    refine Jgd (fun hk1 => ?_)
    refine Jgd (fun hg => ?_)
    refine Jst (σ1 := uAL σ23 x20 x10.toNatClampNeg (x24 / (2:Int64))) rfl rfl (fun H locs ls hH hS hl k => c_last hx hb hK hH hS hk1 hg dX0_findSide_100 k) (fun σ25 => ?_)
    refine Jbd (fun x26 ex26 => ?_)
    refine Jrow (fun H locs ls hH hS hl k => lv_iinc (v := x26) (lv' := [(5, .int x26), (0, .ref a0), (1, .int p1), (3, .ref p3)]) hx hb dX0_findSide_101 hl (k := 3) rfl (by rw [ex26]; rfl) (by decide) rfl k) ?_
    clear ex26
    refine Jrow (fun H locs ls hH hS hl k => lv_goto (tgt := 46) hx hb dX0_findSide_104 (by decide) (k ls hl)) ?_
    exact Jsub [1, 2, 3, 0] rfl (hk12 x26 σ25)

def fX0_rest (a0 : Nat) (p1 : Int32) (p2 : Int32) (p3 : Int32) (σ : CS) : Option (Int32 × CS) :=
 gd (kd σ a0 2) (
 cl2 (fX0_portAt a0 p1 σ) (fun (x2 : Option Nat) (σ1 : CS) =>
 gd (kd σ1 a0 2) (
 cl2 (fX0_portAt a0 p2 σ1) (fun (x4 : Option Nat) (σ3 : CS) =>
 gd (kd σ3 a0 2) (
 cl2 (fX0_shipAt a0 p3 σ3) (fun (x6 : Option Nat) (σ5 : CS) =>
 jn (some ((-1:Int32), σ5)) (fun (k7 : Option (Int32 × CS)) =>
 oc x2 (
 k7) (fun (x8 : Nat) =>
 oc x4 (
 k7) (fun (x9 : Nat) =>
 oc x6 (
 k7) (fun (x10 : Nat) =>
 if x8 = x9 then
 some ((-2:Int32), σ5)
 else
 gd (kd σ5 a0 2) (
 cl2 (fX0_findSide a0 (0:Int32) x8 x9 x10 σ5) (fun (_ : Unit) (σ11 : CS) =>
 gd (kd σ11 a0 2) (
 cl2 (fX0_findSide a0 (1:Int32) x9 x8 x10 σ11) (fun (_ : Unit) (σ13 : CS) =>
 lp (fun _ _ => none) (fun (k17 : Int32 → CS → Option (Int32 × CS)) (x15 : Int32) (σ16 : CS) =>
 if (100:Int32) ≤ x15 then
 some ((-5:Int32), σ16)
 else
 gd (kd σ16 a0 2) (
 cl2 (fX0_isRest a0 (x15 / (10:Int32)) (x15 - x15 / (10:Int32) * (10:Int32)) σ16) (fun (x19 : Int32) (σ18 : CS) =>
 if x19 = (0:Int32) then
 bd (x15 + (1:Int32)) (fun (x20 : Int32) =>
 k17 x20 σ18)
 else
 some (x15, σ18)))) NF (0:Int32) σ13))))))))))))))
theorem nX0_rest {a0 : Nat} {p1 : Int32} {p2 : Int32} {p3 : Int32} {σ : CS} : Mn σ (fX0_rest a0 p1 p2 p3 σ) := by
  unfold fX0_rest
  refine Mgd ?_
  refine Mcl2 (nX0_portAt) (fun x2 σ1 => ?_)
  refine Mgd ?_
  refine Mcl2 (nX0_portAt) (fun x4 σ3 => ?_)
  refine Mgd ?_
  refine Mcl2 (nX0_shipAt) (fun x6 σ5 => ?_)
  refine Mjn0 (fun  (X22 : Option (Int32 × CS)) => Mn σ5 X22) (?_) (fun k7 hk7 => ?_)
  · exact Mret
  · refine Moc ?_ (fun x8 => ?_)
    · exact hk7
    · refine Moc ?_ (fun x9 => ?_)
      · exact hk7
      · refine Moc ?_ (fun x10 => ?_)
        · exact hk7
        · refine Mite ?_ ?_
          · exact Mret
          · refine Mgd ?_
            refine Mcl2 (nX0_findSide) (fun _ σ11 => ?_)
            refine Mgd ?_
            refine Mcl2 (nX0_findSide) (fun _ σ13 => ?_)
            refine Plp2 (fun (x15 : Int32) (σ16 : CS) (X21 : Option (Int32 × CS)) => Mn σ16 X21) (fun _ _ => Mnone) (fun k17 hk17 x15 σ16 => ?_)
            refine Mite ?_ ?_
            · exact Mret
            · refine Mgd ?_
              refine Mcl2 (nX0_isRest) (fun x19 σ18 => ?_)
              refine Mite ?_ ?_
              · refine Mbd (fun x20 => ?_)
                exact hk17 x20 σ18
              · exact Mret
set_option maxHeartbeats 4000000 in
set_option maxRecDepth 100000 in
theorem mX0_rest (l : Launch) (E : CE) {a0 : Nat} {p1 : Int32} {p2 : Int32} {p3 : Int32} {σ : CS} {r : Int32} {σz : CS} (hX : fX0_rest a0 p1 p2 p3 σ = some (r, σz)) : MetC l yX0_rest (ws_ yX0_rest cX0_rest 8 (some .int)) 105 4124 E σ [.ref a0, .int p1, .int p2, .int p3] (some (.int r)) σz := by
  refine MetC.of hX (by decide) (Nat.le_of_ble_eq_true rfl) (nX0_rest _ hX) ?_
  intro p e s m below meth c hx hb hr hml hts hown hlocks hnm hk hz0
  have hK := hk.1
  show J p l e (headSpec (ws_ yX0_rest cX0_rest 8 (some .int)) (rmC 105 4124 σ σz)).room s m ([.ref a0, .int p1, .int p2, .int p3] : List Value).toArray below meth c 8 E (cZ σ) (cS σ) (MQ below (cQ E (some (.int r)) σz) ([.ref a0, .int p1, .int p2, .int p3] : List Value).toArray s (cZ σz - cZ σ) (cS σz - cS σ) (EA E)) (r, σz) (fX0_rest a0 p1 p2 p3 σ) σ 0 [(0, .ref a0), (1, .int p1), (2, .int p2), (3, .int p3)] []
  unfold fX0_rest
  refine Jrow (fun H locs ls hH hS hl k => lv_aload_n hx hb dX0_rest_0 rfl (lv_at hl 0 rfl) (k ls hl)) ?_
  refine Jrow (fun H locs ls hH hS hl k => lv_iload_n hx hb dX0_rest_1 rfl (lv_at hl 1 rfl) (k ls hl)) ?_
  refine Jgd (fun hg => ?_)
  refine Jcl2 (fun x2 σ1 hf => ?_)
  refine Jcall (v := (some (va_rf x2))) (rest := []) (mX0_portAt l E hf).1 ⟨rfl, rfl⟩ (fun H locs ls hH hS hl hR => ⟨_, va_runV (C := RX0) (As := [.int p1]) ⟨hx, hb, hml, hown, hts⟩ (mX0_portAt l E hf).2 (cwV 1 hts (lw_V q601 q603 qs16 q88 q604) rfl rfl rfl (by decide +kernel) ⟨Nat.le_of_ble_eq_true rfl, Nat.le_of_ble_eq_true rfl⟩) (c_preV (ci := 1) hk hH hS hg rfl) rfl rfl hl.1 rfl (lv_room (Nat.le_of_ble_eq_true rfl)) dX0_rest_2 hR⟩) ?_
  clear hf
  refine Jrow (fun H locs ls hH hS hl k => lv_astoreF (lv' := [(4, va_rf x2), (0, .ref a0), (1, .int p1), (2, .int p2), (3, .int p3)]) hx hb dX0_rest_5 hl (by decide) rfl k) ?_
  refine Jrow (fun H locs ls hH hS hl k => lv_aload_n hx hb dX0_rest_7 rfl (lv_at hl 1 rfl) (k ls hl)) ?_
  refine Jrow (fun H locs ls hH hS hl k => lv_iload_n hx hb dX0_rest_8 rfl (lv_at hl 3 rfl) (k ls hl)) ?_
  refine Jgd (fun hg => ?_)
  refine Jcl2 (fun x4 σ3 hf => ?_)
  refine Jcall (v := (some (va_rf x4))) (rest := []) (mX0_portAt l E hf).1 ⟨rfl, rfl⟩ (fun H locs ls hH hS hl hR => ⟨_, va_runV (C := RX0) (As := [.int p2]) ⟨hx, hb, hml, hown, hts⟩ (mX0_portAt l E hf).2 (cwV 1 hts (lw_V q601 q603 qs16 q88 q604) rfl rfl rfl (by decide +kernel) ⟨Nat.le_of_ble_eq_true rfl, Nat.le_of_ble_eq_true rfl⟩) (c_preV (ci := 1) hk hH hS hg rfl) rfl rfl hl.1 rfl (lv_room (Nat.le_of_ble_eq_true rfl)) dX0_rest_9 hR⟩) ?_
  clear hf
  refine Jrow (fun H locs ls hH hS hl k => lv_astoreF (lv' := [(5, va_rf x4), (4, va_rf x2), (0, .ref a0), (1, .int p1), (2, .int p2), (3, .int p3)]) hx hb dX0_rest_12 hl (by decide) (by cases x2 <;> rfl) k) ?_
  refine Jrow (fun H locs ls hH hS hl k => lv_aload_n hx hb dX0_rest_14 rfl (lv_at hl 2 rfl) (k ls hl)) ?_
  refine Jrow (fun H locs ls hH hS hl k => lv_iload_n hx hb dX0_rest_15 rfl (lv_at hl 5 rfl) (k ls hl)) ?_
  refine Jgd (fun hg => ?_)
  refine Jcl2 (fun x6 σ5 hf => ?_)
  refine Jcall (v := (some (va_rf x6))) (rest := []) (mX0_shipAt l E hf).1 ⟨rfl, rfl⟩ (fun H locs ls hH hS hl hR => ⟨_, va_runV (C := RX0) (As := [.int p3]) ⟨hx, hb, hml, hown, hts⟩ (mX0_shipAt l E hf).2 (cwV 1 hts (lw_V q703 q705 qs18 q88 q706) rfl rfl rfl (by decide +kernel) ⟨Nat.le_of_ble_eq_true rfl, Nat.le_of_ble_eq_true rfl⟩) (c_preV (ci := 1) hk hH hS hg rfl) rfl rfl hl.1 rfl (lv_room (Nat.le_of_ble_eq_true rfl)) dX0_rest_16 hR⟩) ?_
  clear hf
  refine Jrow (fun H locs ls hH hS hl k => lv_astoreF (lv' := [(6, va_rf x6), (5, va_rf x4), (4, va_rf x2), (0, .ref a0), (1, .int p1), (2, .int p2), (3, .int p3)]) hx hb dX0_rest_19 hl (by decide) (by cases x4 <;> rfl) k) ?_
  refine Jrow (fun H locs ls hH hS hl k => lv_aloadF hx hb dX0_rest_21 (lv_at hl 2 rfl) (k ls hl)) ?_
  refine Jjn0 (fun  X22 => J p l e (headSpec (ws_ yX0_rest cX0_rest 8 (some .int)) (rmC 105 4124 σ σz)).room s m ([.ref a0, .int p1, .int p2, .int p3] : List Value).toArray below meth c 8 E (cZ σ) (cS σ) (MQ below (cQ E (some (.int r)) σz) ([.ref a0, .int p1, .int p2, .int p3] : List Value).toArray s (cZ σz - cZ σ) (cS σz - cS σ) (EA E)) (r, σz) X22 σ5 36 [] []) (?_) (fun k7 hk7 => ?_)
  · refine Jrow (fun H locs ls hH hS hl k => lv_iconst (v := (-1:Int32)) hx hb dX0_rest_36 (by decide) (k ls hl)) ?_
    exact Jiret hx hb hr hlocks dX0_rest_37
  · rcases x2 with _ | x8
    · refine Joc0 ?_
      refine Jrow (fun H locs ls hH hS hl k => lv_ifnullN (tgt := 36) hx hb dX0_rest_23 (by decide) (k ls hl)) ?_
      exact Jsub [] rfl (hk7)
    · refine Joc1 ?_
      refine Jrow (fun H locs ls hH hS hl k => lv_ifnull hx hb dX0_rest_23 (k ls hl)) ?_
      refine Jrow (fun H locs ls hH hS hl k => lv_aloadF hx hb dX0_rest_26 (lv_at hl 1 rfl) (k ls hl)) ?_
      rcases x4 with _ | x9
      · refine Joc0 ?_
        refine Jrow (fun H locs ls hH hS hl k => lv_ifnullN (tgt := 36) hx hb dX0_rest_28 (by decide) (k ls hl)) ?_
        exact Jsub [] rfl (hk7)
      · refine Joc1 ?_
        refine Jrow (fun H locs ls hH hS hl k => lv_ifnull hx hb dX0_rest_28 (k ls hl)) ?_
        refine Jrow (fun H locs ls hH hS hl k => lv_aloadF hx hb dX0_rest_31 (lv_at hl 0 rfl) (k ls hl)) ?_
        rcases x6 with _ | x10
        · refine Joc0 ?_
          refine Jrow (fun H locs ls hH hS hl k => lv_ifnonnullN hx hb dX0_rest_33 (k ls hl)) ?_
          exact Jsub [] rfl (hk7)
        · refine Joc1 ?_
          refine Jrow (fun H locs ls hH hS hl k => lv_ifnonnull (tgt := 38) hx hb dX0_rest_33 (by decide) (k ls hl)) ?_
          refine Jrow (fun H locs ls hH hS hl k => lv_aload hx hb dX0_rest_38 (lv_at hl 2 rfl) (k ls hl)) ?_
          refine Jrow (fun H locs ls hH hS hl k => lv_aload hx hb dX0_rest_40 (lv_at hl 1 rfl) (k ls hl)) ?_
          refine Jite (fun hc => ?_) (fun hc => ?_)
          · refine Jrow (fun H locs ls hH hS hl k => lv_acmp_ne (rx := (some x8)) (ry := (some x9)) (tgt := 48) hx hb dX0_rest_42 (by decide) (fun h => absurd (congrArg some hc) h) (fun _ => (k ls hl))) ?_
            clear hc
            refine Jrow (fun H locs ls hH hS hl k => lv_bipush (v := (-2:Int32)) hx hb dX0_rest_45 (by decide) (k ls hl)) ?_
            exact Jiret hx hb hr hlocks dX0_rest_47
          · refine Jrow (fun H locs ls hH hS hl k => lv_acmp_ne (rx := (some x8)) (ry := (some x9)) (tgt := 48) hx hb dX0_rest_42 (by decide) (fun _ => (k ls hl)) (fun h => absurd (Option.some.inj h) hc)) ?_
            clear hc
            refine Jrow (fun H locs ls hH hS hl k => lv_aload_n hx hb dX0_rest_48 rfl (lv_at hl 3 rfl) (k ls hl)) ?_
            refine Jrow (fun H locs ls hH hS hl k => lv_iconst (v := (0:Int32)) hx hb dX0_rest_49 (by decide) (k ls hl)) ?_
            refine Jrow (fun H locs ls hH hS hl k => lv_aload hx hb dX0_rest_50 (lv_at hl 2 rfl) (k ls hl)) ?_
            refine Jrow (fun H locs ls hH hS hl k => lv_aload hx hb dX0_rest_52 (lv_at hl 1 rfl) (k ls hl)) ?_
            refine Jrow (fun H locs ls hH hS hl k => lv_aload hx hb dX0_rest_54 (lv_at hl 0 rfl) (k ls hl)) ?_
            refine Jgd (fun hg => ?_)
            refine Jcl2 (fun _ σ11 hf => ?_)
            refine Jcall (v := none) (rest := []) (mX0_findSide l E hf).1 ⟨rfl, rfl⟩ (fun H locs ls hH hS hl hR => ⟨_, va_runV (C := RX0) (As := [.int (0:Int32), .ref x8, .ref x9, .ref x10]) ⟨hx, hb, hml, hown, hts⟩ (mX0_findSide l E hf).2 (cwV 4 hts (lw_V q1060 q1062 qs33 q88 q1063) rfl rfl rfl (by decide +kernel) ⟨Nat.le_of_ble_eq_true rfl, Nat.le_of_ble_eq_true rfl⟩) (c_preV (ci := 1) hk hH hS hg rfl) rfl rfl hl.1 rfl (lv_room (Nat.le_of_ble_eq_true rfl)) dX0_rest_56 hR⟩) ?_
            clear hf
            refine Jrow (fun H locs ls hH hS hl k => lv_aload_n hx hb dX0_rest_59 rfl (lv_at hl 3 rfl) (k ls hl)) ?_
            refine Jrow (fun H locs ls hH hS hl k => lv_iconst (v := (1:Int32)) hx hb dX0_rest_60 (by decide) (k ls hl)) ?_
            refine Jrow (fun H locs ls hH hS hl k => lv_aload hx hb dX0_rest_61 (lv_at hl 1 rfl) (k ls hl)) ?_
            refine Jrow (fun H locs ls hH hS hl k => lv_aload hx hb dX0_rest_63 (lv_at hl 2 rfl) (k ls hl)) ?_
            refine Jrow (fun H locs ls hH hS hl k => lv_aload hx hb dX0_rest_65 (lv_at hl 0 rfl) (k ls hl)) ?_
            refine Jgd (fun hg => ?_)
            refine Jcl2 (fun _ σ13 hf => ?_)
            refine Jcall (v := none) (rest := []) (mX0_findSide l E hf).1 ⟨rfl, rfl⟩ (fun H locs ls hH hS hl hR => ⟨_, va_runV (C := RX0) (As := [.int (1:Int32), .ref x9, .ref x8, .ref x10]) ⟨hx, hb, hml, hown, hts⟩ (mX0_findSide l E hf).2 (cwV 4 hts (lw_V q1060 q1062 qs33 q88 q1063) rfl rfl rfl (by decide +kernel) ⟨Nat.le_of_ble_eq_true rfl, Nat.le_of_ble_eq_true rfl⟩) (c_preV (ci := 1) hk hH hS hg rfl) rfl rfl hl.1 rfl (lv_room (Nat.le_of_ble_eq_true rfl)) dX0_rest_67 hR⟩) ?_
            clear hf
            refine Jrow (fun H locs ls hH hS hl k => lv_iconst (v := (0:Int32)) hx hb dX0_rest_70 (by decide) (k ls hl)) ?_
            refine Jrow (fun H locs ls hH hS hl k => lv_istore (lv' := [(7, .int (0:Int32)), (6, .ref x10), (5, .ref x9), (4, .ref x8), (0, .ref a0), (1, .int p1), (2, .int p2), (3, .int p3)]) hx hb dX0_rest_71 hl (by decide) rfl k) ?_
            refine Jsub [4, 0] rfl (Plp2 (fun (x15 : Int32) (σ16 : CS) X21 => J p l e (headSpec (ws_ yX0_rest cX0_rest 8 (some .int)) (rmC 105 4124 σ σz)).room s m ([.ref a0, .int p1, .int p2, .int p3] : List Value).toArray below meth c 8 E (cZ σ) (cS σ) (MQ below (cQ E (some (.int r)) σz) ([.ref a0, .int p1, .int p2, .int p3] : List Value).toArray s (cZ σz - cZ σ) (cS σz - cS σ) (EA E)) (r, σz) X21 σ16 73 [(0, .ref a0), (7, .int x15)] []) (fun _ _ => Jnone) (fun k17 hk17 x15 σ16 => ?_))
            refine Jrow (fun H locs ls hH hS hl k => lv_iload hx hb dX0_rest_73 (lv_at hl 1 rfl) (k ls hl)) ?_
            refine Jrow (fun H locs ls hH hS hl k => lv_bipush (v := (100:Int32)) hx hb dX0_rest_75 (by decide) (k ls hl)) ?_
            refine Jite (fun hc => ?_) (fun hc => ?_)
            · refine Jrow (fun H locs ls hH hS hl k => lv_icmp_ge (tgt := 106) hx hb dX0_rest_77 (by decide) (fun _ => (k ls hl)) (fun h => absurd hc h)) ?_
              clear hc
              refine Jrow (fun H locs ls hH hS hl k => lv_bipush (v := (-5:Int32)) hx hb dX0_rest_106 (by decide) (k ls hl)) ?_
              exact Jiret hx hb hr hlocks dX0_rest_108
            · refine Jrow (fun H locs ls hH hS hl k => lv_icmp_ge (tgt := 106) hx hb dX0_rest_77 (by decide) (fun h => absurd h hc) (fun _ => (k ls hl))) ?_
              clear hc
              refine Jrow (fun H locs ls hH hS hl k => lv_aload_n hx hb dX0_rest_80 rfl (lv_at hl 0 rfl) (k ls hl)) ?_
              refine Jrow (fun H locs ls hH hS hl k => lv_iload hx hb dX0_rest_81 (lv_at hl 1 rfl) (k ls hl)) ?_
              refine Jrow (fun H locs ls hH hS hl k => lv_bipush (v := (10:Int32)) hx hb dX0_rest_83 (by decide) (k ls hl)) ?_
              refine Jrow (fun H locs ls hH hS hl k => lv_idiv hx hb dX0_rest_85 (by decide) (k ls hl)) ?_
              refine Jrow (fun H locs ls hH hS hl k => lv_iload hx hb dX0_rest_86 (lv_at hl 1 rfl) (k ls hl)) ?_
              refine Jrow (fun H locs ls hH hS hl k => lv_bipush (v := (10:Int32)) hx hb dX0_rest_88 (by decide) (k ls hl)) ?_
              refine Jrow (fun H locs ls hH hS hl k => lv_irem hx hb dX0_rest_90 (by decide) (k ls hl)) ?_
              refine Jgd (fun hg => ?_)
              refine Jcl2 (fun x19 σ18 hf => ?_)
              refine Jcall (v := (some (.int x19))) (rest := []) (mX0_isRest l E hf).1 ⟨rfl, rfl⟩ (fun H locs ls hH hS hl hR => ⟨_, va_runV (C := RX0) (As := [.int (x15 / (10:Int32)), .int (x15 - x15 / (10:Int32) * (10:Int32))]) ⟨hx, hb, hml, hown, hts⟩ (mX0_isRest l E hf).2 (cwV 2 hts (lw_V q1066 q1068 qs34 q88 q1069) rfl rfl rfl (by decide +kernel) ⟨Nat.le_of_ble_eq_true rfl, Nat.le_of_ble_eq_true rfl⟩) (c_preV (ci := 1) hk hH hS hg rfl) rfl rfl hl.1 rfl (lv_room (Nat.le_of_ble_eq_true rfl)) dX0_rest_91 hR⟩) ?_
              clear hf
              refine Jite (fun hc => ?_) (fun hc => ?_)
              · refine Jrow (fun H locs ls hH hS hl k => lv_if_eq (tgt := 100) hx hb dX0_rest_94 (by decide) (fun _ => (k ls hl)) (fun h => absurd hc h)) ?_
                clear hc
                refine Jbd (fun x20 ex20 => ?_)
                refine Jrow (fun H locs ls hH hS hl k => lv_iinc (v := x20) (lv' := [(7, .int x20), (0, .ref a0)]) hx hb dX0_rest_100 hl (k := 1) rfl (by rw [ex20]; rfl) (by decide) rfl k) ?_
                clear ex20
                refine Jrow (fun H locs ls hH hS hl k => lv_goto (tgt := 73) hx hb dX0_rest_103 (by decide) (k ls hl)) ?_
                exact Jsub [1, 0] rfl (hk17 x20 σ18)
              · refine Jrow (fun H locs ls hH hS hl k => lv_if_eq (tgt := 100) hx hb dX0_rest_94 (by decide) (fun h => absurd h hc) (fun _ => (k ls hl))) ?_
                clear hc
                refine Jrow (fun H locs ls hH hS hl k => lv_iload hx hb dX0_rest_97 (lv_at hl 1 rfl) (k ls hl)) ?_
                exact Jiret hx hb hr hlocks dX0_rest_99

def fX0_matter (a0 : Nat) (p1 : Int32) (σ : CS) : Option (Int32 × CS) :=
 gd (kd σ a0 2) (
 cl2 (fX0_shipAt a0 p1 σ) (fun (x2 : Option Nat) (σ1 : CS) =>
 oc x2 (
 some ((-1:Int32), σ1)) (fun (x3 : Nat) =>
 gd (hf (cK σ1 x3) 83) (
 cl (cFR σ1 x3 83) (fun (x4 : Nat) =>
 gd (kd σ1 a0 2) (
 cl2 (fX0_goForward a0 x4 (0:Int32) σ1) (fun (_ : Unit) (σ5 : CS) =>
 gd (hf (cK σ5 a0) 31) (
 cl (cFR σ5 a0 31) (fun (x7 : Nat) =>
 gd (kd σ5 x7 103) (
 gd (ib (0:Int32) (cLN σ5 x7)) (
 gd (kd σ5 a0 2) (
 cl2 (fX0_bestFrom a0 (0:Int32) (9:Int32) σ5) (fun (x9 : Int64) (σ8 : CS) =>
 bd ((cAL σ5 x7 (0:Int32).toNatClampNeg) - x9) (fun (x10 : Int64) =>
 lp (fun _ => none) (fun (k12 : Int32 → Option (Int32 × CS)) (x11 : Int32) =>
 if (20:Int32) < x11 then
 some ((-5:Int32), σ8)
 else
 gd (hf (cK σ8 x3) 83) (
 cl (cFR σ8 x3 83) (fun (x13 : Nat) =>
 gd (hf (cK σ8 x13) 50) (
 cl (cFR σ8 x13 50) (fun (x14 : Nat) =>
 gd (hf (cK σ8 x14) 63) (
 cl (cFR σ8 x14 63) (fun (x15 : Nat) =>
 gd (kd σ8 x15 101) (
 gd (ib (3:Int32) (cLN σ8 x15)) (
 if (lg_cmp (((1000:Int64) * (x11.toInt64)) * ((cAI σ8 x15 (3:Int32).toNatClampNeg).toInt64)) x10) < (0:Int32) then
 bd (x11 + (1:Int32)) (fun (x16 : Int32) =>
 k12 x16)
 else
 some (x11, σ8)))))))))) NF (0:Int32)))))))))))))))
theorem nX0_matter {a0 : Nat} {p1 : Int32} {σ : CS} : Mn σ (fX0_matter a0 p1 σ) := by
  unfold fX0_matter
  refine Mgd ?_
  refine Mcl2 (nX0_shipAt) (fun x2 σ1 => ?_)
  refine Moc ?_ (fun x3 => ?_)
  · exact Mret
  · refine Mgd ?_
    refine Mcl (fun x4 => ?_)
    refine Mgd ?_
    refine Mcl2 (nX0_goForward) (fun _ σ5 => ?_)
    refine Mgd ?_
    refine Mcl (fun x7 => ?_)
    refine Mgd ?_
    refine Mgd ?_
    refine Mgd ?_
    refine Mcl2 (nX0_bestFrom) (fun x9 σ8 => ?_)
    refine Mbd (fun x10 => ?_)
    refine Plp1 (fun (x11 : Int32) (X17 : Option (Int32 × CS)) => Mn σ8 X17) (fun _ => Mnone) (fun k12 hk12 x11 => ?_)
    refine Mite ?_ ?_
    · exact Mret
    · refine Mgd ?_
      refine Mcl (fun x13 => ?_)
      refine Mgd ?_
      refine Mcl (fun x14 => ?_)
      refine Mgd ?_
      refine Mcl (fun x15 => ?_)
      refine Mgd ?_
      refine Mgd ?_
      refine Mite ?_ ?_
      · refine Mbd (fun x16 => ?_)
        exact hk12 x16
      · exact Mret
set_option maxHeartbeats 4000000 in
set_option maxRecDepth 100000 in
theorem mX0_matter (l : Launch) (E : CE) {a0 : Nat} {p1 : Int32} {σ : CS} {r : Int32} {σz : CS} (hX : fX0_matter a0 p1 σ = some (r, σz)) : MetC l yX0_matter (ws_ yX0_matter cX0_matter 6 (some .int)) 104 4099 E σ [.ref a0, .int p1] (some (.int r)) σz := by
  refine MetC.of hX (by decide) (Nat.le_of_ble_eq_true rfl) (nX0_matter _ hX) ?_
  intro p e s m below meth c hx hb hr hml hts hown hlocks hnm hk hz0
  have hK := hk.1
  show J p l e (headSpec (ws_ yX0_matter cX0_matter 6 (some .int)) (rmC 104 4099 σ σz)).room s m ([.ref a0, .int p1] : List Value).toArray below meth c 6 E (cZ σ) (cS σ) (MQ below (cQ E (some (.int r)) σz) ([.ref a0, .int p1] : List Value).toArray s (cZ σz - cZ σ) (cS σz - cS σ) (EA E)) (r, σz) (fX0_matter a0 p1 σ) σ 0 [(0, .ref a0), (1, .int p1)] []
  unfold fX0_matter
  refine Jrow (fun H locs ls hH hS hl k => lv_aload_n hx hb dX0_matter_0 rfl (lv_at hl 0 rfl) (k ls hl)) ?_
  refine Jrow (fun H locs ls hH hS hl k => lv_iload_n hx hb dX0_matter_1 rfl (lv_at hl 1 rfl) (k ls hl)) ?_
  refine Jgd (fun hg => ?_)
  refine Jcl2 (fun x2 σ1 hf => ?_)
  refine Jcall (v := (some (va_rf x2))) (rest := []) (mX0_shipAt l E hf).1 ⟨rfl, rfl⟩ (fun H locs ls hH hS hl hR => ⟨_, va_runV (C := RX0) (As := [.int p1]) ⟨hx, hb, hml, hown, hts⟩ (mX0_shipAt l E hf).2 (cwV 1 hts (lw_V q703 q705 qs18 q88 q706) rfl rfl rfl (by decide +kernel) ⟨Nat.le_of_ble_eq_true rfl, Nat.le_of_ble_eq_true rfl⟩) (c_preV (ci := 1) hk hH hS hg rfl) rfl rfl hl.1 rfl (lv_room (Nat.le_of_ble_eq_true rfl)) dX0_matter_2 hR⟩) ?_
  clear hf
  refine Jrow (fun H locs ls hH hS hl k => lv_astore_nF (lv' := [(2, va_rf x2), (0, .ref a0), (1, .int p1)]) hx hb dX0_matter_5 rfl hl (by decide) rfl k) ?_
  refine Jrow (fun H locs ls hH hS hl k => lv_aload_nF hx hb dX0_matter_6 rfl (lv_at hl 0 rfl) (k ls hl)) ?_
  rcases x2 with _ | x3
  · refine Joc0 ?_
    refine Jrow (fun H locs ls hH hS hl k => lv_ifnonnullN hx hb dX0_matter_7 (k ls hl)) ?_
    refine Jrow (fun H locs ls hH hS hl k => lv_iconst (v := (-1:Int32)) hx hb dX0_matter_10 (by decide) (k ls hl)) ?_
    exact Jiret hx hb hr hlocks dX0_matter_11
  · refine Joc1 ?_
    refine Jrow (fun H locs ls hH hS hl k => lv_ifnonnull (tgt := 12) hx hb dX0_matter_7 (by decide) (k ls hl)) ?_
    refine Jrow (fun H locs ls hH hS hl k => lv_aload_n hx hb dX0_matter_12 rfl (lv_at hl 1 rfl) (k ls hl)) ?_
    refine Jrow (fun H locs ls hH hS hl k => lv_aload_n hx hb dX0_matter_13 rfl (lv_at hl 0 rfl) (k ls hl)) ?_
    refine Jgd (fun hg => ?_)
    refine Jcl (fun x4 hq => ?_)
    refine Jrow (fun H locs ls hH hS hl k => c_getN (F := 83) (v := .ref x4) hx hb hts hown hK hH hg (cN hk.2.2.1 22 rfl) (fun _ h => h) (fvR rfl hq) dX0_matter_14 (k ls hl)) ?_
    clear hq
    refine Jrow (fun H locs ls hH hS hl k => lv_iconst (v := (0:Int32)) hx hb dX0_matter_17 (by decide) (k ls hl)) ?_
    refine Jgd (fun hg => ?_)
    refine Jcl2 (fun _ σ5 hf => ?_)
    refine Jcall (v := none) (rest := []) (mX0_goForward l E hf).1 ⟨rfl, rfl⟩ (fun H locs ls hH hS hl hR => ⟨_, va_runV (C := RX0) (As := [.ref x4, .int (0:Int32)]) ⟨hx, hb, hml, hown, hts⟩ (mX0_goForward l E hf).2 (cwV 2 hts (lw_V q965 q967 qs24 q88 q968) rfl rfl rfl (by decide +kernel) ⟨Nat.le_of_ble_eq_true rfl, Nat.le_of_ble_eq_true rfl⟩) (c_preV (ci := 1) hk hH hS hg rfl) rfl rfl hl.1 rfl (lv_room (Nat.le_of_ble_eq_true rfl)) dX0_matter_18 hR⟩) ?_
    clear hf
    refine Jrow (fun H locs ls hH hS hl k => lv_aload_n hx hb dX0_matter_21 rfl (lv_at hl 1 rfl) (k ls hl)) ?_
    refine Jgd (fun hg => ?_)
    refine Jcl (fun x7 hq => ?_)
    refine Jrow (fun H locs ls hH hS hl k => c_get (F := 31) (v := .ref x7) hx hb hts hown hK hH hg (hts _ q260) (fun _ h => h) (fvR rfl hq) dX0_matter_22 (k ls hl)) ?_
    clear hq
    refine Jrow (fun H locs ls hH hS hl k => lv_iconst (v := (0:Int32)) hx hb dX0_matter_25 (by decide) (k ls hl)) ?_
    refine Jgd (fun hk1 => ?_)
    refine Jgd (fun hg => ?_)
    refine Jrow (fun H locs ls hH hS hl k => c_lald hx hb hK hH hk1 hg dX0_matter_26 (k ls hl)) ?_
    refine Jrow (fun H locs ls hH hS hl k => lv_aload_n hx hb dX0_matter_27 rfl (lv_at hl 1 rfl) (k ls hl)) ?_
    refine Jrow (fun H locs ls hH hS hl k => lv_iconst (v := (0:Int32)) hx hb dX0_matter_28 (by decide) (k ls hl)) ?_
    refine Jrow (fun H locs ls hH hS hl k => lv_bipush (v := (9:Int32)) hx hb dX0_matter_29 (by decide) (k ls hl)) ?_
    refine Jgd (fun hg => ?_)
    refine Jcl2 (fun x9 σ8 hf => ?_)
    refine Jcall (v := (some (.long x9))) (rest := [.long (cAL σ5 x7 (0:Int32).toNatClampNeg)]) (mX0_bestFrom l E hf).1 ⟨rfl, rfl⟩ (fun H locs ls hH hS hl hR => ⟨_, va_runV (C := RX0) (As := [.int (0:Int32), .int (9:Int32)]) ⟨hx, hb, hml, hown, hts⟩ (mX0_bestFrom l E hf).2 (cwV 2 hts (lw_V q1006 q1008 qs28 q88 q1009) rfl rfl rfl (by decide +kernel) ⟨Nat.le_of_ble_eq_true rfl, Nat.le_of_ble_eq_true rfl⟩) (c_preV (ci := 1) hk hH hS hg rfl) rfl rfl hl.1 rfl (lv_room (Nat.le_of_ble_eq_true rfl)) dX0_matter_31 hR⟩) ?_
    clear hf
    refine Jrow (fun H locs ls hH hS hl k => lv_lsub hx hb dX0_matter_34 (k ls hl)) ?_
    refine JbdL (fun x10 => ?_)
    refine Jrow (fun H locs ls hH hS hl k => lv_lstore_n (lv' := [(3, .long x10), (2, .ref x3), (0, .ref a0), (1, .int p1)]) hx hb dX0_matter_35 rfl hl (by decide) rfl k) ?_
    refine Jrow (fun H locs ls hH hS hl k => lv_iconst (v := (0:Int32)) hx hb dX0_matter_36 (by decide) (k ls hl)) ?_
    refine Jrow (fun H locs ls hH hS hl k => lv_istore (lv' := [(5, .int (0:Int32)), (3, .long x10), (2, .ref x3), (0, .ref a0), (1, .int p1)]) hx hb dX0_matter_37 hl (by decide) rfl k) ?_
    refine Jsub [2, 1, 0] rfl (Plp1 (fun (x11 : Int32) X17 => J p l e (headSpec (ws_ yX0_matter cX0_matter 6 (some .int)) (rmC 104 4099 σ σz)).room s m ([.ref a0, .int p1] : List Value).toArray below meth c 6 E (cZ σ) (cS σ) (MQ below (cQ E (some (.int r)) σz) ([.ref a0, .int p1] : List Value).toArray s (cZ σz - cZ σ) (cS σz - cS σ) (EA E)) (r, σz) X17 σ8 39 [(2, .ref x3), (3, .long x10), (5, .int x11)] []) (fun _ => Jnone) (fun k12 hk12 x11 => ?_))
    refine Jrow (fun H locs ls hH hS hl k => lv_iload hx hb dX0_matter_39 (lv_at hl 2 rfl) (k ls hl)) ?_
    refine Jrow (fun H locs ls hH hS hl k => lv_bipush (v := (20:Int32)) hx hb dX0_matter_41 (by decide) (k ls hl)) ?_
    refine Jite (fun hc => ?_) (fun hc => ?_)
    · refine Jrow (fun H locs ls hH hS hl k => lv_icmp_gt (tgt := 81) hx hb dX0_matter_43 (by decide) (fun _ => (k ls hl)) (fun h => absurd hc h)) ?_
      clear hc
      refine Jrow (fun H locs ls hH hS hl k => lv_bipush (v := (-5:Int32)) hx hb dX0_matter_81 (by decide) (k ls hl)) ?_
      exact Jiret hx hb hr hlocks dX0_matter_83
    · refine Jrow (fun H locs ls hH hS hl k => lv_icmp_gt (tgt := 81) hx hb dX0_matter_43 (by decide) (fun h => absurd h hc) (fun _ => (k ls hl))) ?_
      clear hc
      refine Jrow (fun H locs ls hH hS hl k => lv_ldc2 (v := (1000:Int64)) hx hb hown (hts _ q985) dX0_matter_46 (k ls hl)) ?_
      refine Jrow (fun H locs ls hH hS hl k => lv_iload hx hb dX0_matter_49 (lv_at hl 2 rfl) (k ls hl)) ?_
      refine Jrow (fun H locs ls hH hS hl k => lv_i2l hx hb dX0_matter_51 rfl (k ls hl)) ?_
      refine Jrow (fun H locs ls hH hS hl k => lv_lmul hx hb dX0_matter_52 (k ls hl)) ?_
      refine Jrow (fun H locs ls hH hS hl k => lv_aload_n hx hb dX0_matter_53 rfl (lv_at hl 0 rfl) (k ls hl)) ?_
      refine Jgd (fun hg => ?_)
      refine Jcl (fun x13 hq => ?_)
      refine Jrow (fun H locs ls hH hS hl k => c_getN (F := 83) (v := .ref x13) hx hb hts hown hK hH hg (cN hk.2.2.1 22 rfl) (fun _ h => h) (fvR rfl hq) dX0_matter_54 (k ls hl)) ?_
      clear hq
      refine Jgd (fun hg => ?_)
      refine Jcl (fun x14 hq => ?_)
      refine Jrow (fun H locs ls hH hS hl k => c_getN (F := 50) (v := .ref x14) hx hb hts hown hK hH hg (cN hk.2.2.1 11 rfl) (fun _ h => h) (fvR rfl hq) dX0_matter_57 (k ls hl)) ?_
      clear hq
      refine Jgd (fun hg => ?_)
      refine Jcl (fun x15 hq => ?_)
      refine Jrow (fun H locs ls hH hS hl k => c_getN (F := 63) (v := .ref x15) hx hb hts hown hK hH hg (cN hk.2.2.1 17 rfl) (fun _ h => h) (fvR rfl hq) dX0_matter_60 (k ls hl)) ?_
      clear hq
      refine Jrow (fun H locs ls hH hS hl k => lv_iconst (v := (3:Int32)) hx hb dX0_matter_63 (by decide) (k ls hl)) ?_
      refine Jgd (fun hk1 => ?_)
      refine Jgd (fun hg => ?_)
      refine Jrow (fun H locs ls hH hS hl k => c_iald hx hb hK hH hk1 hg dX0_matter_64 (k ls hl)) ?_
      refine Jrow (fun H locs ls hH hS hl k => lv_i2l hx hb dX0_matter_65 rfl (k ls hl)) ?_
      refine Jrow (fun H locs ls hH hS hl k => lv_lmul hx hb dX0_matter_66 (k ls hl)) ?_
      refine Jrow (fun H locs ls hH hS hl k => lv_lload_n hx hb dX0_matter_67 rfl (lv_at hl 1 rfl) (k ls hl)) ?_
      refine Jrow (fun H locs ls hH hS hl k => W.lcmp hx hb dX0_matter_68 (k ls hl)) ?_
      refine Jite (fun hc => ?_) (fun hc => ?_)
      · refine Jrow (fun H locs ls hH hS hl k => lv_if_lt (tgt := 75) hx hb dX0_matter_69 (by decide) (fun _ => (k ls hl)) (fun h => absurd hc h)) ?_
        clear hc
        refine Jbd (fun x16 ex16 => ?_)
        refine Jrow (fun H locs ls hH hS hl k => lv_iinc (v := x16) (lv' := [(5, .int x16), (2, .ref x3), (3, .long x10)]) hx hb dX0_matter_75 hl (k := 2) rfl (by rw [ex16]; rfl) (by decide) rfl k) ?_
        clear ex16
        refine Jrow (fun H locs ls hH hS hl k => lv_goto (tgt := 39) hx hb dX0_matter_78 (by decide) (k ls hl)) ?_
        exact Jsub [1, 2, 0] rfl (hk12 x16)
      · refine Jrow (fun H locs ls hH hS hl k => lv_if_lt (tgt := 75) hx hb dX0_matter_69 (by decide) (fun h => absurd h hc) (fun _ => (k ls hl))) ?_
        clear hc
        refine Jrow (fun H locs ls hH hS hl k => lv_iload hx hb dX0_matter_72 (lv_at hl 2 rfl) (k ls hl)) ?_
        exact Jiret hx hb hr hlocks dX0_matter_74

def fX0_turns (a0 : Nat) (p1 : Nat) (p2 : Int32) (p3 : Int32) (σ : CS) : Option (Int32 × CS) :=
 gd (hf (cK σ p1) 83) (
 cl (cFR σ p1 83) (fun (x1 : Nat) =>
 gd (hf (cK σ x1) 50) (
 cl (cFR σ x1 50) (fun (x2 : Nat) =>
 gd (hf (cK σ x2) 63) (
 cl (cFR σ x2 63) (fun (x3 : Nat) =>
 gd (kd σ x3 101) (
 gd (ib (0:Int32) (cLN σ x3)) (
 cl (fX0_in ((cAI σ x3 (0:Int32).toNatClampNeg) + p2) (0:Int32) (1000:Int32)) (fun (x4 : Int32) =>
 if x4 = (0:Int32) then
 some ((0:Int32), σ)
 else
 gd (hf (cK σ x2) 66) (
 bd (uFI σ x2 66 p2) (fun (σ5 : CS) =>
 gd (hf (cK σ5 p1) 83) (
 cl (cFR σ5 p1 83) (fun (x6 : Nat) =>
 gd (kd σ5 a0 2) (
 cl2 (fX0_goForward a0 x6 (0:Int32) σ5) (fun (_ : Unit) (σ7 : CS) =>
 gd (hf (cK σ7 x2) 66) (
 bd (uFI σ7 x2 66 (0:Int32)) (fun (σ9 : CS) =>
 gd (kd σ9 a0 2) (
 cl2 (fX0_plainNow a0 σ9) (fun (x11 : Int32) (σ10 : CS) =>
 jn (fun (x12 : Int32) => gd (isb x12) (some (x12, σ10))) (fun (k13 : Int32 → Option (Int32 × CS)) =>
 if x11 = p3 then
 k13 (0:Int32)
 else
 k13 (1:Int32)))))))))))))))))))))
theorem nX0_turns {a0 : Nat} {p1 : Nat} {p2 : Int32} {p3 : Int32} {σ : CS} : Mn σ (fX0_turns a0 p1 p2 p3 σ) := by
  unfold fX0_turns
  refine Mgd ?_
  refine Mcl (fun x1 => ?_)
  refine Mgd ?_
  refine Mcl (fun x2 => ?_)
  refine Mgd ?_
  refine Mcl (fun x3 => ?_)
  refine Mgd ?_
  refine Mgd ?_
  refine Mcl (fun x4 => ?_)
  refine Mite ?_ ?_
  · exact Mret
  · refine Mgd ?_
    refine Mst (Nat.le_refl _) (Nat.le_refl _) (fun σ5 => ?_)
    refine Mgd ?_
    refine Mcl (fun x6 => ?_)
    refine Mgd ?_
    refine Mcl2 (nX0_goForward) (fun _ σ7 => ?_)
    refine Mgd ?_
    refine Mst (Nat.le_refl _) (Nat.le_refl _) (fun σ9 => ?_)
    refine Mgd ?_
    refine Mcl2 (nX0_plainNow) (fun x11 σ10 => ?_)
    refine Mjn1 (fun (x12 : Int32) (X14 : Option (Int32 × CS)) => Mn σ10 X14) (fun x12 => ?_) (fun k13 hk13 => ?_)
    · refine Mgd ?_
      exact Mret
    · refine Mite ?_ ?_
      · exact hk13 (0:Int32)
      · exact hk13 (1:Int32)
set_option maxHeartbeats 4000000 in
set_option maxRecDepth 100000 in
theorem mX0_turns (l : Launch) (E : CE) {a0 : Nat} {p1 : Nat} {p2 : Int32} {p3 : Int32} {σ : CS} {r : Int32} {σz : CS} (hX : fX0_turns a0 p1 p2 p3 σ = some (r, σz)) : MetC l yX0_turns (ws_ yX0_turns cX0_turns 5 (some .boolean)) 104 4099 E σ [.ref a0, .ref p1, .int p2, .int p3] (some (.int r)) σz := by
  refine MetC.of hX (by decide) (Nat.le_of_ble_eq_true rfl) (nX0_turns _ hX) ?_
  intro p e s m below meth c hx hb hr hml hts hown hlocks hnm hk hz0
  have hK := hk.1
  show J p l e (headSpec (ws_ yX0_turns cX0_turns 5 (some .boolean)) (rmC 104 4099 σ σz)).room s m ([.ref a0, .ref p1, .int p2, .int p3] : List Value).toArray below meth c 5 E (cZ σ) (cS σ) (MQ below (cQ E (some (.int r)) σz) ([.ref a0, .ref p1, .int p2, .int p3] : List Value).toArray s (cZ σz - cZ σ) (cS σz - cS σ) (EA E)) (r, σz) (fX0_turns a0 p1 p2 p3 σ) σ 0 [(0, .ref a0), (1, .ref p1), (2, .int p2), (3, .int p3)] []
  unfold fX0_turns
  refine Jrow (fun H locs ls hH hS hl k => lv_aload_n hx hb dX0_turns_0 rfl (lv_at hl 1 rfl) (k ls hl)) ?_
  refine Jgd (fun hg => ?_)
  refine Jcl (fun x1 hq => ?_)
  refine Jrow (fun H locs ls hH hS hl k => c_getN (F := 83) (v := .ref x1) hx hb hts hown hK hH hg (cN hk.2.2.1 22 rfl) (fun _ h => h) (fvR rfl hq) dX0_turns_1 (k ls hl)) ?_
  clear hq
  refine Jgd (fun hg => ?_)
  refine Jcl (fun x2 hq => ?_)
  refine Jrow (fun H locs ls hH hS hl k => c_getN (F := 50) (v := .ref x2) hx hb hts hown hK hH hg (cN hk.2.2.1 11 rfl) (fun _ h => h) (fvR rfl hq) dX0_turns_4 (k ls hl)) ?_
  clear hq
  refine Jrow (fun H locs ls hH hS hl k => lv_astore (lv' := [(4, .ref x2), (0, .ref a0), (1, .ref p1), (2, .int p2), (3, .int p3)]) hx hb dX0_turns_7 hl (by decide) rfl k) ?_
  refine Jrow (fun H locs ls hH hS hl k => lv_aload hx hb dX0_turns_9 (lv_at hl 0 rfl) (k ls hl)) ?_
  refine Jgd (fun hg => ?_)
  refine Jcl (fun x3 hq => ?_)
  refine Jrow (fun H locs ls hH hS hl k => c_getN (F := 63) (v := .ref x3) hx hb hts hown hK hH hg (cN hk.2.2.1 17 rfl) (fun _ h => h) (fvR rfl hq) dX0_turns_11 (k ls hl)) ?_
  clear hq
  refine Jrow (fun H locs ls hH hS hl k => lv_iconst (v := (0:Int32)) hx hb dX0_turns_14 (by decide) (k ls hl)) ?_
  refine Jgd (fun hk1 => ?_)
  refine Jgd (fun hg => ?_)
  refine Jrow (fun H locs ls hH hS hl k => c_iald hx hb hK hH hk1 hg dX0_turns_15 (k ls hl)) ?_
  refine Jrow (fun H locs ls hH hS hl k => lv_iload_n hx hb dX0_turns_16 rfl (lv_at hl 3 rfl) (k ls hl)) ?_
  refine Jrow (fun H locs ls hH hS hl k => lv_iadd hx hb dX0_turns_17 (k ls hl)) ?_
  refine Jrow (fun H locs ls hH hS hl k => lv_iconst (v := (0:Int32)) hx hb dX0_turns_18 (by decide) (k ls hl)) ?_
  refine Jrow (fun H locs ls hH hS hl k => lv_sipush (v := (1000:Int32)) hx hb dX0_turns_19 (by decide) (k ls hl)) ?_
  refine Jcl (fun x4 hf => ?_)
  refine JcallS (v := .int x4) (rest := []) hz0 ⟨rfl, rfl⟩ sQi_o (fun H locs ls hl hR => va_runS (As := [.int ((cAI σ x3 (0:Int32).toNatClampNeg) + p2), .int (0:Int32), .int (1000:Int32)]) ⟨hx, hb, hml, hown, hts⟩ (mX0_in l hf) (va_cwS 3 hts (lw_S q319 q320 q88 q321) rfl rfl rfl (by decide +kernel) ⟨Nat.le_of_ble_eq_true rfl, Nat.le_of_ble_eq_true rfl⟩) s_pre rfl rfl hl.1 rfl (lv_room (Nat.le_of_ble_eq_true rfl)) dX0_turns_22 hR) ?_
  clear hf
  refine Jite (fun hc => ?_) (fun hc => ?_)
  · refine Jrow (fun H locs ls hH hS hl k => lv_if_ne (tgt := 30) hx hb dX0_turns_25 (by decide) (fun h => absurd hc h) (fun _ => (k ls hl))) ?_
    clear hc
    refine Jrow (fun H locs ls hH hS hl k => lv_iconst (v := (0:Int32)) hx hb dX0_turns_28 (by decide) (k ls hl)) ?_
    exact Jzret hx hb hr hlocks rfl dX0_turns_29
  · refine Jrow (fun H locs ls hH hS hl k => lv_if_ne (tgt := 30) hx hb dX0_turns_25 (by decide) (fun _ => (k ls hl)) (fun h => absurd h hc)) ?_
    clear hc
    refine Jrow (fun H locs ls hH hS hl k => lv_aload hx hb dX0_turns_30 (lv_at hl 0 rfl) (k ls hl)) ?_
    refine Jrow (fun H locs ls hH hS hl k => lv_iload_n hx hb dX0_turns_32 rfl (lv_at hl 3 rfl) (k ls hl)) ?_
    refine Jgd (fun hg => ?_)
    refine Jst (σ1 := uFI σ x2 66 p2) rfl rfl (fun H locs ls hH hS hl k => c_putIN (F := 66) (ty := .int) (x := p2) hx hb hts hown hK hH hS hg (cN hk.2.2.1 18 rfl) (fun _ h => h) rfl rfl (by decide +kernel) rfl rfl rfl dX0_turns_33 k) (fun σ5 => ?_)
    refine Jrow (fun H locs ls hH hS hl k => lv_aload_n hx hb dX0_turns_36 rfl (lv_at hl 1 rfl) (k ls hl)) ?_
    refine Jrow (fun H locs ls hH hS hl k => lv_aload_n hx hb dX0_turns_37 rfl (lv_at hl 2 rfl) (k ls hl)) ?_
    refine Jgd (fun hg => ?_)
    refine Jcl (fun x6 hq => ?_)
    refine Jrow (fun H locs ls hH hS hl k => c_getN (F := 83) (v := .ref x6) hx hb hts hown hK hH hg (cN hk.2.2.1 22 rfl) (fun _ h => h) (fvR rfl hq) dX0_turns_38 (k ls hl)) ?_
    clear hq
    refine Jrow (fun H locs ls hH hS hl k => lv_iconst (v := (0:Int32)) hx hb dX0_turns_41 (by decide) (k ls hl)) ?_
    refine Jgd (fun hg => ?_)
    refine Jcl2 (fun _ σ7 hf => ?_)
    refine Jcall (v := none) (rest := []) (mX0_goForward l E hf).1 ⟨rfl, rfl⟩ (fun H locs ls hH hS hl hR => ⟨_, va_runV (C := RX0) (As := [.ref x6, .int (0:Int32)]) ⟨hx, hb, hml, hown, hts⟩ (mX0_goForward l E hf).2 (cwV 2 hts (lw_V q965 q967 qs24 q88 q968) rfl rfl rfl (by decide +kernel) ⟨Nat.le_of_ble_eq_true rfl, Nat.le_of_ble_eq_true rfl⟩) (c_preV (ci := 1) hk hH hS hg rfl) rfl rfl hl.1 rfl (lv_room (Nat.le_of_ble_eq_true rfl)) dX0_turns_42 hR⟩) ?_
    clear hf
    refine Jrow (fun H locs ls hH hS hl k => lv_aload hx hb dX0_turns_45 (lv_at hl 0 rfl) (k ls hl)) ?_
    refine Jrow (fun H locs ls hH hS hl k => lv_iconst (v := (0:Int32)) hx hb dX0_turns_47 (by decide) (k ls hl)) ?_
    refine Jgd (fun hg => ?_)
    refine Jst (σ1 := uFI σ7 x2 66 (0:Int32)) rfl rfl (fun H locs ls hH hS hl k => c_putIN (F := 66) (ty := .int) (x := (0:Int32)) hx hb hts hown hK hH hS hg (cN hk.2.2.1 18 rfl) (fun _ h => h) rfl rfl (by decide +kernel) rfl rfl rfl dX0_turns_48 k) (fun σ9 => ?_)
    refine Jrow (fun H locs ls hH hS hl k => lv_aload_n hx hb dX0_turns_51 rfl (lv_at hl 1 rfl) (k ls hl)) ?_
    refine Jgd (fun hg => ?_)
    refine Jcl2 (fun x11 σ10 hf => ?_)
    refine Jcall (v := (some (.int x11))) (rest := []) (mX0_plainNow l E hf).1 ⟨rfl, rfl⟩ (fun H locs ls hH hS hl hR => ⟨_, va_runV (C := RX0) (As := []) ⟨hx, hb, hml, hown, hts⟩ (mX0_plainNow l E hf).2 (cwV 0 hts (lw_V q1019 q1021 qs30 q88 q1022) rfl rfl rfl (by decide +kernel) ⟨Nat.le_of_ble_eq_true rfl, Nat.le_of_ble_eq_true rfl⟩) (c_preV (ci := 1) hk hH hS hg rfl) rfl rfl hl.1 rfl (lv_room (Nat.le_of_ble_eq_true rfl)) dX0_turns_52 hR⟩) ?_
    clear hf
    refine Jrow (fun H locs ls hH hS hl k => lv_iload_n hx hb dX0_turns_55 rfl (lv_at hl 4 rfl) (k ls hl)) ?_
    refine Jjn1 (fun (x12 : Int32) X14 => J p l e (headSpec (ws_ yX0_turns cX0_turns 5 (some .boolean)) (rmC 104 4099 σ σz)).room s m ([.ref a0, .ref p1, .int p2, .int p3] : List Value).toArray below meth c 5 E (cZ σ) (cS σ) (MQ below (cQ E (some (.int r)) σz) ([.ref a0, .ref p1, .int p2, .int p3] : List Value).toArray s (cZ σz - cZ σ) (cS σz - cS σ) (EA E)) (r, σz) X14 σ10 64 [] [.int x12]) (fun x12 => ?_) (fun k13 hk13 => ?_)
    · refine Jgd (fun hg => ?_)
      exact Jzret hx hb hr hlocks (isb_n hg) dX0_turns_64
    · refine Jite (fun hc => ?_) (fun hc => ?_)
      · refine Jrow (fun H locs ls hH hS hl k => lv_icmp_eq (tgt := 63) hx hb dX0_turns_56 (by decide) (fun _ => (k ls hl)) (fun h => absurd hc h)) ?_
        clear hc
        refine Jrow (fun H locs ls hH hS hl k => lv_iconst (v := (0:Int32)) hx hb dX0_turns_63 (by decide) (k ls hl)) ?_
        exact Jsub [] rfl (hk13 (0:Int32))
      · refine Jrow (fun H locs ls hH hS hl k => lv_icmp_eq (tgt := 63) hx hb dX0_turns_56 (by decide) (fun h => absurd h hc) (fun _ => (k ls hl))) ?_
        clear hc
        refine Jrow (fun H locs ls hH hS hl k => lv_iconst (v := (1:Int32)) hx hb dX0_turns_59 (by decide) (k ls hl)) ?_
        refine Jrow (fun H locs ls hH hS hl k => lv_goto (tgt := 64) hx hb dX0_turns_60 (by decide) (k ls hl)) ?_
        exact Jsub [] rfl (hk13 (1:Int32))

def fX0_edge (a0 : Nat) (p1 : Int32) (σ : CS) : Option (Int32 × CS) :=
 gd (kd σ a0 2) (
 cl2 (fX0_shipAt a0 p1 σ) (fun (x2 : Option Nat) (σ1 : CS) =>
 oc x2 (
 some ((-1:Int32), σ1)) (fun (x3 : Nat) =>
 gd (hf (cK σ1 x3) 83) (
 cl (cFR σ1 x3 83) (fun (x4 : Nat) =>
 gd (kd σ1 a0 2) (
 cl2 (fX0_goForward a0 x4 (0:Int32) σ1) (fun (_ : Unit) (σ5 : CS) =>
 gd (kd σ5 a0 2) (
 cl2 (fX0_plainNow a0 σ5) (fun (x8 : Int32) (σ7 : CS) =>
 lp (fun _ _ => none) (fun (k11 : Int32 → CS → Option (Int32 × CS)) (x9 : Int32) (σ10 : CS) =>
 if (50:Int32) < x9 then
 some ((0:Int32), σ10)
 else
 gd (kd σ10 a0 2) (
 cl2 (fX0_turns a0 x3 (-x9) x8 σ10) (fun (x13 : Int32) (σ12 : CS) =>
 if x13 = (0:Int32) then
 gd (kd σ12 a0 2) (
 cl2 (fX0_turns a0 x3 x9 x8 σ12) (fun (x15 : Int32) (σ14 : CS) =>
 if x15 = (0:Int32) then
 bd (x9 + (1:Int32)) (fun (x16 : Int32) =>
 k11 x16 σ14)
 else
 some (x9, σ14)))
 else
 some (-x9, σ12)))) NF (1:Int32) σ7)))))))))
theorem nX0_edge {a0 : Nat} {p1 : Int32} {σ : CS} : Mn σ (fX0_edge a0 p1 σ) := by
  unfold fX0_edge
  refine Mgd ?_
  refine Mcl2 (nX0_shipAt) (fun x2 σ1 => ?_)
  refine Moc ?_ (fun x3 => ?_)
  · exact Mret
  · refine Mgd ?_
    refine Mcl (fun x4 => ?_)
    refine Mgd ?_
    refine Mcl2 (nX0_goForward) (fun _ σ5 => ?_)
    refine Mgd ?_
    refine Mcl2 (nX0_plainNow) (fun x8 σ7 => ?_)
    refine Plp2 (fun (x9 : Int32) (σ10 : CS) (X17 : Option (Int32 × CS)) => Mn σ10 X17) (fun _ _ => Mnone) (fun k11 hk11 x9 σ10 => ?_)
    refine Mite ?_ ?_
    · exact Mret
    · refine Mgd ?_
      refine Mcl2 (nX0_turns) (fun x13 σ12 => ?_)
      refine Mite ?_ ?_
      · refine Mgd ?_
        refine Mcl2 (nX0_turns) (fun x15 σ14 => ?_)
        refine Mite ?_ ?_
        · refine Mbd (fun x16 => ?_)
          exact hk11 x16 σ14
        · exact Mret
      · exact Mret
set_option maxHeartbeats 4000000 in
set_option maxRecDepth 100000 in
theorem mX0_edge (l : Launch) (E : CE) {a0 : Nat} {p1 : Int32} {σ : CS} {r : Int32} {σz : CS} (hX : fX0_edge a0 p1 σ = some (r, σz)) : MetC l yX0_edge (ws_ yX0_edge cX0_edge 5 (some .int)) 105 4123 E σ [.ref a0, .int p1] (some (.int r)) σz := by
  refine MetC.of hX (by decide) (Nat.le_of_ble_eq_true rfl) (nX0_edge _ hX) ?_
  intro p e s m below meth c hx hb hr hml hts hown hlocks hnm hk hz0
  have hK := hk.1
  show J p l e (headSpec (ws_ yX0_edge cX0_edge 5 (some .int)) (rmC 105 4123 σ σz)).room s m ([.ref a0, .int p1] : List Value).toArray below meth c 5 E (cZ σ) (cS σ) (MQ below (cQ E (some (.int r)) σz) ([.ref a0, .int p1] : List Value).toArray s (cZ σz - cZ σ) (cS σz - cS σ) (EA E)) (r, σz) (fX0_edge a0 p1 σ) σ 0 [(0, .ref a0), (1, .int p1)] []
  unfold fX0_edge
  refine Jrow (fun H locs ls hH hS hl k => lv_aload_n hx hb dX0_edge_0 rfl (lv_at hl 0 rfl) (k ls hl)) ?_
  refine Jrow (fun H locs ls hH hS hl k => lv_iload_n hx hb dX0_edge_1 rfl (lv_at hl 1 rfl) (k ls hl)) ?_
  refine Jgd (fun hg => ?_)
  refine Jcl2 (fun x2 σ1 hf => ?_)
  refine Jcall (v := (some (va_rf x2))) (rest := []) (mX0_shipAt l E hf).1 ⟨rfl, rfl⟩ (fun H locs ls hH hS hl hR => ⟨_, va_runV (C := RX0) (As := [.int p1]) ⟨hx, hb, hml, hown, hts⟩ (mX0_shipAt l E hf).2 (cwV 1 hts (lw_V q703 q705 qs18 q88 q706) rfl rfl rfl (by decide +kernel) ⟨Nat.le_of_ble_eq_true rfl, Nat.le_of_ble_eq_true rfl⟩) (c_preV (ci := 1) hk hH hS hg rfl) rfl rfl hl.1 rfl (lv_room (Nat.le_of_ble_eq_true rfl)) dX0_edge_2 hR⟩) ?_
  clear hf
  refine Jrow (fun H locs ls hH hS hl k => lv_astore_nF (lv' := [(2, va_rf x2), (0, .ref a0), (1, .int p1)]) hx hb dX0_edge_5 rfl hl (by decide) rfl k) ?_
  refine Jrow (fun H locs ls hH hS hl k => lv_aload_nF hx hb dX0_edge_6 rfl (lv_at hl 0 rfl) (k ls hl)) ?_
  rcases x2 with _ | x3
  · refine Joc0 ?_
    refine Jrow (fun H locs ls hH hS hl k => lv_ifnonnullN hx hb dX0_edge_7 (k ls hl)) ?_
    refine Jrow (fun H locs ls hH hS hl k => lv_iconst (v := (-1:Int32)) hx hb dX0_edge_10 (by decide) (k ls hl)) ?_
    exact Jiret hx hb hr hlocks dX0_edge_11
  · refine Joc1 ?_
    refine Jrow (fun H locs ls hH hS hl k => lv_ifnonnull (tgt := 12) hx hb dX0_edge_7 (by decide) (k ls hl)) ?_
    refine Jrow (fun H locs ls hH hS hl k => lv_aload_n hx hb dX0_edge_12 rfl (lv_at hl 1 rfl) (k ls hl)) ?_
    refine Jrow (fun H locs ls hH hS hl k => lv_aload_n hx hb dX0_edge_13 rfl (lv_at hl 0 rfl) (k ls hl)) ?_
    refine Jgd (fun hg => ?_)
    refine Jcl (fun x4 hq => ?_)
    refine Jrow (fun H locs ls hH hS hl k => c_getN (F := 83) (v := .ref x4) hx hb hts hown hK hH hg (cN hk.2.2.1 22 rfl) (fun _ h => h) (fvR rfl hq) dX0_edge_14 (k ls hl)) ?_
    clear hq
    refine Jrow (fun H locs ls hH hS hl k => lv_iconst (v := (0:Int32)) hx hb dX0_edge_17 (by decide) (k ls hl)) ?_
    refine Jgd (fun hg => ?_)
    refine Jcl2 (fun _ σ5 hf => ?_)
    refine Jcall (v := none) (rest := []) (mX0_goForward l E hf).1 ⟨rfl, rfl⟩ (fun H locs ls hH hS hl hR => ⟨_, va_runV (C := RX0) (As := [.ref x4, .int (0:Int32)]) ⟨hx, hb, hml, hown, hts⟩ (mX0_goForward l E hf).2 (cwV 2 hts (lw_V q965 q967 qs24 q88 q968) rfl rfl rfl (by decide +kernel) ⟨Nat.le_of_ble_eq_true rfl, Nat.le_of_ble_eq_true rfl⟩) (c_preV (ci := 1) hk hH hS hg rfl) rfl rfl hl.1 rfl (lv_room (Nat.le_of_ble_eq_true rfl)) dX0_edge_18 hR⟩) ?_
    clear hf
    refine Jrow (fun H locs ls hH hS hl k => lv_aload_n hx hb dX0_edge_21 rfl (lv_at hl 1 rfl) (k ls hl)) ?_
    refine Jgd (fun hg => ?_)
    refine Jcl2 (fun x8 σ7 hf => ?_)
    refine Jcall (v := (some (.int x8))) (rest := []) (mX0_plainNow l E hf).1 ⟨rfl, rfl⟩ (fun H locs ls hH hS hl hR => ⟨_, va_runV (C := RX0) (As := []) ⟨hx, hb, hml, hown, hts⟩ (mX0_plainNow l E hf).2 (cwV 0 hts (lw_V q1019 q1021 qs30 q88 q1022) rfl rfl rfl (by decide +kernel) ⟨Nat.le_of_ble_eq_true rfl, Nat.le_of_ble_eq_true rfl⟩) (c_preV (ci := 1) hk hH hS hg rfl) rfl rfl hl.1 rfl (lv_room (Nat.le_of_ble_eq_true rfl)) dX0_edge_22 hR⟩) ?_
    clear hf
    refine Jrow (fun H locs ls hH hS hl k => lv_istore_n (lv' := [(3, .int x8), (2, .ref x3), (0, .ref a0), (1, .int p1)]) hx hb dX0_edge_25 rfl hl (by decide) rfl k) ?_
    refine Jrow (fun H locs ls hH hS hl k => lv_iconst (v := (1:Int32)) hx hb dX0_edge_26 (by decide) (k ls hl)) ?_
    refine Jrow (fun H locs ls hH hS hl k => lv_istore (lv' := [(4, .int (1:Int32)), (3, .int x8), (2, .ref x3), (0, .ref a0), (1, .int p1)]) hx hb dX0_edge_27 hl (by decide) rfl k) ?_
    refine Jsub [3, 2, 1, 0] rfl (Plp2 (fun (x9 : Int32) (σ10 : CS) X17 => J p l e (headSpec (ws_ yX0_edge cX0_edge 5 (some .int)) (rmC 105 4123 σ σz)).room s m ([.ref a0, .int p1] : List Value).toArray below meth c 5 E (cZ σ) (cS σ) (MQ below (cQ E (some (.int r)) σz) ([.ref a0, .int p1] : List Value).toArray s (cZ σz - cZ σ) (cS σz - cS σ) (EA E)) (r, σz) X17 σ10 29 [(0, .ref a0), (2, .ref x3), (3, .int x8), (4, .int x9)] []) (fun _ _ => Jnone) (fun k11 hk11 x9 σ10 => ?_))
    refine Jrow (fun H locs ls hH hS hl k => lv_iload hx hb dX0_edge_29 (lv_at hl 3 rfl) (k ls hl)) ?_
    refine Jrow (fun H locs ls hH hS hl k => lv_bipush (v := (50:Int32)) hx hb dX0_edge_31 (by decide) (k ls hl)) ?_
    refine Jite (fun hc => ?_) (fun hc => ?_)
    · refine Jrow (fun H locs ls hH hS hl k => lv_icmp_gt (tgt := 72) hx hb dX0_edge_33 (by decide) (fun _ => (k ls hl)) (fun h => absurd hc h)) ?_
      clear hc
      refine Jrow (fun H locs ls hH hS hl k => lv_iconst (v := (0:Int32)) hx hb dX0_edge_72 (by decide) (k ls hl)) ?_
      exact Jiret hx hb hr hlocks dX0_edge_73
    · refine Jrow (fun H locs ls hH hS hl k => lv_icmp_gt (tgt := 72) hx hb dX0_edge_33 (by decide) (fun h => absurd h hc) (fun _ => (k ls hl))) ?_
      clear hc
      refine Jrow (fun H locs ls hH hS hl k => lv_aload_n hx hb dX0_edge_36 rfl (lv_at hl 0 rfl) (k ls hl)) ?_
      refine Jrow (fun H locs ls hH hS hl k => lv_aload_n hx hb dX0_edge_37 rfl (lv_at hl 1 rfl) (k ls hl)) ?_
      refine Jrow (fun H locs ls hH hS hl k => lv_iload hx hb dX0_edge_38 (lv_at hl 3 rfl) (k ls hl)) ?_
      refine Jrow (fun H locs ls hH hS hl k => lv_ineg hx hb dX0_edge_40 (k ls hl)) ?_
      refine Jrow (fun H locs ls hH hS hl k => lv_iload_n hx hb dX0_edge_41 rfl (lv_at hl 2 rfl) (k ls hl)) ?_
      refine Jgd (fun hg => ?_)
      refine Jcl2 (fun x13 σ12 hf => ?_)
      refine Jcall (v := (some (.int x13))) (rest := []) (mX0_turns l E hf).1 ⟨rfl, rfl⟩ (fun H locs ls hH hS hl hR => ⟨_, va_runV (C := RX0) (As := [.ref x3, .int (-x9), .int x8]) ⟨hx, hb, hml, hown, hts⟩ (mX0_turns l E hf).2 (cwV 3 hts (lw_V q1082 q1084 qs36 q88 q1085) rfl rfl rfl (by decide +kernel) ⟨Nat.le_of_ble_eq_true rfl, Nat.le_of_ble_eq_true rfl⟩) (c_preV (ci := 1) hk hH hS hg rfl) rfl rfl hl.1 rfl (lv_room (Nat.le_of_ble_eq_true rfl)) dX0_edge_42 hR⟩) ?_
      clear hf
      refine Jite (fun hc => ?_) (fun hc => ?_)
      · refine Jrow (fun H locs ls hH hS hl k => lv_if_eq (tgt := 52) hx hb dX0_edge_45 (by decide) (fun _ => (k ls hl)) (fun h => absurd hc h)) ?_
        clear hc
        refine Jrow (fun H locs ls hH hS hl k => lv_aload_n hx hb dX0_edge_52 rfl (lv_at hl 0 rfl) (k ls hl)) ?_
        refine Jrow (fun H locs ls hH hS hl k => lv_aload_n hx hb dX0_edge_53 rfl (lv_at hl 1 rfl) (k ls hl)) ?_
        refine Jrow (fun H locs ls hH hS hl k => lv_iload hx hb dX0_edge_54 (lv_at hl 3 rfl) (k ls hl)) ?_
        refine Jrow (fun H locs ls hH hS hl k => lv_iload_n hx hb dX0_edge_56 rfl (lv_at hl 2 rfl) (k ls hl)) ?_
        refine Jgd (fun hg => ?_)
        refine Jcl2 (fun x15 σ14 hf => ?_)
        refine Jcall (v := (some (.int x15))) (rest := []) (mX0_turns l E hf).1 ⟨rfl, rfl⟩ (fun H locs ls hH hS hl hR => ⟨_, va_runV (C := RX0) (As := [.ref x3, .int x9, .int x8]) ⟨hx, hb, hml, hown, hts⟩ (mX0_turns l E hf).2 (cwV 3 hts (lw_V q1082 q1084 qs36 q88 q1085) rfl rfl rfl (by decide +kernel) ⟨Nat.le_of_ble_eq_true rfl, Nat.le_of_ble_eq_true rfl⟩) (c_preV (ci := 1) hk hH hS hg rfl) rfl rfl hl.1 rfl (lv_room (Nat.le_of_ble_eq_true rfl)) dX0_edge_57 hR⟩) ?_
        clear hf
        refine Jite (fun hc => ?_) (fun hc => ?_)
        · refine Jrow (fun H locs ls hH hS hl k => lv_if_eq (tgt := 66) hx hb dX0_edge_60 (by decide) (fun _ => (k ls hl)) (fun h => absurd hc h)) ?_
          clear hc
          refine Jbd (fun x16 ex16 => ?_)
          refine Jrow (fun H locs ls hH hS hl k => lv_iinc (v := x16) (lv' := [(4, .int x16), (0, .ref a0), (2, .ref x3), (3, .int x8)]) hx hb dX0_edge_66 hl (k := 3) rfl (by rw [ex16]; rfl) (by decide) rfl k) ?_
          clear ex16
          refine Jrow (fun H locs ls hH hS hl k => lv_goto (tgt := 29) hx hb dX0_edge_69 (by decide) (k ls hl)) ?_
          exact Jsub [1, 2, 3, 0] rfl (hk11 x16 σ14)
        · refine Jrow (fun H locs ls hH hS hl k => lv_if_eq (tgt := 66) hx hb dX0_edge_60 (by decide) (fun h => absurd h hc) (fun _ => (k ls hl))) ?_
          clear hc
          refine Jrow (fun H locs ls hH hS hl k => lv_iload hx hb dX0_edge_63 (lv_at hl 3 rfl) (k ls hl)) ?_
          exact Jiret hx hb hr hlocks dX0_edge_65
      · refine Jrow (fun H locs ls hH hS hl k => lv_if_eq (tgt := 52) hx hb dX0_edge_45 (by decide) (fun h => absurd h hc) (fun _ => (k ls hl))) ?_
        clear hc
        refine Jrow (fun H locs ls hH hS hl k => lv_iload hx hb dX0_edge_48 (lv_at hl 3 rfl) (k ls hl)) ?_
        refine Jrow (fun H locs ls hH hS hl k => lv_ineg hx hb dX0_edge_50 (k ls hl)) ?_
        exact Jiret hx hb hr hlocks dX0_edge_51

def fX0_room (a0 : Nat) (p1 : Int32) (p2 : Int32) (σ : CS) : Option (Int32 × CS) :=
 gd (hf (cK σ a0) 28) (
 cl (cFR σ a0 28) (fun (x1 : Nat) =>
 gd (kd σ x1 20) (
 cl2 (fJ2_size x1 σ) (fun (x3 : Int32) (σ2 : CS) =>
 cl (fX0_in p1 (0:Int32) (((1:Int32) <<< (x3 &&& 31)) - (1:Int32))) (fun (x4 : Int32) =>
 jn (some ((-2:Int32), σ2)) (fun (k5 : Option (Int32 × CS)) =>
 if x4 = (0:Int32) then
 k5
 else
 cl (fX0_in p2 (0:Int32) (99:Int32)) (fun (x6 : Int32) =>
 if x6 = (0:Int32) then
 k5
 else
 lp (fun _ _ _ _ => none) (fun (k11 : Int32 → Int64 → Int32 → CS → Option (Int32 × CS)) (x7 : Int32) (x8 : Int64) (x9 : Int32) (σ10 : CS) =>
 if p1 < x9 then
 some (x7, σ10)
 else
 jn (fun (x12 : Int32) (x13 : Int64) (σ14 : CS) => bd (x9 + (1:Int32)) (fun (x16 : Int32) =>
 k11 x12 x13 x16 σ14)) (fun (k15 : Int32 → Int64 → CS → Option (Int32 × CS)) =>
 if (x9 &&& (p1 ^^^ (-1:Int32))) = (0:Int32) then
 lp (fun _ _ _ _ => none) (fun (k21 : Int32 → Int64 → Int32 → CS → Option (Int32 × CS)) (x17 : Int32) (x18 : Int64) (x19 : Int32) (σ20 : CS) =>
 gd (hf (cK σ20 a0) 28) (
 cl (cFR σ20 a0 28) (fun (x22 : Nat) =>
 gd (kd σ20 x22 20) (
 cl2 (fJ2_size x22 σ20) (fun (x24 : Int32) (σ23 : CS) =>
 if x24 ≤ x19 then
 if p2 < x17 then
 k15 x7 x8 σ23
 else
 if (0:Int32) < (lg_cmp x18 x8) then
 k15 x9 x18 σ23
 else
 k15 x7 x8 σ23
 else
 jn (fun (x25 : Int32) (x26 : Int64) (σ27 : CS) => bd (x19 + (1:Int32)) (fun (x29 : Int32) =>
 k21 x25 x26 x29 σ27)) (fun (k28 : Int32 → Int64 → CS → Option (Int32 × CS)) =>
 if ((x9 >>> (x19 &&& 31)) &&& (1:Int32)) = (0:Int32) then
 k28 x17 x18 σ23
 else
 gd (hf (cK σ23 a0) 28) (
 cl (cFR σ23 a0 28) (fun (x30 : Nat) =>
 gd (kd σ23 x30 20) (
 cl2 (fJ2_get x30 x19 σ23) (fun (x32 : Nat) (σ31 : CS) =>
 gd (kd σ31 x32 11) (
 gd (hf (cK σ31 x32) 82) (
 bd (x17 + (cFI σ31 x32 82)) (fun (x33 : Int32) =>
 gd (hf (cK σ31 a0) 28) (
 cl (cFR σ31 a0 28) (fun (x34 : Nat) =>
 gd (kd σ31 x34 20) (
 cl2 (fJ2_get x34 x19 σ31) (fun (x36 : Nat) (σ35 : CS) =>
 gd (kd σ35 x36 11) (
 gd (hf (cK σ35 x36) 83) (
 cl (cFR σ35 x36 83) (fun (x37 : Nat) =>
 gd (kd σ35 x37 4) (
 cl2 (fX2_harm x37 σ35) (fun (x39 : Int64) (σ38 : CS) =>
 bd (x18 + x39) (fun (x40 : Int64) =>
 k28 x33 x40 σ38))))))))))))))))))))))) NF (0:Int32) (0:Int64) (0:Int32) σ10
 else
 k15 x7 x8 σ10)) NF (0:Int32) (0:Int64) (0:Int32) σ2)))))))
theorem nX0_room {a0 : Nat} {p1 : Int32} {p2 : Int32} {σ : CS} : Mn σ (fX0_room a0 p1 p2 σ) := by
  unfold fX0_room
  refine Mgd ?_
  refine Mcl (fun x1 => ?_)
  refine Mgd ?_
  refine Mcl2 (nJ2_size) (fun x3 σ2 => ?_)
  refine Mcl (fun x4 => ?_)
  refine Mjn0 (fun  (X45 : Option (Int32 × CS)) => Mn σ2 X45) (?_) (fun k5 hk5 => ?_)
  · exact Mret
  · refine Mite ?_ ?_
    · exact hk5
    · refine Mcl (fun x6 => ?_)
      refine Mite ?_ ?_
      · exact hk5
      · refine Plp4 (fun (x7 : Int32) (x8 : Int64) (x9 : Int32) (σ10 : CS) (X44 : Option (Int32 × CS)) => Mn σ10 X44) (fun _ _ _ _ => Mnone) (fun k11 hk11 x7 x8 x9 σ10 => ?_)
        refine Mite ?_ ?_
        · exact Mret
        · refine Mjn3 (fun (x12 : Int32) (x13 : Int64) (σ14 : CS) (X43 : Option (Int32 × CS)) => Mn σ14 X43) (fun x12 x13 σ14 => ?_) (fun k15 hk15 => ?_)
          · refine Mbd (fun x16 => ?_)
            exact hk11 x12 x13 x16 σ14
          · refine Mite ?_ ?_
            · refine Plp4 (fun (x17 : Int32) (x18 : Int64) (x19 : Int32) (σ20 : CS) (X42 : Option (Int32 × CS)) => Mn σ20 X42) (fun _ _ _ _ => Mnone) (fun k21 hk21 x17 x18 x19 σ20 => ?_)
              refine Mgd ?_
              refine Mcl (fun x22 => ?_)
              refine Mgd ?_
              refine Mcl2 (nJ2_size) (fun x24 σ23 => ?_)
              refine Mite ?_ ?_
              · refine Mite ?_ ?_
                · exact hk15 x7 x8 σ23
                · refine Mite ?_ ?_
                  · exact hk15 x9 x18 σ23
                  · exact hk15 x7 x8 σ23
              · refine Mjn3 (fun (x25 : Int32) (x26 : Int64) (σ27 : CS) (X41 : Option (Int32 × CS)) => Mn σ27 X41) (fun x25 x26 σ27 => ?_) (fun k28 hk28 => ?_)
                · refine Mbd (fun x29 => ?_)
                  exact hk21 x25 x26 x29 σ27
                · refine Mite ?_ ?_
                  · exact hk28 x17 x18 σ23
                  · refine Mgd ?_
                    refine Mcl (fun x30 => ?_)
                    refine Mgd ?_
                    refine Mcl2 (nJ2_get) (fun x32 σ31 => ?_)
                    refine Mgd ?_
                    refine Mgd ?_
                    refine Mbd (fun x33 => ?_)
                    refine Mgd ?_
                    refine Mcl (fun x34 => ?_)
                    refine Mgd ?_
                    refine Mcl2 (nJ2_get) (fun x36 σ35 => ?_)
                    refine Mgd ?_
                    refine Mgd ?_
                    refine Mcl (fun x37 => ?_)
                    refine Mgd ?_
                    refine Mcl2 (nX2_harm) (fun x39 σ38 => ?_)
                    refine Mbd (fun x40 => ?_)
                    exact hk28 x33 x40 σ38
            · exact hk15 x7 x8 σ10
set_option maxHeartbeats 4000000 in
set_option maxRecDepth 100000 in
theorem mX0_room (l : Launch) (E : CE) {a0 : Nat} {p1 : Int32} {p2 : Int32} {σ : CS} {r : Int32} {σz : CS} (hX : fX0_room a0 p1 p2 σ = some (r, σz)) : MetC l yX0_room (ws_ yX0_room cX0_room 11 (some .int)) 3 64 E σ [.ref a0, .int p1, .int p2] (some (.int r)) σz := by
  refine MetC.of hX (by decide) (Nat.le_of_ble_eq_true rfl) (nX0_room _ hX) ?_
  intro p e s m below meth c hx hb hr hml hts hown hlocks hnm hk hz0
  have hK := hk.1
  show J p l e (headSpec (ws_ yX0_room cX0_room 11 (some .int)) (rmC 3 64 σ σz)).room s m ([.ref a0, .int p1, .int p2] : List Value).toArray below meth c 11 E (cZ σ) (cS σ) (MQ below (cQ E (some (.int r)) σz) ([.ref a0, .int p1, .int p2] : List Value).toArray s (cZ σz - cZ σ) (cS σz - cS σ) (EA E)) (r, σz) (fX0_room a0 p1 p2 σ) σ 0 [(0, .ref a0), (1, .int p1), (2, .int p2)] []
  unfold fX0_room
  refine Jrow (fun H locs ls hH hS hl k => lv_iload_n hx hb dX0_room_0 rfl (lv_at hl 1 rfl) (k ls hl)) ?_
  refine Jrow (fun H locs ls hH hS hl k => lv_iconst (v := (0:Int32)) hx hb dX0_room_1 (by decide) (k ls hl)) ?_
  refine Jrow (fun H locs ls hH hS hl k => lv_iconst (v := (1:Int32)) hx hb dX0_room_2 (by decide) (k ls hl)) ?_
  refine Jrow (fun H locs ls hH hS hl k => lv_aload_n hx hb dX0_room_3 rfl (lv_at hl 0 rfl) (k ls hl)) ?_
  refine Jgd (fun hg => ?_)
  refine Jcl (fun x1 hq => ?_)
  refine Jrow (fun H locs ls hH hS hl k => c_get (F := 28) (v := .ref x1) hx hb hts hown hK hH hg (hts _ q257) (fun _ h => h) (fvR rfl hq) dX0_room_4 (k ls hl)) ?_
  clear hq
  refine Jgd (fun hg => ?_)
  refine Jcl2 (fun x3 σ2 hf => ?_)
  refine Jcall (v := (some (.int x3))) (rest := [.int (1:Int32), .int (0:Int32), .int p1]) (mJ2_size l E hf).1 ⟨rfl, rfl⟩ (fun H locs ls hH hS hl hR => ⟨_, va_runV (C := RJ2) (As := []) ⟨hx, hb, hml, hown, hts⟩ (mJ2_size l E hf).2 (cwV 0 hts (lw_V q327 q328 q329 q91 q330) rfl rfl rfl (by decide +kernel) ⟨Nat.le_of_ble_eq_true rfl, Nat.le_of_ble_eq_true rfl⟩) (c_preV (ci := 19) hk hH hS hg rfl) rfl rfl hl.1 rfl (lv_room (Nat.le_of_ble_eq_true rfl)) dX0_room_7 hR⟩) ?_
  clear hf
  refine Jrow (fun H locs ls hH hS hl k => lv_ishl hx hb dX0_room_10 (k ls hl)) ?_
  refine Jrow (fun H locs ls hH hS hl k => lv_iconst (v := (1:Int32)) hx hb dX0_room_11 (by decide) (k ls hl)) ?_
  refine Jrow (fun H locs ls hH hS hl k => lv_isub hx hb dX0_room_12 (k ls hl)) ?_
  refine Jcl (fun x4 hf => ?_)
  refine JcallS (v := .int x4) (rest := []) hz0 ⟨rfl, rfl⟩ sQi_o (fun H locs ls hl hR => va_runS (As := [.int p1, .int (0:Int32), .int (((1:Int32) <<< (x3 &&& 31)) - (1:Int32))]) ⟨hx, hb, hml, hown, hts⟩ (mX0_in l hf) (va_cwS 3 hts (lw_S q319 q320 q88 q321) rfl rfl rfl (by decide +kernel) ⟨Nat.le_of_ble_eq_true rfl, Nat.le_of_ble_eq_true rfl⟩) s_pre rfl rfl hl.1 rfl (lv_room (Nat.le_of_ble_eq_true rfl)) dX0_room_13 hR) ?_
  clear hf
  refine Jjn0 (fun  X45 => J p l e (headSpec (ws_ yX0_room cX0_room 11 (some .int)) (rmC 3 64 σ σz)).room s m ([.ref a0, .int p1, .int p2] : List Value).toArray below meth c 11 E (cZ σ) (cS σ) (MQ below (cQ E (some (.int r)) σz) ([.ref a0, .int p1, .int p2] : List Value).toArray s (cZ σz - cZ σ) (cS σz - cS σ) (EA E)) (r, σz) X45 σ2 29 [] []) (?_) (fun k5 hk5 => ?_)
  · refine Jrow (fun H locs ls hH hS hl k => lv_bipush (v := (-2:Int32)) hx hb dX0_room_29 (by decide) (k ls hl)) ?_
    exact Jiret hx hb hr hlocks dX0_room_31
  · refine Jite (fun hc => ?_) (fun hc => ?_)
    · refine Jrow (fun H locs ls hH hS hl k => lv_if_eq (tgt := 29) hx hb dX0_room_16 (by decide) (fun _ => (k ls hl)) (fun h => absurd hc h)) ?_
      clear hc
      exact Jsub [] rfl (hk5)
    · refine Jrow (fun H locs ls hH hS hl k => lv_if_eq (tgt := 29) hx hb dX0_room_16 (by decide) (fun h => absurd h hc) (fun _ => (k ls hl))) ?_
      clear hc
      refine Jrow (fun H locs ls hH hS hl k => lv_iload_n hx hb dX0_room_19 rfl (lv_at hl 2 rfl) (k ls hl)) ?_
      refine Jrow (fun H locs ls hH hS hl k => lv_iconst (v := (0:Int32)) hx hb dX0_room_20 (by decide) (k ls hl)) ?_
      refine Jrow (fun H locs ls hH hS hl k => lv_bipush (v := (99:Int32)) hx hb dX0_room_21 (by decide) (k ls hl)) ?_
      refine Jcl (fun x6 hf => ?_)
      refine JcallS (v := .int x6) (rest := []) hz0 ⟨rfl, rfl⟩ sQi_o (fun H locs ls hl hR => va_runS (As := [.int p2, .int (0:Int32), .int (99:Int32)]) ⟨hx, hb, hml, hown, hts⟩ (mX0_in l hf) (va_cwS 3 hts (lw_S q319 q320 q88 q321) rfl rfl rfl (by decide +kernel) ⟨Nat.le_of_ble_eq_true rfl, Nat.le_of_ble_eq_true rfl⟩) s_pre rfl rfl hl.1 rfl (lv_room (Nat.le_of_ble_eq_true rfl)) dX0_room_23 hR) ?_
      clear hf
      refine Jite (fun hc => ?_) (fun hc => ?_)
      · refine Jrow (fun H locs ls hH hS hl k => lv_if_ne (tgt := 32) hx hb dX0_room_26 (by decide) (fun h => absurd hc h) (fun _ => (k ls hl))) ?_
        clear hc
        exact Jsub [] rfl (hk5)
      · refine Jrow (fun H locs ls hH hS hl k => lv_if_ne (tgt := 32) hx hb dX0_room_26 (by decide) (fun _ => (k ls hl)) (fun h => absurd h hc)) ?_
        clear hc
        refine Jrow (fun H locs ls hH hS hl k => lv_iconst (v := (0:Int32)) hx hb dX0_room_32 (by decide) (k ls hl)) ?_
        refine Jrow (fun H locs ls hH hS hl k => lv_istore_n (lv' := [(3, .int (0:Int32)), (0, .ref a0), (1, .int p1), (2, .int p2)]) hx hb dX0_room_33 rfl hl (by decide) rfl k) ?_
        refine Jrow (fun H locs ls hH hS hl k => lv_lconst (v := (0:Int64)) hx hb dX0_room_34 (by decide) (k ls hl)) ?_
        refine Jrow (fun H locs ls hH hS hl k => lv_lstore (lv' := [(4, .long (0:Int64)), (3, .int (0:Int32)), (0, .ref a0), (1, .int p1), (2, .int p2)]) hx hb dX0_room_35 hl (by decide) rfl k) ?_
        refine Jrow (fun H locs ls hH hS hl k => lv_iconst (v := (0:Int32)) hx hb dX0_room_37 (by decide) (k ls hl)) ?_
        refine Jrow (fun H locs ls hH hS hl k => lv_istore (lv' := [(6, .int (0:Int32)), (4, .long (0:Int64)), (3, .int (0:Int32)), (0, .ref a0), (1, .int p1), (2, .int p2)]) hx hb dX0_room_38 hl (by decide) rfl k) ?_
        refine Jsub [3, 4, 5, 2, 1, 0] rfl (Plp4 (fun (x7 : Int32) (x8 : Int64) (x9 : Int32) (σ10 : CS) X44 => J p l e (headSpec (ws_ yX0_room cX0_room 11 (some .int)) (rmC 3 64 σ σz)).room s m ([.ref a0, .int p1, .int p2] : List Value).toArray below meth c 11 E (cZ σ) (cS σ) (MQ below (cQ E (some (.int r)) σz) ([.ref a0, .int p1, .int p2] : List Value).toArray s (cZ σz - cZ σ) (cS σz - cS σ) (EA E)) (r, σz) X44 σ10 40 [(0, .ref a0), (1, .int p1), (2, .int p2), (3, .int x7), (4, .long x8), (6, .int x9)] []) (fun _ _ _ _ => Jnone) (fun k11 hk11 x7 x8 x9 σ10 => ?_))
        refine Jrow (fun H locs ls hH hS hl k => lv_iload hx hb dX0_room_40 (lv_at hl 5 rfl) (k ls hl)) ?_
        refine Jrow (fun H locs ls hH hS hl k => lv_iload_n hx hb dX0_room_42 rfl (lv_at hl 1 rfl) (k ls hl)) ?_
        refine Jite (fun hc => ?_) (fun hc => ?_)
        · refine Jrow (fun H locs ls hH hS hl k => lv_icmp_gt (tgt := 171) hx hb dX0_room_43 (by decide) (fun _ => (k ls hl)) (fun h => absurd hc h)) ?_
          clear hc
          refine Jrow (fun H locs ls hH hS hl k => lv_iload_n hx hb dX0_room_171 rfl (lv_at hl 3 rfl) (k ls hl)) ?_
          exact Jiret hx hb hr hlocks dX0_room_172
        · refine Jrow (fun H locs ls hH hS hl k => lv_icmp_gt (tgt := 171) hx hb dX0_room_43 (by decide) (fun h => absurd h hc) (fun _ => (k ls hl))) ?_
          clear hc
          refine Jrow (fun H locs ls hH hS hl k => lv_iload hx hb dX0_room_46 (lv_at hl 5 rfl) (k ls hl)) ?_
          refine Jrow (fun H locs ls hH hS hl k => lv_iload_n hx hb dX0_room_48 rfl (lv_at hl 1 rfl) (k ls hl)) ?_
          refine Jrow (fun H locs ls hH hS hl k => lv_iconst (v := (-1:Int32)) hx hb dX0_room_49 (by decide) (k ls hl)) ?_
          refine Jrow (fun H locs ls hH hS hl k => lv_ixor hx hb dX0_room_50 (k ls hl)) ?_
          refine Jrow (fun H locs ls hH hS hl k => lv_iand hx hb dX0_room_51 (k ls hl)) ?_
          refine Jjn3 (fun (x12 : Int32) (x13 : Int64) (σ14 : CS) X43 => J p l e (headSpec (ws_ yX0_room cX0_room 11 (some .int)) (rmC 3 64 σ σz)).room s m ([.ref a0, .int p1, .int p2] : List Value).toArray below meth c 11 E (cZ σ) (cS σ) (MQ below (cQ E (some (.int r)) σz) ([.ref a0, .int p1, .int p2] : List Value).toArray s (cZ σz - cZ σ) (cS σz - cS σ) (EA E)) (r, σz) X43 σ14 165 [(0, .ref a0), (1, .int p1), (2, .int p2), (3, .int x12), (4, .long x13), (6, .int x9)] []) (fun x12 x13 σ14 => ?_) (fun k15 hk15 => ?_)
          · refine Jbd (fun x16 ex16 => ?_)
            refine Jrow (fun H locs ls hH hS hl k => lv_iinc (v := x16) (lv' := [(6, .int x16), (0, .ref a0), (1, .int p1), (2, .int p2), (3, .int x12), (4, .long x13)]) hx hb dX0_room_165 hl (k := 5) rfl (by rw [ex16]; rfl) (by decide) rfl k) ?_
            clear ex16
            refine Jrow (fun H locs ls hH hS hl k => lv_goto (tgt := 40) hx hb dX0_room_168 (by decide) (k ls hl)) ?_
            exact Jsub [1, 2, 3, 4, 5, 0] rfl (hk11 x12 x13 x16 σ14)
          · refine Jite (fun hc => ?_) (fun hc => ?_)
            · refine Jrow (fun H locs ls hH hS hl k => lv_if_eq (tgt := 58) hx hb dX0_room_52 (by decide) (fun _ => (k ls hl)) (fun h => absurd hc h)) ?_
              clear hc
              refine Jrow (fun H locs ls hH hS hl k => lv_iconst (v := (0:Int32)) hx hb dX0_room_58 (by decide) (k ls hl)) ?_
              refine Jrow (fun H locs ls hH hS hl k => lv_istore (lv' := [(7, .int (0:Int32)), (0, .ref a0), (1, .int p1), (2, .int p2), (3, .int x7), (4, .long x8), (6, .int x9)]) hx hb dX0_room_59 hl (by decide) rfl k) ?_
              refine Jrow (fun H locs ls hH hS hl k => lv_lconst (v := (0:Int64)) hx hb dX0_room_61 (by decide) (k ls hl)) ?_
              refine Jrow (fun H locs ls hH hS hl k => lv_lstore (lv' := [(8, .long (0:Int64)), (7, .int (0:Int32)), (0, .ref a0), (1, .int p1), (2, .int p2), (3, .int x7), (4, .long x8), (6, .int x9)]) hx hb dX0_room_62 hl (by decide) rfl k) ?_
              refine Jrow (fun H locs ls hH hS hl k => lv_iconst (v := (0:Int32)) hx hb dX0_room_64 (by decide) (k ls hl)) ?_
              refine Jrow (fun H locs ls hH hS hl k => lv_istore (lv' := [(10, .int (0:Int32)), (8, .long (0:Int64)), (7, .int (0:Int32)), (0, .ref a0), (1, .int p1), (2, .int p2), (3, .int x7), (4, .long x8), (6, .int x9)]) hx hb dX0_room_65 hl (by decide) rfl k) ?_
              refine Jsub [3, 4, 5, 6, 7, 8, 2, 1, 0] rfl (Plp4 (fun (x17 : Int32) (x18 : Int64) (x19 : Int32) (σ20 : CS) X42 => J p l e (headSpec (ws_ yX0_room cX0_room 11 (some .int)) (rmC 3 64 σ σz)).room s m ([.ref a0, .int p1, .int p2] : List Value).toArray below meth c 11 E (cZ σ) (cS σ) (MQ below (cQ E (some (.int r)) σz) ([.ref a0, .int p1, .int p2] : List Value).toArray s (cZ σz - cZ σ) (cS σz - cS σ) (EA E)) (r, σz) X42 σ20 67 [(0, .ref a0), (1, .int p1), (2, .int p2), (3, .int x7), (4, .long x8), (6, .int x9), (7, .int x17), (8, .long x18), (10, .int x19)] []) (fun _ _ _ _ => Jnone) (fun k21 hk21 x17 x18 x19 σ20 => ?_))
              refine Jrow (fun H locs ls hH hS hl k => lv_iload hx hb dX0_room_67 (lv_at hl 8 rfl) (k ls hl)) ?_
              refine Jrow (fun H locs ls hH hS hl k => lv_aload_n hx hb dX0_room_69 rfl (lv_at hl 0 rfl) (k ls hl)) ?_
              refine Jgd (fun hg => ?_)
              refine Jcl (fun x22 hq => ?_)
              refine Jrow (fun H locs ls hH hS hl k => c_get (F := 28) (v := .ref x22) hx hb hts hown hK hH hg (hts _ q257) (fun _ h => h) (fvR rfl hq) dX0_room_70 (k ls hl)) ?_
              clear hq
              refine Jgd (fun hg => ?_)
              refine Jcl2 (fun x24 σ23 hf => ?_)
              refine Jcall (v := (some (.int x24))) (rest := [.int x19]) (mJ2_size l E hf).1 ⟨rfl, rfl⟩ (fun H locs ls hH hS hl hR => ⟨_, va_runV (C := RJ2) (As := []) ⟨hx, hb, hml, hown, hts⟩ (mJ2_size l E hf).2 (cwV 0 hts (lw_V q327 q328 q329 q91 q330) rfl rfl rfl (by decide +kernel) ⟨Nat.le_of_ble_eq_true rfl, Nat.le_of_ble_eq_true rfl⟩) (c_preV (ci := 19) hk hH hS hg rfl) rfl rfl hl.1 rfl (lv_room (Nat.le_of_ble_eq_true rfl)) dX0_room_73 hR⟩) ?_
              clear hf
              refine Jite (fun hc => ?_) (fun hc => ?_)
              · refine Jrow (fun H locs ls hH hS hl k => lv_icmp_ge (tgt := 141) hx hb dX0_room_76 (by decide) (fun _ => (k ls hl)) (fun h => absurd hc h)) ?_
                clear hc
                refine Jrow (fun H locs ls hH hS hl k => lv_iload hx hb dX0_room_141 (lv_at hl 6 rfl) (k ls hl)) ?_
                refine Jrow (fun H locs ls hH hS hl k => lv_iload_n hx hb dX0_room_143 rfl (lv_at hl 2 rfl) (k ls hl)) ?_
                refine Jite (fun hc => ?_) (fun hc => ?_)
                · refine Jrow (fun H locs ls hH hS hl k => lv_icmp_gt (tgt := 165) hx hb dX0_room_144 (by decide) (fun _ => (k ls hl)) (fun h => absurd hc h)) ?_
                  clear hc
                  exact Jsub [0, 1, 2, 3, 4, 5] rfl (hk15 x7 x8 σ23)
                · refine Jrow (fun H locs ls hH hS hl k => lv_icmp_gt (tgt := 165) hx hb dX0_room_144 (by decide) (fun h => absurd h hc) (fun _ => (k ls hl))) ?_
                  clear hc
                  refine Jrow (fun H locs ls hH hS hl k => lv_lload hx hb dX0_room_147 (lv_at hl 7 rfl) (k ls hl)) ?_
                  refine Jrow (fun H locs ls hH hS hl k => lv_lload hx hb dX0_room_149 (lv_at hl 4 rfl) (k ls hl)) ?_
                  refine Jrow (fun H locs ls hH hS hl k => W.lcmp hx hb dX0_room_151 (k ls hl)) ?_
                  refine Jite (fun hc => ?_) (fun hc => ?_)
                  · refine Jrow (fun H locs ls hH hS hl k => lv_if_gt (tgt := 158) hx hb dX0_room_152 (by decide) (fun _ => (k ls hl)) (fun h => absurd hc h)) ?_
                    clear hc
                    refine Jrow (fun H locs ls hH hS hl k => lv_iload hx hb dX0_room_158 (lv_at hl 5 rfl) (k ls hl)) ?_
                    refine Jrow (fun H locs ls hH hS hl k => lv_istore_n (lv' := [(3, .int x9), (0, .ref a0), (1, .int p1), (2, .int p2), (4, .long x8), (6, .int x9), (7, .int x17), (8, .long x18), (10, .int x19)]) hx hb dX0_room_160 rfl hl (by decide) rfl k) ?_
                    refine Jrow (fun H locs ls hH hS hl k => lv_lload hx hb dX0_room_161 (lv_at hl 7 rfl) (k ls hl)) ?_
                    refine Jrow (fun H locs ls hH hS hl k => lv_lstore (lv' := [(4, .long x18), (3, .int x9), (0, .ref a0), (1, .int p1), (2, .int p2), (6, .int x9), (7, .int x17), (8, .long x18), (10, .int x19)]) hx hb dX0_room_163 hl (by decide) rfl k) ?_
                    exact Jsub [2, 3, 4, 1, 0, 5] rfl (hk15 x9 x18 σ23)
                  · refine Jrow (fun H locs ls hH hS hl k => lv_if_gt (tgt := 158) hx hb dX0_room_152 (by decide) (fun h => absurd h hc) (fun _ => (k ls hl))) ?_
                    clear hc
                    refine Jrow (fun H locs ls hH hS hl k => lv_goto (tgt := 165) hx hb dX0_room_155 (by decide) (k ls hl)) ?_
                    exact Jsub [0, 1, 2, 3, 4, 5] rfl (hk15 x7 x8 σ23)
              · refine Jrow (fun H locs ls hH hS hl k => lv_icmp_ge (tgt := 141) hx hb dX0_room_76 (by decide) (fun h => absurd h hc) (fun _ => (k ls hl))) ?_
                clear hc
                refine Jrow (fun H locs ls hH hS hl k => lv_iload hx hb dX0_room_79 (lv_at hl 5 rfl) (k ls hl)) ?_
                refine Jrow (fun H locs ls hH hS hl k => lv_iload hx hb dX0_room_81 (lv_at hl 8 rfl) (k ls hl)) ?_
                refine Jrow (fun H locs ls hH hS hl k => lv_ishr hx hb dX0_room_83 (k ls hl)) ?_
                refine Jrow (fun H locs ls hH hS hl k => lv_iconst (v := (1:Int32)) hx hb dX0_room_84 (by decide) (k ls hl)) ?_
                refine Jrow (fun H locs ls hH hS hl k => lv_iand hx hb dX0_room_85 (k ls hl)) ?_
                refine Jjn3 (fun (x25 : Int32) (x26 : Int64) (σ27 : CS) X41 => J p l e (headSpec (ws_ yX0_room cX0_room 11 (some .int)) (rmC 3 64 σ σz)).room s m ([.ref a0, .int p1, .int p2] : List Value).toArray below meth c 11 E (cZ σ) (cS σ) (MQ below (cQ E (some (.int r)) σz) ([.ref a0, .int p1, .int p2] : List Value).toArray s (cZ σz - cZ σ) (cS σz - cS σ) (EA E)) (r, σz) X41 σ27 135 [(0, .ref a0), (1, .int p1), (2, .int p2), (3, .int x7), (4, .long x8), (6, .int x9), (7, .int x25), (8, .long x26), (10, .int x19)] []) (fun x25 x26 σ27 => ?_) (fun k28 hk28 => ?_)
                · refine Jbd (fun x29 ex29 => ?_)
                  refine Jrow (fun H locs ls hH hS hl k => lv_iinc (v := x29) (lv' := [(10, .int x29), (0, .ref a0), (1, .int p1), (2, .int p2), (3, .int x7), (4, .long x8), (6, .int x9), (7, .int x25), (8, .long x26)]) hx hb dX0_room_135 hl (k := 8) rfl (by rw [ex29]; rfl) (by decide) rfl k) ?_
                  clear ex29
                  refine Jrow (fun H locs ls hH hS hl k => lv_goto (tgt := 67) hx hb dX0_room_138 (by decide) (k ls hl)) ?_
                  exact Jsub [1, 2, 3, 4, 5, 6, 7, 8, 0] rfl (hk21 x25 x26 x29 σ27)
                · refine Jite (fun hc => ?_) (fun hc => ?_)
                  · refine Jrow (fun H locs ls hH hS hl k => lv_if_ne (tgt := 92) hx hb dX0_room_86 (by decide) (fun h => absurd hc h) (fun _ => (k ls hl))) ?_
                    clear hc
                    refine Jrow (fun H locs ls hH hS hl k => lv_goto (tgt := 135) hx hb dX0_room_89 (by decide) (k ls hl)) ?_
                    exact Jsub [0, 1, 2, 3, 4, 5, 6, 7, 8] rfl (hk28 x17 x18 σ23)
                  · refine Jrow (fun H locs ls hH hS hl k => lv_if_ne (tgt := 92) hx hb dX0_room_86 (by decide) (fun _ => (k ls hl)) (fun h => absurd h hc)) ?_
                    clear hc
                    refine Jrow (fun H locs ls hH hS hl k => lv_iload hx hb dX0_room_92 (lv_at hl 6 rfl) (k ls hl)) ?_
                    refine Jrow (fun H locs ls hH hS hl k => lv_aload_n hx hb dX0_room_94 rfl (lv_at hl 0 rfl) (k ls hl)) ?_
                    refine Jgd (fun hg => ?_)
                    refine Jcl (fun x30 hq => ?_)
                    refine Jrow (fun H locs ls hH hS hl k => c_get (F := 28) (v := .ref x30) hx hb hts hown hK hH hg (hts _ q257) (fun _ h => h) (fvR rfl hq) dX0_room_95 (k ls hl)) ?_
                    clear hq
                    refine Jrow (fun H locs ls hH hS hl k => lv_iload hx hb dX0_room_98 (lv_at hl 8 rfl) (k ls hl)) ?_
                    refine Jgd (fun hg => ?_)
                    refine Jcl2 (fun x32 σ31 hf => ?_)
                    refine Jcall (v := (some (.ref x32))) (rest := [.int x17]) (mJ2_get l E hf).1 ⟨rfl, rfl⟩ (fun H locs ls hH hS hl hR => ⟨_, va_runV (C := RJ2) (As := [.int x19]) ⟨hx, hb, hml, hown, hts⟩ (mJ2_get l E hf).2 (cwV 1 hts (lw_V q605 q606 q607 q91 q608) rfl rfl rfl (by decide +kernel) ⟨Nat.le_of_ble_eq_true rfl, Nat.le_of_ble_eq_true rfl⟩) (c_preV (ci := 19) hk hH hS hg rfl) rfl rfl hl.1 rfl (lv_room (Nat.le_of_ble_eq_true rfl)) dX0_room_100 hR⟩) ?_
                    clear hf
                    refine Jgd (fun hg => ?_)
                    refine Jrow (fun H locs ls hH hS hl k => va_castE hx hb hown (hts _ q664) (c_recv hK hH (ci := 10) hg rfl) dX0_room_103 (k ls hl)) ?_
                    refine Jgd (fun hg => ?_)
                    refine Jrow (fun H locs ls hH hS hl k => c_getN (F := 82) (v := .int (cFI σ31 x32 82)) hx hb hts hown hK hH hg (cN hk.2.2.1 21 rfl) (fun _ h => h) rfl dX0_room_106 (k ls hl)) ?_
                    refine Jrow (fun H locs ls hH hS hl k => lv_iadd hx hb dX0_room_109 (k ls hl)) ?_
                    refine JbdI (fun x33 => ?_)
                    refine Jrow (fun H locs ls hH hS hl k => lv_istore (lv' := [(7, .int x33), (0, .ref a0), (1, .int p1), (2, .int p2), (3, .int x7), (4, .long x8), (6, .int x9), (8, .long x18), (10, .int x19)]) hx hb dX0_room_110 hl (by decide) rfl k) ?_
                    refine Jrow (fun H locs ls hH hS hl k => lv_lload hx hb dX0_room_112 (lv_at hl 7 rfl) (k ls hl)) ?_
                    refine Jrow (fun H locs ls hH hS hl k => lv_aload_n hx hb dX0_room_114 rfl (lv_at hl 1 rfl) (k ls hl)) ?_
                    refine Jgd (fun hg => ?_)
                    refine Jcl (fun x34 hq => ?_)
                    refine Jrow (fun H locs ls hH hS hl k => c_get (F := 28) (v := .ref x34) hx hb hts hown hK hH hg (hts _ q257) (fun _ h => h) (fvR rfl hq) dX0_room_115 (k ls hl)) ?_
                    clear hq
                    refine Jrow (fun H locs ls hH hS hl k => lv_iload hx hb dX0_room_118 (lv_at hl 8 rfl) (k ls hl)) ?_
                    refine Jgd (fun hg => ?_)
                    refine Jcl2 (fun x36 σ35 hf => ?_)
                    refine Jcall (v := (some (.ref x36))) (rest := [.long x18]) (mJ2_get l E hf).1 ⟨rfl, rfl⟩ (fun H locs ls hH hS hl hR => ⟨_, va_runV (C := RJ2) (As := [.int x19]) ⟨hx, hb, hml, hown, hts⟩ (mJ2_get l E hf).2 (cwV 1 hts (lw_V q605 q606 q607 q91 q608) rfl rfl rfl (by decide +kernel) ⟨Nat.le_of_ble_eq_true rfl, Nat.le_of_ble_eq_true rfl⟩) (c_preV (ci := 19) hk hH hS hg rfl) rfl rfl hl.1 rfl (lv_room (Nat.le_of_ble_eq_true rfl)) dX0_room_120 hR⟩) ?_
                    clear hf
                    refine Jgd (fun hg => ?_)
                    refine Jrow (fun H locs ls hH hS hl k => va_castE hx hb hown (hts _ q664) (c_recv hK hH (ci := 10) hg rfl) dX0_room_123 (k ls hl)) ?_
                    refine Jgd (fun hg => ?_)
                    refine Jcl (fun x37 hq => ?_)
                    refine Jrow (fun H locs ls hH hS hl k => c_getN (F := 83) (v := .ref x37) hx hb hts hown hK hH hg (cN hk.2.2.1 22 rfl) (fun _ h => h) (fvR rfl hq) dX0_room_126 (k ls hl)) ?_
                    clear hq
                    refine Jgd (fun hg => ?_)
                    refine Jcl2 (fun x39 σ38 hf => ?_)
                    refine Jcall (v := (some (.long x39))) (rest := [.long x18]) (mX2_harm l E hf).1 ⟨rfl, rfl⟩ (fun H locs ls hH hS hl hR => ⟨_, va_runV (C := RX2) (As := []) ⟨hx, hb, hml, hown, hts⟩ (mX2_harm l E hf).2 (cwV 0 hts (lw_V q758 q759 q760 q93 q761) rfl rfl rfl (by decide +kernel) ⟨Nat.le_of_ble_eq_true rfl, Nat.le_of_ble_eq_true rfl⟩) (c_preV (ci := 3) hk hH hS hg rfl) rfl rfl hl.1 rfl (lv_room (Nat.le_of_ble_eq_true rfl)) dX0_room_129 hR⟩) ?_
                    clear hf
                    refine Jrow (fun H locs ls hH hS hl k => lv_ladd hx hb dX0_room_132 (k ls hl)) ?_
                    refine JbdL (fun x40 => ?_)
                    refine Jrow (fun H locs ls hH hS hl k => lv_lstore (lv' := [(8, .long x40), (7, .int x33), (0, .ref a0), (1, .int p1), (2, .int p2), (3, .int x7), (4, .long x8), (6, .int x9), (10, .int x19)]) hx hb dX0_room_133 hl (by decide) rfl k) ?_
                    exact Jsub [2, 3, 4, 5, 6, 7, 1, 0, 8] rfl (hk28 x33 x40 σ38)
            · refine Jrow (fun H locs ls hH hS hl k => lv_if_eq (tgt := 58) hx hb dX0_room_52 (by decide) (fun h => absurd h hc) (fun _ => (k ls hl))) ?_
              clear hc
              refine Jrow (fun H locs ls hH hS hl k => lv_goto (tgt := 165) hx hb dX0_room_55 (by decide) (k ls hl)) ?_
              exact Jsub [0, 1, 2, 3, 4, 5] rfl (hk15 x7 x8 σ10)

def fX0_trace (a0 : Nat) (p1 : Int32) (σ : CS) : Option (Int32 × CS) :=
 gd (hf (cK σ a0) 36) (
 cl (cFR σ a0 36) (fun (x1 : Nat) =>
 gd (kd σ x1 101) (
 cl (fX0_in p1 (0:Int32) ((nI (cLN σ x1)) - (1:Int32))) (fun (x2 : Int32) =>
 jn (fun (x3 : Int32) => some (x3, σ)) (fun (k4 : Int32 → Option (Int32 × CS)) =>
 jn (k4 (-1:Int32)) (fun (k5 : Option (Int32 × CS)) =>
 if x2 = (0:Int32) then
 k5
 else
 gd (hf (cK σ a0) 35) (
 if (cFI σ a0 35) ≤ p1 then
 k5
 else
 gd (hf (cK σ a0) 36) (
 cl (cFR σ a0 36) (fun (x6 : Nat) =>
 gd (kd σ x6 101) (
 gd (ib p1 (cLN σ x6)) (
 k4 (cAI σ x6 p1.toNatClampNeg))))))))))))
theorem nX0_trace {a0 : Nat} {p1 : Int32} {σ : CS} : Mn σ (fX0_trace a0 p1 σ) := by
  unfold fX0_trace
  refine Mgd ?_
  refine Mcl (fun x1 => ?_)
  refine Mgd ?_
  refine Mcl (fun x2 => ?_)
  refine Mjn1 (fun (x3 : Int32) (X8 : Option (Int32 × CS)) => Mn σ X8) (fun x3 => ?_) (fun k4 hk4 => ?_)
  · exact Mret
  · refine Mjn0 (fun  (X7 : Option (Int32 × CS)) => Mn σ X7) (?_) (fun k5 hk5 => ?_)
    · exact hk4 (-1:Int32)
    · refine Mite ?_ ?_
      · exact hk5
      · refine Mgd ?_
        refine Mite ?_ ?_
        · exact hk5
        · refine Mgd ?_
          refine Mcl (fun x6 => ?_)
          refine Mgd ?_
          refine Mgd ?_
          exact hk4 (cAI σ x6 p1.toNatClampNeg)
set_option maxHeartbeats 4000000 in
set_option maxRecDepth 100000 in
theorem mX0_trace (l : Launch) (E : CE) {a0 : Nat} {p1 : Int32} {σ : CS} {r : Int32} {σz : CS} (hX : fX0_trace a0 p1 σ = some (r, σz)) : MetC l yX0_trace (ws_ yX0_trace cX0_trace 2 (some .int)) 1 22 E σ [.ref a0, .int p1] (some (.int r)) σz := by
  refine MetC.of hX (by decide) (Nat.le_of_ble_eq_true rfl) (nX0_trace _ hX) ?_
  intro p e s m below meth c hx hb hr hml hts hown hlocks hnm hk hz0
  have hK := hk.1
  show J p l e (headSpec (ws_ yX0_trace cX0_trace 2 (some .int)) (rmC 1 22 σ σz)).room s m ([.ref a0, .int p1] : List Value).toArray below meth c 2 E (cZ σ) (cS σ) (MQ below (cQ E (some (.int r)) σz) ([.ref a0, .int p1] : List Value).toArray s (cZ σz - cZ σ) (cS σz - cS σ) (EA E)) (r, σz) (fX0_trace a0 p1 σ) σ 0 [(0, .ref a0), (1, .int p1)] []
  unfold fX0_trace
  refine Jrow (fun H locs ls hH hS hl k => lv_iload_n hx hb dX0_trace_0 rfl (lv_at hl 1 rfl) (k ls hl)) ?_
  refine Jrow (fun H locs ls hH hS hl k => lv_iconst (v := (0:Int32)) hx hb dX0_trace_1 (by decide) (k ls hl)) ?_
  refine Jrow (fun H locs ls hH hS hl k => lv_aload_n hx hb dX0_trace_2 rfl (lv_at hl 0 rfl) (k ls hl)) ?_
  refine Jgd (fun hg => ?_)
  refine Jcl (fun x1 hq => ?_)
  refine Jrow (fun H locs ls hH hS hl k => c_get (F := 36) (v := .ref x1) hx hb hts hown hK hH hg (hts _ q266) (fun _ h => h) (fvR rfl hq) dX0_trace_3 (k ls hl)) ?_
  clear hq
  refine Jgd (fun hk1 => ?_)
  refine Jrow (fun H locs ls hH hS hl k => c_alen (t := 0) hx hb hK hH (by decide) hk1 dX0_trace_6 (k ls hl)) ?_
  refine Jrow (fun H locs ls hH hS hl k => lv_iconst (v := (1:Int32)) hx hb dX0_trace_7 (by decide) (k ls hl)) ?_
  refine Jrow (fun H locs ls hH hS hl k => lv_isub hx hb dX0_trace_8 (k ls hl)) ?_
  refine Jcl (fun x2 hf => ?_)
  refine JcallS (v := .int x2) (rest := []) hz0 ⟨rfl, rfl⟩ sQi_o (fun H locs ls hl hR => va_runS (As := [.int p1, .int (0:Int32), .int ((nI (cLN σ x1)) - (1:Int32))]) ⟨hx, hb, hml, hown, hts⟩ (mX0_in l hf) (va_cwS 3 hts (lw_S q319 q320 q88 q321) rfl rfl rfl (by decide +kernel) ⟨Nat.le_of_ble_eq_true rfl, Nat.le_of_ble_eq_true rfl⟩) s_pre rfl rfl hl.1 rfl (lv_room (Nat.le_of_ble_eq_true rfl)) dX0_trace_9 hR) ?_
  clear hf
  refine Jjn1 (fun (x3 : Int32) X8 => J p l e (headSpec (ws_ yX0_trace cX0_trace 2 (some .int)) (rmC 1 22 σ σz)).room s m ([.ref a0, .int p1] : List Value).toArray below meth c 2 E (cZ σ) (cS σ) (MQ below (cQ E (some (.int r)) σz) ([.ref a0, .int p1] : List Value).toArray s (cZ σz - cZ σ) (cS σz - cS σ) (EA E)) (r, σz) X8 σ 33 [] [.int x3]) (fun x3 => ?_) (fun k4 hk4 => ?_)
  · exact Jiret hx hb hr hlocks dX0_trace_33
  · refine Jjn0 (fun  X7 => J p l e (headSpec (ws_ yX0_trace cX0_trace 2 (some .int)) (rmC 1 22 σ σz)).room s m ([.ref a0, .int p1] : List Value).toArray below meth c 2 E (cZ σ) (cS σ) (MQ below (cQ E (some (.int r)) σz) ([.ref a0, .int p1] : List Value).toArray s (cZ σz - cZ σ) (cS σz - cS σ) (EA E)) (r, σz) X7 σ 32 [] []) (?_) (fun k5 hk5 => ?_)
    · refine Jrow (fun H locs ls hH hS hl k => lv_iconst (v := (-1:Int32)) hx hb dX0_trace_32 (by decide) (k ls hl)) ?_
      exact Jsub [] rfl (hk4 (-1:Int32))
    · refine Jite (fun hc => ?_) (fun hc => ?_)
      · refine Jrow (fun H locs ls hH hS hl k => lv_if_eq (tgt := 32) hx hb dX0_trace_12 (by decide) (fun _ => (k ls hl)) (fun h => absurd hc h)) ?_
        clear hc
        exact Jsub [] rfl (hk5)
      · refine Jrow (fun H locs ls hH hS hl k => lv_if_eq (tgt := 32) hx hb dX0_trace_12 (by decide) (fun h => absurd h hc) (fun _ => (k ls hl))) ?_
        clear hc
        refine Jrow (fun H locs ls hH hS hl k => lv_iload_n hx hb dX0_trace_15 rfl (lv_at hl 1 rfl) (k ls hl)) ?_
        refine Jrow (fun H locs ls hH hS hl k => lv_aload_n hx hb dX0_trace_16 rfl (lv_at hl 0 rfl) (k ls hl)) ?_
        refine Jgd (fun hg => ?_)
        refine Jrow (fun H locs ls hH hS hl k => c_get (F := 35) (v := .int (cFI σ a0 35)) hx hb hts hown hK hH hg (hts _ q265) (fun _ h => h) rfl dX0_trace_17 (k ls hl)) ?_
        refine Jite (fun hc => ?_) (fun hc => ?_)
        · refine Jrow (fun H locs ls hH hS hl k => lv_icmp_ge (tgt := 32) hx hb dX0_trace_20 (by decide) (fun _ => (k ls hl)) (fun h => absurd hc h)) ?_
          clear hc
          exact Jsub [] rfl (hk5)
        · refine Jrow (fun H locs ls hH hS hl k => lv_icmp_ge (tgt := 32) hx hb dX0_trace_20 (by decide) (fun h => absurd h hc) (fun _ => (k ls hl))) ?_
          clear hc
          refine Jrow (fun H locs ls hH hS hl k => lv_aload_n hx hb dX0_trace_23 rfl (lv_at hl 0 rfl) (k ls hl)) ?_
          refine Jgd (fun hg => ?_)
          refine Jcl (fun x6 hq => ?_)
          refine Jrow (fun H locs ls hH hS hl k => c_get (F := 36) (v := .ref x6) hx hb hts hown hK hH hg (hts _ q266) (fun _ h => h) (fvR rfl hq) dX0_trace_24 (k ls hl)) ?_
          clear hq
          refine Jrow (fun H locs ls hH hS hl k => lv_iload_n hx hb dX0_trace_27 rfl (lv_at hl 1 rfl) (k ls hl)) ?_
          refine Jgd (fun hk1 => ?_)
          refine Jgd (fun hg => ?_)
          refine Jrow (fun H locs ls hH hS hl k => c_iald hx hb hK hH hk1 hg dX0_trace_28 (k ls hl)) ?_
          refine Jrow (fun H locs ls hH hS hl k => lv_goto (tgt := 33) hx hb dX0_trace_29 (by decide) (k ls hl)) ?_
          exact Jsub [] rfl (hk4 (cAI σ x6 p1.toNatClampNeg))

def fX0_count (a0 : Nat) (p1 : Int32) (σ : CS) : Option (Int32 × CS) :=
 if p1 = (0:Int32) then
 gd (hf (cK σ a0) 26) (
 cl (cFR σ a0 26) (fun (x1 : Nat) =>
 gd (kd σ x1 20) (
 cl2 (fJ2_size x1 σ) (fun (x3 : Int32) (σ2 : CS) =>
 some (x3, σ2)))))
 else
 if p1 = (1:Int32) then
 gd (hf (cK σ a0) 28) (
 cl (cFR σ a0 28) (fun (x4 : Nat) =>
 gd (kd σ x4 20) (
 cl2 (fJ2_size x4 σ) (fun (x6 : Int32) (σ5 : CS) =>
 some (x6, σ5)))))
 else
 if p1 = (2:Int32) then
 gd (hf (cK σ a0) 38) (
 cl (cFR σ a0 38) (fun (x7 : Nat) =>
 gd (kd σ x7 20) (
 cl2 (fJ2_size x7 σ) (fun (x9 : Int32) (σ8 : CS) =>
 some (x9, σ8)))))
 else
 if p1 = (3:Int32) then
 gd (hf (cK σ a0) 25) (
 some (cFI σ a0 25, σ))
 else
 if p1 = (4:Int32) then
 gd (hf (cK σ a0) 35) (
 some (cFI σ a0 35, σ))
 else
 some ((-1:Int32), σ)
theorem nX0_count {a0 : Nat} {p1 : Int32} {σ : CS} : Mn σ (fX0_count a0 p1 σ) := by
  unfold fX0_count
  refine Mite ?_ ?_
  · refine Mgd ?_
    refine Mcl (fun x1 => ?_)
    refine Mgd ?_
    refine Mcl2 (nJ2_size) (fun x3 σ2 => ?_)
    exact Mret
  · refine Mite ?_ ?_
    · refine Mgd ?_
      refine Mcl (fun x4 => ?_)
      refine Mgd ?_
      refine Mcl2 (nJ2_size) (fun x6 σ5 => ?_)
      exact Mret
    · refine Mite ?_ ?_
      · refine Mgd ?_
        refine Mcl (fun x7 => ?_)
        refine Mgd ?_
        refine Mcl2 (nJ2_size) (fun x9 σ8 => ?_)
        exact Mret
      · refine Mite ?_ ?_
        · refine Mgd ?_
          exact Mret
        · refine Mite ?_ ?_
          · refine Mgd ?_
            exact Mret
          · exact Mret
set_option maxHeartbeats 4000000 in
set_option maxRecDepth 100000 in
theorem mX0_count (l : Launch) (E : CE) {a0 : Nat} {p1 : Int32} {σ : CS} {r : Int32} {σz : CS} (hX : fX0_count a0 p1 σ = some (r, σz)) : MetC l yX0_count (ws_ yX0_count cX0_count 2 (some .int)) 1 20 E σ [.ref a0, .int p1] (some (.int r)) σz := by
  refine MetC.of hX (by decide) (Nat.le_of_ble_eq_true rfl) (nX0_count _ hX) ?_
  intro p e s m below meth c hx hb hr hml hts hown hlocks hnm hk hz0
  have hK := hk.1
  show J p l e (headSpec (ws_ yX0_count cX0_count 2 (some .int)) (rmC 1 20 σ σz)).room s m ([.ref a0, .int p1] : List Value).toArray below meth c 2 E (cZ σ) (cS σ) (MQ below (cQ E (some (.int r)) σz) ([.ref a0, .int p1] : List Value).toArray s (cZ σz - cZ σ) (cS σz - cS σ) (EA E)) (r, σz) (fX0_count a0 p1 σ) σ 0 [(0, .ref a0), (1, .int p1)] []
  unfold fX0_count
  refine Jrow (fun H locs ls hH hS hl k => lv_iload_n hx hb dX0_count_0 rfl (lv_at hl 1 rfl) (k ls hl)) ?_
  refine Jite (fun hc0 => ?_) (fun hc0 => ?_)
  · refine Jrow (fun H locs ls hH hS hl k => lv_tableIn (off := 35) (tgt := 36) hx hb dX0_count_1 (by rw [hc0]; decide) (by rw [hc0]; decide) (by rw [hc0]; decide) (by decide) (k ls hl)) ?_
    refine Jrow (fun H locs ls hH hS hl k => lv_aload_n hx hb dX0_count_36 rfl (lv_at hl 0 rfl) (k ls hl)) ?_
    refine Jgd (fun hg => ?_)
    refine Jcl (fun x1 hq => ?_)
    refine Jrow (fun H locs ls hH hS hl k => c_get (F := 26) (v := .ref x1) hx hb hts hown hK hH hg (hts _ q253) (fun _ h => h) (fvR rfl hq) dX0_count_37 (k ls hl)) ?_
    clear hq
    refine Jgd (fun hg => ?_)
    refine Jcl2 (fun x3 σ2 hf => ?_)
    refine Jcall (v := (some (.int x3))) (rest := []) (mJ2_size l E hf).1 ⟨rfl, rfl⟩ (fun H locs ls hH hS hl hR => ⟨_, va_runV (C := RJ2) (As := []) ⟨hx, hb, hml, hown, hts⟩ (mJ2_size l E hf).2 (cwV 0 hts (lw_V q327 q328 q329 q91 q330) rfl rfl rfl (by decide +kernel) ⟨Nat.le_of_ble_eq_true rfl, Nat.le_of_ble_eq_true rfl⟩) (c_preV (ci := 19) hk hH hS hg rfl) rfl rfl hl.1 rfl (lv_room (Nat.le_of_ble_eq_true rfl)) dX0_count_40 hR⟩) ?_
    clear hf
    exact Jiret hx hb hr hlocks dX0_count_43
  · refine Jite (fun hc1 => ?_) (fun hc1 => ?_)
    · refine Jrow (fun H locs ls hH hS hl k => lv_tableIn (off := 43) (tgt := 44) hx hb dX0_count_1 (by rw [hc1]; decide) (by rw [hc1]; decide) (by rw [hc1]; decide) (by decide) (k ls hl)) ?_
      refine Jrow (fun H locs ls hH hS hl k => lv_aload_n hx hb dX0_count_44 rfl (lv_at hl 0 rfl) (k ls hl)) ?_
      refine Jgd (fun hg => ?_)
      refine Jcl (fun x4 hq => ?_)
      refine Jrow (fun H locs ls hH hS hl k => c_get (F := 28) (v := .ref x4) hx hb hts hown hK hH hg (hts _ q257) (fun _ h => h) (fvR rfl hq) dX0_count_45 (k ls hl)) ?_
      clear hq
      refine Jgd (fun hg => ?_)
      refine Jcl2 (fun x6 σ5 hf => ?_)
      refine Jcall (v := (some (.int x6))) (rest := []) (mJ2_size l E hf).1 ⟨rfl, rfl⟩ (fun H locs ls hH hS hl hR => ⟨_, va_runV (C := RJ2) (As := []) ⟨hx, hb, hml, hown, hts⟩ (mJ2_size l E hf).2 (cwV 0 hts (lw_V q327 q328 q329 q91 q330) rfl rfl rfl (by decide +kernel) ⟨Nat.le_of_ble_eq_true rfl, Nat.le_of_ble_eq_true rfl⟩) (c_preV (ci := 19) hk hH hS hg rfl) rfl rfl hl.1 rfl (lv_room (Nat.le_of_ble_eq_true rfl)) dX0_count_48 hR⟩) ?_
      clear hf
      exact Jiret hx hb hr hlocks dX0_count_51
    · refine Jite (fun hc2 => ?_) (fun hc2 => ?_)
      · refine Jrow (fun H locs ls hH hS hl k => lv_tableIn (off := 51) (tgt := 52) hx hb dX0_count_1 (by rw [hc2]; decide) (by rw [hc2]; decide) (by rw [hc2]; decide) (by decide) (k ls hl)) ?_
        refine Jrow (fun H locs ls hH hS hl k => lv_aload_n hx hb dX0_count_52 rfl (lv_at hl 0 rfl) (k ls hl)) ?_
        refine Jgd (fun hg => ?_)
        refine Jcl (fun x7 hq => ?_)
        refine Jrow (fun H locs ls hH hS hl k => c_get (F := 38) (v := .ref x7) hx hb hts hown hK hH hg (hts _ q271) (fun _ h => h) (fvR rfl hq) dX0_count_53 (k ls hl)) ?_
        clear hq
        refine Jgd (fun hg => ?_)
        refine Jcl2 (fun x9 σ8 hf => ?_)
        refine Jcall (v := (some (.int x9))) (rest := []) (mJ2_size l E hf).1 ⟨rfl, rfl⟩ (fun H locs ls hH hS hl hR => ⟨_, va_runV (C := RJ2) (As := []) ⟨hx, hb, hml, hown, hts⟩ (mJ2_size l E hf).2 (cwV 0 hts (lw_V q327 q328 q329 q91 q330) rfl rfl rfl (by decide +kernel) ⟨Nat.le_of_ble_eq_true rfl, Nat.le_of_ble_eq_true rfl⟩) (c_preV (ci := 19) hk hH hS hg rfl) rfl rfl hl.1 rfl (lv_room (Nat.le_of_ble_eq_true rfl)) dX0_count_56 hR⟩) ?_
        clear hf
        exact Jiret hx hb hr hlocks dX0_count_59
      · refine Jite (fun hc3 => ?_) (fun hc3 => ?_)
        · refine Jrow (fun H locs ls hH hS hl k => lv_tableIn (off := 59) (tgt := 60) hx hb dX0_count_1 (by rw [hc3]; decide) (by rw [hc3]; decide) (by rw [hc3]; decide) (by decide) (k ls hl)) ?_
          refine Jrow (fun H locs ls hH hS hl k => lv_aload_n hx hb dX0_count_60 rfl (lv_at hl 0 rfl) (k ls hl)) ?_
          refine Jgd (fun hg => ?_)
          refine Jrow (fun H locs ls hH hS hl k => c_get (F := 25) (v := .int (cFI σ a0 25)) hx hb hts hown hK hH hg (hts _ q251) (fun _ h => h) rfl dX0_count_61 (k ls hl)) ?_
          exact Jiret hx hb hr hlocks dX0_count_64
        · refine Jite (fun hc4 => ?_) (fun hc4 => ?_)
          · refine Jrow (fun H locs ls hH hS hl k => lv_tableIn (off := 64) (tgt := 65) hx hb dX0_count_1 (by rw [hc4]; decide) (by rw [hc4]; decide) (by rw [hc4]; decide) (by decide) (k ls hl)) ?_
            refine Jrow (fun H locs ls hH hS hl k => lv_aload_n hx hb dX0_count_65 rfl (lv_at hl 0 rfl) (k ls hl)) ?_
            refine Jgd (fun hg => ?_)
            refine Jrow (fun H locs ls hH hS hl k => c_get (F := 35) (v := .int (cFI σ a0 35)) hx hb hts hown hK hH hg (hts _ q265) (fun _ h => h) rfl dX0_count_66 (k ls hl)) ?_
            exact Jiret hx hb hr hlocks dX0_count_69
          · have hto : p1.toInt < 0 ∨ 4 < p1.toInt := by
              refine tb_out (fun v h1 h2 => ?_)
              have hv : v = 0 ∨ v = 1 ∨ v = 2 ∨ v = 3 ∨ v = 4 := by omega
              rcases hv with rfl | rfl | rfl | rfl | rfl
              · exact lv_neT hc0 (by decide)
              · exact lv_neT hc1 (by decide)
              · exact lv_neT hc2 (by decide)
              · exact lv_neT hc3 (by decide)
              · exact lv_neT hc4 (by decide)
            refine Jrow (fun H locs ls hH hS hl k => lv_tableOut (tgt := 70) hx hb dX0_count_1 hto (by decide) (k ls hl)) ?_
            refine Jrow (fun H locs ls hH hS hl k => lv_iconst (v := (-1:Int32)) hx hb dX0_count_70 (by decide) (k ls hl)) ?_
            exact Jiret hx hb hr hlocks dX0_count_71

def fX3_held (a0 : Nat) (p1 : Int32) (p2 : Int64) (σ : CS) : Option (Int64 × CS) :=
 gd (hf (cK σ a0) 56) (
 cl (cFR σ a0 56) (fun (x1 : Nat) =>
 gd (kd σ x1 103) (
 gd (ib p1 (cLN σ x1)) (
 gd (hf (cK σ a0) 56) (
 cl (cFR σ a0 56) (fun (x2 : Nat) =>
 gd (kd σ x2 103) (
 gd (ib p1 (cLN σ x2)) (
 gd (hf (cK σ a0) 58) (
 cl (cFR σ a0 58) (fun (x3 : Nat) =>
 gd (kd σ x3 101) (
 gd (ib p1 (cLN σ x3)) (
 cl (fX0_joint p2 ((10:Int64) * (cAL σ x2 p1.toNatClampNeg)) (cAI σ x3 p1.toNatClampNeg)) (fun (x4 : Int64) =>
 some ((cAL σ x1 p1.toNatClampNeg) + x4, σ))))))))))))))
theorem nX3_held {a0 : Nat} {p1 : Int32} {p2 : Int64} {σ : CS} : Mn σ (fX3_held a0 p1 p2 σ) := by
  unfold fX3_held
  refine Mgd ?_
  refine Mcl (fun x1 => ?_)
  refine Mgd ?_
  refine Mgd ?_
  refine Mgd ?_
  refine Mcl (fun x2 => ?_)
  refine Mgd ?_
  refine Mgd ?_
  refine Mgd ?_
  refine Mcl (fun x3 => ?_)
  refine Mgd ?_
  refine Mgd ?_
  refine Mcl (fun x4 => ?_)
  exact Mret
set_option maxHeartbeats 4000000 in
set_option maxRecDepth 100000 in
theorem mX3_held (l : Launch) (E : CE) {a0 : Nat} {p1 : Int32} {p2 : Int64} {σ : CS} {r : Int64} {σz : CS} (hX : fX3_held a0 p1 p2 σ = some (r, σz)) : MetC l yX3_held (ws_ yX3_held cX3_held 4 (some .long)) 1 24 E σ [.ref a0, .int p1, .long p2] (some (.long r)) σz := by
  refine MetC.of hX (by decide) (Nat.le_of_ble_eq_true rfl) (nX3_held _ hX) ?_
  intro p e s m below meth c hx hb hr hml hts hown hlocks hnm hk hz0
  have hK := hk.1
  show J p l e (headSpec (ws_ yX3_held cX3_held 4 (some .long)) (rmC 1 24 σ σz)).room s m ([.ref a0, .int p1, .long p2] : List Value).toArray below meth c 4 E (cZ σ) (cS σ) (MQ below (cQ E (some (.long r)) σz) ([.ref a0, .int p1, .long p2] : List Value).toArray s (cZ σz - cZ σ) (cS σz - cS σ) (EA E)) (r, σz) (fX3_held a0 p1 p2 σ) σ 0 [(0, .ref a0), (1, .int p1), (2, .long p2)] []
  unfold fX3_held
  refine Jrow (fun H locs ls hH hS hl k => lv_aload_n hx hb dX3_held_0 rfl (lv_at hl 0 rfl) (k ls hl)) ?_
  refine Jgd (fun hg => ?_)
  refine Jcl (fun x1 hq => ?_)
  refine Jrow (fun H locs ls hH hS hl k => c_get (F := 56) (v := .ref x1) hx hb hts hown hK hH hg (hts _ q229) (fun _ h => h) (fvR rfl hq) dX3_held_1 (k ls hl)) ?_
  clear hq
  refine Jrow (fun H locs ls hH hS hl k => lv_iload_n hx hb dX3_held_4 rfl (lv_at hl 1 rfl) (k ls hl)) ?_
  refine Jgd (fun hk1 => ?_)
  refine Jgd (fun hg => ?_)
  refine Jrow (fun H locs ls hH hS hl k => c_lald hx hb hK hH hk1 hg dX3_held_5 (k ls hl)) ?_
  refine Jrow (fun H locs ls hH hS hl k => lv_lload_n hx hb dX3_held_6 rfl (lv_at hl 2 rfl) (k ls hl)) ?_
  refine Jrow (fun H locs ls hH hS hl k => lv_ldc2 (v := (10:Int64)) hx hb hown (hts _ q933) dX3_held_7 (k ls hl)) ?_
  refine Jrow (fun H locs ls hH hS hl k => lv_aload_n hx hb dX3_held_10 rfl (lv_at hl 0 rfl) (k ls hl)) ?_
  refine Jgd (fun hg => ?_)
  refine Jcl (fun x2 hq => ?_)
  refine Jrow (fun H locs ls hH hS hl k => c_get (F := 56) (v := .ref x2) hx hb hts hown hK hH hg (hts _ q229) (fun _ h => h) (fvR rfl hq) dX3_held_11 (k ls hl)) ?_
  clear hq
  refine Jrow (fun H locs ls hH hS hl k => lv_iload_n hx hb dX3_held_14 rfl (lv_at hl 1 rfl) (k ls hl)) ?_
  refine Jgd (fun hk1 => ?_)
  refine Jgd (fun hg => ?_)
  refine Jrow (fun H locs ls hH hS hl k => c_lald hx hb hK hH hk1 hg dX3_held_15 (k ls hl)) ?_
  refine Jrow (fun H locs ls hH hS hl k => lv_lmul hx hb dX3_held_16 (k ls hl)) ?_
  refine Jrow (fun H locs ls hH hS hl k => lv_aload_n hx hb dX3_held_17 rfl (lv_at hl 0 rfl) (k ls hl)) ?_
  refine Jgd (fun hg => ?_)
  refine Jcl (fun x3 hq => ?_)
  refine Jrow (fun H locs ls hH hS hl k => c_get (F := 58) (v := .ref x3) hx hb hts hown hK hH hg (hts _ q231) (fun _ h => h) (fvR rfl hq) dX3_held_18 (k ls hl)) ?_
  clear hq
  refine Jrow (fun H locs ls hH hS hl k => lv_iload_n hx hb dX3_held_21 rfl (lv_at hl 1 rfl) (k ls hl)) ?_
  refine Jgd (fun hk1 => ?_)
  refine Jgd (fun hg => ?_)
  refine Jrow (fun H locs ls hH hS hl k => c_iald hx hb hK hH hk1 hg dX3_held_22 (k ls hl)) ?_
  refine Jcl (fun x4 hf => ?_)
  refine JcallS (v := .long x4) (rest := [.long (cAL σ x1 p1.toNatClampNeg)]) hz0 ⟨rfl, rfl⟩ sQl_o (fun H locs ls hl hR => va_runSN (As := [.long p2, .long ((10:Int64) * (cAL σ x2 p1.toNatClampNeg)), .int (cAI σ x3 p1.toNatClampNeg)]) ⟨hx, hb, hml, hown, hts⟩ (mX0_joint l hf) ⟨va_cnB 3 hts (lw_meth q936) rfl rfl rfl (cN hk.2.2.1 81 rfl) (hts _ q88) (by decide +kernel) ⟨Nat.le_of_ble_eq_true rfl, Nat.le_of_ble_eq_true rfl⟩, hts _ q935, trivial⟩ s_pre rfl rfl hl.1 rfl (lv_room (Nat.le_of_ble_eq_true rfl)) dX3_held_23 hR) ?_
  clear hf
  refine Jrow (fun H locs ls hH hS hl k => lv_ladd hx hb dX3_held_26 (k ls hl)) ?_
  exact Jlret hx hb hr hlocks dX3_held_27

def fX3_isBestFor (a0 : Nat) (p1 : Nat) (p2 : Int32) (p3 : Int32) (σ : CS) : Option (Int32 × CS) :=
 gd (hf (cK σ a0) 55) (
 cl (cFR σ a0 55) (fun (x1 : Nat) =>
 gd (kd σ x1 107) (
 gd (ib (0:Int32) (cLN σ x1)) (
 cl (cAR σ x1 (0:Int32).toNatClampNeg) (fun (x2 : Nat) =>
 gd (kd σ x2 4) (
 cl2 (fX2_become x2 p1 σ) (fun (_ : Unit) (σ3 : CS) =>
 lp (fun _ _ => none) (fun (k7 : Int32 → CS → Option (Int32 × CS)) (x5 : Int32) (σ6 : CS) =>
 jn (fun (σ8 : CS) => gd (hf (cK σ8 a0) 57) (
 cl (cFR σ8 a0 57) (fun (x10 : Nat) =>
 gd (kd σ8 x10 103) (
 gd (ib p3 (cLN σ8 x10)) (
 bd (cAL σ8 x10 p3.toNatClampNeg) (fun (x11 : Int64) =>
 bd (p3 - (1:Int32)) (fun (x12 : Int32) =>
 lp (fun _ _ _ => none) (fun (k16 : Int64 → Int32 → CS → Option (Int32 × CS)) (x13 : Int64) (x14 : Int32) (σ15 : CS) =>
 if x14 ≤ (0:Int32) then
 gd (hf (cK σ15 a0) 57) (
 cl (cFR σ15 a0 57) (fun (x17 : Nat) =>
 gd (kd σ15 x17 103) (
 gd (ib (0:Int32) (cLN σ15 x17)) (
 gd (kd σ15 a0 5) (
 cl2 (fX3_held a0 (0:Int32) x13 σ15) (fun (x19 : Int64) (σ18 : CS) =>
 jn (fun (x20 : Int32) => gd (isb x20) (some (x20, σ18))) (fun (k21 : Int32 → Option (Int32 × CS)) =>
 if (0:Int32) < (lg_cmp (cAL σ15 x17 (0:Int32).toNatClampNeg) x19) then
 k21 (0:Int32)
 else
 k21 (1:Int32))))))))
 else
 gd (hf (cK σ15 a0) 57) (
 cl (cFR σ15 a0 57) (fun (x23 : Nat) =>
 gd (kd σ15 x23 103) (
 gd (ib x14 (cLN σ15 x23)) (
 gd (kd σ15 a0 5) (
 cl2 (fX3_held a0 x14 x13 σ15) (fun (x25 : Int64) (σ24 : CS) =>
 bd (if x25 < (cAL σ15 x23 x14.toNatClampNeg) then x25 else (cAL σ15 x23 x14.toNatClampNeg)) (fun (x26 : Int64) =>
 bd (x14 + (-1:Int32)) (fun (x27 : Int32) =>
 k16 x26 x27 σ24))))))))) NF x11 x12 σ8))))))) (fun (k9 : CS → Option (Int32 × CS)) =>
 if p3 < x5 then
 k9 σ6
 else
 gd (hf (cK σ6 a0) 56) (
 cl (cFR σ6 a0 56) (fun (x29 : Nat) =>
 gd (hf (cK σ6 a0) 55) (
 cl (cFR σ6 a0 55) (fun (x30 : Nat) =>
 gd (kd σ6 x30 107) (
 gd (ib x5 (cLN σ6 x30)) (
 cl (cAR σ6 x30 x5.toNatClampNeg) (fun (x31 : Nat) =>
 gd (kd σ6 x31 4) (
 cl2 (fX2_cost x31 (p2 + x5) σ6) (fun (x33 : Int64) (σ32 : CS) =>
 gd (kd σ32 x29 103) (
 gd (ib x5 (cLN σ32 x29)) (
 bd (uAL σ32 x29 x5.toNatClampNeg x33) (fun (σ34 : CS) =>
 gd (hf (cK σ34 a0) 57) (
 cl (cFR σ34 a0 57) (fun (x35 : Nat) =>
 gd (hf (cK σ34 a0) 55) (
 cl (cFR σ34 a0 55) (fun (x36 : Nat) =>
 gd (kd σ34 x36 107) (
 gd (ib x5 (cLN σ34 x36)) (
 cl (cAR σ34 x36 x5.toNatClampNeg) (fun (x37 : Nat) =>
 gd (kd σ34 x37 4) (
 cl2 (fX2_harm x37 σ34) (fun (x39 : Int64) (σ38 : CS) =>
 gd (kd σ38 x35 103) (
 gd (ib x5 (cLN σ38 x35)) (
 bd (uAL σ38 x35 x5.toNatClampNeg x39) (fun (σ40 : CS) =>
 if x5 = p3 then
 k9 σ40
 else
 gd (hf (cK σ40 a0) 55) (
 cl (cFR σ40 a0 55) (fun (x41 : Nat) =>
 gd (kd σ40 x41 107) (
 gd (ib (x5 + (1:Int32)) (cLN σ40 x41)) (
 cl (cAR σ40 x41 (x5 + (1:Int32)).toNatClampNeg) (fun (x42 : Nat) =>
 gd (hf (cK σ40 a0) 55) (
 cl (cFR σ40 a0 55) (fun (x43 : Nat) =>
 gd (kd σ40 x43 107) (
 gd (ib x5 (cLN σ40 x43)) (
 cl (cAR σ40 x43 x5.toNatClampNeg) (fun (x44 : Nat) =>
 gd (kd σ40 x42 4) (
 cl2 (fX2_become x42 x44 σ40) (fun (_ : Unit) (σ45 : CS) =>
 gd (hf (cK σ45 a0) 55) (
 cl (cFR σ45 a0 55) (fun (x47 : Nat) =>
 gd (kd σ45 x47 107) (
 gd (ib (x5 + (1:Int32)) (cLN σ45 x47)) (
 cl (cAR σ45 x47 (x5 + (1:Int32)).toNatClampNeg) (fun (x48 : Nat) =>
 gd (kd σ45 x48 4) (
 cl2 (fX2_day x48 σ45) (fun (_ : Unit) (σ49 : CS) =>
 gd (hf (cK σ49 a0) 58) (
 cl (cFR σ49 a0 58) (fun (x51 : Nat) =>
 gd (hf (cK σ49 a0) 55) (
 cl (cFR σ49 a0 55) (fun (x52 : Nat) =>
 gd (kd σ49 x52 107) (
 gd (ib (x5 + (1:Int32)) (cLN σ49 x52)) (
 cl (cAR σ49 x52 (x5 + (1:Int32)).toNatClampNeg) (fun (x53 : Nat) =>
 gd (hf (cK σ49 x53) 54) (
 gd (kd σ49 x51 101) (
 gd (ib x5 (cLN σ49 x51)) (
 bd (uAI σ49 x51 x5.toNatClampNeg (cFI σ49 x53 54)) (fun (σ54 : CS) =>
 bd (x5 + (1:Int32)) (fun (x55 : Int32) =>
 k7 x55 σ54))))))))))))))))))))))))))))))))))))))))))))))))))))))))) NF (0:Int32) σ3)))))))
theorem nX3_isBestFor {a0 : Nat} {p1 : Nat} {p2 : Int32} {p3 : Int32} {σ : CS} : Mn σ (fX3_isBestFor a0 p1 p2 p3 σ) := by
  unfold fX3_isBestFor
  refine Mgd ?_
  refine Mcl (fun x1 => ?_)
  refine Mgd ?_
  refine Mgd ?_
  refine Mcl (fun x2 => ?_)
  refine Mgd ?_
  refine Mcl2 (nX2_become) (fun _ σ3 => ?_)
  refine Plp2 (fun (x5 : Int32) (σ6 : CS) (X57 : Option (Int32 × CS)) => Mn σ6 X57) (fun _ _ => Mnone) (fun k7 hk7 x5 σ6 => ?_)
  refine Mjn1 (fun (σ8 : CS) (X56 : Option (Int32 × CS)) => Mn σ8 X56) (fun σ8 => ?_) (fun k9 hk9 => ?_)
  · refine Mgd ?_
    refine Mcl (fun x10 => ?_)
    refine Mgd ?_
    refine Mgd ?_
    refine Mbd (fun x11 => ?_)
    refine Mbd (fun x12 => ?_)
    refine Plp3 (fun (x13 : Int64) (x14 : Int32) (σ15 : CS) (X28 : Option (Int32 × CS)) => Mn σ15 X28) (fun _ _ _ => Mnone) (fun k16 hk16 x13 x14 σ15 => ?_)
    refine Mite ?_ ?_
    · refine Mgd ?_
      refine Mcl (fun x17 => ?_)
      refine Mgd ?_
      refine Mgd ?_
      refine Mgd ?_
      refine Mcl2 (nX3_held) (fun x19 σ18 => ?_)
      refine Mjn1 (fun (x20 : Int32) (X22 : Option (Int32 × CS)) => Mn σ18 X22) (fun x20 => ?_) (fun k21 hk21 => ?_)
      · refine Mgd ?_
        exact Mret
      · refine Mite ?_ ?_
        · exact hk21 (0:Int32)
        · exact hk21 (1:Int32)
    · refine Mgd ?_
      refine Mcl (fun x23 => ?_)
      refine Mgd ?_
      refine Mgd ?_
      refine Mgd ?_
      refine Mcl2 (nX3_held) (fun x25 σ24 => ?_)
      refine Mbd (fun x26 => ?_)
      refine Mbd (fun x27 => ?_)
      exact hk16 x26 x27 σ24
  · refine Mite ?_ ?_
    · exact hk9 σ6
    · refine Mgd ?_
      refine Mcl (fun x29 => ?_)
      refine Mgd ?_
      refine Mcl (fun x30 => ?_)
      refine Mgd ?_
      refine Mgd ?_
      refine Mcl (fun x31 => ?_)
      refine Mgd ?_
      refine Mcl2 (nX2_cost) (fun x33 σ32 => ?_)
      refine Mgd ?_
      refine Mgd ?_
      refine Mst (Nat.le_refl _) (Nat.le_refl _) (fun σ34 => ?_)
      refine Mgd ?_
      refine Mcl (fun x35 => ?_)
      refine Mgd ?_
      refine Mcl (fun x36 => ?_)
      refine Mgd ?_
      refine Mgd ?_
      refine Mcl (fun x37 => ?_)
      refine Mgd ?_
      refine Mcl2 (nX2_harm) (fun x39 σ38 => ?_)
      refine Mgd ?_
      refine Mgd ?_
      refine Mst (Nat.le_refl _) (Nat.le_refl _) (fun σ40 => ?_)
      refine Mite ?_ ?_
      · exact hk9 σ40
      · refine Mgd ?_
        refine Mcl (fun x41 => ?_)
        refine Mgd ?_
        refine Mgd ?_
        refine Mcl (fun x42 => ?_)
        refine Mgd ?_
        refine Mcl (fun x43 => ?_)
        refine Mgd ?_
        refine Mgd ?_
        refine Mcl (fun x44 => ?_)
        refine Mgd ?_
        refine Mcl2 (nX2_become) (fun _ σ45 => ?_)
        refine Mgd ?_
        refine Mcl (fun x47 => ?_)
        refine Mgd ?_
        refine Mgd ?_
        refine Mcl (fun x48 => ?_)
        refine Mgd ?_
        refine Mcl2 (nX2_day) (fun _ σ49 => ?_)
        refine Mgd ?_
        refine Mcl (fun x51 => ?_)
        refine Mgd ?_
        refine Mcl (fun x52 => ?_)
        refine Mgd ?_
        refine Mgd ?_
        refine Mcl (fun x53 => ?_)
        refine Mgd ?_
        refine Mgd ?_
        refine Mgd ?_
        refine Mst (Nat.le_refl _) (Nat.le_refl _) (fun σ54 => ?_)
        refine Mbd (fun x55 => ?_)
        exact hk7 x55 σ54
set_option maxHeartbeats 4000000 in
set_option maxRecDepth 100000 in
theorem mX3_isBestFor (l : Launch) (E : CE) {a0 : Nat} {p1 : Nat} {p2 : Int32} {p3 : Int32} {σ : CS} {r : Int32} {σz : CS} (hX : fX3_isBestFor a0 p1 p2 p3 σ = some (r, σz)) : MetC l yX3_isBestFor (ws_ yX3_isBestFor cX3_isBestFor 7 (some .boolean)) 103 4076 E σ [.ref a0, .ref p1, .int p2, .int p3] (some (.int r)) σz := by
  refine MetC.of hX (by decide) (Nat.le_of_ble_eq_true rfl) (nX3_isBestFor _ hX) ?_
  intro p e s m below meth c hx hb hr hml hts hown hlocks hnm hk hz0
  have hK := hk.1
  show J p l e (headSpec (ws_ yX3_isBestFor cX3_isBestFor 7 (some .boolean)) (rmC 103 4076 σ σz)).room s m ([.ref a0, .ref p1, .int p2, .int p3] : List Value).toArray below meth c 7 E (cZ σ) (cS σ) (MQ below (cQ E (some (.int r)) σz) ([.ref a0, .ref p1, .int p2, .int p3] : List Value).toArray s (cZ σz - cZ σ) (cS σz - cS σ) (EA E)) (r, σz) (fX3_isBestFor a0 p1 p2 p3 σ) σ 0 [(0, .ref a0), (1, .ref p1), (2, .int p2), (3, .int p3)] []
  unfold fX3_isBestFor
  refine Jrow (fun H locs ls hH hS hl k => lv_aload_n hx hb dX3_isBestFor_0 rfl (lv_at hl 0 rfl) (k ls hl)) ?_
  refine Jgd (fun hg => ?_)
  refine Jcl (fun x1 hq => ?_)
  refine Jrow (fun H locs ls hH hS hl k => c_get (F := 55) (v := .ref x1) hx hb hts hown hK hH hg (hts _ q228) (fun _ h => h) (fvR rfl hq) dX3_isBestFor_1 (k ls hl)) ?_
  clear hq
  refine Jrow (fun H locs ls hH hS hl k => lv_iconst (v := (0:Int32)) hx hb dX3_isBestFor_4 (by decide) (k ls hl)) ?_
  refine Jgd (fun hk1 => ?_)
  refine Jgd (fun hg => ?_)
  refine Jcl (fun x2 hq => ?_)
  refine Jrow (fun H locs ls hH hS hl k => c_aald (t := 6) (q := some x2) hx hb hK hH (by decide) (by decide) hk1 hg hq dX3_isBestFor_5 (k ls hl)) ?_
  clear hq
  refine Jrow (fun H locs ls hH hS hl k => lv_aload_n hx hb dX3_isBestFor_6 rfl (lv_at hl 1 rfl) (k ls hl)) ?_
  refine Jgd (fun hg => ?_)
  refine Jcl2 (fun _ σ3 hf => ?_)
  refine Jcall (v := none) (rest := []) (mX2_become l E hf).1 ⟨rfl, rfl⟩ (fun H locs ls hH hS hl hR => ⟨_, va_runV (C := RX2) (As := [.ref p1]) ⟨hx, hb, hml, hown, hts⟩ (mX2_become l E hf).2 (cwV 1 hts (lw_V q917 q918 q919 q93 q920) rfl rfl rfl (by decide +kernel) ⟨Nat.le_of_ble_eq_true rfl, Nat.le_of_ble_eq_true rfl⟩) (c_preV (ci := 3) hk hH hS hg rfl) rfl rfl hl.1 rfl (lv_room (Nat.le_of_ble_eq_true rfl)) dX3_isBestFor_7 hR⟩) ?_
  clear hf
  refine Jrow (fun H locs ls hH hS hl k => lv_iconst (v := (0:Int32)) hx hb dX3_isBestFor_10 (by decide) (k ls hl)) ?_
  refine Jrow (fun H locs ls hH hS hl k => lv_istore (lv' := [(4, .int (0:Int32)), (0, .ref a0), (1, .ref p1), (2, .int p2), (3, .int p3)]) hx hb dX3_isBestFor_11 hl (by decide) rfl k) ?_
  refine Jsub [1, 3, 4, 0] rfl (Plp2 (fun (x5 : Int32) (σ6 : CS) X57 => J p l e (headSpec (ws_ yX3_isBestFor cX3_isBestFor 7 (some .boolean)) (rmC 103 4076 σ σz)).room s m ([.ref a0, .ref p1, .int p2, .int p3] : List Value).toArray below meth c 7 E (cZ σ) (cS σ) (MQ below (cQ E (some (.int r)) σz) ([.ref a0, .ref p1, .int p2, .int p3] : List Value).toArray s (cZ σz - cZ σ) (cS σz - cS σ) (EA E)) (r, σz) X57 σ6 13 [(0, .ref a0), (2, .int p2), (3, .int p3), (4, .int x5)] []) (fun _ _ => Jnone) (fun k7 hk7 x5 σ6 => ?_))
  refine Jrow (fun H locs ls hH hS hl k => lv_iload hx hb dX3_isBestFor_13 (lv_at hl 3 rfl) (k ls hl)) ?_
  refine Jrow (fun H locs ls hH hS hl k => lv_iload_n hx hb dX3_isBestFor_15 rfl (lv_at hl 2 rfl) (k ls hl)) ?_
  refine Jjn1 (fun (σ8 : CS) X56 => J p l e (headSpec (ws_ yX3_isBestFor cX3_isBestFor 7 (some .boolean)) (rmC 103 4076 σ σz)).room s m ([.ref a0, .ref p1, .int p2, .int p3] : List Value).toArray below meth c 7 E (cZ σ) (cS σ) (MQ below (cQ E (some (.int r)) σz) ([.ref a0, .ref p1, .int p2, .int p3] : List Value).toArray s (cZ σz - cZ σ) (cS σz - cS σ) (EA E)) (r, σz) X56 σ8 122 [(0, .ref a0), (3, .int p3)] []) (fun σ8 => ?_) (fun k9 hk9 => ?_)
  · refine Jrow (fun H locs ls hH hS hl k => lv_aload_n hx hb dX3_isBestFor_122 rfl (lv_at hl 0 rfl) (k ls hl)) ?_
    refine Jgd (fun hg => ?_)
    refine Jcl (fun x10 hq => ?_)
    refine Jrow (fun H locs ls hH hS hl k => c_get (F := 57) (v := .ref x10) hx hb hts hown hK hH hg (hts _ q230) (fun _ h => h) (fvR rfl hq) dX3_isBestFor_123 (k ls hl)) ?_
    clear hq
    refine Jrow (fun H locs ls hH hS hl k => lv_iload_n hx hb dX3_isBestFor_126 rfl (lv_at hl 1 rfl) (k ls hl)) ?_
    refine Jgd (fun hk1 => ?_)
    refine Jgd (fun hg => ?_)
    refine Jrow (fun H locs ls hH hS hl k => c_lald hx hb hK hH hk1 hg dX3_isBestFor_127 (k ls hl)) ?_
    refine JbdL (fun x11 => ?_)
    refine Jrow (fun H locs ls hH hS hl k => lv_lstore (lv' := [(4, .long x11), (0, .ref a0), (3, .int p3)]) hx hb dX3_isBestFor_128 hl (by decide) rfl k) ?_
    refine Jrow (fun H locs ls hH hS hl k => lv_iload_n hx hb dX3_isBestFor_130 rfl (lv_at hl 2 rfl) (k ls hl)) ?_
    refine Jrow (fun H locs ls hH hS hl k => lv_iconst (v := (1:Int32)) hx hb dX3_isBestFor_131 (by decide) (k ls hl)) ?_
    refine Jrow (fun H locs ls hH hS hl k => lv_isub hx hb dX3_isBestFor_132 (k ls hl)) ?_
    refine JbdI (fun x12 => ?_)
    refine Jrow (fun H locs ls hH hS hl k => lv_istore (lv' := [(6, .int x12), (4, .long x11), (0, .ref a0), (3, .int p3)]) hx hb dX3_isBestFor_133 hl (by decide) rfl k) ?_
    refine Jsub [2, 1, 0] rfl (Plp3 (fun (x13 : Int64) (x14 : Int32) (σ15 : CS) X28 => J p l e (headSpec (ws_ yX3_isBestFor cX3_isBestFor 7 (some .boolean)) (rmC 103 4076 σ σz)).room s m ([.ref a0, .ref p1, .int p2, .int p3] : List Value).toArray below meth c 7 E (cZ σ) (cS σ) (MQ below (cQ E (some (.int r)) σz) ([.ref a0, .ref p1, .int p2, .int p3] : List Value).toArray s (cZ σz - cZ σ) (cS σz - cS σ) (EA E)) (r, σz) X28 σ15 135 [(0, .ref a0), (4, .long x13), (6, .int x14)] []) (fun _ _ _ => Jnone) (fun k16 hk16 x13 x14 σ15 => ?_))
    refine Jrow (fun H locs ls hH hS hl k => lv_iload hx hb dX3_isBestFor_135 (lv_at hl 2 rfl) (k ls hl)) ?_
    refine Jite (fun hc => ?_) (fun hc => ?_)
    · refine Jrow (fun H locs ls hH hS hl k => lv_if_le (tgt := 166) hx hb dX3_isBestFor_137 (by decide) (fun _ => (k ls hl)) (fun h => absurd hc h)) ?_
      clear hc
      refine Jrow (fun H locs ls hH hS hl k => lv_aload_n hx hb dX3_isBestFor_166 rfl (lv_at hl 0 rfl) (k ls hl)) ?_
      refine Jgd (fun hg => ?_)
      refine Jcl (fun x17 hq => ?_)
      refine Jrow (fun H locs ls hH hS hl k => c_get (F := 57) (v := .ref x17) hx hb hts hown hK hH hg (hts _ q230) (fun _ h => h) (fvR rfl hq) dX3_isBestFor_167 (k ls hl)) ?_
      clear hq
      refine Jrow (fun H locs ls hH hS hl k => lv_iconst (v := (0:Int32)) hx hb dX3_isBestFor_170 (by decide) (k ls hl)) ?_
      refine Jgd (fun hk1 => ?_)
      refine Jgd (fun hg => ?_)
      refine Jrow (fun H locs ls hH hS hl k => c_lald hx hb hK hH hk1 hg dX3_isBestFor_171 (k ls hl)) ?_
      refine Jrow (fun H locs ls hH hS hl k => lv_aload_n hx hb dX3_isBestFor_172 rfl (lv_at hl 0 rfl) (k ls hl)) ?_
      refine Jrow (fun H locs ls hH hS hl k => lv_iconst (v := (0:Int32)) hx hb dX3_isBestFor_173 (by decide) (k ls hl)) ?_
      refine Jrow (fun H locs ls hH hS hl k => lv_lload hx hb dX3_isBestFor_174 (lv_at hl 1 rfl) (k ls hl)) ?_
      refine Jgd (fun hg => ?_)
      refine Jcl2 (fun x19 σ18 hf => ?_)
      refine Jcall (v := (some (.long x19))) (rest := [.long (cAL σ15 x17 (0:Int32).toNatClampNeg)]) (mX3_held l E hf).1 ⟨rfl, rfl⟩ (fun H locs ls hH hS hl hR => ⟨_, va_runV (C := RX3) (As := [.int (0:Int32), .long x13]) ⟨hx, hb, hml, hown, hts⟩ (mX3_held l E hf).2 (cwV 2 hts (lw_V q929 q931 qs22 q94 q932) rfl rfl rfl (by decide +kernel) ⟨Nat.le_of_ble_eq_true rfl, Nat.le_of_ble_eq_true rfl⟩) (c_preV (ci := 4) hk hH hS hg rfl) rfl rfl hl.1 rfl (lv_room (Nat.le_of_ble_eq_true rfl)) dX3_isBestFor_176 hR⟩) ?_
      clear hf
      refine Jrow (fun H locs ls hH hS hl k => W.lcmp hx hb dX3_isBestFor_179 (k ls hl)) ?_
      refine Jjn1 (fun (x20 : Int32) X22 => J p l e (headSpec (ws_ yX3_isBestFor cX3_isBestFor 7 (some .boolean)) (rmC 103 4076 σ σz)).room s m ([.ref a0, .ref p1, .int p2, .int p3] : List Value).toArray below meth c 7 E (cZ σ) (cS σ) (MQ below (cQ E (some (.int r)) σz) ([.ref a0, .ref p1, .int p2, .int p3] : List Value).toArray s (cZ σz - cZ σ) (cS σz - cS σ) (EA E)) (r, σz) X22 σ18 188 [] [.int x20]) (fun x20 => ?_) (fun k21 hk21 => ?_)
      · refine Jgd (fun hg => ?_)
        exact Jzret hx hb hr hlocks (isb_n hg) dX3_isBestFor_188
      · refine Jite (fun hc => ?_) (fun hc => ?_)
        · refine Jrow (fun H locs ls hH hS hl k => lv_if_gt (tgt := 187) hx hb dX3_isBestFor_180 (by decide) (fun _ => (k ls hl)) (fun h => absurd hc h)) ?_
          clear hc
          refine Jrow (fun H locs ls hH hS hl k => lv_iconst (v := (0:Int32)) hx hb dX3_isBestFor_187 (by decide) (k ls hl)) ?_
          exact Jsub [] rfl (hk21 (0:Int32))
        · refine Jrow (fun H locs ls hH hS hl k => lv_if_gt (tgt := 187) hx hb dX3_isBestFor_180 (by decide) (fun h => absurd h hc) (fun _ => (k ls hl))) ?_
          clear hc
          refine Jrow (fun H locs ls hH hS hl k => lv_iconst (v := (1:Int32)) hx hb dX3_isBestFor_183 (by decide) (k ls hl)) ?_
          refine Jrow (fun H locs ls hH hS hl k => lv_goto (tgt := 188) hx hb dX3_isBestFor_184 (by decide) (k ls hl)) ?_
          exact Jsub [] rfl (hk21 (1:Int32))
    · refine Jrow (fun H locs ls hH hS hl k => lv_if_le (tgt := 166) hx hb dX3_isBestFor_137 (by decide) (fun h => absurd h hc) (fun _ => (k ls hl))) ?_
      clear hc
      refine Jrow (fun H locs ls hH hS hl k => lv_aload_n hx hb dX3_isBestFor_140 rfl (lv_at hl 0 rfl) (k ls hl)) ?_
      refine Jgd (fun hg => ?_)
      refine Jcl (fun x23 hq => ?_)
      refine Jrow (fun H locs ls hH hS hl k => c_get (F := 57) (v := .ref x23) hx hb hts hown hK hH hg (hts _ q230) (fun _ h => h) (fvR rfl hq) dX3_isBestFor_141 (k ls hl)) ?_
      clear hq
      refine Jrow (fun H locs ls hH hS hl k => lv_iload hx hb dX3_isBestFor_144 (lv_at hl 2 rfl) (k ls hl)) ?_
      refine Jgd (fun hk1 => ?_)
      refine Jgd (fun hg => ?_)
      refine Jrow (fun H locs ls hH hS hl k => c_lald hx hb hK hH hk1 hg dX3_isBestFor_146 (k ls hl)) ?_
      refine Jrow (fun H locs ls hH hS hl k => lv_aload_n hx hb dX3_isBestFor_147 rfl (lv_at hl 0 rfl) (k ls hl)) ?_
      refine Jrow (fun H locs ls hH hS hl k => lv_iload hx hb dX3_isBestFor_148 (lv_at hl 2 rfl) (k ls hl)) ?_
      refine Jrow (fun H locs ls hH hS hl k => lv_lload hx hb dX3_isBestFor_150 (lv_at hl 1 rfl) (k ls hl)) ?_
      refine Jgd (fun hg => ?_)
      refine Jcl2 (fun x25 σ24 hf => ?_)
      refine Jcall (v := (some (.long x25))) (rest := [.long (cAL σ15 x23 x14.toNatClampNeg)]) (mX3_held l E hf).1 ⟨rfl, rfl⟩ (fun H locs ls hH hS hl hR => ⟨_, va_runV (C := RX3) (As := [.int x14, .long x13]) ⟨hx, hb, hml, hown, hts⟩ (mX3_held l E hf).2 (cwV 2 hts (lw_V q929 q931 qs22 q94 q932) rfl rfl rfl (by decide +kernel) ⟨Nat.le_of_ble_eq_true rfl, Nat.le_of_ble_eq_true rfl⟩) (c_preV (ci := 4) hk hH hS hg rfl) rfl rfl hl.1 rfl (lv_room (Nat.le_of_ble_eq_true rfl)) dX3_isBestFor_152 hR⟩) ?_
      clear hf
      refine JrowB ⟨rfl, rfl⟩ (fun H locs ls hH hS hl h1 h2 k => va_mmin_long hx hb (hml.trans hl.1.symm) hown (hts _ q939) (hts _ q940) (hts _ q104) (hts _ q941) (Nat.le_of_ble_eq_true rfl) (Nat.le_of_ble_eq_true rfl) h1 h2 dX3_isBestFor_155 (k ls hl)) ?_
      refine JbdL (fun x26 => ?_)
      refine Jrow (fun H locs ls hH hS hl k => lv_lstore (lv' := [(4, .long x26), (0, .ref a0), (6, .int x14)]) hx hb dX3_isBestFor_158 hl (by decide) rfl k) ?_
      refine Jbd (fun x27 ex27 => ?_)
      refine Jrow (fun H locs ls hH hS hl k => lv_iinc (v := x27) (lv' := [(6, .int x27), (4, .long x26), (0, .ref a0)]) hx hb dX3_isBestFor_160 hl (k := 2) rfl (by rw [ex27]; rfl) (by decide) rfl k) ?_
      clear ex27
      refine Jrow (fun H locs ls hH hS hl k => lv_goto (tgt := 135) hx hb dX3_isBestFor_163 (by decide) (k ls hl)) ?_
      exact Jsub [2, 1, 0] rfl (hk16 x26 x27 σ24)
  · refine Jite (fun hc => ?_) (fun hc => ?_)
    · refine Jrow (fun H locs ls hH hS hl k => lv_icmp_gt (tgt := 122) hx hb dX3_isBestFor_16 (by decide) (fun _ => (k ls hl)) (fun h => absurd hc h)) ?_
      clear hc
      exact Jsub [0, 2] rfl (hk9 σ6)
    · refine Jrow (fun H locs ls hH hS hl k => lv_icmp_gt (tgt := 122) hx hb dX3_isBestFor_16 (by decide) (fun h => absurd h hc) (fun _ => (k ls hl))) ?_
      clear hc
      refine Jrow (fun H locs ls hH hS hl k => lv_aload_n hx hb dX3_isBestFor_19 rfl (lv_at hl 0 rfl) (k ls hl)) ?_
      refine Jgd (fun hg => ?_)
      refine Jcl (fun x29 hq => ?_)
      refine Jrow (fun H locs ls hH hS hl k => c_get (F := 56) (v := .ref x29) hx hb hts hown hK hH hg (hts _ q229) (fun _ h => h) (fvR rfl hq) dX3_isBestFor_20 (k ls hl)) ?_
      clear hq
      refine Jrow (fun H locs ls hH hS hl k => lv_iload hx hb dX3_isBestFor_23 (lv_at hl 3 rfl) (k ls hl)) ?_
      refine Jrow (fun H locs ls hH hS hl k => lv_aload_n hx hb dX3_isBestFor_25 rfl (lv_at hl 0 rfl) (k ls hl)) ?_
      refine Jgd (fun hg => ?_)
      refine Jcl (fun x30 hq => ?_)
      refine Jrow (fun H locs ls hH hS hl k => c_get (F := 55) (v := .ref x30) hx hb hts hown hK hH hg (hts _ q228) (fun _ h => h) (fvR rfl hq) dX3_isBestFor_26 (k ls hl)) ?_
      clear hq
      refine Jrow (fun H locs ls hH hS hl k => lv_iload hx hb dX3_isBestFor_29 (lv_at hl 3 rfl) (k ls hl)) ?_
      refine Jgd (fun hk1 => ?_)
      refine Jgd (fun hg => ?_)
      refine Jcl (fun x31 hq => ?_)
      refine Jrow (fun H locs ls hH hS hl k => c_aald (t := 6) (q := some x31) hx hb hK hH (by decide) (by decide) hk1 hg hq dX3_isBestFor_31 (k ls hl)) ?_
      clear hq
      refine Jrow (fun H locs ls hH hS hl k => lv_iload_n hx hb dX3_isBestFor_32 rfl (lv_at hl 1 rfl) (k ls hl)) ?_
      refine Jrow (fun H locs ls hH hS hl k => lv_iload hx hb dX3_isBestFor_33 (lv_at hl 3 rfl) (k ls hl)) ?_
      refine Jrow (fun H locs ls hH hS hl k => lv_iadd hx hb dX3_isBestFor_35 (k ls hl)) ?_
      refine Jgd (fun hg => ?_)
      refine Jcl2 (fun x33 σ32 hf => ?_)
      refine Jcall (v := (some (.long x33))) (rest := [.int x5, .ref x29]) (mX2_cost l E hf).1 ⟨rfl, rfl⟩ (fun H locs ls hH hS hl hR => ⟨_, va_runV (C := RX2) (As := [.int (p2 + x5)]) ⟨hx, hb, hml, hown, hts⟩ (mX2_cost l E hf).2 (cwV 1 hts (lw_V q922 q923 q924 q93 q925) rfl rfl rfl (by decide +kernel) ⟨Nat.le_of_ble_eq_true rfl, Nat.le_of_ble_eq_true rfl⟩) (c_preV (ci := 3) hk hH hS hg rfl) rfl rfl hl.1 rfl (lv_room (Nat.le_of_ble_eq_true rfl)) dX3_isBestFor_36 hR⟩) ?_
      clear hf
      refine Jgd (fun hk1 => ?_)
      refine Jgd (fun hg => ?_)
      refine Jst (σ1 := uAL σ32 x29 x5.toNatClampNeg x33) rfl rfl (fun H locs ls hH hS hl k => c_last hx hb hK hH hS hk1 hg dX3_isBestFor_39 k) (fun σ34 => ?_)
      refine Jrow (fun H locs ls hH hS hl k => lv_aload_n hx hb dX3_isBestFor_40 rfl (lv_at hl 0 rfl) (k ls hl)) ?_
      refine Jgd (fun hg => ?_)
      refine Jcl (fun x35 hq => ?_)
      refine Jrow (fun H locs ls hH hS hl k => c_get (F := 57) (v := .ref x35) hx hb hts hown hK hH hg (hts _ q230) (fun _ h => h) (fvR rfl hq) dX3_isBestFor_41 (k ls hl)) ?_
      clear hq
      refine Jrow (fun H locs ls hH hS hl k => lv_iload hx hb dX3_isBestFor_44 (lv_at hl 3 rfl) (k ls hl)) ?_
      refine Jrow (fun H locs ls hH hS hl k => lv_aload_n hx hb dX3_isBestFor_46 rfl (lv_at hl 0 rfl) (k ls hl)) ?_
      refine Jgd (fun hg => ?_)
      refine Jcl (fun x36 hq => ?_)
      refine Jrow (fun H locs ls hH hS hl k => c_get (F := 55) (v := .ref x36) hx hb hts hown hK hH hg (hts _ q228) (fun _ h => h) (fvR rfl hq) dX3_isBestFor_47 (k ls hl)) ?_
      clear hq
      refine Jrow (fun H locs ls hH hS hl k => lv_iload hx hb dX3_isBestFor_50 (lv_at hl 3 rfl) (k ls hl)) ?_
      refine Jgd (fun hk1 => ?_)
      refine Jgd (fun hg => ?_)
      refine Jcl (fun x37 hq => ?_)
      refine Jrow (fun H locs ls hH hS hl k => c_aald (t := 6) (q := some x37) hx hb hK hH (by decide) (by decide) hk1 hg hq dX3_isBestFor_52 (k ls hl)) ?_
      clear hq
      refine Jgd (fun hg => ?_)
      refine Jcl2 (fun x39 σ38 hf => ?_)
      refine Jcall (v := (some (.long x39))) (rest := [.int x5, .ref x35]) (mX2_harm l E hf).1 ⟨rfl, rfl⟩ (fun H locs ls hH hS hl hR => ⟨_, va_runV (C := RX2) (As := []) ⟨hx, hb, hml, hown, hts⟩ (mX2_harm l E hf).2 (cwV 0 hts (lw_V q927 q759 q760 q93 q761) rfl rfl rfl (by decide +kernel) ⟨Nat.le_of_ble_eq_true rfl, Nat.le_of_ble_eq_true rfl⟩) (c_preV (ci := 3) hk hH hS hg rfl) rfl rfl hl.1 rfl (lv_room (Nat.le_of_ble_eq_true rfl)) dX3_isBestFor_53 hR⟩) ?_
      clear hf
      refine Jgd (fun hk1 => ?_)
      refine Jgd (fun hg => ?_)
      refine Jst (σ1 := uAL σ38 x35 x5.toNatClampNeg x39) rfl rfl (fun H locs ls hH hS hl k => c_last hx hb hK hH hS hk1 hg dX3_isBestFor_56 k) (fun σ40 => ?_)
      refine Jrow (fun H locs ls hH hS hl k => lv_iload hx hb dX3_isBestFor_57 (lv_at hl 3 rfl) (k ls hl)) ?_
      refine Jrow (fun H locs ls hH hS hl k => lv_iload_n hx hb dX3_isBestFor_59 rfl (lv_at hl 2 rfl) (k ls hl)) ?_
      refine Jite (fun hc => ?_) (fun hc => ?_)
      · refine Jrow (fun H locs ls hH hS hl k => lv_icmp_ne (tgt := 66) hx hb dX3_isBestFor_60 (by decide) (fun h => absurd hc h) (fun _ => (k ls hl))) ?_
        clear hc
        refine Jrow (fun H locs ls hH hS hl k => lv_goto (tgt := 122) hx hb dX3_isBestFor_63 (by decide) (k ls hl)) ?_
        exact Jsub [0, 2] rfl (hk9 σ40)
      · refine Jrow (fun H locs ls hH hS hl k => lv_icmp_ne (tgt := 66) hx hb dX3_isBestFor_60 (by decide) (fun _ => (k ls hl)) (fun h => absurd h hc)) ?_
        clear hc
        refine Jrow (fun H locs ls hH hS hl k => lv_aload_n hx hb dX3_isBestFor_66 rfl (lv_at hl 0 rfl) (k ls hl)) ?_
        refine Jgd (fun hg => ?_)
        refine Jcl (fun x41 hq => ?_)
        refine Jrow (fun H locs ls hH hS hl k => c_get (F := 55) (v := .ref x41) hx hb hts hown hK hH hg (hts _ q228) (fun _ h => h) (fvR rfl hq) dX3_isBestFor_67 (k ls hl)) ?_
        clear hq
        refine Jrow (fun H locs ls hH hS hl k => lv_iload hx hb dX3_isBestFor_70 (lv_at hl 3 rfl) (k ls hl)) ?_
        refine Jrow (fun H locs ls hH hS hl k => lv_iconst (v := (1:Int32)) hx hb dX3_isBestFor_72 (by decide) (k ls hl)) ?_
        refine Jrow (fun H locs ls hH hS hl k => lv_iadd hx hb dX3_isBestFor_73 (k ls hl)) ?_
        refine Jgd (fun hk1 => ?_)
        refine Jgd (fun hg => ?_)
        refine Jcl (fun x42 hq => ?_)
        refine Jrow (fun H locs ls hH hS hl k => c_aald (t := 6) (q := some x42) hx hb hK hH (by decide) (by decide) hk1 hg hq dX3_isBestFor_74 (k ls hl)) ?_
        clear hq
        refine Jrow (fun H locs ls hH hS hl k => lv_aload_n hx hb dX3_isBestFor_75 rfl (lv_at hl 0 rfl) (k ls hl)) ?_
        refine Jgd (fun hg => ?_)
        refine Jcl (fun x43 hq => ?_)
        refine Jrow (fun H locs ls hH hS hl k => c_get (F := 55) (v := .ref x43) hx hb hts hown hK hH hg (hts _ q228) (fun _ h => h) (fvR rfl hq) dX3_isBestFor_76 (k ls hl)) ?_
        clear hq
        refine Jrow (fun H locs ls hH hS hl k => lv_iload hx hb dX3_isBestFor_79 (lv_at hl 3 rfl) (k ls hl)) ?_
        refine Jgd (fun hk1 => ?_)
        refine Jgd (fun hg => ?_)
        refine Jcl (fun x44 hq => ?_)
        refine Jrow (fun H locs ls hH hS hl k => c_aald (t := 6) (q := some x44) hx hb hK hH (by decide) (by decide) hk1 hg hq dX3_isBestFor_81 (k ls hl)) ?_
        clear hq
        refine Jgd (fun hg => ?_)
        refine Jcl2 (fun _ σ45 hf => ?_)
        refine Jcall (v := none) (rest := []) (mX2_become l E hf).1 ⟨rfl, rfl⟩ (fun H locs ls hH hS hl hR => ⟨_, va_runV (C := RX2) (As := [.ref x44]) ⟨hx, hb, hml, hown, hts⟩ (mX2_become l E hf).2 (cwV 1 hts (lw_V q917 q918 q919 q93 q920) rfl rfl rfl (by decide +kernel) ⟨Nat.le_of_ble_eq_true rfl, Nat.le_of_ble_eq_true rfl⟩) (c_preV (ci := 3) hk hH hS hg rfl) rfl rfl hl.1 rfl (lv_room (Nat.le_of_ble_eq_true rfl)) dX3_isBestFor_82 hR⟩) ?_
        clear hf
        refine Jrow (fun H locs ls hH hS hl k => lv_aload_n hx hb dX3_isBestFor_85 rfl (lv_at hl 0 rfl) (k ls hl)) ?_
        refine Jgd (fun hg => ?_)
        refine Jcl (fun x47 hq => ?_)
        refine Jrow (fun H locs ls hH hS hl k => c_get (F := 55) (v := .ref x47) hx hb hts hown hK hH hg (hts _ q228) (fun _ h => h) (fvR rfl hq) dX3_isBestFor_86 (k ls hl)) ?_
        clear hq
        refine Jrow (fun H locs ls hH hS hl k => lv_iload hx hb dX3_isBestFor_89 (lv_at hl 3 rfl) (k ls hl)) ?_
        refine Jrow (fun H locs ls hH hS hl k => lv_iconst (v := (1:Int32)) hx hb dX3_isBestFor_91 (by decide) (k ls hl)) ?_
        refine Jrow (fun H locs ls hH hS hl k => lv_iadd hx hb dX3_isBestFor_92 (k ls hl)) ?_
        refine Jgd (fun hk1 => ?_)
        refine Jgd (fun hg => ?_)
        refine Jcl (fun x48 hq => ?_)
        refine Jrow (fun H locs ls hH hS hl k => c_aald (t := 6) (q := some x48) hx hb hK hH (by decide) (by decide) hk1 hg hq dX3_isBestFor_93 (k ls hl)) ?_
        clear hq
        refine Jgd (fun hg => ?_)
        refine Jcl2 (fun _ σ49 hf => ?_)
        refine Jcall (v := none) (rest := []) (mX2_day l E hf).1 ⟨rfl, rfl⟩ (fun H locs ls hH hS hl hR => ⟨_, va_runV (C := RX2) (As := []) ⟨hx, hb, hml, hown, hts⟩ (mX2_day l E hf).2 (cwV 0 hts (lw_V q928 q729 q730 q93 q731) rfl rfl rfl (by decide +kernel) ⟨Nat.le_of_ble_eq_true rfl, Nat.le_of_ble_eq_true rfl⟩) (c_preV (ci := 3) hk hH hS hg rfl) rfl rfl hl.1 rfl (lv_room (Nat.le_of_ble_eq_true rfl)) dX3_isBestFor_94 hR⟩) ?_
        clear hf
        refine Jrow (fun H locs ls hH hS hl k => lv_aload_n hx hb dX3_isBestFor_97 rfl (lv_at hl 0 rfl) (k ls hl)) ?_
        refine Jgd (fun hg => ?_)
        refine Jcl (fun x51 hq => ?_)
        refine Jrow (fun H locs ls hH hS hl k => c_get (F := 58) (v := .ref x51) hx hb hts hown hK hH hg (hts _ q231) (fun _ h => h) (fvR rfl hq) dX3_isBestFor_98 (k ls hl)) ?_
        clear hq
        refine Jrow (fun H locs ls hH hS hl k => lv_iload hx hb dX3_isBestFor_101 (lv_at hl 3 rfl) (k ls hl)) ?_
        refine Jrow (fun H locs ls hH hS hl k => lv_aload_n hx hb dX3_isBestFor_103 rfl (lv_at hl 0 rfl) (k ls hl)) ?_
        refine Jgd (fun hg => ?_)
        refine Jcl (fun x52 hq => ?_)
        refine Jrow (fun H locs ls hH hS hl k => c_get (F := 55) (v := .ref x52) hx hb hts hown hK hH hg (hts _ q228) (fun _ h => h) (fvR rfl hq) dX3_isBestFor_104 (k ls hl)) ?_
        clear hq
        refine Jrow (fun H locs ls hH hS hl k => lv_iload hx hb dX3_isBestFor_107 (lv_at hl 3 rfl) (k ls hl)) ?_
        refine Jrow (fun H locs ls hH hS hl k => lv_iconst (v := (1:Int32)) hx hb dX3_isBestFor_109 (by decide) (k ls hl)) ?_
        refine Jrow (fun H locs ls hH hS hl k => lv_iadd hx hb dX3_isBestFor_110 (k ls hl)) ?_
        refine Jgd (fun hk1 => ?_)
        refine Jgd (fun hg => ?_)
        refine Jcl (fun x53 hq => ?_)
        refine Jrow (fun H locs ls hH hS hl k => c_aald (t := 6) (q := some x53) hx hb hK hH (by decide) (by decide) hk1 hg hq dX3_isBestFor_111 (k ls hl)) ?_
        clear hq
        refine Jgd (fun hg => ?_)
        refine Jrow (fun H locs ls hH hS hl k => c_getN (F := 54) (v := .int (cFI σ49 x53 54)) hx hb hts hown hK hH hg (cN hk.2.2.1 79 rfl) (fun _ h => h) rfl dX3_isBestFor_112 (k ls hl)) ?_
        refine Jgd (fun hk1 => ?_)
        refine Jgd (fun hg => ?_)
        refine Jst (σ1 := uAI σ49 x51 x5.toNatClampNeg (cFI σ49 x53 54)) rfl rfl (fun H locs ls hH hS hl k => c_iast hx hb hK hH hS hk1 hg dX3_isBestFor_115 k) (fun σ54 => ?_)
        refine Jbd (fun x55 ex55 => ?_)
        refine Jrow (fun H locs ls hH hS hl k => lv_iinc (v := x55) (lv' := [(4, .int x55), (0, .ref a0), (2, .int p2), (3, .int p3)]) hx hb dX3_isBestFor_116 hl (k := 3) rfl (by rw [ex55]; rfl) (by decide) rfl k) ?_
        clear ex55
        refine Jrow (fun H locs ls hH hS hl k => lv_goto (tgt := 13) hx hb dX3_isBestFor_119 (by decide) (k ls hl)) ?_
        exact Jsub [1, 2, 3, 0] rfl (hk7 x55 σ54)
