/-! printed by gen/comp.py -/
def fX0_port (T : Nat × Nat) (a0 : Nat) (σ : CS) : Option (Int32 × CS) :=
 gd (hf (cK σ a0) 26) (
 cl (cFR σ a0 26) (fun (x1 : Nat) =>
 gd (kd σ x1 20) (
 cl2 (fJ2_size x1 σ) (fun (x3 : Int32) (σ2 : CS) =>
 if x3 = (5:Int32) then
 some ((-4:Int32), σ2)
 else
 gd (hf (cK σ2 a0) 26) (
 cl (cFR σ2 a0 26) (fun (x4 : Nat) =>
 gd (hf (cK σ2 a0) 27) (
 cl (cFR σ2 a0 27) (fun (x5 : Nat) =>
 gd (kd σ2 x5 3) (
 clc (fX1_read T x5 σ2) (fun (x7 : Nat) (σ6 : CS) =>
 gd (kd σ6 x4 20) (
 cl2 (fJ2_add T x4 x7 σ6) (fun (x9 : Int32) (σ8 : CS) =>
 gd (hf (cK σ8 a0) 26) (
 cl (cFR σ8 a0 26) (fun (x10 : Nat) =>
 gd (kd σ8 x10 20) (
 cl2 (fJ2_size x10 σ8) (fun (x12 : Int32) (σ11 : CS) =>
 bd (x12 - (1:Int32)) (fun (x13 : Int32) =>
 gd (hf (cK σ11 a0) 25) (
 bd (uFI σ11 a0 25 (0:Int32)) (fun (σ14 : CS) =>
 some (x13, σ14))))))))))) (fun (x15 : Nat) (σ16 : CS) =>
 gd (kd σ16 x15 7) (
 gd (hf (cK σ16 x15) 73) (
 bd ((-10:Int32) - (cFI σ16 x15 73)) (fun (x17 : Int32) =>
 gd (hf (cK σ16 a0) 25) (
 bd (uFI σ16 a0 25 (0:Int32)) (fun (σ18 : CS) =>
 some (x17, σ18))))))))))))))))
theorem nX0_port {T : Nat × Nat} {a0 : Nat} {σ : CS} : Mn σ (fX0_port T a0 σ) := by
  unfold fX0_port
  refine Mgd ?_
  refine Mcl (fun x1 => ?_)
  refine Mgd ?_
  refine Mcl2 (nJ2_size) (fun x3 σ2 => ?_)
  refine Mite ?_ ?_
  · exact Mret
  · refine Mgd ?_
    refine Mcl (fun x4 => ?_)
    refine Mgd ?_
    refine Mcl (fun x5 => ?_)
    refine Mgd ?_
    refine Mclc (nX1_read) (fun x7 σ6 => ?_) (fun x15 σ16 => ?_)
    · refine Mgd ?_
      refine Mcl2 (nJ2_add) (fun x9 σ8 => ?_)
      refine Mgd ?_
      refine Mcl (fun x10 => ?_)
      refine Mgd ?_
      refine Mcl2 (nJ2_size) (fun x12 σ11 => ?_)
      refine Mbd (fun x13 => ?_)
      refine Mgd ?_
      refine Mst (Nat.le_refl _) (Nat.le_refl _) (fun σ14 => ?_)
      exact Mret
    · refine Mgd ?_
      refine Mgd ?_
      refine Mbd (fun x17 => ?_)
      refine Mgd ?_
      refine Mst (Nat.le_refl _) (Nat.le_refl _) (fun σ18 => ?_)
      exact Mret
set_option maxHeartbeats 4000000 in
set_option maxRecDepth 100000 in
theorem mX0_port (l : Launch) (E : CE) {a0 : Nat} {σ : CS} {r : Int32} {σz : CS} (hX : fX0_port E.2.2.2 a0 σ = some (r, σz)) : MetC l yX0_port (wsW yX0_port cX0_port 4 (some .int) [(14, 39, 46, 109), (14, 39, 62, 0), (46, 55, 62, 0)]) 364 9085 E σ [.ref a0] (some (.int r)) σz := by
  refine MetC.ofW hX (by decide) (Nat.le_of_ble_eq_true rfl) (nX0_port _ hX) ?_
  intro p e s m below meth c hx hb hr hml hts hown hlocks htab hk hz0
  have hK := hk.1
  show J p l e (headSpec (wsW yX0_port cX0_port 4 (some .int) [(14, 39, 46, 109), (14, 39, 62, 0), (46, 55, 62, 0)]) (rmC 364 9085 σ σz)).room s m ([.ref a0] : List Value).toArray below meth c 4 E (cZ σ) (cS σ) (MQ below (cQ E (some (.int r)) σz) ([.ref a0] : List Value).toArray s (cZ σz - cZ σ) (cS σz - cS σ) (EA E)) (r, σz) (fX0_port E.2.2.2 a0 σ) σ 0 [(0, .ref a0)] []
  unfold fX0_port
  refine Jrow (fun H locs ls hH hS hl k => lv_aload_n hx hb dX0_port_0 rfl (lv_at hl 0 rfl) (k ls hl)) ?_
  refine Jgd (fun hg => ?_)
  refine Jcl (fun x1 hq => ?_)
  refine Jrow (fun H locs ls hH hS hl k => c_get (F := 26) (v := .ref x1) hx hb hts hown hK hH hg (hts _ q253) (fun _ h => h) (fvR rfl hq) dX0_port_1 (k ls hl)) ?_
  clear hq
  refine Jgd (fun hg => ?_)
  refine Jcl2 (fun x3 σ2 hf => ?_)
  refine Jcall (v := (some (.int x3))) (rest := []) (mJ2_size l E hf).1 ⟨rfl, rfl⟩ (fun H locs ls hH hS hl hR => ⟨_, va_runV (C := RJ2) (As := []) ⟨hx, hb, hml, hown, hts⟩ (mJ2_size l E hf).2 (cwV 0 hts (lw_V q327 q328 q329 q91 q330) rfl rfl rfl (by decide +kernel) ⟨Nat.le_of_ble_eq_true rfl, Nat.le_of_ble_eq_true rfl⟩) (c_preV (ci := 19) hk hH hS hg rfl) rfl rfl hl.1 rfl (lv_room (Nat.le_of_ble_eq_true rfl)) dX0_port_4 hR⟩) ?_
  clear hf
  refine Jrow (fun H locs ls hH hS hl k => lv_iconst (v := (5:Int32)) hx hb dX0_port_7 (by decide) (k ls hl)) ?_
  refine Jite (fun hc => ?_) (fun hc => ?_)
  · refine Jrow (fun H locs ls hH hS hl k => lv_icmp_ne (tgt := 14) hx hb dX0_port_8 (by decide) (fun h => absurd hc h) (fun _ => (k ls hl))) ?_
    clear hc
    refine Jrow (fun H locs ls hH hS hl k => lv_bipush (v := (-4:Int32)) hx hb dX0_port_11 (by decide) (k ls hl)) ?_
    exact Jiret hx hb hr hlocks dX0_port_13
  · refine Jrow (fun H locs ls hH hS hl k => lv_icmp_ne (tgt := 14) hx hb dX0_port_8 (by decide) (fun _ => (k ls hl)) (fun h => absurd h hc)) ?_
    clear hc
    refine Jrow (fun H locs ls hH hS hl k => lv_aload_n hx hb dX0_port_14 rfl (lv_at hl 0 rfl) (k ls hl)) ?_
    refine Jgd (fun hg => ?_)
    refine Jcl (fun x4 hq => ?_)
    refine Jrow (fun H locs ls hH hS hl k => c_get (F := 26) (v := .ref x4) hx hb hts hown hK hH hg (hts _ q253) (fun _ h => h) (fvR rfl hq) dX0_port_15 (k ls hl)) ?_
    clear hq
    refine Jrow (fun H locs ls hH hS hl k => lv_aload_n hx hb dX0_port_18 rfl (lv_at hl 0 rfl) (k ls hl)) ?_
    refine Jgd (fun hg => ?_)
    refine Jcl (fun x5 hq => ?_)
    refine Jrow (fun H locs ls hH hS hl k => c_get (F := 27) (v := .ref x5) hx hb hts hown hK hH hg (hts _ q255) (fun _ h => h) (fvR rfl hq) dX0_port_19 (k ls hl)) ?_
    clear hq
    refine Jgd (fun hg => ?_)
    refine Jclc (fun x7 σ6 hf => ?_) (fun x15 σ16 hf => ?_)
    · refine Jcall (v := (some (.ref x7))) (rest := [.ref x4]) (mX1_read l E hf).1 ⟨rfl, rfl⟩ (fun H locs ls hH hS hl hR => ⟨_, va_runV (C := RX1) (As := []) ⟨hx, hb, hml, hown, hts⟩ (mX1_read l E hf).ret.2 (cwV 0 hts (lw_V q331 q332 q333 q92 q334) rfl rfl rfl (by decide +kernel) ⟨Nat.le_of_ble_eq_true rfl, Nat.le_of_ble_eq_true rfl⟩) (c_preV (ci := 2) hk hH hS hg rfl) rfl rfl hl.1 rfl (lv_room (Nat.le_of_ble_eq_true rfl)) dX0_port_22 hR⟩) ?_
      clear hf
      refine Jgd (fun hg => ?_)
      refine Jcl2 (fun x9 σ8 hf => ?_)
      refine Jcall (v := (some (.int x9))) (rest := []) (mJ2_add l E hf).1 ⟨rfl, rfl⟩ (fun H locs ls hH hS hl hR => ⟨_, va_runV (C := RJ2) (As := [.ref x7]) ⟨hx, hb, hml, hown, hts⟩ (mJ2_add l E hf).2 (cwV 1 hts (lw_V q596 q526 q527 q91 q528) rfl rfl rfl (by decide +kernel) ⟨Nat.le_of_ble_eq_true rfl, Nat.le_of_ble_eq_true rfl⟩) (c_preV (ci := 19) hk hH hS hg rfl) rfl rfl hl.1 rfl (lv_room (Nat.le_of_ble_eq_true rfl)) dX0_port_25 hR⟩) ?_
      clear hf
      refine Jrow (fun H locs ls hH hS hl k => lv_pop hx hb dX0_port_28 rfl (k ls hl)) ?_
      refine Jrow (fun H locs ls hH hS hl k => lv_aload_n hx hb dX0_port_29 rfl (lv_at hl 0 rfl) (k ls hl)) ?_
      refine Jgd (fun hg => ?_)
      refine Jcl (fun x10 hq => ?_)
      refine Jrow (fun H locs ls hH hS hl k => c_get (F := 26) (v := .ref x10) hx hb hts hown hK hH hg (hts _ q253) (fun _ h => h) (fvR rfl hq) dX0_port_30 (k ls hl)) ?_
      clear hq
      refine Jgd (fun hg => ?_)
      refine Jcl2 (fun x12 σ11 hf => ?_)
      refine Jcall (v := (some (.int x12))) (rest := []) (mJ2_size l E hf).1 ⟨rfl, rfl⟩ (fun H locs ls hH hS hl hR => ⟨_, va_runV (C := RJ2) (As := []) ⟨hx, hb, hml, hown, hts⟩ (mJ2_size l E hf).2 (cwV 0 hts (lw_V q327 q328 q329 q91 q330) rfl rfl rfl (by decide +kernel) ⟨Nat.le_of_ble_eq_true rfl, Nat.le_of_ble_eq_true rfl⟩) (c_preV (ci := 19) hk hH hS hg rfl) rfl rfl hl.1 rfl (lv_room (Nat.le_of_ble_eq_true rfl)) dX0_port_33 hR⟩) ?_
      clear hf
      refine Jrow (fun H locs ls hH hS hl k => lv_iconst (v := (1:Int32)) hx hb dX0_port_36 (by decide) (k ls hl)) ?_
      refine Jrow (fun H locs ls hH hS hl k => lv_isub hx hb dX0_port_37 (k ls hl)) ?_
      refine JbdI (fun x13 => ?_)
      refine Jrow (fun H locs ls hH hS hl k => lv_istore_n (lv' := [(1, .int x13), (0, .ref a0)]) hx hb dX0_port_38 rfl hl (by decide) rfl k) ?_
      refine Jrow (fun H locs ls hH hS hl k => lv_aload_n hx hb dX0_port_39 rfl (lv_at hl 1 rfl) (k ls hl)) ?_
      refine Jrow (fun H locs ls hH hS hl k => lv_iconst (v := (0:Int32)) hx hb dX0_port_40 (by decide) (k ls hl)) ?_
      refine Jgd (fun hg => ?_)
      refine Jst (σ1 := uFI σ11 a0 25 (0:Int32)) rfl rfl (fun H locs ls hH hS hl k => c_putI (F := 25) (ty := .int) (x := (0:Int32)) hx hb hts hown hK hH hS hg (hts _ q251) (fun _ h => h) rfl rfl (by decide +kernel) rfl rfl rfl dX0_port_41 k) (fun σ14 => ?_)
      refine Jrow (fun H locs ls hH hS hl k => lv_iload_n hx hb dX0_port_44 rfl (lv_at hl 0 rfl) (k ls hl)) ?_
      exact Jiret hx hb hr hlocks dX0_port_45
    · refine Jgd (fun hgx => ?_)
      refine Jcatch (rest := [.ref x4]) hk hgx (ci := 6) rfl (mX1_read l E hf).1 ⟨rfl, rfl⟩ hown ⟨14, 39, 46, 109⟩ _ htab (by decide) (by decide) (hts _ q326) (va_Nw.use rfl (cN hk.2.2.1 85 rfl)) (fun H locs ls hH hS hl hR => throwV (C := RX1) (As := []) ⟨hx, hb, hml, hown, hts⟩ (mX1_read l E hf) (cwV 0 hts (lw_V q331 q332 q333 q92 q334) rfl rfl rfl (by decide +kernel) ⟨Nat.le_of_ble_eq_true rfl, Nat.le_of_ble_eq_true rfl⟩) (c_preV (ci := 2) hk hH hS hg rfl) hS rfl rfl hl.1 rfl (lv_room (Nat.le_of_ble_eq_true rfl)) dX0_port_22 hR) ?_
      clear hf
      show J p l e (headSpec (wsW yX0_port cX0_port 4 (some .int) [(14, 39, 46, 109), (14, 39, 62, 0), (46, 55, 62, 0)]) (rmC 364 9085 σ σz)).room s m ([.ref a0] : List Value).toArray below meth c 4 E (cZ σ) (cS σ) (MQ below (cQ E (some (.int r)) σz) ([.ref a0] : List Value).toArray s (cZ σz - cZ σ) (cS σz - cS σ) (EA E)) (r, σz) _ σ16 46 [(0, .ref a0)] [.ref x15]
      refine Jrow (fun H locs ls hH hS hl k => lv_astore_n (lv' := [(1, .ref x15), (0, .ref a0)]) hx hb dX0_port_46 rfl hl (by decide) rfl k) ?_
      refine Jrow (fun H locs ls hH hS hl k => lv_bipush (v := (-10:Int32)) hx hb dX0_port_47 (by decide) (k ls hl)) ?_
      refine Jrow (fun H locs ls hH hS hl k => lv_aload_n hx hb dX0_port_49 rfl (lv_at hl 0 rfl) (k ls hl)) ?_
      refine Jgd (fun hg => ?_)
      refine Jrow (fun H locs ls hH hS hl k => c_getN (F := 73) (v := .int (cFI σ16 x15 73)) hx hb hts hown hK hH hg (cN hk.2.2.1 19 rfl) (fun _ h => h) rfl dX0_port_50 (k ls hl)) ?_
      refine Jrow (fun H locs ls hH hS hl k => lv_isub hx hb dX0_port_53 (k ls hl)) ?_
      refine JbdI (fun x17 => ?_)
      refine Jrow (fun H locs ls hH hS hl k => lv_istore_n (lv' := [(2, .int x17), (1, .ref x15), (0, .ref a0)]) hx hb dX0_port_54 rfl hl (by decide) rfl k) ?_
      refine Jrow (fun H locs ls hH hS hl k => lv_aload_n hx hb dX0_port_55 rfl (lv_at hl 2 rfl) (k ls hl)) ?_
      refine Jrow (fun H locs ls hH hS hl k => lv_iconst (v := (0:Int32)) hx hb dX0_port_56 (by decide) (k ls hl)) ?_
      refine Jgd (fun hg => ?_)
      refine Jst (σ1 := uFI σ16 a0 25 (0:Int32)) rfl rfl (fun H locs ls hH hS hl k => c_putI (F := 25) (ty := .int) (x := (0:Int32)) hx hb hts hown hK hH hS hg (hts _ q251) (fun _ h => h) rfl rfl (by decide +kernel) rfl rfl rfl dX0_port_57 k) (fun σ18 => ?_)
      refine Jrow (fun H locs ls hH hS hl k => lv_iload_n hx hb dX0_port_60 rfl (lv_at hl 0 rfl) (k ls hl)) ?_
      exact Jiret hx hb hr hlocks dX0_port_61
