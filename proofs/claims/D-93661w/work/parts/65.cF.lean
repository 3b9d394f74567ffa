/-! printed by gen/comp.py -/
def fX0_portAt (a0 : Nat) (p1 : Int32) (σ : CS) : Option (Option Nat × CS) :=
 jn (fun (x1 : Option Nat) (σ2 : CS) => some (x1, σ2)) (fun (k3 : Option Nat → CS → Option (Option Nat × CS)) =>
 jn (fun (σ4 : CS) => k3 none σ4) (fun (k5 : CS → Option (Option Nat × CS)) =>
 if p1 < (0:Int32) then
 k5 σ
 else
 gd (hf (cK σ a0) 26) (
 cl (cFR σ a0 26) (fun (x6 : Nat) =>
 gd (kd σ x6 20) (
 cl2 (fJ2_size x6 σ) (fun (x8 : Int32) (σ7 : CS) =>
 if p1 < x8 then
 gd (hf (cK σ7 a0) 26) (
 cl (cFR σ7 a0 26) (fun (x9 : Nat) =>
 gd (kd σ7 x9 20) (
 cl2 (fJ2_get x9 p1 σ7) (fun (x11 : Nat) (σ10 : CS) =>
 gd (kd σ10 x11 6) (
 k3 (some x11) σ10)))))
 else
 k5 σ7))))))
theorem nX0_portAt {a0 : Nat} {p1 : Int32} {σ : CS} : Mn σ (fX0_portAt a0 p1 σ) := by
  unfold fX0_portAt
  refine Mjn2 (fun (x1 : Option Nat) (σ2 : CS) (X13 : Option (Option Nat × CS)) => Mn σ2 X13) (fun x1 σ2 => ?_) (fun k3 hk3 => ?_)
  · exact Mret
  · refine Mjn1 (fun (σ4 : CS) (X12 : Option (Option Nat × CS)) => Mn σ4 X12) (fun σ4 => ?_) (fun k5 hk5 => ?_)
    · exact hk3 none σ4
    · refine Mite ?_ ?_
      · exact hk5 σ
      · refine Mgd ?_
        refine Mcl (fun x6 => ?_)
        refine Mgd ?_
        refine Mcl2 (nJ2_size) (fun x8 σ7 => ?_)
        refine Mite ?_ ?_
        · refine Mgd ?_
          refine Mcl (fun x9 => ?_)
          refine Mgd ?_
          refine Mcl2 (nJ2_get) (fun x11 σ10 => ?_)
          refine Mgd ?_
          exact hk3 (some x11) σ10
        · exact hk5 σ7
set_option maxHeartbeats 4000000 in
set_option maxRecDepth 100000 in
theorem mX0_portAt (l : Launch) (E : CE) {a0 : Nat} {p1 : Int32} {σ : CS} {r : Option Nat} {σz : CS} (hX : fX0_portAt a0 p1 σ = some (r, σz)) : MetC l yX0_portAt (ws_ yX0_portAt cX0_portAt 2 (some (.object "FortyDays$Port"))) 3 64 E σ [.ref a0, .int p1] (some (va_rf r)) σz := by
  refine MetC.of hX (by decide) (Nat.le_of_ble_eq_true rfl) (nX0_portAt _ hX) ?_
  intro p e s m below meth c hx hb hr hml hts hown hlocks hnm hk hz0
  have hK := hk.1
  show J p l e (headSpec (ws_ yX0_portAt cX0_portAt 2 (some (.object "FortyDays$Port"))) (rmC 3 64 σ σz)).room s m ([.ref a0, .int p1] : List Value).toArray below meth c 2 E (cZ σ) (cS σ) (MQ below (cQ E (some (va_rf r)) σz) ([.ref a0, .int p1] : List Value).toArray s (cZ σz - cZ σ) (cS σz - cS σ) (EA E)) (r, σz) (fX0_portAt a0 p1 σ) σ 0 [(0, .ref a0), (1, .int p1)] []
  unfold fX0_portAt
  refine Jrow (fun H locs ls hH hS hl k => lv_iload_n hx hb dX0_portAt_0 rfl (lv_at hl 1 rfl) (k ls hl)) ?_
  refine Jjn2 (fun (x1 : Option Nat) (σ2 : CS) X13 => J p l e (headSpec (ws_ yX0_portAt cX0_portAt 2 (some (.object "FortyDays$Port"))) (rmC 3 64 σ σz)).room s m ([.ref a0, .int p1] : List Value).toArray below meth c 2 E (cZ σ) (cS σ) (MQ below (cQ E (some (va_rf r)) σz) ([.ref a0, .int p1] : List Value).toArray s (cZ σz - cZ σ) (cS σz - cS σ) (EA E)) (r, σz) X13 σ2 30 [] [va_rf x1]) (fun x1 σ2 => ?_) (fun k3 hk3 => ?_)
  · exact JaretN hx hb hr (Or.inl ⟨_, rfl⟩) rfl hlocks dX0_portAt_30
  · refine Jjn1 (fun (σ4 : CS) X12 => J p l e (headSpec (ws_ yX0_portAt cX0_portAt 2 (some (.object "FortyDays$Port"))) (rmC 3 64 σ σz)).room s m ([.ref a0, .int p1] : List Value).toArray below meth c 2 E (cZ σ) (cS σ) (MQ below (cQ E (some (va_rf r)) σz) ([.ref a0, .int p1] : List Value).toArray s (cZ σz - cZ σ) (cS σz - cS σ) (EA E)) (r, σz) X12 σ4 15 [] []) (fun σ4 => ?_) (fun k5 hk5 => ?_)
    · refine Jrow (fun H locs ls hH hS hl k => lv_null hx hb dX0_portAt_15 (k ls hl)) ?_
      refine Jrow (fun H locs ls hH hS hl k => lv_goto (tgt := 30) hx hb dX0_portAt_16 (by decide) (k ls hl)) ?_
      exact Jsub [] rfl (hk3 none σ4)
    · refine Jite (fun hc => ?_) (fun hc => ?_)
      · refine Jrow (fun H locs ls hH hS hl k => lv_if_lt (tgt := 15) hx hb dX0_portAt_1 (by decide) (fun _ => (k ls hl)) (fun h => absurd hc h)) ?_
        clear hc
        exact Jsub [] rfl (hk5 σ)
      · refine Jrow (fun H locs ls hH hS hl k => lv_if_lt (tgt := 15) hx hb dX0_portAt_1 (by decide) (fun h => absurd h hc) (fun _ => (k ls hl))) ?_
        clear hc
        refine Jrow (fun H locs ls hH hS hl k => lv_iload_n hx hb dX0_portAt_4 rfl (lv_at hl 1 rfl) (k ls hl)) ?_
        refine Jrow (fun H locs ls hH hS hl k => lv_aload_n hx hb dX0_portAt_5 rfl (lv_at hl 0 rfl) (k ls hl)) ?_
        refine Jgd (fun hg => ?_)
        refine Jcl (fun x6 hq => ?_)
        refine Jrow (fun H locs ls hH hS hl k => c_get (F := 26) (v := .ref x6) hx hb hts hown hK hH hg (hts _ q253) (fun _ h => h) (fvR rfl hq) dX0_portAt_6 (k ls hl)) ?_
        clear hq
        refine Jgd (fun hg => ?_)
        refine Jcl2 (fun x8 σ7 hf => ?_)
        refine Jcall (v := (some (.int x8))) (rest := [.int p1]) (mJ2_size l E hf).1 ⟨rfl, rfl⟩ (fun H locs ls hH hS hl hR => ⟨_, va_runV (C := RJ2) (As := []) ⟨hx, hb, hml, hown, hts⟩ (mJ2_size l E hf).2 (cwV 0 hts (lw_V q327 q328 q329 q91 q330) rfl rfl rfl (by decide +kernel) ⟨Nat.le_of_ble_eq_true rfl, Nat.le_of_ble_eq_true rfl⟩) (c_preV (ci := 19) hk hH hS hg rfl) rfl rfl hl.1 rfl (lv_room (Nat.le_of_ble_eq_true rfl)) dX0_portAt_9 hR⟩) ?_
        clear hf
        refine Jite (fun hc => ?_) (fun hc => ?_)
        · refine Jrow (fun H locs ls hH hS hl k => lv_icmp_lt (tgt := 19) hx hb dX0_portAt_12 (by decide) (fun _ => (k ls hl)) (fun h => absurd hc h)) ?_
          clear hc
          refine Jrow (fun H locs ls hH hS hl k => lv_aload_n hx hb dX0_portAt_19 rfl (lv_at hl 0 rfl) (k ls hl)) ?_
          refine Jgd (fun hg => ?_)
          refine Jcl (fun x9 hq => ?_)
          refine Jrow (fun H locs ls hH hS hl k => c_get (F := 26) (v := .ref x9) hx hb hts hown hK hH hg (hts _ q253) (fun _ h => h) (fvR rfl hq) dX0_portAt_20 (k ls hl)) ?_
          clear hq
          refine Jrow (fun H locs ls hH hS hl k => lv_iload_n hx hb dX0_portAt_23 rfl (lv_at hl 1 rfl) (k ls hl)) ?_
          refine Jgd (fun hg => ?_)
          refine Jcl2 (fun x11 σ10 hf => ?_)
          refine Jcall (v := (some (.ref x11))) (rest := []) (mJ2_get l E hf).1 ⟨rfl, rfl⟩ (fun H locs ls hH hS hl hR => ⟨_, va_runV (C := RJ2) (As := [.int p1]) ⟨hx, hb, hml, hown, hts⟩ (mJ2_get l E hf).2 (cwV 1 hts (lw_V q605 q606 q607 q91 q608) rfl rfl rfl (by decide +kernel) ⟨Nat.le_of_ble_eq_true rfl, Nat.le_of_ble_eq_true rfl⟩) (c_preV (ci := 19) hk hH hS hg rfl) rfl rfl hl.1 rfl (lv_room (Nat.le_of_ble_eq_true rfl)) dX0_portAt_24 hR⟩) ?_
          clear hf
          refine Jgd (fun hg => ?_)
          refine Jrow (fun H locs ls hH hS hl k => va_castE hx hb hown (hts _ q619) (c_recv hK hH (ci := 5) hg rfl) dX0_portAt_27 (k ls hl)) ?_
          exact Jsub [] rfl (hk3 (some x11) σ10)
        · refine Jrow (fun H locs ls hH hS hl k => lv_icmp_lt (tgt := 19) hx hb dX0_portAt_12 (by decide) (fun h => absurd h hc) (fun _ => (k ls hl))) ?_
          clear hc
          exact Jsub [] rfl (hk5 σ7)

def fX0_shipAt (a0 : Nat) (p1 : Int32) (σ : CS) : Option (Option Nat × CS) :=
 jn (fun (x1 : Option Nat) (σ2 : CS) => some (x1, σ2)) (fun (k3 : Option Nat → CS → Option (Option Nat × CS)) =>
 jn (fun (σ4 : CS) => k3 none σ4) (fun (k5 : CS → Option (Option Nat × CS)) =>
 if p1 < (0:Int32) then
 k5 σ
 else
 gd (hf (cK σ a0) 28) (
 cl (cFR σ a0 28) (fun (x6 : Nat) =>
 gd (kd σ x6 20) (
 cl2 (fJ2_size x6 σ) (fun (x8 : Int32) (σ7 : CS) =>
 if p1 < x8 then
 gd (hf (cK σ7 a0) 28) (
 cl (cFR σ7 a0 28) (fun (x9 : Nat) =>
 gd (kd σ7 x9 20) (
 cl2 (fJ2_get x9 p1 σ7) (fun (x11 : Nat) (σ10 : CS) =>
 gd (kd σ10 x11 11) (
 k3 (some x11) σ10)))))
 else
 k5 σ7))))))
theorem nX0_shipAt {a0 : Nat} {p1 : Int32} {σ : CS} : Mn σ (fX0_shipAt a0 p1 σ) := by
  unfold fX0_shipAt
  refine Mjn2 (fun (x1 : Option Nat) (σ2 : CS) (X13 : Option (Option Nat × CS)) => Mn σ2 X13) (fun x1 σ2 => ?_) (fun k3 hk3 => ?_)
  · exact Mret
  · refine Mjn1 (fun (σ4 : CS) (X12 : Option (Option Nat × CS)) => Mn σ4 X12) (fun σ4 => ?_) (fun k5 hk5 => ?_)
    · exact hk3 none σ4
    · refine Mite ?_ ?_
      · exact hk5 σ
      · refine Mgd ?_
        refine Mcl (fun x6 => ?_)
        refine Mgd ?_
        refine Mcl2 (nJ2_size) (fun x8 σ7 => ?_)
        refine Mite ?_ ?_
        · refine Mgd ?_
          refine Mcl (fun x9 => ?_)
          refine Mgd ?_
          refine Mcl2 (nJ2_get) (fun x11 σ10 => ?_)
          refine Mgd ?_
          exact hk3 (some x11) σ10
        · exact hk5 σ7
set_option maxHeartbeats 4000000 in
set_option maxRecDepth 100000 in
theorem mX0_shipAt (l : Launch) (E : CE) {a0 : Nat} {p1 : Int32} {σ : CS} {r : Option Nat} {σz : CS} (hX : fX0_shipAt a0 p1 σ = some (r, σz)) : MetC l yX0_shipAt (ws_ yX0_shipAt cX0_shipAt 2 (some (.object "FortyDays$Ship"))) 3 64 E σ [.ref a0, .int p1] (some (va_rf r)) σz := by
  refine MetC.of hX (by decide) (Nat.le_of_ble_eq_true rfl) (nX0_shipAt _ hX) ?_
  intro p e s m below meth c hx hb hr hml hts hown hlocks hnm hk hz0
  have hK := hk.1
  show J p l e (headSpec (ws_ yX0_shipAt cX0_shipAt 2 (some (.object "FortyDays$Ship"))) (rmC 3 64 σ σz)).room s m ([.ref a0, .int p1] : List Value).toArray below meth c 2 E (cZ σ) (cS σ) (MQ below (cQ E (some (va_rf r)) σz) ([.ref a0, .int p1] : List Value).toArray s (cZ σz - cZ σ) (cS σz - cS σ) (EA E)) (r, σz) (fX0_shipAt a0 p1 σ) σ 0 [(0, .ref a0), (1, .int p1)] []
  unfold fX0_shipAt
  refine Jrow (fun H locs ls hH hS hl k => lv_iload_n hx hb dX0_shipAt_0 rfl (lv_at hl 1 rfl) (k ls hl)) ?_
  refine Jjn2 (fun (x1 : Option Nat) (σ2 : CS) X13 => J p l e (headSpec (ws_ yX0_shipAt cX0_shipAt 2 (some (.object "FortyDays$Ship"))) (rmC 3 64 σ σz)).room s m ([.ref a0, .int p1] : List Value).toArray below meth c 2 E (cZ σ) (cS σ) (MQ below (cQ E (some (va_rf r)) σz) ([.ref a0, .int p1] : List Value).toArray s (cZ σz - cZ σ) (cS σz - cS σ) (EA E)) (r, σz) X13 σ2 30 [] [va_rf x1]) (fun x1 σ2 => ?_) (fun k3 hk3 => ?_)
  · exact JaretN hx hb hr (Or.inl ⟨_, rfl⟩) rfl hlocks dX0_shipAt_30
  · refine Jjn1 (fun (σ4 : CS) X12 => J p l e (headSpec (ws_ yX0_shipAt cX0_shipAt 2 (some (.object "FortyDays$Ship"))) (rmC 3 64 σ σz)).room s m ([.ref a0, .int p1] : List Value).toArray below meth c 2 E (cZ σ) (cS σ) (MQ below (cQ E (some (va_rf r)) σz) ([.ref a0, .int p1] : List Value).toArray s (cZ σz - cZ σ) (cS σz - cS σ) (EA E)) (r, σz) X12 σ4 15 [] []) (fun σ4 => ?_) (fun k5 hk5 => ?_)
    · refine Jrow (fun H locs ls hH hS hl k => lv_null hx hb dX0_shipAt_15 (k ls hl)) ?_
      refine Jrow (fun H locs ls hH hS hl k => lv_goto (tgt := 30) hx hb dX0_shipAt_16 (by decide) (k ls hl)) ?_
      exact Jsub [] rfl (hk3 none σ4)
    · refine Jite (fun hc => ?_) (fun hc => ?_)
      · refine Jrow (fun H locs ls hH hS hl k => lv_if_lt (tgt := 15) hx hb dX0_shipAt_1 (by decide) (fun _ => (k ls hl)) (fun h => absurd hc h)) ?_
        clear hc
        exact Jsub [] rfl (hk5 σ)
      · refine Jrow (fun H locs ls hH hS hl k => lv_if_lt (tgt := 15) hx hb dX0_shipAt_1 (by decide) (fun h => absurd h hc) (fun _ => (k ls hl))) ?_
        clear hc
        refine Jrow (fun H locs ls hH hS hl k => lv_iload_n hx hb dX0_shipAt_4 rfl (lv_at hl 1 rfl) (k ls hl)) ?_
        refine Jrow (fun H locs ls hH hS hl k => lv_aload_n hx hb dX0_shipAt_5 rfl (lv_at hl 0 rfl) (k ls hl)) ?_
        refine Jgd (fun hg => ?_)
        refine Jcl (fun x6 hq => ?_)
        refine Jrow (fun H locs ls hH hS hl k => c_get (F := 28) (v := .ref x6) hx hb hts hown hK hH hg (hts _ q257) (fun _ h => h) (fvR rfl hq) dX0_shipAt_6 (k ls hl)) ?_
        clear hq
        refine Jgd (fun hg => ?_)
        refine Jcl2 (fun x8 σ7 hf => ?_)
        refine Jcall (v := (some (.int x8))) (rest := [.int p1]) (mJ2_size l E hf).1 ⟨rfl, rfl⟩ (fun H locs ls hH hS hl hR => ⟨_, va_runV (C := RJ2) (As := []) ⟨hx, hb, hml, hown, hts⟩ (mJ2_size l E hf).2 (cwV 0 hts (lw_V q327 q328 q329 q91 q330) rfl rfl rfl (by decide +kernel) ⟨Nat.le_of_ble_eq_true rfl, Nat.le_of_ble_eq_true rfl⟩) (c_preV (ci := 19) hk hH hS hg rfl) rfl rfl hl.1 rfl (lv_room (Nat.le_of_ble_eq_true rfl)) dX0_shipAt_9 hR⟩) ?_
        clear hf
        refine Jite (fun hc => ?_) (fun hc => ?_)
        · refine Jrow (fun H locs ls hH hS hl k => lv_icmp_lt (tgt := 19) hx hb dX0_shipAt_12 (by decide) (fun _ => (k ls hl)) (fun h => absurd hc h)) ?_
          clear hc
          refine Jrow (fun H locs ls hH hS hl k => lv_aload_n hx hb dX0_shipAt_19 rfl (lv_at hl 0 rfl) (k ls hl)) ?_
          refine Jgd (fun hg => ?_)
          refine Jcl (fun x9 hq => ?_)
          refine Jrow (fun H locs ls hH hS hl k => c_get (F := 28) (v := .ref x9) hx hb hts hown hK hH hg (hts _ q257) (fun _ h => h) (fvR rfl hq) dX0_shipAt_20 (k ls hl)) ?_
          clear hq
          refine Jrow (fun H locs ls hH hS hl k => lv_iload_n hx hb dX0_shipAt_23 rfl (lv_at hl 1 rfl) (k ls hl)) ?_
          refine Jgd (fun hg => ?_)
          refine Jcl2 (fun x11 σ10 hf => ?_)
          refine Jcall (v := (some (.ref x11))) (rest := []) (mJ2_get l E hf).1 ⟨rfl, rfl⟩ (fun H locs ls hH hS hl hR => ⟨_, va_runV (C := RJ2) (As := [.int p1]) ⟨hx, hb, hml, hown, hts⟩ (mJ2_get l E hf).2 (cwV 1 hts (lw_V q605 q606 q607 q91 q608) rfl rfl rfl (by decide +kernel) ⟨Nat.le_of_ble_eq_true rfl, Nat.le_of_ble_eq_true rfl⟩) (c_preV (ci := 19) hk hH hS hg rfl) rfl rfl hl.1 rfl (lv_room (Nat.le_of_ble_eq_true rfl)) dX0_shipAt_24 hR⟩) ?_
          clear hf
          refine Jgd (fun hg => ?_)
          refine Jrow (fun H locs ls hH hS hl k => va_castE hx hb hown (hts _ q664) (c_recv hK hH (ci := 10) hg rfl) dX0_shipAt_27 (k ls hl)) ?_
          exact Jsub [] rfl (hk3 (some x11) σ10)
        · refine Jrow (fun H locs ls hH hS hl k => lv_icmp_lt (tgt := 19) hx hb dX0_shipAt_12 (by decide) (fun h => absurd h hc) (fun _ => (k ls hl))) ?_
          clear hc
          exact Jsub [] rfl (hk5 σ7)

def fX0_ruleAt (a0 : Nat) (p1 : Int32) (σ : CS) : Option (Option Nat × CS) :=
 jn (fun (x1 : Option Nat) (σ2 : CS) => some (x1, σ2)) (fun (k3 : Option Nat → CS → Option (Option Nat × CS)) =>
 jn (fun (σ4 : CS) => k3 none σ4) (fun (k5 : CS → Option (Option Nat × CS)) =>
 if p1 < (0:Int32) then
 k5 σ
 else
 gd (hf (cK σ a0) 38) (
 cl (cFR σ a0 38) (fun (x6 : Nat) =>
 gd (kd σ x6 20) (
 cl2 (fJ2_size x6 σ) (fun (x8 : Int32) (σ7 : CS) =>
 if p1 < x8 then
 gd (hf (cK σ7 a0) 38) (
 cl (cFR σ7 a0 38) (fun (x9 : Nat) =>
 gd (kd σ7 x9 20) (
 cl2 (fJ2_get x9 p1 σ7) (fun (x11 : Nat) (σ10 : CS) =>
 gd (isX11 (cK σ10 x11)) (
 k3 (some x11) σ10)))))
 else
 k5 σ7))))))
theorem nX0_ruleAt {a0 : Nat} {p1 : Int32} {σ : CS} : Mn σ (fX0_ruleAt a0 p1 σ) := by
  unfold fX0_ruleAt
  refine Mjn2 (fun (x1 : Option Nat) (σ2 : CS) (X13 : Option (Option Nat × CS)) => Mn σ2 X13) (fun x1 σ2 => ?_) (fun k3 hk3 => ?_)
  · exact Mret
  · refine Mjn1 (fun (σ4 : CS) (X12 : Option (Option Nat × CS)) => Mn σ4 X12) (fun σ4 => ?_) (fun k5 hk5 => ?_)
    · exact hk3 none σ4
    · refine Mite ?_ ?_
      · exact hk5 σ
      · refine Mgd ?_
        refine Mcl (fun x6 => ?_)
        refine Mgd ?_
        refine Mcl2 (nJ2_size) (fun x8 σ7 => ?_)
        refine Mite ?_ ?_
        · refine Mgd ?_
          refine Mcl (fun x9 => ?_)
          refine Mgd ?_
          refine Mcl2 (nJ2_get) (fun x11 σ10 => ?_)
          refine Mgd ?_
          exact hk3 (some x11) σ10
        · exact hk5 σ7
set_option maxHeartbeats 4000000 in
set_option maxRecDepth 100000 in
theorem mX0_ruleAt (l : Launch) (E : CE) {a0 : Nat} {p1 : Int32} {σ : CS} {r : Option Nat} {σz : CS} (hX : fX0_ruleAt a0 p1 σ = some (r, σz)) : MetC l yX0_ruleAt (ws_ yX0_ruleAt cX0_ruleAt 2 (some (.object "FortyDays$Rule"))) 3 64 E σ [.ref a0, .int p1] (some (va_rf r)) σz := by
  refine MetC.of hX (by decide) (Nat.le_of_ble_eq_true rfl) (nX0_ruleAt _ hX) ?_
  intro p e s m below meth c hx hb hr hml hts hown hlocks hnm hk hz0
  have hK := hk.1
  show J p l e (headSpec (ws_ yX0_ruleAt cX0_ruleAt 2 (some (.object "FortyDays$Rule"))) (rmC 3 64 σ σz)).room s m ([.ref a0, .int p1] : List Value).toArray below meth c 2 E (cZ σ) (cS σ) (MQ below (cQ E (some (va_rf r)) σz) ([.ref a0, .int p1] : List Value).toArray s (cZ σz - cZ σ) (cS σz - cS σ) (EA E)) (r, σz) (fX0_ruleAt a0 p1 σ) σ 0 [(0, .ref a0), (1, .int p1)] []
  unfold fX0_ruleAt
  refine Jrow (fun H locs ls hH hS hl k => lv_iload_n hx hb dX0_ruleAt_0 rfl (lv_at hl 1 rfl) (k ls hl)) ?_
  refine Jjn2 (fun (x1 : Option Nat) (σ2 : CS) X13 => J p l e (headSpec (ws_ yX0_ruleAt cX0_ruleAt 2 (some (.object "FortyDays$Rule"))) (rmC 3 64 σ σz)).room s m ([.ref a0, .int p1] : List Value).toArray below meth c 2 E (cZ σ) (cS σ) (MQ below (cQ E (some (va_rf r)) σz) ([.ref a0, .int p1] : List Value).toArray s (cZ σz - cZ σ) (cS σz - cS σ) (EA E)) (r, σz) X13 σ2 30 [] [va_rf x1]) (fun x1 σ2 => ?_) (fun k3 hk3 => ?_)
  · exact JaretN hx hb hr (Or.inl ⟨_, rfl⟩) rfl hlocks dX0_ruleAt_30
  · refine Jjn1 (fun (σ4 : CS) X12 => J p l e (headSpec (ws_ yX0_ruleAt cX0_ruleAt 2 (some (.object "FortyDays$Rule"))) (rmC 3 64 σ σz)).room s m ([.ref a0, .int p1] : List Value).toArray below meth c 2 E (cZ σ) (cS σ) (MQ below (cQ E (some (va_rf r)) σz) ([.ref a0, .int p1] : List Value).toArray s (cZ σz - cZ σ) (cS σz - cS σ) (EA E)) (r, σz) X12 σ4 15 [] []) (fun σ4 => ?_) (fun k5 hk5 => ?_)
    · refine Jrow (fun H locs ls hH hS hl k => lv_null hx hb dX0_ruleAt_15 (k ls hl)) ?_
      refine Jrow (fun H locs ls hH hS hl k => lv_goto (tgt := 30) hx hb dX0_ruleAt_16 (by decide) (k ls hl)) ?_
      exact Jsub [] rfl (hk3 none σ4)
    · refine Jite (fun hc => ?_) (fun hc => ?_)
      · refine Jrow (fun H locs ls hH hS hl k => lv_if_lt (tgt := 15) hx hb dX0_ruleAt_1 (by decide) (fun _ => (k ls hl)) (fun h => absurd hc h)) ?_
        clear hc
        exact Jsub [] rfl (hk5 σ)
      · refine Jrow (fun H locs ls hH hS hl k => lv_if_lt (tgt := 15) hx hb dX0_ruleAt_1 (by decide) (fun h => absurd h hc) (fun _ => (k ls hl))) ?_
        clear hc
        refine Jrow (fun H locs ls hH hS hl k => lv_iload_n hx hb dX0_ruleAt_4 rfl (lv_at hl 1 rfl) (k ls hl)) ?_
        refine Jrow (fun H locs ls hH hS hl k => lv_aload_n hx hb dX0_ruleAt_5 rfl (lv_at hl 0 rfl) (k ls hl)) ?_
        refine Jgd (fun hg => ?_)
        refine Jcl (fun x6 hq => ?_)
        refine Jrow (fun H locs ls hH hS hl k => c_get (F := 38) (v := .ref x6) hx hb hts hown hK hH hg (hts _ q271) (fun _ h => h) (fvR rfl hq) dX0_ruleAt_6 (k ls hl)) ?_
        clear hq
        refine Jgd (fun hg => ?_)
        refine Jcl2 (fun x8 σ7 hf => ?_)
        refine Jcall (v := (some (.int x8))) (rest := [.int p1]) (mJ2_size l E hf).1 ⟨rfl, rfl⟩ (fun H locs ls hH hS hl hR => ⟨_, va_runV (C := RJ2) (As := []) ⟨hx, hb, hml, hown, hts⟩ (mJ2_size l E hf).2 (cwV 0 hts (lw_V q327 q328 q329 q91 q330) rfl rfl rfl (by decide +kernel) ⟨Nat.le_of_ble_eq_true rfl, Nat.le_of_ble_eq_true rfl⟩) (c_preV (ci := 19) hk hH hS hg rfl) rfl rfl hl.1 rfl (lv_room (Nat.le_of_ble_eq_true rfl)) dX0_ruleAt_9 hR⟩) ?_
        clear hf
        refine Jite (fun hc => ?_) (fun hc => ?_)
        · refine Jrow (fun H locs ls hH hS hl k => lv_icmp_lt (tgt := 19) hx hb dX0_ruleAt_12 (by decide) (fun _ => (k ls hl)) (fun h => absurd hc h)) ?_
          clear hc
          refine Jrow (fun H locs ls hH hS hl k => lv_aload_n hx hb dX0_ruleAt_19 rfl (lv_at hl 0 rfl) (k ls hl)) ?_
          refine Jgd (fun hg => ?_)
          refine Jcl (fun x9 hq => ?_)
          refine Jrow (fun H locs ls hH hS hl k => c_get (F := 38) (v := .ref x9) hx hb hts hown hK hH hg (hts _ q271) (fun _ h => h) (fvR rfl hq) dX0_ruleAt_20 (k ls hl)) ?_
          clear hq
          refine Jrow (fun H locs ls hH hS hl k => lv_iload_n hx hb dX0_ruleAt_23 rfl (lv_at hl 1 rfl) (k ls hl)) ?_
          refine Jgd (fun hg => ?_)
          refine Jcl2 (fun x11 σ10 hf => ?_)
          refine Jcall (v := (some (.ref x11))) (rest := []) (mJ2_get l E hf).1 ⟨rfl, rfl⟩ (fun H locs ls hH hS hl hR => ⟨_, va_runV (C := RJ2) (As := [.int p1]) ⟨hx, hb, hml, hown, hts⟩ (mJ2_get l E hf).2 (cwV 1 hts (lw_V q605 q606 q607 q91 q608) rfl rfl rfl (by decide +kernel) ⟨Nat.le_of_ble_eq_true rfl, Nat.le_of_ble_eq_true rfl⟩) (c_preV (ci := 19) hk hH hS hg rfl) rfl rfl hl.1 rfl (lv_room (Nat.le_of_ble_eq_true rfl)) dX0_ruleAt_24 hR⟩) ?_
          clear hf
          refine Jgd (fun hg => ?_)
          refine Jrow (fun H locs ls hH hS hl k => c_castX11 hx hb hown (hts _ q774) hk hH hg dX0_ruleAt_27 (k ls hl)) ?_
          exact Jsub [] rfl (hk3 (some x11) σ10)
        · refine Jrow (fun H locs ls hH hS hl k => lv_icmp_lt (tgt := 19) hx hb dX0_ruleAt_12 (by decide) (fun h => absurd h hc) (fun _ => (k ls hl))) ?_
          clear hc
          exact Jsub [] rfl (hk5 σ7)

def fX0_feed (a0 : Nat) (p1 : Int64) (p2 : Int32) (σ : CS) : Option (Int32 × CS) :=
 cl (fX0_in p2 (1:Int32) (8:Int32)) (fun (x1 : Int32) =>
 if x1 = (0:Int32) then
 some ((-2:Int32), σ)
 else
 gd (hf (cK σ a0) 25) (
 if ((cFI σ a0 25) + p2) ≤ (120:Int32) then
 bd (p2 - (1:Int32)) (fun (x2 : Int32) =>
 lp (fun _ _ => none) (fun (k5 : Int32 → CS → Option (Int32 × CS)) (x3 : Int32) (σ4 : CS) =>
 if x3 < (0:Int32) then
 gd (hf (cK σ4 a0) 25) (
 some (cFI σ4 a0 25, σ4))
 else
 gd (hf (cK σ4 a0) 24) (
 cl (cFR σ4 a0 24) (fun (x6 : Nat) =>
 gd (hf (cK σ4 a0) 25) (
 gd (hf (cK σ4 a0) 25) (
 bd (uFI σ4 a0 25 ((cFI σ4 a0 25) + (1:Int32))) (fun (σ7 : CS) =>
 gd (kd σ7 x6 104) (
 gd (ib (cFI σ4 a0 25) (cLN σ7 x6)) (
 bd (uAI σ7 x6 (cFI σ4 a0 25).toNatClampNeg (vp_nar .byte (((p1 >>> (((8:Int32) * x3).toInt64 &&& 63)).toInt32).toInt8.toInt32))) (fun (σ8 : CS) =>
 bd (x3 + (-1:Int32)) (fun (x9 : Int32) =>
 k5 x9 σ8)))))))))) NF x2 σ)
 else
 some ((-4:Int32), σ)))
theorem nX0_feed {a0 : Nat} {p1 : Int64} {p2 : Int32} {σ : CS} : Mn σ (fX0_feed a0 p1 p2 σ) := by
  unfold fX0_feed
  refine Mcl (fun x1 => ?_)
  refine Mite ?_ ?_
  · exact Mret
  · refine Mgd ?_
    refine Mite ?_ ?_
    · refine Mbd (fun x2 => ?_)
      refine Plp2 (fun (x3 : Int32) (σ4 : CS) (X10 : Option (Int32 × CS)) => Mn σ4 X10) (fun _ _ => Mnone) (fun k5 hk5 x3 σ4 => ?_)
      refine Mite ?_ ?_
      · refine Mgd ?_
        exact Mret
      · refine Mgd ?_
        refine Mcl (fun x6 => ?_)
        refine Mgd ?_
        refine Mgd ?_
        refine Mst (Nat.le_refl _) (Nat.le_refl _) (fun σ7 => ?_)
        refine Mgd ?_
        refine Mgd ?_
        refine Mst (Nat.le_refl _) (Nat.le_refl _) (fun σ8 => ?_)
        refine Mbd (fun x9 => ?_)
        exact hk5 x9 σ8
    · exact Mret
set_option maxHeartbeats 4000000 in
set_option maxRecDepth 100000 in
theorem mX0_feed (l : Launch) (E : CE) {a0 : Nat} {p1 : Int64} {p2 : Int32} {σ : CS} {r : Int32} {σz : CS} (hX : fX0_feed a0 p1 p2 σ = some (r, σz)) : MetC l yX0_feed (ws_ yX0_feed cX0_feed 5 (some .int)) 1 22 E σ [.ref a0, .long p1, .int p2] (some (.int r)) σz := by
  refine MetC.of hX (by decide) (Nat.le_of_ble_eq_true rfl) (nX0_feed _ hX) ?_
  intro p e s m below meth c hx hb hr hml hts hown hlocks hnm hk hz0
  have hK := hk.1
  show J p l e (headSpec (ws_ yX0_feed cX0_feed 5 (some .int)) (rmC 1 22 σ σz)).room s m ([.ref a0, .long p1, .int p2] : List Value).toArray below meth c 5 E (cZ σ) (cS σ) (MQ below (cQ E (some (.int r)) σz) ([.ref a0, .long p1, .int p2] : List Value).toArray s (cZ σz - cZ σ) (cS σz - cS σ) (EA E)) (r, σz) (fX0_feed a0 p1 p2 σ) σ 0 [(0, .ref a0), (1, .long p1), (3, .int p2)] []
  unfold fX0_feed
  refine Jrow (fun H locs ls hH hS hl k => lv_iload_n hx hb dX0_feed_0 rfl (lv_at hl 2 rfl) (k ls hl)) ?_
  refine Jrow (fun H locs ls hH hS hl k => lv_iconst (v := (1:Int32)) hx hb dX0_feed_1 (by decide) (k ls hl)) ?_
  refine Jrow (fun H locs ls hH hS hl k => lv_bipush (v := (8:Int32)) hx hb dX0_feed_2 (by decide) (k ls hl)) ?_
  refine Jcl (fun x1 hf => ?_)
  refine JcallS (v := .int x1) (rest := []) hz0 ⟨rfl, rfl⟩ sQi_o (fun H locs ls hl hR => va_runS (As := [.int p2, .int (1:Int32), .int (8:Int32)]) ⟨hx, hb, hml, hown, hts⟩ (mX0_in l hf) (va_cwS 3 hts (lw_S q319 q320 q88 q321) rfl rfl rfl (by decide +kernel) ⟨Nat.le_of_ble_eq_true rfl, Nat.le_of_ble_eq_true rfl⟩) s_pre rfl rfl hl.1 rfl (lv_room (Nat.le_of_ble_eq_true rfl)) dX0_feed_4 hR) ?_
  clear hf
  refine Jite (fun hc => ?_) (fun hc => ?_)
  · refine Jrow (fun H locs ls hH hS hl k => lv_if_ne (tgt := 13) hx hb dX0_feed_7 (by decide) (fun h => absurd hc h) (fun _ => (k ls hl))) ?_
    clear hc
    refine Jrow (fun H locs ls hH hS hl k => lv_bipush (v := (-2:Int32)) hx hb dX0_feed_10 (by decide) (k ls hl)) ?_
    exact Jiret hx hb hr hlocks dX0_feed_12
  · refine Jrow (fun H locs ls hH hS hl k => lv_if_ne (tgt := 13) hx hb dX0_feed_7 (by decide) (fun _ => (k ls hl)) (fun h => absurd h hc)) ?_
    clear hc
    refine Jrow (fun H locs ls hH hS hl k => lv_aload_n hx hb dX0_feed_13 rfl (lv_at hl 0 rfl) (k ls hl)) ?_
    refine Jgd (fun hg => ?_)
    refine Jrow (fun H locs ls hH hS hl k => c_get (F := 25) (v := .int (cFI σ a0 25)) hx hb hts hown hK hH hg (hts _ q251) (fun _ h => h) rfl dX0_feed_14 (k ls hl)) ?_
    refine Jrow (fun H locs ls hH hS hl k => lv_iload_n hx hb dX0_feed_17 rfl (lv_at hl 2 rfl) (k ls hl)) ?_
    refine Jrow (fun H locs ls hH hS hl k => lv_iadd hx hb dX0_feed_18 (k ls hl)) ?_
    refine Jrow (fun H locs ls hH hS hl k => lv_bipush (v := (120:Int32)) hx hb dX0_feed_19 (by decide) (k ls hl)) ?_
    refine Jite (fun hc => ?_) (fun hc => ?_)
    · refine Jrow (fun H locs ls hH hS hl k => lv_icmp_le (tgt := 27) hx hb dX0_feed_21 (by decide) (fun _ => (k ls hl)) (fun h => absurd hc h)) ?_
      clear hc
      refine Jrow (fun H locs ls hH hS hl k => lv_iload_n hx hb dX0_feed_27 rfl (lv_at hl 2 rfl) (k ls hl)) ?_
      refine Jrow (fun H locs ls hH hS hl k => lv_iconst (v := (1:Int32)) hx hb dX0_feed_28 (by decide) (k ls hl)) ?_
      refine Jrow (fun H locs ls hH hS hl k => lv_isub hx hb dX0_feed_29 (k ls hl)) ?_
      refine JbdI (fun x2 => ?_)
      refine Jrow (fun H locs ls hH hS hl k => lv_istore (lv' := [(4, .int x2), (0, .ref a0), (1, .long p1), (3, .int p2)]) hx hb dX0_feed_30 hl (by decide) rfl k) ?_
      refine Jsub [1, 2, 0] rfl (Plp2 (fun (x3 : Int32) (σ4 : CS) X10 => J p l e (headSpec (ws_ yX0_feed cX0_feed 5 (some .int)) (rmC 1 22 σ σz)).room s m ([.ref a0, .long p1, .int p2] : List Value).toArray below meth c 5 E (cZ σ) (cS σ) (MQ below (cQ E (some (.int r)) σz) ([.ref a0, .long p1, .int p2] : List Value).toArray s (cZ σz - cZ σ) (cS σz - cS σ) (EA E)) (r, σz) X10 σ4 32 [(0, .ref a0), (1, .long p1), (4, .int x3)] []) (fun _ _ => Jnone) (fun k5 hk5 x3 σ4 => ?_))
      refine Jrow (fun H locs ls hH hS hl k => lv_iload hx hb dX0_feed_32 (lv_at hl 2 rfl) (k ls hl)) ?_
      refine Jite (fun hc => ?_) (fun hc => ?_)
      · refine Jrow (fun H locs ls hH hS hl k => lv_if_lt (tgt := 68) hx hb dX0_feed_34 (by decide) (fun _ => (k ls hl)) (fun h => absurd hc h)) ?_
        clear hc
        refine Jrow (fun H locs ls hH hS hl k => lv_aload_n hx hb dX0_feed_68 rfl (lv_at hl 0 rfl) (k ls hl)) ?_
        refine Jgd (fun hg => ?_)
        refine Jrow (fun H locs ls hH hS hl k => c_get (F := 25) (v := .int (cFI σ4 a0 25)) hx hb hts hown hK hH hg (hts _ q251) (fun _ h => h) rfl dX0_feed_69 (k ls hl)) ?_
        exact Jiret hx hb hr hlocks dX0_feed_72
      · refine Jrow (fun H locs ls hH hS hl k => lv_if_lt (tgt := 68) hx hb dX0_feed_34 (by decide) (fun h => absurd h hc) (fun _ => (k ls hl))) ?_
        clear hc
        refine Jrow (fun H locs ls hH hS hl k => lv_aload_n hx hb dX0_feed_37 rfl (lv_at hl 0 rfl) (k ls hl)) ?_
        refine Jgd (fun hg => ?_)
        refine Jcl (fun x6 hq => ?_)
        refine Jrow (fun H locs ls hH hS hl k => c_get (F := 24) (v := .ref x6) hx hb hts hown hK hH hg (hts _ q248) (fun _ h => h) (fvR rfl hq) dX0_feed_38 (k ls hl)) ?_
        clear hq
        refine Jrow (fun H locs ls hH hS hl k => lv_aload_n hx hb dX0_feed_41 rfl (lv_at hl 0 rfl) (k ls hl)) ?_
        refine Jrow (fun H locs ls hH hS hl k => lv_dup hx hb dX0_feed_42 rfl (k ls hl)) ?_
        refine Jgd (fun hg => ?_)
        refine Jrow (fun H locs ls hH hS hl k => c_get (F := 25) (v := .int (cFI σ4 a0 25)) hx hb hts hown hK hH hg (hts _ q251) (fun _ h => h) rfl dX0_feed_43 (k ls hl)) ?_
        refine Jrow (fun H locs ls hH hS hl k => lv_dup_x1 hx hb dX0_feed_46 rfl rfl (k ls hl)) ?_
        refine Jrow (fun H locs ls hH hS hl k => lv_iconst (v := (1:Int32)) hx hb dX0_feed_47 (by decide) (k ls hl)) ?_
        refine Jrow (fun H locs ls hH hS hl k => lv_iadd hx hb dX0_feed_48 (k ls hl)) ?_
        refine Jgd (fun hg => ?_)
        refine Jst (σ1 := uFI σ4 a0 25 ((cFI σ4 a0 25) + (1:Int32))) rfl rfl (fun H locs ls hH hS hl k => c_putI (F := 25) (ty := .int) (x := ((cFI σ4 a0 25) + (1:Int32))) hx hb hts hown hK hH hS hg (hts _ q251) (fun _ h => h) rfl rfl (by decide +kernel) rfl rfl rfl dX0_feed_49 k) (fun σ7 => ?_)
        refine Jrow (fun H locs ls hH hS hl k => lv_lload_n hx hb dX0_feed_52 rfl (lv_at hl 1 rfl) (k ls hl)) ?_
        refine Jrow (fun H locs ls hH hS hl k => lv_bipush (v := (8:Int32)) hx hb dX0_feed_53 (by decide) (k ls hl)) ?_
        refine Jrow (fun H locs ls hH hS hl k => lv_iload hx hb dX0_feed_55 (lv_at hl 2 rfl) (k ls hl)) ?_
        refine Jrow (fun H locs ls hH hS hl k => lv_imul hx hb dX0_feed_57 (k ls hl)) ?_
        refine Jrow (fun H locs ls hH hS hl k => lv_lshr hx hb dX0_feed_58 rfl (k ls hl)) ?_
        refine Jrow (fun H locs ls hH hS hl k => lv_l2i hx hb dX0_feed_59 rfl (k ls hl)) ?_
        refine Jrow (fun H locs ls hH hS hl k => lv_i2b hx hb dX0_feed_60 rfl (k ls hl)) ?_
        refine Jgd (fun hk1 => ?_)
        refine Jgd (fun hg => ?_)
        refine Jst (σ1 := uAI σ7 x6 (cFI σ4 a0 25).toNatClampNeg (vp_nar .byte (((p1 >>> (((8:Int32) * x3).toInt64 &&& 63)).toInt32).toInt8.toInt32))) rfl rfl (fun H locs ls hH hS hl k => c_bast hx hb hK hH hS hk1 hg dX0_feed_61 k) (fun σ8 => ?_)
        refine Jbd (fun x9 ex9 => ?_)
        refine Jrow (fun H locs ls hH hS hl k => lv_iinc (v := x9) (lv' := [(4, .int x9), (0, .ref a0), (1, .long p1)]) hx hb dX0_feed_62 hl (k := 2) rfl (by rw [ex9]; rfl) (by decide) rfl k) ?_
        clear ex9
        refine Jrow (fun H locs ls hH hS hl k => lv_goto (tgt := 32) hx hb dX0_feed_65 (by decide) (k ls hl)) ?_
        exact Jsub [1, 2, 0] rfl (hk5 x9 σ8)
    · refine Jrow (fun H locs ls hH hS hl k => lv_icmp_le (tgt := 27) hx hb dX0_feed_21 (by decide) (fun h => absurd h hc) (fun _ => (k ls hl))) ?_
      clear hc
      refine Jrow (fun H locs ls hH hS hl k => lv_bipush (v := (-4:Int32)) hx hb dX0_feed_24 (by decide) (k ls hl)) ?_
      exact Jiret hx hb hr hlocks dX0_feed_26

def fX0_told (a0 : Nat) (p1 : Int32) (p2 : Int32) (σ : CS) : Option (Int32 × CS) :=
 gd (kd σ a0 2) (
 cl2 (fX0_portAt a0 p1 σ) (fun (x2 : Option Nat) (σ1 : CS) =>
 jn (some ((-1:Int32), σ1)) (fun (k3 : Option (Int32 × CS)) =>
 oc x2 (
 k3) (fun (x4 : Nat) =>
 cl (fX0_in p2 (0:Int32) (9:Int32)) (fun (x5 : Int32) =>
 if x5 = (0:Int32) then
 k3
 else
 jn (fun (x6 : Int32) => some (x6, σ1)) (fun (k7 : Int32 → Option (Int32 × CS)) =>
 if (4:Int32) ≤ p2 then
 gd (hf (cK σ1 x4) 63) (
 cl (cFR σ1 x4 63) (fun (x8 : Nat) =>
 gd (kd σ1 x8 101) (
 gd (ib (p2 - (4:Int32)) (cLN σ1 x8)) (
 k7 (cAI σ1 x8 (p2 - (4:Int32)).toNatClampNeg)))))
 else
 gd (hf (cK σ1 x4) 62) (
 cl (cFR σ1 x4 62) (fun (x9 : Nat) =>
 gd (kd σ1 x9 101) (
 gd (ib p2 (cLN σ1 x9)) (
 k7 (cAI σ1 x9 p2.toNatClampNeg)))))))))))
theorem nX0_told {a0 : Nat} {p1 : Int32} {p2 : Int32} {σ : CS} : Mn σ (fX0_told a0 p1 p2 σ) := by
  unfold fX0_told
  refine Mgd ?_
  refine Mcl2 (nX0_portAt) (fun x2 σ1 => ?_)
  refine Mjn0 (fun  (X11 : Option (Int32 × CS)) => Mn σ1 X11) (?_) (fun k3 hk3 => ?_)
  · exact Mret
  · refine Moc ?_ (fun x4 => ?_)
    · exact hk3
    · refine Mcl (fun x5 => ?_)
      refine Mite ?_ ?_
      · exact hk3
      · refine Mjn1 (fun (x6 : Int32) (X10 : Option (Int32 × CS)) => Mn σ1 X10) (fun x6 => ?_) (fun k7 hk7 => ?_)
        · exact Mret
        · refine Mite ?_ ?_
          · refine Mgd ?_
            refine Mcl (fun x8 => ?_)
            refine Mgd ?_
            refine Mgd ?_
            exact hk7 (cAI σ1 x8 (p2 - (4:Int32)).toNatClampNeg)
          · refine Mgd ?_
            refine Mcl (fun x9 => ?_)
            refine Mgd ?_
            refine Mgd ?_
            exact hk7 (cAI σ1 x9 p2.toNatClampNeg)
set_option maxHeartbeats 4000000 in
set_option maxRecDepth 100000 in
theorem mX0_told (l : Launch) (E : CE) {a0 : Nat} {p1 : Int32} {p2 : Int32} {σ : CS} {r : Int32} {σz : CS} (hX : fX0_told a0 p1 p2 σ = some (r, σz)) : MetC l yX0_told (ws_ yX0_told cX0_told 4 (some .int)) 4 85 E σ [.ref a0, .int p1, .int p2] (some (.int r)) σz := by
  refine MetC.of hX (by decide) (Nat.le_of_ble_eq_true rfl) (nX0_told _ hX) ?_
  intro p e s m below meth c hx hb hr hml hts hown hlocks hnm hk hz0
  have hK := hk.1
  show J p l e (headSpec (ws_ yX0_told cX0_told 4 (some .int)) (rmC 4 85 σ σz)).room s m ([.ref a0, .int p1, .int p2] : List Value).toArray below meth c 4 E (cZ σ) (cS σ) (MQ below (cQ E (some (.int r)) σz) ([.ref a0, .int p1, .int p2] : List Value).toArray s (cZ σz - cZ σ) (cS σz - cS σ) (EA E)) (r, σz) (fX0_told a0 p1 p2 σ) σ 0 [(0, .ref a0), (1, .int p1), (2, .int p2)] []
  unfold fX0_told
  refine Jrow (fun H locs ls hH hS hl k => lv_aload_n hx hb dX0_told_0 rfl (lv_at hl 0 rfl) (k ls hl)) ?_
  refine Jrow (fun H locs ls hH hS hl k => lv_iload_n hx hb dX0_told_1 rfl (lv_at hl 1 rfl) (k ls hl)) ?_
  refine Jgd (fun hg => ?_)
  refine Jcl2 (fun x2 σ1 hf => ?_)
  refine Jcall (v := (some (va_rf x2))) (rest := []) (mX0_portAt l E hf).1 ⟨rfl, rfl⟩ (fun H locs ls hH hS hl hR => ⟨_, va_runV (C := RX0) (As := [.int p1]) ⟨hx, hb, hml, hown, hts⟩ (mX0_portAt l E hf).2 (cwV 1 hts (lw_V q601 q603 qs16 q88 q604) rfl rfl rfl (by decide +kernel) ⟨Nat.le_of_ble_eq_true rfl, Nat.le_of_ble_eq_true rfl⟩) (c_preV (ci := 1) hk hH hS hg rfl) rfl rfl hl.1 rfl (lv_room (Nat.le_of_ble_eq_true rfl)) dX0_told_2 hR⟩) ?_
  clear hf
  refine Jrow (fun H locs ls hH hS hl k => lv_astore_nF (lv' := [(3, va_rf x2), (0, .ref a0), (1, .int p1), (2, .int p2)]) hx hb dX0_told_5 rfl hl (by decide) rfl k) ?_
  refine Jrow (fun H locs ls hH hS hl k => lv_aload_nF hx hb dX0_told_6 rfl (lv_at hl 0 rfl) (k ls hl)) ?_
  refine Jjn0 (fun  X11 => J p l e (headSpec (ws_ yX0_told cX0_told 4 (some .int)) (rmC 4 85 σ σz)).room s m ([.ref a0, .int p1, .int p2] : List Value).toArray below meth c 4 E (cZ σ) (cS σ) (MQ below (cQ E (some (.int r)) σz) ([.ref a0, .int p1, .int p2] : List Value).toArray s (cZ σz - cZ σ) (cS σz - cS σ) (EA E)) (r, σz) X11 σ1 20 [] []) (?_) (fun k3 hk3 => ?_)
  · refine Jrow (fun H locs ls hH hS hl k => lv_iconst (v := (-1:Int32)) hx hb dX0_told_20 (by decide) (k ls hl)) ?_
    exact Jiret hx hb hr hlocks dX0_told_21
  · rcases x2 with _ | x4
    · refine Joc0 ?_
      refine Jrow (fun H locs ls hH hS hl k => lv_ifnullN (tgt := 20) hx hb dX0_told_7 (by decide) (k ls hl)) ?_
      exact Jsub [] rfl (hk3)
    · refine Joc1 ?_
      refine Jrow (fun H locs ls hH hS hl k => lv_ifnull hx hb dX0_told_7 (k ls hl)) ?_
      refine Jrow (fun H locs ls hH hS hl k => lv_iload_n hx hb dX0_told_10 rfl (lv_at hl 3 rfl) (k ls hl)) ?_
      refine Jrow (fun H locs ls hH hS hl k => lv_iconst (v := (0:Int32)) hx hb dX0_told_11 (by decide) (k ls hl)) ?_
      refine Jrow (fun H locs ls hH hS hl k => lv_bipush (v := (9:Int32)) hx hb dX0_told_12 (by decide) (k ls hl)) ?_
      refine Jcl (fun x5 hf => ?_)
      refine JcallS (v := .int x5) (rest := []) hz0 ⟨rfl, rfl⟩ sQi_o (fun H locs ls hl hR => va_runS (As := [.int p2, .int (0:Int32), .int (9:Int32)]) ⟨hx, hb, hml, hown, hts⟩ (mX0_in l hf) (va_cwS 3 hts (lw_S q319 q320 q88 q321) rfl rfl rfl (by decide +kernel) ⟨Nat.le_of_ble_eq_true rfl, Nat.le_of_ble_eq_true rfl⟩) s_pre rfl rfl hl.1 rfl (lv_room (Nat.le_of_ble_eq_true rfl)) dX0_told_14 hR) ?_
      clear hf
      refine Jite (fun hc => ?_) (fun hc => ?_)
      · refine Jrow (fun H locs ls hH hS hl k => lv_if_ne (tgt := 22) hx hb dX0_told_17 (by decide) (fun h => absurd hc h) (fun _ => (k ls hl))) ?_
        clear hc
        exact Jsub [] rfl (hk3)
      · refine Jrow (fun H locs ls hH hS hl k => lv_if_ne (tgt := 22) hx hb dX0_told_17 (by decide) (fun _ => (k ls hl)) (fun h => absurd h hc)) ?_
        clear hc
        refine Jrow (fun H locs ls hH hS hl k => lv_iload_n hx hb dX0_told_22 rfl (lv_at hl 3 rfl) (k ls hl)) ?_
        refine Jrow (fun H locs ls hH hS hl k => lv_iconst (v := (4:Int32)) hx hb dX0_told_23 (by decide) (k ls hl)) ?_
        refine Jjn1 (fun (x6 : Int32) X10 => J p l e (headSpec (ws_ yX0_told cX0_told 4 (some .int)) (rmC 4 85 σ σz)).room s m ([.ref a0, .int p1, .int p2] : List Value).toArray below meth c 4 E (cZ σ) (cS σ) (MQ below (cQ E (some (.int r)) σz) ([.ref a0, .int p1, .int p2] : List Value).toArray s (cZ σz - cZ σ) (cS σz - cS σ) (EA E)) (r, σz) X10 σ1 44 [] [.int x6]) (fun x6 => ?_) (fun k7 hk7 => ?_)
        · exact Jiret hx hb hr hlocks dX0_told_44
        · refine Jite (fun hc => ?_) (fun hc => ?_)
          · refine Jrow (fun H locs ls hH hS hl k => lv_icmp_ge (tgt := 36) hx hb dX0_told_24 (by decide) (fun _ => (k ls hl)) (fun h => absurd hc h)) ?_
            clear hc
            refine Jrow (fun H locs ls hH hS hl k => lv_aload_n hx hb dX0_told_36 rfl (lv_at hl 0 rfl) (k ls hl)) ?_
            refine Jgd (fun hg => ?_)
            refine Jcl (fun x8 hq => ?_)
            refine Jrow (fun H locs ls hH hS hl k => c_getN (F := 63) (v := .ref x8) hx hb hts hown hK hH hg (cN hk.2.2.1 17 rfl) (fun _ h => h) (fvR rfl hq) dX0_told_37 (k ls hl)) ?_
            clear hq
            refine Jrow (fun H locs ls hH hS hl k => lv_iload_n hx hb dX0_told_40 rfl (lv_at hl 3 rfl) (k ls hl)) ?_
            refine Jrow (fun H locs ls hH hS hl k => lv_iconst (v := (4:Int32)) hx hb dX0_told_41 (by decide) (k ls hl)) ?_
            refine Jrow (fun H locs ls hH hS hl k => lv_isub hx hb dX0_told_42 (k ls hl)) ?_
            refine Jgd (fun hk1 => ?_)
            refine Jgd (fun hg => ?_)
            refine Jrow (fun H locs ls hH hS hl k => c_iald hx hb hK hH hk1 hg dX0_told_43 (k ls hl)) ?_
            exact Jsub [] rfl (hk7 (cAI σ1 x8 (p2 - (4:Int32)).toNatClampNeg))
          · refine Jrow (fun H locs ls hH hS hl k => lv_icmp_ge (tgt := 36) hx hb dX0_told_24 (by decide) (fun h => absurd h hc) (fun _ => (k ls hl))) ?_
            clear hc
            refine Jrow (fun H locs ls hH hS hl k => lv_aload_n hx hb dX0_told_27 rfl (lv_at hl 0 rfl) (k ls hl)) ?_
            refine Jgd (fun hg => ?_)
            refine Jcl (fun x9 hq => ?_)
            refine Jrow (fun H locs ls hH hS hl k => c_getN (F := 62) (v := .ref x9) hx hb hts hown hK hH hg (cN hk.2.2.1 16 rfl) (fun _ h => h) (fvR rfl hq) dX0_told_28 (k ls hl)) ?_
            clear hq
            refine Jrow (fun H locs ls hH hS hl k => lv_iload_n hx hb dX0_told_31 rfl (lv_at hl 3 rfl) (k ls hl)) ?_
            refine Jgd (fun hk1 => ?_)
            refine Jgd (fun hg => ?_)
            refine Jrow (fun H locs ls hH hS hl k => c_iald hx hb hK hH hk1 hg dX0_told_32 (k ls hl)) ?_
            refine Jrow (fun H locs ls hH hS hl k => lv_goto (tgt := 44) hx hb dX0_told_33 (by decide) (k ls hl)) ?_
            exact Jsub [] rfl (hk7 (cAI σ1 x9 p2.toNatClampNeg))

def fX0_holds (a0 : Nat) (p1 : Int32) (p2 : Int32) (p3 : Int32) (p4 : Int32) (σ : CS) : Option (Int32 × CS) :=
 gd (kd σ a0 2) (
 cl2 (fX0_portAt a0 p1 σ) (fun (x2 : Option Nat) (σ1 : CS) =>
 oc x2 (
 some ((-1:Int32), σ1)) (fun (x3 : Nat) =>
 cl (fX0_in p2 (0:Int32) (99:Int32)) (fun (x4 : Int32) =>
 jn (fun (x5 : Int32) (σ6 : CS) => some (x5, σ6)) (fun (k7 : Int32 → CS → Option (Int32 × CS)) =>
 jn (k7 (-2:Int32) σ1) (fun (k8 : Option (Int32 × CS)) =>
 if x4 = (0:Int32) then
 k8
 else
 cl (fX0_in p3 (1:Int32) (20:Int32)) (fun (x9 : Int32) =>
 if x9 = (0:Int32) then
 k8
 else
 cl (fX0_isPlace p4) (fun (x10 : Int32) =>
 if x10 = (0:Int32) then
 k8
 else
 gd (kd σ1 x3 6) (
 cl2 (fX5_holdOf x3 p2 p3 p4 σ1) (fun (x12 : Int32) (σ11 : CS) =>
 k7 x12 σ11))))))))))
theorem nX0_holds {a0 : Nat} {p1 : Int32} {p2 : Int32} {p3 : Int32} {p4 : Int32} {σ : CS} : Mn σ (fX0_holds a0 p1 p2 p3 p4 σ) := by
  unfold fX0_holds
  refine Mgd ?_
  refine Mcl2 (nX0_portAt) (fun x2 σ1 => ?_)
  refine Moc ?_ (fun x3 => ?_)
  · exact Mret
  · refine Mcl (fun x4 => ?_)
    refine Mjn2 (fun (x5 : Int32) (σ6 : CS) (X14 : Option (Int32 × CS)) => Mn σ6 X14) (fun x5 σ6 => ?_) (fun k7 hk7 => ?_)
    · exact Mret
    · refine Mjn0 (fun  (X13 : Option (Int32 × CS)) => Mn σ1 X13) (?_) (fun k8 hk8 => ?_)
      · exact hk7 (-2:Int32) σ1
      · refine Mite ?_ ?_
        · exact hk8
        · refine Mcl (fun x9 => ?_)
          refine Mite ?_ ?_
          · exact hk8
          · refine Mcl (fun x10 => ?_)
            refine Mite ?_ ?_
            · exact hk8
            · refine Mgd ?_
              refine Mcl2 (nX5_holdOf) (fun x12 σ11 => ?_)
              exact hk7 x12 σ11
set_option maxHeartbeats 4000000 in
set_option maxRecDepth 100000 in
theorem mX0_holds (l : Launch) (E : CE) {a0 : Nat} {p1 : Int32} {p2 : Int32} {p3 : Int32} {p4 : Int32} {σ : CS} {r : Int32} {σz : CS} (hX : fX0_holds a0 p1 p2 p3 p4 σ = some (r, σz)) : MetC l yX0_holds (ws_ yX0_holds cX0_holds 6 (some .int)) 102 4055 E σ [.ref a0, .int p1, .int p2, .int p3, .int p4] (some (.int r)) σz := by
  refine MetC.of hX (by decide) (Nat.le_of_ble_eq_true rfl) (nX0_holds _ hX) ?_
  intro p e s m below meth c hx hb hr hml hts hown hlocks hnm hk hz0
  have hK := hk.1
  show J p l e (headSpec (ws_ yX0_holds cX0_holds 6 (some .int)) (rmC 102 4055 σ σz)).room s m ([.ref a0, .int p1, .int p2, .int p3, .int p4] : List Value).toArray below meth c 6 E (cZ σ) (cS σ) (MQ below (cQ E (some (.int r)) σz) ([.ref a0, .int p1, .int p2, .int p3, .int p4] : List Value).toArray s (cZ σz - cZ σ) (cS σz - cS σ) (EA E)) (r, σz) (fX0_holds a0 p1 p2 p3 p4 σ) σ 0 [(0, .ref a0), (1, .int p1), (2, .int p2), (3, .int p3), (4, .int p4)] []
  unfold fX0_holds
  refine Jrow (fun H locs ls hH hS hl k => lv_aload_n hx hb dX0_holds_0 rfl (lv_at hl 0 rfl) (k ls hl)) ?_
  refine Jrow (fun H locs ls hH hS hl k => lv_iload_n hx hb dX0_holds_1 rfl (lv_at hl 1 rfl) (k ls hl)) ?_
  refine Jgd (fun hg => ?_)
  refine Jcl2 (fun x2 σ1 hf => ?_)
  refine Jcall (v := (some (va_rf x2))) (rest := []) (mX0_portAt l E hf).1 ⟨rfl, rfl⟩ (fun H locs ls hH hS hl hR => ⟨_, va_runV (C := RX0) (As := [.int p1]) ⟨hx, hb, hml, hown, hts⟩ (mX0_portAt l E hf).2 (cwV 1 hts (lw_V q601 q603 qs16 q88 q604) rfl rfl rfl (by decide +kernel) ⟨Nat.le_of_ble_eq_true rfl, Nat.le_of_ble_eq_true rfl⟩) (c_preV (ci := 1) hk hH hS hg rfl) rfl rfl hl.1 rfl (lv_room (Nat.le_of_ble_eq_true rfl)) dX0_holds_2 hR⟩) ?_
  clear hf
  refine Jrow (fun H locs ls hH hS hl k => lv_astoreF (lv' := [(5, va_rf x2), (0, .ref a0), (1, .int p1), (2, .int p2), (3, .int p3), (4, .int p4)]) hx hb dX0_holds_5 hl (by decide) rfl k) ?_
  refine Jrow (fun H locs ls hH hS hl k => lv_aloadF hx hb dX0_holds_7 (lv_at hl 0 rfl) (k ls hl)) ?_
  rcases x2 with _ | x3
  · refine Joc0 ?_
    refine Jrow (fun H locs ls hH hS hl k => lv_ifnonnullN hx hb dX0_holds_9 (k ls hl)) ?_
    refine Jrow (fun H locs ls hH hS hl k => lv_iconst (v := (-1:Int32)) hx hb dX0_holds_12 (by decide) (k ls hl)) ?_
    exact Jiret hx hb hr hlocks dX0_holds_13
  · refine Joc1 ?_
    refine Jrow (fun H locs ls hH hS hl k => lv_ifnonnull (tgt := 14) hx hb dX0_holds_9 (by decide) (k ls hl)) ?_
    refine Jrow (fun H locs ls hH hS hl k => lv_iload_n hx hb dX0_holds_14 rfl (lv_at hl 3 rfl) (k ls hl)) ?_
    refine Jrow (fun H locs ls hH hS hl k => lv_iconst (v := (0:Int32)) hx hb dX0_holds_15 (by decide) (k ls hl)) ?_
    refine Jrow (fun H locs ls hH hS hl k => lv_bipush (v := (99:Int32)) hx hb dX0_holds_16 (by decide) (k ls hl)) ?_
    refine Jcl (fun x4 hf => ?_)
    refine JcallS (v := .int x4) (rest := []) hz0 ⟨rfl, rfl⟩ sQi_o (fun H locs ls hl hR => va_runS (As := [.int p2, .int (0:Int32), .int (99:Int32)]) ⟨hx, hb, hml, hown, hts⟩ (mX0_in l hf) (va_cwS 3 hts (lw_S q319 q320 q88 q321) rfl rfl rfl (by decide +kernel) ⟨Nat.le_of_ble_eq_true rfl, Nat.le_of_ble_eq_true rfl⟩) s_pre rfl rfl hl.1 rfl (lv_room (Nat.le_of_ble_eq_true rfl)) dX0_holds_18 hR) ?_
    clear hf
    refine Jjn2 (fun (x5 : Int32) (σ6 : CS) X14 => J p l e (headSpec (ws_ yX0_holds cX0_holds 6 (some .int)) (rmC 102 4055 σ σz)).room s m ([.ref a0, .int p1, .int p2, .int p3, .int p4] : List Value).toArray below meth c 6 E (cZ σ) (cS σ) (MQ below (cQ E (some (.int r)) σz) ([.ref a0, .int p1, .int p2, .int p3, .int p4] : List Value).toArray s (cZ σz - cZ σ) (cS σz - cS σ) (EA E)) (r, σz) X14 σ6 56 [] [.int x5]) (fun x5 σ6 => ?_) (fun k7 hk7 => ?_)
    · exact Jiret hx hb hr hlocks dX0_holds_56
    · refine Jjn0 (fun  X13 => J p l e (headSpec (ws_ yX0_holds cX0_holds 6 (some .int)) (rmC 102 4055 σ σz)).room s m ([.ref a0, .int p1, .int p2, .int p3, .int p4] : List Value).toArray below meth c 6 E (cZ σ) (cS σ) (MQ below (cQ E (some (.int r)) σz) ([.ref a0, .int p1, .int p2, .int p3, .int p4] : List Value).toArray s (cZ σz - cZ σ) (cS σz - cS σ) (EA E)) (r, σz) X13 σ1 54 [] []) (?_) (fun k8 hk8 => ?_)
      · refine Jrow (fun H locs ls hH hS hl k => lv_bipush (v := (-2:Int32)) hx hb dX0_holds_54 (by decide) (k ls hl)) ?_
        exact Jsub [] rfl (hk7 (-2:Int32) σ1)
      · refine Jite (fun hc => ?_) (fun hc => ?_)
        · refine Jrow (fun H locs ls hH hS hl k => lv_if_eq (tgt := 54) hx hb dX0_holds_21 (by decide) (fun _ => (k ls hl)) (fun h => absurd hc h)) ?_
          clear hc
          exact Jsub [] rfl (hk8)
        · refine Jrow (fun H locs ls hH hS hl k => lv_if_eq (tgt := 54) hx hb dX0_holds_21 (by decide) (fun h => absurd h hc) (fun _ => (k ls hl))) ?_
          clear hc
          refine Jrow (fun H locs ls hH hS hl k => lv_iload_n hx hb dX0_holds_24 rfl (lv_at hl 4 rfl) (k ls hl)) ?_
          refine Jrow (fun H locs ls hH hS hl k => lv_iconst (v := (1:Int32)) hx hb dX0_holds_25 (by decide) (k ls hl)) ?_
          refine Jrow (fun H locs ls hH hS hl k => lv_bipush (v := (20:Int32)) hx hb dX0_holds_26 (by decide) (k ls hl)) ?_
          refine Jcl (fun x9 hf => ?_)
          refine JcallS (v := .int x9) (rest := []) hz0 ⟨rfl, rfl⟩ sQi_o (fun H locs ls hl hR => va_runS (As := [.int p3, .int (1:Int32), .int (20:Int32)]) ⟨hx, hb, hml, hown, hts⟩ (mX0_in l hf) (va_cwS 3 hts (lw_S q319 q320 q88 q321) rfl rfl rfl (by decide +kernel) ⟨Nat.le_of_ble_eq_true rfl, Nat.le_of_ble_eq_true rfl⟩) s_pre rfl rfl hl.1 rfl (lv_room (Nat.le_of_ble_eq_true rfl)) dX0_holds_28 hR) ?_
          clear hf
          refine Jite (fun hc => ?_) (fun hc => ?_)
          · refine Jrow (fun H locs ls hH hS hl k => lv_if_eq (tgt := 54) hx hb dX0_holds_31 (by decide) (fun _ => (k ls hl)) (fun h => absurd hc h)) ?_
            clear hc
            exact Jsub [] rfl (hk8)
          · refine Jrow (fun H locs ls hH hS hl k => lv_if_eq (tgt := 54) hx hb dX0_holds_31 (by decide) (fun h => absurd h hc) (fun _ => (k ls hl))) ?_
            clear hc
            refine Jrow (fun H locs ls hH hS hl k => lv_iload hx hb dX0_holds_34 (lv_at hl 5 rfl) (k ls hl)) ?_
            refine Jcl (fun x10 hf => ?_)
            refine JcallS (v := .int x10) (rest := []) hz0 ⟨rfl, rfl⟩ sQi_o (fun H locs ls hl hR => va_runS (As := [.int p4]) ⟨hx, hb, hml, hown, hts⟩ (mX0_isPlace l hf) (va_cwS 1 hts (lw_S q624 q625 q88 q626) rfl rfl rfl (by decide +kernel) ⟨Nat.le_of_ble_eq_true rfl, Nat.le_of_ble_eq_true rfl⟩) s_pre rfl rfl hl.1 rfl (lv_room (Nat.le_of_ble_eq_true rfl)) dX0_holds_36 hR) ?_
            clear hf
            refine Jite (fun hc => ?_) (fun hc => ?_)
            · refine Jrow (fun H locs ls hH hS hl k => lv_if_eq (tgt := 54) hx hb dX0_holds_39 (by decide) (fun _ => (k ls hl)) (fun h => absurd hc h)) ?_
              clear hc
              exact Jsub [] rfl (hk8)
            · refine Jrow (fun H locs ls hH hS hl k => lv_if_eq (tgt := 54) hx hb dX0_holds_39 (by decide) (fun h => absurd h hc) (fun _ => (k ls hl))) ?_
              clear hc
              refine Jrow (fun H locs ls hH hS hl k => lv_aload hx hb dX0_holds_42 (lv_at hl 0 rfl) (k ls hl)) ?_
              refine Jrow (fun H locs ls hH hS hl k => lv_iload_n hx hb dX0_holds_44 rfl (lv_at hl 3 rfl) (k ls hl)) ?_
              refine Jrow (fun H locs ls hH hS hl k => lv_iload_n hx hb dX0_holds_45 rfl (lv_at hl 4 rfl) (k ls hl)) ?_
              refine Jrow (fun H locs ls hH hS hl k => lv_iload hx hb dX0_holds_46 (lv_at hl 5 rfl) (k ls hl)) ?_
              refine Jgd (fun hg => ?_)
              refine Jcl2 (fun x12 σ11 hf => ?_)
              refine Jcall (v := (some (.int x12))) (rest := []) (mX5_holdOf l E hf).1 ⟨rfl, rfl⟩ (fun H locs ls hH hS hl hR => ⟨_, va_runV (C := RX5) (As := [.int p2, .int p3, .int p4]) ⟨hx, hb, hml, hown, hts⟩ (mX5_holdOf l E hf).2 (cwV 3 hts (lw_V q627 q628 q629 q96 q630) rfl rfl rfl (by decide +kernel) ⟨Nat.le_of_ble_eq_true rfl, Nat.le_of_ble_eq_true rfl⟩) (c_preV (ci := 5) hk hH hS hg rfl) rfl rfl hl.1 rfl (lv_room (Nat.le_of_ble_eq_true rfl)) dX0_holds_48 hR⟩) ?_
              clear hf
              refine Jrow (fun H locs ls hH hS hl k => lv_goto (tgt := 56) hx hb dX0_holds_51 (by decide) (k ls hl)) ?_
              exact Jsub [] rfl (hk7 x12 σ11)

def fX0_ship (T : Nat × Nat) (a0 : Nat) (p1 : Int32) (p2 : Int32) (p3 : Int32) (σ : CS) : Option (Int32 × CS) :=
 gd (kd σ a0 2) (
 cl2 (fX0_portAt a0 p1 σ) (fun (x2 : Option Nat) (σ1 : CS) =>
 jn (some ((-1:Int32), σ1)) (fun (k3 : Option (Int32 × CS)) =>
 oc x2 (
 k3) (fun (x4 : Nat) =>
 cl (fX0_isPlace p2) (fun (x5 : Int32) =>
 if x5 = (0:Int32) then
 k3
 else
 cl (fX0_in p3 (1:Int32) (20:Int32)) (fun (x6 : Int32) =>
 if x6 = (0:Int32) then
 some ((-2:Int32), σ1)
 else
 gd (hf (cK σ1 a0) 28) (
 cl (cFR σ1 a0 28) (fun (x7 : Nat) =>
 gd (kd σ1 x7 20) (
 cl2 (fJ2_size x7 σ1) (fun (x9 : Int32) (σ8 : CS) =>
 if x9 = (12:Int32) then
 some ((-4:Int32), σ8)
 else
 gd (hf (cK σ8 a0) 28) (
 cl (cFR σ8 a0 28) (fun (x10 : Nat) =>
 bd (nO σ8 11 3) (fun (σ11 : CS) =>
 cl2 (fX10_init (cZ σ8) x4 p2 p3 σ11) (fun (_ : Unit) (σ12 : CS) =>
 gd (kd σ12 x10 20) (
 cl2 (fJ2_add T x10 (cZ σ8) σ12) (fun (x15 : Int32) (σ14 : CS) =>
 gd (hf (cK σ14 a0) 28) (
 cl (cFR σ14 a0 28) (fun (x16 : Nat) =>
 gd (kd σ14 x16 20) (
 cl2 (fJ2_size x16 σ14) (fun (x18 : Int32) (σ17 : CS) =>
 some (x18 - (1:Int32), σ17)))))))))))))))))))))
theorem nX0_ship {T : Nat × Nat} {a0 : Nat} {p1 : Int32} {p2 : Int32} {p3 : Int32} {σ : CS} : Mn σ (fX0_ship T a0 p1 p2 p3 σ) := by
  unfold fX0_ship
  refine Mgd ?_
  refine Mcl2 (nX0_portAt) (fun x2 σ1 => ?_)
  refine Mjn0 (fun  (X19 : Option (Int32 × CS)) => Mn σ1 X19) (?_) (fun k3 hk3 => ?_)
  · exact Mret
  · refine Moc ?_ (fun x4 => ?_)
    · exact hk3
    · refine Mcl (fun x5 => ?_)
      refine Mite ?_ ?_
      · exact hk3
      · refine Mcl (fun x6 => ?_)
        refine Mite ?_ ?_
        · exact Mret
        · refine Mgd ?_
          refine Mcl (fun x7 => ?_)
          refine Mgd ?_
          refine Mcl2 (nJ2_size) (fun x9 σ8 => ?_)
          refine Mite ?_ ?_
          · exact Mret
          · refine Mgd ?_
            refine Mcl (fun x10 => ?_)
            refine Mst (Nat.le_succ _) (Nat.le_add_right _ _) (fun σ11 => ?_)
            refine Mcl2 (nX10_init) (fun _ σ12 => ?_)
            refine Mgd ?_
            refine Mcl2 (nJ2_add) (fun x15 σ14 => ?_)
            refine Mgd ?_
            refine Mcl (fun x16 => ?_)
            refine Mgd ?_
            refine Mcl2 (nJ2_size) (fun x18 σ17 => ?_)
            exact Mret
set_option maxHeartbeats 4000000 in
set_option maxRecDepth 100000 in
theorem mX0_ship (l : Launch) (E : CE) {a0 : Nat} {p1 : Int32} {p2 : Int32} {p3 : Int32} {σ : CS} {r : Int32} {σz : CS} (hX : fX0_ship E.2.2.2 a0 p1 p2 p3 σ = some (r, σz)) : MetC l yX0_ship (ws_ yX0_ship cX0_ship 5 (some .int)) 7 191 E σ [.ref a0, .int p1, .int p2, .int p3] (some (.int r)) σz := by
  refine MetC.of hX (by decide) (Nat.le_of_ble_eq_true rfl) (nX0_ship _ hX) ?_
  intro p e s m below meth c hx hb hr hml hts hown hlocks hnm hk hz0
  have hK := hk.1
  show J p l e (headSpec (ws_ yX0_ship cX0_ship 5 (some .int)) (rmC 7 191 σ σz)).room s m ([.ref a0, .int p1, .int p2, .int p3] : List Value).toArray below meth c 5 E (cZ σ) (cS σ) (MQ below (cQ E (some (.int r)) σz) ([.ref a0, .int p1, .int p2, .int p3] : List Value).toArray s (cZ σz - cZ σ) (cS σz - cS σ) (EA E)) (r, σz) (fX0_ship E.2.2.2 a0 p1 p2 p3 σ) σ 0 [(0, .ref a0), (1, .int p1), (2, .int p2), (3, .int p3)] []
  unfold fX0_ship
  refine Jrow (fun H locs ls hH hS hl k => lv_aload_n hx hb dX0_ship_0 rfl (lv_at hl 0 rfl) (k ls hl)) ?_
  refine Jrow (fun H locs ls hH hS hl k => lv_iload_n hx hb dX0_ship_1 rfl (lv_at hl 1 rfl) (k ls hl)) ?_
  refine Jgd (fun hg => ?_)
  refine Jcl2 (fun x2 σ1 hf => ?_)
  refine Jcall (v := (some (va_rf x2))) (rest := []) (mX0_portAt l E hf).1 ⟨rfl, rfl⟩ (fun H locs ls hH hS hl hR => ⟨_, va_runV (C := RX0) (As := [.int p1]) ⟨hx, hb, hml, hown, hts⟩ (mX0_portAt l E hf).2 (cwV 1 hts (lw_V q601 q603 qs16 q88 q604) rfl rfl rfl (by decide +kernel) ⟨Nat.le_of_ble_eq_true rfl, Nat.le_of_ble_eq_true rfl⟩) (c_preV (ci := 1) hk hH hS hg rfl) rfl rfl hl.1 rfl (lv_room (Nat.le_of_ble_eq_true rfl)) dX0_ship_2 hR⟩) ?_
  clear hf
  refine Jrow (fun H locs ls hH hS hl k => lv_astoreF (lv' := [(4, va_rf x2), (0, .ref a0), (1, .int p1), (2, .int p2), (3, .int p3)]) hx hb dX0_ship_5 hl (by decide) rfl k) ?_
  refine Jrow (fun H locs ls hH hS hl k => lv_aloadF hx hb dX0_ship_7 (lv_at hl 0 rfl) (k ls hl)) ?_
  refine Jjn0 (fun  X19 => J p l e (headSpec (ws_ yX0_ship cX0_ship 5 (some .int)) (rmC 7 191 σ σz)).room s m ([.ref a0, .int p1, .int p2, .int p3] : List Value).toArray below meth c 5 E (cZ σ) (cS σ) (MQ below (cQ E (some (.int r)) σz) ([.ref a0, .int p1, .int p2, .int p3] : List Value).toArray s (cZ σz - cZ σ) (cS σz - cS σ) (EA E)) (r, σz) X19 σ1 19 [] []) (?_) (fun k3 hk3 => ?_)
  · refine Jrow (fun H locs ls hH hS hl k => lv_iconst (v := (-1:Int32)) hx hb dX0_ship_19 (by decide) (k ls hl)) ?_
    exact Jiret hx hb hr hlocks dX0_ship_20
  · rcases x2 with _ | x4
    · refine Joc0 ?_
      refine Jrow (fun H locs ls hH hS hl k => lv_ifnullN (tgt := 19) hx hb dX0_ship_9 (by decide) (k ls hl)) ?_
      exact Jsub [] rfl (hk3)
    · refine Joc1 ?_
      refine Jrow (fun H locs ls hH hS hl k => lv_ifnull hx hb dX0_ship_9 (k ls hl)) ?_
      refine Jrow (fun H locs ls hH hS hl k => lv_iload_n hx hb dX0_ship_12 rfl (lv_at hl 3 rfl) (k ls hl)) ?_
      refine Jcl (fun x5 hf => ?_)
      refine JcallS (v := .int x5) (rest := []) hz0 ⟨rfl, rfl⟩ sQi_o (fun H locs ls hl hR => va_runS (As := [.int p2]) ⟨hx, hb, hml, hown, hts⟩ (mX0_isPlace l hf) (va_cwS 1 hts (lw_S q624 q625 q88 q626) rfl rfl rfl (by decide +kernel) ⟨Nat.le_of_ble_eq_true rfl, Nat.le_of_ble_eq_true rfl⟩) s_pre rfl rfl hl.1 rfl (lv_room (Nat.le_of_ble_eq_true rfl)) dX0_ship_13 hR) ?_
      clear hf
      refine Jite (fun hc => ?_) (fun hc => ?_)
      · refine Jrow (fun H locs ls hH hS hl k => lv_if_ne (tgt := 21) hx hb dX0_ship_16 (by decide) (fun h => absurd hc h) (fun _ => (k ls hl))) ?_
        clear hc
        exact Jsub [] rfl (hk3)
      · refine Jrow (fun H locs ls hH hS hl k => lv_if_ne (tgt := 21) hx hb dX0_ship_16 (by decide) (fun _ => (k ls hl)) (fun h => absurd h hc)) ?_
        clear hc
        refine Jrow (fun H locs ls hH hS hl k => lv_iload_n hx hb dX0_ship_21 rfl (lv_at hl 4 rfl) (k ls hl)) ?_
        refine Jrow (fun H locs ls hH hS hl k => lv_iconst (v := (1:Int32)) hx hb dX0_ship_22 (by decide) (k ls hl)) ?_
        refine Jrow (fun H locs ls hH hS hl k => lv_bipush (v := (20:Int32)) hx hb dX0_ship_23 (by decide) (k ls hl)) ?_
        refine Jcl (fun x6 hf => ?_)
        refine JcallS (v := .int x6) (rest := []) hz0 ⟨rfl, rfl⟩ sQi_o (fun H locs ls hl hR => va_runS (As := [.int p3, .int (1:Int32), .int (20:Int32)]) ⟨hx, hb, hml, hown, hts⟩ (mX0_in l hf) (va_cwS 3 hts (lw_S q319 q320 q88 q321) rfl rfl rfl (by decide +kernel) ⟨Nat.le_of_ble_eq_true rfl, Nat.le_of_ble_eq_true rfl⟩) s_pre rfl rfl hl.1 rfl (lv_room (Nat.le_of_ble_eq_true rfl)) dX0_ship_25 hR) ?_
        clear hf
        refine Jite (fun hc => ?_) (fun hc => ?_)
        · refine Jrow (fun H locs ls hH hS hl k => lv_if_ne (tgt := 34) hx hb dX0_ship_28 (by decide) (fun h => absurd hc h) (fun _ => (k ls hl))) ?_
          clear hc
          refine Jrow (fun H locs ls hH hS hl k => lv_bipush (v := (-2:Int32)) hx hb dX0_ship_31 (by decide) (k ls hl)) ?_
          exact Jiret hx hb hr hlocks dX0_ship_33
        · refine Jrow (fun H locs ls hH hS hl k => lv_if_ne (tgt := 34) hx hb dX0_ship_28 (by decide) (fun _ => (k ls hl)) (fun h => absurd h hc)) ?_
          clear hc
          refine Jrow (fun H locs ls hH hS hl k => lv_aload_n hx hb dX0_ship_34 rfl (lv_at hl 1 rfl) (k ls hl)) ?_
          refine Jgd (fun hg => ?_)
          refine Jcl (fun x7 hq => ?_)
          refine Jrow (fun H locs ls hH hS hl k => c_get (F := 28) (v := .ref x7) hx hb hts hown hK hH hg (hts _ q257) (fun _ h => h) (fvR rfl hq) dX0_ship_35 (k ls hl)) ?_
          clear hq
          refine Jgd (fun hg => ?_)
          refine Jcl2 (fun x9 σ8 hf => ?_)
          refine Jcall (v := (some (.int x9))) (rest := []) (mJ2_size l E hf).1 ⟨rfl, rfl⟩ (fun H locs ls hH hS hl hR => ⟨_, va_runV (C := RJ2) (As := []) ⟨hx, hb, hml, hown, hts⟩ (mJ2_size l E hf).2 (cwV 0 hts (lw_V q327 q328 q329 q91 q330) rfl rfl rfl (by decide +kernel) ⟨Nat.le_of_ble_eq_true rfl, Nat.le_of_ble_eq_true rfl⟩) (c_preV (ci := 19) hk hH hS hg rfl) rfl rfl hl.1 rfl (lv_room (Nat.le_of_ble_eq_true rfl)) dX0_ship_38 hR⟩) ?_
          clear hf
          refine Jrow (fun H locs ls hH hS hl k => lv_bipush (v := (12:Int32)) hx hb dX0_ship_41 (by decide) (k ls hl)) ?_
          refine Jite (fun hc => ?_) (fun hc => ?_)
          · refine Jrow (fun H locs ls hH hS hl k => lv_icmp_ne (tgt := 49) hx hb dX0_ship_43 (by decide) (fun h => absurd hc h) (fun _ => (k ls hl))) ?_
            clear hc
            refine Jrow (fun H locs ls hH hS hl k => lv_bipush (v := (-4:Int32)) hx hb dX0_ship_46 (by decide) (k ls hl)) ?_
            exact Jiret hx hb hr hlocks dX0_ship_48
          · refine Jrow (fun H locs ls hH hS hl k => lv_icmp_ne (tgt := 49) hx hb dX0_ship_43 (by decide) (fun _ => (k ls hl)) (fun h => absurd h hc)) ?_
            clear hc
            refine Jrow (fun H locs ls hH hS hl k => lv_aload_n hx hb dX0_ship_49 rfl (lv_at hl 1 rfl) (k ls hl)) ?_
            refine Jgd (fun hg => ?_)
            refine Jcl (fun x10 hq => ?_)
            refine Jrow (fun H locs ls hH hS hl k => c_get (F := 28) (v := .ref x10) hx hb hts hown hK hH hg (hts _ q257) (fun _ h => h) (fvR rfl hq) dX0_ship_50 (k ls hl)) ?_
            clear hq
            refine Jnew (σ1 := nO σ8 11 3) (n := 3) rfl rfl ⟨rfl, rfl⟩ (fun H locs ls hH hS hl h1 h2 k => c_new (ci := 10) hx hb hts hown hK hH hS hk.2.1 in_X10 tyX10 tyX10_ok (by decide +kernel) (hts _ q664) (hts _ q665) (hts _ q112) rfl h1 h2 dX0_ship_53 k) (fun σ11 eσ11 => ?_)
            clear eσ11
            refine Jrow (fun H locs ls hH hS hl k => lv_dup hx hb dX0_ship_56 rfl (k ls hl)) ?_
            refine Jrow (fun H locs ls hH hS hl k => lv_aload hx hb dX0_ship_57 (lv_at hl 0 rfl) (k ls hl)) ?_
            refine Jrow (fun H locs ls hH hS hl k => lv_iload_n hx hb dX0_ship_59 rfl (lv_at hl 3 rfl) (k ls hl)) ?_
            refine Jrow (fun H locs ls hH hS hl k => lv_iload_n hx hb dX0_ship_60 rfl (lv_at hl 4 rfl) (k ls hl)) ?_
            refine Jcl2 (fun _ σ12 hf => ?_)
            refine Jcall (v := none) (rest := [.ref (cZ σ8), .ref x10]) (mX10_init l E hf).1 ⟨rfl, rfl⟩ (fun H locs ls hH hS hl hR => ⟨_, va_runI (As := [.ref x4, .int p2, .int p3]) ⟨hx, hb, hml, hown, hts⟩ (mX10_init l E hf).2 (cwI 3 hts (lw_meth q668) rfl rfl rfl (hts _ q112) (hts _ q666) (hts _ q667) rfl (by decide +kernel) ⟨Nat.le_of_ble_eq_true rfl, Nat.le_of_ble_eq_true rfl⟩) (c_preS hk hH hS) rfl rfl hl.1 rfl (lv_room (Nat.le_of_ble_eq_true rfl)) dX0_ship_61 hR⟩) ?_
            clear hf
            refine Jgd (fun hg => ?_)
            refine Jcl2 (fun x15 σ14 hf => ?_)
            refine Jcall (v := (some (.int x15))) (rest := []) (mJ2_add l E hf).1 ⟨rfl, rfl⟩ (fun H locs ls hH hS hl hR => ⟨_, va_runV (C := RJ2) (As := [.ref (cZ σ8)]) ⟨hx, hb, hml, hown, hts⟩ (mJ2_add l E hf).2 (cwV 1 hts (lw_V q596 q526 q527 q91 q528) rfl rfl rfl (by decide +kernel) ⟨Nat.le_of_ble_eq_true rfl, Nat.le_of_ble_eq_true rfl⟩) (c_preV (ci := 19) hk hH hS hg rfl) rfl rfl hl.1 rfl (lv_room (Nat.le_of_ble_eq_true rfl)) dX0_ship_64 hR⟩) ?_
            clear hf
            refine Jrow (fun H locs ls hH hS hl k => lv_pop hx hb dX0_ship_67 rfl (k ls hl)) ?_
            refine Jrow (fun H locs ls hH hS hl k => lv_aload_n hx hb dX0_ship_68 rfl (lv_at hl 1 rfl) (k ls hl)) ?_
            refine Jgd (fun hg => ?_)
            refine Jcl (fun x16 hq => ?_)
            refine Jrow (fun H locs ls hH hS hl k => c_get (F := 28) (v := .ref x16) hx hb hts hown hK hH hg (hts _ q257) (fun _ h => h) (fvR rfl hq) dX0_ship_69 (k ls hl)) ?_
            clear hq
            refine Jgd (fun hg => ?_)
            refine Jcl2 (fun x18 σ17 hf => ?_)
            refine Jcall (v := (some (.int x18))) (rest := []) (mJ2_size l E hf).1 ⟨rfl, rfl⟩ (fun H locs ls hH hS hl hR => ⟨_, va_runV (C := RJ2) (As := []) ⟨hx, hb, hml, hown, hts⟩ (mJ2_size l E hf).2 (cwV 0 hts (lw_V q327 q328 q329 q91 q330) rfl rfl rfl (by decide +kernel) ⟨Nat.le_of_ble_eq_true rfl, Nat.le_of_ble_eq_true rfl⟩) (c_preV (ci := 19) hk hH hS hg rfl) rfl rfl hl.1 rfl (lv_room (Nat.le_of_ble_eq_true rfl)) dX0_ship_72 hR⟩) ?_
            clear hf
            refine Jrow (fun H locs ls hH hS hl k => lv_iconst (v := (1:Int32)) hx hb dX0_ship_75 (by decide) (k ls hl)) ?_
            refine Jrow (fun H locs ls hH hS hl k => lv_isub hx hb dX0_ship_76 (k ls hl)) ?_
            exact Jiret hx hb hr hlocks dX0_ship_77

def fX0_says (a0 : Nat) (p1 : Int32) (p2 : Int32) (σ : CS) : Option (Int32 × CS) :=
 gd (kd σ a0 2) (
 cl2 (fX0_shipAt a0 p1 σ) (fun (x2 : Option Nat) (σ1 : CS) =>
 jn (some ((-1:Int32), σ1)) (fun (k3 : Option (Int32 × CS)) =>
 oc x2 (
 k3) (fun (x4 : Nat) =>
 cl (fX0_isPlace p2) (fun (x5 : Int32) =>
 if x5 = (0:Int32) then
 k3
 else
 gd (hf (cK σ1 x4) 83) (
 cl (cFR σ1 x4 83) (fun (x6 : Nat) =>
 gd (hf (cK σ1 x6) 52) (
 bd (cFI σ1 x6 52) (fun (x7 : Int32) =>
 gd (kd σ1 x4 11) (
 cl2 (fX10_sayAnew x4 p2 (0:Int32) σ1) (fun (_ : Unit) (σ8 : CS) =>
 some (x7, σ8))))))))))))
theorem nX0_says {a0 : Nat} {p1 : Int32} {p2 : Int32} {σ : CS} : Mn σ (fX0_says a0 p1 p2 σ) := by
  unfold fX0_says
  refine Mgd ?_
  refine Mcl2 (nX0_shipAt) (fun x2 σ1 => ?_)
  refine Mjn0 (fun  (X10 : Option (Int32 × CS)) => Mn σ1 X10) (?_) (fun k3 hk3 => ?_)
  · exact Mret
  · refine Moc ?_ (fun x4 => ?_)
    · exact hk3
    · refine Mcl (fun x5 => ?_)
      refine Mite ?_ ?_
      · exact hk3
      · refine Mgd ?_
        refine Mcl (fun x6 => ?_)
        refine Mgd ?_
        refine Mbd (fun x7 => ?_)
        refine Mgd ?_
        refine Mcl2 (nX10_sayAnew) (fun _ σ8 => ?_)
        exact Mret
set_option maxHeartbeats 4000000 in
set_option maxRecDepth 100000 in
theorem mX0_says (l : Launch) (E : CE) {a0 : Nat} {p1 : Int32} {p2 : Int32} {σ : CS} {r : Int32} {σz : CS} (hX : fX0_says a0 p1 p2 σ = some (r, σz)) : MetC l yX0_says (ws_ yX0_says cX0_says 5 (some .int)) 4 93 E σ [.ref a0, .int p1, .int p2] (some (.int r)) σz := by
  refine MetC.of hX (by decide) (Nat.le_of_ble_eq_true rfl) (nX0_says _ hX) ?_
  intro p e s m below meth c hx hb hr hml hts hown hlocks hnm hk hz0
  have hK := hk.1
  show J p l e (headSpec (ws_ yX0_says cX0_says 5 (some .int)) (rmC 4 93 σ σz)).room s m ([.ref a0, .int p1, .int p2] : List Value).toArray below meth c 5 E (cZ σ) (cS σ) (MQ below (cQ E (some (.int r)) σz) ([.ref a0, .int p1, .int p2] : List Value).toArray s (cZ σz - cZ σ) (cS σz - cS σ) (EA E)) (r, σz) (fX0_says a0 p1 p2 σ) σ 0 [(0, .ref a0), (1, .int p1), (2, .int p2)] []
  unfold fX0_says
  refine Jrow (fun H locs ls hH hS hl k => lv_aload_n hx hb dX0_says_0 rfl (lv_at hl 0 rfl) (k ls hl)) ?_
  refine Jrow (fun H locs ls hH hS hl k => lv_iload_n hx hb dX0_says_1 rfl (lv_at hl 1 rfl) (k ls hl)) ?_
  refine Jgd (fun hg => ?_)
  refine Jcl2 (fun x2 σ1 hf => ?_)
  refine Jcall (v := (some (va_rf x2))) (rest := []) (mX0_shipAt l E hf).1 ⟨rfl, rfl⟩ (fun H locs ls hH hS hl hR => ⟨_, va_runV (C := RX0) (As := [.int p1]) ⟨hx, hb, hml, hown, hts⟩ (mX0_shipAt l E hf).2 (cwV 1 hts (lw_V q703 q705 qs18 q88 q706) rfl rfl rfl (by decide +kernel) ⟨Nat.le_of_ble_eq_true rfl, Nat.le_of_ble_eq_true rfl⟩) (c_preV (ci := 1) hk hH hS hg rfl) rfl rfl hl.1 rfl (lv_room (Nat.le_of_ble_eq_true rfl)) dX0_says_2 hR⟩) ?_
  clear hf
  refine Jrow (fun H locs ls hH hS hl k => lv_astore_nF (lv' := [(3, va_rf x2), (0, .ref a0), (1, .int p1), (2, .int p2)]) hx hb dX0_says_5 rfl hl (by decide) rfl k) ?_
  refine Jrow (fun H locs ls hH hS hl k => lv_aload_nF hx hb dX0_says_6 rfl (lv_at hl 0 rfl) (k ls hl)) ?_
  refine Jjn0 (fun  X10 => J p l e (headSpec (ws_ yX0_says cX0_says 5 (some .int)) (rmC 4 93 σ σz)).room s m ([.ref a0, .int p1, .int p2] : List Value).toArray below meth c 5 E (cZ σ) (cS σ) (MQ below (cQ E (some (.int r)) σz) ([.ref a0, .int p1, .int p2] : List Value).toArray s (cZ σz - cZ σ) (cS σz - cS σ) (EA E)) (r, σz) X10 σ1 17 [] []) (?_) (fun k3 hk3 => ?_)
  · refine Jrow (fun H locs ls hH hS hl k => lv_iconst (v := (-1:Int32)) hx hb dX0_says_17 (by decide) (k ls hl)) ?_
    exact Jiret hx hb hr hlocks dX0_says_18
  · rcases x2 with _ | x4
    · refine Joc0 ?_
      refine Jrow (fun H locs ls hH hS hl k => lv_ifnullN (tgt := 17) hx hb dX0_says_7 (by decide) (k ls hl)) ?_
      exact Jsub [] rfl (hk3)
    · refine Joc1 ?_
      refine Jrow (fun H locs ls hH hS hl k => lv_ifnull hx hb dX0_says_7 (k ls hl)) ?_
      refine Jrow (fun H locs ls hH hS hl k => lv_iload_n hx hb dX0_says_10 rfl (lv_at hl 3 rfl) (k ls hl)) ?_
      refine Jcl (fun x5 hf => ?_)
      refine JcallS (v := .int x5) (rest := []) hz0 ⟨rfl, rfl⟩ sQi_o (fun H locs ls hl hR => va_runS (As := [.int p2]) ⟨hx, hb, hml, hown, hts⟩ (mX0_isPlace l hf) (va_cwS 1 hts (lw_S q624 q625 q88 q626) rfl rfl rfl (by decide +kernel) ⟨Nat.le_of_ble_eq_true rfl, Nat.le_of_ble_eq_true rfl⟩) s_pre rfl rfl hl.1 rfl (lv_room (Nat.le_of_ble_eq_true rfl)) dX0_says_11 hR) ?_
      clear hf
      refine Jite (fun hc => ?_) (fun hc => ?_)
      · refine Jrow (fun H locs ls hH hS hl k => lv_if_ne (tgt := 19) hx hb dX0_says_14 (by decide) (fun h => absurd hc h) (fun _ => (k ls hl))) ?_
        clear hc
        exact Jsub [] rfl (hk3)
      · refine Jrow (fun H locs ls hH hS hl k => lv_if_ne (tgt := 19) hx hb dX0_says_14 (by decide) (fun _ => (k ls hl)) (fun h => absurd h hc)) ?_
        clear hc
        refine Jrow (fun H locs ls hH hS hl k => lv_aload_n hx hb dX0_says_19 rfl (lv_at hl 0 rfl) (k ls hl)) ?_
        refine Jgd (fun hg => ?_)
        refine Jcl (fun x6 hq => ?_)
        refine Jrow (fun H locs ls hH hS hl k => c_getN (F := 83) (v := .ref x6) hx hb hts hown hK hH hg (cN hk.2.2.1 22 rfl) (fun _ h => h) (fvR rfl hq) dX0_says_20 (k ls hl)) ?_
        clear hq
        refine Jgd (fun hg => ?_)
        refine Jrow (fun H locs ls hH hS hl k => c_getN (F := 52) (v := .int (cFI σ1 x6 52)) hx hb hts hown hK hH hg (cN hk.2.2.1 12 rfl) (fun _ h => h) rfl dX0_says_23 (k ls hl)) ?_
        refine JbdI (fun x7 => ?_)
        refine Jrow (fun H locs ls hH hS hl k => lv_istore (lv' := [(4, .int x7), (3, .ref x4), (0, .ref a0), (1, .int p1), (2, .int p2)]) hx hb dX0_says_26 hl (by decide) rfl k) ?_
        refine Jrow (fun H locs ls hH hS hl k => lv_aload_n hx hb dX0_says_28 rfl (lv_at hl 1 rfl) (k ls hl)) ?_
        refine Jrow (fun H locs ls hH hS hl k => lv_iload_n hx hb dX0_says_29 rfl (lv_at hl 4 rfl) (k ls hl)) ?_
        refine Jrow (fun H locs ls hH hS hl k => lv_iconst (v := (0:Int32)) hx hb dX0_says_30 (by decide) (k ls hl)) ?_
        refine Jgd (fun hg => ?_)
        refine Jcl2 (fun _ σ8 hf => ?_)
        refine Jcall (v := none) (rest := []) (mX10_sayAnew l E hf).1 ⟨rfl, rfl⟩ (fun H locs ls hH hS hl hR => ⟨_, va_runV (C := RX10) (As := [.int p2, .int (0:Int32)]) ⟨hx, hb, hml, hown, hts⟩ (mX10_sayAnew l E hf).2 (cwV 2 hts (lw_V q707 q708 q709 q112 q710) rfl rfl rfl (by decide +kernel) ⟨Nat.le_of_ble_eq_true rfl, Nat.le_of_ble_eq_true rfl⟩) (c_preV (ci := 10) hk hH hS hg rfl) rfl rfl hl.1 rfl (lv_room (Nat.le_of_ble_eq_true rfl)) dX0_says_31 hR⟩) ?_
        clear hf
        refine Jrow (fun H locs ls hH hS hl k => lv_iload hx hb dX0_says_34 (lv_at hl 0 rfl) (k ls hl)) ?_
        exact Jiret hx hb hr hlocks dX0_says_36

def fX0_late (a0 : Nat) (p1 : Int32) (p2 : Int32) (σ : CS) : Option (Int32 × CS) :=
 gd (kd σ a0 2) (
 cl2 (fX0_shipAt a0 p1 σ) (fun (x2 : Option Nat) (σ1 : CS) =>
 oc x2 (
 some ((-1:Int32), σ1)) (fun (x3 : Nat) =>
 cl (fX0_in p2 (0:Int32) (99:Int32)) (fun (x4 : Int32) =>
 if x4 = (0:Int32) then
 some ((-2:Int32), σ1)
 else
 gd (hf (cK σ1 x3) 83) (
 cl (cFR σ1 x3 83) (fun (x5 : Nat) =>
 gd (hf (cK σ1 x5) 52) (
 gd (kd σ1 x3 11) (
 cl2 (fX10_sayAnew x3 (cFI σ1 x5 52) p2 σ1) (fun (_ : Unit) (σ6 : CS) =>
 gd (hf (cK σ6 x3) 83) (
 cl (cFR σ6 x3 83) (fun (x8 : Nat) =>
 gd (kd σ6 x8 4) (
 cl2 (fX2_ill x8 σ6) (fun (x10 : Int32) (σ9 : CS) =>
 some (x10, σ9))))))))))))))
theorem nX0_late {a0 : Nat} {p1 : Int32} {p2 : Int32} {σ : CS} : Mn σ (fX0_late a0 p1 p2 σ) := by
  unfold fX0_late
  refine Mgd ?_
  refine Mcl2 (nX0_shipAt) (fun x2 σ1 => ?_)
  refine Moc ?_ (fun x3 => ?_)
  · exact Mret
  · refine Mcl (fun x4 => ?_)
    refine Mite ?_ ?_
    · exact Mret
    · refine Mgd ?_
      refine Mcl (fun x5 => ?_)
      refine Mgd ?_
      refine Mgd ?_
      refine Mcl2 (nX10_sayAnew) (fun _ σ6 => ?_)
      refine Mgd ?_
      refine Mcl (fun x8 => ?_)
      refine Mgd ?_
      refine Mcl2 (nX2_ill) (fun x10 σ9 => ?_)
      exact Mret
set_option maxHeartbeats 4000000 in
set_option maxRecDepth 100000 in
theorem mX0_late (l : Launch) (E : CE) {a0 : Nat} {p1 : Int32} {p2 : Int32} {σ : CS} {r : Int32} {σz : CS} (hX : fX0_late a0 p1 p2 σ = some (r, σz)) : MetC l yX0_late (ws_ yX0_late cX0_late 4 (some .int)) 4 93 E σ [.ref a0, .int p1, .int p2] (some (.int r)) σz := by
  refine MetC.of hX (by decide) (Nat.le_of_ble_eq_true rfl) (nX0_late _ hX) ?_
  intro p e s m below meth c hx hb hr hml hts hown hlocks hnm hk hz0
  have hK := hk.1
  show J p l e (headSpec (ws_ yX0_late cX0_late 4 (some .int)) (rmC 4 93 σ σz)).room s m ([.ref a0, .int p1, .int p2] : List Value).toArray below meth c 4 E (cZ σ) (cS σ) (MQ below (cQ E (some (.int r)) σz) ([.ref a0, .int p1, .int p2] : List Value).toArray s (cZ σz - cZ σ) (cS σz - cS σ) (EA E)) (r, σz) (fX0_late a0 p1 p2 σ) σ 0 [(0, .ref a0), (1, .int p1), (2, .int p2)] []
  unfold fX0_late
  refine Jrow (fun H locs ls hH hS hl k => lv_aload_n hx hb dX0_late_0 rfl (lv_at hl 0 rfl) (k ls hl)) ?_
  refine Jrow (fun H locs ls hH hS hl k => lv_iload_n hx hb dX0_late_1 rfl (lv_at hl 1 rfl) (k ls hl)) ?_
  refine Jgd (fun hg => ?_)
  refine Jcl2 (fun x2 σ1 hf => ?_)
  refine Jcall (v := (some (va_rf x2))) (rest := []) (mX0_shipAt l E hf).1 ⟨rfl, rfl⟩ (fun H locs ls hH hS hl hR => ⟨_, va_runV (C := RX0) (As := [.int p1]) ⟨hx, hb, hml, hown, hts⟩ (mX0_shipAt l E hf).2 (cwV 1 hts (lw_V q703 q705 qs18 q88 q706) rfl rfl rfl (by decide +kernel) ⟨Nat.le_of_ble_eq_true rfl, Nat.le_of_ble_eq_true rfl⟩) (c_preV (ci := 1) hk hH hS hg rfl) rfl rfl hl.1 rfl (lv_room (Nat.le_of_ble_eq_true rfl)) dX0_late_2 hR⟩) ?_
  clear hf
  refine Jrow (fun H locs ls hH hS hl k => lv_astore_nF (lv' := [(3, va_rf x2), (0, .ref a0), (1, .int p1), (2, .int p2)]) hx hb dX0_late_5 rfl hl (by decide) rfl k) ?_
  refine Jrow (fun H locs ls hH hS hl k => lv_aload_nF hx hb dX0_late_6 rfl (lv_at hl 0 rfl) (k ls hl)) ?_
  rcases x2 with _ | x3
  · refine Joc0 ?_
    refine Jrow (fun H locs ls hH hS hl k => lv_ifnonnullN hx hb dX0_late_7 (k ls hl)) ?_
    refine Jrow (fun H locs ls hH hS hl k => lv_iconst (v := (-1:Int32)) hx hb dX0_late_10 (by decide) (k ls hl)) ?_
    exact Jiret hx hb hr hlocks dX0_late_11
  · refine Joc1 ?_
    refine Jrow (fun H locs ls hH hS hl k => lv_ifnonnull (tgt := 12) hx hb dX0_late_7 (by decide) (k ls hl)) ?_
    refine Jrow (fun H locs ls hH hS hl k => lv_iload_n hx hb dX0_late_12 rfl (lv_at hl 3 rfl) (k ls hl)) ?_
    refine Jrow (fun H locs ls hH hS hl k => lv_iconst (v := (0:Int32)) hx hb dX0_late_13 (by decide) (k ls hl)) ?_
    refine Jrow (fun H locs ls hH hS hl k => lv_bipush (v := (99:Int32)) hx hb dX0_late_14 (by decide) (k ls hl)) ?_
    refine Jcl (fun x4 hf => ?_)
    refine JcallS (v := .int x4) (rest := []) hz0 ⟨rfl, rfl⟩ sQi_o (fun H locs ls hl hR => va_runS (As := [.int p2, .int (0:Int32), .int (99:Int32)]) ⟨hx, hb, hml, hown, hts⟩ (mX0_in l hf) (va_cwS 3 hts (lw_S q319 q320 q88 q321) rfl rfl rfl (by decide +kernel) ⟨Nat.le_of_ble_eq_true rfl, Nat.le_of_ble_eq_true rfl⟩) s_pre rfl rfl hl.1 rfl (lv_room (Nat.le_of_ble_eq_true rfl)) dX0_late_16 hR) ?_
    clear hf
    refine Jite (fun hc => ?_) (fun hc => ?_)
    · refine Jrow (fun H locs ls hH hS hl k => lv_if_ne (tgt := 25) hx hb dX0_late_19 (by decide) (fun h => absurd hc h) (fun _ => (k ls hl))) ?_
      clear hc
      refine Jrow (fun H locs ls hH hS hl k => lv_bipush (v := (-2:Int32)) hx hb dX0_late_22 (by decide) (k ls hl)) ?_
      exact Jiret hx hb hr hlocks dX0_late_24
    · refine Jrow (fun H locs ls hH hS hl k => lv_if_ne (tgt := 25) hx hb dX0_late_19 (by decide) (fun _ => (k ls hl)) (fun h => absurd h hc)) ?_
      clear hc
      refine Jrow (fun H locs ls hH hS hl k => lv_aload_n hx hb dX0_late_25 rfl (lv_at hl 0 rfl) (k ls hl)) ?_
      refine Jrow (fun H locs ls hH hS hl k => lv_aload_n hx hb dX0_late_26 rfl (lv_at hl 0 rfl) (k ls hl)) ?_
      refine Jgd (fun hg => ?_)
      refine Jcl (fun x5 hq => ?_)
      refine Jrow (fun H locs ls hH hS hl k => c_getN (F := 83) (v := .ref x5) hx hb hts hown hK hH hg (cN hk.2.2.1 22 rfl) (fun _ h => h) (fvR rfl hq) dX0_late_27 (k ls hl)) ?_
      clear hq
      refine Jgd (fun hg => ?_)
      refine Jrow (fun H locs ls hH hS hl k => c_getN (F := 52) (v := .int (cFI σ1 x5 52)) hx hb hts hown hK hH hg (cN hk.2.2.1 12 rfl) (fun _ h => h) rfl dX0_late_30 (k ls hl)) ?_
      refine Jrow (fun H locs ls hH hS hl k => lv_iload_n hx hb dX0_late_33 rfl (lv_at hl 3 rfl) (k ls hl)) ?_
      refine Jgd (fun hg => ?_)
      refine Jcl2 (fun _ σ6 hf => ?_)
      refine Jcall (v := none) (rest := []) (mX10_sayAnew l E hf).1 ⟨rfl, rfl⟩ (fun H locs ls hH hS hl hR => ⟨_, va_runV (C := RX10) (As := [.int (cFI σ1 x5 52), .int p2]) ⟨hx, hb, hml, hown, hts⟩ (mX10_sayAnew l E hf).2 (cwV 2 hts (lw_V q707 q708 q709 q112 q710) rfl rfl rfl (by decide +kernel) ⟨Nat.le_of_ble_eq_true rfl, Nat.le_of_ble_eq_true rfl⟩) (c_preV (ci := 10) hk hH hS hg rfl) rfl rfl hl.1 rfl (lv_room (Nat.le_of_ble_eq_true rfl)) dX0_late_34 hR⟩) ?_
      clear hf
      refine Jrow (fun H locs ls hH hS hl k => lv_aload_n hx hb dX0_late_37 rfl (lv_at hl 0 rfl) (k ls hl)) ?_
      refine Jgd (fun hg => ?_)
      refine Jcl (fun x8 hq => ?_)
      refine Jrow (fun H locs ls hH hS hl k => c_getN (F := 83) (v := .ref x8) hx hb hts hown hK hH hg (cN hk.2.2.1 22 rfl) (fun _ h => h) (fvR rfl hq) dX0_late_38 (k ls hl)) ?_
      clear hq
      refine Jgd (fun hg => ?_)
      refine Jcl2 (fun x10 σ9 hf => ?_)
      refine Jcall (v := (some (.int x10))) (rest := []) (mX2_ill l E hf).1 ⟨rfl, rfl⟩ (fun H locs ls hH hS hl hR => ⟨_, va_runV (C := RX2) (As := []) ⟨hx, hb, hml, hown, hts⟩ (mX2_ill l E hf).2 (cwV 0 hts (lw_V q716 q717 q718 q93 q719) rfl rfl rfl (by decide +kernel) ⟨Nat.le_of_ble_eq_true rfl, Nat.le_of_ble_eq_true rfl⟩) (c_preV (ci := 3) hk hH hS hg rfl) rfl rfl hl.1 rfl (lv_room (Nat.le_of_ble_eq_true rfl)) dX0_late_41 hR⟩) ?_
      clear hf
      exact Jiret hx hb hr hlocks dX0_late_44

def fX0_of (a0 : Nat) (p1 : Int32) (p2 : Int32) (σ : CS) : Option (Int32 × CS) :=
 gd (kd σ a0 2) (
 cl2 (fX0_shipAt a0 p1 σ) (fun (x2 : Option Nat) (σ1 : CS) =>
 oc x2 (
 some ((-1:Int32), σ1)) (fun (x3 : Nat) =>
 if p2 = (4:Int32) then
 gd (hf (cK σ1 x3) 83) (
 cl (cFR σ1 x3 83) (fun (x4 : Nat) =>
 gd (hf (cK σ1 x4) 50) (
 cl (cFR σ1 x4 50) (fun (x5 : Nat) =>
 gd (hf (cK σ1 x5) 60) (
 some (cFI σ1 x5 60, σ1))))))
 else
 if p2 = (5:Int32) then
 gd (hf (cK σ1 x3) 81) (
 some (cFI σ1 x3 81, σ1))
 else
 if p2 = (6:Int32) then
 gd (hf (cK σ1 x3) 83) (
 cl (cFR σ1 x3 83) (fun (x6 : Nat) =>
 gd (hf (cK σ1 x6) 52) (
 some (cFI σ1 x6 52, σ1))))
 else
 if p2 = (7:Int32) then
 gd (hf (cK σ1 x3) 82) (
 some (cFI σ1 x3 82, σ1))
 else
 if p2 = (8:Int32) then
 gd (hf (cK σ1 x3) 83) (
 cl (cFR σ1 x3 83) (fun (x7 : Nat) =>
 gd (hf (cK σ1 x7) 53) (
 some (cFI σ1 x7 53, σ1))))
 else
 cl (fX0_in p2 (0:Int32) (3:Int32)) (fun (x8 : Int32) =>
 jn (fun (x9 : Int32) => some (x9, σ1)) (fun (k10 : Int32 → Option (Int32 × CS)) =>
 if x8 = (0:Int32) then
 k10 (-1:Int32)
 else
 gd (hf (cK σ1 x3) 83) (
 cl (cFR σ1 x3 83) (fun (x11 : Nat) =>
 gd (hf (cK σ1 x11) 49) (
 cl (cFR σ1 x11 49) (fun (x12 : Nat) =>
 gd (kd σ1 x12 101) (
 gd (ib p2 (cLN σ1 x12)) (
 k10 (cAI σ1 x12 p2.toNatClampNeg))))))))))))
theorem nX0_of {a0 : Nat} {p1 : Int32} {p2 : Int32} {σ : CS} : Mn σ (fX0_of a0 p1 p2 σ) := by
  unfold fX0_of
  refine Mgd ?_
  refine Mcl2 (nX0_shipAt) (fun x2 σ1 => ?_)
  refine Moc ?_ (fun x3 => ?_)
  · exact Mret
  · refine Mite ?_ ?_
    · refine Mgd ?_
      refine Mcl (fun x4 => ?_)
      refine Mgd ?_
      refine Mcl (fun x5 => ?_)
      refine Mgd ?_
      exact Mret
    · refine Mite ?_ ?_
      · refine Mgd ?_
        exact Mret
      · refine Mite ?_ ?_
        · refine Mgd ?_
          refine Mcl (fun x6 => ?_)
          refine Mgd ?_
          exact Mret
        · refine Mite ?_ ?_
          · refine Mgd ?_
            exact Mret
          · refine Mite ?_ ?_
            · refine Mgd ?_
              refine Mcl (fun x7 => ?_)
              refine Mgd ?_
              exact Mret
            · refine Mcl (fun x8 => ?_)
              refine Mjn1 (fun (x9 : Int32) (X13 : Option (Int32 × CS)) => Mn σ1 X13) (fun x9 => ?_) (fun k10 hk10 => ?_)
              · exact Mret
              · refine Mite ?_ ?_
                · exact hk10 (-1:Int32)
                · refine Mgd ?_
                  refine Mcl (fun x11 => ?_)
                  refine Mgd ?_
                  refine Mcl (fun x12 => ?_)
                  refine Mgd ?_
                  refine Mgd ?_
                  exact hk10 (cAI σ1 x12 p2.toNatClampNeg)
set_option maxHeartbeats 4000000 in
set_option maxRecDepth 100000 in
theorem mX0_of (l : Launch) (E : CE) {a0 : Nat} {p1 : Int32} {p2 : Int32} {σ : CS} {r : Int32} {σz : CS} (hX : fX0_of a0 p1 p2 σ = some (r, σz)) : MetC l yX0_of (ws_ yX0_of cX0_of 4 (some .int)) 4 85 E σ [.ref a0, .int p1, .int p2] (some (.int r)) σz := by
  refine MetC.of hX (by decide) (Nat.le_of_ble_eq_true rfl) (nX0_of _ hX) ?_
  intro p e s m below meth c hx hb hr hml hts hown hlocks hnm hk hz0
  have hK := hk.1
  show J p l e (headSpec (ws_ yX0_of cX0_of 4 (some .int)) (rmC 4 85 σ σz)).room s m ([.ref a0, .int p1, .int p2] : List Value).toArray below meth c 4 E (cZ σ) (cS σ) (MQ below (cQ E (some (.int r)) σz) ([.ref a0, .int p1, .int p2] : List Value).toArray s (cZ σz - cZ σ) (cS σz - cS σ) (EA E)) (r, σz) (fX0_of a0 p1 p2 σ) σ 0 [(0, .ref a0), (1, .int p1), (2, .int p2)] []
  unfold fX0_of
  refine Jrow (fun H locs ls hH hS hl k => lv_aload_n hx hb dX0_of_0 rfl (lv_at hl 0 rfl) (k ls hl)) ?_
  refine Jrow (fun H locs ls hH hS hl k => lv_iload_n hx hb dX0_of_1 rfl (lv_at hl 1 rfl) (k ls hl)) ?_
  refine Jgd (fun hg => ?_)
  refine Jcl2 (fun x2 σ1 hf => ?_)
  refine Jcall (v := (some (va_rf x2))) (rest := []) (mX0_shipAt l E hf).1 ⟨rfl, rfl⟩ (fun H locs ls hH hS hl hR => ⟨_, va_runV (C := RX0) (As := [.int p1]) ⟨hx, hb, hml, hown, hts⟩ (mX0_shipAt l E hf).2 (cwV 1 hts (lw_V q703 q705 qs18 q88 q706) rfl rfl rfl (by decide +kernel) ⟨Nat.le_of_ble_eq_true rfl, Nat.le_of_ble_eq_true rfl⟩) (c_preV (ci := 1) hk hH hS hg rfl) rfl rfl hl.1 rfl (lv_room (Nat.le_of_ble_eq_true rfl)) dX0_of_2 hR⟩) ?_
  clear hf
  refine Jrow (fun H locs ls hH hS hl k => lv_astore_nF (lv' := [(3, va_rf x2), (0, .ref a0), (1, .int p1), (2, .int p2)]) hx hb dX0_of_5 rfl hl (by decide) rfl k) ?_
  refine Jrow (fun H locs ls hH hS hl k => lv_aload_nF hx hb dX0_of_6 rfl (lv_at hl 0 rfl) (k ls hl)) ?_
  rcases x2 with _ | x3
  · refine Joc0 ?_
    refine Jrow (fun H locs ls hH hS hl k => lv_ifnonnullN hx hb dX0_of_7 (k ls hl)) ?_
    refine Jrow (fun H locs ls hH hS hl k => lv_iconst (v := (-1:Int32)) hx hb dX0_of_10 (by decide) (k ls hl)) ?_
    exact Jiret hx hb hr hlocks dX0_of_11
  · refine Joc1 ?_
    refine Jrow (fun H locs ls hH hS hl k => lv_ifnonnull (tgt := 12) hx hb dX0_of_7 (by decide) (k ls hl)) ?_
    refine Jrow (fun H locs ls hH hS hl k => lv_iload_n hx hb dX0_of_12 rfl (lv_at hl 3 rfl) (k ls hl)) ?_
    refine Jite (fun hc0 => ?_) (fun hc0 => ?_)
    · refine Jrow (fun H locs ls hH hS hl k => lv_tableIn (off := 35) (tgt := 48) hx hb dX0_of_13 (by rw [hc0]; decide) (by rw [hc0]; decide) (by rw [hc0]; decide) (by decide) (k ls hl)) ?_
      refine Jrow (fun H locs ls hH hS hl k => lv_aload_n hx hb dX0_of_48 rfl (lv_at hl 0 rfl) (k ls hl)) ?_
      refine Jgd (fun hg => ?_)
      refine Jcl (fun x4 hq => ?_)
      refine Jrow (fun H locs ls hH hS hl k => c_getN (F := 83) (v := .ref x4) hx hb hts hown hK hH hg (cN hk.2.2.1 22 rfl) (fun _ h => h) (fvR rfl hq) dX0_of_49 (k ls hl)) ?_
      clear hq
      refine Jgd (fun hg => ?_)
      refine Jcl (fun x5 hq => ?_)
      refine Jrow (fun H locs ls hH hS hl k => c_getN (F := 50) (v := .ref x5) hx hb hts hown hK hH hg (cN hk.2.2.1 11 rfl) (fun _ h => h) (fvR rfl hq) dX0_of_52 (k ls hl)) ?_
      clear hq
      refine Jgd (fun hg => ?_)
      refine Jrow (fun H locs ls hH hS hl k => c_getN (F := 60) (v := .int (cFI σ1 x5 60)) hx hb hts hown hK hH hg (cN hk.2.2.1 15 rfl) (fun _ h => h) rfl dX0_of_55 (k ls hl)) ?_
      exact Jiret hx hb hr hlocks dX0_of_58
    · refine Jite (fun hc1 => ?_) (fun hc1 => ?_)
      · refine Jrow (fun H locs ls hH hS hl k => lv_tableIn (off := 46) (tgt := 59) hx hb dX0_of_13 (by rw [hc1]; decide) (by rw [hc1]; decide) (by rw [hc1]; decide) (by decide) (k ls hl)) ?_
        refine Jrow (fun H locs ls hH hS hl k => lv_aload_n hx hb dX0_of_59 rfl (lv_at hl 0 rfl) (k ls hl)) ?_
        refine Jgd (fun hg => ?_)
        refine Jrow (fun H locs ls hH hS hl k => c_getN (F := 81) (v := .int (cFI σ1 x3 81)) hx hb hts hown hK hH hg (cN hk.2.2.1 20 rfl) (fun _ h => h) rfl dX0_of_60 (k ls hl)) ?_
        exact Jiret hx hb hr hlocks dX0_of_63
      · refine Jite (fun hc2 => ?_) (fun hc2 => ?_)
        · refine Jrow (fun H locs ls hH hS hl k => lv_tableIn (off := 51) (tgt := 64) hx hb dX0_of_13 (by rw [hc2]; decide) (by rw [hc2]; decide) (by rw [hc2]; decide) (by decide) (k ls hl)) ?_
          refine Jrow (fun H locs ls hH hS hl k => lv_aload_n hx hb dX0_of_64 rfl (lv_at hl 0 rfl) (k ls hl)) ?_
          refine Jgd (fun hg => ?_)
          refine Jcl (fun x6 hq => ?_)
          refine Jrow (fun H locs ls hH hS hl k => c_getN (F := 83) (v := .ref x6) hx hb hts hown hK hH hg (cN hk.2.2.1 22 rfl) (fun _ h => h) (fvR rfl hq) dX0_of_65 (k ls hl)) ?_
          clear hq
          refine Jgd (fun hg => ?_)
          refine Jrow (fun H locs ls hH hS hl k => c_getN (F := 52) (v := .int (cFI σ1 x6 52)) hx hb hts hown hK hH hg (cN hk.2.2.1 12 rfl) (fun _ h => h) rfl dX0_of_68 (k ls hl)) ?_
          exact Jiret hx hb hr hlocks dX0_of_71
        · refine Jite (fun hc3 => ?_) (fun hc3 => ?_)
          · refine Jrow (fun H locs ls hH hS hl k => lv_tableIn (off := 59) (tgt := 72) hx hb dX0_of_13 (by rw [hc3]; decide) (by rw [hc3]; decide) (by rw [hc3]; decide) (by decide) (k ls hl)) ?_
            refine Jrow (fun H locs ls hH hS hl k => lv_aload_n hx hb dX0_of_72 rfl (lv_at hl 0 rfl) (k ls hl)) ?_
            refine Jgd (fun hg => ?_)
            refine Jrow (fun H locs ls hH hS hl k => c_getN (F := 82) (v := .int (cFI σ1 x3 82)) hx hb hts hown hK hH hg (cN hk.2.2.1 21 rfl) (fun _ h => h) rfl dX0_of_73 (k ls hl)) ?_
            exact Jiret hx hb hr hlocks dX0_of_76
          · refine Jite (fun hc4 => ?_) (fun hc4 => ?_)
            · refine Jrow (fun H locs ls hH hS hl k => lv_tableIn (off := 64) (tgt := 77) hx hb dX0_of_13 (by rw [hc4]; decide) (by rw [hc4]; decide) (by rw [hc4]; decide) (by decide) (k ls hl)) ?_
              refine Jrow (fun H locs ls hH hS hl k => lv_aload_n hx hb dX0_of_77 rfl (lv_at hl 0 rfl) (k ls hl)) ?_
              refine Jgd (fun hg => ?_)
              refine Jcl (fun x7 hq => ?_)
              refine Jrow (fun H locs ls hH hS hl k => c_getN (F := 83) (v := .ref x7) hx hb hts hown hK hH hg (cN hk.2.2.1 22 rfl) (fun _ h => h) (fvR rfl hq) dX0_of_78 (k ls hl)) ?_
              clear hq
              refine Jgd (fun hg => ?_)
              refine Jrow (fun H locs ls hH hS hl k => c_getN (F := 53) (v := .int (cFI σ1 x7 53)) hx hb hts hown hK hH hg (cN hk.2.2.1 13 rfl) (fun _ h => h) rfl dX0_of_81 (k ls hl)) ?_
              exact Jiret hx hb hr hlocks dX0_of_84
            · have hto : p2.toInt < 4 ∨ 8 < p2.toInt := by
                refine tb_out (fun v h1 h2 => ?_)
                have hv : v = 4 ∨ v = 5 ∨ v = 6 ∨ v = 7 ∨ v = 8 := by omega
                rcases hv with rfl | rfl | rfl | rfl | rfl
                · exact lv_neT hc0 (by decide)
                · exact lv_neT hc1 (by decide)
                · exact lv_neT hc2 (by decide)
                · exact lv_neT hc3 (by decide)
                · exact lv_neT hc4 (by decide)
              refine Jrow (fun H locs ls hH hS hl k => lv_tableOut (tgt := 85) hx hb dX0_of_13 hto (by decide) (k ls hl)) ?_
              refine Jrow (fun H locs ls hH hS hl k => lv_iload_n hx hb dX0_of_85 rfl (lv_at hl 3 rfl) (k ls hl)) ?_
              refine Jrow (fun H locs ls hH hS hl k => lv_iconst (v := (0:Int32)) hx hb dX0_of_86 (by decide) (k ls hl)) ?_
              refine Jrow (fun H locs ls hH hS hl k => lv_iconst (v := (3:Int32)) hx hb dX0_of_87 (by decide) (k ls hl)) ?_
              refine Jcl (fun x8 hf => ?_)
              refine JcallS (v := .int x8) (rest := []) hz0 ⟨rfl, rfl⟩ sQi_o (fun H locs ls hl hR => va_runS (As := [.int p2, .int (0:Int32), .int (3:Int32)]) ⟨hx, hb, hml, hown, hts⟩ (mX0_in l hf) (va_cwS 3 hts (lw_S q319 q320 q88 q321) rfl rfl rfl (by decide +kernel) ⟨Nat.le_of_ble_eq_true rfl, Nat.le_of_ble_eq_true rfl⟩) s_pre rfl rfl hl.1 rfl (lv_room (Nat.le_of_ble_eq_true rfl)) dX0_of_88 hR) ?_
              clear hf
              refine Jjn1 (fun (x9 : Int32) X13 => J p l e (headSpec (ws_ yX0_of cX0_of 4 (some .int)) (rmC 4 85 σ σz)).room s m ([.ref a0, .int p1, .int p2] : List Value).toArray below meth c 4 E (cZ σ) (cS σ) (MQ below (cQ E (some (.int r)) σz) ([.ref a0, .int p1, .int p2] : List Value).toArray s (cZ σz - cZ σ) (cS σz - cS σ) (EA E)) (r, σz) X13 σ1 107 [] [.int x9]) (fun x9 => ?_) (fun k10 hk10 => ?_)
              · exact Jiret hx hb hr hlocks dX0_of_107
              · refine Jite (fun hc => ?_) (fun hc => ?_)
                · refine Jrow (fun H locs ls hH hS hl k => lv_if_eq (tgt := 106) hx hb dX0_of_91 (by decide) (fun _ => (k ls hl)) (fun h => absurd hc h)) ?_
                  clear hc
                  refine Jrow (fun H locs ls hH hS hl k => lv_iconst (v := (-1:Int32)) hx hb dX0_of_106 (by decide) (k ls hl)) ?_
                  exact Jsub [] rfl (hk10 (-1:Int32))
                · refine Jrow (fun H locs ls hH hS hl k => lv_if_eq (tgt := 106) hx hb dX0_of_91 (by decide) (fun h => absurd h hc) (fun _ => (k ls hl))) ?_
                  clear hc
                  refine Jrow (fun H locs ls hH hS hl k => lv_aload_n hx hb dX0_of_94 rfl (lv_at hl 0 rfl) (k ls hl)) ?_
                  refine Jgd (fun hg => ?_)
                  refine Jcl (fun x11 hq => ?_)
                  refine Jrow (fun H locs ls hH hS hl k => c_getN (F := 83) (v := .ref x11) hx hb hts hown hK hH hg (cN hk.2.2.1 22 rfl) (fun _ h => h) (fvR rfl hq) dX0_of_95 (k ls hl)) ?_
                  clear hq
                  refine Jgd (fun hg => ?_)
                  refine Jcl (fun x12 hq => ?_)
                  refine Jrow (fun H locs ls hH hS hl k => c_getN (F := 49) (v := .ref x12) hx hb hts hown hK hH hg (cN hk.2.2.1 10 rfl) (fun _ h => h) (fvR rfl hq) dX0_of_98 (k ls hl)) ?_
                  clear hq
                  refine Jrow (fun H locs ls hH hS hl k => lv_iload_n hx hb dX0_of_101 rfl (lv_at hl 3 rfl) (k ls hl)) ?_
                  refine Jgd (fun hk1 => ?_)
                  refine Jgd (fun hg => ?_)
                  refine Jrow (fun H locs ls hH hS hl k => c_iald hx hb hK hH hk1 hg dX0_of_102 (k ls hl)) ?_
                  refine Jrow (fun H locs ls hH hS hl k => lv_goto (tgt := 107) hx hb dX0_of_103 (by decide) (k ls hl)) ?_
                  exact Jsub [] rfl (hk10 (cAI σ1 x12 p2.toNatClampNeg))

def fX0_days (a0 : Nat) (p1 : Int32) (p2 : Int32) (σ : CS) : Option (Int32 × CS) :=
 gd (kd σ a0 2) (
 cl2 (fX0_shipAt a0 p1 σ) (fun (x2 : Option Nat) (σ1 : CS) =>
 oc x2 (
 some ((-1:Int32), σ1)) (fun (x3 : Nat) =>
 cl (fX0_in p2 (1:Int32) (30:Int32)) (fun (x4 : Int32) =>
 if x4 = (0:Int32) then
 some ((-2:Int32), σ1)
 else
 lp (fun _ _ => none) (fun (k7 : Int32 → CS → Option (Int32 × CS)) (x5 : Int32) (σ6 : CS) =>
 if p2 ≤ x5 then
 gd (hf (cK σ6 x3) 83) (
 cl (cFR σ6 x3 83) (fun (x8 : Nat) =>
 gd (hf (cK σ6 x8) 54) (
 some (cFI σ6 x8 54, σ6))))
 else
 gd (hf (cK σ6 x3) 83) (
 cl (cFR σ6 x3 83) (fun (x9 : Nat) =>
 gd (kd σ6 x9 4) (
 cl2 (fX2_day x9 σ6) (fun (_ : Unit) (σ10 : CS) =>
 bd (x5 + (1:Int32)) (fun (x12 : Int32) =>
 k7 x12 σ10)))))) NF (0:Int32) σ1))))
theorem nX0_days {a0 : Nat} {p1 : Int32} {p2 : Int32} {σ : CS} : Mn σ (fX0_days a0 p1 p2 σ) := by
  unfold fX0_days
  refine Mgd ?_
  refine Mcl2 (nX0_shipAt) (fun x2 σ1 => ?_)
  refine Moc ?_ (fun x3 => ?_)
  · exact Mret
  · refine Mcl (fun x4 => ?_)
    refine Mite ?_ ?_
    · exact Mret
    · refine Plp2 (fun (x5 : Int32) (σ6 : CS) (X13 : Option (Int32 × CS)) => Mn σ6 X13) (fun _ _ => Mnone) (fun k7 hk7 x5 σ6 => ?_)
      refine Mite ?_ ?_
      · refine Mgd ?_
        refine Mcl (fun x8 => ?_)
        refine Mgd ?_
        exact Mret
      · refine Mgd ?_
        refine Mcl (fun x9 => ?_)
        refine Mgd ?_
        refine Mcl2 (nX2_day) (fun _ σ10 => ?_)
        refine Mbd (fun x12 => ?_)
        exact hk7 x12 σ10
set_option maxHeartbeats 4000000 in
set_option maxRecDepth 100000 in
theorem mX0_days (l : Launch) (E : CE) {a0 : Nat} {p1 : Int32} {p2 : Int32} {σ : CS} {r : Int32} {σz : CS} (hX : fX0_days a0 p1 p2 σ = some (r, σz)) : MetC l yX0_days (ws_ yX0_days cX0_days 5 (some .int)) 4 85 E σ [.ref a0, .int p1, .int p2] (some (.int r)) σz := by
  refine MetC.of hX (by decide) (Nat.le_of_ble_eq_true rfl) (nX0_days _ hX) ?_
  intro p e s m below meth c hx hb hr hml hts hown hlocks hnm hk hz0
  have hK := hk.1
  show J p l e (headSpec (ws_ yX0_days cX0_days 5 (some .int)) (rmC 4 85 σ σz)).room s m ([.ref a0, .int p1, .int p2] : List Value).toArray below meth c 5 E (cZ σ) (cS σ) (MQ below (cQ E (some (.int r)) σz) ([.ref a0, .int p1, .int p2] : List Value).toArray s (cZ σz - cZ σ) (cS σz - cS σ) (EA E)) (r, σz) (fX0_days a0 p1 p2 σ) σ 0 [(0, .ref a0), (1, .int p1), (2, .int p2)] []
  unfold fX0_days
  refine Jrow (fun H locs ls hH hS hl k => lv_aload_n hx hb dX0_days_0 rfl (lv_at hl 0 rfl) (k ls hl)) ?_
  refine Jrow (fun H locs ls hH hS hl k => lv_iload_n hx hb dX0_days_1 rfl (lv_at hl 1 rfl) (k ls hl)) ?_
  refine Jgd (fun hg => ?_)
  refine Jcl2 (fun x2 σ1 hf => ?_)
  refine Jcall (v := (some (va_rf x2))) (rest := []) (mX0_shipAt l E hf).1 ⟨rfl, rfl⟩ (fun H locs ls hH hS hl hR => ⟨_, va_runV (C := RX0) (As := [.int p1]) ⟨hx, hb, hml, hown, hts⟩ (mX0_shipAt l E hf).2 (cwV 1 hts (lw_V q703 q705 qs18 q88 q706) rfl rfl rfl (by decide +kernel) ⟨Nat.le_of_ble_eq_true rfl, Nat.le_of_ble_eq_true rfl⟩) (c_preV (ci := 1) hk hH hS hg rfl) rfl rfl hl.1 rfl (lv_room (Nat.le_of_ble_eq_true rfl)) dX0_days_2 hR⟩) ?_
  clear hf
  refine Jrow (fun H locs ls hH hS hl k => lv_astore_nF (lv' := [(3, va_rf x2), (0, .ref a0), (1, .int p1), (2, .int p2)]) hx hb dX0_days_5 rfl hl (by decide) rfl k) ?_
  refine Jrow (fun H locs ls hH hS hl k => lv_aload_nF hx hb dX0_days_6 rfl (lv_at hl 0 rfl) (k ls hl)) ?_
  rcases x2 with _ | x3
  · refine Joc0 ?_
    refine Jrow (fun H locs ls hH hS hl k => lv_ifnonnullN hx hb dX0_days_7 (k ls hl)) ?_
    refine Jrow (fun H locs ls hH hS hl k => lv_iconst (v := (-1:Int32)) hx hb dX0_days_10 (by decide) (k ls hl)) ?_
    exact Jiret hx hb hr hlocks dX0_days_11
  · refine Joc1 ?_
    refine Jrow (fun H locs ls hH hS hl k => lv_ifnonnull (tgt := 12) hx hb dX0_days_7 (by decide) (k ls hl)) ?_
    refine Jrow (fun H locs ls hH hS hl k => lv_iload_n hx hb dX0_days_12 rfl (lv_at hl 3 rfl) (k ls hl)) ?_
    refine Jrow (fun H locs ls hH hS hl k => lv_iconst (v := (1:Int32)) hx hb dX0_days_13 (by decide) (k ls hl)) ?_
    refine Jrow (fun H locs ls hH hS hl k => lv_bipush (v := (30:Int32)) hx hb dX0_days_14 (by decide) (k ls hl)) ?_
    refine Jcl (fun x4 hf => ?_)
    refine JcallS (v := .int x4) (rest := []) hz0 ⟨rfl, rfl⟩ sQi_o (fun H locs ls hl hR => va_runS (As := [.int p2, .int (1:Int32), .int (30:Int32)]) ⟨hx, hb, hml, hown, hts⟩ (mX0_in l hf) (va_cwS 3 hts (lw_S q319 q320 q88 q321) rfl rfl rfl (by decide +kernel) ⟨Nat.le_of_ble_eq_true rfl, Nat.le_of_ble_eq_true rfl⟩) s_pre rfl rfl hl.1 rfl (lv_room (Nat.le_of_ble_eq_true rfl)) dX0_days_16 hR) ?_
    clear hf
    refine Jite (fun hc => ?_) (fun hc => ?_)
    · refine Jrow (fun H locs ls hH hS hl k => lv_if_ne (tgt := 25) hx hb dX0_days_19 (by decide) (fun h => absurd hc h) (fun _ => (k ls hl))) ?_
      clear hc
      refine Jrow (fun H locs ls hH hS hl k => lv_bipush (v := (-2:Int32)) hx hb dX0_days_22 (by decide) (k ls hl)) ?_
      exact Jiret hx hb hr hlocks dX0_days_24
    · refine Jrow (fun H locs ls hH hS hl k => lv_if_ne (tgt := 25) hx hb dX0_days_19 (by decide) (fun _ => (k ls hl)) (fun h => absurd h hc)) ?_
      clear hc
      refine Jrow (fun H locs ls hH hS hl k => lv_iconst (v := (0:Int32)) hx hb dX0_days_25 (by decide) (k ls hl)) ?_
      refine Jrow (fun H locs ls hH hS hl k => lv_istore (lv' := [(4, .int (0:Int32)), (3, .ref x3), (0, .ref a0), (1, .int p1), (2, .int p2)]) hx hb dX0_days_26 hl (by decide) rfl k) ?_
      refine Jsub [4, 1, 0] rfl (Plp2 (fun (x5 : Int32) (σ6 : CS) X13 => J p l e (headSpec (ws_ yX0_days cX0_days 5 (some .int)) (rmC 4 85 σ σz)).room s m ([.ref a0, .int p1, .int p2] : List Value).toArray below meth c 5 E (cZ σ) (cS σ) (MQ below (cQ E (some (.int r)) σz) ([.ref a0, .int p1, .int p2] : List Value).toArray s (cZ σz - cZ σ) (cS σz - cS σ) (EA E)) (r, σz) X13 σ6 28 [(2, .int p2), (3, .ref x3), (4, .int x5)] []) (fun _ _ => Jnone) (fun k7 hk7 x5 σ6 => ?_))
      refine Jrow (fun H locs ls hH hS hl k => lv_iload hx hb dX0_days_28 (lv_at hl 2 rfl) (k ls hl)) ?_
      refine Jrow (fun H locs ls hH hS hl k => lv_iload_n hx hb dX0_days_30 rfl (lv_at hl 0 rfl) (k ls hl)) ?_
      refine Jite (fun hc => ?_) (fun hc => ?_)
      · refine Jrow (fun H locs ls hH hS hl k => lv_icmp_ge (tgt := 47) hx hb dX0_days_31 (by decide) (fun _ => (k ls hl)) (fun h => absurd hc h)) ?_
        clear hc
        refine Jrow (fun H locs ls hH hS hl k => lv_aload_n hx hb dX0_days_47 rfl (lv_at hl 1 rfl) (k ls hl)) ?_
        refine Jgd (fun hg => ?_)
        refine Jcl (fun x8 hq => ?_)
        refine Jrow (fun H locs ls hH hS hl k => c_getN (F := 83) (v := .ref x8) hx hb hts hown hK hH hg (cN hk.2.2.1 22 rfl) (fun _ h => h) (fvR rfl hq) dX0_days_48 (k ls hl)) ?_
        clear hq
        refine Jgd (fun hg => ?_)
        refine Jrow (fun H locs ls hH hS hl k => c_getN (F := 54) (v := .int (cFI σ6 x8 54)) hx hb hts hown hK hH hg (cN hk.2.2.1 14 rfl) (fun _ h => h) rfl dX0_days_51 (k ls hl)) ?_
        exact Jiret hx hb hr hlocks dX0_days_54
      · refine Jrow (fun H locs ls hH hS hl k => lv_icmp_ge (tgt := 47) hx hb dX0_days_31 (by decide) (fun h => absurd h hc) (fun _ => (k ls hl))) ?_
        clear hc
        refine Jrow (fun H locs ls hH hS hl k => lv_aload_n hx hb dX0_days_34 rfl (lv_at hl 1 rfl) (k ls hl)) ?_
        refine Jgd (fun hg => ?_)
        refine Jcl (fun x9 hq => ?_)
        refine Jrow (fun H locs ls hH hS hl k => c_getN (F := 83) (v := .ref x9) hx hb hts hown hK hH hg (cN hk.2.2.1 22 rfl) (fun _ h => h) (fvR rfl hq) dX0_days_35 (k ls hl)) ?_
        clear hq
        refine Jgd (fun hg => ?_)
        refine Jcl2 (fun _ σ10 hf => ?_)
        refine Jcall (v := none) (rest := []) (mX2_day l E hf).1 ⟨rfl, rfl⟩ (fun H locs ls hH hS hl hR => ⟨_, va_runV (C := RX2) (As := []) ⟨hx, hb, hml, hown, hts⟩ (mX2_day l E hf).2 (cwV 0 hts (lw_V q728 q729 q730 q93 q731) rfl rfl rfl (by decide +kernel) ⟨Nat.le_of_ble_eq_true rfl, Nat.le_of_ble_eq_true rfl⟩) (c_preV (ci := 3) hk hH hS hg rfl) rfl rfl hl.1 rfl (lv_room (Nat.le_of_ble_eq_true rfl)) dX0_days_38 hR⟩) ?_
        clear hf
        refine Jbd (fun x12 ex12 => ?_)
        refine Jrow (fun H locs ls hH hS hl k => lv_iinc (v := x12) (lv' := [(4, .int x12), (2, .int p2), (3, .ref x3)]) hx hb dX0_days_41 hl (k := 2) rfl (by rw [ex12]; rfl) (by decide) rfl k) ?_
        clear ex12
        refine Jrow (fun H locs ls hH hS hl k => lv_goto (tgt := 28) hx hb dX0_days_44 (by decide) (k ls hl)) ?_
        exact Jsub [1, 2, 0] rfl (hk7 x12 σ10)

def fX0_look (a0 : Nat) (p1 : Int32) (σ : CS) : Option (Int32 × CS) :=
 gd (kd σ a0 2) (
 cl2 (fX0_shipAt a0 p1 σ) (fun (x2 : Option Nat) (σ1 : CS) =>
 oc x2 (
 some ((-1:Int32), σ1)) (fun (x3 : Nat) =>
 gd (hf (cK σ1 x3) 83) (
 cl (cFR σ1 x3 83) (fun (x4 : Nat) =>
 gd (kd σ1 x4 4) (
 cl2 (fX2_look x4 σ1) (fun (_ : Unit) (σ5 : CS) =>
 gd (hf (cK σ5 x3) 83) (
 cl (cFR σ5 x3 83) (fun (x7 : Nat) =>
 gd (hf (cK σ5 x7) 54) (
 some (cFI σ5 x7 54, σ5)))))))))))
theorem nX0_look {a0 : Nat} {p1 : Int32} {σ : CS} : Mn σ (fX0_look a0 p1 σ) := by
  unfold fX0_look
  refine Mgd ?_
  refine Mcl2 (nX0_shipAt) (fun x2 σ1 => ?_)
  refine Moc ?_ (fun x3 => ?_)
  · exact Mret
  · refine Mgd ?_
    refine Mcl (fun x4 => ?_)
    refine Mgd ?_
    refine Mcl2 (nX2_look) (fun _ σ5 => ?_)
    refine Mgd ?_
    refine Mcl (fun x7 => ?_)
    refine Mgd ?_
    exact Mret
set_option maxHeartbeats 4000000 in
set_option maxRecDepth 100000 in
theorem mX0_look (l : Launch) (E : CE) {a0 : Nat} {p1 : Int32} {σ : CS} {r : Int32} {σz : CS} (hX : fX0_look a0 p1 σ = some (r, σz)) : MetC l yX0_look (ws_ yX0_look cX0_look 3 (some .int)) 4 85 E σ [.ref a0, .int p1] (some (.int r)) σz := by
  refine MetC.of hX (by decide) (Nat.le_of_ble_eq_true rfl) (nX0_look _ hX) ?_
  intro p e s m below meth c hx hb hr hml hts hown hlocks hnm hk hz0
  have hK := hk.1
  show J p l e (headSpec (ws_ yX0_look cX0_look 3 (some .int)) (rmC 4 85 σ σz)).room s m ([.ref a0, .int p1] : List Value).toArray below meth c 3 E (cZ σ) (cS σ) (MQ below (cQ E (some (.int r)) σz) ([.ref a0, .int p1] : List Value).toArray s (cZ σz - cZ σ) (cS σz - cS σ) (EA E)) (r, σz) (fX0_look a0 p1 σ) σ 0 [(0, .ref a0), (1, .int p1)] []
  unfold fX0_look
  refine Jrow (fun H locs ls hH hS hl k => lv_aload_n hx hb dX0_look_0 rfl (lv_at hl 0 rfl) (k ls hl)) ?_
  refine Jrow (fun H locs ls hH hS hl k => lv_iload_n hx hb dX0_look_1 rfl (lv_at hl 1 rfl) (k ls hl)) ?_
  refine Jgd (fun hg => ?_)
  refine Jcl2 (fun x2 σ1 hf => ?_)
  refine Jcall (v := (some (va_rf x2))) (rest := []) (mX0_shipAt l E hf).1 ⟨rfl, rfl⟩ (fun H locs ls hH hS hl hR => ⟨_, va_runV (C := RX0) (As := [.int p1]) ⟨hx, hb, hml, hown, hts⟩ (mX0_shipAt l E hf).2 (cwV 1 hts (lw_V q703 q705 qs18 q88 q706) rfl rfl rfl (by decide +kernel) ⟨Nat.le_of_ble_eq_true rfl, Nat.le_of_ble_eq_true rfl⟩) (c_preV (ci := 1) hk hH hS hg rfl) rfl rfl hl.1 rfl (lv_room (Nat.le_of_ble_eq_true rfl)) dX0_look_2 hR⟩) ?_
  clear hf
  refine Jrow (fun H locs ls hH hS hl k => lv_astore_nF (lv' := [(2, va_rf x2), (0, .ref a0), (1, .int p1)]) hx hb dX0_look_5 rfl hl (by decide) rfl k) ?_
  refine Jrow (fun H locs ls hH hS hl k => lv_aload_nF hx hb dX0_look_6 rfl (lv_at hl 0 rfl) (k ls hl)) ?_
  rcases x2 with _ | x3
  · refine Joc0 ?_
    refine Jrow (fun H locs ls hH hS hl k => lv_ifnonnullN hx hb dX0_look_7 (k ls hl)) ?_
    refine Jrow (fun H locs ls hH hS hl k => lv_iconst (v := (-1:Int32)) hx hb dX0_look_10 (by decide) (k ls hl)) ?_
    exact Jiret hx hb hr hlocks dX0_look_11
  · refine Joc1 ?_
    refine Jrow (fun H locs ls hH hS hl k => lv_ifnonnull (tgt := 12) hx hb dX0_look_7 (by decide) (k ls hl)) ?_
    refine Jrow (fun H locs ls hH hS hl k => lv_aload_n hx hb dX0_look_12 rfl (lv_at hl 0 rfl) (k ls hl)) ?_
    refine Jgd (fun hg => ?_)
    refine Jcl (fun x4 hq => ?_)
    refine Jrow (fun H locs ls hH hS hl k => c_getN (F := 83) (v := .ref x4) hx hb hts hown hK hH hg (cN hk.2.2.1 22 rfl) (fun _ h => h) (fvR rfl hq) dX0_look_13 (k ls hl)) ?_
    clear hq
    refine Jgd (fun hg => ?_)
    refine Jcl2 (fun _ σ5 hf => ?_)
    refine Jcall (v := none) (rest := []) (mX2_look l E hf).1 ⟨rfl, rfl⟩ (fun H locs ls hH hS hl hR => ⟨_, va_runV (C := RX2) (As := []) ⟨hx, hb, hml, hown, hts⟩ (mX2_look l E hf).2 (cwV 0 hts (lw_V q749 q750 q751 q93 q752) rfl rfl rfl (by decide +kernel) ⟨Nat.le_of_ble_eq_true rfl, Nat.le_of_ble_eq_true rfl⟩) (c_preV (ci := 3) hk hH hS hg rfl) rfl rfl hl.1 rfl (lv_room (Nat.le_of_ble_eq_true rfl)) dX0_look_16 hR⟩) ?_
    clear hf
    refine Jrow (fun H locs ls hH hS hl k => lv_aload_n hx hb dX0_look_19 rfl (lv_at hl 0 rfl) (k ls hl)) ?_
    refine Jgd (fun hg => ?_)
    refine Jcl (fun x7 hq => ?_)
    refine Jrow (fun H locs ls hH hS hl k => c_getN (F := 83) (v := .ref x7) hx hb hts hown hK hH hg (cN hk.2.2.1 22 rfl) (fun _ h => h) (fvR rfl hq) dX0_look_20 (k ls hl)) ?_
    clear hq
    refine Jgd (fun hg => ?_)
    refine Jrow (fun H locs ls hH hS hl k => c_getN (F := 54) (v := .int (cFI σ5 x7 54)) hx hb hts hown hK hH hg (cN hk.2.2.1 14 rfl) (fun _ h => h) rfl dX0_look_23 (k ls hl)) ?_
    exact Jiret hx hb hr hlocks dX0_look_26

def fX0_harm (a0 : Nat) (p1 : Int32) (σ : CS) : Option (Int64 × CS) :=
 gd (kd σ a0 2) (
 cl2 (fX0_shipAt a0 p1 σ) (fun (x2 : Option Nat) (σ1 : CS) =>
 jn (fun (x3 : Int64) (σ4 : CS) => some (x3, σ4)) (fun (k5 : Int64 → CS → Option (Int64 × CS)) =>
 oc x2 (
 k5 (-9223372036854775808:Int64) σ1) (fun (x6 : Nat) =>
 gd (hf (cK σ1 a0) 28) (
 cl (cFR σ1 a0 28) (fun (x7 : Nat) =>
 gd (kd σ1 x7 20) (
 cl2 (fJ2_get x7 p1 σ1) (fun (x9 : Nat) (σ8 : CS) =>
 gd (kd σ8 x9 11) (
 gd (hf (cK σ8 x9) 83) (
 cl (cFR σ8 x9 83) (fun (x10 : Nat) =>
 gd (kd σ8 x10 4) (
 cl2 (fX2_harm x10 σ8) (fun (x12 : Int64) (σ11 : CS) =>
 k5 x12 σ11)))))))))))))
theorem nX0_harm {a0 : Nat} {p1 : Int32} {σ : CS} : Mn σ (fX0_harm a0 p1 σ) := by
  unfold fX0_harm
  refine Mgd ?_
  refine Mcl2 (nX0_shipAt) (fun x2 σ1 => ?_)
  refine Mjn2 (fun (x3 : Int64) (σ4 : CS) (X13 : Option (Int64 × CS)) => Mn σ4 X13) (fun x3 σ4 => ?_) (fun k5 hk5 => ?_)
  · exact Mret
  · refine Moc ?_ (fun x6 => ?_)
    · exact hk5 (-9223372036854775808:Int64) σ1
    · refine Mgd ?_
      refine Mcl (fun x7 => ?_)
      refine Mgd ?_
      refine Mcl2 (nJ2_get) (fun x9 σ8 => ?_)
      refine Mgd ?_
      refine Mgd ?_
      refine Mcl (fun x10 => ?_)
      refine Mgd ?_
      refine Mcl2 (nX2_harm) (fun x12 σ11 => ?_)
      exact hk5 x12 σ11
set_option maxHeartbeats 4000000 in
set_option maxRecDepth 100000 in
theorem mX0_harm (l : Launch) (E : CE) {a0 : Nat} {p1 : Int32} {σ : CS} {r : Int64} {σz : CS} (hX : fX0_harm a0 p1 σ = some (r, σz)) : MetC l yX0_harm (ws_ yX0_harm cX0_harm 2 (some .long)) 4 85 E σ [.ref a0, .int p1] (some (.long r)) σz := by
  refine MetC.of hX (by decide) (Nat.le_of_ble_eq_true rfl) (nX0_harm _ hX) ?_
  intro p e s m below meth c hx hb hr hml hts hown hlocks hnm hk hz0
  have hK := hk.1
  show J p l e (headSpec (ws_ yX0_harm cX0_harm 2 (some .long)) (rmC 4 85 σ σz)).room s m ([.ref a0, .int p1] : List Value).toArray below meth c 2 E (cZ σ) (cS σ) (MQ below (cQ E (some (.long r)) σz) ([.ref a0, .int p1] : List Value).toArray s (cZ σz - cZ σ) (cS σz - cS σ) (EA E)) (r, σz) (fX0_harm a0 p1 σ) σ 0 [(0, .ref a0), (1, .int p1)] []
  unfold fX0_harm
  refine Jrow (fun H locs ls hH hS hl k => lv_aload_n hx hb dX0_harm_0 rfl (lv_at hl 0 rfl) (k ls hl)) ?_
  refine Jrow (fun H locs ls hH hS hl k => lv_iload_n hx hb dX0_harm_1 rfl (lv_at hl 1 rfl) (k ls hl)) ?_
  refine Jgd (fun hg => ?_)
  refine Jcl2 (fun x2 σ1 hf => ?_)
  refine Jcall (v := (some (va_rf x2))) (rest := []) (mX0_shipAt l E hf).1 ⟨rfl, rfl⟩ (fun H locs ls hH hS hl hR => ⟨_, va_runV (C := RX0) (As := [.int p1]) ⟨hx, hb, hml, hown, hts⟩ (mX0_shipAt l E hf).2 (cwV 1 hts (lw_V q703 q705 qs18 q88 q706) rfl rfl rfl (by decide +kernel) ⟨Nat.le_of_ble_eq_true rfl, Nat.le_of_ble_eq_true rfl⟩) (c_preV (ci := 1) hk hH hS hg rfl) rfl rfl hl.1 rfl (lv_room (Nat.le_of_ble_eq_true rfl)) dX0_harm_2 hR⟩) ?_
  clear hf
  refine Jjn2 (fun (x3 : Int64) (σ4 : CS) X13 => J p l e (headSpec (ws_ yX0_harm cX0_harm 2 (some .long)) (rmC 4 85 σ σz)).room s m ([.ref a0, .int p1] : List Value).toArray below meth c 2 E (cZ σ) (cS σ) (MQ below (cQ E (some (.long r)) σz) ([.ref a0, .int p1] : List Value).toArray s (cZ σz - cZ σ) (cS σz - cS σ) (EA E)) (r, σz) X13 σ4 31 [] [.long x3]) (fun x3 σ4 => ?_) (fun k5 hk5 => ?_)
  · exact Jlret hx hb hr hlocks dX0_harm_31
  · rcases x2 with _ | x6
    · refine Joc0 ?_
      refine Jrow (fun H locs ls hH hS hl k => lv_ifnonnullN hx hb dX0_harm_5 (k ls hl)) ?_
      refine Jrow (fun H locs ls hH hS hl k => lv_ldc2 (v := (-9223372036854775808:Int64)) hx hb hown (hts _ q757) dX0_harm_8 (k ls hl)) ?_
      refine Jrow (fun H locs ls hH hS hl k => lv_goto (tgt := 31) hx hb dX0_harm_11 (by decide) (k ls hl)) ?_
      exact Jsub [] rfl (hk5 (-9223372036854775808:Int64) σ1)
    · refine Joc1 ?_
      refine Jrow (fun H locs ls hH hS hl k => lv_ifnonnull (tgt := 14) hx hb dX0_harm_5 (by decide) (k ls hl)) ?_
      refine Jrow (fun H locs ls hH hS hl k => lv_aload_n hx hb dX0_harm_14 rfl (lv_at hl 0 rfl) (k ls hl)) ?_
      refine Jgd (fun hg => ?_)
      refine Jcl (fun x7 hq => ?_)
      refine Jrow (fun H locs ls hH hS hl k => c_get (F := 28) (v := .ref x7) hx hb hts hown hK hH hg (hts _ q257) (fun _ h => h) (fvR rfl hq) dX0_harm_15 (k ls hl)) ?_
      clear hq
      refine Jrow (fun H locs ls hH hS hl k => lv_iload_n hx hb dX0_harm_18 rfl (lv_at hl 1 rfl) (k ls hl)) ?_
      refine Jgd (fun hg => ?_)
      refine Jcl2 (fun x9 σ8 hf => ?_)
      refine Jcall (v := (some (.ref x9))) (rest := []) (mJ2_get l E hf).1 ⟨rfl, rfl⟩ (fun H locs ls hH hS hl hR => ⟨_, va_runV (C := RJ2) (As := [.int p1]) ⟨hx, hb, hml, hown, hts⟩ (mJ2_get l E hf).2 (cwV 1 hts (lw_V q605 q606 q607 q91 q608) rfl rfl rfl (by decide +kernel) ⟨Nat.le_of_ble_eq_true rfl, Nat.le_of_ble_eq_true rfl⟩) (c_preV (ci := 19) hk hH hS hg rfl) rfl rfl hl.1 rfl (lv_room (Nat.le_of_ble_eq_true rfl)) dX0_harm_19 hR⟩) ?_
      clear hf
      refine Jgd (fun hg => ?_)
      refine Jrow (fun H locs ls hH hS hl k => va_castE hx hb hown (hts _ q664) (c_recv hK hH (ci := 10) hg rfl) dX0_harm_22 (k ls hl)) ?_
      refine Jgd (fun hg => ?_)
      refine Jcl (fun x10 hq => ?_)
      refine Jrow (fun H locs ls hH hS hl k => c_getN (F := 83) (v := .ref x10) hx hb hts hown hK hH hg (cN hk.2.2.1 22 rfl) (fun _ h => h) (fvR rfl hq) dX0_harm_25 (k ls hl)) ?_
      clear hq
      refine Jgd (fun hg => ?_)
      refine Jcl2 (fun x12 σ11 hf => ?_)
      refine Jcall (v := (some (.long x12))) (rest := []) (mX2_harm l E hf).1 ⟨rfl, rfl⟩ (fun H locs ls hH hS hl hR => ⟨_, va_runV (C := RX2) (As := []) ⟨hx, hb, hml, hown, hts⟩ (mX2_harm l E hf).2 (cwV 0 hts (lw_V q758 q759 q760 q93 q761) rfl rfl rfl (by decide +kernel) ⟨Nat.le_of_ble_eq_true rfl, Nat.le_of_ble_eq_true rfl⟩) (c_preV (ci := 3) hk hH hS hg rfl) rfl rfl hl.1 rfl (lv_room (Nat.le_of_ble_eq_true rfl)) dX0_harm_28 hR⟩) ?_
      clear hf
      exact Jsub [] rfl (hk5 x12 σ11)
