/-! printed by gen/comp.py -/
def fX11_isUnder (a0 : Nat) (p1 : Int32) (σ : CS) : Option (Int32 × CS) :=
 jn (fun (x1 : Int32) => gd (isb x1) (some (x1, σ))) (fun (k2 : Int32 → Option (Int32 × CS)) =>
 if p1 = (0:Int32) then
 k2 (1:Int32)
 else
 k2 (0:Int32))
theorem nX11_isUnder {a0 : Nat} {p1 : Int32} {σ : CS} : Mn σ (fX11_isUnder a0 p1 σ) := by
  unfold fX11_isUnder
  refine Mjn1 (fun (x1 : Int32) (X3 : Option (Int32 × CS)) => Mn σ X3) (fun x1 => ?_) (fun k2 hk2 => ?_)
  · refine Mgd ?_
    exact Mret
  · refine Mite ?_ ?_
    · exact hk2 (1:Int32)
    · exact hk2 (0:Int32)
set_option maxHeartbeats 4000000 in
set_option maxRecDepth 100000 in
theorem mX11_isUnder (l : Launch) (E : CE) {a0 : Nat} {p1 : Int32} {σ : CS} {r : Int32} {σz : CS} (hX : fX11_isUnder a0 p1 σ = some (r, σz)) : MetC l yX11_isUnder (ws_ yX11_isUnder cX11_isUnder 2 (some .boolean)) 0 0 E σ [.ref a0, .int p1] (some (.int r)) σz := by
  refine MetC.of hX (by decide) (Nat.le_of_ble_eq_true rfl) (nX11_isUnder _ hX) ?_
  intro p e s m below meth c hx hb hr hml hts hown hlocks hnm hk hz0
  have hK := hk.1
  show J p l e (headSpec (ws_ yX11_isUnder cX11_isUnder 2 (some .boolean)) (rmC 0 0 σ σz)).room s m ([.ref a0, .int p1] : List Value).toArray below meth c 2 E (cZ σ) (cS σ) (MQ below (cQ E (some (.int r)) σz) ([.ref a0, .int p1] : List Value).toArray s (cZ σz - cZ σ) (cS σz - cS σ) (EA E)) (r, σz) (fX11_isUnder a0 p1 σ) σ 0 [(0, .ref a0), (1, .int p1)] []
  unfold fX11_isUnder
  refine Jrow (fun H locs ls hH hS hl k => lv_iload_n hx hb dX11_isUnder_0 rfl (lv_at hl 1 rfl) (k ls hl)) ?_
  refine Jjn1 (fun (x1 : Int32) X3 => J p l e (headSpec (ws_ yX11_isUnder cX11_isUnder 2 (some .boolean)) (rmC 0 0 σ σz)).room s m ([.ref a0, .int p1] : List Value).toArray below meth c 2 E (cZ σ) (cS σ) (MQ below (cQ E (some (.int r)) σz) ([.ref a0, .int p1] : List Value).toArray s (cZ σz - cZ σ) (cS σz - cS σ) (EA E)) (r, σz) X3 σ 9 [] [.int x1]) (fun x1 => ?_) (fun k2 hk2 => ?_)
  · refine Jgd (fun hg => ?_)
    exact Jzret hx hb hr hlocks (isb_n hg) dX11_isUnder_9
  · refine Jite (fun hc => ?_) (fun hc => ?_)
    · refine Jrow (fun H locs ls hH hS hl k => lv_if_ne (tgt := 8) hx hb dX11_isUnder_1 (by decide) (fun h => absurd hc h) (fun _ => (k ls hl))) ?_
      clear hc
      refine Jrow (fun H locs ls hH hS hl k => lv_iconst (v := (1:Int32)) hx hb dX11_isUnder_4 (by decide) (k ls hl)) ?_
      refine Jrow (fun H locs ls hH hS hl k => lv_goto (tgt := 9) hx hb dX11_isUnder_5 (by decide) (k ls hl)) ?_
      exact Jsub [] rfl (hk2 (1:Int32))
    · refine Jrow (fun H locs ls hH hS hl k => lv_if_ne (tgt := 8) hx hb dX11_isUnder_1 (by decide) (fun _ => (k ls hl)) (fun h => absurd h hc)) ?_
      clear hc
      refine Jrow (fun H locs ls hH hS hl k => lv_iconst (v := (0:Int32)) hx hb dX11_isUnder_8 (by decide) (k ls hl)) ?_
      exact Jsub [] rfl (hk2 (0:Int32))

def fX12_isUnder (a0 : Nat) (p1 : Int32) (σ : CS) : Option (Int32 × CS) :=
 jn (fun (x1 : Int32) (σ2 : CS) => gd (isb x1) (some (x1, σ2))) (fun (k3 : Int32 → CS → Option (Int32 × CS)) =>
 jn (fun (σ4 : CS) => k3 (1:Int32) σ4) (fun (k5 : CS → Option (Int32 × CS)) =>
 if p1 = (1:Int32) then
 k5 σ
 else
 gd (kin [13, 14, 15] (cK σ a0)) (
 cl2 (fX11_isUnder a0 p1 σ) (fun (x6 : Int32) (σ7 : CS) =>
 if x6 = (0:Int32) then
 k3 (0:Int32) σ7
 else
 k5 σ7))))
theorem nX12_isUnder {a0 : Nat} {p1 : Int32} {σ : CS} : Mn σ (fX12_isUnder a0 p1 σ) := by
  unfold fX12_isUnder
  refine Mjn2 (fun (x1 : Int32) (σ2 : CS) (X9 : Option (Int32 × CS)) => Mn σ2 X9) (fun x1 σ2 => ?_) (fun k3 hk3 => ?_)
  · refine Mgd ?_
    exact Mret
  · refine Mjn1 (fun (σ4 : CS) (X8 : Option (Int32 × CS)) => Mn σ4 X8) (fun σ4 => ?_) (fun k5 hk5 => ?_)
    · exact hk3 (1:Int32) σ4
    · refine Mite ?_ ?_
      · exact hk5 σ
      · refine Mgd ?_
        refine Mcl2 nX11_isUnder (fun x6 σ7 => ?_)
        refine Mite ?_ ?_
        · exact hk3 (0:Int32) σ7
        · exact hk5 σ7
set_option maxHeartbeats 4000000 in
set_option maxRecDepth 100000 in
theorem mX12_isUnder (l : Launch) (E : CE) {a0 : Nat} {p1 : Int32} {σ : CS} {r : Int32} {σz : CS} (hX : fX12_isUnder a0 p1 σ = some (r, σz)) : MetC l yX12_isUnder (ws_ yX12_isUnder cX12_isUnder 2 (some .boolean)) 1 21 E σ [.ref a0, .int p1] (some (.int r)) σz := by
  refine MetC.of hX (by decide) (Nat.le_of_ble_eq_true rfl) (nX12_isUnder _ hX) ?_
  intro p e s m below meth c hx hb hr hml hts hown hlocks hnm hk hz0
  have hK := hk.1
  show J p l e (headSpec (ws_ yX12_isUnder cX12_isUnder 2 (some .boolean)) (rmC 1 21 σ σz)).room s m ([.ref a0, .int p1] : List Value).toArray below meth c 2 E (cZ σ) (cS σ) (MQ below (cQ E (some (.int r)) σz) ([.ref a0, .int p1] : List Value).toArray s (cZ σz - cZ σ) (cS σz - cS σ) (EA E)) (r, σz) (fX12_isUnder a0 p1 σ) σ 0 [(0, .ref a0), (1, .int p1)] []
  unfold fX12_isUnder
  refine Jrow (fun H locs ls hH hS hl k => lv_iload_n hx hb dX12_isUnder_0 rfl (lv_at hl 1 rfl) (k ls hl)) ?_
  refine Jrow (fun H locs ls hH hS hl k => lv_iconst (v := (1:Int32)) hx hb dX12_isUnder_1 (by decide) (k ls hl)) ?_
  refine Jjn2 (fun (x1 : Int32) (σ2 : CS) X9 => J p l e (headSpec (ws_ yX12_isUnder cX12_isUnder 2 (some .boolean)) (rmC 1 21 σ σz)).room s m ([.ref a0, .int p1] : List Value).toArray below meth c 2 E (cZ σ) (cS σ) (MQ below (cQ E (some (.int r)) σz) ([.ref a0, .int p1] : List Value).toArray s (cZ σz - cZ σ) (cS σz - cS σ) (EA E)) (r, σz) X9 σ2 18 [] [.int x1]) (fun x1 σ2 => ?_) (fun k3 hk3 => ?_)
  · refine Jgd (fun hg => ?_)
    exact Jzret hx hb hr hlocks (isb_n hg) dX12_isUnder_18
  · refine Jjn1 (fun (σ4 : CS) X8 => J p l e (headSpec (ws_ yX12_isUnder cX12_isUnder 2 (some .boolean)) (rmC 1 21 σ σz)).room s m ([.ref a0, .int p1] : List Value).toArray below meth c 2 E (cZ σ) (cS σ) (MQ below (cQ E (some (.int r)) σz) ([.ref a0, .int p1] : List Value).toArray s (cZ σz - cZ σ) (cS σz - cS σ) (EA E)) (r, σz) X8 σ4 13 [] []) (fun σ4 => ?_) (fun k5 hk5 => ?_)
    · refine Jrow (fun H locs ls hH hS hl k => lv_iconst (v := (1:Int32)) hx hb dX12_isUnder_13 (by decide) (k ls hl)) ?_
      refine Jrow (fun H locs ls hH hS hl k => lv_goto (tgt := 18) hx hb dX12_isUnder_14 (by decide) (k ls hl)) ?_
      exact Jsub [] rfl (hk3 (1:Int32) σ4)
    · refine Jite (fun hc => ?_) (fun hc => ?_)
      · refine Jrow (fun H locs ls hH hS hl k => lv_icmp_eq (tgt := 13) hx hb dX12_isUnder_2 (by decide) (fun _ => (k ls hl)) (fun h => absurd hc h)) ?_
        clear hc
        exact Jsub [] rfl (hk5 σ)
      · refine Jrow (fun H locs ls hH hS hl k => lv_icmp_eq (tgt := 13) hx hb dX12_isUnder_2 (by decide) (fun h => absurd h hc) (fun _ => (k ls hl))) ?_
        clear hc
        refine Jrow (fun H locs ls hH hS hl k => lv_aload_n hx hb dX12_isUnder_5 rfl (lv_at hl 0 rfl) (k ls hl)) ?_
        refine Jrow (fun H locs ls hH hS hl k => lv_iload_n hx hb dX12_isUnder_6 rfl (lv_at hl 1 rfl) (k ls hl)) ?_
        refine Jgd (fun hg0 => ?_)
        refine Jcl2 (fun x6 σ7 hf => ?_)
        refine Jcall (v := (some (.int x6))) (rest := []) (mX11_isUnder l E hf).1 ⟨rfl, rfl⟩ (fun H locs ls hH hS hl hR => ?_) ?_
        · rcases kin3 hg0 with hg | hg | hg
          · exact ⟨_, c_runSU (n := 1) (C := RX12) (O := "FortyDays$Rule") (x := ⟨"FortyDays$Rule", "isUnder", "(I)Z"⟩) (As := [.int p1]) (hk.1.1 12 _ rfl).2 ⟨hx, hb, hml, hown, hts⟩ (mX11_isUnder l E hf).2 q1209 q113 q1182 q1195 q1184 q816 (Or.inl rfl) rfl rfl (by decide +kernel) ⟨Nat.le_of_ble_eq_true rfl, Nat.le_of_ble_eq_true rfl⟩ (c_preV (ci := 12) hk hH hS hg rfl) rfl rfl hl.1 rfl (lv_room (Nat.le_of_ble_eq_true rfl)) dX12_isUnder_7 hR⟩
          · exact ⟨_, c_runSU (n := 1) (C := RX13) (O := "FortyDays$Rule") (x := ⟨"FortyDays$Rule", "isUnder", "(I)Z"⟩) (As := [.int p1]) (hk.1.1 13 _ rfl).2 ⟨hx, hb, hml, hown, hts⟩ (mX11_isUnder l E hf).2 q1209 q113 q1182 q1195 q1184 q816 (Or.inl rfl) rfl rfl (by decide +kernel) ⟨Nat.le_of_ble_eq_true rfl, Nat.le_of_ble_eq_true rfl⟩ (c_preV (ci := 13) hk hH hS hg rfl) rfl rfl hl.1 rfl (lv_room (Nat.le_of_ble_eq_true rfl)) dX12_isUnder_7 hR⟩
          · exact ⟨_, c_runSU (n := 1) (C := RX14) (O := "FortyDays$Rule") (x := ⟨"FortyDays$Rule", "isUnder", "(I)Z"⟩) (As := [.int p1]) (hk.1.1 14 _ rfl).2 ⟨hx, hb, hml, hown, hts⟩ (mX11_isUnder l E hf).2 q1209 q113 q1182 q1195 q1184 q816 (Or.inl rfl) rfl rfl (by decide +kernel) ⟨Nat.le_of_ble_eq_true rfl, Nat.le_of_ble_eq_true rfl⟩ (c_preV (ci := 14) hk hH hS hg rfl) rfl rfl hl.1 rfl (lv_room (Nat.le_of_ble_eq_true rfl)) dX12_isUnder_7 hR⟩
        clear hf
        refine Jite (fun hc => ?_) (fun hc => ?_)
        · refine Jrow (fun H locs ls hH hS hl k => lv_if_eq (tgt := 17) hx hb dX12_isUnder_10 (by decide) (fun _ => (k ls hl)) (fun h => absurd hc h)) ?_
          clear hc
          refine Jrow (fun H locs ls hH hS hl k => lv_iconst (v := (0:Int32)) hx hb dX12_isUnder_17 (by decide) (k ls hl)) ?_
          exact Jsub [] rfl (hk3 (0:Int32) σ7)
        · refine Jrow (fun H locs ls hH hS hl k => lv_if_eq (tgt := 17) hx hb dX12_isUnder_10 (by decide) (fun h => absurd h hc) (fun _ => (k ls hl))) ?_
          clear hc
          exact Jsub [] rfl (hk5 σ7)

def fX13_isUnder (a0 : Nat) (p1 : Int32) (σ : CS) : Option (Int32 × CS) :=
 jn (fun (x1 : Int32) (σ2 : CS) => gd (isb x1) (some (x1, σ2))) (fun (k3 : Int32 → CS → Option (Int32 × CS)) =>
 jn (fun (σ4 : CS) => k3 (1:Int32) σ4) (fun (k5 : CS → Option (Int32 × CS)) =>
 if p1 = (2:Int32) then
 k5 σ
 else
 gd (kin [14] (cK σ a0)) (
 cl2 (fX12_isUnder a0 p1 σ) (fun (x6 : Int32) (σ7 : CS) =>
 if x6 = (0:Int32) then
 k3 (0:Int32) σ7
 else
 k5 σ7))))
theorem nX13_isUnder {a0 : Nat} {p1 : Int32} {σ : CS} : Mn σ (fX13_isUnder a0 p1 σ) := by
  unfold fX13_isUnder
  refine Mjn2 (fun (x1 : Int32) (σ2 : CS) (X9 : Option (Int32 × CS)) => Mn σ2 X9) (fun x1 σ2 => ?_) (fun k3 hk3 => ?_)
  · refine Mgd ?_
    exact Mret
  · refine Mjn1 (fun (σ4 : CS) (X8 : Option (Int32 × CS)) => Mn σ4 X8) (fun σ4 => ?_) (fun k5 hk5 => ?_)
    · exact hk3 (1:Int32) σ4
    · refine Mite ?_ ?_
      · exact hk5 σ
      · refine Mgd ?_
        refine Mcl2 nX12_isUnder (fun x6 σ7 => ?_)
        refine Mite ?_ ?_
        · exact hk3 (0:Int32) σ7
        · exact hk5 σ7
set_option maxHeartbeats 4000000 in
set_option maxRecDepth 100000 in
theorem mX13_isUnder (l : Launch) (E : CE) {a0 : Nat} {p1 : Int32} {σ : CS} {r : Int32} {σz : CS} (hX : fX13_isUnder a0 p1 σ = some (r, σz)) : MetC l yX13_isUnder (ws_ yX13_isUnder cX13_isUnder 2 (some .boolean)) 2 42 E σ [.ref a0, .int p1] (some (.int r)) σz := by
  refine MetC.of hX (by decide) (Nat.le_of_ble_eq_true rfl) (nX13_isUnder _ hX) ?_
  intro p e s m below meth c hx hb hr hml hts hown hlocks hnm hk hz0
  have hK := hk.1
  show J p l e (headSpec (ws_ yX13_isUnder cX13_isUnder 2 (some .boolean)) (rmC 2 42 σ σz)).room s m ([.ref a0, .int p1] : List Value).toArray below meth c 2 E (cZ σ) (cS σ) (MQ below (cQ E (some (.int r)) σz) ([.ref a0, .int p1] : List Value).toArray s (cZ σz - cZ σ) (cS σz - cS σ) (EA E)) (r, σz) (fX13_isUnder a0 p1 σ) σ 0 [(0, .ref a0), (1, .int p1)] []
  unfold fX13_isUnder
  refine Jrow (fun H locs ls hH hS hl k => lv_iload_n hx hb dX13_isUnder_0 rfl (lv_at hl 1 rfl) (k ls hl)) ?_
  refine Jrow (fun H locs ls hH hS hl k => lv_iconst (v := (2:Int32)) hx hb dX13_isUnder_1 (by decide) (k ls hl)) ?_
  refine Jjn2 (fun (x1 : Int32) (σ2 : CS) X9 => J p l e (headSpec (ws_ yX13_isUnder cX13_isUnder 2 (some .boolean)) (rmC 2 42 σ σz)).room s m ([.ref a0, .int p1] : List Value).toArray below meth c 2 E (cZ σ) (cS σ) (MQ below (cQ E (some (.int r)) σz) ([.ref a0, .int p1] : List Value).toArray s (cZ σz - cZ σ) (cS σz - cS σ) (EA E)) (r, σz) X9 σ2 18 [] [.int x1]) (fun x1 σ2 => ?_) (fun k3 hk3 => ?_)
  · refine Jgd (fun hg => ?_)
    exact Jzret hx hb hr hlocks (isb_n hg) dX13_isUnder_18
  · refine Jjn1 (fun (σ4 : CS) X8 => J p l e (headSpec (ws_ yX13_isUnder cX13_isUnder 2 (some .boolean)) (rmC 2 42 σ σz)).room s m ([.ref a0, .int p1] : List Value).toArray below meth c 2 E (cZ σ) (cS σ) (MQ below (cQ E (some (.int r)) σz) ([.ref a0, .int p1] : List Value).toArray s (cZ σz - cZ σ) (cS σz - cS σ) (EA E)) (r, σz) X8 σ4 13 [] []) (fun σ4 => ?_) (fun k5 hk5 => ?_)
    · refine Jrow (fun H locs ls hH hS hl k => lv_iconst (v := (1:Int32)) hx hb dX13_isUnder_13 (by decide) (k ls hl)) ?_
      refine Jrow (fun H locs ls hH hS hl k => lv_goto (tgt := 18) hx hb dX13_isUnder_14 (by decide) (k ls hl)) ?_
      exact Jsub [] rfl (hk3 (1:Int32) σ4)
    · refine Jite (fun hc => ?_) (fun hc => ?_)
      · refine Jrow (fun H locs ls hH hS hl k => lv_icmp_eq (tgt := 13) hx hb dX13_isUnder_2 (by decide) (fun _ => (k ls hl)) (fun h => absurd hc h)) ?_
        clear hc
        exact Jsub [] rfl (hk5 σ)
      · refine Jrow (fun H locs ls hH hS hl k => lv_icmp_eq (tgt := 13) hx hb dX13_isUnder_2 (by decide) (fun h => absurd h hc) (fun _ => (k ls hl))) ?_
        clear hc
        refine Jrow (fun H locs ls hH hS hl k => lv_aload_n hx hb dX13_isUnder_5 rfl (lv_at hl 0 rfl) (k ls hl)) ?_
        refine Jrow (fun H locs ls hH hS hl k => lv_iload_n hx hb dX13_isUnder_6 rfl (lv_at hl 1 rfl) (k ls hl)) ?_
        refine Jgd (fun hg0 => ?_)
        refine Jcl2 (fun x6 σ7 hf => ?_)
        refine Jcall (v := (some (.int x6))) (rest := []) (mX12_isUnder l E hf).1 ⟨rfl, rfl⟩ (fun H locs ls hH hS hl hR => ?_) ?_
        · have hg := kin1 hg0
          exact ⟨_, c_runSU (n := 1) (C := RX13) (O := "FortyDays$Days") (x := ⟨"FortyDays$Days", "isUnder", "(I)Z"⟩) (As := [.int p1]) (hk.1.1 13 _ rfl).2 ⟨hx, hb, hml, hown, hts⟩ (mX12_isUnder l E hf).2 q1194 q114 q1193 q1199 q1757 q830 (Or.inl rfl) rfl rfl (by decide +kernel) ⟨Nat.le_of_ble_eq_true rfl, Nat.le_of_ble_eq_true rfl⟩ (c_preV (ci := 13) hk hH hS hg rfl) rfl rfl hl.1 rfl (lv_room (Nat.le_of_ble_eq_true rfl)) dX13_isUnder_7 hR⟩
        clear hf
        refine Jite (fun hc => ?_) (fun hc => ?_)
        · refine Jrow (fun H locs ls hH hS hl k => lv_if_eq (tgt := 17) hx hb dX13_isUnder_10 (by decide) (fun _ => (k ls hl)) (fun h => absurd hc h)) ?_
          clear hc
          refine Jrow (fun H locs ls hH hS hl k => lv_iconst (v := (0:Int32)) hx hb dX13_isUnder_17 (by decide) (k ls hl)) ?_
          exact Jsub [] rfl (hk3 (0:Int32) σ7)
        · refine Jrow (fun H locs ls hH hS hl k => lv_if_eq (tgt := 17) hx hb dX13_isUnder_10 (by decide) (fun h => absurd h hc) (fun _ => (k ls hl))) ?_
          clear hc
          exact Jsub [] rfl (hk5 σ7)

def fX14_isUnder (a0 : Nat) (p1 : Int32) (σ : CS) : Option (Int32 × CS) :=
 jn (fun (x1 : Int32) (σ2 : CS) => gd (isb x1) (some (x1, σ2))) (fun (k3 : Int32 → CS → Option (Int32 × CS)) =>
 jn (fun (σ4 : CS) => k3 (1:Int32) σ4) (fun (k5 : CS → Option (Int32 × CS)) =>
 if p1 = (3:Int32) then
 k5 σ
 else
 gd (kin [15] (cK σ a0)) (
 cl2 (fX12_isUnder a0 p1 σ) (fun (x6 : Int32) (σ7 : CS) =>
 if x6 = (0:Int32) then
 k3 (0:Int32) σ7
 else
 k5 σ7))))
theorem nX14_isUnder {a0 : Nat} {p1 : Int32} {σ : CS} : Mn σ (fX14_isUnder a0 p1 σ) := by
  unfold fX14_isUnder
  refine Mjn2 (fun (x1 : Int32) (σ2 : CS) (X9 : Option (Int32 × CS)) => Mn σ2 X9) (fun x1 σ2 => ?_) (fun k3 hk3 => ?_)
  · refine Mgd ?_
    exact Mret
  · refine Mjn1 (fun (σ4 : CS) (X8 : Option (Int32 × CS)) => Mn σ4 X8) (fun σ4 => ?_) (fun k5 hk5 => ?_)
    · exact hk3 (1:Int32) σ4
    · refine Mite ?_ ?_
      · exact hk5 σ
      · refine Mgd ?_
        refine Mcl2 nX12_isUnder (fun x6 σ7 => ?_)
        refine Mite ?_ ?_
        · exact hk3 (0:Int32) σ7
        · exact hk5 σ7
set_option maxHeartbeats 4000000 in
set_option maxRecDepth 100000 in
theorem mX14_isUnder (l : Launch) (E : CE) {a0 : Nat} {p1 : Int32} {σ : CS} {r : Int32} {σz : CS} (hX : fX14_isUnder a0 p1 σ = some (r, σz)) : MetC l yX14_isUnder (ws_ yX14_isUnder cX14_isUnder 2 (some .boolean)) 2 42 E σ [.ref a0, .int p1] (some (.int r)) σz := by
  refine MetC.of hX (by decide) (Nat.le_of_ble_eq_true rfl) (nX14_isUnder _ hX) ?_
  intro p e s m below meth c hx hb hr hml hts hown hlocks hnm hk hz0
  have hK := hk.1
  show J p l e (headSpec (ws_ yX14_isUnder cX14_isUnder 2 (some .boolean)) (rmC 2 42 σ σz)).room s m ([.ref a0, .int p1] : List Value).toArray below meth c 2 E (cZ σ) (cS σ) (MQ below (cQ E (some (.int r)) σz) ([.ref a0, .int p1] : List Value).toArray s (cZ σz - cZ σ) (cS σz - cS σ) (EA E)) (r, σz) (fX14_isUnder a0 p1 σ) σ 0 [(0, .ref a0), (1, .int p1)] []
  unfold fX14_isUnder
  refine Jrow (fun H locs ls hH hS hl k => lv_iload_n hx hb dX14_isUnder_0 rfl (lv_at hl 1 rfl) (k ls hl)) ?_
  refine Jrow (fun H locs ls hH hS hl k => lv_iconst (v := (3:Int32)) hx hb dX14_isUnder_1 (by decide) (k ls hl)) ?_
  refine Jjn2 (fun (x1 : Int32) (σ2 : CS) X9 => J p l e (headSpec (ws_ yX14_isUnder cX14_isUnder 2 (some .boolean)) (rmC 2 42 σ σz)).room s m ([.ref a0, .int p1] : List Value).toArray below meth c 2 E (cZ σ) (cS σ) (MQ below (cQ E (some (.int r)) σz) ([.ref a0, .int p1] : List Value).toArray s (cZ σz - cZ σ) (cS σz - cS σ) (EA E)) (r, σz) X9 σ2 18 [] [.int x1]) (fun x1 σ2 => ?_) (fun k3 hk3 => ?_)
  · refine Jgd (fun hg => ?_)
    exact Jzret hx hb hr hlocks (isb_n hg) dX14_isUnder_18
  · refine Jjn1 (fun (σ4 : CS) X8 => J p l e (headSpec (ws_ yX14_isUnder cX14_isUnder 2 (some .boolean)) (rmC 2 42 σ σz)).room s m ([.ref a0, .int p1] : List Value).toArray below meth c 2 E (cZ σ) (cS σ) (MQ below (cQ E (some (.int r)) σz) ([.ref a0, .int p1] : List Value).toArray s (cZ σz - cZ σ) (cS σz - cS σ) (EA E)) (r, σz) X8 σ4 13 [] []) (fun σ4 => ?_) (fun k5 hk5 => ?_)
    · refine Jrow (fun H locs ls hH hS hl k => lv_iconst (v := (1:Int32)) hx hb dX14_isUnder_13 (by decide) (k ls hl)) ?_
      refine Jrow (fun H locs ls hH hS hl k => lv_goto (tgt := 18) hx hb dX14_isUnder_14 (by decide) (k ls hl)) ?_
      exact Jsub [] rfl (hk3 (1:Int32) σ4)
    · refine Jite (fun hc => ?_) (fun hc => ?_)
      · refine Jrow (fun H locs ls hH hS hl k => lv_icmp_eq (tgt := 13) hx hb dX14_isUnder_2 (by decide) (fun _ => (k ls hl)) (fun h => absurd hc h)) ?_
        clear hc
        exact Jsub [] rfl (hk5 σ)
      · refine Jrow (fun H locs ls hH hS hl k => lv_icmp_eq (tgt := 13) hx hb dX14_isUnder_2 (by decide) (fun h => absurd h hc) (fun _ => (k ls hl))) ?_
        clear hc
        refine Jrow (fun H locs ls hH hS hl k => lv_aload_n hx hb dX14_isUnder_5 rfl (lv_at hl 0 rfl) (k ls hl)) ?_
        refine Jrow (fun H locs ls hH hS hl k => lv_iload_n hx hb dX14_isUnder_6 rfl (lv_at hl 1 rfl) (k ls hl)) ?_
        refine Jgd (fun hg0 => ?_)
        refine Jcl2 (fun x6 σ7 hf => ?_)
        refine Jcall (v := (some (.int x6))) (rest := []) (mX12_isUnder l E hf).1 ⟨rfl, rfl⟩ (fun H locs ls hH hS hl hR => ?_) ?_
        · have hg := kin1 hg0
          exact ⟨_, c_runSU (n := 1) (C := RX14) (O := "FortyDays$Days") (x := ⟨"FortyDays$Days", "isUnder", "(I)Z"⟩) (As := [.int p1]) (hk.1.1 14 _ rfl).2 ⟨hx, hb, hml, hown, hts⟩ (mX12_isUnder l E hf).2 q1194 q114 q1193 q1203 q1757 q844 (Or.inl rfl) rfl rfl (by decide +kernel) ⟨Nat.le_of_ble_eq_true rfl, Nat.le_of_ble_eq_true rfl⟩ (c_preV (ci := 14) hk hH hS hg rfl) rfl rfl hl.1 rfl (lv_room (Nat.le_of_ble_eq_true rfl)) dX14_isUnder_7 hR⟩
        clear hf
        refine Jite (fun hc => ?_) (fun hc => ?_)
        · refine Jrow (fun H locs ls hH hS hl k => lv_if_eq (tgt := 17) hx hb dX14_isUnder_10 (by decide) (fun _ => (k ls hl)) (fun h => absurd hc h)) ?_
          clear hc
          refine Jrow (fun H locs ls hH hS hl k => lv_iconst (v := (0:Int32)) hx hb dX14_isUnder_17 (by decide) (k ls hl)) ?_
          exact Jsub [] rfl (hk3 (0:Int32) σ7)
        · refine Jrow (fun H locs ls hH hS hl k => lv_if_eq (tgt := 17) hx hb dX14_isUnder_10 (by decide) (fun h => absurd h hc) (fun _ => (k ls hl))) ?_
          clear hc
          exact Jsub [] rfl (hk5 σ7)

def fX15_isUnder (a0 : Nat) (p1 : Int32) (σ : CS) : Option (Int32 × CS) :=
 jn (fun (x1 : Int32) (σ2 : CS) => gd (isb x1) (some (x1, σ2))) (fun (k3 : Int32 → CS → Option (Int32 × CS)) =>
 jn (fun (σ4 : CS) => k3 (1:Int32) σ4) (fun (k5 : CS → Option (Int32 × CS)) =>
 if p1 = (4:Int32) then
 k5 σ
 else
 gd (kin [16, 18] (cK σ a0)) (
 cl2 (fX11_isUnder a0 p1 σ) (fun (x6 : Int32) (σ7 : CS) =>
 if x6 = (0:Int32) then
 k3 (0:Int32) σ7
 else
 k5 σ7))))
theorem nX15_isUnder {a0 : Nat} {p1 : Int32} {σ : CS} : Mn σ (fX15_isUnder a0 p1 σ) := by
  unfold fX15_isUnder
  refine Mjn2 (fun (x1 : Int32) (σ2 : CS) (X9 : Option (Int32 × CS)) => Mn σ2 X9) (fun x1 σ2 => ?_) (fun k3 hk3 => ?_)
  · refine Mgd ?_
    exact Mret
  · refine Mjn1 (fun (σ4 : CS) (X8 : Option (Int32 × CS)) => Mn σ4 X8) (fun σ4 => ?_) (fun k5 hk5 => ?_)
    · exact hk3 (1:Int32) σ4
    · refine Mite ?_ ?_
      · exact hk5 σ
      · refine Mgd ?_
        refine Mcl2 nX11_isUnder (fun x6 σ7 => ?_)
        refine Mite ?_ ?_
        · exact hk3 (0:Int32) σ7
        · exact hk5 σ7
set_option maxHeartbeats 4000000 in
set_option maxRecDepth 100000 in
theorem mX15_isUnder (l : Launch) (E : CE) {a0 : Nat} {p1 : Int32} {σ : CS} {r : Int32} {σz : CS} (hX : fX15_isUnder a0 p1 σ = some (r, σz)) : MetC l yX15_isUnder (ws_ yX15_isUnder cX15_isUnder 2 (some .boolean)) 1 21 E σ [.ref a0, .int p1] (some (.int r)) σz := by
  refine MetC.of hX (by decide) (Nat.le_of_ble_eq_true rfl) (nX15_isUnder _ hX) ?_
  intro p e s m below meth c hx hb hr hml hts hown hlocks hnm hk hz0
  have hK := hk.1
  show J p l e (headSpec (ws_ yX15_isUnder cX15_isUnder 2 (some .boolean)) (rmC 1 21 σ σz)).room s m ([.ref a0, .int p1] : List Value).toArray below meth c 2 E (cZ σ) (cS σ) (MQ below (cQ E (some (.int r)) σz) ([.ref a0, .int p1] : List Value).toArray s (cZ σz - cZ σ) (cS σz - cS σ) (EA E)) (r, σz) (fX15_isUnder a0 p1 σ) σ 0 [(0, .ref a0), (1, .int p1)] []
  unfold fX15_isUnder
  refine Jrow (fun H locs ls hH hS hl k => lv_iload_n hx hb dX15_isUnder_0 rfl (lv_at hl 1 rfl) (k ls hl)) ?_
  refine Jrow (fun H locs ls hH hS hl k => lv_iconst (v := (4:Int32)) hx hb dX15_isUnder_1 (by decide) (k ls hl)) ?_
  refine Jjn2 (fun (x1 : Int32) (σ2 : CS) X9 => J p l e (headSpec (ws_ yX15_isUnder cX15_isUnder 2 (some .boolean)) (rmC 1 21 σ σz)).room s m ([.ref a0, .int p1] : List Value).toArray below meth c 2 E (cZ σ) (cS σ) (MQ below (cQ E (some (.int r)) σz) ([.ref a0, .int p1] : List Value).toArray s (cZ σz - cZ σ) (cS σz - cS σ) (EA E)) (r, σz) X9 σ2 18 [] [.int x1]) (fun x1 σ2 => ?_) (fun k3 hk3 => ?_)
  · refine Jgd (fun hg => ?_)
    exact Jzret hx hb hr hlocks (isb_n hg) dX15_isUnder_18
  · refine Jjn1 (fun (σ4 : CS) X8 => J p l e (headSpec (ws_ yX15_isUnder cX15_isUnder 2 (some .boolean)) (rmC 1 21 σ σz)).room s m ([.ref a0, .int p1] : List Value).toArray below meth c 2 E (cZ σ) (cS σ) (MQ below (cQ E (some (.int r)) σz) ([.ref a0, .int p1] : List Value).toArray s (cZ σz - cZ σ) (cS σz - cS σ) (EA E)) (r, σz) X8 σ4 13 [] []) (fun σ4 => ?_) (fun k5 hk5 => ?_)
    · refine Jrow (fun H locs ls hH hS hl k => lv_iconst (v := (1:Int32)) hx hb dX15_isUnder_13 (by decide) (k ls hl)) ?_
      refine Jrow (fun H locs ls hH hS hl k => lv_goto (tgt := 18) hx hb dX15_isUnder_14 (by decide) (k ls hl)) ?_
      exact Jsub [] rfl (hk3 (1:Int32) σ4)
    · refine Jite (fun hc => ?_) (fun hc => ?_)
      · refine Jrow (fun H locs ls hH hS hl k => lv_icmp_eq (tgt := 13) hx hb dX15_isUnder_2 (by decide) (fun _ => (k ls hl)) (fun h => absurd hc h)) ?_
        clear hc
        exact Jsub [] rfl (hk5 σ)
      · refine Jrow (fun H locs ls hH hS hl k => lv_icmp_eq (tgt := 13) hx hb dX15_isUnder_2 (by decide) (fun h => absurd h hc) (fun _ => (k ls hl))) ?_
        clear hc
        refine Jrow (fun H locs ls hH hS hl k => lv_aload_n hx hb dX15_isUnder_5 rfl (lv_at hl 0 rfl) (k ls hl)) ?_
        refine Jrow (fun H locs ls hH hS hl k => lv_iload_n hx hb dX15_isUnder_6 rfl (lv_at hl 1 rfl) (k ls hl)) ?_
        refine Jgd (fun hg0 => ?_)
        refine Jcl2 (fun x6 σ7 hf => ?_)
        refine Jcall (v := (some (.int x6))) (rest := []) (mX11_isUnder l E hf).1 ⟨rfl, rfl⟩ (fun H locs ls hH hS hl hR => ?_) ?_
        · rcases kin2 hg0 with hg | hg
          · exact ⟨_, c_runSU (n := 1) (C := RX15) (O := "FortyDays$Rule") (x := ⟨"FortyDays$Rule", "isUnder", "(I)Z"⟩) (As := [.int p1]) (hk.1.1 15 _ rfl).2 ⟨hx, hb, hml, hown, hts⟩ (mX11_isUnder l E hf).2 q1209 q113 q1182 q1191 q1184 q857 (Or.inl rfl) rfl rfl (by decide +kernel) ⟨Nat.le_of_ble_eq_true rfl, Nat.le_of_ble_eq_true rfl⟩ (c_preV (ci := 15) hk hH hS hg rfl) rfl rfl hl.1 rfl (lv_room (Nat.le_of_ble_eq_true rfl)) dX15_isUnder_7 hR⟩
          · exact ⟨_, c_runSU (n := 1) (C := RX17) (O := "FortyDays$Rule") (x := ⟨"FortyDays$Rule", "isUnder", "(I)Z"⟩) (As := [.int p1]) (hk.1.1 17 _ rfl).2 ⟨hx, hb, hml, hown, hts⟩ (mX11_isUnder l E hf).2 q1209 q113 q1182 q1191 q1184 q857 (Or.inl rfl) rfl rfl (by decide +kernel) ⟨Nat.le_of_ble_eq_true rfl, Nat.le_of_ble_eq_true rfl⟩ (c_preV (ci := 17) hk hH hS hg rfl) rfl rfl hl.1 rfl (lv_room (Nat.le_of_ble_eq_true rfl)) dX15_isUnder_7 hR⟩
        clear hf
        refine Jite (fun hc => ?_) (fun hc => ?_)
        · refine Jrow (fun H locs ls hH hS hl k => lv_if_eq (tgt := 17) hx hb dX15_isUnder_10 (by decide) (fun _ => (k ls hl)) (fun h => absurd hc h)) ?_
          clear hc
          refine Jrow (fun H locs ls hH hS hl k => lv_iconst (v := (0:Int32)) hx hb dX15_isUnder_17 (by decide) (k ls hl)) ?_
          exact Jsub [] rfl (hk3 (0:Int32) σ7)
        · refine Jrow (fun H locs ls hH hS hl k => lv_if_eq (tgt := 17) hx hb dX15_isUnder_10 (by decide) (fun h => absurd h hc) (fun _ => (k ls hl))) ?_
          clear hc
          exact Jsub [] rfl (hk5 σ7)

def fX16_isUnder (a0 : Nat) (p1 : Int32) (σ : CS) : Option (Int32 × CS) :=
 jn (fun (x1 : Int32) (σ2 : CS) => gd (isb x1) (some (x1, σ2))) (fun (k3 : Int32 → CS → Option (Int32 × CS)) =>
 jn (fun (σ4 : CS) => k3 (1:Int32) σ4) (fun (k5 : CS → Option (Int32 × CS)) =>
 if p1 = (5:Int32) then
 k5 σ
 else
 gd (kin [17] (cK σ a0)) (
 cl2 (fX11_isUnder a0 p1 σ) (fun (x6 : Int32) (σ7 : CS) =>
 if x6 = (0:Int32) then
 k3 (0:Int32) σ7
 else
 k5 σ7))))
theorem nX16_isUnder {a0 : Nat} {p1 : Int32} {σ : CS} : Mn σ (fX16_isUnder a0 p1 σ) := by
  unfold fX16_isUnder
  refine Mjn2 (fun (x1 : Int32) (σ2 : CS) (X9 : Option (Int32 × CS)) => Mn σ2 X9) (fun x1 σ2 => ?_) (fun k3 hk3 => ?_)
  · refine Mgd ?_
    exact Mret
  · refine Mjn1 (fun (σ4 : CS) (X8 : Option (Int32 × CS)) => Mn σ4 X8) (fun σ4 => ?_) (fun k5 hk5 => ?_)
    · exact hk3 (1:Int32) σ4
    · refine Mite ?_ ?_
      · exact hk5 σ
      · refine Mgd ?_
        refine Mcl2 nX11_isUnder (fun x6 σ7 => ?_)
        refine Mite ?_ ?_
        · exact hk3 (0:Int32) σ7
        · exact hk5 σ7
set_option maxHeartbeats 4000000 in
set_option maxRecDepth 100000 in
theorem mX16_isUnder (l : Launch) (E : CE) {a0 : Nat} {p1 : Int32} {σ : CS} {r : Int32} {σz : CS} (hX : fX16_isUnder a0 p1 σ = some (r, σz)) : MetC l yX16_isUnder (ws_ yX16_isUnder cX16_isUnder 2 (some .boolean)) 1 21 E σ [.ref a0, .int p1] (some (.int r)) σz := by
  refine MetC.of hX (by decide) (Nat.le_of_ble_eq_true rfl) (nX16_isUnder _ hX) ?_
  intro p e s m below meth c hx hb hr hml hts hown hlocks hnm hk hz0
  have hK := hk.1
  show J p l e (headSpec (ws_ yX16_isUnder cX16_isUnder 2 (some .boolean)) (rmC 1 21 σ σz)).room s m ([.ref a0, .int p1] : List Value).toArray below meth c 2 E (cZ σ) (cS σ) (MQ below (cQ E (some (.int r)) σz) ([.ref a0, .int p1] : List Value).toArray s (cZ σz - cZ σ) (cS σz - cS σ) (EA E)) (r, σz) (fX16_isUnder a0 p1 σ) σ 0 [(0, .ref a0), (1, .int p1)] []
  unfold fX16_isUnder
  refine Jrow (fun H locs ls hH hS hl k => lv_iload_n hx hb dX16_isUnder_0 rfl (lv_at hl 1 rfl) (k ls hl)) ?_
  refine Jrow (fun H locs ls hH hS hl k => lv_iconst (v := (5:Int32)) hx hb dX16_isUnder_1 (by decide) (k ls hl)) ?_
  refine Jjn2 (fun (x1 : Int32) (σ2 : CS) X9 => J p l e (headSpec (ws_ yX16_isUnder cX16_isUnder 2 (some .boolean)) (rmC 1 21 σ σz)).room s m ([.ref a0, .int p1] : List Value).toArray below meth c 2 E (cZ σ) (cS σ) (MQ below (cQ E (some (.int r)) σz) ([.ref a0, .int p1] : List Value).toArray s (cZ σz - cZ σ) (cS σz - cS σ) (EA E)) (r, σz) X9 σ2 18 [] [.int x1]) (fun x1 σ2 => ?_) (fun k3 hk3 => ?_)
  · refine Jgd (fun hg => ?_)
    exact Jzret hx hb hr hlocks (isb_n hg) dX16_isUnder_18
  · refine Jjn1 (fun (σ4 : CS) X8 => J p l e (headSpec (ws_ yX16_isUnder cX16_isUnder 2 (some .boolean)) (rmC 1 21 σ σz)).room s m ([.ref a0, .int p1] : List Value).toArray below meth c 2 E (cZ σ) (cS σ) (MQ below (cQ E (some (.int r)) σz) ([.ref a0, .int p1] : List Value).toArray s (cZ σz - cZ σ) (cS σz - cS σ) (EA E)) (r, σz) X8 σ4 13 [] []) (fun σ4 => ?_) (fun k5 hk5 => ?_)
    · refine Jrow (fun H locs ls hH hS hl k => lv_iconst (v := (1:Int32)) hx hb dX16_isUnder_13 (by decide) (k ls hl)) ?_
      refine Jrow (fun H locs ls hH hS hl k => lv_goto (tgt := 18) hx hb dX16_isUnder_14 (by decide) (k ls hl)) ?_
      exact Jsub [] rfl (hk3 (1:Int32) σ4)
    · refine Jite (fun hc => ?_) (fun hc => ?_)
      · refine Jrow (fun H locs ls hH hS hl k => lv_icmp_eq (tgt := 13) hx hb dX16_isUnder_2 (by decide) (fun _ => (k ls hl)) (fun h => absurd hc h)) ?_
        clear hc
        exact Jsub [] rfl (hk5 σ)
      · refine Jrow (fun H locs ls hH hS hl k => lv_icmp_eq (tgt := 13) hx hb dX16_isUnder_2 (by decide) (fun h => absurd h hc) (fun _ => (k ls hl))) ?_
        clear hc
        refine Jrow (fun H locs ls hH hS hl k => lv_aload_n hx hb dX16_isUnder_5 rfl (lv_at hl 0 rfl) (k ls hl)) ?_
        refine Jrow (fun H locs ls hH hS hl k => lv_iload_n hx hb dX16_isUnder_6 rfl (lv_at hl 1 rfl) (k ls hl)) ?_
        refine Jgd (fun hg0 => ?_)
        refine Jcl2 (fun x6 σ7 hf => ?_)
        refine Jcall (v := (some (.int x6))) (rest := []) (mX11_isUnder l E hf).1 ⟨rfl, rfl⟩ (fun H locs ls hH hS hl hR => ?_) ?_
        · have hg := kin1 hg0
          exact ⟨_, c_runSU (n := 1) (C := RX16) (O := "FortyDays$Rule") (x := ⟨"FortyDays$Rule", "isUnder", "(I)Z"⟩) (As := [.int p1]) (hk.1.1 16 _ rfl).2 ⟨hx, hb, hml, hown, hts⟩ (mX11_isUnder l E hf).2 q1209 q113 q1182 q1208 q1184 q879 (Or.inl rfl) rfl rfl (by decide +kernel) ⟨Nat.le_of_ble_eq_true rfl, Nat.le_of_ble_eq_true rfl⟩ (c_preV (ci := 16) hk hH hS hg rfl) rfl rfl hl.1 rfl (lv_room (Nat.le_of_ble_eq_true rfl)) dX16_isUnder_7 hR⟩
        clear hf
        refine Jite (fun hc => ?_) (fun hc => ?_)
        · refine Jrow (fun H locs ls hH hS hl k => lv_if_eq (tgt := 17) hx hb dX16_isUnder_10 (by decide) (fun _ => (k ls hl)) (fun h => absurd hc h)) ?_
          clear hc
          refine Jrow (fun H locs ls hH hS hl k => lv_iconst (v := (0:Int32)) hx hb dX16_isUnder_17 (by decide) (k ls hl)) ?_
          exact Jsub [] rfl (hk3 (0:Int32) σ7)
        · refine Jrow (fun H locs ls hH hS hl k => lv_if_eq (tgt := 17) hx hb dX16_isUnder_10 (by decide) (fun h => absurd h hc) (fun _ => (k ls hl))) ?_
          clear hc
          exact Jsub [] rfl (hk5 σ7)

def fX17_isUnder (a0 : Nat) (p1 : Int32) (σ : CS) : Option (Int32 × CS) :=
 jn (fun (x1 : Int32) (σ2 : CS) => gd (isb x1) (some (x1, σ2))) (fun (k3 : Int32 → CS → Option (Int32 × CS)) =>
 jn (fun (σ4 : CS) => k3 (1:Int32) σ4) (fun (k5 : CS → Option (Int32 × CS)) =>
 if p1 = (6:Int32) then
 k5 σ
 else
 gd (kin [18] (cK σ a0)) (
 cl2 (fX15_isUnder a0 p1 σ) (fun (x6 : Int32) (σ7 : CS) =>
 if x6 = (0:Int32) then
 k3 (0:Int32) σ7
 else
 k5 σ7))))
theorem nX17_isUnder {a0 : Nat} {p1 : Int32} {σ : CS} : Mn σ (fX17_isUnder a0 p1 σ) := by
  unfold fX17_isUnder
  refine Mjn2 (fun (x1 : Int32) (σ2 : CS) (X9 : Option (Int32 × CS)) => Mn σ2 X9) (fun x1 σ2 => ?_) (fun k3 hk3 => ?_)
  · refine Mgd ?_
    exact Mret
  · refine Mjn1 (fun (σ4 : CS) (X8 : Option (Int32 × CS)) => Mn σ4 X8) (fun σ4 => ?_) (fun k5 hk5 => ?_)
    · exact hk3 (1:Int32) σ4
    · refine Mite ?_ ?_
      · exact hk5 σ
      · refine Mgd ?_
        refine Mcl2 nX15_isUnder (fun x6 σ7 => ?_)
        refine Mite ?_ ?_
        · exact hk3 (0:Int32) σ7
        · exact hk5 σ7
set_option maxHeartbeats 4000000 in
set_option maxRecDepth 100000 in
theorem mX17_isUnder (l : Launch) (E : CE) {a0 : Nat} {p1 : Int32} {σ : CS} {r : Int32} {σz : CS} (hX : fX17_isUnder a0 p1 σ = some (r, σz)) : MetC l yX17_isUnder (ws_ yX17_isUnder cX17_isUnder 2 (some .boolean)) 2 42 E σ [.ref a0, .int p1] (some (.int r)) σz := by
  refine MetC.of hX (by decide) (Nat.le_of_ble_eq_true rfl) (nX17_isUnder _ hX) ?_
  intro p e s m below meth c hx hb hr hml hts hown hlocks hnm hk hz0
  have hK := hk.1
  show J p l e (headSpec (ws_ yX17_isUnder cX17_isUnder 2 (some .boolean)) (rmC 2 42 σ σz)).room s m ([.ref a0, .int p1] : List Value).toArray below meth c 2 E (cZ σ) (cS σ) (MQ below (cQ E (some (.int r)) σz) ([.ref a0, .int p1] : List Value).toArray s (cZ σz - cZ σ) (cS σz - cS σ) (EA E)) (r, σz) (fX17_isUnder a0 p1 σ) σ 0 [(0, .ref a0), (1, .int p1)] []
  unfold fX17_isUnder
  refine Jrow (fun H locs ls hH hS hl k => lv_iload_n hx hb dX17_isUnder_0 rfl (lv_at hl 1 rfl) (k ls hl)) ?_
  refine Jrow (fun H locs ls hH hS hl k => lv_bipush (v := (6:Int32)) hx hb dX17_isUnder_1 (by decide) (k ls hl)) ?_
  refine Jjn2 (fun (x1 : Int32) (σ2 : CS) X9 => J p l e (headSpec (ws_ yX17_isUnder cX17_isUnder 2 (some .boolean)) (rmC 2 42 σ σz)).room s m ([.ref a0, .int p1] : List Value).toArray below meth c 2 E (cZ σ) (cS σ) (MQ below (cQ E (some (.int r)) σz) ([.ref a0, .int p1] : List Value).toArray s (cZ σz - cZ σ) (cS σz - cS σ) (EA E)) (r, σz) X9 σ2 19 [] [.int x1]) (fun x1 σ2 => ?_) (fun k3 hk3 => ?_)
  · refine Jgd (fun hg => ?_)
    exact Jzret hx hb hr hlocks (isb_n hg) dX17_isUnder_19
  · refine Jjn1 (fun (σ4 : CS) X8 => J p l e (headSpec (ws_ yX17_isUnder cX17_isUnder 2 (some .boolean)) (rmC 2 42 σ σz)).room s m ([.ref a0, .int p1] : List Value).toArray below meth c 2 E (cZ σ) (cS σ) (MQ below (cQ E (some (.int r)) σz) ([.ref a0, .int p1] : List Value).toArray s (cZ σz - cZ σ) (cS σz - cS σ) (EA E)) (r, σz) X8 σ4 14 [] []) (fun σ4 => ?_) (fun k5 hk5 => ?_)
    · refine Jrow (fun H locs ls hH hS hl k => lv_iconst (v := (1:Int32)) hx hb dX17_isUnder_14 (by decide) (k ls hl)) ?_
      refine Jrow (fun H locs ls hH hS hl k => lv_goto (tgt := 19) hx hb dX17_isUnder_15 (by decide) (k ls hl)) ?_
      exact Jsub [] rfl (hk3 (1:Int32) σ4)
    · refine Jite (fun hc => ?_) (fun hc => ?_)
      · refine Jrow (fun H locs ls hH hS hl k => lv_icmp_eq (tgt := 14) hx hb dX17_isUnder_3 (by decide) (fun _ => (k ls hl)) (fun h => absurd hc h)) ?_
        clear hc
        exact Jsub [] rfl (hk5 σ)
      · refine Jrow (fun H locs ls hH hS hl k => lv_icmp_eq (tgt := 14) hx hb dX17_isUnder_3 (by decide) (fun h => absurd h hc) (fun _ => (k ls hl))) ?_
        clear hc
        refine Jrow (fun H locs ls hH hS hl k => lv_aload_n hx hb dX17_isUnder_6 rfl (lv_at hl 0 rfl) (k ls hl)) ?_
        refine Jrow (fun H locs ls hH hS hl k => lv_iload_n hx hb dX17_isUnder_7 rfl (lv_at hl 1 rfl) (k ls hl)) ?_
        refine Jgd (fun hg0 => ?_)
        refine Jcl2 (fun x6 σ7 hf => ?_)
        refine Jcall (v := (some (.int x6))) (rest := []) (mX15_isUnder l E hf).1 ⟨rfl, rfl⟩ (fun H locs ls hH hS hl hR => ?_) ?_
        · have hg := kin1 hg0
          exact ⟨_, c_runSU (n := 1) (C := RX17) (O := "FortyDays$Think") (x := ⟨"FortyDays$Think", "isUnder", "(I)Z"⟩) (As := [.int p1]) (hk.1.1 17 _ rfl).2 ⟨hx, hb, hml, hown, hts⟩ (mX15_isUnder l E hf).2 q1190 q117 q1189 q1188 q1756 q893 (Or.inl rfl) rfl rfl (by decide +kernel) ⟨Nat.le_of_ble_eq_true rfl, Nat.le_of_ble_eq_true rfl⟩ (c_preV (ci := 17) hk hH hS hg rfl) rfl rfl hl.1 rfl (lv_room (Nat.le_of_ble_eq_true rfl)) dX17_isUnder_8 hR⟩
        clear hf
        refine Jite (fun hc => ?_) (fun hc => ?_)
        · refine Jrow (fun H locs ls hH hS hl k => lv_if_eq (tgt := 18) hx hb dX17_isUnder_11 (by decide) (fun _ => (k ls hl)) (fun h => absurd hc h)) ?_
          clear hc
          refine Jrow (fun H locs ls hH hS hl k => lv_iconst (v := (0:Int32)) hx hb dX17_isUnder_18 (by decide) (k ls hl)) ?_
          exact Jsub [] rfl (hk3 (0:Int32) σ7)
        · refine Jrow (fun H locs ls hH hS hl k => lv_if_eq (tgt := 18) hx hb dX17_isUnder_11 (by decide) (fun h => absurd h hc) (fun _ => (k ls hl))) ?_
          clear hc
          exact Jsub [] rfl (hk5 σ7)

def vR_isUnder (a0 : Nat) (p1 : Int32) (σ : CS) : Option (Int32 × CS) := if kd σ a0 12 = true then fX11_isUnder a0 p1 σ else if kd σ a0 13 = true then fX12_isUnder a0 p1 σ else if kd σ a0 14 = true then fX13_isUnder a0 p1 σ else if kd σ a0 15 = true then fX14_isUnder a0 p1 σ else if kd σ a0 16 = true then fX15_isUnder a0 p1 σ else if kd σ a0 17 = true then fX16_isUnder a0 p1 σ else if kd σ a0 18 = true then fX17_isUnder a0 p1 σ else none
theorem nvR_isUnder {a0 : Nat} {p1 : Int32} {σ : CS} : Mn σ (vR_isUnder a0 p1 σ) := Mite nX11_isUnder (Mite nX12_isUnder (Mite nX13_isUnder (Mite nX14_isUnder (Mite nX15_isUnder (Mite nX16_isUnder (Mite nX17_isUnder (Mnone)))))))
theorem vR_isUnder_s (l : Launch) (E : CE) {a0 : Nat} {p1 : Int32} {σ : CS} {r : Int32} {σz : CS} (hX : vR_isUnder a0 p1 σ = some (r, σz)) : (kd σ a0 12 = true ∧ MetC l yX11_isUnder (ws_ yX11_isUnder cX11_isUnder 2 (some .boolean)) 2 42 E σ [.ref a0, .int p1] (some (.int r)) σz) ∨ (kd σ a0 13 = true ∧ MetC l yX12_isUnder (ws_ yX12_isUnder cX12_isUnder 2 (some .boolean)) 2 42 E σ [.ref a0, .int p1] (some (.int r)) σz) ∨ (kd σ a0 14 = true ∧ MetC l yX13_isUnder (ws_ yX13_isUnder cX13_isUnder 2 (some .boolean)) 2 42 E σ [.ref a0, .int p1] (some (.int r)) σz) ∨ (kd σ a0 15 = true ∧ MetC l yX14_isUnder (ws_ yX14_isUnder cX14_isUnder 2 (some .boolean)) 2 42 E σ [.ref a0, .int p1] (some (.int r)) σz) ∨ (kd σ a0 16 = true ∧ MetC l yX15_isUnder (ws_ yX15_isUnder cX15_isUnder 2 (some .boolean)) 2 42 E σ [.ref a0, .int p1] (some (.int r)) σz) ∨ (kd σ a0 17 = true ∧ MetC l yX16_isUnder (ws_ yX16_isUnder cX16_isUnder 2 (some .boolean)) 2 42 E σ [.ref a0, .int p1] (some (.int r)) σz) ∨ (kd σ a0 18 = true ∧ MetC l yX17_isUnder (ws_ yX17_isUnder cX17_isUnder 2 (some .boolean)) 2 42 E σ [.ref a0, .int p1] (some (.int r)) σz) := by
  unfold vR_isUnder at hX
  by_cases h0 : kd σ a0 12 = true
  · exact Or.inl ⟨h0, (mX11_isUnder l E (ipos h0 hX)).lift (by decide) (by decide)⟩
  · replace hX := ineg h0 hX
    by_cases h1 : kd σ a0 13 = true
    · exact Or.inr (Or.inl ⟨h1, (mX12_isUnder l E (ipos h1 hX)).lift (by decide) (by decide)⟩)
    · replace hX := ineg h1 hX
      by_cases h2 : kd σ a0 14 = true
      · exact Or.inr (Or.inr (Or.inl ⟨h2, (mX13_isUnder l E (ipos h2 hX)).lift (by decide) (by decide)⟩))
      · replace hX := ineg h2 hX
        by_cases h3 : kd σ a0 15 = true
        · exact Or.inr (Or.inr (Or.inr (Or.inl ⟨h3, (mX14_isUnder l E (ipos h3 hX)).lift (by decide) (by decide)⟩)))
        · replace hX := ineg h3 hX
          by_cases h4 : kd σ a0 16 = true
          · exact Or.inr (Or.inr (Or.inr (Or.inr (Or.inl ⟨h4, (mX15_isUnder l E (ipos h4 hX)).lift (by decide) (by decide)⟩))))
          · replace hX := ineg h4 hX
            by_cases h5 : kd σ a0 17 = true
            · exact Or.inr (Or.inr (Or.inr (Or.inr (Or.inr (Or.inl ⟨h5, (mX16_isUnder l E (ipos h5 hX)).lift (by decide) (by decide)⟩)))))
            · replace hX := ineg h5 hX
              by_cases h6 : kd σ a0 18 = true
              · exact Or.inr (Or.inr (Or.inr (Or.inr (Or.inr (Or.inr (⟨h6, (mX17_isUnder l E (ipos h6 hX)).lift (by decide) (by decide)⟩))))))
              · replace hX := ineg h6 hX
                cases hX
def fX11_letsIn (a0 : Nat) (p1 : Nat) (p2 : Int32) (σ : CS) : Option (Int32 × CS) :=
 some ((1:Int32), σ)
theorem nX11_letsIn {a0 : Nat} {p1 : Nat} {p2 : Int32} {σ : CS} : Mn σ (fX11_letsIn a0 p1 p2 σ) := by
  unfold fX11_letsIn
  exact Mret
set_option maxHeartbeats 4000000 in
set_option maxRecDepth 100000 in
theorem mX11_letsIn (l : Launch) (E : CE) {a0 : Nat} {p1 : Nat} {p2 : Int32} {σ : CS} {r : Int32} {σz : CS} (hX : fX11_letsIn a0 p1 p2 σ = some (r, σz)) : MetC l yX11_letsIn (ws_ yX11_letsIn cX11_letsIn 3 (some .boolean)) 0 0 E σ [.ref a0, .ref p1, .int p2] (some (.int r)) σz := by
  refine MetC.of hX (by decide) (Nat.le_of_ble_eq_true rfl) (nX11_letsIn _ hX) ?_
  intro p e s m below meth c hx hb hr hml hts hown hlocks hnm hk hz0
  have hK := hk.1
  show J p l e (headSpec (ws_ yX11_letsIn cX11_letsIn 3 (some .boolean)) (rmC 0 0 σ σz)).room s m ([.ref a0, .ref p1, .int p2] : List Value).toArray below meth c 3 E (cZ σ) (cS σ) (MQ below (cQ E (some (.int r)) σz) ([.ref a0, .ref p1, .int p2] : List Value).toArray s (cZ σz - cZ σ) (cS σz - cS σ) (EA E)) (r, σz) (fX11_letsIn a0 p1 p2 σ) σ 0 [(0, .ref a0), (1, .ref p1), (2, .int p2)] []
  unfold fX11_letsIn
  refine Jrow (fun H locs ls hH hS hl k => lv_iconst (v := (1:Int32)) hx hb dX11_letsIn_0 (by decide) (k ls hl)) ?_
  exact Jzret hx hb hr hlocks rfl dX11_letsIn_1

def fX12_letsIn (a0 : Nat) (p1 : Nat) (p2 : Int32) (σ : CS) : Option (Int32 × CS) :=
 gd (hf (cK σ a0) 85) (
 jn (fun (x1 : Int32) => gd (isb x1) (some (x1, σ))) (fun (k2 : Int32 → Option (Int32 × CS)) =>
 if p2 < (cFI σ a0 85) then
 k2 (0:Int32)
 else
 k2 (1:Int32)))
theorem nX12_letsIn {a0 : Nat} {p1 : Nat} {p2 : Int32} {σ : CS} : Mn σ (fX12_letsIn a0 p1 p2 σ) := by
  unfold fX12_letsIn
  refine Mgd ?_
  refine Mjn1 (fun (x1 : Int32) (X3 : Option (Int32 × CS)) => Mn σ X3) (fun x1 => ?_) (fun k2 hk2 => ?_)
  · refine Mgd ?_
    exact Mret
  · refine Mite ?_ ?_
    · exact hk2 (0:Int32)
    · exact hk2 (1:Int32)
set_option maxHeartbeats 4000000 in
set_option maxRecDepth 100000 in
theorem mX12_letsIn (l : Launch) (E : CE) {a0 : Nat} {p1 : Nat} {p2 : Int32} {σ : CS} {r : Int32} {σz : CS} (hX : fX12_letsIn a0 p1 p2 σ = some (r, σz)) : MetC l yX12_letsIn (ws_ yX12_letsIn cX12_letsIn 3 (some .boolean)) 0 0 E σ [.ref a0, .ref p1, .int p2] (some (.int r)) σz := by
  refine MetC.of hX (by decide) (Nat.le_of_ble_eq_true rfl) (nX12_letsIn _ hX) ?_
  intro p e s m below meth c hx hb hr hml hts hown hlocks hnm hk hz0
  have hK := hk.1
  show J p l e (headSpec (ws_ yX12_letsIn cX12_letsIn 3 (some .boolean)) (rmC 0 0 σ σz)).room s m ([.ref a0, .ref p1, .int p2] : List Value).toArray below meth c 3 E (cZ σ) (cS σ) (MQ below (cQ E (some (.int r)) σz) ([.ref a0, .ref p1, .int p2] : List Value).toArray s (cZ σz - cZ σ) (cS σz - cS σ) (EA E)) (r, σz) (fX12_letsIn a0 p1 p2 σ) σ 0 [(0, .ref a0), (1, .ref p1), (2, .int p2)] []
  unfold fX12_letsIn
  refine Jrow (fun H locs ls hH hS hl k => lv_iload_n hx hb dX12_letsIn_0 rfl (lv_at hl 2 rfl) (k ls hl)) ?_
  refine Jrow (fun H locs ls hH hS hl k => lv_aload_n hx hb dX12_letsIn_1 rfl (lv_at hl 0 rfl) (k ls hl)) ?_
  refine Jgd (fun hg => ?_)
  refine Jrow (fun H locs ls hH hS hl k => c_get (F := 85) (v := .int (cFI σ a0 85)) hx hb hts hown hK hH hg (hts _ q785) (u_same (hts _ q786)) rfl dX12_letsIn_2 (k ls hl)) ?_
  refine Jjn1 (fun (x1 : Int32) X3 => J p l e (headSpec (ws_ yX12_letsIn cX12_letsIn 3 (some .boolean)) (rmC 0 0 σ σz)).room s m ([.ref a0, .ref p1, .int p2] : List Value).toArray below meth c 3 E (cZ σ) (cS σ) (MQ below (cQ E (some (.int r)) σz) ([.ref a0, .ref p1, .int p2] : List Value).toArray s (cZ σz - cZ σ) (cS σz - cS σ) (EA E)) (r, σz) X3 σ 13 [] [.int x1]) (fun x1 => ?_) (fun k2 hk2 => ?_)
  · refine Jgd (fun hg => ?_)
    exact Jzret hx hb hr hlocks (isb_n hg) dX12_letsIn_13
  · refine Jite (fun hc => ?_) (fun hc => ?_)
    · refine Jrow (fun H locs ls hH hS hl k => lv_icmp_lt (tgt := 12) hx hb dX12_letsIn_5 (by decide) (fun _ => (k ls hl)) (fun h => absurd hc h)) ?_
      clear hc
      refine Jrow (fun H locs ls hH hS hl k => lv_iconst (v := (0:Int32)) hx hb dX12_letsIn_12 (by decide) (k ls hl)) ?_
      exact Jsub [] rfl (hk2 (0:Int32))
    · refine Jrow (fun H locs ls hH hS hl k => lv_icmp_lt (tgt := 12) hx hb dX12_letsIn_5 (by decide) (fun h => absurd h hc) (fun _ => (k ls hl))) ?_
      clear hc
      refine Jrow (fun H locs ls hH hS hl k => lv_iconst (v := (1:Int32)) hx hb dX12_letsIn_8 (by decide) (k ls hl)) ?_
      refine Jrow (fun H locs ls hH hS hl k => lv_goto (tgt := 13) hx hb dX12_letsIn_9 (by decide) (k ls hl)) ?_
      exact Jsub [] rfl (hk2 (1:Int32))

def fX13_letsIn (a0 : Nat) (p1 : Nat) (p2 : Int32) (σ : CS) : Option (Int32 × CS) :=
 gd (hf (cK σ a0) 85) (
 gd (hf (cK σ p1) 52) (
 jn (fun (x1 : Int32) => gd (isb x1) (some (x1, σ))) (fun (k2 : Int32 → Option (Int32 × CS)) =>
 if p2 < ((cFI σ a0 85) * (cFI σ p1 52)) then
 k2 (0:Int32)
 else
 k2 (1:Int32))))
theorem nX13_letsIn {a0 : Nat} {p1 : Nat} {p2 : Int32} {σ : CS} : Mn σ (fX13_letsIn a0 p1 p2 σ) := by
  unfold fX13_letsIn
  refine Mgd ?_
  refine Mgd ?_
  refine Mjn1 (fun (x1 : Int32) (X3 : Option (Int32 × CS)) => Mn σ X3) (fun x1 => ?_) (fun k2 hk2 => ?_)
  · refine Mgd ?_
    exact Mret
  · refine Mite ?_ ?_
    · exact hk2 (0:Int32)
    · exact hk2 (1:Int32)
set_option maxHeartbeats 4000000 in
set_option maxRecDepth 100000 in
theorem mX13_letsIn (l : Launch) (E : CE) {a0 : Nat} {p1 : Nat} {p2 : Int32} {σ : CS} {r : Int32} {σz : CS} (hX : fX13_letsIn a0 p1 p2 σ = some (r, σz)) : MetC l yX13_letsIn (ws_ yX13_letsIn cX13_letsIn 3 (some .boolean)) 0 0 E σ [.ref a0, .ref p1, .int p2] (some (.int r)) σz := by
  refine MetC.of hX (by decide) (Nat.le_of_ble_eq_true rfl) (nX13_letsIn _ hX) ?_
  intro p e s m below meth c hx hb hr hml hts hown hlocks hnm hk hz0
  have hK := hk.1
  show J p l e (headSpec (ws_ yX13_letsIn cX13_letsIn 3 (some .boolean)) (rmC 0 0 σ σz)).room s m ([.ref a0, .ref p1, .int p2] : List Value).toArray below meth c 3 E (cZ σ) (cS σ) (MQ below (cQ E (some (.int r)) σz) ([.ref a0, .ref p1, .int p2] : List Value).toArray s (cZ σz - cZ σ) (cS σz - cS σ) (EA E)) (r, σz) (fX13_letsIn a0 p1 p2 σ) σ 0 [(0, .ref a0), (1, .ref p1), (2, .int p2)] []
  unfold fX13_letsIn
  refine Jrow (fun H locs ls hH hS hl k => lv_iload_n hx hb dX13_letsIn_0 rfl (lv_at hl 2 rfl) (k ls hl)) ?_
  refine Jrow (fun H locs ls hH hS hl k => lv_aload_n hx hb dX13_letsIn_1 rfl (lv_at hl 0 rfl) (k ls hl)) ?_
  refine Jgd (fun hg => ?_)
  refine Jrow (fun H locs ls hH hS hl k => c_get (F := 85) (v := .int (cFI σ a0 85)) hx hb hts hown hK hH hg (hts _ q787) (u_same (hts _ q788)) rfl dX13_letsIn_2 (k ls hl)) ?_
  refine Jrow (fun H locs ls hH hS hl k => lv_aload_n hx hb dX13_letsIn_5 rfl (lv_at hl 1 rfl) (k ls hl)) ?_
  refine Jgd (fun hg => ?_)
  refine Jrow (fun H locs ls hH hS hl k => c_getN (F := 52) (v := .int (cFI σ p1 52)) hx hb hts hown hK hH hg (cN hk.2.2.1 50 rfl) (fun _ h => h) rfl dX13_letsIn_6 (k ls hl)) ?_
  refine Jrow (fun H locs ls hH hS hl k => lv_imul hx hb dX13_letsIn_9 (k ls hl)) ?_
  refine Jjn1 (fun (x1 : Int32) X3 => J p l e (headSpec (ws_ yX13_letsIn cX13_letsIn 3 (some .boolean)) (rmC 0 0 σ σz)).room s m ([.ref a0, .ref p1, .int p2] : List Value).toArray below meth c 3 E (cZ σ) (cS σ) (MQ below (cQ E (some (.int r)) σz) ([.ref a0, .ref p1, .int p2] : List Value).toArray s (cZ σz - cZ σ) (cS σz - cS σ) (EA E)) (r, σz) X3 σ 18 [] [.int x1]) (fun x1 => ?_) (fun k2 hk2 => ?_)
  · refine Jgd (fun hg => ?_)
    exact Jzret hx hb hr hlocks (isb_n hg) dX13_letsIn_18
  · refine Jite (fun hc => ?_) (fun hc => ?_)
    · refine Jrow (fun H locs ls hH hS hl k => lv_icmp_lt (tgt := 17) hx hb dX13_letsIn_10 (by decide) (fun _ => (k ls hl)) (fun h => absurd hc h)) ?_
      clear hc
      refine Jrow (fun H locs ls hH hS hl k => lv_iconst (v := (0:Int32)) hx hb dX13_letsIn_17 (by decide) (k ls hl)) ?_
      exact Jsub [] rfl (hk2 (0:Int32))
    · refine Jrow (fun H locs ls hH hS hl k => lv_icmp_lt (tgt := 17) hx hb dX13_letsIn_10 (by decide) (fun h => absurd h hc) (fun _ => (k ls hl))) ?_
      clear hc
      refine Jrow (fun H locs ls hH hS hl k => lv_iconst (v := (1:Int32)) hx hb dX13_letsIn_13 (by decide) (k ls hl)) ?_
      refine Jrow (fun H locs ls hH hS hl k => lv_goto (tgt := 18) hx hb dX13_letsIn_14 (by decide) (k ls hl)) ?_
      exact Jsub [] rfl (hk2 (1:Int32))

def fX15_letsIn (a0 : Nat) (p1 : Nat) (p2 : Int32) (σ : CS) : Option (Int32 × CS) :=
 gd (kd σ p1 4) (
 cl2 (fX2_ill p1 σ) (fun (x2 : Int32) (σ1 : CS) =>
 gd (hf (cK σ1 a0) 85) (
 jn (fun (x3 : Int32) => gd (isb x3) (some (x3, σ1))) (fun (k4 : Int32 → Option (Int32 × CS)) =>
 if ((cFI σ1 a0 85) * (1000:Int32)) ≤ x2 then
 k4 (0:Int32)
 else
 k4 (1:Int32)))))
theorem nX15_letsIn {a0 : Nat} {p1 : Nat} {p2 : Int32} {σ : CS} : Mn σ (fX15_letsIn a0 p1 p2 σ) := by
  unfold fX15_letsIn
  refine Mgd ?_
  refine Mcl2 (nX2_ill) (fun x2 σ1 => ?_)
  refine Mgd ?_
  refine Mjn1 (fun (x3 : Int32) (X5 : Option (Int32 × CS)) => Mn σ1 X5) (fun x3 => ?_) (fun k4 hk4 => ?_)
  · refine Mgd ?_
    exact Mret
  · refine Mite ?_ ?_
    · exact hk4 (0:Int32)
    · exact hk4 (1:Int32)
set_option maxHeartbeats 4000000 in
set_option maxRecDepth 100000 in
theorem mX15_letsIn (l : Launch) (E : CE) {a0 : Nat} {p1 : Nat} {p2 : Int32} {σ : CS} {r : Int32} {σz : CS} (hX : fX15_letsIn a0 p1 p2 σ = some (r, σz)) : MetC l yX15_letsIn (ws_ yX15_letsIn cX15_letsIn 3 (some .boolean)) 1 20 E σ [.ref a0, .ref p1, .int p2] (some (.int r)) σz := by
  refine MetC.of hX (by decide) (Nat.le_of_ble_eq_true rfl) (nX15_letsIn _ hX) ?_
  intro p e s m below meth c hx hb hr hml hts hown hlocks hnm hk hz0
  have hK := hk.1
  show J p l e (headSpec (ws_ yX15_letsIn cX15_letsIn 3 (some .boolean)) (rmC 1 20 σ σz)).room s m ([.ref a0, .ref p1, .int p2] : List Value).toArray below meth c 3 E (cZ σ) (cS σ) (MQ below (cQ E (some (.int r)) σz) ([.ref a0, .ref p1, .int p2] : List Value).toArray s (cZ σz - cZ σ) (cS σz - cS σ) (EA E)) (r, σz) (fX15_letsIn a0 p1 p2 σ) σ 0 [(0, .ref a0), (1, .ref p1), (2, .int p2)] []
  unfold fX15_letsIn
  refine Jrow (fun H locs ls hH hS hl k => lv_aload_n hx hb dX15_letsIn_0 rfl (lv_at hl 1 rfl) (k ls hl)) ?_
  refine Jgd (fun hg => ?_)
  refine Jcl2 (fun x2 σ1 hf => ?_)
  refine Jcall (v := (some (.int x2))) (rest := []) (mX2_ill l E hf).1 ⟨rfl, rfl⟩ (fun H locs ls hH hS hl hR => ⟨_, va_runV (C := RX2) (As := []) ⟨hx, hb, hml, hown, hts⟩ (mX2_ill l E hf).2 (cwV 0 hts (lw_V q952 q717 q718 q93 q719) rfl rfl rfl (by decide +kernel) ⟨Nat.le_of_ble_eq_true rfl, Nat.le_of_ble_eq_true rfl⟩) (c_preV (ci := 3) hk hH hS hg rfl) rfl rfl hl.1 rfl (lv_room (Nat.le_of_ble_eq_true rfl)) dX15_letsIn_1 hR⟩) ?_
  clear hf
  refine Jrow (fun H locs ls hH hS hl k => lv_aload_n hx hb dX15_letsIn_4 rfl (lv_at hl 0 rfl) (k ls hl)) ?_
  refine Jgd (fun hg => ?_)
  refine Jrow (fun H locs ls hH hS hl k => c_get (F := 85) (v := .int (cFI σ1 a0 85)) hx hb hts hown hK hH hg (hts _ q791) (u_same (hts _ q792)) rfl dX15_letsIn_5 (k ls hl)) ?_
  refine Jrow (fun H locs ls hH hS hl k => lv_sipush (v := (1000:Int32)) hx hb dX15_letsIn_8 (by decide) (k ls hl)) ?_
  refine Jrow (fun H locs ls hH hS hl k => lv_imul hx hb dX15_letsIn_11 (k ls hl)) ?_
  refine Jjn1 (fun (x3 : Int32) X5 => J p l e (headSpec (ws_ yX15_letsIn cX15_letsIn 3 (some .boolean)) (rmC 1 20 σ σz)).room s m ([.ref a0, .ref p1, .int p2] : List Value).toArray below meth c 3 E (cZ σ) (cS σ) (MQ below (cQ E (some (.int r)) σz) ([.ref a0, .ref p1, .int p2] : List Value).toArray s (cZ σz - cZ σ) (cS σz - cS σ) (EA E)) (r, σz) X5 σ1 20 [] [.int x3]) (fun x3 => ?_) (fun k4 hk4 => ?_)
  · refine Jgd (fun hg => ?_)
    exact Jzret hx hb hr hlocks (isb_n hg) dX15_letsIn_20
  · refine Jite (fun hc => ?_) (fun hc => ?_)
    · refine Jrow (fun H locs ls hH hS hl k => lv_icmp_ge (tgt := 19) hx hb dX15_letsIn_12 (by decide) (fun _ => (k ls hl)) (fun h => absurd hc h)) ?_
      clear hc
      refine Jrow (fun H locs ls hH hS hl k => lv_iconst (v := (0:Int32)) hx hb dX15_letsIn_19 (by decide) (k ls hl)) ?_
      exact Jsub [] rfl (hk4 (0:Int32))
    · refine Jrow (fun H locs ls hH hS hl k => lv_icmp_ge (tgt := 19) hx hb dX15_letsIn_12 (by decide) (fun h => absurd h hc) (fun _ => (k ls hl))) ?_
      clear hc
      refine Jrow (fun H locs ls hH hS hl k => lv_iconst (v := (1:Int32)) hx hb dX15_letsIn_15 (by decide) (k ls hl)) ?_
      refine Jrow (fun H locs ls hH hS hl k => lv_goto (tgt := 20) hx hb dX15_letsIn_16 (by decide) (k ls hl)) ?_
      exact Jsub [] rfl (hk4 (1:Int32))

def fX16_letsIn (a0 : Nat) (p1 : Nat) (p2 : Int32) (σ : CS) : Option (Int32 × CS) :=
 gd (hf (cK σ a0) 92) (
 jn (fun (x1 : Int32) => gd (isb x1) (some (x1, σ))) (fun (k2 : Int32 → Option (Int32 × CS)) =>
 jn (k2 (1:Int32)) (fun (k3 : Option (Int32 × CS)) =>
 if (cFI σ a0 92) ≤ p2 then
 k3
 else
 gd (hf (cK σ a0) 91) (
 cl (cFR σ a0 91) (fun (x4 : Nat) =>
 gd (kd σ x4 101) (
 gd (ib p2 (cLN σ x4)) (
 if (cAI σ x4 p2.toNatClampNeg) = (1:Int32) then
 k3
 else
 k2 (0:Int32))))))))
theorem nX16_letsIn {a0 : Nat} {p1 : Nat} {p2 : Int32} {σ : CS} : Mn σ (fX16_letsIn a0 p1 p2 σ) := by
  unfold fX16_letsIn
  refine Mgd ?_
  refine Mjn1 (fun (x1 : Int32) (X6 : Option (Int32 × CS)) => Mn σ X6) (fun x1 => ?_) (fun k2 hk2 => ?_)
  · refine Mgd ?_
    exact Mret
  · refine Mjn0 (fun  (X5 : Option (Int32 × CS)) => Mn σ X5) (?_) (fun k3 hk3 => ?_)
    · exact hk2 (1:Int32)
    · refine Mite ?_ ?_
      · exact hk3
      · refine Mgd ?_
        refine Mcl (fun x4 => ?_)
        refine Mgd ?_
        refine Mgd ?_
        refine Mite ?_ ?_
        · exact hk3
        · exact hk2 (0:Int32)
set_option maxHeartbeats 4000000 in
set_option maxRecDepth 100000 in
theorem mX16_letsIn (l : Launch) (E : CE) {a0 : Nat} {p1 : Nat} {p2 : Int32} {σ : CS} {r : Int32} {σz : CS} (hX : fX16_letsIn a0 p1 p2 σ = some (r, σz)) : MetC l yX16_letsIn (ws_ yX16_letsIn cX16_letsIn 3 (some .boolean)) 0 0 E σ [.ref a0, .ref p1, .int p2] (some (.int r)) σz := by
  refine MetC.of hX (by decide) (Nat.le_of_ble_eq_true rfl) (nX16_letsIn _ hX) ?_
  intro p e s m below meth c hx hb hr hml hts hown hlocks hnm hk hz0
  have hK := hk.1
  show J p l e (headSpec (ws_ yX16_letsIn cX16_letsIn 3 (some .boolean)) (rmC 0 0 σ σz)).room s m ([.ref a0, .ref p1, .int p2] : List Value).toArray below meth c 3 E (cZ σ) (cS σ) (MQ below (cQ E (some (.int r)) σz) ([.ref a0, .ref p1, .int p2] : List Value).toArray s (cZ σz - cZ σ) (cS σz - cS σ) (EA E)) (r, σz) (fX16_letsIn a0 p1 p2 σ) σ 0 [(0, .ref a0), (1, .ref p1), (2, .int p2)] []
  unfold fX16_letsIn
  refine Jrow (fun H locs ls hH hS hl k => lv_iload_n hx hb dX16_letsIn_0 rfl (lv_at hl 2 rfl) (k ls hl)) ?_
  refine Jrow (fun H locs ls hH hS hl k => lv_aload_n hx hb dX16_letsIn_1 rfl (lv_at hl 0 rfl) (k ls hl)) ?_
  refine Jgd (fun hg => ?_)
  refine Jrow (fun H locs ls hH hS hl k => c_get (F := 92) (v := .int (cFI σ a0 92)) hx hb hts hown hK hH hg (hts _ q867) (fun _ h => h) rfl dX16_letsIn_2 (k ls hl)) ?_
  refine Jjn1 (fun (x1 : Int32) X6 => J p l e (headSpec (ws_ yX16_letsIn cX16_letsIn 3 (some .boolean)) (rmC 0 0 σ σz)).room s m ([.ref a0, .ref p1, .int p2] : List Value).toArray below meth c 3 E (cZ σ) (cS σ) (MQ below (cQ E (some (.int r)) σz) ([.ref a0, .ref p1, .int p2] : List Value).toArray s (cZ σz - cZ σ) (cS σz - cS σ) (EA E)) (r, σz) X6 σ 23 [] [.int x1]) (fun x1 => ?_) (fun k2 hk2 => ?_)
  · refine Jgd (fun hg => ?_)
    exact Jzret hx hb hr hlocks (isb_n hg) dX16_letsIn_23
  · refine Jjn0 (fun  X5 => J p l e (headSpec (ws_ yX16_letsIn cX16_letsIn 3 (some .boolean)) (rmC 0 0 σ σz)).room s m ([.ref a0, .ref p1, .int p2] : List Value).toArray below meth c 3 E (cZ σ) (cS σ) (MQ below (cQ E (some (.int r)) σz) ([.ref a0, .ref p1, .int p2] : List Value).toArray s (cZ σz - cZ σ) (cS σz - cS σ) (EA E)) (r, σz) X5 σ 18 [] []) (?_) (fun k3 hk3 => ?_)
    · refine Jrow (fun H locs ls hH hS hl k => lv_iconst (v := (1:Int32)) hx hb dX16_letsIn_18 (by decide) (k ls hl)) ?_
      refine Jrow (fun H locs ls hH hS hl k => lv_goto (tgt := 23) hx hb dX16_letsIn_19 (by decide) (k ls hl)) ?_
      exact Jsub [] rfl (hk2 (1:Int32))
    · refine Jite (fun hc => ?_) (fun hc => ?_)
      · refine Jrow (fun H locs ls hH hS hl k => lv_icmp_ge (tgt := 18) hx hb dX16_letsIn_5 (by decide) (fun _ => (k ls hl)) (fun h => absurd hc h)) ?_
        clear hc
        exact Jsub [] rfl (hk3)
      · refine Jrow (fun H locs ls hH hS hl k => lv_icmp_ge (tgt := 18) hx hb dX16_letsIn_5 (by decide) (fun h => absurd h hc) (fun _ => (k ls hl))) ?_
        clear hc
        refine Jrow (fun H locs ls hH hS hl k => lv_aload_n hx hb dX16_letsIn_8 rfl (lv_at hl 0 rfl) (k ls hl)) ?_
        refine Jgd (fun hg => ?_)
        refine Jcl (fun x4 hq => ?_)
        refine Jrow (fun H locs ls hH hS hl k => c_get (F := 91) (v := .ref x4) hx hb hts hown hK hH hg (hts _ q864) (fun _ h => h) (fvR rfl hq) dX16_letsIn_9 (k ls hl)) ?_
        clear hq
        refine Jrow (fun H locs ls hH hS hl k => lv_iload_n hx hb dX16_letsIn_12 rfl (lv_at hl 2 rfl) (k ls hl)) ?_
        refine Jgd (fun hk1 => ?_)
        refine Jgd (fun hg => ?_)
        refine Jrow (fun H locs ls hH hS hl k => c_iald hx hb hK hH hk1 hg dX16_letsIn_13 (k ls hl)) ?_
        refine Jrow (fun H locs ls hH hS hl k => lv_iconst (v := (1:Int32)) hx hb dX16_letsIn_14 (by decide) (k ls hl)) ?_
        refine Jite (fun hc => ?_) (fun hc => ?_)
        · refine Jrow (fun H locs ls hH hS hl k => lv_icmp_ne (tgt := 22) hx hb dX16_letsIn_15 (by decide) (fun h => absurd hc h) (fun _ => (k ls hl))) ?_
          clear hc
          exact Jsub [] rfl (hk3)
        · refine Jrow (fun H locs ls hH hS hl k => lv_icmp_ne (tgt := 22) hx hb dX16_letsIn_15 (by decide) (fun _ => (k ls hl)) (fun h => absurd h hc)) ?_
          clear hc
          refine Jrow (fun H locs ls hH hS hl k => lv_iconst (v := (0:Int32)) hx hb dX16_letsIn_22 (by decide) (k ls hl)) ?_
          exact Jsub [] rfl (hk2 (0:Int32))

def fX17_letsIn (a0 : Nat) (p1 : Nat) (p2 : Int32) (σ : CS) : Option (Int32 × CS) :=
 gd (hf (cK σ a0) 94) (
 cl (cFR σ a0 94) (fun (x1 : Nat) =>
 gd (hf (cK σ x1) 37) (
 cl (cFR σ x1 37) (fun (x2 : Nat) =>
 gd (hf (cK σ a0) 85) (
 gd (kd σ x2 5) (
 cl2 (fX3_isBestFor x2 p1 p2 ((1:Int32) + ((cFI σ a0 85) - (cFI σ a0 85) / (9:Int32) * (9:Int32))) σ) (fun (x4 : Int32) (σ3 : CS) =>
 gd (isb x4) (some (x4, σ3)))))))))
theorem nX17_letsIn {a0 : Nat} {p1 : Nat} {p2 : Int32} {σ : CS} : Mn σ (fX17_letsIn a0 p1 p2 σ) := by
  unfold fX17_letsIn
  refine Mgd ?_
  refine Mcl (fun x1 => ?_)
  refine Mgd ?_
  refine Mcl (fun x2 => ?_)
  refine Mgd ?_
  refine Mgd ?_
  refine Mcl2 (nX3_isBestFor) (fun x4 σ3 => ?_)
  refine Mgd ?_
  exact Mret
set_option maxHeartbeats 4000000 in
set_option maxRecDepth 100000 in
theorem mX17_letsIn (l : Launch) (E : CE) {a0 : Nat} {p1 : Nat} {p2 : Int32} {σ : CS} {r : Int32} {σz : CS} (hX : fX17_letsIn a0 p1 p2 σ = some (r, σz)) : MetC l yX17_letsIn (ws_ yX17_letsIn cX17_letsIn 3 (some .boolean)) 104 4102 E σ [.ref a0, .ref p1, .int p2] (some (.int r)) σz := by
  refine MetC.of hX (by decide) (Nat.le_of_ble_eq_true rfl) (nX17_letsIn _ hX) ?_
  intro p e s m below meth c hx hb hr hml hts hown hlocks hnm hk hz0
  have hK := hk.1
  show J p l e (headSpec (ws_ yX17_letsIn cX17_letsIn 3 (some .boolean)) (rmC 104 4102 σ σz)).room s m ([.ref a0, .ref p1, .int p2] : List Value).toArray below meth c 3 E (cZ σ) (cS σ) (MQ below (cQ E (some (.int r)) σz) ([.ref a0, .ref p1, .int p2] : List Value).toArray s (cZ σz - cZ σ) (cS σz - cS σ) (EA E)) (r, σz) (fX17_letsIn a0 p1 p2 σ) σ 0 [(0, .ref a0), (1, .ref p1), (2, .int p2)] []
  unfold fX17_letsIn
  refine Jrow (fun H locs ls hH hS hl k => lv_aload_n hx hb dX17_letsIn_0 rfl (lv_at hl 0 rfl) (k ls hl)) ?_
  refine Jgd (fun hg => ?_)
  refine Jcl (fun x1 hq => ?_)
  refine Jrow (fun H locs ls hH hS hl k => c_get (F := 94) (v := .ref x1) hx hb hts hown hK hH hg (hts _ q886) (fun _ h => h) (fvR rfl hq) dX17_letsIn_1 (k ls hl)) ?_
  clear hq
  refine Jgd (fun hg => ?_)
  refine Jcl (fun x2 hq => ?_)
  refine Jrow (fun H locs ls hH hS hl k => c_getN (F := 37) (v := .ref x2) hx hb hts hown hK hH hg (cN hk.2.2.1 64 rfl) (fun _ h => h) (fvR rfl hq) dX17_letsIn_4 (k ls hl)) ?_
  clear hq
  refine Jrow (fun H locs ls hH hS hl k => lv_aload_n hx hb dX17_letsIn_7 rfl (lv_at hl 1 rfl) (k ls hl)) ?_
  refine Jrow (fun H locs ls hH hS hl k => lv_iload_n hx hb dX17_letsIn_8 rfl (lv_at hl 2 rfl) (k ls hl)) ?_
  refine Jrow (fun H locs ls hH hS hl k => lv_iconst (v := (1:Int32)) hx hb dX17_letsIn_9 (by decide) (k ls hl)) ?_
  refine Jrow (fun H locs ls hH hS hl k => lv_aload_n hx hb dX17_letsIn_10 rfl (lv_at hl 0 rfl) (k ls hl)) ?_
  refine Jgd (fun hg => ?_)
  refine Jrow (fun H locs ls hH hS hl k => c_get (F := 85) (v := .int (cFI σ a0 85)) hx hb hts hown hK hH hg (hts _ q793) (u_same (hts _ q794)) rfl dX17_letsIn_11 (k ls hl)) ?_
  refine Jrow (fun H locs ls hH hS hl k => lv_bipush (v := (9:Int32)) hx hb dX17_letsIn_14 (by decide) (k ls hl)) ?_
  refine Jrow (fun H locs ls hH hS hl k => lv_irem hx hb dX17_letsIn_16 (by decide) (k ls hl)) ?_
  refine Jrow (fun H locs ls hH hS hl k => lv_iadd hx hb dX17_letsIn_17 (k ls hl)) ?_
  refine Jgd (fun hg => ?_)
  refine Jcl2 (fun x4 σ3 hf => ?_)
  refine Jcall (v := (some (.int x4))) (rest := []) (mX3_isBestFor l E hf).1 ⟨rfl, rfl⟩ (fun H locs ls hH hS hl hR => ⟨_, va_runV (C := RX3) (As := [.ref p1, .int p2, .int ((1:Int32) + ((cFI σ a0 85) - (cFI σ a0 85) / (9:Int32) * (9:Int32)))]) ⟨hx, hb, hml, hown, hts⟩ (mX3_isBestFor l E hf).2 (cwV 3 hts (lw_V q913 q914 q915 q94 q916) rfl rfl rfl (by decide +kernel) ⟨Nat.le_of_ble_eq_true rfl, Nat.le_of_ble_eq_true rfl⟩) (c_preV (ci := 4) hk hH hS hg rfl) rfl rfl hl.1 rfl (lv_room (Nat.le_of_ble_eq_true rfl)) dX17_letsIn_18 hR⟩) ?_
  clear hf
  refine Jgd (fun hg => ?_)
  exact Jzret hx hb hr hlocks (isb_n hg) dX17_letsIn_21

def vR_letsIn (a0 : Nat) (p1 : Nat) (p2 : Int32) (σ : CS) : Option (Int32 × CS) := if kd σ a0 12 = true then fX11_letsIn a0 p1 p2 σ else if kd σ a0 13 = true then fX12_letsIn a0 p1 p2 σ else if kd σ a0 14 = true then fX13_letsIn a0 p1 p2 σ else if kd σ a0 15 = true then fX12_letsIn a0 p1 p2 σ else if kd σ a0 16 = true then fX15_letsIn a0 p1 p2 σ else if kd σ a0 17 = true then fX16_letsIn a0 p1 p2 σ else if kd σ a0 18 = true then fX17_letsIn a0 p1 p2 σ else none
theorem nvR_letsIn {a0 : Nat} {p1 : Nat} {p2 : Int32} {σ : CS} : Mn σ (vR_letsIn a0 p1 p2 σ) := Mite nX11_letsIn (Mite nX12_letsIn (Mite nX13_letsIn (Mite nX12_letsIn (Mite nX15_letsIn (Mite nX16_letsIn (Mite nX17_letsIn (Mnone)))))))
theorem vR_letsIn_s (l : Launch) (E : CE) {a0 : Nat} {p1 : Nat} {p2 : Int32} {σ : CS} {r : Int32} {σz : CS} (hX : vR_letsIn a0 p1 p2 σ = some (r, σz)) : (kd σ a0 12 = true ∧ MetC l yX11_letsIn (ws_ yX11_letsIn cX11_letsIn 3 (some .boolean)) 104 4102 E σ [.ref a0, .ref p1, .int p2] (some (.int r)) σz) ∨ (kd σ a0 13 = true ∧ MetC l yX12_letsIn (ws_ yX12_letsIn cX12_letsIn 3 (some .boolean)) 104 4102 E σ [.ref a0, .ref p1, .int p2] (some (.int r)) σz) ∨ (kd σ a0 14 = true ∧ MetC l yX13_letsIn (ws_ yX13_letsIn cX13_letsIn 3 (some .boolean)) 104 4102 E σ [.ref a0, .ref p1, .int p2] (some (.int r)) σz) ∨ (kd σ a0 15 = true ∧ MetC l yX12_letsIn (ws_ yX12_letsIn cX12_letsIn 3 (some .boolean)) 104 4102 E σ [.ref a0, .ref p1, .int p2] (some (.int r)) σz) ∨ (kd σ a0 16 = true ∧ MetC l yX15_letsIn (ws_ yX15_letsIn cX15_letsIn 3 (some .boolean)) 104 4102 E σ [.ref a0, .ref p1, .int p2] (some (.int r)) σz) ∨ (kd σ a0 17 = true ∧ MetC l yX16_letsIn (ws_ yX16_letsIn cX16_letsIn 3 (some .boolean)) 104 4102 E σ [.ref a0, .ref p1, .int p2] (some (.int r)) σz) ∨ (kd σ a0 18 = true ∧ MetC l yX17_letsIn (ws_ yX17_letsIn cX17_letsIn 3 (some .boolean)) 104 4102 E σ [.ref a0, .ref p1, .int p2] (some (.int r)) σz) := by
  unfold vR_letsIn at hX
  by_cases h0 : kd σ a0 12 = true
  · exact Or.inl ⟨h0, (mX11_letsIn l E (ipos h0 hX)).lift (by decide) (by decide)⟩
  · replace hX := ineg h0 hX
    by_cases h1 : kd σ a0 13 = true
    · exact Or.inr (Or.inl ⟨h1, (mX12_letsIn l E (ipos h1 hX)).lift (by decide) (by decide)⟩)
    · replace hX := ineg h1 hX
      by_cases h2 : kd σ a0 14 = true
      · exact Or.inr (Or.inr (Or.inl ⟨h2, (mX13_letsIn l E (ipos h2 hX)).lift (by decide) (by decide)⟩))
      · replace hX := ineg h2 hX
        by_cases h3 : kd σ a0 15 = true
        · exact Or.inr (Or.inr (Or.inr (Or.inl ⟨h3, (mX12_letsIn l E (ipos h3 hX)).lift (by decide) (by decide)⟩)))
        · replace hX := ineg h3 hX
          by_cases h4 : kd σ a0 16 = true
          · exact Or.inr (Or.inr (Or.inr (Or.inr (Or.inl ⟨h4, (mX15_letsIn l E (ipos h4 hX)).lift (by decide) (by decide)⟩))))
          · replace hX := ineg h4 hX
            by_cases h5 : kd σ a0 17 = true
            · exact Or.inr (Or.inr (Or.inr (Or.inr (Or.inr (Or.inl ⟨h5, (mX16_letsIn l E (ipos h5 hX)).lift (by decide) (by decide)⟩)))))
            · replace hX := ineg h5 hX
              by_cases h6 : kd σ a0 18 = true
              · exact Or.inr (Or.inr (Or.inr (Or.inr (Or.inr (Or.inr (⟨h6, (mX17_letsIn l E (ipos h6 hX)).lift (by decide) (by decide)⟩))))))
              · replace hX := ineg h6 hX
                cases hX
def fX11_letIn (a0 : Nat) (p1 : Int32) (σ : CS) : Option (Int64 × CS) :=
 gd (hf (cK σ a0) 86) (
 cl (cFR σ a0 86) (fun (x1 : Nat) =>
 gd (hf (cK σ x1) 31) (
 cl (cFR σ x1 31) (fun (x2 : Nat) =>
 gd (kd σ x2 103) (
 gd (ib p1 (cLN σ x2)) (
 some (cAL σ x2 p1.toNatClampNeg, σ)))))))
theorem nX11_letIn {a0 : Nat} {p1 : Int32} {σ : CS} : Mn σ (fX11_letIn a0 p1 σ) := by
  unfold fX11_letIn
  refine Mgd ?_
  refine Mcl (fun x1 => ?_)
  refine Mgd ?_
  refine Mcl (fun x2 => ?_)
  refine Mgd ?_
  refine Mgd ?_
  exact Mret
set_option maxHeartbeats 4000000 in
set_option maxRecDepth 100000 in
theorem mX11_letIn (l : Launch) (E : CE) {a0 : Nat} {p1 : Int32} {σ : CS} {r : Int64} {σz : CS} (hX : fX11_letIn a0 p1 σ = some (r, σz)) : MetC l yX11_letIn (ws_ yX11_letIn cX11_letIn 2 (some .long)) 0 0 E σ [.ref a0, .int p1] (some (.long r)) σz := by
  refine MetC.of hX (by decide) (Nat.le_of_ble_eq_true rfl) (nX11_letIn _ hX) ?_
  intro p e s m below meth c hx hb hr hml hts hown hlocks hnm hk hz0
  have hK := hk.1
  show J p l e (headSpec (ws_ yX11_letIn cX11_letIn 2 (some .long)) (rmC 0 0 σ σz)).room s m ([.ref a0, .int p1] : List Value).toArray below meth c 2 E (cZ σ) (cS σ) (MQ below (cQ E (some (.long r)) σz) ([.ref a0, .int p1] : List Value).toArray s (cZ σz - cZ σ) (cS σz - cS σ) (EA E)) (r, σz) (fX11_letIn a0 p1 σ) σ 0 [(0, .ref a0), (1, .int p1)] []
  unfold fX11_letIn
  refine Jrow (fun H locs ls hH hS hl k => lv_aload_n hx hb dX11_letIn_0 rfl (lv_at hl 0 rfl) (k ls hl)) ?_
  refine Jgd (fun hg => ?_)
  refine Jcl (fun x1 hq => ?_)
  refine Jrow (fun H locs ls hH hS hl k => c_get (F := 86) (v := .ref x1) hx hb hts hown hK hH hg (hts _ q796) (fun _ h => h) (fvR rfl hq) dX11_letIn_1 (k ls hl)) ?_
  clear hq
  refine Jgd (fun hg => ?_)
  refine Jcl (fun x2 hq => ?_)
  refine Jrow (fun H locs ls hH hS hl k => c_getN (F := 31) (v := .ref x2) hx hb hts hown hK hH hg (cN hk.2.2.1 39 rfl) (fun _ h => h) (fvR rfl hq) dX11_letIn_4 (k ls hl)) ?_
  clear hq
  refine Jrow (fun H locs ls hH hS hl k => lv_iload_n hx hb dX11_letIn_7 rfl (lv_at hl 1 rfl) (k ls hl)) ?_
  refine Jgd (fun hk1 => ?_)
  refine Jgd (fun hg => ?_)
  refine Jrow (fun H locs ls hH hS hl k => c_lald hx hb hK hH hk1 hg dX11_letIn_8 (k ls hl)) ?_
  exact Jlret hx hb hr hlocks dX11_letIn_9

def fX14_letIn (a0 : Nat) (p1 : Int32) (σ : CS) : Option (Int64 × CS) :=
 gd (hf (cK σ a0) 85) (
 jn (fun (x1 : Int64) (σ2 : CS) => some (x1, σ2)) (fun (k3 : Int64 → CS → Option (Int64 × CS)) =>
 jn (gd (kin [15] (cK σ a0)) (
 cl2 (fX11_letIn a0 p1 σ) (fun (x5 : Int64) (σ6 : CS) =>
 k3 x5 σ6))) (fun (k4 : Option (Int64 × CS)) =>
 if p1 = (cFI σ a0 85) then
 if (20:Int32) ≤ p1 then
 k4
 else
 gd (hf (cK σ a0) 89) (
 cl (cFR σ a0 89) (fun (x7 : Nat) =>
 gd (kd σ x7 2) (
 cl2 (fX0_lookOn x7 p1 σ) (fun (x9 : Int64) (σ8 : CS) =>
 k3 x9 σ8))))
 else
 k4)))
theorem nX14_letIn {a0 : Nat} {p1 : Int32} {σ : CS} : Mn σ (fX14_letIn a0 p1 σ) := by
  unfold fX14_letIn
  refine Mgd ?_
  refine Mjn2 (fun (x1 : Int64) (σ2 : CS) (X11 : Option (Int64 × CS)) => Mn σ2 X11) (fun x1 σ2 => ?_) (fun k3 hk3 => ?_)
  · exact Mret
  · refine Mjn0 (fun  (X10 : Option (Int64 × CS)) => Mn σ X10) (?_) (fun k4 hk4 => ?_)
    · refine Mgd ?_
      refine Mcl2 nX11_letIn (fun x5 σ6 => ?_)
      exact hk3 x5 σ6
    · refine Mite ?_ ?_
      · refine Mite ?_ ?_
        · exact hk4
        · refine Mgd ?_
          refine Mcl (fun x7 => ?_)
          refine Mgd ?_
          refine Mcl2 (nX0_lookOn) (fun x9 σ8 => ?_)
          exact hk3 x9 σ8
      · exact hk4
set_option maxHeartbeats 4000000 in
set_option maxRecDepth 100000 in
theorem mX14_letIn (l : Launch) (E : CE) {a0 : Nat} {p1 : Int32} {σ : CS} {r : Int64} {σz : CS} (hX : fX14_letIn a0 p1 σ = some (r, σz)) : MetC l yX14_letIn (ws_ yX14_letIn cX14_letIn 2 (some .long)) 3 102 E σ [.ref a0, .int p1] (some (.long r)) σz := by
  refine MetC.of hX (by decide) (Nat.le_of_ble_eq_true rfl) (nX14_letIn _ hX) ?_
  intro p e s m below meth c hx hb hr hml hts hown hlocks hnm hk hz0
  have hK := hk.1
  show J p l e (headSpec (ws_ yX14_letIn cX14_letIn 2 (some .long)) (rmC 3 102 σ σz)).room s m ([.ref a0, .int p1] : List Value).toArray below meth c 2 E (cZ σ) (cS σ) (MQ below (cQ E (some (.long r)) σz) ([.ref a0, .int p1] : List Value).toArray s (cZ σz - cZ σ) (cS σz - cS σ) (EA E)) (r, σz) (fX14_letIn a0 p1 σ) σ 0 [(0, .ref a0), (1, .int p1)] []
  unfold fX14_letIn
  refine Jrow (fun H locs ls hH hS hl k => lv_iload_n hx hb dX14_letIn_0 rfl (lv_at hl 1 rfl) (k ls hl)) ?_
  refine Jrow (fun H locs ls hH hS hl k => lv_aload_n hx hb dX14_letIn_1 rfl (lv_at hl 0 rfl) (k ls hl)) ?_
  refine Jgd (fun hg => ?_)
  refine Jrow (fun H locs ls hH hS hl k => c_get (F := 85) (v := .int (cFI σ a0 85)) hx hb hts hown hK hH hg (hts _ q789) (u_same (hts _ q790)) rfl dX14_letIn_2 (k ls hl)) ?_
  refine Jjn2 (fun (x1 : Int64) (σ2 : CS) X11 => J p l e (headSpec (ws_ yX14_letIn cX14_letIn 2 (some .long)) (rmC 3 102 σ σz)).room s m ([.ref a0, .int p1] : List Value).toArray below meth c 2 E (cZ σ) (cS σ) (MQ below (cQ E (some (.long r)) σz) ([.ref a0, .int p1] : List Value).toArray s (cZ σz - cZ σ) (cS σz - cS σ) (EA E)) (r, σz) X11 σ2 30 [] [.long x1]) (fun x1 σ2 => ?_) (fun k3 hk3 => ?_)
  · exact Jlret hx hb hr hlocks dX14_letIn_30
  · refine Jjn0 (fun  X10 => J p l e (headSpec (ws_ yX14_letIn cX14_letIn 2 (some .long)) (rmC 3 102 σ σz)).room s m ([.ref a0, .int p1] : List Value).toArray below meth c 2 E (cZ σ) (cS σ) (MQ below (cQ E (some (.long r)) σz) ([.ref a0, .int p1] : List Value).toArray s (cZ σz - cZ σ) (cS σz - cS σ) (EA E)) (r, σz) X10 σ 25 [(0, .ref a0), (1, .int p1)] []) (?_) (fun k4 hk4 => ?_)
    · refine Jrow (fun H locs ls hH hS hl k => lv_aload_n hx hb dX14_letIn_25 rfl (lv_at hl 0 rfl) (k ls hl)) ?_
      refine Jrow (fun H locs ls hH hS hl k => lv_iload_n hx hb dX14_letIn_26 rfl (lv_at hl 1 rfl) (k ls hl)) ?_
      refine Jgd (fun hg0 => ?_)
      refine Jcl2 (fun x5 σ6 hf => ?_)
      refine Jcall (v := (some (.long x5))) (rest := []) (mX11_letIn l E hf).1 ⟨rfl, rfl⟩ (fun H locs ls hH hS hl hR => ?_) ?_
      · have hg := kin1 hg0
        exact ⟨_, c_runSU (n := 1) (C := RX14) (O := "FortyDays$Rule") (x := ⟨"FortyDays$Days", "letIn", "(I)J"⟩) (As := [.int p1]) (hk.1.1 14 _ rfl).2 ⟨hx, hb, hml, hown, hts⟩ (mX11_letIn l E hf).2 q993 q113 q972 q988 q989 q844 (Or.inr q816) rfl rfl (by decide +kernel) ⟨Nat.le_of_ble_eq_true rfl, Nat.le_of_ble_eq_true rfl⟩ (c_preV (ci := 14) hk hH hS hg rfl) rfl rfl hl.1 rfl (lv_room (Nat.le_of_ble_eq_true rfl)) dX14_letIn_27 hR⟩
      clear hf
      exact Jsub [] rfl (hk3 x5 σ6)
    · refine Jite (fun hc => ?_) (fun hc => ?_)
      · refine Jrow (fun H locs ls hH hS hl k => lv_icmp_ne (tgt := 25) hx hb dX14_letIn_5 (by decide) (fun h => absurd hc h) (fun _ => (k ls hl))) ?_
        clear hc
        refine Jrow (fun H locs ls hH hS hl k => lv_iload_n hx hb dX14_letIn_8 rfl (lv_at hl 1 rfl) (k ls hl)) ?_
        refine Jrow (fun H locs ls hH hS hl k => lv_bipush (v := (20:Int32)) hx hb dX14_letIn_9 (by decide) (k ls hl)) ?_
        refine Jite (fun hc => ?_) (fun hc => ?_)
        · refine Jrow (fun H locs ls hH hS hl k => lv_icmp_ge (tgt := 25) hx hb dX14_letIn_11 (by decide) (fun _ => (k ls hl)) (fun h => absurd hc h)) ?_
          clear hc
          exact Jsub [0, 1] rfl (hk4)
        · refine Jrow (fun H locs ls hH hS hl k => lv_icmp_ge (tgt := 25) hx hb dX14_letIn_11 (by decide) (fun h => absurd h hc) (fun _ => (k ls hl))) ?_
          clear hc
          refine Jrow (fun H locs ls hH hS hl k => lv_aload_n hx hb dX14_letIn_14 rfl (lv_at hl 0 rfl) (k ls hl)) ?_
          refine Jgd (fun hg => ?_)
          refine Jcl (fun x7 hq => ?_)
          refine Jrow (fun H locs ls hH hS hl k => c_get (F := 89) (v := .ref x7) hx hb hts hown hK hH hg (hts _ q837) (fun _ h => h) (fvR rfl hq) dX14_letIn_15 (k ls hl)) ?_
          clear hq
          refine Jrow (fun H locs ls hH hS hl k => lv_iload_n hx hb dX14_letIn_18 rfl (lv_at hl 1 rfl) (k ls hl)) ?_
          refine Jgd (fun hg => ?_)
          refine Jcl2 (fun x9 σ8 hf => ?_)
          refine Jcall (v := (some (.long x9))) (rest := []) (mX0_lookOn l E hf).1 ⟨rfl, rfl⟩ (fun H locs ls hH hS hl hR => ⟨_, va_runVN (C := RX0) (As := [.int p1]) ⟨hx, hb, hml, hown, hts⟩ (mX0_lookOn l E hf).2 ⟨va_cnB 1 hts (lw_meth q984) rfl rfl rfl (cN hk.2.2.1 54 rfl) (hts _ q88) (by decide +kernel) ⟨Nat.le_of_ble_eq_true rfl, Nat.le_of_ble_eq_true rfl⟩, hts _ q983, hts _ qs25⟩ (c_preV (ci := 1) hk hH hS hg rfl) rfl rfl hl.1 rfl (lv_room (Nat.le_of_ble_eq_true rfl)) dX14_letIn_19 hR⟩) ?_
          clear hf
          refine Jrow (fun H locs ls hH hS hl k => lv_goto (tgt := 30) hx hb dX14_letIn_22 (by decide) (k ls hl)) ?_
          exact Jsub [] rfl (hk3 x9 σ8)
      · refine Jrow (fun H locs ls hH hS hl k => lv_icmp_ne (tgt := 25) hx hb dX14_letIn_5 (by decide) (fun _ => (k ls hl)) (fun h => absurd h hc)) ?_
        clear hc
        exact Jsub [0, 1] rfl (hk4)

def vR_letIn (a0 : Nat) (p1 : Int32) (σ : CS) : Option (Int64 × CS) := if kd σ a0 12 = true then fX11_letIn a0 p1 σ else if kd σ a0 13 = true then fX11_letIn a0 p1 σ else if kd σ a0 14 = true then fX11_letIn a0 p1 σ else if kd σ a0 15 = true then fX14_letIn a0 p1 σ else if kd σ a0 16 = true then fX11_letIn a0 p1 σ else if kd σ a0 17 = true then fX11_letIn a0 p1 σ else if kd σ a0 18 = true then fX11_letIn a0 p1 σ else none
theorem nvR_letIn {a0 : Nat} {p1 : Int32} {σ : CS} : Mn σ (vR_letIn a0 p1 σ) := Mite nX11_letIn (Mite nX11_letIn (Mite nX11_letIn (Mite nX14_letIn (Mite nX11_letIn (Mite nX11_letIn (Mite nX11_letIn (Mnone)))))))
theorem vR_letIn_s (l : Launch) (E : CE) {a0 : Nat} {p1 : Int32} {σ : CS} {r : Int64} {σz : CS} (hX : vR_letIn a0 p1 σ = some (r, σz)) : (kd σ a0 12 = true ∧ MetC l yX11_letIn (ws_ yX11_letIn cX11_letIn 2 (some .long)) 3 102 E σ [.ref a0, .int p1] (some (.long r)) σz) ∨ (kd σ a0 13 = true ∧ MetC l yX11_letIn (ws_ yX11_letIn cX11_letIn 2 (some .long)) 3 102 E σ [.ref a0, .int p1] (some (.long r)) σz) ∨ (kd σ a0 14 = true ∧ MetC l yX11_letIn (ws_ yX11_letIn cX11_letIn 2 (some .long)) 3 102 E σ [.ref a0, .int p1] (some (.long r)) σz) ∨ (kd σ a0 15 = true ∧ MetC l yX14_letIn (ws_ yX14_letIn cX14_letIn 2 (some .long)) 3 102 E σ [.ref a0, .int p1] (some (.long r)) σz) ∨ (kd σ a0 16 = true ∧ MetC l yX11_letIn (ws_ yX11_letIn cX11_letIn 2 (some .long)) 3 102 E σ [.ref a0, .int p1] (some (.long r)) σz) ∨ (kd σ a0 17 = true ∧ MetC l yX11_letIn (ws_ yX11_letIn cX11_letIn 2 (some .long)) 3 102 E σ [.ref a0, .int p1] (some (.long r)) σz) ∨ (kd σ a0 18 = true ∧ MetC l yX11_letIn (ws_ yX11_letIn cX11_letIn 2 (some .long)) 3 102 E σ [.ref a0, .int p1] (some (.long r)) σz) := by
  unfold vR_letIn at hX
  by_cases h0 : kd σ a0 12 = true
  · exact Or.inl ⟨h0, (mX11_letIn l E (ipos h0 hX)).lift (by decide) (by decide)⟩
  · replace hX := ineg h0 hX
    by_cases h1 : kd σ a0 13 = true
    · exact Or.inr (Or.inl ⟨h1, (mX11_letIn l E (ipos h1 hX)).lift (by decide) (by decide)⟩)
    · replace hX := ineg h1 hX
      by_cases h2 : kd σ a0 14 = true
      · exact Or.inr (Or.inr (Or.inl ⟨h2, (mX11_letIn l E (ipos h2 hX)).lift (by decide) (by decide)⟩))
      · replace hX := ineg h2 hX
        by_cases h3 : kd σ a0 15 = true
        · exact Or.inr (Or.inr (Or.inr (Or.inl ⟨h3, (mX14_letIn l E (ipos h3 hX)).lift (by decide) (by decide)⟩)))
        · replace hX := ineg h3 hX
          by_cases h4 : kd σ a0 16 = true
          · exact Or.inr (Or.inr (Or.inr (Or.inr (Or.inl ⟨h4, (mX11_letIn l E (ipos h4 hX)).lift (by decide) (by decide)⟩))))
          · replace hX := ineg h4 hX
            by_cases h5 : kd σ a0 17 = true
            · exact Or.inr (Or.inr (Or.inr (Or.inr (Or.inr (Or.inl ⟨h5, (mX11_letIn l E (ipos h5 hX)).lift (by decide) (by decide)⟩)))))
            · replace hX := ineg h5 hX
              by_cases h6 : kd σ a0 18 = true
              · exact Or.inr (Or.inr (Or.inr (Or.inr (Or.inr (Or.inr (⟨h6, (mX11_letIn l E (ipos h6 hX)).lift (by decide) (by decide)⟩))))))
              · replace hX := ineg h6 hX
                cases hX