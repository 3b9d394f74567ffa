/-! printed by gen/comp.py -/
def fX11_init (a0 : Nat) (p1 : Nat) (p2 : Int32) (σ : CS) : Option (Unit × CS) :=
 gd (hf (cK σ a0) 86) (
 bd (uFR σ a0 86 (some p1)) (fun (σ1 : CS) =>
 gd (hf (cK σ1 a0) 86) (
 cl (cFR σ1 a0 86) (fun (x2 : Nat) =>
 gd (hf (cK σ1 x2) 38) (
 cl (cFR σ1 x2 38) (fun (x3 : Nat) =>
 gd (kd σ1 x3 20) (
 cl2 (fJ2_size x3 σ1) (fun (x5 : Int32) (σ4 : CS) =>
 gd (hf (cK σ4 a0) 84) (
 bd (uFI σ4 a0 84 x5) (fun (σ6 : CS) =>
 gd (hf (cK σ6 a0) 85) (
 bd (uFI σ6 a0 85 p2) (fun (σ7 : CS) =>
 some ((), σ7)))))))))))))
theorem nX11_init {a0 : Nat} {p1 : Nat} {p2 : Int32} {σ : CS} : Mn σ (fX11_init a0 p1 p2 σ) := by
  unfold fX11_init
  refine Mgd ?_
  refine Mst (Nat.le_refl _) (Nat.le_refl _) (fun σ1 => ?_)
  refine Mgd ?_
  refine Mcl (fun x2 => ?_)
  refine Mgd ?_
  refine Mcl (fun x3 => ?_)
  refine Mgd ?_
  refine Mcl2 (nJ2_size) (fun x5 σ4 => ?_)
  refine Mgd ?_
  refine Mst (Nat.le_refl _) (Nat.le_refl _) (fun σ6 => ?_)
  refine Mgd ?_
  refine Mst (Nat.le_refl _) (Nat.le_refl _) (fun σ7 => ?_)
  exact Mret
set_option maxHeartbeats 4000000 in
set_option maxRecDepth 100000 in
theorem mX11_init (l : Launch) (E : CE) {a0 : Nat} {p1 : Nat} {p2 : Int32} {σ : CS} {σz : CS} (hX : fX11_init a0 p1 p2 σ = some ((), σz)) : MetC l yX11_init (ws_ yX11_init cX11_init 3 none) 1 20 E σ [.ref a0, .ref p1, .int p2] none σz := by
  refine MetC.of hX (by decide) (Nat.le_of_ble_eq_true rfl) (nX11_init _ hX) ?_
  intro p e s m below meth c hx hb hr hml hts hown hlocks hnm hk hz0
  have hK := hk.1
  show J p l e (headSpec (ws_ yX11_init cX11_init 3 none) (rmC 1 20 σ σz)).room s m ([.ref a0, .ref p1, .int p2] : List Value).toArray below meth c 3 E (cZ σ) (cS σ) (MQ below (cQ E none σz) ([.ref a0, .ref p1, .int p2] : List Value).toArray s (cZ σz - cZ σ) (cS σz - cS σ) (EA E)) ((), σz) (fX11_init a0 p1 p2 σ) σ 0 [(0, .ref a0), (1, .ref p1), (2, .int p2)] []
  unfold fX11_init
  refine Jrow (fun H locs ls hH hS hl k => lv_aload_n hx hb dX11_init_0 rfl (lv_at hl 0 rfl) (k ls hl)) ?_
  refine Jrow (fun H locs ls hH hS hl k => lv_aload_n hx hb dX11_init_1 rfl (lv_at hl 1 rfl) (k ls hl)) ?_
  refine Jgd (fun hg => ?_)
  refine Jst (σ1 := uFR σ a0 86 (some p1)) rfl rfl (fun H locs ls hH hS hl k => c_putRF (F := 86) (ty := (.object "FortyDays")) (x := (some p1)) hx hb hts hown hK hH hS hg (hts _ q796) (fun _ h => h) rfl hnm rfl rfl (by decide +kernel) rfl rfl rfl dX11_init_2 k) (fun σ1 => ?_)
  refine Jrow (fun H locs ls hH hS hl k => lv_aload_n hx hb dX11_init_5 rfl (lv_at hl 0 rfl) (k ls hl)) ?_
  refine Jrow (fun H locs ls hH hS hl k => W.objInit hx hb hown (hts _ q779) (hts _ q127) (hts _ q128) rfl (by rw [hml]; exact hl.1) rfl dX11_init_6 (Nat.le_of_ble_eq_true rfl) (Nat.le_of_ble_eq_true rfl) (W.eq (g2 := F0 m 9 ls []) rfl (k ls hl))) ?_
  refine Jrow (fun H locs ls hH hS hl k => lv_aload_n hx hb dX11_init_9 rfl (lv_at hl 0 rfl) (k ls hl)) ?_
  refine Jrow (fun H locs ls hH hS hl k => lv_aload_n hx hb dX11_init_10 rfl (lv_at hl 0 rfl) (k ls hl)) ?_
  refine Jgd (fun hg => ?_)
  refine Jcl (fun x2 hq => ?_)
  refine Jrow (fun H locs ls hH hS hl k => c_get (F := 86) (v := .ref x2) hx hb hts hown hK hH hg (hts _ q796) (fun _ h => h) (fvR rfl hq) dX11_init_11 (k ls hl)) ?_
  clear hq
  refine Jgd (fun hg => ?_)
  refine Jcl (fun x3 hq => ?_)
  refine Jrow (fun H locs ls hH hS hl k => c_getN (F := 38) (v := .ref x3) hx hb hts hown hK hH hg (cN hk.2.2.1 40 rfl) (fun _ h => h) (fvR rfl hq) dX11_init_14 (k ls hl)) ?_
  clear hq
  refine Jgd (fun hg => ?_)
  refine Jcl2 (fun x5 σ4 hf => ?_)
  refine Jcall (v := (some (.int x5))) (rest := [.ref a0]) (mJ2_size l E hf).1 ⟨rfl, rfl⟩ (fun H locs ls hH hS hl hR => ⟨_, va_runV (C := RJ2) (As := []) ⟨hx, hb, hml, hown, hts⟩ (mJ2_size l E hf).2 (cwV 0 hts (lw_V q780 q328 q329 q91 q330) rfl rfl rfl (by decide +kernel) ⟨Nat.le_of_ble_eq_true rfl, Nat.le_of_ble_eq_true rfl⟩) (c_preV (ci := 19) hk hH hS hg rfl) rfl rfl hl.1 rfl (lv_room (Nat.le_of_ble_eq_true rfl)) dX11_init_17 hR⟩) ?_
  clear hf
  refine Jgd (fun hg => ?_)
  refine Jst (σ1 := uFI σ4 a0 84 x5) rfl rfl (fun H locs ls hH hS hl k => c_putIF (F := 84) (ty := .int) (x := x5) hx hb hts hown hK hH hS hg (hts _ q781) (fun _ h => h) rfl hnm rfl rfl (by decide +kernel) rfl rfl rfl dX11_init_20 k) (fun σ6 => ?_)
  refine Jrow (fun H locs ls hH hS hl k => lv_aload_n hx hb dX11_init_23 rfl (lv_at hl 0 rfl) (k ls hl)) ?_
  refine Jrow (fun H locs ls hH hS hl k => lv_iload_n hx hb dX11_init_24 rfl (lv_at hl 2 rfl) (k ls hl)) ?_
  refine Jgd (fun hg => ?_)
  refine Jst (σ1 := uFI σ6 a0 85 p2) rfl rfl (fun H locs ls hH hS hl k => c_putIF (F := 85) (ty := .int) (x := p2) hx hb hts hown hK hH hS hg (hts _ q784) (fun _ h => h) rfl hnm rfl rfl (by decide +kernel) rfl rfl rfl dX11_init_25 k) (fun σ7 => ?_)
  exact Jvret hx hb hr hlocks dX11_init_28

def fX12_init (a0 : Nat) (p1 : Nat) (p2 : Int32) (σ : CS) : Option (Unit × CS) :=
 gd (hf (cK σ a0) 87) (
 bd (uFR σ a0 87 (some p1)) (fun (σ1 : CS) =>
 cl2 (fX11_init a0 p1 p2 σ1) (fun (_ : Unit) (σ2 : CS) =>
 some ((), σ2))))
theorem nX12_init {a0 : Nat} {p1 : Nat} {p2 : Int32} {σ : CS} : Mn σ (fX12_init a0 p1 p2 σ) := by
  unfold fX12_init
  refine Mgd ?_
  refine Mst (Nat.le_refl _) (Nat.le_refl _) (fun σ1 => ?_)
  refine Mcl2 (nX11_init) (fun _ σ2 => ?_)
  exact Mret
set_option maxHeartbeats 4000000 in
set_option maxRecDepth 100000 in
theorem mX12_init (l : Launch) (E : CE) {a0 : Nat} {p1 : Nat} {p2 : Int32} {σ : CS} {σz : CS} (hX : fX12_init a0 p1 p2 σ = some ((), σz)) : MetC l yX12_init (ws_ yX12_init cX12_init 3 none) 2 42 E σ [.ref a0, .ref p1, .int p2] none σz := by
  refine MetC.of hX (by decide) (Nat.le_of_ble_eq_true rfl) (nX12_init _ hX) ?_
  intro p e s m below meth c hx hb hr hml hts hown hlocks hnm hk hz0
  have hK := hk.1
  show J p l e (headSpec (ws_ yX12_init cX12_init 3 none) (rmC 2 42 σ σz)).room s m ([.ref a0, .ref p1, .int p2] : List Value).toArray below meth c 3 E (cZ σ) (cS σ) (MQ below (cQ E none σz) ([.ref a0, .ref p1, .int p2] : List Value).toArray s (cZ σz - cZ σ) (cS σz - cS σ) (EA E)) ((), σz) (fX12_init a0 p1 p2 σ) σ 0 [(0, .ref a0), (1, .ref p1), (2, .int p2)] []
  unfold fX12_init
  refine Jrow (fun H locs ls hH hS hl k => lv_aload_n hx hb dX12_init_0 rfl (lv_at hl 0 rfl) (k ls hl)) ?_
  refine Jrow (fun H locs ls hH hS hl k => lv_aload_n hx hb dX12_init_1 rfl (lv_at hl 1 rfl) (k ls hl)) ?_
  refine Jgd (fun hg => ?_)
  refine Jst (σ1 := uFR σ a0 87 (some p1)) rfl rfl (fun H locs ls hH hS hl k => c_putRF (F := 87) (ty := (.object "FortyDays")) (x := (some p1)) hx hb hts hown hK hH hS hg (hts _ q810) (fun _ h => h) rfl hnm rfl rfl (by decide +kernel) rfl rfl rfl dX12_init_2 k) (fun σ1 => ?_)
  refine Jrow (fun H locs ls hH hS hl k => lv_aload_n hx hb dX12_init_5 rfl (lv_at hl 0 rfl) (k ls hl)) ?_
  refine Jrow (fun H locs ls hH hS hl k => lv_aload_n hx hb dX12_init_6 rfl (lv_at hl 1 rfl) (k ls hl)) ?_
  refine Jrow (fun H locs ls hH hS hl k => lv_iload_n hx hb dX12_init_7 rfl (lv_at hl 2 rfl) (k ls hl)) ?_
  refine Jcl2 (fun _ σ2 hf => ?_)
  refine Jcall (v := none) (rest := []) (mX11_init l E hf).1 ⟨rfl, rfl⟩ (fun H locs ls hH hS hl hR => ⟨_, va_runI (As := [.ref p1, .int p2]) ⟨hx, hb, hml, hown, hts⟩ (mX11_init l E hf).2 (cwI 2 hts (lw_meth q778) rfl rfl rfl (hts _ q113) (hts _ q809) (hts _ q777) rfl (by decide +kernel) ⟨Nat.le_of_ble_eq_true rfl, Nat.le_of_ble_eq_true rfl⟩) (c_preS hk hH hS) rfl rfl hl.1 rfl (lv_room (Nat.le_of_ble_eq_true rfl)) dX12_init_8 hR⟩) ?_
  clear hf
  exact Jvret hx hb hr hlocks dX12_init_11

def fX13_init (a0 : Nat) (p1 : Nat) (p2 : Int32) (σ : CS) : Option (Unit × CS) :=
 gd (hf (cK σ a0) 88) (
 bd (uFR σ a0 88 (some p1)) (fun (σ1 : CS) =>
 cl2 (fX12_init a0 p1 p2 σ1) (fun (_ : Unit) (σ2 : CS) =>
 some ((), σ2))))
theorem nX13_init {a0 : Nat} {p1 : Nat} {p2 : Int32} {σ : CS} : Mn σ (fX13_init a0 p1 p2 σ) := by
  unfold fX13_init
  refine Mgd ?_
  refine Mst (Nat.le_refl _) (Nat.le_refl _) (fun σ1 => ?_)
  refine Mcl2 (nX12_init) (fun _ σ2 => ?_)
  exact Mret
set_option maxHeartbeats 4000000 in
set_option maxRecDepth 100000 in
theorem mX13_init (l : Launch) (E : CE) {a0 : Nat} {p1 : Nat} {p2 : Int32} {σ : CS} {σz : CS} (hX : fX13_init a0 p1 p2 σ = some ((), σz)) : MetC l yX13_init (ws_ yX13_init cX13_init 3 none) 3 64 E σ [.ref a0, .ref p1, .int p2] none σz := by
  refine MetC.of hX (by decide) (Nat.le_of_ble_eq_true rfl) (nX13_init _ hX) ?_
  intro p e s m below meth c hx hb hr hml hts hown hlocks hnm hk hz0
  have hK := hk.1
  show J p l e (headSpec (ws_ yX13_init cX13_init 3 none) (rmC 3 64 σ σz)).room s m ([.ref a0, .ref p1, .int p2] : List Value).toArray below meth c 3 E (cZ σ) (cS σ) (MQ below (cQ E none σz) ([.ref a0, .ref p1, .int p2] : List Value).toArray s (cZ σz - cZ σ) (cS σz - cS σ) (EA E)) ((), σz) (fX13_init a0 p1 p2 σ) σ 0 [(0, .ref a0), (1, .ref p1), (2, .int p2)] []
  unfold fX13_init
  refine Jrow (fun H locs ls hH hS hl k => lv_aload_n hx hb dX13_init_0 rfl (lv_at hl 0 rfl) (k ls hl)) ?_
  refine Jrow (fun H locs ls hH hS hl k => lv_aload_n hx hb dX13_init_1 rfl (lv_at hl 1 rfl) (k ls hl)) ?_
  refine Jgd (fun hg => ?_)
  refine Jst (σ1 := uFR σ a0 88 (some p1)) rfl rfl (fun H locs ls hH hS hl k => c_putRF (F := 88) (ty := (.object "FortyDays")) (x := (some p1)) hx hb hts hown hK hH hS hg (hts _ q823) (fun _ h => h) rfl hnm rfl rfl (by decide +kernel) rfl rfl rfl dX13_init_2 k) (fun σ1 => ?_)
  refine Jrow (fun H locs ls hH hS hl k => lv_aload_n hx hb dX13_init_5 rfl (lv_at hl 0 rfl) (k ls hl)) ?_
  refine Jrow (fun H locs ls hH hS hl k => lv_aload_n hx hb dX13_init_6 rfl (lv_at hl 1 rfl) (k ls hl)) ?_
  refine Jrow (fun H locs ls hH hS hl k => lv_iload_n hx hb dX13_init_7 rfl (lv_at hl 2 rfl) (k ls hl)) ?_
  refine Jcl2 (fun _ σ2 hf => ?_)
  refine Jcall (v := none) (rest := []) (mX12_init l E hf).1 ⟨rfl, rfl⟩ (fun H locs ls hH hS hl hR => ⟨_, va_runI (As := [.ref p1, .int p2]) ⟨hx, hb, hml, hown, hts⟩ (mX12_init l E hf).2 (cwI 2 hts (lw_meth q808) rfl rfl rfl (hts _ q114) (hts _ q822) (hts _ q807) rfl (by decide +kernel) ⟨Nat.le_of_ble_eq_true rfl, Nat.le_of_ble_eq_true rfl⟩) (c_preS hk hH hS) rfl rfl hl.1 rfl (lv_room (Nat.le_of_ble_eq_true rfl)) dX13_init_8 hR⟩) ?_
  clear hf
  exact Jvret hx hb hr hlocks dX13_init_11

def fX14_init (a0 : Nat) (p1 : Nat) (p2 : Int32) (σ : CS) : Option (Unit × CS) :=
 gd (hf (cK σ a0) 89) (
 bd (uFR σ a0 89 (some p1)) (fun (σ1 : CS) =>
 cl2 (fX12_init a0 p1 p2 σ1) (fun (_ : Unit) (σ2 : CS) =>
 some ((), σ2))))
theorem nX14_init {a0 : Nat} {p1 : Nat} {p2 : Int32} {σ : CS} : Mn σ (fX14_init a0 p1 p2 σ) := by
  unfold fX14_init
  refine Mgd ?_
  refine Mst (Nat.le_refl _) (Nat.le_refl _) (fun σ1 => ?_)
  refine Mcl2 (nX12_init) (fun _ σ2 => ?_)
  exact Mret
set_option maxHeartbeats 4000000 in
set_option maxRecDepth 100000 in
theorem mX14_init (l : Launch) (E : CE) {a0 : Nat} {p1 : Nat} {p2 : Int32} {σ : CS} {σz : CS} (hX : fX14_init a0 p1 p2 σ = some ((), σz)) : MetC l yX14_init (ws_ yX14_init cX14_init 3 none) 3 64 E σ [.ref a0, .ref p1, .int p2] none σz := by
  refine MetC.of hX (by decide) (Nat.le_of_ble_eq_true rfl) (nX14_init _ hX) ?_
  intro p e s m below meth c hx hb hr hml hts hown hlocks hnm hk hz0
  have hK := hk.1
  show J p l e (headSpec (ws_ yX14_init cX14_init 3 none) (rmC 3 64 σ σz)).room s m ([.ref a0, .ref p1, .int p2] : List Value).toArray below meth c 3 E (cZ σ) (cS σ) (MQ below (cQ E none σz) ([.ref a0, .ref p1, .int p2] : List Value).toArray s (cZ σz - cZ σ) (cS σz - cS σ) (EA E)) ((), σz) (fX14_init a0 p1 p2 σ) σ 0 [(0, .ref a0), (1, .ref p1), (2, .int p2)] []
  unfold fX14_init
  refine Jrow (fun H locs ls hH hS hl k => lv_aload_n hx hb dX14_init_0 rfl (lv_at hl 0 rfl) (k ls hl)) ?_
  refine Jrow (fun H locs ls hH hS hl k => lv_aload_n hx hb dX14_init_1 rfl (lv_at hl 1 rfl) (k ls hl)) ?_
  refine Jgd (fun hg => ?_)
  refine Jst (σ1 := uFR σ a0 89 (some p1)) rfl rfl (fun H locs ls hH hS hl k => c_putRF (F := 89) (ty := (.object "FortyDays")) (x := (some p1)) hx hb hts hown hK hH hS hg (hts _ q837) (fun _ h => h) rfl hnm rfl rfl (by decide +kernel) rfl rfl rfl dX14_init_2 k) (fun σ1 => ?_)
  refine Jrow (fun H locs ls hH hS hl k => lv_aload_n hx hb dX14_init_5 rfl (lv_at hl 0 rfl) (k ls hl)) ?_
  refine Jrow (fun H locs ls hH hS hl k => lv_aload_n hx hb dX14_init_6 rfl (lv_at hl 1 rfl) (k ls hl)) ?_
  refine Jrow (fun H locs ls hH hS hl k => lv_iload_n hx hb dX14_init_7 rfl (lv_at hl 2 rfl) (k ls hl)) ?_
  refine Jcl2 (fun _ σ2 hf => ?_)
  refine Jcall (v := none) (rest := []) (mX12_init l E hf).1 ⟨rfl, rfl⟩ (fun H locs ls hH hS hl hR => ⟨_, va_runI (As := [.ref p1, .int p2]) ⟨hx, hb, hml, hown, hts⟩ (mX12_init l E hf).2 (cwI 2 hts (lw_meth q808) rfl rfl rfl (hts _ q114) (hts _ q836) (hts _ q807) rfl (by decide +kernel) ⟨Nat.le_of_ble_eq_true rfl, Nat.le_of_ble_eq_true rfl⟩) (c_preS hk hH hS) rfl rfl hl.1 rfl (lv_room (Nat.le_of_ble_eq_true rfl)) dX14_init_8 hR⟩) ?_
  clear hf
  exact Jvret hx hb hr hlocks dX14_init_11

def fX15_init (a0 : Nat) (p1 : Nat) (p2 : Int32) (σ : CS) : Option (Unit × CS) :=
 gd (hf (cK σ a0) 90) (
 bd (uFR σ a0 90 (some p1)) (fun (σ1 : CS) =>
 cl2 (fX11_init a0 p1 p2 σ1) (fun (_ : Unit) (σ2 : CS) =>
 some ((), σ2))))
theorem nX15_init {a0 : Nat} {p1 : Nat} {p2 : Int32} {σ : CS} : Mn σ (fX15_init a0 p1 p2 σ) := by
  unfold fX15_init
  refine Mgd ?_
  refine Mst (Nat.le_refl _) (Nat.le_refl _) (fun σ1 => ?_)
  refine Mcl2 (nX11_init) (fun _ σ2 => ?_)
  exact Mret
set_option maxHeartbeats 4000000 in
set_option maxRecDepth 100000 in
theorem mX15_init (l : Launch) (E : CE) {a0 : Nat} {p1 : Nat} {p2 : Int32} {σ : CS} {σz : CS} (hX : fX15_init a0 p1 p2 σ = some ((), σz)) : MetC l yX15_init (ws_ yX15_init cX15_init 3 none) 2 42 E σ [.ref a0, .ref p1, .int p2] none σz := by
  refine MetC.of hX (by decide) (Nat.le_of_ble_eq_true rfl) (nX15_init _ hX) ?_
  intro p e s m below meth c hx hb hr hml hts hown hlocks hnm hk hz0
  have hK := hk.1
  show J p l e (headSpec (ws_ yX15_init cX15_init 3 none) (rmC 2 42 σ σz)).room s m ([.ref a0, .ref p1, .int p2] : List Value).toArray below meth c 3 E (cZ σ) (cS σ) (MQ below (cQ E none σz) ([.ref a0, .ref p1, .int p2] : List Value).toArray s (cZ σz - cZ σ) (cS σz - cS σ) (EA E)) ((), σz) (fX15_init a0 p1 p2 σ) σ 0 [(0, .ref a0), (1, .ref p1), (2, .int p2)] []
  unfold fX15_init
  refine Jrow (fun H locs ls hH hS hl k => lv_aload_n hx hb dX15_init_0 rfl (lv_at hl 0 rfl) (k ls hl)) ?_
  refine Jrow (fun H locs ls hH hS hl k => lv_aload_n hx hb dX15_init_1 rfl (lv_at hl 1 rfl) (k ls hl)) ?_
  refine Jgd (fun hg => ?_)
  refine Jst (σ1 := uFR σ a0 90 (some p1)) rfl rfl (fun H locs ls hH hS hl k => c_putRF (F := 90) (ty := (.object "FortyDays")) (x := (some p1)) hx hb hts hown hK hH hS hg (hts _ q851) (fun _ h => h) rfl hnm rfl rfl (by decide +kernel) rfl rfl rfl dX15_init_2 k) (fun σ1 => ?_)
  refine Jrow (fun H locs ls hH hS hl k => lv_aload_n hx hb dX15_init_5 rfl (lv_at hl 0 rfl) (k ls hl)) ?_
  refine Jrow (fun H locs ls hH hS hl k => lv_aload_n hx hb dX15_init_6 rfl (lv_at hl 1 rfl) (k ls hl)) ?_
  refine Jrow (fun H locs ls hH hS hl k => lv_iload_n hx hb dX15_init_7 rfl (lv_at hl 2 rfl) (k ls hl)) ?_
  refine Jcl2 (fun _ σ2 hf => ?_)
  refine Jcall (v := none) (rest := []) (mX11_init l E hf).1 ⟨rfl, rfl⟩ (fun H locs ls hH hS hl hR => ⟨_, va_runI (As := [.ref p1, .int p2]) ⟨hx, hb, hml, hown, hts⟩ (mX11_init l E hf).2 (cwI 2 hts (lw_meth q778) rfl rfl rfl (hts _ q113) (hts _ q850) (hts _ q777) rfl (by decide +kernel) ⟨Nat.le_of_ble_eq_true rfl, Nat.le_of_ble_eq_true rfl⟩) (c_preS hk hH hS) rfl rfl hl.1 rfl (lv_room (Nat.le_of_ble_eq_true rfl)) dX15_init_8 hR⟩) ?_
  clear hf
  exact Jvret hx hb hr hlocks dX15_init_11

def fX16_init (a0 : Nat) (p1 : Nat) (p2 : Int32) (σ : CS) : Option (Unit × CS) :=
 gd (hf (cK σ a0) 93) (
 bd (uFR σ a0 93 (some p1)) (fun (σ1 : CS) =>
 cl2 (fX11_init a0 p1 p2 σ1) (fun (_ : Unit) (σ2 : CS) =>
 gd (na (10:Int32)) (
 bd (nA σ2 101 (10:Int32).toNatClampNeg) (fun (σ4 : CS) =>
 gd (hf (cK σ4 a0) 91) (
 bd (uFR σ4 a0 91 (some (cZ σ2))) (fun (σ5 : CS) =>
 some ((), σ5))))))))
theorem nX16_init {a0 : Nat} {p1 : Nat} {p2 : Int32} {σ : CS} : Mn σ (fX16_init a0 p1 p2 σ) := by
  unfold fX16_init
  refine Mgd ?_
  refine Mst (Nat.le_refl _) (Nat.le_refl _) (fun σ1 => ?_)
  refine Mcl2 (nX11_init) (fun _ σ2 => ?_)
  refine Mgd ?_
  refine Mst (Nat.le_succ _) (Nat.le_add_right _ _) (fun σ4 => ?_)
  refine Mgd ?_
  refine Mst (Nat.le_refl _) (Nat.le_refl _) (fun σ5 => ?_)
  exact Mret
set_option maxHeartbeats 4000000 in
set_option maxRecDepth 100000 in
theorem mX16_init (l : Launch) (E : CE) {a0 : Nat} {p1 : Nat} {p2 : Int32} {σ : CS} {σz : CS} (hX : fX16_init a0 p1 p2 σ = some ((), σz)) : MetC l yX16_init (ws_ yX16_init cX16_init 3 none) 2 42 E σ [.ref a0, .ref p1, .int p2] none σz := by
  refine MetC.of hX (by decide) (Nat.le_of_ble_eq_true rfl) (nX16_init _ hX) ?_
  intro p e s m below meth c hx hb hr hml hts hown hlocks hnm hk hz0
  have hK := hk.1
  show J p l e (headSpec (ws_ yX16_init cX16_init 3 none) (rmC 2 42 σ σz)).room s m ([.ref a0, .ref p1, .int p2] : List Value).toArray below meth c 3 E (cZ σ) (cS σ) (MQ below (cQ E none σz) ([.ref a0, .ref p1, .int p2] : List Value).toArray s (cZ σz - cZ σ) (cS σz - cS σ) (EA E)) ((), σz) (fX16_init a0 p1 p2 σ) σ 0 [(0, .ref a0), (1, .ref p1), (2, .int p2)] []
  unfold fX16_init
  refine Jrow (fun H locs ls hH hS hl k => lv_aload_n hx hb dX16_init_0 rfl (lv_at hl 0 rfl) (k ls hl)) ?_
  refine Jrow (fun H locs ls hH hS hl k => lv_aload_n hx hb dX16_init_1 rfl (lv_at hl 1 rfl) (k ls hl)) ?_
  refine Jgd (fun hg => ?_)
  refine Jst (σ1 := uFR σ a0 93 (some p1)) rfl rfl (fun H locs ls hH hS hl k => c_putRF (F := 93) (ty := (.object "FortyDays")) (x := (some p1)) hx hb hts hown hK hH hS hg (hts _ q869) (fun _ h => h) rfl hnm rfl rfl (by decide +kernel) rfl rfl rfl dX16_init_2 k) (fun σ1 => ?_)
  refine Jrow (fun H locs ls hH hS hl k => lv_aload_n hx hb dX16_init_5 rfl (lv_at hl 0 rfl) (k ls hl)) ?_
  refine Jrow (fun H locs ls hH hS hl k => lv_aload_n hx hb dX16_init_6 rfl (lv_at hl 1 rfl) (k ls hl)) ?_
  refine Jrow (fun H locs ls hH hS hl k => lv_iload_n hx hb dX16_init_7 rfl (lv_at hl 2 rfl) (k ls hl)) ?_
  refine Jcl2 (fun _ σ2 hf => ?_)
  refine Jcall (v := none) (rest := []) (mX11_init l E hf).1 ⟨rfl, rfl⟩ (fun H locs ls hH hS hl hR => ⟨_, va_runI (As := [.ref p1, .int p2]) ⟨hx, hb, hml, hown, hts⟩ (mX11_init l E hf).2 (cwI 2 hts (lw_meth q778) rfl rfl rfl (hts _ q113) (hts _ q863) (hts _ q777) rfl (by decide +kernel) ⟨Nat.le_of_ble_eq_true rfl, Nat.le_of_ble_eq_true rfl⟩) (c_preS hk hH hS) rfl rfl hl.1 rfl (lv_room (Nat.le_of_ble_eq_true rfl)) dX16_init_8 hR⟩) ?_
  clear hf
  refine Jrow (fun H locs ls hH hS hl k => lv_aload_n hx hb dX16_init_11 rfl (lv_at hl 0 rfl) (k ls hl)) ?_
  refine Jrow (fun H locs ls hH hS hl k => lv_bipush (v := (10:Int32)) hx hb dX16_init_12 (by decide) (k ls hl)) ?_
  refine Jgd (fun hg => ?_)
  refine Jnew (σ1 := nA σ2 101 (10:Int32).toNatClampNeg) (n := (10:Int32).toNatClampNeg) rfl rfl ⟨rfl, rfl⟩ (fun H locs ls hH hS hl h1 h2 k => c_newa (t := 0) (ty := .int) hx hb hts hK hH hS hk.2.1 (by decide) rfl rfl (fun h => h) rfl (by decide) q219 hg h1 h2 dX16_init_14 k) (fun σ4 eσ4 => ?_)
  clear eσ4
  refine Jgd (fun hg => ?_)
  refine Jst (σ1 := uFR σ4 a0 91 (some (cZ σ2))) rfl rfl (fun H locs ls hH hS hl k => c_putRF (F := 91) (ty := (.array .int)) (x := (some (cZ σ2))) hx hb hts hown hK hH hS hg (hts _ q864) (fun _ h => h) rfl hnm rfl rfl (by decide +kernel) rfl rfl rfl dX16_init_16 k) (fun σ5 => ?_)
  exact Jvret hx hb hr hlocks dX16_init_19

def fX17_init (a0 : Nat) (p1 : Nat) (p2 : Int32) (σ : CS) : Option (Unit × CS) :=
 gd (hf (cK σ a0) 94) (
 bd (uFR σ a0 94 (some p1)) (fun (σ1 : CS) =>
 cl2 (fX15_init a0 p1 p2 σ1) (fun (_ : Unit) (σ2 : CS) =>
 some ((), σ2))))
theorem nX17_init {a0 : Nat} {p1 : Nat} {p2 : Int32} {σ : CS} : Mn σ (fX17_init a0 p1 p2 σ) := by
  unfold fX17_init
  refine Mgd ?_
  refine Mst (Nat.le_refl _) (Nat.le_refl _) (fun σ1 => ?_)
  refine Mcl2 (nX15_init) (fun _ σ2 => ?_)
  exact Mret
set_option maxHeartbeats 4000000 in
set_option maxRecDepth 100000 in
theorem mX17_init (l : Launch) (E : CE) {a0 : Nat} {p1 : Nat} {p2 : Int32} {σ : CS} {σz : CS} (hX : fX17_init a0 p1 p2 σ = some ((), σz)) : MetC l yX17_init (ws_ yX17_init cX17_init 3 none) 3 64 E σ [.ref a0, .ref p1, .int p2] none σz := by
  refine MetC.of hX (by decide) (Nat.le_of_ble_eq_true rfl) (nX17_init _ hX) ?_
  intro p e s m below meth c hx hb hr hml hts hown hlocks hnm hk hz0
  have hK := hk.1
  show J p l e (headSpec (ws_ yX17_init cX17_init 3 none) (rmC 3 64 σ σz)).room s m ([.ref a0, .ref p1, .int p2] : List Value).toArray below meth c 3 E (cZ σ) (cS σ) (MQ below (cQ E none σz) ([.ref a0, .ref p1, .int p2] : List Value).toArray s (cZ σz - cZ σ) (cS σz - cS σ) (EA E)) ((), σz) (fX17_init a0 p1 p2 σ) σ 0 [(0, .ref a0), (1, .ref p1), (2, .int p2)] []
  unfold fX17_init
  refine Jrow (fun H locs ls hH hS hl k => lv_aload_n hx hb dX17_init_0 rfl (lv_at hl 0 rfl) (k ls hl)) ?_
  refine Jrow (fun H locs ls hH hS hl k => lv_aload_n hx hb dX17_init_1 rfl (lv_at hl 1 rfl) (k ls hl)) ?_
  refine Jgd (fun hg => ?_)
  refine Jst (σ1 := uFR σ a0 94 (some p1)) rfl rfl (fun H locs ls hH hS hl k => c_putRF (F := 94) (ty := (.object "FortyDays")) (x := (some p1)) hx hb hts hown hK hH hS hg (hts _ q886) (fun _ h => h) rfl hnm rfl rfl (by decide +kernel) rfl rfl rfl dX17_init_2 k) (fun σ1 => ?_)
  refine Jrow (fun H locs ls hH hS hl k => lv_aload_n hx hb dX17_init_5 rfl (lv_at hl 0 rfl) (k ls hl)) ?_
  refine Jrow (fun H locs ls hH hS hl k => lv_aload_n hx hb dX17_init_6 rfl (lv_at hl 1 rfl) (k ls hl)) ?_
  refine Jrow (fun H locs ls hH hS hl k => lv_iload_n hx hb dX17_init_7 rfl (lv_at hl 2 rfl) (k ls hl)) ?_
  refine Jcl2 (fun _ σ2 hf => ?_)
  refine Jcall (v := none) (rest := []) (mX15_init l E hf).1 ⟨rfl, rfl⟩ (fun H locs ls hH hS hl hR => ⟨_, va_runI (As := [.ref p1, .int p2]) ⟨hx, hb, hml, hown, hts⟩ (mX15_init l E hf).2 (cwI 2 hts (lw_meth q849) rfl rfl rfl (hts _ q117) (hts _ q885) (hts _ q848) rfl (by decide +kernel) ⟨Nat.le_of_ble_eq_true rfl, Nat.le_of_ble_eq_true rfl⟩) (c_preS hk hH hS) rfl rfl hl.1 rfl (lv_room (Nat.le_of_ble_eq_true rfl)) dX17_init_8 hR⟩) ?_
  clear hf
  exact Jvret hx hb hr hlocks dX17_init_11
