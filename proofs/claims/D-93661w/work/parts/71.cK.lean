/-! printed by gen/comp.py -/
def fX11_holds (a0 : Nat) (p1 : Int32) (σ : CS) : Option (Int32 × CS) :=
 gd (hf (cK σ a0) 86) (
 cl (cFR σ a0 86) (fun (x1 : Nat) =>
 gd (kd σ x1 2) (
 cl2 (fX0_body x1 (1:Int32) σ) (fun (_ : Unit) (σ2 : CS) =>
 gd (hf (cK σ2 a0) 84) (
 some (p1 + (cFI σ2 a0 84), σ2))))))
theorem nX11_holds {a0 : Nat} {p1 : Int32} {σ : CS} : Mn σ (fX11_holds a0 p1 σ) := by
  unfold fX11_holds
  refine Mgd ?_
  refine Mcl (fun x1 => ?_)
  refine Mgd ?_
  refine Mcl2 (nX0_body) (fun _ σ2 => ?_)
  refine Mgd ?_
  exact Mret
set_option maxHeartbeats 4000000 in
set_option maxRecDepth 100000 in
theorem mX11_holds (l : Launch) (E : CE) {a0 : Nat} {p1 : Int32} {σ : CS} {r : Int32} {σz : CS} (hX : fX11_holds a0 p1 σ = some (r, σz)) : MetC l yX11_holds (ws_ yX11_holds cX11_holds 2 (some .int)) 1 21 E σ [.ref a0, .int p1] (some (.int r)) σz := by
  refine MetC.of hX (by decide) (Nat.le_of_ble_eq_true rfl) (nX11_holds _ hX) ?_
  intro p e s m below meth c hx hb hr hml hts hown hlocks hnm hk hz0
  have hK := hk.1
  show J p l e (headSpec (ws_ yX11_holds cX11_holds 2 (some .int)) (rmC 1 21 σ σz)).room s m ([.ref a0, .int p1] : List Value).toArray below meth c 2 E (cZ σ) (cS σ) (MQ below (cQ E (some (.int r)) σz) ([.ref a0, .int p1] : List Value).toArray s (cZ σz - cZ σ) (cS σz - cS σ) (EA E)) (r, σz) (fX11_holds a0 p1 σ) σ 0 [(0, .ref a0), (1, .int p1)] []
  unfold fX11_holds
  refine Jrow (fun H locs ls hH hS hl k => lv_aload_n hx hb dX11_holds_0 rfl (lv_at hl 0 rfl) (k ls hl)) ?_
  refine Jgd (fun hg => ?_)
  refine Jcl (fun x1 hq => ?_)
  refine Jrow (fun H locs ls hH hS hl k => c_get (F := 86) (v := .ref x1) hx hb hts hown hK hH hg (hts _ q796) (fun _ h => h) (fvR rfl hq) dX11_holds_1 (k ls hl)) ?_
  clear hq
  refine Jrow (fun H locs ls hH hS hl k => lv_iconst (v := (1:Int32)) hx hb dX11_holds_4 (by decide) (k ls hl)) ?_
  refine Jgd (fun hg => ?_)
  refine Jcl2 (fun _ σ2 hf => ?_)
  refine Jcall (v := none) (rest := []) (mX0_body l E hf).1 ⟨rfl, rfl⟩ (fun H locs ls hH hS hl hR => ⟨_, va_runVN (C := RX0) (As := [.int (1:Int32)]) ⟨hx, hb, hml, hown, hts⟩ (mX0_body l E hf).2 ⟨va_cnB 1 hts (lw_meth q1112) rfl rfl rfl (cN hk.2.2.1 43 rfl) (hts _ q88) (by decide +kernel) ⟨Nat.le_of_ble_eq_true rfl, Nat.le_of_ble_eq_true rfl⟩, hts _ q1111, hts _ qs38⟩ (c_preV (ci := 1) hk hH hS hg rfl) rfl rfl hl.1 rfl (lv_room (Nat.le_of_ble_eq_true rfl)) dX11_holds_5 hR⟩) ?_
  clear hf
  refine Jrow (fun H locs ls hH hS hl k => lv_iload_n hx hb dX11_holds_8 rfl (lv_at hl 1 rfl) (k ls hl)) ?_
  refine Jrow (fun H locs ls hH hS hl k => lv_aload_n hx hb dX11_holds_9 rfl (lv_at hl 0 rfl) (k ls hl)) ?_
  refine Jgd (fun hg => ?_)
  refine Jrow (fun H locs ls hH hS hl k => c_get (F := 84) (v := .int (cFI σ2 a0 84)) hx hb hts hown hK hH hg (hts _ q781) (fun _ h => h) rfl dX11_holds_10 (k ls hl)) ?_
  refine Jrow (fun H locs ls hH hS hl k => lv_iadd hx hb dX11_holds_13 (k ls hl)) ?_
  exact Jiret hx hb hr hlocks dX11_holds_14

def fX13_holds (a0 : Nat) (p1 : Int32) (σ : CS) : Option (Int32 × CS) :=
 gd (hf (cK σ a0) 88) (
 cl (cFR σ a0 88) (fun (x1 : Nat) =>
 gd (kd σ x1 2) (
 cl2 (fX0_body x1 (21:Int32) σ) (fun (_ : Unit) (σ2 : CS) =>
 gd (kin [14] (cK σ2 a0)) (
 cl2 (fX11_holds a0 p1 σ2) (fun (x4 : Int32) (σ5 : CS) =>
 some (-x4, σ5)))))))
theorem nX13_holds {a0 : Nat} {p1 : Int32} {σ : CS} : Mn σ (fX13_holds a0 p1 σ) := by
  unfold fX13_holds
  refine Mgd ?_
  refine Mcl (fun x1 => ?_)
  refine Mgd ?_
  refine Mcl2 (nX0_body) (fun _ σ2 => ?_)
  refine Mgd ?_
  refine Mcl2 nX11_holds (fun x4 σ5 => ?_)
  exact Mret
set_option maxHeartbeats 4000000 in
set_option maxRecDepth 100000 in
theorem mX13_holds (l : Launch) (E : CE) {a0 : Nat} {p1 : Int32} {σ : CS} {r : Int32} {σz : CS} (hX : fX13_holds a0 p1 σ = some (r, σz)) : MetC l yX13_holds (ws_ yX13_holds cX13_holds 2 (some .int)) 2 42 E σ [.ref a0, .int p1] (some (.int r)) σz := by
  refine MetC.of hX (by decide) (Nat.le_of_ble_eq_true rfl) (nX13_holds _ hX) ?_
  intro p e s m below meth c hx hb hr hml hts hown hlocks hnm hk hz0
  have hK := hk.1
  show J p l e (headSpec (ws_ yX13_holds cX13_holds 2 (some .int)) (rmC 2 42 σ σz)).room s m ([.ref a0, .int p1] : List Value).toArray below meth c 2 E (cZ σ) (cS σ) (MQ below (cQ E (some (.int r)) σz) ([.ref a0, .int p1] : List Value).toArray s (cZ σz - cZ σ) (cS σz - cS σ) (EA E)) (r, σz) (fX13_holds a0 p1 σ) σ 0 [(0, .ref a0), (1, .int p1)] []
  unfold fX13_holds
  refine Jrow (fun H locs ls hH hS hl k => lv_aload_n hx hb dX13_holds_0 rfl (lv_at hl 0 rfl) (k ls hl)) ?_
  refine Jgd (fun hg => ?_)
  refine Jcl (fun x1 hq => ?_)
  refine Jrow (fun H locs ls hH hS hl k => c_get (F := 88) (v := .ref x1) hx hb hts hown hK hH hg (hts _ q823) (fun _ h => h) (fvR rfl hq) dX13_holds_1 (k ls hl)) ?_
  clear hq
  refine Jrow (fun H locs ls hH hS hl k => lv_bipush (v := (21:Int32)) hx hb dX13_holds_4 (by decide) (k ls hl)) ?_
  refine Jgd (fun hg => ?_)
  refine Jcl2 (fun _ σ2 hf => ?_)
  refine Jcall (v := none) (rest := []) (mX0_body l E hf).1 ⟨rfl, rfl⟩ (fun H locs ls hH hS hl hR => ⟨_, va_runVN (C := RX0) (As := [.int (21:Int32)]) ⟨hx, hb, hml, hown, hts⟩ (mX0_body l E hf).2 ⟨va_cnB 1 hts (lw_meth q1112) rfl rfl rfl (cN hk.2.2.1 51 rfl) (hts _ q88) (by decide +kernel) ⟨Nat.le_of_ble_eq_true rfl, Nat.le_of_ble_eq_true rfl⟩, hts _ q1111, hts _ qs38⟩ (c_preV (ci := 1) hk hH hS hg rfl) rfl rfl hl.1 rfl (lv_room (Nat.le_of_ble_eq_true rfl)) dX13_holds_6 hR⟩) ?_
  clear hf
  refine Jrow (fun H locs ls hH hS hl k => lv_aload_n hx hb dX13_holds_9 rfl (lv_at hl 0 rfl) (k ls hl)) ?_
  refine Jrow (fun H locs ls hH hS hl k => lv_iload_n hx hb dX13_holds_10 rfl (lv_at hl 1 rfl) (k ls hl)) ?_
  refine Jgd (fun hg0 => ?_)
  refine Jcl2 (fun x4 σ5 hf => ?_)
  refine Jcall (v := (some (.int x4))) (rest := []) (mX11_holds l E hf).1 ⟨rfl, rfl⟩ (fun H locs ls hH hS hl hR => ?_) ?_
  · have hg := kin1 hg0
    exact ⟨_, c_runSU (n := 1) (C := RX13) (O := "FortyDays$Rule") (x := ⟨"FortyDays$Days", "holds", "(I)I"⟩) (As := [.int p1]) (hk.1.1 13 _ rfl).2 ⟨hx, hb, hml, hown, hts⟩ (mX11_holds l E hf).2 q1123 q113 q1101 q1113 q1114 q830 (Or.inr q816) rfl rfl (by decide +kernel) ⟨Nat.le_of_ble_eq_true rfl, Nat.le_of_ble_eq_true rfl⟩ (c_preV (ci := 13) hk hH hS hg rfl) rfl rfl hl.1 rfl (lv_room (Nat.le_of_ble_eq_true rfl)) dX13_holds_11 hR⟩
  clear hf
  refine Jrow (fun H locs ls hH hS hl k => lv_ineg hx hb dX13_holds_14 (k ls hl)) ?_
  exact Jiret hx hb hr hlocks dX13_holds_15

def fX16_holds (a0 : Nat) (p1 : Int32) (σ : CS) : Option (Int32 × CS) :=
 gd (hf (cK σ a0) 93) (
 cl (cFR σ a0 93) (fun (x1 : Nat) =>
 gd (kd σ x1 2) (
 cl2 (fX0_body x1 (51:Int32) σ) (fun (_ : Unit) (σ2 : CS) =>
 gd (kin [17] (cK σ2 a0)) (
 cl2 (fX11_holds a0 p1 σ2) (fun (x4 : Int32) (σ5 : CS) =>
 gd (hf (cK σ5 a0) 84) (
 some (x4 ^^^ (cFI σ5 a0 84), σ5))))))))
theorem nX16_holds {a0 : Nat} {p1 : Int32} {σ : CS} : Mn σ (fX16_holds a0 p1 σ) := by
  unfold fX16_holds
  refine Mgd ?_
  refine Mcl (fun x1 => ?_)
  refine Mgd ?_
  refine Mcl2 (nX0_body) (fun _ σ2 => ?_)
  refine Mgd ?_
  refine Mcl2 nX11_holds (fun x4 σ5 => ?_)
  refine Mgd ?_
  exact Mret
set_option maxHeartbeats 4000000 in
set_option maxRecDepth 100000 in
theorem mX16_holds (l : Launch) (E : CE) {a0 : Nat} {p1 : Int32} {σ : CS} {r : Int32} {σz : CS} (hX : fX16_holds a0 p1 σ = some (r, σz)) : MetC l yX16_holds (ws_ yX16_holds cX16_holds 2 (some .int)) 2 42 E σ [.ref a0, .int p1] (some (.int r)) σz := by
  refine MetC.of hX (by decide) (Nat.le_of_ble_eq_true rfl) (nX16_holds _ hX) ?_
  intro p e s m below meth c hx hb hr hml hts hown hlocks hnm hk hz0
  have hK := hk.1
  show J p l e (headSpec (ws_ yX16_holds cX16_holds 2 (some .int)) (rmC 2 42 σ σz)).room s m ([.ref a0, .int p1] : List Value).toArray below meth c 2 E (cZ σ) (cS σ) (MQ below (cQ E (some (.int r)) σz) ([.ref a0, .int p1] : List Value).toArray s (cZ σz - cZ σ) (cS σz - cS σ) (EA E)) (r, σz) (fX16_holds a0 p1 σ) σ 0 [(0, .ref a0), (1, .int p1)] []
  unfold fX16_holds
  refine Jrow (fun H locs ls hH hS hl k => lv_aload_n hx hb dX16_holds_0 rfl (lv_at hl 0 rfl) (k ls hl)) ?_
  refine Jgd (fun hg => ?_)
  refine Jcl (fun x1 hq => ?_)
  refine Jrow (fun H locs ls hH hS hl k => c_get (F := 93) (v := .ref x1) hx hb hts hown hK hH hg (hts _ q869) (fun _ h => h) (fvR rfl hq) dX16_holds_1 (k ls hl)) ?_
  clear hq
  refine Jrow (fun H locs ls hH hS hl k => lv_bipush (v := (51:Int32)) hx hb dX16_holds_4 (by decide) (k ls hl)) ?_
  refine Jgd (fun hg => ?_)
  refine Jcl2 (fun _ σ2 hf => ?_)
  refine Jcall (v := none) (rest := []) (mX0_body l E hf).1 ⟨rfl, rfl⟩ (fun H locs ls hH hS hl hR => ⟨_, va_runVN (C := RX0) (As := [.int (51:Int32)]) ⟨hx, hb, hml, hown, hts⟩ (mX0_body l E hf).2 ⟨va_cnB 1 hts (lw_meth q1112) rfl rfl rfl (cN hk.2.2.1 61 rfl) (hts _ q88) (by decide +kernel) ⟨Nat.le_of_ble_eq_true rfl, Nat.le_of_ble_eq_true rfl⟩, hts _ q1111, hts _ qs38⟩ (c_preV (ci := 1) hk hH hS hg rfl) rfl rfl hl.1 rfl (lv_room (Nat.le_of_ble_eq_true rfl)) dX16_holds_6 hR⟩) ?_
  clear hf
  refine Jrow (fun H locs ls hH hS hl k => lv_aload_n hx hb dX16_holds_9 rfl (lv_at hl 0 rfl) (k ls hl)) ?_
  refine Jrow (fun H locs ls hH hS hl k => lv_iload_n hx hb dX16_holds_10 rfl (lv_at hl 1 rfl) (k ls hl)) ?_
  refine Jgd (fun hg0 => ?_)
  refine Jcl2 (fun x4 σ5 hf => ?_)
  refine Jcall (v := (some (.int x4))) (rest := []) (mX11_holds l E hf).1 ⟨rfl, rfl⟩ (fun H locs ls hH hS hl hR => ?_) ?_
  · have hg := kin1 hg0
    exact ⟨_, c_runSU (n := 1) (C := RX16) (O := "FortyDays$Rule") (x := ⟨"FortyDays$Rule", "holds", "(I)I"⟩) (As := [.int p1]) (hk.1.1 16 _ rfl).2 ⟨hx, hb, hml, hown, hts⟩ (mX11_holds l E hf).2 q1123 q113 q1101 q1122 q1103 q879 (Or.inl rfl) rfl rfl (by decide +kernel) ⟨Nat.le_of_ble_eq_true rfl, Nat.le_of_ble_eq_true rfl⟩ (c_preV (ci := 16) hk hH hS hg rfl) rfl rfl hl.1 rfl (lv_room (Nat.le_of_ble_eq_true rfl)) dX16_holds_11 hR⟩
  clear hf
  refine Jrow (fun H locs ls hH hS hl k => lv_aload_n hx hb dX16_holds_14 rfl (lv_at hl 0 rfl) (k ls hl)) ?_
  refine Jgd (fun hg => ?_)
  refine Jrow (fun H locs ls hH hS hl k => c_get (F := 84) (v := .int (cFI σ5 a0 84)) hx hb hts hown hK hH hg (hts _ q782) (u_same (hts _ q783)) rfl dX16_holds_15 (k ls hl)) ?_
  refine Jrow (fun H locs ls hH hS hl k => lv_ixor hx hb dX16_holds_18 (k ls hl)) ?_
  exact Jiret hx hb hr hlocks dX16_holds_19

def vR_holds (a0 : Nat) (p1 : Int32) (σ : CS) : Option (Int32 × CS) := if kd σ a0 12 = true then fX11_holds a0 p1 σ else if kd σ a0 13 = true then fX11_holds a0 p1 σ else if kd σ a0 14 = true then fX13_holds a0 p1 σ else if kd σ a0 15 = true then fX11_holds a0 p1 σ else if kd σ a0 16 = true then fX11_holds a0 p1 σ else if kd σ a0 17 = true then fX16_holds a0 p1 σ else if kd σ a0 18 = true then fX11_holds a0 p1 σ else none
theorem nvR_holds {a0 : Nat} {p1 : Int32} {σ : CS} : Mn σ (vR_holds a0 p1 σ) := Mite nX11_holds (Mite nX11_holds (Mite nX13_holds (Mite nX11_holds (Mite nX11_holds (Mite nX16_holds (Mite nX11_holds (Mnone)))))))
theorem vR_holds_s (l : Launch) (E : CE) {a0 : Nat} {p1 : Int32} {σ : CS} {r : Int32} {σz : CS} (hX : vR_holds a0 p1 σ = some (r, σz)) : (kd σ a0 12 = true ∧ MetC l yX11_holds (ws_ yX11_holds cX11_holds 2 (some .int)) 2 42 E σ [.ref a0, .int p1] (some (.int r)) σz) ∨ (kd σ a0 13 = true ∧ MetC l yX11_holds (ws_ yX11_holds cX11_holds 2 (some .int)) 2 42 E σ [.ref a0, .int p1] (some (.int r)) σz) ∨ (kd σ a0 14 = true ∧ MetC l yX13_holds (ws_ yX13_holds cX13_holds 2 (some .int)) 2 42 E σ [.ref a0, .int p1] (some (.int r)) σz) ∨ (kd σ a0 15 = true ∧ MetC l yX11_holds (ws_ yX11_holds cX11_holds 2 (some .int)) 2 42 E σ [.ref a0, .int p1] (some (.int r)) σz) ∨ (kd σ a0 16 = true ∧ MetC l yX11_holds (ws_ yX11_holds cX11_holds 2 (some .int)) 2 42 E σ [.ref a0, .int p1] (some (.int r)) σz) ∨ (kd σ a0 17 = true ∧ MetC l yX16_holds (ws_ yX16_holds cX16_holds 2 (some .int)) 2 42 E σ [.ref a0, .int p1] (some (.int r)) σz) ∨ (kd σ a0 18 = true ∧ MetC l yX11_holds (ws_ yX11_holds cX11_holds 2 (some .int)) 2 42 E σ [.ref a0, .int p1] (some (.int r)) σz) := by
  unfold vR_holds at hX
  by_cases h0 : kd σ a0 12 = true
  · exact Or.inl ⟨h0, (mX11_holds l E (ipos h0 hX)).lift (by decide) (by decide)⟩
  · replace hX := ineg h0 hX
    by_cases h1 : kd σ a0 13 = true
    · exact Or.inr (Or.inl ⟨h1, (mX11_holds l E (ipos h1 hX)).lift (by decide) (by decide)⟩)
    · replace hX := ineg h1 hX
      by_cases h2 : kd σ a0 14 = true
      · exact Or.inr (Or.inr (Or.inl ⟨h2, (mX13_holds l E (ipos h2 hX)).lift (by decide) (by decide)⟩))
      · replace hX := ineg h2 hX
        by_cases h3 : kd σ a0 15 = true
        · exact Or.inr (Or.inr (Or.inr (Or.inl ⟨h3, (mX11_holds l E (ipos h3 hX)).lift (by decide) (by decide)⟩)))
        · replace hX := ineg h3 hX
          by_cases h4 : kd σ a0 16 = true
          · exact Or.inr (Or.inr (Or.inr (Or.inr (Or.inl ⟨h4, (mX11_holds l E (ipos h4 hX)).lift (by decide) (by decide)⟩))))
          · replace hX := ineg h4 hX
            by_cases h5 : kd σ a0 17 = true
            · exact Or.inr (Or.inr (Or.inr (Or.inr (Or.inr (Or.inl ⟨h5, (mX16_holds l E (ipos h5 hX)).lift (by decide) (by decide)⟩)))))
            · replace hX := ineg h5 hX
              by_cases h6 : kd σ a0 18 = true
              · exact Or.inr (Or.inr (Or.inr (Or.inr (Or.inr (Or.inr (⟨h6, (mX11_holds l E (ipos h6 hX)).lift (by decide) (by decide)⟩))))))
              · replace hX := ineg h6 hX
                cases hX
def fX11_lets (a0 : Nat) (p1 : Int32) (σ : CS) : Option (Int32 × CS) :=
 gd (hf (cK σ a0) 86) (
 cl (cFR σ a0 86) (fun (x1 : Nat) =>
 gd (kd σ x1 2) (
 cl2 (fX0_body x1 (2:Int32) σ) (fun (_ : Unit) (σ2 : CS) =>
 gd (isX11 (cK σ2 a0)) (
 cl2 (vR_holds a0 p1 σ2) (fun (x4 : Int32) (σ5 : CS) =>
 gd (hf (cK σ5 a0) 85) (
 some (x4 - (cFI σ5 a0 85), σ5))))))))
theorem nX11_lets {a0 : Nat} {p1 : Int32} {σ : CS} : Mn σ (fX11_lets a0 p1 σ) := by
  unfold fX11_lets
  refine Mgd ?_
  refine Mcl (fun x1 => ?_)
  refine Mgd ?_
  refine Mcl2 (nX0_body) (fun _ σ2 => ?_)
  refine Mgd ?_
  refine Mcl2 nvR_holds (fun x4 σ5 => ?_)
  refine Mgd ?_
  exact Mret
set_option maxHeartbeats 4000000 in
set_option maxRecDepth 100000 in
theorem mX11_lets (l : Launch) (E : CE) {a0 : Nat} {p1 : Int32} {σ : CS} {r : Int32} {σz : CS} (hX : fX11_lets a0 p1 σ = some (r, σz)) : MetC l yX11_lets (ws_ yX11_lets cX11_lets 2 (some .int)) 3 63 E σ [.ref a0, .int p1] (some (.int r)) σz := by
  refine MetC.of hX (by decide) (Nat.le_of_ble_eq_true rfl) (nX11_lets _ hX) ?_
  intro p e s m below meth c hx hb hr hml hts hown hlocks hnm hk hz0
  have hK := hk.1
  show J p l e (headSpec (ws_ yX11_lets cX11_lets 2 (some .int)) (rmC 3 63 σ σz)).room s m ([.ref a0, .int p1] : List Value).toArray below meth c 2 E (cZ σ) (cS σ) (MQ below (cQ E (some (.int r)) σz) ([.ref a0, .int p1] : List Value).toArray s (cZ σz - cZ σ) (cS σz - cS σ) (EA E)) (r, σz) (fX11_lets a0 p1 σ) σ 0 [(0, .ref a0), (1, .int p1)] []
  unfold fX11_lets
  refine Jrow (fun H locs ls hH hS hl k => lv_aload_n hx hb dX11_lets_0 rfl (lv_at hl 0 rfl) (k ls hl)) ?_
  refine Jgd (fun hg => ?_)
  refine Jcl (fun x1 hq => ?_)
  refine Jrow (fun H locs ls hH hS hl k => c_get (F := 86) (v := .ref x1) hx hb hts hown hK hH hg (hts _ q796) (fun _ h => h) (fvR rfl hq) dX11_lets_1 (k ls hl)) ?_
  clear hq
  refine Jrow (fun H locs ls hH hS hl k => lv_iconst (v := (2:Int32)) hx hb dX11_lets_4 (by decide) (k ls hl)) ?_
  refine Jgd (fun hg => ?_)
  refine Jcl2 (fun _ σ2 hf => ?_)
  refine Jcall (v := none) (rest := []) (mX0_body l E hf).1 ⟨rfl, rfl⟩ (fun H locs ls hH hS hl hR => ⟨_, va_runVN (C := RX0) (As := [.int (2:Int32)]) ⟨hx, hb, hml, hown, hts⟩ (mX0_body l E hf).2 ⟨va_cnB 1 hts (lw_meth q1112) rfl rfl rfl (cN hk.2.2.1 43 rfl) (hts _ q88) (by decide +kernel) ⟨Nat.le_of_ble_eq_true rfl, Nat.le_of_ble_eq_true rfl⟩, hts _ q1111, hts _ qs38⟩ (c_preV (ci := 1) hk hH hS hg rfl) rfl rfl hl.1 rfl (lv_room (Nat.le_of_ble_eq_true rfl)) dX11_lets_5 hR⟩) ?_
  clear hf
  refine Jrow (fun H locs ls hH hS hl k => lv_aload_n hx hb dX11_lets_8 rfl (lv_at hl 0 rfl) (k ls hl)) ?_
  refine Jrow (fun H locs ls hH hS hl k => lv_iload_n hx hb dX11_lets_9 rfl (lv_at hl 1 rfl) (k ls hl)) ?_
  refine Jgd (fun hg0 => ?_)
  refine Jcl2 (fun x4 σ5 hf => ?_)
  refine Jcall (v := (some (.int x4))) (rest := []) (nvR_holds _ hf) ⟨rfl, rfl⟩ (fun H locs ls hH hS hl hR => ?_) ?_
  · rcases vR_holds_s l E hf with ⟨hg, hM⟩ | ⟨hg, hM⟩ | ⟨hg, hM⟩ | ⟨hg, hM⟩ | ⟨hg, hM⟩ | ⟨hg, hM⟩ | ⟨hg, hM⟩
    · exact ⟨_, va_runU (C := RX11) (As := [.int p1]) ⟨hx, hb, hml, hown, hts⟩ hM.2 (va_cwU (owner := "FortyDays$Rule") 1 hts (lw_app (by
          intro w hw
          simp only [List.mem_cons, List.not_mem_nil, or_false] at hw
          rcases hw with e | e | e | e | e
          · rw [e]; exact q1146
          · rw [e]; exact q1103
          · rw [e]; exact q1102
          · rw [e]; exact q1101
          · rw [e]; exact q113) (lw_meth q1123)) rfl rfl rfl rfl (by decide +kernel) ⟨Nat.le_of_ble_eq_true rfl, Nat.le_of_ble_eq_true rfl⟩) (c_preV (ci := 11) hk hH hS hg rfl) rfl rfl hl.1 rfl (lv_room (Nat.le_of_ble_eq_true rfl)) dX11_lets_10 hR⟩
    · exact ⟨_, va_runU (C := RX12) (As := [.int p1]) ⟨hx, hb, hml, hown, hts⟩ hM.2 (va_cwU (owner := "FortyDays$Rule") 1 hts (lw_app (by
          intro w hw
          simp only [List.mem_cons, List.not_mem_nil, or_false] at hw
          rcases hw with e | e | e | e | e
          · rw [e]; exact q1146
          · rw [e]; exact q1103
          · rw [e]; exact q1105
          · rw [e]; exact q1101
          · rw [e]; exact q113) (lw_meth q1123)) rfl rfl rfl rfl (by decide +kernel) ⟨Nat.le_of_ble_eq_true rfl, Nat.le_of_ble_eq_true rfl⟩) (c_preV (ci := 12) hk hH hS hg rfl) rfl rfl hl.1 rfl (lv_room (Nat.le_of_ble_eq_true rfl)) dX11_lets_10 hR⟩
    · exact ⟨_, va_runU (C := RX13) (As := [.int p1]) ⟨hx, hb, hml, hown, hts⟩ hM.2 (va_cwO (owner := "FortyDays$Rule") 1 hts (lw_app (by
          intro w hw
          simp only [List.mem_cons, List.not_mem_nil, or_false] at hw
          rcases hw with e | e | e | e | e | e
          · rw [e]; exact q1146
          · rw [e]; exact q1103
          · rw [e]; exact q1101
          · rw [e]; exact q1106
          · rw [e]; exact q1107
          · rw [e]; exact q115) (lw_meth q1108)) rfl rfl rfl q1123 (by decide +kernel) ⟨Nat.le_of_ble_eq_true rfl, Nat.le_of_ble_eq_true rfl⟩) (c_preV (ci := 13) hk hH hS hg rfl) rfl rfl hl.1 rfl (lv_room (Nat.le_of_ble_eq_true rfl)) dX11_lets_10 hR⟩
    · exact ⟨_, va_runU (C := RX14) (As := [.int p1]) ⟨hx, hb, hml, hown, hts⟩ hM.2 (va_cwU (owner := "FortyDays$Rule") 1 hts (lw_app (by
          intro w hw
          simp only [List.mem_cons, List.not_mem_nil, or_false] at hw
          rcases hw with e | e | e | e | e
          · rw [e]; exact q1146
          · rw [e]; exact q1103
          · rw [e]; exact q1116
          · rw [e]; exact q1101
          · rw [e]; exact q113) (lw_meth q1123)) rfl rfl rfl rfl (by decide +kernel) ⟨Nat.le_of_ble_eq_true rfl, Nat.le_of_ble_eq_true rfl⟩) (c_preV (ci := 14) hk hH hS hg rfl) rfl rfl hl.1 rfl (lv_room (Nat.le_of_ble_eq_true rfl)) dX11_lets_10 hR⟩
    · exact ⟨_, va_runU (C := RX15) (As := [.int p1]) ⟨hx, hb, hml, hown, hts⟩ hM.2 (va_cwU (owner := "FortyDays$Rule") 1 hts (lw_app (by
          intro w hw
          simp only [List.mem_cons, List.not_mem_nil, or_false] at hw
          rcases hw with e | e | e | e | e
          · rw [e]; exact q1146
          · rw [e]; exact q1103
          · rw [e]; exact q1117
          · rw [e]; exact q1101
          · rw [e]; exact q113) (lw_meth q1123)) rfl rfl rfl rfl (by decide +kernel) ⟨Nat.le_of_ble_eq_true rfl, Nat.le_of_ble_eq_true rfl⟩) (c_preV (ci := 15) hk hH hS hg rfl) rfl rfl hl.1 rfl (lv_room (Nat.le_of_ble_eq_true rfl)) dX11_lets_10 hR⟩
    · exact ⟨_, va_runU (C := RX16) (As := [.int p1]) ⟨hx, hb, hml, hown, hts⟩ hM.2 (va_cwO (owner := "FortyDays$Rule") 1 hts (lw_app (by
          intro w hw
          simp only [List.mem_cons, List.not_mem_nil, or_false] at hw
          rcases hw with e | e | e | e | e | e
          · rw [e]; exact q1146
          · rw [e]; exact q1103
          · rw [e]; exact q1101
          · rw [e]; exact q1118
          · rw [e]; exact q1119
          · rw [e]; exact q118) (lw_meth q1120)) rfl rfl rfl q1123 (by decide +kernel) ⟨Nat.le_of_ble_eq_true rfl, Nat.le_of_ble_eq_true rfl⟩) (c_preV (ci := 16) hk hH hS hg rfl) rfl rfl hl.1 rfl (lv_room (Nat.le_of_ble_eq_true rfl)) dX11_lets_10 hR⟩
    · exact ⟨_, va_runU (C := RX17) (As := [.int p1]) ⟨hx, hb, hml, hown, hts⟩ hM.2 (va_cwU (owner := "FortyDays$Rule") 1 hts (lw_app (by
          intro w hw
          simp only [List.mem_cons, List.not_mem_nil, or_false] at hw
          rcases hw with e | e | e | e | e
          · rw [e]; exact q1146
          · rw [e]; exact q1103
          · rw [e]; exact q1104
          · rw [e]; exact q1101
          · rw [e]; exact q113) (lw_meth q1123)) rfl rfl rfl rfl (by decide +kernel) ⟨Nat.le_of_ble_eq_true rfl, Nat.le_of_ble_eq_true rfl⟩) (c_preV (ci := 17) hk hH hS hg rfl) rfl rfl hl.1 rfl (lv_room (Nat.le_of_ble_eq_true rfl)) dX11_lets_10 hR⟩
  clear hf
  refine Jrow (fun H locs ls hH hS hl k => lv_aload_n hx hb dX11_lets_13 rfl (lv_at hl 0 rfl) (k ls hl)) ?_
  refine Jgd (fun hg => ?_)
  refine Jrow (fun H locs ls hH hS hl k => c_get (F := 85) (v := .int (cFI σ5 a0 85)) hx hb hts hown hK hH hg (hts _ q784) (fun _ h => h) rfl dX11_lets_14 (k ls hl)) ?_
  refine Jrow (fun H locs ls hH hS hl k => lv_isub hx hb dX11_lets_17 (k ls hl)) ?_
  exact Jiret hx hb hr hlocks dX11_lets_18

def fX12_lets (a0 : Nat) (p1 : Int32) (σ : CS) : Option (Int32 × CS) :=
 gd (hf (cK σ a0) 87) (
 cl (cFR σ a0 87) (fun (x1 : Nat) =>
 gd (kd σ x1 2) (
 cl2 (fX0_body x1 (11:Int32) σ) (fun (_ : Unit) (σ2 : CS) =>
 gd (kin [13, 14, 15] (cK σ2 a0)) (
 cl2 (fX11_lets a0 (p1 * (3:Int32)) σ2) (fun (x4 : Int32) (σ5 : CS) =>
 some (x4, σ5)))))))
theorem nX12_lets {a0 : Nat} {p1 : Int32} {σ : CS} : Mn σ (fX12_lets a0 p1 σ) := by
  unfold fX12_lets
  refine Mgd ?_
  refine Mcl (fun x1 => ?_)
  refine Mgd ?_
  refine Mcl2 (nX0_body) (fun _ σ2 => ?_)
  refine Mgd ?_
  refine Mcl2 nX11_lets (fun x4 σ5 => ?_)
  exact Mret
set_option maxHeartbeats 4000000 in
set_option maxRecDepth 100000 in
theorem mX12_lets (l : Launch) (E : CE) {a0 : Nat} {p1 : Int32} {σ : CS} {r : Int32} {σz : CS} (hX : fX12_lets a0 p1 σ = some (r, σz)) : MetC l yX12_lets (ws_ yX12_lets cX12_lets 2 (some .int)) 4 84 E σ [.ref a0, .int p1] (some (.int r)) σz := by
  refine MetC.of hX (by decide) (Nat.le_of_ble_eq_true rfl) (nX12_lets _ hX) ?_
  intro p e s m below meth c hx hb hr hml hts hown hlocks hnm hk hz0
  have hK := hk.1
  show J p l e (headSpec (ws_ yX12_lets cX12_lets 2 (some .int)) (rmC 4 84 σ σz)).room s m ([.ref a0, .int p1] : List Value).toArray below meth c 2 E (cZ σ) (cS σ) (MQ below (cQ E (some (.int r)) σz) ([.ref a0, .int p1] : List Value).toArray s (cZ σz - cZ σ) (cS σz - cS σ) (EA E)) (r, σz) (fX12_lets a0 p1 σ) σ 0 [(0, .ref a0), (1, .int p1)] []
  unfold fX12_lets
  refine Jrow (fun H locs ls hH hS hl k => lv_aload_n hx hb dX12_lets_0 rfl (lv_at hl 0 rfl) (k ls hl)) ?_
  refine Jgd (fun hg => ?_)
  refine Jcl (fun x1 hq => ?_)
  refine Jrow (fun H locs ls hH hS hl k => c_get (F := 87) (v := .ref x1) hx hb hts hown hK hH hg (hts _ q810) (fun _ h => h) (fvR rfl hq) dX12_lets_1 (k ls hl)) ?_
  clear hq
  refine Jrow (fun H locs ls hH hS hl k => lv_bipush (v := (11:Int32)) hx hb dX12_lets_4 (by decide) (k ls hl)) ?_
  refine Jgd (fun hg => ?_)
  refine Jcl2 (fun _ σ2 hf => ?_)
  refine Jcall (v := none) (rest := []) (mX0_body l E hf).1 ⟨rfl, rfl⟩ (fun H locs ls hH hS hl hR => ⟨_, va_runVN (C := RX0) (As := [.int (11:Int32)]) ⟨hx, hb, hml, hown, hts⟩ (mX0_body l E hf).2 ⟨va_cnB 1 hts (lw_meth q1112) rfl rfl rfl (cN hk.2.2.1 47 rfl) (hts _ q88) (by decide +kernel) ⟨Nat.le_of_ble_eq_true rfl, Nat.le_of_ble_eq_true rfl⟩, hts _ q1111, hts _ qs38⟩ (c_preV (ci := 1) hk hH hS hg rfl) rfl rfl hl.1 rfl (lv_room (Nat.le_of_ble_eq_true rfl)) dX12_lets_6 hR⟩) ?_
  clear hf
  refine Jrow (fun H locs ls hH hS hl k => lv_aload_n hx hb dX12_lets_9 rfl (lv_at hl 0 rfl) (k ls hl)) ?_
  refine Jrow (fun H locs ls hH hS hl k => lv_iload_n hx hb dX12_lets_10 rfl (lv_at hl 1 rfl) (k ls hl)) ?_
  refine Jrow (fun H locs ls hH hS hl k => lv_iconst (v := (3:Int32)) hx hb dX12_lets_11 (by decide) (k ls hl)) ?_
  refine Jrow (fun H locs ls hH hS hl k => lv_imul hx hb dX12_lets_12 (k ls hl)) ?_
  refine Jgd (fun hg0 => ?_)
  refine Jcl2 (fun x4 σ5 hf => ?_)
  refine Jcall (v := (some (.int x4))) (rest := []) (mX11_lets l E hf).1 ⟨rfl, rfl⟩ (fun H locs ls hH hS hl hR => ?_) ?_
  · rcases kin3 hg0 with hg | hg | hg
    · exact ⟨_, c_runSU (n := 1) (C := RX12) (O := "FortyDays$Rule") (x := ⟨"FortyDays$Rule", "lets", "(I)I"⟩) (As := [.int (p1 * (3:Int32))]) (hk.1.1 12 _ rfl).2 ⟨hx, hb, hml, hown, hts⟩ (mX11_lets l E hf).2 q1145 q113 q1126 q1140 q1128 q816 (Or.inl rfl) rfl rfl (by decide +kernel) ⟨Nat.le_of_ble_eq_true rfl, Nat.le_of_ble_eq_true rfl⟩ (c_preV (ci := 12) hk hH hS hg rfl) rfl rfl hl.1 rfl (lv_room (Nat.le_of_ble_eq_true rfl)) dX12_lets_13 hR⟩
    · exact ⟨_, c_runSU (n := 1) (C := RX13) (O := "FortyDays$Rule") (x := ⟨"FortyDays$Rule", "lets", "(I)I"⟩) (As := [.int (p1 * (3:Int32))]) (hk.1.1 13 _ rfl).2 ⟨hx, hb, hml, hown, hts⟩ (mX11_lets l E hf).2 q1145 q113 q1126 q1140 q1128 q816 (Or.inl rfl) rfl rfl (by decide +kernel) ⟨Nat.le_of_ble_eq_true rfl, Nat.le_of_ble_eq_true rfl⟩ (c_preV (ci := 13) hk hH hS hg rfl) rfl rfl hl.1 rfl (lv_room (Nat.le_of_ble_eq_true rfl)) dX12_lets_13 hR⟩
    · exact ⟨_, c_runSU (n := 1) (C := RX14) (O := "FortyDays$Rule") (x := ⟨"FortyDays$Rule", "lets", "(I)I"⟩) (As := [.int (p1 * (3:Int32))]) (hk.1.1 14 _ rfl).2 ⟨hx, hb, hml, hown, hts⟩ (mX11_lets l E hf).2 q1145 q113 q1126 q1140 q1128 q816 (Or.inl rfl) rfl rfl (by decide +kernel) ⟨Nat.le_of_ble_eq_true rfl, Nat.le_of_ble_eq_true rfl⟩ (c_preV (ci := 14) hk hH hS hg rfl) rfl rfl hl.1 rfl (lv_room (Nat.le_of_ble_eq_true rfl)) dX12_lets_13 hR⟩
  clear hf
  exact Jiret hx hb hr hlocks dX12_lets_16

def fX17_lets (a0 : Nat) (p1 : Int32) (σ : CS) : Option (Int32 × CS) :=
 gd (hf (cK σ a0) 94) (
 cl (cFR σ a0 94) (fun (x1 : Nat) =>
 gd (kd σ x1 2) (
 cl2 (fX0_body x1 (61:Int32) σ) (fun (_ : Unit) (σ2 : CS) =>
 gd (kin [18] (cK σ2 a0)) (
 cl2 (fX11_lets a0 p1 σ2) (fun (x4 : Int32) (σ5 : CS) =>
 gd (hf (cK σ5 a0) 85) (
 some (x4 + (cFI σ5 a0 85), σ5))))))))
theorem nX17_lets {a0 : Nat} {p1 : Int32} {σ : CS} : Mn σ (fX17_lets a0 p1 σ) := by
  unfold fX17_lets
  refine Mgd ?_
  refine Mcl (fun x1 => ?_)
  refine Mgd ?_
  refine Mcl2 (nX0_body) (fun _ σ2 => ?_)
  refine Mgd ?_
  refine Mcl2 nX11_lets (fun x4 σ5 => ?_)
  refine Mgd ?_
  exact Mret
set_option maxHeartbeats 4000000 in
set_option maxRecDepth 100000 in
theorem mX17_lets (l : Launch) (E : CE) {a0 : Nat} {p1 : Int32} {σ : CS} {r : Int32} {σz : CS} (hX : fX17_lets a0 p1 σ = some (r, σz)) : MetC l yX17_lets (ws_ yX17_lets cX17_lets 2 (some .int)) 4 84 E σ [.ref a0, .int p1] (some (.int r)) σz := by
  refine MetC.of hX (by decide) (Nat.le_of_ble_eq_true rfl) (nX17_lets _ hX) ?_
  intro p e s m below meth c hx hb hr hml hts hown hlocks hnm hk hz0
  have hK := hk.1
  show J p l e (headSpec (ws_ yX17_lets cX17_lets 2 (some .int)) (rmC 4 84 σ σz)).room s m ([.ref a0, .int p1] : List Value).toArray below meth c 2 E (cZ σ) (cS σ) (MQ below (cQ E (some (.int r)) σz) ([.ref a0, .int p1] : List Value).toArray s (cZ σz - cZ σ) (cS σz - cS σ) (EA E)) (r, σz) (fX17_lets a0 p1 σ) σ 0 [(0, .ref a0), (1, .int p1)] []
  unfold fX17_lets
  refine Jrow (fun H locs ls hH hS hl k => lv_aload_n hx hb dX17_lets_0 rfl (lv_at hl 0 rfl) (k ls hl)) ?_
  refine Jgd (fun hg => ?_)
  refine Jcl (fun x1 hq => ?_)
  refine Jrow (fun H locs ls hH hS hl k => c_get (F := 94) (v := .ref x1) hx hb hts hown hK hH hg (hts _ q886) (fun _ h => h) (fvR rfl hq) dX17_lets_1 (k ls hl)) ?_
  clear hq
  refine Jrow (fun H locs ls hH hS hl k => lv_bipush (v := (61:Int32)) hx hb dX17_lets_4 (by decide) (k ls hl)) ?_
  refine Jgd (fun hg => ?_)
  refine Jcl2 (fun _ σ2 hf => ?_)
  refine Jcall (v := none) (rest := []) (mX0_body l E hf).1 ⟨rfl, rfl⟩ (fun H locs ls hH hS hl hR => ⟨_, va_runVN (C := RX0) (As := [.int (61:Int32)]) ⟨hx, hb, hml, hown, hts⟩ (mX0_body l E hf).2 ⟨va_cnB 1 hts (lw_meth q1112) rfl rfl rfl (cN hk.2.2.1 65 rfl) (hts _ q88) (by decide +kernel) ⟨Nat.le_of_ble_eq_true rfl, Nat.le_of_ble_eq_true rfl⟩, hts _ q1111, hts _ qs38⟩ (c_preV (ci := 1) hk hH hS hg rfl) rfl rfl hl.1 rfl (lv_room (Nat.le_of_ble_eq_true rfl)) dX17_lets_6 hR⟩) ?_
  clear hf
  refine Jrow (fun H locs ls hH hS hl k => lv_aload_n hx hb dX17_lets_9 rfl (lv_at hl 0 rfl) (k ls hl)) ?_
  refine Jrow (fun H locs ls hH hS hl k => lv_iload_n hx hb dX17_lets_10 rfl (lv_at hl 1 rfl) (k ls hl)) ?_
  refine Jgd (fun hg0 => ?_)
  refine Jcl2 (fun x4 σ5 hf => ?_)
  refine Jcall (v := (some (.int x4))) (rest := []) (mX11_lets l E hf).1 ⟨rfl, rfl⟩ (fun H locs ls hH hS hl hR => ?_) ?_
  · have hg := kin1 hg0
    exact ⟨_, c_runSU (n := 1) (C := RX17) (O := "FortyDays$Rule") (x := ⟨"FortyDays$Think", "lets", "(I)I"⟩) (As := [.int p1]) (hk.1.1 17 _ rfl).2 ⟨hx, hb, hml, hown, hts⟩ (mX11_lets l E hf).2 q1145 q113 q1126 q1133 q1134 q893 (Or.inr q857) rfl rfl (by decide +kernel) ⟨Nat.le_of_ble_eq_true rfl, Nat.le_of_ble_eq_true rfl⟩ (c_preV (ci := 17) hk hH hS hg rfl) rfl rfl hl.1 rfl (lv_room (Nat.le_of_ble_eq_true rfl)) dX17_lets_11 hR⟩
  clear hf
  refine Jrow (fun H locs ls hH hS hl k => lv_aload_n hx hb dX17_lets_14 rfl (lv_at hl 0 rfl) (k ls hl)) ?_
  refine Jgd (fun hg => ?_)
  refine Jrow (fun H locs ls hH hS hl k => c_get (F := 85) (v := .int (cFI σ5 a0 85)) hx hb hts hown hK hH hg (hts _ q793) (u_same (hts _ q794)) rfl dX17_lets_15 (k ls hl)) ?_
  refine Jrow (fun H locs ls hH hS hl k => lv_iadd hx hb dX17_lets_18 (k ls hl)) ?_
  exact Jiret hx hb hr hlocks dX17_lets_19

def vR_lets (a0 : Nat) (p1 : Int32) (σ : CS) : Option (Int32 × CS) := if kd σ a0 12 = true then fX11_lets a0 p1 σ else if kd σ a0 13 = true then fX12_lets a0 p1 σ else if kd σ a0 14 = true then fX12_lets a0 p1 σ else if kd σ a0 15 = true then fX12_lets a0 p1 σ else if kd σ a0 16 = true then fX11_lets a0 p1 σ else if kd σ a0 17 = true then fX11_lets a0 p1 σ else if kd σ a0 18 = true then fX17_lets a0 p1 σ else none
theorem nvR_lets {a0 : Nat} {p1 : Int32} {σ : CS} : Mn σ (vR_lets a0 p1 σ) := Mite nX11_lets (Mite nX12_lets (Mite nX12_lets (Mite nX12_lets (Mite nX11_lets (Mite nX11_lets (Mite nX17_lets (Mnone)))))))
theorem vR_lets_s (l : Launch) (E : CE) {a0 : Nat} {p1 : Int32} {σ : CS} {r : Int32} {σz : CS} (hX : vR_lets a0 p1 σ = some (r, σz)) : (kd σ a0 12 = true ∧ MetC l yX11_lets (ws_ yX11_lets cX11_lets 2 (some .int)) 4 84 E σ [.ref a0, .int p1] (some (.int r)) σz) ∨ (kd σ a0 13 = true ∧ MetC l yX12_lets (ws_ yX12_lets cX12_lets 2 (some .int)) 4 84 E σ [.ref a0, .int p1] (some (.int r)) σz) ∨ (kd σ a0 14 = true ∧ MetC l yX12_lets (ws_ yX12_lets cX12_lets 2 (some .int)) 4 84 E σ [.ref a0, .int p1] (some (.int r)) σz) ∨ (kd σ a0 15 = true ∧ MetC l yX12_lets (ws_ yX12_lets cX12_lets 2 (some .int)) 4 84 E σ [.ref a0, .int p1] (some (.int r)) σz) ∨ (kd σ a0 16 = true ∧ MetC l yX11_lets (ws_ yX11_lets cX11_lets 2 (some .int)) 4 84 E σ [.ref a0, .int p1] (some (.int r)) σz) ∨ (kd σ a0 17 = true ∧ MetC l yX11_lets (ws_ yX11_lets cX11_lets 2 (some .int)) 4 84 E σ [.ref a0, .int p1] (some (.int r)) σz) ∨ (kd σ a0 18 = true ∧ MetC l yX17_lets (ws_ yX17_lets cX17_lets 2 (some .int)) 4 84 E σ [.ref a0, .int p1] (some (.int r)) σz) := by
  unfold vR_lets at hX
  by_cases h0 : kd σ a0 12 = true
  · exact Or.inl ⟨h0, (mX11_lets l E (ipos h0 hX)).lift (by decide) (by decide)⟩
  · replace hX := ineg h0 hX
    by_cases h1 : kd σ a0 13 = true
    · exact Or.inr (Or.inl ⟨h1, (mX12_lets l E (ipos h1 hX)).lift (by decide) (by decide)⟩)
    · replace hX := ineg h1 hX
      by_cases h2 : kd σ a0 14 = true
      · exact Or.inr (Or.inr (Or.inl ⟨h2, (mX12_lets l E (ipos h2 hX)).lift (by decide) (by decide)⟩))
      · replace hX := ineg h2 hX
        by_cases h3 : kd σ a0 15 = true
        · exact Or.inr (Or.inr (Or.inr (Or.inl ⟨h3, (mX12_lets l E (ipos h3 hX)).lift (by decide) (by decide)⟩)))
        · replace hX := ineg h3 hX
          by_cases h4 : kd σ a0 16 = true
          · exact Or.inr (Or.inr (Or.inr (Or.inr (Or.inl ⟨h4, (mX11_lets l E (ipos h4 hX)).lift (by decide) (by decide)⟩))))
          · replace hX := ineg h4 hX
            by_cases h5 : kd σ a0 17 = true
            · exact Or.inr (Or.inr (Or.inr (Or.inr (Or.inr (Or.inl ⟨h5, (mX11_lets l E (ipos h5 hX)).lift (by decide) (by decide)⟩)))))
            · replace hX := ineg h5 hX
              by_cases h6 : kd σ a0 18 = true
              · exact Or.inr (Or.inr (Or.inr (Or.inr (Or.inr (Or.inr (⟨h6, (mX17_lets l E (ipos h6 hX)).lift (by decide) (by decide)⟩))))))
              · replace hX := ineg h6 hX
                cases hX
def fX11_costs (a0 : Nat) (p1 : Int32) (σ : CS) : Option (Int32 × CS) :=
 gd (hf (cK σ a0) 86) (
 cl (cFR σ a0 86) (fun (x1 : Nat) =>
 gd (kd σ x1 2) (
 cl2 (fX0_body x1 (3:Int32) σ) (fun (_ : Unit) (σ2 : CS) =>
 gd (isX11 (cK σ2 a0)) (
 cl2 (vR_lets a0 p1 σ2) (fun (x4 : Int32) (σ5 : CS) =>
 some (x4 * (2:Int32), σ5)))))))
theorem nX11_costs {a0 : Nat} {p1 : Int32} {σ : CS} : Mn σ (fX11_costs a0 p1 σ) := by
  unfold fX11_costs
  refine Mgd ?_
  refine Mcl (fun x1 => ?_)
  refine Mgd ?_
  refine Mcl2 (nX0_body) (fun _ σ2 => ?_)
  refine Mgd ?_
  refine Mcl2 nvR_lets (fun x4 σ5 => ?_)
  exact Mret
set_option maxHeartbeats 4000000 in
set_option maxRecDepth 100000 in
theorem mX11_costs (l : Launch) (E : CE) {a0 : Nat} {p1 : Int32} {σ : CS} {r : Int32} {σz : CS} (hX : fX11_costs a0 p1 σ = some (r, σz)) : MetC l yX11_costs (ws_ yX11_costs cX11_costs 2 (some .int)) 5 105 E σ [.ref a0, .int p1] (some (.int r)) σz := by
  refine MetC.of hX (by decide) (Nat.le_of_ble_eq_true rfl) (nX11_costs _ hX) ?_
  intro p e s m below meth c hx hb hr hml hts hown hlocks hnm hk hz0
  have hK := hk.1
  show J p l e (headSpec (ws_ yX11_costs cX11_costs 2 (some .int)) (rmC 5 105 σ σz)).room s m ([.ref a0, .int p1] : List Value).toArray below meth c 2 E (cZ σ) (cS σ) (MQ below (cQ E (some (.int r)) σz) ([.ref a0, .int p1] : List Value).toArray s (cZ σz - cZ σ) (cS σz - cS σ) (EA E)) (r, σz) (fX11_costs a0 p1 σ) σ 0 [(0, .ref a0), (1, .int p1)] []
  unfold fX11_costs
  refine Jrow (fun H locs ls hH hS hl k => lv_aload_n hx hb dX11_costs_0 rfl (lv_at hl 0 rfl) (k ls hl)) ?_
  refine Jgd (fun hg => ?_)
  refine Jcl (fun x1 hq => ?_)
  refine Jrow (fun H locs ls hH hS hl k => c_get (F := 86) (v := .ref x1) hx hb hts hown hK hH hg (hts _ q796) (fun _ h => h) (fvR rfl hq) dX11_costs_1 (k ls hl)) ?_
  clear hq
  refine Jrow (fun H locs ls hH hS hl k => lv_iconst (v := (3:Int32)) hx hb dX11_costs_4 (by decide) (k ls hl)) ?_
  refine Jgd (fun hg => ?_)
  refine Jcl2 (fun _ σ2 hf => ?_)
  refine Jcall (v := none) (rest := []) (mX0_body l E hf).1 ⟨rfl, rfl⟩ (fun H locs ls hH hS hl hR => ⟨_, va_runVN (C := RX0) (As := [.int (3:Int32)]) ⟨hx, hb, hml, hown, hts⟩ (mX0_body l E hf).2 ⟨va_cnB 1 hts (lw_meth q1112) rfl rfl rfl (cN hk.2.2.1 43 rfl) (hts _ q88) (by decide +kernel) ⟨Nat.le_of_ble_eq_true rfl, Nat.le_of_ble_eq_true rfl⟩, hts _ q1111, hts _ qs38⟩ (c_preV (ci := 1) hk hH hS hg rfl) rfl rfl hl.1 rfl (lv_room (Nat.le_of_ble_eq_true rfl)) dX11_costs_5 hR⟩) ?_
  clear hf
  refine Jrow (fun H locs ls hH hS hl k => lv_aload_n hx hb dX11_costs_8 rfl (lv_at hl 0 rfl) (k ls hl)) ?_
  refine Jrow (fun H locs ls hH hS hl k => lv_iload_n hx hb dX11_costs_9 rfl (lv_at hl 1 rfl) (k ls hl)) ?_
  refine Jgd (fun hg0 => ?_)
  refine Jcl2 (fun x4 σ5 hf => ?_)
  refine Jcall (v := (some (.int x4))) (rest := []) (nvR_lets _ hf) ⟨rfl, rfl⟩ (fun H locs ls hH hS hl hR => ?_) ?_
  · rcases vR_lets_s l E hf with ⟨hg, hM⟩ | ⟨hg, hM⟩ | ⟨hg, hM⟩ | ⟨hg, hM⟩ | ⟨hg, hM⟩ | ⟨hg, hM⟩ | ⟨hg, hM⟩
    · exact ⟨_, va_runU (C := RX11) (As := [.int p1]) ⟨hx, hb, hml, hown, hts⟩ hM.2 (va_cwU (owner := "FortyDays$Rule") 1 hts (lw_app (by
          intro w hw
          simp only [List.mem_cons, List.not_mem_nil, or_false] at hw
          rcases hw with e | e | e | e | e
          · rw [e]; exact q1172
          · rw [e]; exact q1128
          · rw [e]; exact q1127
          · rw [e]; exact q1126
          · rw [e]; exact q113) (lw_meth q1145)) rfl rfl rfl rfl (by decide +kernel) ⟨Nat.le_of_ble_eq_true rfl, Nat.le_of_ble_eq_true rfl⟩) (c_preV (ci := 11) hk hH hS hg rfl) rfl rfl hl.1 rfl (lv_room (Nat.le_of_ble_eq_true rfl)) dX11_costs_10 hR⟩
    · exact ⟨_, va_runU (C := RX12) (As := [.int p1]) ⟨hx, hb, hml, hown, hts⟩ hM.2 (va_cwO (owner := "FortyDays$Rule") 1 hts (lw_app (by
          intro w hw
          simp only [List.mem_cons, List.not_mem_nil, or_false] at hw
          rcases hw with e | e | e | e | e | e
          · rw [e]; exact q1172
          · rw [e]; exact q1128
          · rw [e]; exact q1126
          · rw [e]; exact q1136
          · rw [e]; exact q1137
          · rw [e]; exact q114) (lw_meth q1138)) rfl rfl rfl q1145 (by decide +kernel) ⟨Nat.le_of_ble_eq_true rfl, Nat.le_of_ble_eq_true rfl⟩) (c_preV (ci := 12) hk hH hS hg rfl) rfl rfl hl.1 rfl (lv_room (Nat.le_of_ble_eq_true rfl)) dX11_costs_10 hR⟩
    · exact ⟨_, va_runU (C := RX13) (As := [.int p1]) ⟨hx, hb, hml, hown, hts⟩ hM.2 (va_cwO (owner := "FortyDays$Rule") 1 hts (lw_app (by
          intro w hw
          simp only [List.mem_cons, List.not_mem_nil, or_false] at hw
          rcases hw with e | e | e | e | e | e
          · rw [e]; exact q1172
          · rw [e]; exact q1128
          · rw [e]; exact q1126
          · rw [e]; exact q1141
          · rw [e]; exact q1137
          · rw [e]; exact q114) (lw_meth q1138)) rfl rfl rfl q1145 (by decide +kernel) ⟨Nat.le_of_ble_eq_true rfl, Nat.le_of_ble_eq_true rfl⟩) (c_preV (ci := 13) hk hH hS hg rfl) rfl rfl hl.1 rfl (lv_room (Nat.le_of_ble_eq_true rfl)) dX11_costs_10 hR⟩
    · exact ⟨_, va_runU (C := RX14) (As := [.int p1]) ⟨hx, hb, hml, hown, hts⟩ hM.2 (va_cwO (owner := "FortyDays$Rule") 1 hts (lw_app (by
          intro w hw
          simp only [List.mem_cons, List.not_mem_nil, or_false] at hw
          rcases hw with e | e | e | e | e | e
          · rw [e]; exact q1172
          · rw [e]; exact q1128
          · rw [e]; exact q1126
          · rw [e]; exact q1142
          · rw [e]; exact q1137
          · rw [e]; exact q114) (lw_meth q1138)) rfl rfl rfl q1145 (by decide +kernel) ⟨Nat.le_of_ble_eq_true rfl, Nat.le_of_ble_eq_true rfl⟩) (c_preV (ci := 14) hk hH hS hg rfl) rfl rfl hl.1 rfl (lv_room (Nat.le_of_ble_eq_true rfl)) dX11_costs_10 hR⟩
    · exact ⟨_, va_runU (C := RX15) (As := [.int p1]) ⟨hx, hb, hml, hown, hts⟩ hM.2 (va_cwU (owner := "FortyDays$Rule") 1 hts (lw_app (by
          intro w hw
          simp only [List.mem_cons, List.not_mem_nil, or_false] at hw
          rcases hw with e | e | e | e | e
          · rw [e]; exact q1172
          · rw [e]; exact q1128
          · rw [e]; exact q1143
          · rw [e]; exact q1126
          · rw [e]; exact q113) (lw_meth q1145)) rfl rfl rfl rfl (by decide +kernel) ⟨Nat.le_of_ble_eq_true rfl, Nat.le_of_ble_eq_true rfl⟩) (c_preV (ci := 15) hk hH hS hg rfl) rfl rfl hl.1 rfl (lv_room (Nat.le_of_ble_eq_true rfl)) dX11_costs_10 hR⟩
    · exact ⟨_, va_runU (C := RX16) (As := [.int p1]) ⟨hx, hb, hml, hown, hts⟩ hM.2 (va_cwU (owner := "FortyDays$Rule") 1 hts (lw_app (by
          intro w hw
          simp only [List.mem_cons, List.not_mem_nil, or_false] at hw
          rcases hw with e | e | e | e | e
          · rw [e]; exact q1172
          · rw [e]; exact q1128
          · rw [e]; exact q1144
          · rw [e]; exact q1126
          · rw [e]; exact q113) (lw_meth q1145)) rfl rfl rfl rfl (by decide +kernel) ⟨Nat.le_of_ble_eq_true rfl, Nat.le_of_ble_eq_true rfl⟩) (c_preV (ci := 16) hk hH hS hg rfl) rfl rfl hl.1 rfl (lv_room (Nat.le_of_ble_eq_true rfl)) dX11_costs_10 hR⟩
    · exact ⟨_, va_runU (C := RX17) (As := [.int p1]) ⟨hx, hb, hml, hown, hts⟩ hM.2 (va_cwO (owner := "FortyDays$Rule") 1 hts (lw_app (by
          intro w hw
          simp only [List.mem_cons, List.not_mem_nil, or_false] at hw
          rcases hw with e | e | e | e | e | e
          · rw [e]; exact q1172
          · rw [e]; exact q1128
          · rw [e]; exact q1126
          · rw [e]; exact q1129
          · rw [e]; exact q1130
          · rw [e]; exact q119) (lw_meth q1131)) rfl rfl rfl q1145 (by decide +kernel) ⟨Nat.le_of_ble_eq_true rfl, Nat.le_of_ble_eq_true rfl⟩) (c_preV (ci := 17) hk hH hS hg rfl) rfl rfl hl.1 rfl (lv_room (Nat.le_of_ble_eq_true rfl)) dX11_costs_10 hR⟩
  clear hf
  refine Jrow (fun H locs ls hH hS hl k => lv_iconst (v := (2:Int32)) hx hb dX11_costs_13 (by decide) (k ls hl)) ?_
  refine Jrow (fun H locs ls hH hS hl k => lv_imul hx hb dX11_costs_14 (k ls hl)) ?_
  exact Jiret hx hb hr hlocks dX11_costs_15

def fX14_costs (a0 : Nat) (p1 : Int32) (σ : CS) : Option (Int32 × CS) :=
 gd (hf (cK σ a0) 89) (
 cl (cFR σ a0 89) (fun (x1 : Nat) =>
 gd (kd σ x1 2) (
 cl2 (fX0_body x1 (31:Int32) σ) (fun (_ : Unit) (σ2 : CS) =>
 gd (kin [15] (cK σ2 a0)) (
 cl2 (fX11_costs a0 p1 σ2) (fun (x4 : Int32) (σ5 : CS) =>
 some (x4 ^^^ (7:Int32), σ5)))))))
theorem nX14_costs {a0 : Nat} {p1 : Int32} {σ : CS} : Mn σ (fX14_costs a0 p1 σ) := by
  unfold fX14_costs
  refine Mgd ?_
  refine Mcl (fun x1 => ?_)
  refine Mgd ?_
  refine Mcl2 (nX0_body) (fun _ σ2 => ?_)
  refine Mgd ?_
  refine Mcl2 nX11_costs (fun x4 σ5 => ?_)
  exact Mret
set_option maxHeartbeats 4000000 in
set_option maxRecDepth 100000 in
theorem mX14_costs (l : Launch) (E : CE) {a0 : Nat} {p1 : Int32} {σ : CS} {r : Int32} {σz : CS} (hX : fX14_costs a0 p1 σ = some (r, σz)) : MetC l yX14_costs (ws_ yX14_costs cX14_costs 2 (some .int)) 6 126 E σ [.ref a0, .int p1] (some (.int r)) σz := by
  refine MetC.of hX (by decide) (Nat.le_of_ble_eq_true rfl) (nX14_costs _ hX) ?_
  intro p e s m below meth c hx hb hr hml hts hown hlocks hnm hk hz0
  have hK := hk.1
  show J p l e (headSpec (ws_ yX14_costs cX14_costs 2 (some .int)) (rmC 6 126 σ σz)).room s m ([.ref a0, .int p1] : List Value).toArray below meth c 2 E (cZ σ) (cS σ) (MQ below (cQ E (some (.int r)) σz) ([.ref a0, .int p1] : List Value).toArray s (cZ σz - cZ σ) (cS σz - cS σ) (EA E)) (r, σz) (fX14_costs a0 p1 σ) σ 0 [(0, .ref a0), (1, .int p1)] []
  unfold fX14_costs
  refine Jrow (fun H locs ls hH hS hl k => lv_aload_n hx hb dX14_costs_0 rfl (lv_at hl 0 rfl) (k ls hl)) ?_
  refine Jgd (fun hg => ?_)
  refine Jcl (fun x1 hq => ?_)
  refine Jrow (fun H locs ls hH hS hl k => c_get (F := 89) (v := .ref x1) hx hb hts hown hK hH hg (hts _ q837) (fun _ h => h) (fvR rfl hq) dX14_costs_1 (k ls hl)) ?_
  clear hq
  refine Jrow (fun H locs ls hH hS hl k => lv_bipush (v := (31:Int32)) hx hb dX14_costs_4 (by decide) (k ls hl)) ?_
  refine Jgd (fun hg => ?_)
  refine Jcl2 (fun _ σ2 hf => ?_)
  refine Jcall (v := none) (rest := []) (mX0_body l E hf).1 ⟨rfl, rfl⟩ (fun H locs ls hH hS hl hR => ⟨_, va_runVN (C := RX0) (As := [.int (31:Int32)]) ⟨hx, hb, hml, hown, hts⟩ (mX0_body l E hf).2 ⟨va_cnB 1 hts (lw_meth q1112) rfl rfl rfl (cN hk.2.2.1 55 rfl) (hts _ q88) (by decide +kernel) ⟨Nat.le_of_ble_eq_true rfl, Nat.le_of_ble_eq_true rfl⟩, hts _ q1111, hts _ qs38⟩ (c_preV (ci := 1) hk hH hS hg rfl) rfl rfl hl.1 rfl (lv_room (Nat.le_of_ble_eq_true rfl)) dX14_costs_6 hR⟩) ?_
  clear hf
  refine Jrow (fun H locs ls hH hS hl k => lv_aload_n hx hb dX14_costs_9 rfl (lv_at hl 0 rfl) (k ls hl)) ?_
  refine Jrow (fun H locs ls hH hS hl k => lv_iload_n hx hb dX14_costs_10 rfl (lv_at hl 1 rfl) (k ls hl)) ?_
  refine Jgd (fun hg0 => ?_)
  refine Jcl2 (fun x4 σ5 hf => ?_)
  refine Jcall (v := (some (.int x4))) (rest := []) (mX11_costs l E hf).1 ⟨rfl, rfl⟩ (fun H locs ls hH hS hl hR => ?_) ?_
  · have hg := kin1 hg0
    exact ⟨_, c_runSU (n := 1) (C := RX14) (O := "FortyDays$Rule") (x := ⟨"FortyDays$Days", "costs", "(I)I"⟩) (As := [.int p1]) (hk.1.1 14 _ rfl).2 ⟨hx, hb, hml, hown, hts⟩ (mX11_costs l E hf).2 q1171 q113 q1148 q1166 q1167 q844 (Or.inr q816) rfl rfl (by decide +kernel) ⟨Nat.le_of_ble_eq_true rfl, Nat.le_of_ble_eq_true rfl⟩ (c_preV (ci := 14) hk hH hS hg rfl) rfl rfl hl.1 rfl (lv_room (Nat.le_of_ble_eq_true rfl)) dX14_costs_11 hR⟩
  clear hf
  refine Jrow (fun H locs ls hH hS hl k => lv_bipush (v := (7:Int32)) hx hb dX14_costs_14 (by decide) (k ls hl)) ?_
  refine Jrow (fun H locs ls hH hS hl k => lv_ixor hx hb dX14_costs_16 (k ls hl)) ?_
  exact Jiret hx hb hr hlocks dX14_costs_17

def fX15_costs (a0 : Nat) (p1 : Int32) (σ : CS) : Option (Int32 × CS) :=
 gd (hf (cK σ a0) 90) (
 cl (cFR σ a0 90) (fun (x1 : Nat) =>
 gd (kd σ x1 2) (
 cl2 (fX0_body x1 (41:Int32) σ) (fun (_ : Unit) (σ2 : CS) =>
 gd (kin [16, 18] (cK σ2 a0)) (
 cl2 (fX11_costs a0 (p1 - (1:Int32)) σ2) (fun (x4 : Int32) (σ5 : CS) =>
 gd (kin [16, 18] (cK σ5 a0)) (
 cl2 (vR_holds a0 (2:Int32) σ5) (fun (x6 : Int32) (σ7 : CS) =>
 some (x4 + x6, σ7)))))))))
theorem nX15_costs {a0 : Nat} {p1 : Int32} {σ : CS} : Mn σ (fX15_costs a0 p1 σ) := by
  unfold fX15_costs
  refine Mgd ?_
  refine Mcl (fun x1 => ?_)
  refine Mgd ?_
  refine Mcl2 (nX0_body) (fun _ σ2 => ?_)
  refine Mgd ?_
  refine Mcl2 nX11_costs (fun x4 σ5 => ?_)
  refine Mgd ?_
  refine Mcl2 nvR_holds (fun x6 σ7 => ?_)
  exact Mret
set_option maxHeartbeats 4000000 in
set_option maxRecDepth 100000 in
theorem mX15_costs (l : Launch) (E : CE) {a0 : Nat} {p1 : Int32} {σ : CS} {r : Int32} {σz : CS} (hX : fX15_costs a0 p1 σ = some (r, σz)) : MetC l yX15_costs (ws_ yX15_costs cX15_costs 3 (some .int)) 6 126 E σ [.ref a0, .int p1] (some (.int r)) σz := by
  refine MetC.of hX (by decide) (Nat.le_of_ble_eq_true rfl) (nX15_costs _ hX) ?_
  intro p e s m below meth c hx hb hr hml hts hown hlocks hnm hk hz0
  have hK := hk.1
  show J p l e (headSpec (ws_ yX15_costs cX15_costs 3 (some .int)) (rmC 6 126 σ σz)).room s m ([.ref a0, .int p1] : List Value).toArray below meth c 3 E (cZ σ) (cS σ) (MQ below (cQ E (some (.int r)) σz) ([.ref a0, .int p1] : List Value).toArray s (cZ σz - cZ σ) (cS σz - cS σ) (EA E)) (r, σz) (fX15_costs a0 p1 σ) σ 0 [(0, .ref a0), (1, .int p1)] []
  unfold fX15_costs
  refine Jrow (fun H locs ls hH hS hl k => lv_aload_n hx hb dX15_costs_0 rfl (lv_at hl 0 rfl) (k ls hl)) ?_
  refine Jgd (fun hg => ?_)
  refine Jcl (fun x1 hq => ?_)
  refine Jrow (fun H locs ls hH hS hl k => c_get (F := 90) (v := .ref x1) hx hb hts hown hK hH hg (hts _ q851) (fun _ h => h) (fvR rfl hq) dX15_costs_1 (k ls hl)) ?_
  clear hq
  refine Jrow (fun H locs ls hH hS hl k => lv_bipush (v := (41:Int32)) hx hb dX15_costs_4 (by decide) (k ls hl)) ?_
  refine Jgd (fun hg => ?_)
  refine Jcl2 (fun _ σ2 hf => ?_)
  refine Jcall (v := none) (rest := []) (mX0_body l E hf).1 ⟨rfl, rfl⟩ (fun H locs ls hH hS hl hR => ⟨_, va_runVN (C := RX0) (As := [.int (41:Int32)]) ⟨hx, hb, hml, hown, hts⟩ (mX0_body l E hf).2 ⟨va_cnB 1 hts (lw_meth q1112) rfl rfl rfl (cN hk.2.2.1 58 rfl) (hts _ q88) (by decide +kernel) ⟨Nat.le_of_ble_eq_true rfl, Nat.le_of_ble_eq_true rfl⟩, hts _ q1111, hts _ qs38⟩ (c_preV (ci := 1) hk hH hS hg rfl) rfl rfl hl.1 rfl (lv_room (Nat.le_of_ble_eq_true rfl)) dX15_costs_6 hR⟩) ?_
  clear hf
  refine Jrow (fun H locs ls hH hS hl k => lv_aload_n hx hb dX15_costs_9 rfl (lv_at hl 0 rfl) (k ls hl)) ?_
  refine Jrow (fun H locs ls hH hS hl k => lv_iload_n hx hb dX15_costs_10 rfl (lv_at hl 1 rfl) (k ls hl)) ?_
  refine Jrow (fun H locs ls hH hS hl k => lv_iconst (v := (1:Int32)) hx hb dX15_costs_11 (by decide) (k ls hl)) ?_
  refine Jrow (fun H locs ls hH hS hl k => lv_isub hx hb dX15_costs_12 (k ls hl)) ?_
  refine Jgd (fun hg0 => ?_)
  refine Jcl2 (fun x4 σ5 hf => ?_)
  refine Jcall (v := (some (.int x4))) (rest := []) (mX11_costs l E hf).1 ⟨rfl, rfl⟩ (fun H locs ls hH hS hl hR => ?_) ?_
  · rcases kin2 hg0 with hg | hg
    · exact ⟨_, c_runSU (n := 1) (C := RX15) (O := "FortyDays$Rule") (x := ⟨"FortyDays$Rule", "costs", "(I)I"⟩) (As := [.int (p1 - (1:Int32))]) (hk.1.1 15 _ rfl).2 ⟨hx, hb, hml, hown, hts⟩ (mX11_costs l E hf).2 q1171 q113 q1148 q1155 q1150 q857 (Or.inl rfl) rfl rfl (by decide +kernel) ⟨Nat.le_of_ble_eq_true rfl, Nat.le_of_ble_eq_true rfl⟩ (c_preV (ci := 15) hk hH hS hg rfl) rfl rfl hl.1 rfl (lv_room (Nat.le_of_ble_eq_true rfl)) dX15_costs_13 hR⟩
    · exact ⟨_, c_runSU (n := 1) (C := RX17) (O := "FortyDays$Rule") (x := ⟨"FortyDays$Rule", "costs", "(I)I"⟩) (As := [.int (p1 - (1:Int32))]) (hk.1.1 17 _ rfl).2 ⟨hx, hb, hml, hown, hts⟩ (mX11_costs l E hf).2 q1171 q113 q1148 q1155 q1150 q857 (Or.inl rfl) rfl rfl (by decide +kernel) ⟨Nat.le_of_ble_eq_true rfl, Nat.le_of_ble_eq_true rfl⟩ (c_preV (ci := 17) hk hH hS hg rfl) rfl rfl hl.1 rfl (lv_room (Nat.le_of_ble_eq_true rfl)) dX15_costs_13 hR⟩
  clear hf
  refine Jrow (fun H locs ls hH hS hl k => lv_istore_n (lv' := [(2, .int x4), (0, .ref a0), (1, .int p1)]) hx hb dX15_costs_16 rfl hl (by decide) rfl k) ?_
  refine Jrow (fun H locs ls hH hS hl k => lv_iload_n hx hb dX15_costs_17 rfl (lv_at hl 0 rfl) (k ls hl)) ?_
  refine Jrow (fun H locs ls hH hS hl k => lv_aload_n hx hb dX15_costs_18 rfl (lv_at hl 1 rfl) (k ls hl)) ?_
  refine Jrow (fun H locs ls hH hS hl k => lv_iconst (v := (2:Int32)) hx hb dX15_costs_19 (by decide) (k ls hl)) ?_
  refine Jgd (fun hg0 => ?_)
  refine Jcl2 (fun x6 σ7 hf => ?_)
  refine Jcall (v := (some (.int x6))) (rest := [.int x4]) (nvR_holds _ hf) ⟨rfl, rfl⟩ (fun H locs ls hH hS hl hR => ?_) ?_
  · rcases vR_holds_s l E hf with ⟨hg, hM⟩ | ⟨hg, hM⟩ | ⟨hg, hM⟩ | ⟨hg, hM⟩ | ⟨hg, hM⟩ | ⟨hg, hM⟩ | ⟨hg, hM⟩
    · exact absurd hg0 (by rw [kd_eq hg]; decide)
    · exact absurd hg0 (by rw [kd_eq hg]; decide)
    · exact absurd hg0 (by rw [kd_eq hg]; decide)
    · exact absurd hg0 (by rw [kd_eq hg]; decide)
    · exact ⟨_, va_runU (C := RX15) (As := [.int (2:Int32)]) ⟨hx, hb, hml, hown, hts⟩ hM.2 (va_cwU (owner := "FortyDays$Rule") 1 hts (lw_app (by
          intro w hw
          simp only [List.mem_cons, List.not_mem_nil, or_false] at hw
          rcases hw with e | e | e | e | e
          · rw [e]; exact q1156
          · rw [e]; exact q1157
          · rw [e]; exact q1159
          · rw [e]; exact q1101
          · rw [e]; exact q113) (lw_meth q1123)) rfl rfl rfl rfl (by decide +kernel) ⟨Nat.le_of_ble_eq_true rfl, Nat.le_of_ble_eq_true rfl⟩) (c_preV (ci := 15) hk hH hS hg rfl) rfl rfl hl.1 rfl (lv_room (Nat.le_of_ble_eq_true rfl)) dX15_costs_20 hR⟩
    · exact absurd hg0 (by rw [kd_eq hg]; decide)
    · exact ⟨_, va_runU (C := RX17) (As := [.int (2:Int32)]) ⟨hx, hb, hml, hown, hts⟩ hM.2 (va_cwU (owner := "FortyDays$Rule") 1 hts (lw_app (by
          intro w hw
          simp only [List.mem_cons, List.not_mem_nil, or_false] at hw
          rcases hw with e | e | e | e | e
          · rw [e]; exact q1156
          · rw [e]; exact q1157
          · rw [e]; exact q1158
          · rw [e]; exact q1101
          · rw [e]; exact q113) (lw_meth q1123)) rfl rfl rfl rfl (by decide +kernel) ⟨Nat.le_of_ble_eq_true rfl, Nat.le_of_ble_eq_true rfl⟩) (c_preV (ci := 17) hk hH hS hg rfl) rfl rfl hl.1 rfl (lv_room (Nat.le_of_ble_eq_true rfl)) dX15_costs_20 hR⟩
  clear hf
  refine Jrow (fun H locs ls hH hS hl k => lv_iadd hx hb dX15_costs_23 (k ls hl)) ?_
  exact Jiret hx hb hr hlocks dX15_costs_24

def vR_costs (a0 : Nat) (p1 : Int32) (σ : CS) : Option (Int32 × CS) := if kd σ a0 12 = true then fX11_costs a0 p1 σ else if kd σ a0 13 = true then fX11_costs a0 p1 σ else if kd σ a0 14 = true then fX11_costs a0 p1 σ else if kd σ a0 15 = true then fX14_costs a0 p1 σ else if kd σ a0 16 = true then fX15_costs a0 p1 σ else if kd σ a0 17 = true then fX11_costs a0 p1 σ else if kd σ a0 18 = true then fX15_costs a0 p1 σ else none
theorem nvR_costs {a0 : Nat} {p1 : Int32} {σ : CS} : Mn σ (vR_costs a0 p1 σ) := Mite nX11_costs (Mite nX11_costs (Mite nX11_costs (Mite nX14_costs (Mite nX15_costs (Mite nX11_costs (Mite nX15_costs (Mnone)))))))
theorem vR_costs_s (l : Launch) (E : CE) {a0 : Nat} {p1 : Int32} {σ : CS} {r : Int32} {σz : CS} (hX : vR_costs a0 p1 σ = some (r, σz)) : (kd σ a0 12 = true ∧ MetC l yX11_costs (ws_ yX11_costs cX11_costs 2 (some .int)) 6 126 E σ [.ref a0, .int p1] (some (.int r)) σz) ∨ (kd σ a0 13 = true ∧ MetC l yX11_costs (ws_ yX11_costs cX11_costs 2 (some .int)) 6 126 E σ [.ref a0, .int p1] (some (.int r)) σz) ∨ (kd σ a0 14 = true ∧ MetC l yX11_costs (ws_ yX11_costs cX11_costs 2 (some .int)) 6 126 E σ [.ref a0, .int p1] (some (.int r)) σz) ∨ (kd σ a0 15 = true ∧ MetC l yX14_costs (ws_ yX14_costs cX14_costs 2 (some .int)) 6 126 E σ [.ref a0, .int p1] (some (.int r)) σz) ∨ (kd σ a0 16 = true ∧ MetC l yX15_costs (ws_ yX15_costs cX15_costs 3 (some .int)) 6 126 E σ [.ref a0, .int p1] (some (.int r)) σz) ∨ (kd σ a0 17 = true ∧ MetC l yX11_costs (ws_ yX11_costs cX11_costs 2 (some .int)) 6 126 E σ [.ref a0, .int p1] (some (.int r)) σz) ∨ (kd σ a0 18 = true ∧ MetC l yX15_costs (ws_ yX15_costs cX15_costs 3 (some .int)) 6 126 E σ [.ref a0, .int p1] (some (.int r)) σz) := by
  unfold vR_costs at hX
  by_cases h0 : kd σ a0 12 = true
  · exact Or.inl ⟨h0, (mX11_costs l E (ipos h0 hX)).lift (by decide) (by decide)⟩
  · replace hX := ineg h0 hX
    by_cases h1 : kd σ a0 13 = true
    · exact Or.inr (Or.inl ⟨h1, (mX11_costs l E (ipos h1 hX)).lift (by decide) (by decide)⟩)
    · replace hX := ineg h1 hX
      by_cases h2 : kd σ a0 14 = true
      · exact Or.inr (Or.inr (Or.inl ⟨h2, (mX11_costs l E (ipos h2 hX)).lift (by decide) (by decide)⟩))
      · replace hX := ineg h2 hX
        by_cases h3 : kd σ a0 15 = true
        · exact Or.inr (Or.inr (Or.inr (Or.inl ⟨h3, (mX14_costs l E (ipos h3 hX)).lift (by decide) (by decide)⟩)))
        · replace hX := ineg h3 hX
          by_cases h4 : kd σ a0 16 = true
          · exact Or.inr (Or.inr (Or.inr (Or.inr (Or.inl ⟨h4, (mX15_costs l E (ipos h4 hX)).lift (by decide) (by decide)⟩))))
          · replace hX := ineg h4 hX
            by_cases h5 : kd σ a0 17 = true
            · exact Or.inr (Or.inr (Or.inr (Or.inr (Or.inr (Or.inl ⟨h5, (mX11_costs l E (ipos h5 hX)).lift (by decide) (by decide)⟩)))))
            · replace hX := ineg h5 hX
              by_cases h6 : kd σ a0 18 = true
              · exact Or.inr (Or.inr (Or.inr (Or.inr (Or.inr (Or.inr (⟨h6, (mX15_costs l E (ipos h6 hX)).lift (by decide) (by decide)⟩))))))
              · replace hX := ineg h6 hX
                cases hX