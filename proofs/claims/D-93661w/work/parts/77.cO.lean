/-! printed by gen/comp.py -/
def fX1_next (a0 : Nat) (σ : CS) : Option (Int32 × CS) :=
 gd (hf (cK σ a0) 46) (
 gd (hf (cK σ a0) 48) (
 cl (cFR σ a0 48) (fun (x1 : Nat) =>
 gd (hf (cK σ x1) 25) (
 jn (fun (x2 : Int32) => some (x2, σ)) (fun (k3 : Int32 → Option (Int32 × CS)) =>
 if (cFI σ x1 25) ≤ (cFI σ a0 46) then
 k3 (-1:Int32)
 else
 gd (hf (cK σ a0) 48) (
 cl (cFR σ a0 48) (fun (x4 : Nat) =>
 gd (hf (cK σ x4) 24) (
 cl (cFR σ x4 24) (fun (x5 : Nat) =>
 gd (hf (cK σ a0) 46) (
 gd (kd σ x5 104) (
 gd (ib (cFI σ a0 46) (cLN σ x5)) (
 k3 (cAI σ x5 (cFI σ a0 46).toNatClampNeg)))))))))))))
theorem nX1_next {a0 : Nat} {σ : CS} : Mn σ (fX1_next a0 σ) := by
  unfold fX1_next
  refine Mgd ?_
  refine Mgd ?_
  refine Mcl (fun x1 => ?_)
  refine Mgd ?_
  refine Mjn1 (fun (x2 : Int32) (X6 : Option (Int32 × CS)) => Mn σ X6) (fun x2 => ?_) (fun k3 hk3 => ?_)
  · exact Mret
  · refine Mite ?_ ?_
    · exact hk3 (-1:Int32)
    · refine Mgd ?_
      refine Mcl (fun x4 => ?_)
      refine Mgd ?_
      refine Mcl (fun x5 => ?_)
      refine Mgd ?_
      refine Mgd ?_
      refine Mgd ?_
      exact hk3 (cAI σ x5 (cFI σ a0 46).toNatClampNeg)
set_option maxHeartbeats 4000000 in
set_option maxRecDepth 100000 in
theorem mX1_next (l : Launch) (E : CE) {a0 : Nat} {σ : CS} {r : Int32} {σz : CS} (hX : fX1_next a0 σ = some (r, σz)) : MetC l yX1_next (ws_ yX1_next cX1_next 1 (some .int)) 0 0 E σ [.ref a0] (some (.int r)) σz := by
  refine MetC.of hX (by decide) (Nat.le_of_ble_eq_true rfl) (nX1_next _ hX) ?_
  intro p e s m below meth c hx hb hr hml hts hown hlocks hnm hk hz0
  have hK := hk.1
  show J p l e (headSpec (ws_ yX1_next cX1_next 1 (some .int)) (rmC 0 0 σ σz)).room s m ([.ref a0] : List Value).toArray below meth c 1 E (cZ σ) (cS σ) (MQ below (cQ E (some (.int r)) σz) ([.ref a0] : List Value).toArray s (cZ σz - cZ σ) (cS σz - cS σ) (EA E)) (r, σz) (fX1_next a0 σ) σ 0 [(0, .ref a0)] []
  unfold fX1_next
  refine Jrow (fun H locs ls hH hS hl k => lv_aload_n hx hb dX1_next_0 rfl (lv_at hl 0 rfl) (k ls hl)) ?_
  refine Jgd (fun hg => ?_)
  refine Jrow (fun H locs ls hH hS hl k => c_get (F := 46) (v := .int (cFI σ a0 46)) hx hb hts hown hK hH hg (hts _ q167) (fun _ h => h) rfl dX1_next_1 (k ls hl)) ?_
  refine Jrow (fun H locs ls hH hS hl k => lv_aload_n hx hb dX1_next_4 rfl (lv_at hl 0 rfl) (k ls hl)) ?_
  refine Jgd (fun hg => ?_)
  refine Jcl (fun x1 hq => ?_)
  refine Jrow (fun H locs ls hH hS hl k => c_get (F := 48) (v := .ref x1) hx hb hts hown hK hH hg (hts _ q169) (fun _ h => h) (fvR rfl hq) dX1_next_5 (k ls hl)) ?_
  clear hq
  refine Jgd (fun hg => ?_)
  refine Jrow (fun H locs ls hH hS hl k => c_getN (F := 25) (v := .int (cFI σ x1 25)) hx hb hts hown hK hH hg (cN hk.2.2.1 27 rfl) (fun _ h => h) rfl dX1_next_8 (k ls hl)) ?_
  refine Jjn1 (fun (x2 : Int32) X6 => J p l e (headSpec (ws_ yX1_next cX1_next 1 (some .int)) (rmC 0 0 σ σz)).room s m ([.ref a0] : List Value).toArray below meth c 1 E (cZ σ) (cS σ) (MQ below (cQ E (some (.int r)) σz) ([.ref a0] : List Value).toArray s (cZ σz - cZ σ) (cS σz - cS σ) (EA E)) (r, σz) X6 σ 30 [] [.int x2]) (fun x2 => ?_) (fun k3 hk3 => ?_)
  · exact Jiret hx hb hr hlocks dX1_next_30
  · refine Jite (fun hc => ?_) (fun hc => ?_)
    · refine Jrow (fun H locs ls hH hS hl k => lv_icmp_ge (tgt := 29) hx hb dX1_next_11 (by decide) (fun _ => (k ls hl)) (fun h => absurd hc h)) ?_
      clear hc
      refine Jrow (fun H locs ls hH hS hl k => lv_iconst (v := (-1:Int32)) hx hb dX1_next_29 (by decide) (k ls hl)) ?_
      exact Jsub [] rfl (hk3 (-1:Int32))
    · refine Jrow (fun H locs ls hH hS hl k => lv_icmp_ge (tgt := 29) hx hb dX1_next_11 (by decide) (fun h => absurd h hc) (fun _ => (k ls hl))) ?_
      clear hc
      refine Jrow (fun H locs ls hH hS hl k => lv_aload_n hx hb dX1_next_14 rfl (lv_at hl 0 rfl) (k ls hl)) ?_
      refine Jgd (fun hg => ?_)
      refine Jcl (fun x4 hq => ?_)
      refine Jrow (fun H locs ls hH hS hl k => c_get (F := 48) (v := .ref x4) hx hb hts hown hK hH hg (hts _ q169) (fun _ h => h) (fvR rfl hq) dX1_next_15 (k ls hl)) ?_
      clear hq
      refine Jgd (fun hg => ?_)
      refine Jcl (fun x5 hq => ?_)
      refine Jrow (fun H locs ls hH hS hl k => c_getN (F := 24) (v := .ref x5) hx hb hts hown hK hH hg (cN hk.2.2.1 26 rfl) (fun _ h => h) (fvR rfl hq) dX1_next_18 (k ls hl)) ?_
      clear hq
      refine Jrow (fun H locs ls hH hS hl k => lv_aload_n hx hb dX1_next_21 rfl (lv_at hl 0 rfl) (k ls hl)) ?_
      refine Jgd (fun hg => ?_)
      refine Jrow (fun H locs ls hH hS hl k => c_get (F := 46) (v := .int (cFI σ a0 46)) hx hb hts hown hK hH hg (hts _ q167) (fun _ h => h) rfl dX1_next_22 (k ls hl)) ?_
      refine Jgd (fun hk1 => ?_)
      refine Jgd (fun hg => ?_)
      refine Jrow (fun H locs ls hH hS hl k => c_bald hx hb hK hH hk1 hg dX1_next_25 (k ls hl)) ?_
      refine Jrow (fun H locs ls hH hS hl k => lv_goto (tgt := 30) hx hb dX1_next_26 (by decide) (k ls hl)) ?_
      exact Jsub [] rfl (hk3 (cAI σ x5 (cFI σ a0 46).toNatClampNeg))

def fX1_ahead (a0 : Nat) (p1 : Int32) (σ : CS) : Option (Int32 × CS) :=
 gd (hf (cK σ a0) 46) (
 gd (hf (cK σ a0) 48) (
 cl (cFR σ a0 48) (fun (x1 : Nat) =>
 gd (hf (cK σ x1) 25) (
 jn (fun (x2 : Int32) => some (x2, σ)) (fun (k3 : Int32 → Option (Int32 × CS)) =>
 if (cFI σ x1 25) ≤ ((cFI σ a0 46) + p1) then
 k3 (-1:Int32)
 else
 gd (hf (cK σ a0) 48) (
 cl (cFR σ a0 48) (fun (x4 : Nat) =>
 gd (hf (cK σ x4) 24) (
 cl (cFR σ x4 24) (fun (x5 : Nat) =>
 gd (hf (cK σ a0) 46) (
 gd (kd σ x5 104) (
 gd (ib ((cFI σ a0 46) + p1) (cLN σ x5)) (
 k3 (cAI σ x5 ((cFI σ a0 46) + p1).toNatClampNeg)))))))))))))
theorem nX1_ahead {a0 : Nat} {p1 : Int32} {σ : CS} : Mn σ (fX1_ahead a0 p1 σ) := by
  unfold fX1_ahead
  refine Mgd ?_
  refine Mgd ?_
  refine Mcl (fun x1 => ?_)
  refine Mgd ?_
  refine Mjn1 (fun (x2 : Int32) (X6 : Option (Int32 × CS)) => Mn σ X6) (fun x2 => ?_) (fun k3 hk3 => ?_)
  · exact Mret
  · refine Mite ?_ ?_
    · exact hk3 (-1:Int32)
    · refine Mgd ?_
      refine Mcl (fun x4 => ?_)
      refine Mgd ?_
      refine Mcl (fun x5 => ?_)
      refine Mgd ?_
      refine Mgd ?_
      refine Mgd ?_
      exact hk3 (cAI σ x5 ((cFI σ a0 46) + p1).toNatClampNeg)
set_option maxHeartbeats 4000000 in
set_option maxRecDepth 100000 in
theorem mX1_ahead (l : Launch) (E : CE) {a0 : Nat} {p1 : Int32} {σ : CS} {r : Int32} {σz : CS} (hX : fX1_ahead a0 p1 σ = some (r, σz)) : MetC l yX1_ahead (ws_ yX1_ahead cX1_ahead 2 (some .int)) 0 0 E σ [.ref a0, .int p1] (some (.int r)) σz := by
  refine MetC.of hX (by decide) (Nat.le_of_ble_eq_true rfl) (nX1_ahead _ hX) ?_
  intro p e s m below meth c hx hb hr hml hts hown hlocks hnm hk hz0
  have hK := hk.1
  show J p l e (headSpec (ws_ yX1_ahead cX1_ahead 2 (some .int)) (rmC 0 0 σ σz)).room s m ([.ref a0, .int p1] : List Value).toArray below meth c 2 E (cZ σ) (cS σ) (MQ below (cQ E (some (.int r)) σz) ([.ref a0, .int p1] : List Value).toArray s (cZ σz - cZ σ) (cS σz - cS σ) (EA E)) (r, σz) (fX1_ahead a0 p1 σ) σ 0 [(0, .ref a0), (1, .int p1)] []
  unfold fX1_ahead
  refine Jrow (fun H locs ls hH hS hl k => lv_aload_n hx hb dX1_ahead_0 rfl (lv_at hl 0 rfl) (k ls hl)) ?_
  refine Jgd (fun hg => ?_)
  refine Jrow (fun H locs ls hH hS hl k => c_get (F := 46) (v := .int (cFI σ a0 46)) hx hb hts hown hK hH hg (hts _ q167) (fun _ h => h) rfl dX1_ahead_1 (k ls hl)) ?_
  refine Jrow (fun H locs ls hH hS hl k => lv_iload_n hx hb dX1_ahead_4 rfl (lv_at hl 1 rfl) (k ls hl)) ?_
  refine Jrow (fun H locs ls hH hS hl k => lv_iadd hx hb dX1_ahead_5 (k ls hl)) ?_
  refine Jrow (fun H locs ls hH hS hl k => lv_aload_n hx hb dX1_ahead_6 rfl (lv_at hl 0 rfl) (k ls hl)) ?_
  refine Jgd (fun hg => ?_)
  refine Jcl (fun x1 hq => ?_)
  refine Jrow (fun H locs ls hH hS hl k => c_get (F := 48) (v := .ref x1) hx hb hts hown hK hH hg (hts _ q169) (fun _ h => h) (fvR rfl hq) dX1_ahead_7 (k ls hl)) ?_
  clear hq
  refine Jgd (fun hg => ?_)
  refine Jrow (fun H locs ls hH hS hl k => c_getN (F := 25) (v := .int (cFI σ x1 25)) hx hb hts hown hK hH hg (cN hk.2.2.1 27 rfl) (fun _ h => h) rfl dX1_ahead_10 (k ls hl)) ?_
  refine Jjn1 (fun (x2 : Int32) X6 => J p l e (headSpec (ws_ yX1_ahead cX1_ahead 2 (some .int)) (rmC 0 0 σ σz)).room s m ([.ref a0, .int p1] : List Value).toArray below meth c 2 E (cZ σ) (cS σ) (MQ below (cQ E (some (.int r)) σz) ([.ref a0, .int p1] : List Value).toArray s (cZ σz - cZ σ) (cS σz - cS σ) (EA E)) (r, σz) X6 σ 34 [] [.int x2]) (fun x2 => ?_) (fun k3 hk3 => ?_)
  · exact Jiret hx hb hr hlocks dX1_ahead_34
  · refine Jite (fun hc => ?_) (fun hc => ?_)
    · refine Jrow (fun H locs ls hH hS hl k => lv_icmp_ge (tgt := 33) hx hb dX1_ahead_13 (by decide) (fun _ => (k ls hl)) (fun h => absurd hc h)) ?_
      clear hc
      refine Jrow (fun H locs ls hH hS hl k => lv_iconst (v := (-1:Int32)) hx hb dX1_ahead_33 (by decide) (k ls hl)) ?_
      exact Jsub [] rfl (hk3 (-1:Int32))
    · refine Jrow (fun H locs ls hH hS hl k => lv_icmp_ge (tgt := 33) hx hb dX1_ahead_13 (by decide) (fun h => absurd h hc) (fun _ => (k ls hl))) ?_
      clear hc
      refine Jrow (fun H locs ls hH hS hl k => lv_aload_n hx hb dX1_ahead_16 rfl (lv_at hl 0 rfl) (k ls hl)) ?_
      refine Jgd (fun hg => ?_)
      refine Jcl (fun x4 hq => ?_)
      refine Jrow (fun H locs ls hH hS hl k => c_get (F := 48) (v := .ref x4) hx hb hts hown hK hH hg (hts _ q169) (fun _ h => h) (fvR rfl hq) dX1_ahead_17 (k ls hl)) ?_
      clear hq
      refine Jgd (fun hg => ?_)
      refine Jcl (fun x5 hq => ?_)
      refine Jrow (fun H locs ls hH hS hl k => c_getN (F := 24) (v := .ref x5) hx hb hts hown hK hH hg (cN hk.2.2.1 26 rfl) (fun _ h => h) (fvR rfl hq) dX1_ahead_20 (k ls hl)) ?_
      clear hq
      refine Jrow (fun H locs ls hH hS hl k => lv_aload_n hx hb dX1_ahead_23 rfl (lv_at hl 0 rfl) (k ls hl)) ?_
      refine Jgd (fun hg => ?_)
      refine Jrow (fun H locs ls hH hS hl k => c_get (F := 46) (v := .int (cFI σ a0 46)) hx hb hts hown hK hH hg (hts _ q167) (fun _ h => h) rfl dX1_ahead_24 (k ls hl)) ?_
      refine Jrow (fun H locs ls hH hS hl k => lv_iload_n hx hb dX1_ahead_27 rfl (lv_at hl 1 rfl) (k ls hl)) ?_
      refine Jrow (fun H locs ls hH hS hl k => lv_iadd hx hb dX1_ahead_28 (k ls hl)) ?_
      refine Jgd (fun hk1 => ?_)
      refine Jgd (fun hg => ?_)
      refine Jrow (fun H locs ls hH hS hl k => c_bald hx hb hK hH hk1 hg dX1_ahead_29 (k ls hl)) ?_
      refine Jrow (fun H locs ls hH hS hl k => lv_goto (tgt := 34) hx hb dX1_ahead_30 (by decide) (k ls hl)) ?_
      exact Jsub [] rfl (hk3 (cAI σ x5 ((cFI σ a0 46) + p1).toNatClampNeg))

def fX1_sign (a0 : Nat) (p1 : Int32) (σ : CS) : Option ((Unit ⊕ Nat) × CS) :=
 gd (kd σ a0 3) (
 cl2 (fX1_next a0 σ) (fun (x2 : Int32) (σ1 : CS) =>
 if x2 = p1 then
 gd (hf (cK σ1 a0) 46) (
 gd (hf (cK σ1 a0) 46) (
 bd (uFI σ1 a0 46 ((cFI σ1 a0 46) + (1:Int32))) (fun (σ3 : CS) =>
 some (.inl (), σ3))))
 else
 bd (nO σ1 7 7) (fun (σ4 : CS) =>
 gd (hf (cK σ4 a0) 46) (
 cl2 (fX6_init (cZ σ1) (cFI σ4 a0 46) σ4) (fun (_ : Unit) (σ5 : CS) =>
 some (.inr (cZ σ1), σ5))))))
theorem nX1_sign {a0 : Nat} {p1 : Int32} {σ : CS} : Mn σ (fX1_sign a0 p1 σ) := by
  unfold fX1_sign
  refine Mgd ?_
  refine Mcl2 (nX1_next) (fun x2 σ1 => ?_)
  refine Mite ?_ ?_
  · refine Mgd ?_
    refine Mgd ?_
    refine Mst (Nat.le_refl _) (Nat.le_refl _) (fun σ3 => ?_)
    exact Mret
  · refine Mst (Nat.le_succ _) (Nat.le_add_right _ _) (fun σ4 => ?_)
    refine Mgd ?_
    refine Mcl2 (nX6_init) (fun _ σ5 => ?_)
    exact Mret
set_option maxHeartbeats 4000000 in
set_option maxRecDepth 100000 in
theorem mX1_sign (l : Launch) (E : CE) {a0 : Nat} {p1 : Int32} {σ : CS} {res : Unit ⊕ Nat} {σz : CS} (hX : fX1_sign a0 p1 σ = some (res, σz)) : MetX l yX1_sign (ws_ yX1_sign cX1_sign 2 none) 4 81 E σ [.ref a0, .int p1] (xoV res) σz := by
  refine MetX.of hX (by decide) (Nat.le_of_ble_eq_true rfl) (nX1_sign _ hX) ?_
  intro p e s m below meth c hx hb hr hml hts hown hlocks hout hk hz0
  have hK := hk.1
  show J p l e (headSpec (ws_ yX1_sign cX1_sign 2 none) (rmC 4 81 σ σz)).room s m ([.ref a0, .int p1] : List Value).toArray below meth c 2 E (cZ σ) (cS σ) (MQX below E (xoV res) σz s (cZ σz - cZ σ) (cS σz - cS σ)) (res, σz) (fX1_sign a0 p1 σ) σ 0 [(0, .ref a0), (1, .int p1)] []
  unfold fX1_sign
  refine Jrow (fun H locs ls hH hS hl k => lv_aload_n hx hb dX1_sign_0 rfl (lv_at hl 0 rfl) (k ls hl)) ?_
  refine Jgd (fun hg => ?_)
  refine Jcl2 (fun x2 σ1 hf => ?_)
  refine Jcall (v := (some (.int x2))) (rest := []) (mX1_next l E hf).1 ⟨rfl, rfl⟩ (fun H locs ls hH hS hl hR => ⟨_, va_runV (C := RX1) (As := []) ⟨hx, hb, hml, hown, hts⟩ (mX1_next l E hf).2 (cwV 0 hts (lw_V q380 q382 qs1 q92 q383) rfl rfl rfl (by decide +kernel) ⟨Nat.le_of_ble_eq_true rfl, Nat.le_of_ble_eq_true rfl⟩) (c_preV (ci := 2) hk hH hS hg rfl) rfl rfl hl.1 rfl (lv_room (Nat.le_of_ble_eq_true rfl)) dX1_sign_1 hR⟩) ?_
  clear hf
  refine Jrow (fun H locs ls hH hS hl k => lv_iload_n hx hb dX1_sign_4 rfl (lv_at hl 1 rfl) (k ls hl)) ?_
  refine Jite (fun hc => ?_) (fun hc => ?_)
  · refine Jrow (fun H locs ls hH hS hl k => lv_icmp_eq (tgt := 20) hx hb dX1_sign_5 (by decide) (fun _ => (k ls hl)) (fun h => absurd hc h)) ?_
    clear hc
    refine Jrow (fun H locs ls hH hS hl k => lv_aload_n hx hb dX1_sign_20 rfl (lv_at hl 0 rfl) (k ls hl)) ?_
    refine Jrow (fun H locs ls hH hS hl k => lv_dup hx hb dX1_sign_21 rfl (k ls hl)) ?_
    refine Jgd (fun hg => ?_)
    refine Jrow (fun H locs ls hH hS hl k => c_get (F := 46) (v := .int (cFI σ1 a0 46)) hx hb hts hown hK hH hg (hts _ q167) (fun _ h => h) rfl dX1_sign_22 (k ls hl)) ?_
    refine Jrow (fun H locs ls hH hS hl k => lv_iconst (v := (1:Int32)) hx hb dX1_sign_25 (by decide) (k ls hl)) ?_
    refine Jrow (fun H locs ls hH hS hl k => lv_iadd hx hb dX1_sign_26 (k ls hl)) ?_
    refine Jgd (fun hg => ?_)
    refine Jst (σ1 := uFI σ1 a0 46 ((cFI σ1 a0 46) + (1:Int32))) rfl rfl (fun H locs ls hH hS hl k => c_putI (F := 46) (ty := .int) (x := ((cFI σ1 a0 46) + (1:Int32))) hx hb hts hown hK hH hS hg (hts _ q167) (fun _ h => h) rfl rfl (by decide +kernel) rfl rfl rfl dX1_sign_27 k) (fun σ3 => ?_)
    exact JXvret hx hb hr hlocks dX1_sign_30
  · refine Jrow (fun H locs ls hH hS hl k => lv_icmp_eq (tgt := 20) hx hb dX1_sign_5 (by decide) (fun h => absurd h hc) (fun _ => (k ls hl))) ?_
    clear hc
    refine Jnew (σ1 := nO σ1 7 7) (n := 7) rfl rfl ⟨rfl, rfl⟩ (fun H locs ls hH hS hl h1 h2 k => c_new (ci := 6) hx hb hts hown hK hH hS hk.2.1 in_X6 tyX6 tyX6_ok (by decide +kernel) (hts _ q400) (hts _ q401) (hts _ q99) rfl h1 h2 dX1_sign_8 k) (fun σ4 eσ4 => ?_)
    clear eσ4
    refine Jrow (fun H locs ls hH hS hl k => lv_dup hx hb dX1_sign_11 rfl (k ls hl)) ?_
    refine Jrow (fun H locs ls hH hS hl k => lv_aload_n hx hb dX1_sign_12 rfl (lv_at hl 0 rfl) (k ls hl)) ?_
    refine Jgd (fun hg => ?_)
    refine Jrow (fun H locs ls hH hS hl k => c_get (F := 46) (v := .int (cFI σ4 a0 46)) hx hb hts hown hK hH hg (hts _ q167) (fun _ h => h) rfl dX1_sign_13 (k ls hl)) ?_
    refine Jcl2 (fun _ σ5 hf => ?_)
    refine Jcall (v := none) (rest := [.ref (cZ σ1)]) (mX6_init l E hf).1 ⟨rfl, rfl⟩ (fun H locs ls hH hS hl hR => ⟨_, va_runI (As := [.int (cFI σ4 a0 46)]) ⟨hx, hb, hml, hown, hts⟩ (mX6_init l E hf).2 (cwI 1 hts (lw_meth q439) rfl rfl rfl (hts _ q99) (hts _ q437) (hts _ q438) rfl (by decide +kernel) ⟨Nat.le_of_ble_eq_true rfl, Nat.le_of_ble_eq_true rfl⟩) (c_preS hk hH hS) rfl rfl hl.1 rfl (lv_room (Nat.le_of_ble_eq_true rfl)) dX1_sign_16 hR⟩) ?_
    clear hf
    exact JXthrow (fun _ => rfl) hx hb hout hlocks dX1_sign_19

def fX1_word (a0 : Nat) (p1 : Nat) (σ : CS) : Option ((Unit ⊕ Nat) × CS) :=
 gd (kd σ p1 105) (
 bd (nI (cLN σ p1)) (fun (x1 : Int32) =>
 lp (fun _ _ => none) (fun (k4 : Int32 → CS → Option ((Unit ⊕ Nat) × CS)) (x2 : Int32) (σ3 : CS) =>
 if x1 ≤ x2 then
 gd (kd σ3 a0 3) (
 clx (fX1_sign a0 (32:Int32) σ3) (fun (_ : Unit) (σ5 : CS) =>
 some (.inl (), σ5)))
 else
 gd (kd σ3 p1 105) (
 gd (ib x2 (cLN σ3 p1)) (
 bd (cAI σ3 p1 x2.toNatClampNeg) (fun (x7 : Int32) =>
 gd (kd σ3 a0 3) (
 clx (fX1_sign a0 x7 σ3) (fun (_ : Unit) (σ8 : CS) =>
 bd (x2 + (1:Int32)) (fun (x10 : Int32) =>
 k4 x10 σ8))))))) NF (0:Int32) σ))
theorem nX1_word {a0 : Nat} {p1 : Nat} {σ : CS} : Mn σ (fX1_word a0 p1 σ) := by
  unfold fX1_word
  refine Mgd ?_
  refine Mbd (fun x1 => ?_)
  refine Plp2 (fun (x2 : Int32) (σ3 : CS) (X11 : Option ((Unit ⊕ Nat) × CS)) => Mn σ3 X11) (fun _ _ => Mnone) (fun k4 hk4 x2 σ3 => ?_)
  refine Mite ?_ ?_
  · refine Mgd ?_
    refine Mclx (nX1_sign) (fun _ σ5 => ?_)
    exact Mret
  · refine Mgd ?_
    refine Mgd ?_
    refine Mbd (fun x7 => ?_)
    refine Mgd ?_
    refine Mclx (nX1_sign) (fun _ σ8 => ?_)
    refine Mbd (fun x10 => ?_)
    exact hk4 x10 σ8
set_option maxHeartbeats 4000000 in
set_option maxRecDepth 100000 in
theorem mX1_word (l : Launch) (E : CE) {a0 : Nat} {p1 : Nat} {σ : CS} {res : Unit ⊕ Nat} {σz : CS} (hX : fX1_word a0 p1 σ = some (res, σz)) : MetX l yX1_word (ws_ yX1_word cX1_word 6 none) 5 102 E σ [.ref a0, .ref p1] (xoV res) σz := by
  refine MetX.of hX (by decide) (Nat.le_of_ble_eq_true rfl) (nX1_word _ hX) ?_
  intro p e s m below meth c hx hb hr hml hts hown hlocks hout hk hz0
  have hK := hk.1
  show J p l e (headSpec (ws_ yX1_word cX1_word 6 none) (rmC 5 102 σ σz)).room s m ([.ref a0, .ref p1] : List Value).toArray below meth c 6 E (cZ σ) (cS σ) (MQX below E (xoV res) σz s (cZ σz - cZ σ) (cS σz - cS σ)) (res, σz) (fX1_word a0 p1 σ) σ 0 [(0, .ref a0), (1, .ref p1)] []
  unfold fX1_word
  refine Jrow (fun H locs ls hH hS hl k => lv_aload_n hx hb dX1_word_0 rfl (lv_at hl 1 rfl) (k ls hl)) ?_
  refine Jrow (fun H locs ls hH hS hl k => lv_astore_n (lv' := [(2, .ref p1), (0, .ref a0), (1, .ref p1)]) hx hb dX1_word_1 rfl hl (by decide) rfl k) ?_
  refine Jrow (fun H locs ls hH hS hl k => lv_aload_n hx hb dX1_word_2 rfl (lv_at hl 0 rfl) (k ls hl)) ?_
  refine Jgd (fun hk1 => ?_)
  refine Jrow (fun H locs ls hH hS hl k => c_alen (t := 4) hx hb hK hH (by decide) hk1 dX1_word_3 (k ls hl)) ?_
  refine JbdI (fun x1 => ?_)
  refine Jrow (fun H locs ls hH hS hl k => lv_istore_n (lv' := [(3, .int x1), (2, .ref p1), (0, .ref a0), (1, .ref p1)]) hx hb dX1_word_4 rfl hl (by decide) rfl k) ?_
  refine Jrow (fun H locs ls hH hS hl k => lv_iconst (v := (0:Int32)) hx hb dX1_word_5 (by decide) (k ls hl)) ?_
  refine Jrow (fun H locs ls hH hS hl k => lv_istore (lv' := [(4, .int (0:Int32)), (3, .int x1), (2, .ref p1), (0, .ref a0), (1, .ref p1)]) hx hb dX1_word_6 hl (by decide) rfl k) ?_
  refine Jsub [3, 2, 1, 0] rfl (Plp2 (fun (x2 : Int32) (σ3 : CS) X11 => J p l e (headSpec (ws_ yX1_word cX1_word 6 none) (rmC 5 102 σ σz)).room s m ([.ref a0, .ref p1] : List Value).toArray below meth c 6 E (cZ σ) (cS σ) (MQX below E (xoV res) σz s (cZ σz - cZ σ) (cS σz - cS σ)) (res, σz) X11 σ3 8 [(0, .ref a0), (2, .ref p1), (3, .int x1), (4, .int x2)] []) (fun _ _ => Jnone) (fun k4 hk4 x2 σ3 => ?_))
  refine Jrow (fun H locs ls hH hS hl k => lv_iload hx hb dX1_word_8 (lv_at hl 3 rfl) (k ls hl)) ?_
  refine Jrow (fun H locs ls hH hS hl k => lv_iload_n hx hb dX1_word_10 rfl (lv_at hl 2 rfl) (k ls hl)) ?_
  refine Jite (fun hc => ?_) (fun hc => ?_)
  · refine Jrow (fun H locs ls hH hS hl k => lv_icmp_ge (tgt := 32) hx hb dX1_word_11 (by decide) (fun _ => (k ls hl)) (fun h => absurd hc h)) ?_
    clear hc
    refine Jrow (fun H locs ls hH hS hl k => lv_aload_n hx hb dX1_word_32 rfl (lv_at hl 0 rfl) (k ls hl)) ?_
    refine Jrow (fun H locs ls hH hS hl k => lv_bipush (v := (32:Int32)) hx hb dX1_word_33 (by decide) (k ls hl)) ?_
    refine Jgd (fun hg => ?_)
    refine Jclx (fun x6 σ5 hf => JXleave (rest := []) (fun _ => rfl) (mX1_sign l E hf).1 ⟨rfl, rfl⟩ hout hlocks (fun H locs ls hH hS hl hR => throwV (C := RX1) (As := [.int (32:Int32)]) ⟨hx, hb, hml, hown, hts⟩ (mX1_sign l E hf) (cwV 1 hts (lw_V q396 q398 qs5 q92 q399) rfl rfl rfl (by decide +kernel) ⟨Nat.le_of_ble_eq_true rfl, Nat.le_of_ble_eq_true rfl⟩) (c_preV (ci := 2) hk hH hS hg rfl) hS rfl rfl hl.1 rfl (lv_room (Nat.le_of_ble_eq_true rfl)) dX1_word_35 hR)) (fun _ σ5 hf => ?_)
    refine Jcall (v := none) (rest := []) (mX1_sign l E hf).1 ⟨rfl, rfl⟩ (fun H locs ls hH hS hl hR => ⟨_, va_runV (C := RX1) (As := [.int (32:Int32)]) ⟨hx, hb, hml, hown, hts⟩ (mX1_sign l E hf).ret.2 (cwV 1 hts (lw_V q396 q398 qs5 q92 q399) rfl rfl rfl (by decide +kernel) ⟨Nat.le_of_ble_eq_true rfl, Nat.le_of_ble_eq_true rfl⟩) (c_preV (ci := 2) hk hH hS hg rfl) rfl rfl hl.1 rfl (lv_room (Nat.le_of_ble_eq_true rfl)) dX1_word_35 hR⟩) ?_
    clear hf
    exact JXvret hx hb hr hlocks dX1_word_38
  · refine Jrow (fun H locs ls hH hS hl k => lv_icmp_ge (tgt := 32) hx hb dX1_word_11 (by decide) (fun h => absurd h hc) (fun _ => (k ls hl))) ?_
    clear hc
    refine Jrow (fun H locs ls hH hS hl k => lv_aload_n hx hb dX1_word_14 rfl (lv_at hl 1 rfl) (k ls hl)) ?_
    refine Jrow (fun H locs ls hH hS hl k => lv_iload hx hb dX1_word_15 (lv_at hl 3 rfl) (k ls hl)) ?_
    refine Jgd (fun hk1 => ?_)
    refine Jgd (fun hg => ?_)
    refine Jrow (fun H locs ls hH hS hl k => c_cald hx hb hK hH hk1 hg dX1_word_17 (k ls hl)) ?_
    refine JbdI (fun x7 => ?_)
    refine Jrow (fun H locs ls hH hS hl k => lv_istore (lv' := [(5, .int x7), (0, .ref a0), (2, .ref p1), (3, .int x1), (4, .int x2)]) hx hb dX1_word_18 hl (by decide) rfl k) ?_
    refine Jrow (fun H locs ls hH hS hl k => lv_aload_n hx hb dX1_word_20 rfl (lv_at hl 1 rfl) (k ls hl)) ?_
    refine Jrow (fun H locs ls hH hS hl k => lv_iload hx hb dX1_word_21 (lv_at hl 0 rfl) (k ls hl)) ?_
    refine Jgd (fun hg => ?_)
    refine Jclx (fun x9 σ8 hf => JXleave (rest := []) (fun _ => rfl) (mX1_sign l E hf).1 ⟨rfl, rfl⟩ hout hlocks (fun H locs ls hH hS hl hR => throwV (C := RX1) (As := [.int x7]) ⟨hx, hb, hml, hown, hts⟩ (mX1_sign l E hf) (cwV 1 hts (lw_V q396 q398 qs5 q92 q399) rfl rfl rfl (by decide +kernel) ⟨Nat.le_of_ble_eq_true rfl, Nat.le_of_ble_eq_true rfl⟩) (c_preV (ci := 2) hk hH hS hg rfl) hS rfl rfl hl.1 rfl (lv_room (Nat.le_of_ble_eq_true rfl)) dX1_word_23 hR)) (fun _ σ8 hf => ?_)
    refine Jcall (v := none) (rest := []) (mX1_sign l E hf).1 ⟨rfl, rfl⟩ (fun H locs ls hH hS hl hR => ⟨_, va_runV (C := RX1) (As := [.int x7]) ⟨hx, hb, hml, hown, hts⟩ (mX1_sign l E hf).ret.2 (cwV 1 hts (lw_V q396 q398 qs5 q92 q399) rfl rfl rfl (by decide +kernel) ⟨Nat.le_of_ble_eq_true rfl, Nat.le_of_ble_eq_true rfl⟩) (c_preV (ci := 2) hk hH hS hg rfl) rfl rfl hl.1 rfl (lv_room (Nat.le_of_ble_eq_true rfl)) dX1_word_23 hR⟩) ?_
    clear hf
    refine Jbd (fun x10 ex10 => ?_)
    refine Jrow (fun H locs ls hH hS hl k => lv_iinc (v := x10) (lv' := [(4, .int x10), (5, .int x7), (0, .ref a0), (2, .ref p1), (3, .int x1)]) hx hb dX1_word_26 hl (k := 4) rfl (by rw [ex10]; rfl) (by decide) rfl k) ?_
    clear ex10
    refine Jrow (fun H locs ls hH hS hl k => lv_goto (tgt := 8) hx hb dX1_word_29 (by decide) (k ls hl)) ?_
    exact Jsub [2, 3, 4, 0] rfl (hk4 x10 σ8)

def fX1_number (a0 : Nat) (σ : CS) : Option ((Int32 ⊕ Nat) × CS) :=
 gd (kd σ a0 3) (
 cl2 (fX1_next a0 σ) (fun (x2 : Int32) (σ1 : CS) =>
 jn (fun (σ3 : CS) => bd (nO σ3 7 7) (fun (σ5 : CS) =>
 gd (hf (cK σ5 a0) 46) (
 cl2 (fX6_init (cZ σ3) (cFI σ5 a0 46) σ5) (fun (_ : Unit) (σ6 : CS) =>
 some (.inr (cZ σ3), σ6))))) (fun (k4 : CS → Option ((Int32 ⊕ Nat) × CS)) =>
 if x2 < (48:Int32) then
 k4 σ1
 else
 gd (kd σ1 a0 3) (
 cl2 (fX1_next a0 σ1) (fun (x9 : Int32) (σ8 : CS) =>
 if x9 ≤ (57:Int32) then
 gd (hf (cK σ8 a0) 48) (
 cl (cFR σ8 a0 48) (fun (x10 : Nat) =>
 gd (hf (cK σ8 x10) 24) (
 cl (cFR σ8 x10 24) (fun (x11 : Nat) =>
 gd (hf (cK σ8 a0) 46) (
 gd (hf (cK σ8 a0) 46) (
 bd (uFI σ8 a0 46 ((cFI σ8 a0 46) + (1:Int32))) (fun (σ12 : CS) =>
 gd (kd σ12 x11 104) (
 gd (ib (cFI σ8 a0 46) (cLN σ12 x11)) (
 bd ((cAI σ12 x11 (cFI σ8 a0 46).toNatClampNeg) - (48:Int32)) (fun (x13 : Int32) =>
 lp (fun _ _ _ => none) (fun (k17 : Int32 → Int32 → CS → Option ((Int32 ⊕ Nat) × CS)) (x14 : Int32) (x15 : Int32) (σ16 : CS) =>
 jn (fun (σ18 : CS) => some (.inl x14, σ18)) (fun (k19 : CS → Option ((Int32 ⊕ Nat) × CS)) =>
 if (3:Int32) ≤ x15 then
 k19 σ16
 else
 if x14 ≤ (0:Int32) then
 k19 σ16
 else
 gd (kd σ16 a0 3) (
 cl2 (fX1_next a0 σ16) (fun (x21 : Int32) (σ20 : CS) =>
 if x21 < (48:Int32) then
 k19 σ20
 else
 gd (kd σ20 a0 3) (
 cl2 (fX1_next a0 σ20) (fun (x23 : Int32) (σ22 : CS) =>
 if (57:Int32) < x23 then
 k19 σ22
 else
 gd (hf (cK σ22 a0) 48) (
 cl (cFR σ22 a0 48) (fun (x24 : Nat) =>
 gd (hf (cK σ22 x24) 24) (
 cl (cFR σ22 x24 24) (fun (x25 : Nat) =>
 gd (hf (cK σ22 a0) 46) (
 gd (hf (cK σ22 a0) 46) (
 bd (uFI σ22 a0 46 ((cFI σ22 a0 46) + (1:Int32))) (fun (σ26 : CS) =>
 gd (kd σ26 x25 104) (
 gd (ib (cFI σ22 a0 46) (cLN σ26 x25)) (
 bd ((((10:Int32) * x14) + (cAI σ26 x25 (cFI σ22 a0 46).toNatClampNeg)) - (48:Int32)) (fun (x27 : Int32) =>
 bd (x15 + (1:Int32)) (fun (x28 : Int32) =>
 k17 x27 x28 σ26))))))))))))))))) NF x13 (1:Int32) σ12))))))))))
 else
 k4 σ8)))))
theorem nX1_number {a0 : Nat} {σ : CS} : Mn σ (fX1_number a0 σ) := by
  unfold fX1_number
  refine Mgd ?_
  refine Mcl2 (nX1_next) (fun x2 σ1 => ?_)
  refine Mjn1 (fun (σ3 : CS) (X31 : Option ((Int32 ⊕ Nat) × CS)) => Mn σ3 X31) (fun σ3 => ?_) (fun k4 hk4 => ?_)
  · refine Mst (Nat.le_succ _) (Nat.le_add_right _ _) (fun σ5 => ?_)
    refine Mgd ?_
    refine Mcl2 (nX6_init) (fun _ σ6 => ?_)
    exact Mret
  · refine Mite ?_ ?_
    · exact hk4 σ1
    · refine Mgd ?_
      refine Mcl2 (nX1_next) (fun x9 σ8 => ?_)
      refine Mite ?_ ?_
      · refine Mgd ?_
        refine Mcl (fun x10 => ?_)
        refine Mgd ?_
        refine Mcl (fun x11 => ?_)
        refine Mgd ?_
        refine Mgd ?_
        refine Mst (Nat.le_refl _) (Nat.le_refl _) (fun σ12 => ?_)
        refine Mgd ?_
        refine Mgd ?_
        refine Mbd (fun x13 => ?_)
        refine Plp3 (fun (x14 : Int32) (x15 : Int32) (σ16 : CS) (X30 : Option ((Int32 ⊕ Nat) × CS)) => Mn σ16 X30) (fun _ _ _ => Mnone) (fun k17 hk17 x14 x15 σ16 => ?_)
        refine Mjn1 (fun (σ18 : CS) (X29 : Option ((Int32 ⊕ Nat) × CS)) => Mn σ18 X29) (fun σ18 => ?_) (fun k19 hk19 => ?_)
        · exact Mret
        · refine Mite ?_ ?_
          · exact hk19 σ16
          · refine Mite ?_ ?_
            · exact hk19 σ16
            · refine Mgd ?_
              refine Mcl2 (nX1_next) (fun x21 σ20 => ?_)
              refine Mite ?_ ?_
              · exact hk19 σ20
              · refine Mgd ?_
                refine Mcl2 (nX1_next) (fun x23 σ22 => ?_)
                refine Mite ?_ ?_
                · exact hk19 σ22
                · refine Mgd ?_
                  refine Mcl (fun x24 => ?_)
                  refine Mgd ?_
                  refine Mcl (fun x25 => ?_)
                  refine Mgd ?_
                  refine Mgd ?_
                  refine Mst (Nat.le_refl _) (Nat.le_refl _) (fun σ26 => ?_)
                  refine Mgd ?_
                  refine Mgd ?_
                  refine Mbd (fun x27 => ?_)
                  refine Mbd (fun x28 => ?_)
                  exact hk17 x27 x28 σ26
      · exact hk4 σ8
set_option maxHeartbeats 4000000 in
set_option maxRecDepth 100000 in
theorem mX1_number (l : Launch) (E : CE) {a0 : Nat} {σ : CS} {res : Int32 ⊕ Nat} {σz : CS} (hX : fX1_number a0 σ = some (res, σz)) : MetX l yX1_number (ws_ yX1_number cX1_number 3 (some .int)) 4 81 E σ [.ref a0] (xoI res) σz := by
  refine MetX.of hX (by decide) (Nat.le_of_ble_eq_true rfl) (nX1_number _ hX) ?_
  intro p e s m below meth c hx hb hr hml hts hown hlocks hout hk hz0
  have hK := hk.1
  show J p l e (headSpec (ws_ yX1_number cX1_number 3 (some .int)) (rmC 4 81 σ σz)).room s m ([.ref a0] : List Value).toArray below meth c 3 E (cZ σ) (cS σ) (MQX below E (xoI res) σz s (cZ σz - cZ σ) (cS σz - cS σ)) (res, σz) (fX1_number a0 σ) σ 0 [(0, .ref a0)] []
  unfold fX1_number
  refine Jrow (fun H locs ls hH hS hl k => lv_aload_n hx hb dX1_number_0 rfl (lv_at hl 0 rfl) (k ls hl)) ?_
  refine Jgd (fun hg => ?_)
  refine Jcl2 (fun x2 σ1 hf => ?_)
  refine Jcall (v := (some (.int x2))) (rest := []) (mX1_next l E hf).1 ⟨rfl, rfl⟩ (fun H locs ls hH hS hl hR => ⟨_, va_runV (C := RX1) (As := []) ⟨hx, hb, hml, hown, hts⟩ (mX1_next l E hf).2 (cwV 0 hts (lw_V q380 q382 qs1 q92 q383) rfl rfl rfl (by decide +kernel) ⟨Nat.le_of_ble_eq_true rfl, Nat.le_of_ble_eq_true rfl⟩) (c_preV (ci := 2) hk hH hS hg rfl) rfl rfl hl.1 rfl (lv_room (Nat.le_of_ble_eq_true rfl)) dX1_number_1 hR⟩) ?_
  clear hf
  refine Jrow (fun H locs ls hH hS hl k => lv_bipush (v := (48:Int32)) hx hb dX1_number_4 (by decide) (k ls hl)) ?_
  refine Jjn1 (fun (σ3 : CS) X31 => J p l e (headSpec (ws_ yX1_number cX1_number 3 (some .int)) (rmC 4 81 σ σz)).room s m ([.ref a0] : List Value).toArray below meth c 3 E (cZ σ) (cS σ) (MQX below E (xoI res) σz s (cZ σz - cZ σ) (cS σz - cS σ)) (res, σz) X31 σ3 18 [(0, .ref a0)] []) (fun σ3 => ?_) (fun k4 hk4 => ?_)
  · refine Jnew (σ1 := nO σ3 7 7) (n := 7) rfl rfl ⟨rfl, rfl⟩ (fun H locs ls hH hS hl h1 h2 k => c_new (ci := 6) hx hb hts hown hK hH hS hk.2.1 in_X6 tyX6 tyX6_ok (by decide +kernel) (hts _ q400) (hts _ q401) (hts _ q99) rfl h1 h2 dX1_number_18 k) (fun σ5 eσ5 => ?_)
    clear eσ5
    refine Jrow (fun H locs ls hH hS hl k => lv_dup hx hb dX1_number_21 rfl (k ls hl)) ?_
    refine Jrow (fun H locs ls hH hS hl k => lv_aload_n hx hb dX1_number_22 rfl (lv_at hl 0 rfl) (k ls hl)) ?_
    refine Jgd (fun hg => ?_)
    refine Jrow (fun H locs ls hH hS hl k => c_get (F := 46) (v := .int (cFI σ5 a0 46)) hx hb hts hown hK hH hg (hts _ q167) (fun _ h => h) rfl dX1_number_23 (k ls hl)) ?_
    refine Jcl2 (fun _ σ6 hf => ?_)
    refine Jcall (v := none) (rest := [.ref (cZ σ3)]) (mX6_init l E hf).1 ⟨rfl, rfl⟩ (fun H locs ls hH hS hl hR => ⟨_, va_runI (As := [.int (cFI σ5 a0 46)]) ⟨hx, hb, hml, hown, hts⟩ (mX6_init l E hf).2 (cwI 1 hts (lw_meth q439) rfl rfl rfl (hts _ q99) (hts _ q437) (hts _ q438) rfl (by decide +kernel) ⟨Nat.le_of_ble_eq_true rfl, Nat.le_of_ble_eq_true rfl⟩) (c_preS hk hH hS) rfl rfl hl.1 rfl (lv_room (Nat.le_of_ble_eq_true rfl)) dX1_number_26 hR⟩) ?_
    clear hf
    exact JXthrow (fun _ => rfl) hx hb hout hlocks dX1_number_29
  · refine Jite (fun hc => ?_) (fun hc => ?_)
    · refine Jrow (fun H locs ls hH hS hl k => lv_icmp_lt (tgt := 18) hx hb dX1_number_6 (by decide) (fun _ => (k ls hl)) (fun h => absurd hc h)) ?_
      clear hc
      exact Jsub [0] rfl (hk4 σ1)
    · refine Jrow (fun H locs ls hH hS hl k => lv_icmp_lt (tgt := 18) hx hb dX1_number_6 (by decide) (fun h => absurd h hc) (fun _ => (k ls hl))) ?_
      clear hc
      refine Jrow (fun H locs ls hH hS hl k => lv_aload_n hx hb dX1_number_9 rfl (lv_at hl 0 rfl) (k ls hl)) ?_
      refine Jgd (fun hg => ?_)
      refine Jcl2 (fun x9 σ8 hf => ?_)
      refine Jcall (v := (some (.int x9))) (rest := []) (mX1_next l E hf).1 ⟨rfl, rfl⟩ (fun H locs ls hH hS hl hR => ⟨_, va_runV (C := RX1) (As := []) ⟨hx, hb, hml, hown, hts⟩ (mX1_next l E hf).2 (cwV 0 hts (lw_V q380 q382 qs1 q92 q383) rfl rfl rfl (by decide +kernel) ⟨Nat.le_of_ble_eq_true rfl, Nat.le_of_ble_eq_true rfl⟩) (c_preV (ci := 2) hk hH hS hg rfl) rfl rfl hl.1 rfl (lv_room (Nat.le_of_ble_eq_true rfl)) dX1_number_10 hR⟩) ?_
      clear hf
      refine Jrow (fun H locs ls hH hS hl k => lv_bipush (v := (57:Int32)) hx hb dX1_number_13 (by decide) (k ls hl)) ?_
      refine Jite (fun hc => ?_) (fun hc => ?_)
      · refine Jrow (fun H locs ls hH hS hl k => lv_icmp_le (tgt := 30) hx hb dX1_number_15 (by decide) (fun _ => (k ls hl)) (fun h => absurd hc h)) ?_
        clear hc
        refine Jrow (fun H locs ls hH hS hl k => lv_aload_n hx hb dX1_number_30 rfl (lv_at hl 0 rfl) (k ls hl)) ?_
        refine Jgd (fun hg => ?_)
        refine Jcl (fun x10 hq => ?_)
        refine Jrow (fun H locs ls hH hS hl k => c_get (F := 48) (v := .ref x10) hx hb hts hown hK hH hg (hts _ q169) (fun _ h => h) (fvR rfl hq) dX1_number_31 (k ls hl)) ?_
        clear hq
        refine Jgd (fun hg => ?_)
        refine Jcl (fun x11 hq => ?_)
        refine Jrow (fun H locs ls hH hS hl k => c_getN (F := 24) (v := .ref x11) hx hb hts hown hK hH hg (cN hk.2.2.1 26 rfl) (fun _ h => h) (fvR rfl hq) dX1_number_34 (k ls hl)) ?_
        clear hq
        refine Jrow (fun H locs ls hH hS hl k => lv_aload_n hx hb dX1_number_37 rfl (lv_at hl 0 rfl) (k ls hl)) ?_
        refine Jrow (fun H locs ls hH hS hl k => lv_dup hx hb dX1_number_38 rfl (k ls hl)) ?_
        refine Jgd (fun hg => ?_)
        refine Jrow (fun H locs ls hH hS hl k => c_get (F := 46) (v := .int (cFI σ8 a0 46)) hx hb hts hown hK hH hg (hts _ q167) (fun _ h => h) rfl dX1_number_39 (k ls hl)) ?_
        refine Jrow (fun H locs ls hH hS hl k => lv_dup_x1 hx hb dX1_number_42 rfl rfl (k ls hl)) ?_
        refine Jrow (fun H locs ls hH hS hl k => lv_iconst (v := (1:Int32)) hx hb dX1_number_43 (by decide) (k ls hl)) ?_
        refine Jrow (fun H locs ls hH hS hl k => lv_iadd hx hb dX1_number_44 (k ls hl)) ?_
        refine Jgd (fun hg => ?_)
        refine Jst (σ1 := uFI σ8 a0 46 ((cFI σ8 a0 46) + (1:Int32))) rfl rfl (fun H locs ls hH hS hl k => c_putI (F := 46) (ty := .int) (x := ((cFI σ8 a0 46) + (1:Int32))) hx hb hts hown hK hH hS hg (hts _ q167) (fun _ h => h) rfl rfl (by decide +kernel) rfl rfl rfl dX1_number_45 k) (fun σ12 => ?_)
        refine Jgd (fun hk1 => ?_)
        refine Jgd (fun hg => ?_)
        refine Jrow (fun H locs ls hH hS hl k => c_bald hx hb hK hH hk1 hg dX1_number_48 (k ls hl)) ?_
        refine Jrow (fun H locs ls hH hS hl k => lv_bipush (v := (48:Int32)) hx hb dX1_number_49 (by decide) (k ls hl)) ?_
        refine Jrow (fun H locs ls hH hS hl k => lv_isub hx hb dX1_number_51 (k ls hl)) ?_
        refine JbdI (fun x13 => ?_)
        refine Jrow (fun H locs ls hH hS hl k => lv_istore_n (lv' := [(1, .int x13), (0, .ref a0)]) hx hb dX1_number_52 rfl hl (by decide) rfl k) ?_
        refine Jrow (fun H locs ls hH hS hl k => lv_iconst (v := (1:Int32)) hx hb dX1_number_53 (by decide) (k ls hl)) ?_
        refine Jrow (fun H locs ls hH hS hl k => lv_istore_n (lv' := [(2, .int (1:Int32)), (1, .int x13), (0, .ref a0)]) hx hb dX1_number_54 rfl hl (by decide) rfl k) ?_
        refine Jsub [2, 1, 0] rfl (Plp3 (fun (x14 : Int32) (x15 : Int32) (σ16 : CS) X30 => J p l e (headSpec (ws_ yX1_number cX1_number 3 (some .int)) (rmC 4 81 σ σz)).room s m ([.ref a0] : List Value).toArray below meth c 3 E (cZ σ) (cS σ) (MQX below E (xoI res) σz s (cZ σz - cZ σ) (cS σz - cS σ)) (res, σz) X30 σ16 55 [(0, .ref a0), (1, .int x14), (2, .int x15)] []) (fun _ _ _ => Jnone) (fun k17 hk17 x14 x15 σ16 => ?_))
        refine Jrow (fun H locs ls hH hS hl k => lv_iload_n hx hb dX1_number_55 rfl (lv_at hl 2 rfl) (k ls hl)) ?_
        refine Jrow (fun H locs ls hH hS hl k => lv_iconst (v := (3:Int32)) hx hb dX1_number_56 (by decide) (k ls hl)) ?_
        refine Jjn1 (fun (σ18 : CS) X29 => J p l e (headSpec (ws_ yX1_number cX1_number 3 (some .int)) (rmC 4 81 σ σz)).room s m ([.ref a0] : List Value).toArray below meth c 3 E (cZ σ) (cS σ) (MQX below E (xoI res) σz s (cZ σz - cZ σ) (cS σz - cS σ)) (res, σz) X29 σ18 116 [(1, .int x14)] []) (fun σ18 => ?_) (fun k19 hk19 => ?_)
        · refine Jrow (fun H locs ls hH hS hl k => lv_iload_n hx hb dX1_number_116 rfl (lv_at hl 0 rfl) (k ls hl)) ?_
          exact JXiret hx hb hr hlocks dX1_number_117
        · refine Jite (fun hc => ?_) (fun hc => ?_)
          · refine Jrow (fun H locs ls hH hS hl k => lv_icmp_ge (tgt := 116) hx hb dX1_number_57 (by decide) (fun _ => (k ls hl)) (fun h => absurd hc h)) ?_
            clear hc
            exact Jsub [1] rfl (hk19 σ16)
          · refine Jrow (fun H locs ls hH hS hl k => lv_icmp_ge (tgt := 116) hx hb dX1_number_57 (by decide) (fun h => absurd h hc) (fun _ => (k ls hl))) ?_
            clear hc
            refine Jrow (fun H locs ls hH hS hl k => lv_iload_n hx hb dX1_number_60 rfl (lv_at hl 1 rfl) (k ls hl)) ?_
            refine Jite (fun hc => ?_) (fun hc => ?_)
            · refine Jrow (fun H locs ls hH hS hl k => lv_if_le (tgt := 116) hx hb dX1_number_61 (by decide) (fun _ => (k ls hl)) (fun h => absurd hc h)) ?_
              clear hc
              exact Jsub [1] rfl (hk19 σ16)
            · refine Jrow (fun H locs ls hH hS hl k => lv_if_le (tgt := 116) hx hb dX1_number_61 (by decide) (fun h => absurd h hc) (fun _ => (k ls hl))) ?_
              clear hc
              refine Jrow (fun H locs ls hH hS hl k => lv_aload_n hx hb dX1_number_64 rfl (lv_at hl 0 rfl) (k ls hl)) ?_
              refine Jgd (fun hg => ?_)
              refine Jcl2 (fun x21 σ20 hf => ?_)
              refine Jcall (v := (some (.int x21))) (rest := []) (mX1_next l E hf).1 ⟨rfl, rfl⟩ (fun H locs ls hH hS hl hR => ⟨_, va_runV (C := RX1) (As := []) ⟨hx, hb, hml, hown, hts⟩ (mX1_next l E hf).2 (cwV 0 hts (lw_V q380 q382 qs1 q92 q383) rfl rfl rfl (by decide +kernel) ⟨Nat.le_of_ble_eq_true rfl, Nat.le_of_ble_eq_true rfl⟩) (c_preV (ci := 2) hk hH hS hg rfl) rfl rfl hl.1 rfl (lv_room (Nat.le_of_ble_eq_true rfl)) dX1_number_65 hR⟩) ?_
              clear hf
              refine Jrow (fun H locs ls hH hS hl k => lv_bipush (v := (48:Int32)) hx hb dX1_number_68 (by decide) (k ls hl)) ?_
              refine Jite (fun hc => ?_) (fun hc => ?_)
              · refine Jrow (fun H locs ls hH hS hl k => lv_icmp_lt (tgt := 116) hx hb dX1_number_70 (by decide) (fun _ => (k ls hl)) (fun h => absurd hc h)) ?_
                clear hc
                exact Jsub [1] rfl (hk19 σ20)
              · refine Jrow (fun H locs ls hH hS hl k => lv_icmp_lt (tgt := 116) hx hb dX1_number_70 (by decide) (fun h => absurd h hc) (fun _ => (k ls hl))) ?_
                clear hc
                refine Jrow (fun H locs ls hH hS hl k => lv_aload_n hx hb dX1_number_73 rfl (lv_at hl 0 rfl) (k ls hl)) ?_
                refine Jgd (fun hg => ?_)
                refine Jcl2 (fun x23 σ22 hf => ?_)
                refine Jcall (v := (some (.int x23))) (rest := []) (mX1_next l E hf).1 ⟨rfl, rfl⟩ (fun H locs ls hH hS hl hR => ⟨_, va_runV (C := RX1) (As := []) ⟨hx, hb, hml, hown, hts⟩ (mX1_next l E hf).2 (cwV 0 hts (lw_V q380 q382 qs1 q92 q383) rfl rfl rfl (by decide +kernel) ⟨Nat.le_of_ble_eq_true rfl, Nat.le_of_ble_eq_true rfl⟩) (c_preV (ci := 2) hk hH hS hg rfl) rfl rfl hl.1 rfl (lv_room (Nat.le_of_ble_eq_true rfl)) dX1_number_74 hR⟩) ?_
                clear hf
                refine Jrow (fun H locs ls hH hS hl k => lv_bipush (v := (57:Int32)) hx hb dX1_number_77 (by decide) (k ls hl)) ?_
                refine Jite (fun hc => ?_) (fun hc => ?_)
                · refine Jrow (fun H locs ls hH hS hl k => lv_icmp_gt (tgt := 116) hx hb dX1_number_79 (by decide) (fun _ => (k ls hl)) (fun h => absurd hc h)) ?_
                  clear hc
                  exact Jsub [1] rfl (hk19 σ22)
                · refine Jrow (fun H locs ls hH hS hl k => lv_icmp_gt (tgt := 116) hx hb dX1_number_79 (by decide) (fun h => absurd h hc) (fun _ => (k ls hl))) ?_
                  clear hc
                  refine Jrow (fun H locs ls hH hS hl k => lv_bipush (v := (10:Int32)) hx hb dX1_number_82 (by decide) (k ls hl)) ?_
                  refine Jrow (fun H locs ls hH hS hl k => lv_iload_n hx hb dX1_number_84 rfl (lv_at hl 1 rfl) (k ls hl)) ?_
                  refine Jrow (fun H locs ls hH hS hl k => lv_imul hx hb dX1_number_85 (k ls hl)) ?_
                  refine Jrow (fun H locs ls hH hS hl k => lv_aload_n hx hb dX1_number_86 rfl (lv_at hl 0 rfl) (k ls hl)) ?_
                  refine Jgd (fun hg => ?_)
                  refine Jcl (fun x24 hq => ?_)
                  refine Jrow (fun H locs ls hH hS hl k => c_get (F := 48) (v := .ref x24) hx hb hts hown hK hH hg (hts _ q169) (fun _ h => h) (fvR rfl hq) dX1_number_87 (k ls hl)) ?_
                  clear hq
                  refine Jgd (fun hg => ?_)
                  refine Jcl (fun x25 hq => ?_)
                  refine Jrow (fun H locs ls hH hS hl k => c_getN (F := 24) (v := .ref x25) hx hb hts hown hK hH hg (cN hk.2.2.1 26 rfl) (fun _ h => h) (fvR rfl hq) dX1_number_90 (k ls hl)) ?_
                  clear hq
                  refine Jrow (fun H locs ls hH hS hl k => lv_aload_n hx hb dX1_number_93 rfl (lv_at hl 0 rfl) (k ls hl)) ?_
                  refine Jrow (fun H locs ls hH hS hl k => lv_dup hx hb dX1_number_94 rfl (k ls hl)) ?_
                  refine Jgd (fun hg => ?_)
                  refine Jrow (fun H locs ls hH hS hl k => c_get (F := 46) (v := .int (cFI σ22 a0 46)) hx hb hts hown hK hH hg (hts _ q167) (fun _ h => h) rfl dX1_number_95 (k ls hl)) ?_
                  refine Jrow (fun H locs ls hH hS hl k => lv_dup_x1 hx hb dX1_number_98 rfl rfl (k ls hl)) ?_
                  refine Jrow (fun H locs ls hH hS hl k => lv_iconst (v := (1:Int32)) hx hb dX1_number_99 (by decide) (k ls hl)) ?_
                  refine Jrow (fun H locs ls hH hS hl k => lv_iadd hx hb dX1_number_100 (k ls hl)) ?_
                  refine Jgd (fun hg => ?_)
                  refine Jst (σ1 := uFI σ22 a0 46 ((cFI σ22 a0 46) + (1:Int32))) rfl rfl (fun H locs ls hH hS hl k => c_putI (F := 46) (ty := .int) (x := ((cFI σ22 a0 46) + (1:Int32))) hx hb hts hown hK hH hS hg (hts _ q167) (fun _ h => h) rfl rfl (by decide +kernel) rfl rfl rfl dX1_number_101 k) (fun σ26 => ?_)
                  refine Jgd (fun hk1 => ?_)
                  refine Jgd (fun hg => ?_)
                  refine Jrow (fun H locs ls hH hS hl k => c_bald hx hb hK hH hk1 hg dX1_number_104 (k ls hl)) ?_
                  refine Jrow (fun H locs ls hH hS hl k => lv_iadd hx hb dX1_number_105 (k ls hl)) ?_
                  refine Jrow (fun H locs ls hH hS hl k => lv_bipush (v := (48:Int32)) hx hb dX1_number_106 (by decide) (k ls hl)) ?_
                  refine Jrow (fun H locs ls hH hS hl k => lv_isub hx hb dX1_number_108 (k ls hl)) ?_
                  refine JbdI (fun x27 => ?_)
                  refine Jrow (fun H locs ls hH hS hl k => lv_istore_n (lv' := [(1, .int x27), (0, .ref a0), (2, .int x15)]) hx hb dX1_number_109 rfl hl (by decide) rfl k) ?_
                  refine Jbd (fun x28 ex28 => ?_)
                  refine Jrow (fun H locs ls hH hS hl k => lv_iinc (v := x28) (lv' := [(2, .int x28), (1, .int x27), (0, .ref a0)]) hx hb dX1_number_110 hl (k := 2) rfl (by rw [ex28]; rfl) (by decide) rfl k) ?_
                  clear ex28
                  refine Jrow (fun H locs ls hH hS hl k => lv_goto (tgt := 55) hx hb dX1_number_113 (by decide) (k ls hl)) ?_
                  exact Jsub [2, 1, 0] rfl (hk17 x27 x28 σ26)
      · refine Jrow (fun H locs ls hH hS hl k => lv_icmp_le (tgt := 30) hx hb dX1_number_15 (by decide) (fun h => absurd h hc) (fun _ => (k ls hl))) ?_
        clear hc
        exact Jsub [0] rfl (hk4 σ8)

def fX1_opens (a0 : Nat) (σ : CS) : Option ((Unit ⊕ Nat) × CS) :=
 gd (hf (cK σ a0) 47) (
 if (cFI σ a0 47) = (5:Int32) then
 bd (nO σ 7 7) (fun (σ3 : CS) =>
 gd (hf (cK σ3 a0) 46) (
 cl2 (fX6_init (cZ σ) (cFI σ3 a0 46) σ3) (fun (_ : Unit) (σ4 : CS) =>
 some (.inr (cZ σ), σ4))))
 else
 gd (hf (cK σ a0) 47) (
 gd (hf (cK σ a0) 47) (
 bd (uFI σ a0 47 ((cFI σ a0 47) + (1:Int32))) (fun (σ1 : CS) =>
 gd (hf (cK σ1 a0) 46) (
 gd (hf (cK σ1 a0) 46) (
 bd (uFI σ1 a0 46 ((cFI σ1 a0 46) + (1:Int32))) (fun (σ2 : CS) =>
 some (.inl (), σ2))))))))
theorem nX1_opens {a0 : Nat} {σ : CS} : Mn σ (fX1_opens a0 σ) := by
  unfold fX1_opens
  refine Mgd ?_
  refine Mite ?_ ?_
  · refine Mst (Nat.le_succ _) (Nat.le_add_right _ _) (fun σ3 => ?_)
    refine Mgd ?_
    refine Mcl2 (nX6_init) (fun _ σ4 => ?_)
    exact Mret
  · refine Mgd ?_
    refine Mgd ?_
    refine Mst (Nat.le_refl _) (Nat.le_refl _) (fun σ1 => ?_)
    refine Mgd ?_
    refine Mgd ?_
    refine Mst (Nat.le_refl _) (Nat.le_refl _) (fun σ2 => ?_)
    exact Mret
set_option maxHeartbeats 4000000 in
set_option maxRecDepth 100000 in
theorem mX1_opens (l : Launch) (E : CE) {a0 : Nat} {σ : CS} {res : Unit ⊕ Nat} {σz : CS} (hX : fX1_opens a0 σ = some (res, σz)) : MetX l yX1_opens (ws_ yX1_opens cX1_opens 1 none) 4 81 E σ [.ref a0] (xoV res) σz := by
  refine MetX.of hX (by decide) (Nat.le_of_ble_eq_true rfl) (nX1_opens _ hX) ?_
  intro p e s m below meth c hx hb hr hml hts hown hlocks hout hk hz0
  have hK := hk.1
  show J p l e (headSpec (ws_ yX1_opens cX1_opens 1 none) (rmC 4 81 σ σz)).room s m ([.ref a0] : List Value).toArray below meth c 1 E (cZ σ) (cS σ) (MQX below E (xoV res) σz s (cZ σz - cZ σ) (cS σz - cS σ)) (res, σz) (fX1_opens a0 σ) σ 0 [(0, .ref a0)] []
  unfold fX1_opens
  refine Jrow (fun H locs ls hH hS hl k => lv_aload_n hx hb dX1_opens_0 rfl (lv_at hl 0 rfl) (k ls hl)) ?_
  refine Jgd (fun hg => ?_)
  refine Jrow (fun H locs ls hH hS hl k => c_get (F := 47) (v := .int (cFI σ a0 47)) hx hb hts hown hK hH hg (hts _ q168) (fun _ h => h) rfl dX1_opens_1 (k ls hl)) ?_
  refine Jrow (fun H locs ls hH hS hl k => lv_iconst (v := (5:Int32)) hx hb dX1_opens_4 (by decide) (k ls hl)) ?_
  refine Jite (fun hc => ?_) (fun hc => ?_)
  · refine Jrow (fun H locs ls hH hS hl k => lv_icmp_ne (tgt := 20) hx hb dX1_opens_5 (by decide) (fun h => absurd hc h) (fun _ => (k ls hl))) ?_
    clear hc
    refine Jnew (σ1 := nO σ 7 7) (n := 7) rfl rfl ⟨rfl, rfl⟩ (fun H locs ls hH hS hl h1 h2 k => c_new (ci := 6) hx hb hts hown hK hH hS hk.2.1 in_X6 tyX6 tyX6_ok (by decide +kernel) (hts _ q400) (hts _ q401) (hts _ q99) rfl h1 h2 dX1_opens_8 k) (fun σ3 eσ3 => ?_)
    clear eσ3
    refine Jrow (fun H locs ls hH hS hl k => lv_dup hx hb dX1_opens_11 rfl (k ls hl)) ?_
    refine Jrow (fun H locs ls hH hS hl k => lv_aload_n hx hb dX1_opens_12 rfl (lv_at hl 0 rfl) (k ls hl)) ?_
    refine Jgd (fun hg => ?_)
    refine Jrow (fun H locs ls hH hS hl k => c_get (F := 46) (v := .int (cFI σ3 a0 46)) hx hb hts hown hK hH hg (hts _ q167) (fun _ h => h) rfl dX1_opens_13 (k ls hl)) ?_
    refine Jcl2 (fun _ σ4 hf => ?_)
    refine Jcall (v := none) (rest := [.ref (cZ σ)]) (mX6_init l E hf).1 ⟨rfl, rfl⟩ (fun H locs ls hH hS hl hR => ⟨_, va_runI (As := [.int (cFI σ3 a0 46)]) ⟨hx, hb, hml, hown, hts⟩ (mX6_init l E hf).2 (cwI 1 hts (lw_meth q439) rfl rfl rfl (hts _ q99) (hts _ q437) (hts _ q438) rfl (by decide +kernel) ⟨Nat.le_of_ble_eq_true rfl, Nat.le_of_ble_eq_true rfl⟩) (c_preS hk hH hS) rfl rfl hl.1 rfl (lv_room (Nat.le_of_ble_eq_true rfl)) dX1_opens_16 hR⟩) ?_
    clear hf
    exact JXthrow (fun _ => rfl) hx hb hout hlocks dX1_opens_19
  · refine Jrow (fun H locs ls hH hS hl k => lv_icmp_ne (tgt := 20) hx hb dX1_opens_5 (by decide) (fun _ => (k ls hl)) (fun h => absurd h hc)) ?_
    clear hc
    refine Jrow (fun H locs ls hH hS hl k => lv_aload_n hx hb dX1_opens_20 rfl (lv_at hl 0 rfl) (k ls hl)) ?_
    refine Jrow (fun H locs ls hH hS hl k => lv_dup hx hb dX1_opens_21 rfl (k ls hl)) ?_
    refine Jgd (fun hg => ?_)
    refine Jrow (fun H locs ls hH hS hl k => c_get (F := 47) (v := .int (cFI σ a0 47)) hx hb hts hown hK hH hg (hts _ q168) (fun _ h => h) rfl dX1_opens_22 (k ls hl)) ?_
    refine Jrow (fun H locs ls hH hS hl k => lv_iconst (v := (1:Int32)) hx hb dX1_opens_25 (by decide) (k ls hl)) ?_
    refine Jrow (fun H locs ls hH hS hl k => lv_iadd hx hb dX1_opens_26 (k ls hl)) ?_
    refine Jgd (fun hg => ?_)
    refine Jst (σ1 := uFI σ a0 47 ((cFI σ a0 47) + (1:Int32))) rfl rfl (fun H locs ls hH hS hl k => c_putI (F := 47) (ty := .int) (x := ((cFI σ a0 47) + (1:Int32))) hx hb hts hown hK hH hS hg (hts _ q168) (fun _ h => h) rfl rfl (by decide +kernel) rfl rfl rfl dX1_opens_27 k) (fun σ1 => ?_)
    refine Jrow (fun H locs ls hH hS hl k => lv_aload_n hx hb dX1_opens_30 rfl (lv_at hl 0 rfl) (k ls hl)) ?_
    refine Jrow (fun H locs ls hH hS hl k => lv_dup hx hb dX1_opens_31 rfl (k ls hl)) ?_
    refine Jgd (fun hg => ?_)
    refine Jrow (fun H locs ls hH hS hl k => c_get (F := 46) (v := .int (cFI σ1 a0 46)) hx hb hts hown hK hH hg (hts _ q167) (fun _ h => h) rfl dX1_opens_32 (k ls hl)) ?_
    refine Jrow (fun H locs ls hH hS hl k => lv_iconst (v := (1:Int32)) hx hb dX1_opens_35 (by decide) (k ls hl)) ?_
    refine Jrow (fun H locs ls hH hS hl k => lv_iadd hx hb dX1_opens_36 (k ls hl)) ?_
    refine Jgd (fun hg => ?_)
    refine Jst (σ1 := uFI σ1 a0 46 ((cFI σ1 a0 46) + (1:Int32))) rfl rfl (fun H locs ls hH hS hl k => c_putI (F := 46) (ty := .int) (x := ((cFI σ1 a0 46) + (1:Int32))) hx hb hts hown hK hH hS hg (hts _ q167) (fun _ h => h) rfl rfl (by decide +kernel) rfl rfl rfl dX1_opens_37 k) (fun σ2 => ?_)
    exact JXvret hx hb hr hlocks dX1_opens_40
