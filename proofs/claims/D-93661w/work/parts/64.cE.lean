/-! printed by gen/comp.py -/
def fX5_init (T : Nat × Nat) (a0 : Nat) (p1 : Int32) (σ : CS) : Option (Unit × CS) :=
 gd (na (4:Int32)) (
 bd (nA σ 101 (4:Int32).toNatClampNeg) (fun (σ1 : CS) =>
 gd (hf (cK σ1 a0) 62) (
 bd (uFR σ1 a0 62 (some (cZ σ))) (fun (σ2 : CS) =>
 gd (na (6:Int32)) (
 bd (nA σ2 101 (6:Int32).toNatClampNeg) (fun (σ3 : CS) =>
 gd (hf (cK σ3 a0) 63) (
 bd (uFR σ3 a0 63 (some (cZ σ2))) (fun (σ4 : CS) =>
 gd (na (12:Int32)) (
 bd (nA σ4 101 (12:Int32).toNatClampNeg) (fun (σ5 : CS) =>
 gd (hf (cK σ5 a0) 64) (
 bd (uFR σ5 a0 64 (some (cZ σ4))) (fun (σ6 : CS) =>
 bd (nO σ6 20 3) (fun (σ7 : CS) =>
 cl2 (fJ2_init T (cZ σ6) σ7) (fun (_ : Unit) (σ8 : CS) =>
 gd (hf (cK σ8 a0) 65) (
 bd (uFR σ8 a0 65 (some (cZ σ6))) (fun (σ10 : CS) =>
 gd (hf (cK σ10 a0) 60) (
 bd (uFI σ10 a0 60 p1) (fun (σ11 : CS) =>
 some ((), σ11)))))))))))))))))))
theorem nX5_init {T : Nat × Nat} {a0 : Nat} {p1 : Int32} {σ : CS} : Mn σ (fX5_init T a0 p1 σ) := by
  unfold fX5_init
  refine Mgd ?_
  refine Mst (Nat.le_succ _) (Nat.le_add_right _ _) (fun σ1 => ?_)
  refine Mgd ?_
  refine Mst (Nat.le_refl _) (Nat.le_refl _) (fun σ2 => ?_)
  refine Mgd ?_
  refine Mst (Nat.le_succ _) (Nat.le_add_right _ _) (fun σ3 => ?_)
  refine Mgd ?_
  refine Mst (Nat.le_refl _) (Nat.le_refl _) (fun σ4 => ?_)
  refine Mgd ?_
  refine Mst (Nat.le_succ _) (Nat.le_add_right _ _) (fun σ5 => ?_)
  refine Mgd ?_
  refine Mst (Nat.le_refl _) (Nat.le_refl _) (fun σ6 => ?_)
  refine Mst (Nat.le_succ _) (Nat.le_add_right _ _) (fun σ7 => ?_)
  refine Mcl2 (nJ2_init) (fun _ σ8 => ?_)
  refine Mgd ?_
  refine Mst (Nat.le_refl _) (Nat.le_refl _) (fun σ10 => ?_)
  refine Mgd ?_
  refine Mst (Nat.le_refl _) (Nat.le_refl _) (fun σ11 => ?_)
  exact Mret
set_option maxHeartbeats 4000000 in
set_option maxRecDepth 100000 in
theorem mX5_init (l : Launch) (E : CE) {a0 : Nat} {p1 : Int32} {σ : CS} {σz : CS} (hX : fX5_init E.2.2.2 a0 p1 σ = some ((), σz)) : MetC l yX5_init (ws_ yX5_init cX5_init 2 none) 4 72 E σ [.ref a0, .int p1] none σz := by
  refine MetC.of hX (by decide) (Nat.le_of_ble_eq_true rfl) (nX5_init _ hX) ?_
  intro p e s m below meth c hx hb hr hml hts hown hlocks hnm hk hz0
  have hK := hk.1
  show J p l e (headSpec (ws_ yX5_init cX5_init 2 none) (rmC 4 72 σ σz)).room s m ([.ref a0, .int p1] : List Value).toArray below meth c 2 E (cZ σ) (cS σ) (MQ below (cQ E none σz) ([.ref a0, .int p1] : List Value).toArray s (cZ σz - cZ σ) (cS σz - cS σ) (EA E)) ((), σz) (fX5_init E.2.2.2 a0 p1 σ) σ 0 [(0, .ref a0), (1, .int p1)] []
  unfold fX5_init
  refine Jrow (fun H locs ls hH hS hl k => lv_aload_n hx hb dX5_init_0 rfl (lv_at hl 0 rfl) (k ls hl)) ?_
  refine Jrow (fun H locs ls hH hS hl k => W.objInit hx hb hown (hts _ q341) (hts _ q127) (hts _ q128) rfl (by rw [hml]; exact hl.1) rfl dX5_init_1 (Nat.le_of_ble_eq_true rfl) (Nat.le_of_ble_eq_true rfl) (W.eq (g2 := F0 m 4 ls []) rfl (k ls hl))) ?_
  refine Jrow (fun H locs ls hH hS hl k => lv_aload_n hx hb dX5_init_4 rfl (lv_at hl 0 rfl) (k ls hl)) ?_
  refine Jrow (fun H locs ls hH hS hl k => lv_iconst (v := (4:Int32)) hx hb dX5_init_5 (by decide) (k ls hl)) ?_
  refine Jgd (fun hg => ?_)
  refine Jnew (σ1 := nA σ 101 (4:Int32).toNatClampNeg) (n := (4:Int32).toNatClampNeg) rfl rfl ⟨rfl, rfl⟩ (fun H locs ls hH hS hl h1 h2 k => c_newa (t := 0) (ty := .int) hx hb hts hK hH hS hk.2.1 (by decide) rfl rfl (fun h => h) rfl (by decide) q219 hg h1 h2 dX5_init_6 k) (fun σ1 eσ1 => ?_)
  clear eσ1
  refine Jgd (fun hg => ?_)
  refine Jst (σ1 := uFR σ1 a0 62 (some (cZ σ))) rfl rfl (fun H locs ls hH hS hl k => c_putRF (F := 62) (ty := (.array .int)) (x := (some (cZ σ))) hx hb hts hown hK hH hS hg (hts _ q347) (fun _ h => h) rfl hnm rfl rfl (by decide +kernel) rfl rfl rfl dX5_init_8 k) (fun σ2 => ?_)
  refine Jrow (fun H locs ls hH hS hl k => lv_aload_n hx hb dX5_init_11 rfl (lv_at hl 0 rfl) (k ls hl)) ?_
  refine Jrow (fun H locs ls hH hS hl k => lv_bipush (v := (6:Int32)) hx hb dX5_init_12 (by decide) (k ls hl)) ?_
  refine Jgd (fun hg => ?_)
  refine Jnew (σ1 := nA σ2 101 (6:Int32).toNatClampNeg) (n := (6:Int32).toNatClampNeg) rfl rfl ⟨rfl, rfl⟩ (fun H locs ls hH hS hl h1 h2 k => c_newa (t := 0) (ty := .int) hx hb hts hK hH hS hk.2.1 (by decide) rfl rfl (fun h => h) rfl (by decide) q219 hg h1 h2 dX5_init_14 k) (fun σ3 eσ3 => ?_)
  clear eσ3
  refine Jgd (fun hg => ?_)
  refine Jst (σ1 := uFR σ3 a0 63 (some (cZ σ2))) rfl rfl (fun H locs ls hH hS hl k => c_putRF (F := 63) (ty := (.array .int)) (x := (some (cZ σ2))) hx hb hts hown hK hH hS hg (hts _ q351) (fun _ h => h) rfl hnm rfl rfl (by decide +kernel) rfl rfl rfl dX5_init_16 k) (fun σ4 => ?_)
  refine Jrow (fun H locs ls hH hS hl k => lv_aload_n hx hb dX5_init_19 rfl (lv_at hl 0 rfl) (k ls hl)) ?_
  refine Jrow (fun H locs ls hH hS hl k => lv_bipush (v := (12:Int32)) hx hb dX5_init_20 (by decide) (k ls hl)) ?_
  refine Jgd (fun hg => ?_)
  refine Jnew (σ1 := nA σ4 101 (12:Int32).toNatClampNeg) (n := (12:Int32).toNatClampNeg) rfl rfl ⟨rfl, rfl⟩ (fun H locs ls hH hS hl h1 h2 k => c_newa (t := 0) (ty := .int) hx hb hts hK hH hS hk.2.1 (by decide) rfl rfl (fun h => h) rfl (by decide) q219 hg h1 h2 dX5_init_22 k) (fun σ5 eσ5 => ?_)
  clear eσ5
  refine Jgd (fun hg => ?_)
  refine Jst (σ1 := uFR σ5 a0 64 (some (cZ σ4))) rfl rfl (fun H locs ls hH hS hl k => c_putRF (F := 64) (ty := (.array .int)) (x := (some (cZ σ4))) hx hb hts hown hK hH hS hg (hts _ q355) (fun _ h => h) rfl hnm rfl rfl (by decide +kernel) rfl rfl rfl dX5_init_24 k) (fun σ6 => ?_)
  refine Jrow (fun H locs ls hH hS hl k => lv_aload_n hx hb dX5_init_27 rfl (lv_at hl 0 rfl) (k ls hl)) ?_
  refine Jnew (σ1 := nO σ6 20 3) (n := 3) rfl rfl ⟨rfl, rfl⟩ (fun H locs ls hH hS hl h1 h2 k => c_new (ci := 19) hx hb hts hown hK hH hS hk.2.1 in_J2 tyJ2 tyJ2_ok (by decide +kernel) (hts _ q342) (hts _ q130) (hts _ q91) rfl h1 h2 dX5_init_28 k) (fun σ7 eσ7 => ?_)
  clear eσ7
  refine Jrow (fun H locs ls hH hS hl k => lv_dup hx hb dX5_init_31 rfl (k ls hl)) ?_
  refine Jcl2 (fun _ σ8 hf => ?_)
  refine Jcall (v := none) (rest := [.ref (cZ σ6), .ref a0]) (mJ2_init l E hf).1 ⟨rfl, rfl⟩ (fun H locs ls hH hS hl hR => ⟨_, va_runI (As := []) ⟨hx, hb, hml, hown, hts⟩ (mJ2_init l E hf).2 (cwI 0 hts (lw_meth q133) rfl rfl rfl (hts _ q91) (hts _ q343) (hts _ q132) rfl (by decide +kernel) ⟨Nat.le_of_ble_eq_true rfl, Nat.le_of_ble_eq_true rfl⟩) (c_preS hk hH hS) rfl rfl hl.1 rfl (lv_room (Nat.le_of_ble_eq_true rfl)) dX5_init_32 hR⟩) ?_
  clear hf
  refine Jgd (fun hg => ?_)
  refine Jst (σ1 := uFR σ8 a0 65 (some (cZ σ6))) rfl rfl (fun H locs ls hH hS hl k => c_putRF (F := 65) (ty := (.object "java/util/ArrayList")) (x := (some (cZ σ6))) hx hb hts hown hK hH hS hg (hts _ q357) (fun _ h => h) rfl hnm rfl rfl (by decide +kernel) rfl rfl rfl dX5_init_35 k) (fun σ10 => ?_)
  refine Jrow (fun H locs ls hH hS hl k => lv_aload_n hx hb dX5_init_38 rfl (lv_at hl 0 rfl) (k ls hl)) ?_
  refine Jrow (fun H locs ls hH hS hl k => lv_iload_n hx hb dX5_init_39 rfl (lv_at hl 1 rfl) (k ls hl)) ?_
  refine Jgd (fun hg => ?_)
  refine Jst (σ1 := uFI σ10 a0 60 p1) rfl rfl (fun H locs ls hH hS hl k => c_putIF (F := 60) (ty := .int) (x := p1) hx hb hts hown hK hH hS hg (hts _ q344) (fun _ h => h) rfl hnm rfl rfl (by decide +kernel) rfl rfl rfl dX5_init_40 k) (fun σ11 => ?_)
  exact Jvret hx hb hr hlocks dX5_init_43

def fX5_holdOf (a0 : Nat) (p1 : Int32) (p2 : Int32) (p3 : Int32) (σ : CS) : Option (Int32 × CS) :=
 lp (fun _ _ _ => none) (fun (k4 : Int32 → Int32 → CS → Option (Int32 × CS)) (x1 : Int32) (x2 : Int32) (σ3 : CS) =>
 gd (hf (cK σ3 a0) 65) (
 cl (cFR σ3 a0 65) (fun (x5 : Nat) =>
 gd (kd σ3 x5 20) (
 cl2 (fJ2_size x5 σ3) (fun (x7 : Int32) (σ6 : CS) =>
 if x7 ≤ x2 then
 some (x1, σ6)
 else
 gd (hf (cK σ6 a0) 65) (
 cl (cFR σ6 a0 65) (fun (x8 : Nat) =>
 gd (kd σ6 x8 20) (
 cl2 (fJ2_get x8 x2 σ6) (fun (x10 : Nat) (σ9 : CS) =>
 gd (isT (cK σ9 x10)) (
 cl2 (gT 100 x10 p1 p2 p3 σ9) (fun (x11 : Int32) (σ12 : CS) =>
 jn (fun (x13 : Int32) => bd (x1 + x13) (fun (x15 : Int32) =>
 bd (x2 + (1:Int32)) (fun (x16 : Int32) =>
 k4 x15 x16 σ12))) (fun (k14 : Int32 → Option (Int32 × CS)) =>
 if x11 = (0:Int32) then
 k14 (0:Int32)
 else
 gd (hf (cK σ12 a0) 64) (
 cl (cFR σ12 a0 64) (fun (x17 : Nat) =>
 gd (kd σ12 x17 101) (
 gd (ib x2 (cLN σ12 x17)) (
 k14 (cAI σ12 x17 x2.toNatClampNeg))))))))))))))))) NF (0:Int32) (0:Int32) σ
theorem nX5_holdOf {a0 : Nat} {p1 : Int32} {p2 : Int32} {p3 : Int32} {σ : CS} : Mn σ (fX5_holdOf a0 p1 p2 p3 σ) := by
  unfold fX5_holdOf
  refine Plp3 (fun (x1 : Int32) (x2 : Int32) (σ3 : CS) (X19 : Option (Int32 × CS)) => Mn σ3 X19) (fun _ _ _ => Mnone) (fun k4 hk4 x1 x2 σ3 => ?_)
  refine Mgd ?_
  refine Mcl (fun x5 => ?_)
  refine Mgd ?_
  refine Mcl2 (nJ2_size) (fun x7 σ6 => ?_)
  refine Mite ?_ ?_
  · exact Mret
  · refine Mgd ?_
    refine Mcl (fun x8 => ?_)
    refine Mgd ?_
    refine Mcl2 (nJ2_get) (fun x10 σ9 => ?_)
    refine Mgd ?_
    refine Mcl2 (nT 100 _ _ _ _ _) (fun x11 σ12 => ?_)
    refine Mjn1 (fun (x13 : Int32) (X18 : Option (Int32 × CS)) => Mn σ12 X18) (fun x13 => ?_) (fun k14 hk14 => ?_)
    · refine Mbd (fun x15 => ?_)
      refine Mbd (fun x16 => ?_)
      exact hk4 x15 x16 σ12
    · refine Mite ?_ ?_
      · exact hk14 (0:Int32)
      · refine Mgd ?_
        refine Mcl (fun x17 => ?_)
        refine Mgd ?_
        refine Mgd ?_
        exact hk14 (cAI σ12 x17 x2.toNatClampNeg)
set_option maxHeartbeats 4000000 in
set_option maxRecDepth 100000 in
theorem mX5_holdOf (l : Launch) (E : CE) {a0 : Nat} {p1 : Int32} {p2 : Int32} {p3 : Int32} {σ : CS} {r : Int32} {σz : CS} (hX : fX5_holdOf a0 p1 p2 p3 σ = some (r, σz)) : MetC l yX5_holdOf (ws_ yX5_holdOf cX5_holdOf 6 (some .int)) 101 4030 E σ [.ref a0, .int p1, .int p2, .int p3] (some (.int r)) σz := by
  refine MetC.of hX (by decide) (Nat.le_of_ble_eq_true rfl) (nX5_holdOf _ hX) ?_
  intro p e s m below meth c hx hb hr hml hts hown hlocks hnm hk hz0
  have hK := hk.1
  show J p l e (headSpec (ws_ yX5_holdOf cX5_holdOf 6 (some .int)) (rmC 101 4030 σ σz)).room s m ([.ref a0, .int p1, .int p2, .int p3] : List Value).toArray below meth c 6 E (cZ σ) (cS σ) (MQ below (cQ E (some (.int r)) σz) ([.ref a0, .int p1, .int p2, .int p3] : List Value).toArray s (cZ σz - cZ σ) (cS σz - cS σ) (EA E)) (r, σz) (fX5_holdOf a0 p1 p2 p3 σ) σ 0 [(0, .ref a0), (1, .int p1), (2, .int p2), (3, .int p3)] []
  unfold fX5_holdOf
  refine Jrow (fun H locs ls hH hS hl k => lv_iconst (v := (0:Int32)) hx hb dX5_holdOf_0 (by decide) (k ls hl)) ?_
  refine Jrow (fun H locs ls hH hS hl k => lv_istore (lv' := [(4, .int (0:Int32)), (0, .ref a0), (1, .int p1), (2, .int p2), (3, .int p3)]) hx hb dX5_holdOf_1 hl (by decide) rfl k) ?_
  refine Jrow (fun H locs ls hH hS hl k => lv_iconst (v := (0:Int32)) hx hb dX5_holdOf_3 (by decide) (k ls hl)) ?_
  refine Jrow (fun H locs ls hH hS hl k => lv_istore (lv' := [(5, .int (0:Int32)), (4, .int (0:Int32)), (0, .ref a0), (1, .int p1), (2, .int p2), (3, .int p3)]) hx hb dX5_holdOf_4 hl (by decide) rfl k) ?_
  refine Jsub [2, 3, 4, 5, 1, 0] rfl (Plp3 (fun (x1 : Int32) (x2 : Int32) (σ3 : CS) X19 => J p l e (headSpec (ws_ yX5_holdOf cX5_holdOf 6 (some .int)) (rmC 101 4030 σ σz)).room s m ([.ref a0, .int p1, .int p2, .int p3] : List Value).toArray below meth c 6 E (cZ σ) (cS σ) (MQ below (cQ E (some (.int r)) σz) ([.ref a0, .int p1, .int p2, .int p3] : List Value).toArray s (cZ σz - cZ σ) (cS σz - cS σ) (EA E)) (r, σz) X19 σ3 6 [(0, .ref a0), (1, .int p1), (2, .int p2), (3, .int p3), (4, .int x1), (5, .int x2)] []) (fun _ _ _ => Jnone) (fun k4 hk4 x1 x2 σ3 => ?_))
  refine Jrow (fun H locs ls hH hS hl k => lv_iload hx hb dX5_holdOf_6 (lv_at hl 5 rfl) (k ls hl)) ?_
  refine Jrow (fun H locs ls hH hS hl k => lv_aload_n hx hb dX5_holdOf_8 rfl (lv_at hl 0 rfl) (k ls hl)) ?_
  refine Jgd (fun hg => ?_)
  refine Jcl (fun x5 hq => ?_)
  refine Jrow (fun H locs ls hH hS hl k => c_get (F := 65) (v := .ref x5) hx hb hts hown hK hH hg (hts _ q357) (fun _ h => h) (fvR rfl hq) dX5_holdOf_9 (k ls hl)) ?_
  clear hq
  refine Jgd (fun hg => ?_)
  refine Jcl2 (fun x7 σ6 hf => ?_)
  refine Jcall (v := (some (.int x7))) (rest := [.int x2]) (mJ2_size l E hf).1 ⟨rfl, rfl⟩ (fun H locs ls hH hS hl hR => ⟨_, va_runV (C := RJ2) (As := []) ⟨hx, hb, hml, hown, hts⟩ (mJ2_size l E hf).2 (cwV 0 hts (lw_V q631 q328 q329 q91 q330) rfl rfl rfl (by decide +kernel) ⟨Nat.le_of_ble_eq_true rfl, Nat.le_of_ble_eq_true rfl⟩) (c_preV (ci := 19) hk hH hS hg rfl) rfl rfl hl.1 rfl (lv_room (Nat.le_of_ble_eq_true rfl)) dX5_holdOf_12 hR⟩) ?_
  clear hf
  refine Jite (fun hc => ?_) (fun hc => ?_)
  · refine Jrow (fun H locs ls hH hS hl k => lv_icmp_ge (tgt := 63) hx hb dX5_holdOf_15 (by decide) (fun _ => (k ls hl)) (fun h => absurd hc h)) ?_
    clear hc
    refine Jrow (fun H locs ls hH hS hl k => lv_iload hx hb dX5_holdOf_63 (lv_at hl 4 rfl) (k ls hl)) ?_
    exact Jiret hx hb hr hlocks dX5_holdOf_65
  · refine Jrow (fun H locs ls hH hS hl k => lv_icmp_ge (tgt := 63) hx hb dX5_holdOf_15 (by decide) (fun h => absurd h hc) (fun _ => (k ls hl))) ?_
    clear hc
    refine Jrow (fun H locs ls hH hS hl k => lv_iload hx hb dX5_holdOf_18 (lv_at hl 4 rfl) (k ls hl)) ?_
    refine Jrow (fun H locs ls hH hS hl k => lv_aload_n hx hb dX5_holdOf_20 rfl (lv_at hl 0 rfl) (k ls hl)) ?_
    refine Jgd (fun hg => ?_)
    refine Jcl (fun x8 hq => ?_)
    refine Jrow (fun H locs ls hH hS hl k => c_get (F := 65) (v := .ref x8) hx hb hts hown hK hH hg (hts _ q357) (fun _ h => h) (fvR rfl hq) dX5_holdOf_21 (k ls hl)) ?_
    clear hq
    refine Jrow (fun H locs ls hH hS hl k => lv_iload hx hb dX5_holdOf_24 (lv_at hl 5 rfl) (k ls hl)) ?_
    refine Jgd (fun hg => ?_)
    refine Jcl2 (fun x10 σ9 hf => ?_)
    refine Jcall (v := (some (.ref x10))) (rest := [.int x1]) (mJ2_get l E hf).1 ⟨rfl, rfl⟩ (fun H locs ls hH hS hl hR => ⟨_, va_runV (C := RJ2) (As := [.int x2]) ⟨hx, hb, hml, hown, hts⟩ (mJ2_get l E hf).2 (cwV 1 hts (lw_V q632 q606 q607 q91 q608) rfl rfl rfl (by decide +kernel) ⟨Nat.le_of_ble_eq_true rfl, Nat.le_of_ble_eq_true rfl⟩) (c_preV (ci := 19) hk hH hS hg rfl) rfl rfl hl.1 rfl (lv_room (Nat.le_of_ble_eq_true rfl)) dX5_holdOf_26 hR⟩) ?_
    clear hf
    refine Jgd (fun hg => ?_)
    refine Jrow (fun H locs ls hH hS hl k => c_castT hx hb hown (hts _ q633) hk hH hg dX5_holdOf_29 (k ls hl)) ?_
    refine Jrow (fun H locs ls hH hS hl k => lv_iload_n hx hb dX5_holdOf_32 rfl (lv_at hl 1 rfl) (k ls hl)) ?_
    refine Jrow (fun H locs ls hH hS hl k => lv_iload_n hx hb dX5_holdOf_33 rfl (lv_at hl 2 rfl) (k ls hl)) ?_
    refine Jrow (fun H locs ls hH hS hl k => lv_iload_n hx hb dX5_holdOf_34 rfl (lv_at hl 3 rfl) (k ls hl)) ?_
    refine Jcl2 (fun x11 σ12 hf => ?_)
    refine JcallT ⟨hx, hb, hml, hown, hts⟩ (vT l E 100) hf (nT 100 _ _ _ _ _) hk q635 (Nat.le_of_ble_eq_true rfl) (Nat.le_of_ble_eq_true rfl) ⟨rfl, rfl⟩ (Nat.le_of_ble_eq_true rfl) dX5_holdOf_35 ?_
    clear hf
    refine Jjn1 (fun (x13 : Int32) X18 => J p l e (headSpec (ws_ yX5_holdOf cX5_holdOf 6 (some .int)) (rmC 101 4030 σ σz)).room s m ([.ref a0, .int p1, .int p2, .int p3] : List Value).toArray below meth c 6 E (cZ σ) (cS σ) (MQ below (cQ E (some (.int r)) σz) ([.ref a0, .int p1, .int p2, .int p3] : List Value).toArray s (cZ σz - cZ σ) (cS σz - cS σ) (EA E)) (r, σz) X18 σ12 54 [(0, .ref a0), (1, .int p1), (2, .int p2), (3, .int p3), (5, .int x2)] [.int x13, .int x1]) (fun x13 => ?_) (fun k14 hk14 => ?_)
    · refine Jrow (fun H locs ls hH hS hl k => lv_iadd hx hb dX5_holdOf_54 (k ls hl)) ?_
      refine JbdI (fun x15 => ?_)
      refine Jrow (fun H locs ls hH hS hl k => lv_istore (lv' := [(4, .int x15), (0, .ref a0), (1, .int p1), (2, .int p2), (3, .int p3), (5, .int x2)]) hx hb dX5_holdOf_55 hl (by decide) rfl k) ?_
      refine Jbd (fun x16 ex16 => ?_)
      refine Jrow (fun H locs ls hH hS hl k => lv_iinc (v := x16) (lv' := [(5, .int x16), (4, .int x15), (0, .ref a0), (1, .int p1), (2, .int p2), (3, .int p3)]) hx hb dX5_holdOf_57 hl (k := 5) rfl (by rw [ex16]; rfl) (by decide) rfl k) ?_
      clear ex16
      refine Jrow (fun H locs ls hH hS hl k => lv_goto (tgt := 6) hx hb dX5_holdOf_60 (by decide) (k ls hl)) ?_
      exact Jsub [2, 3, 4, 5, 1, 0] rfl (hk4 x15 x16 σ12)
    · refine Jite (fun hc => ?_) (fun hc => ?_)
      · refine Jrow (fun H locs ls hH hS hl k => lv_if_eq (tgt := 53) hx hb dX5_holdOf_40 (by decide) (fun _ => (k ls hl)) (fun h => absurd hc h)) ?_
        clear hc
        refine Jrow (fun H locs ls hH hS hl k => lv_iconst (v := (0:Int32)) hx hb dX5_holdOf_53 (by decide) (k ls hl)) ?_
        exact Jsub [0, 1, 2, 3, 5] rfl (hk14 (0:Int32))
      · refine Jrow (fun H locs ls hH hS hl k => lv_if_eq (tgt := 53) hx hb dX5_holdOf_40 (by decide) (fun h => absurd h hc) (fun _ => (k ls hl))) ?_
        clear hc
        refine Jrow (fun H locs ls hH hS hl k => lv_aload_n hx hb dX5_holdOf_43 rfl (lv_at hl 0 rfl) (k ls hl)) ?_
        refine Jgd (fun hg => ?_)
        refine Jcl (fun x17 hq => ?_)
        refine Jrow (fun H locs ls hH hS hl k => c_get (F := 64) (v := .ref x17) hx hb hts hown hK hH hg (hts _ q355) (fun _ h => h) (fvR rfl hq) dX5_holdOf_44 (k ls hl)) ?_
        clear hq
        refine Jrow (fun H locs ls hH hS hl k => lv_iload hx hb dX5_holdOf_47 (lv_at hl 5 rfl) (k ls hl)) ?_
        refine Jgd (fun hk1 => ?_)
        refine Jgd (fun hg => ?_)
        refine Jrow (fun H locs ls hH hS hl k => c_iald hx hb hK hH hk1 hg dX5_holdOf_49 (k ls hl)) ?_
        refine Jrow (fun H locs ls hH hS hl k => lv_goto (tgt := 54) hx hb dX5_holdOf_50 (by decide) (k ls hl)) ?_
        exact Jsub [0, 1, 2, 3, 5] rfl (hk14 (cAI σ12 x17 x2.toNatClampNeg))

def fX2_cost (a0 : Nat) (p1 : Int32) (σ : CS) : Option (Int64 × CS) :=
 gd (hf (cK σ a0) 50) (
 cl (cFR σ a0 50) (fun (x1 : Nat) =>
 gd (hf (cK σ a0) 51) (
 gd (hf (cK σ a0) 52) (
 gd (kd σ x1 6) (
 cl2 (fX5_holdOf x1 p1 (cFI σ a0 51) (cFI σ a0 52) σ) (fun (x3 : Int32) (σ2 : CS) =>
 some ((x3.toInt64) * (1000:Int64), σ2)))))))
theorem nX2_cost {a0 : Nat} {p1 : Int32} {σ : CS} : Mn σ (fX2_cost a0 p1 σ) := by
  unfold fX2_cost
  refine Mgd ?_
  refine Mcl (fun x1 => ?_)
  refine Mgd ?_
  refine Mgd ?_
  refine Mgd ?_
  refine Mcl2 (nX5_holdOf) (fun x3 σ2 => ?_)
  exact Mret
set_option maxHeartbeats 4000000 in
set_option maxRecDepth 100000 in
theorem mX2_cost (l : Launch) (E : CE) {a0 : Nat} {p1 : Int32} {σ : CS} {r : Int64} {σz : CS} (hX : fX2_cost a0 p1 σ = some (r, σz)) : MetC l yX2_cost (ws_ yX2_cost cX2_cost 2 (some .long)) 102 4055 E σ [.ref a0, .int p1] (some (.long r)) σz := by
  refine MetC.of hX (by decide) (Nat.le_of_ble_eq_true rfl) (nX2_cost _ hX) ?_
  intro p e s m below meth c hx hb hr hml hts hown hlocks hnm hk hz0
  have hK := hk.1
  show J p l e (headSpec (ws_ yX2_cost cX2_cost 2 (some .long)) (rmC 102 4055 σ σz)).room s m ([.ref a0, .int p1] : List Value).toArray below meth c 2 E (cZ σ) (cS σ) (MQ below (cQ E (some (.long r)) σz) ([.ref a0, .int p1] : List Value).toArray s (cZ σz - cZ σ) (cS σz - cS σ) (EA E)) (r, σz) (fX2_cost a0 p1 σ) σ 0 [(0, .ref a0), (1, .int p1)] []
  unfold fX2_cost
  refine Jrow (fun H locs ls hH hS hl k => lv_aload_n hx hb dX2_cost_0 rfl (lv_at hl 0 rfl) (k ls hl)) ?_
  refine Jgd (fun hg => ?_)
  refine Jcl (fun x1 hq => ?_)
  refine Jrow (fun H locs ls hH hS hl k => c_get (F := 50) (v := .ref x1) hx hb hts hown hK hH hg (hts _ q193) (fun _ h => h) (fvR rfl hq) dX2_cost_1 (k ls hl)) ?_
  clear hq
  refine Jrow (fun H locs ls hH hS hl k => lv_iload_n hx hb dX2_cost_4 rfl (lv_at hl 1 rfl) (k ls hl)) ?_
  refine Jrow (fun H locs ls hH hS hl k => lv_aload_n hx hb dX2_cost_5 rfl (lv_at hl 0 rfl) (k ls hl)) ?_
  refine Jgd (fun hg => ?_)
  refine Jrow (fun H locs ls hH hS hl k => c_get (F := 51) (v := .int (cFI σ a0 51)) hx hb hts hown hK hH hg (hts _ q196) (fun _ h => h) rfl dX2_cost_6 (k ls hl)) ?_
  refine Jrow (fun H locs ls hH hS hl k => lv_aload_n hx hb dX2_cost_9 rfl (lv_at hl 0 rfl) (k ls hl)) ?_
  refine Jgd (fun hg => ?_)
  refine Jrow (fun H locs ls hH hS hl k => c_get (F := 52) (v := .int (cFI σ a0 52)) hx hb hts hown hK hH hg (hts _ q197) (fun _ h => h) rfl dX2_cost_10 (k ls hl)) ?_
  refine Jgd (fun hg => ?_)
  refine Jcl2 (fun x3 σ2 hf => ?_)
  refine Jcall (v := (some (.int x3))) (rest := []) (mX5_holdOf l E hf).1 ⟨rfl, rfl⟩ (fun H locs ls hH hS hl hR => ⟨_, va_runV (C := RX5) (As := [.int p1, .int (cFI σ a0 51), .int (cFI σ a0 52)]) ⟨hx, hb, hml, hown, hts⟩ (mX5_holdOf l E hf).2 (cwV 3 hts (lw_V q926 q628 q629 q96 q630) rfl rfl rfl (by decide +kernel) ⟨Nat.le_of_ble_eq_true rfl, Nat.le_of_ble_eq_true rfl⟩) (c_preV (ci := 5) hk hH hS hg rfl) rfl rfl hl.1 rfl (lv_room (Nat.le_of_ble_eq_true rfl)) dX2_cost_13 hR⟩) ?_
  clear hf
  refine Jrow (fun H locs ls hH hS hl k => lv_i2l hx hb dX2_cost_16 rfl (k ls hl)) ?_
  refine Jrow (fun H locs ls hH hS hl k => lv_ldc2 (v := (1000:Int64)) hx hb hown (hts _ q684) dX2_cost_17 (k ls hl)) ?_
  refine Jrow (fun H locs ls hH hS hl k => lv_lmul hx hb dX2_cost_20 (k ls hl)) ?_
  exact Jlret hx hb hr hlocks dX2_cost_21

def fX10_init (a0 : Nat) (p1 : Nat) (p2 : Int32) (p3 : Int32) (σ : CS) : Option (Unit × CS) :=
 bd (nO σ 4 6) (fun (σ1 : CS) =>
 cl2 (fX2_init (cZ σ) σ1) (fun (_ : Unit) (σ2 : CS) =>
 gd (hf (cK σ2 a0) 83) (
 bd (uFR σ2 a0 83 (some (cZ σ))) (fun (σ4 : CS) =>
 gd (hf (cK σ4 a0) 81) (
 bd (uFI σ4 a0 81 p2) (fun (σ5 : CS) =>
 gd (hf (cK σ5 a0) 82) (
 bd (uFI σ5 a0 82 p3) (fun (σ6 : CS) =>
 gd (hf (cK σ6 a0) 83) (
 cl (cFR σ6 a0 83) (fun (x7 : Nat) =>
 gd (hf (cK σ6 p1) 62) (
 cl (cFR σ6 p1 62) (fun (x8 : Nat) =>
 gd (kd σ6 x8 101) (
 gd (ib p2 (cLN σ6 x8)) (
 gd (kd σ6 x7 4) (
 cl2 (fX2_begin x7 p1 p3 p2 (cAI σ6 x8 p2.toNatClampNeg) σ6) (fun (_ : Unit) (σ9 : CS) =>
 some ((), σ9)))))))))))))))))
theorem nX10_init {a0 : Nat} {p1 : Nat} {p2 : Int32} {p3 : Int32} {σ : CS} : Mn σ (fX10_init a0 p1 p2 p3 σ) := by
  unfold fX10_init
  refine Mst (Nat.le_succ _) (Nat.le_add_right _ _) (fun σ1 => ?_)
  refine Mcl2 (nX2_init) (fun _ σ2 => ?_)
  refine Mgd ?_
  refine Mst (Nat.le_refl _) (Nat.le_refl _) (fun σ4 => ?_)
  refine Mgd ?_
  refine Mst (Nat.le_refl _) (Nat.le_refl _) (fun σ5 => ?_)
  refine Mgd ?_
  refine Mst (Nat.le_refl _) (Nat.le_refl _) (fun σ6 => ?_)
  refine Mgd ?_
  refine Mcl (fun x7 => ?_)
  refine Mgd ?_
  refine Mcl (fun x8 => ?_)
  refine Mgd ?_
  refine Mgd ?_
  refine Mgd ?_
  refine Mcl2 (nX2_begin) (fun _ σ9 => ?_)
  exact Mret
set_option maxHeartbeats 4000000 in
set_option maxRecDepth 100000 in
theorem mX10_init (l : Launch) (E : CE) {a0 : Nat} {p1 : Nat} {p2 : Int32} {p3 : Int32} {σ : CS} {σz : CS} (hX : fX10_init a0 p1 p2 p3 σ = some ((), σz)) : MetC l yX10_init (ws_ yX10_init cX10_init 4 none) 3 71 E σ [.ref a0, .ref p1, .int p2, .int p3] none σz := by
  refine MetC.of hX (by decide) (Nat.le_of_ble_eq_true rfl) (nX10_init _ hX) ?_
  intro p e s m below meth c hx hb hr hml hts hown hlocks hnm hk hz0
  have hK := hk.1
  show J p l e (headSpec (ws_ yX10_init cX10_init 4 none) (rmC 3 71 σ σz)).room s m ([.ref a0, .ref p1, .int p2, .int p3] : List Value).toArray below meth c 4 E (cZ σ) (cS σ) (MQ below (cQ E none σz) ([.ref a0, .ref p1, .int p2, .int p3] : List Value).toArray s (cZ σz - cZ σ) (cS σz - cS σ) (EA E)) ((), σz) (fX10_init a0 p1 p2 p3 σ) σ 0 [(0, .ref a0), (1, .ref p1), (2, .int p2), (3, .int p3)] []
  unfold fX10_init
  refine Jrow (fun H locs ls hH hS hl k => lv_aload_n hx hb dX10_init_0 rfl (lv_at hl 0 rfl) (k ls hl)) ?_
  refine Jrow (fun H locs ls hH hS hl k => W.objInit hx hb hown (hts _ q669) (hts _ q127) (hts _ q128) rfl (by rw [hml]; exact hl.1) rfl dX10_init_1 (Nat.le_of_ble_eq_true rfl) (Nat.le_of_ble_eq_true rfl) (W.eq (g2 := F0 m 4 ls []) rfl (k ls hl))) ?_
  refine Jrow (fun H locs ls hH hS hl k => lv_aload_n hx hb dX10_init_4 rfl (lv_at hl 0 rfl) (k ls hl)) ?_
  refine Jnew (σ1 := nO σ 4 6) (n := 6) rfl rfl ⟨rfl, rfl⟩ (fun H locs ls hH hS hl h1 h2 k => c_new (ci := 3) hx hb hts hown hK hH hS hk.2.1 in_X2 tyX2 tyX2_ok (by decide +kernel) (hts _ q670) (hts _ q186) (hts _ q93) rfl h1 h2 dX10_init_5 k) (fun σ1 eσ1 => ?_)
  clear eσ1
  refine Jrow (fun H locs ls hH hS hl k => lv_dup hx hb dX10_init_8 rfl (k ls hl)) ?_
  refine Jcl2 (fun _ σ2 hf => ?_)
  refine Jcall (v := none) (rest := [.ref (cZ σ), .ref a0]) (mX2_init l E hf).1 ⟨rfl, rfl⟩ (fun H locs ls hH hS hl hR => ⟨_, va_runIN (As := []) ⟨hx, hb, hml, hown, hts⟩ (mX2_init l E hf).2 ⟨va_cnB 0 hts (lw_meth q189) rfl rfl rfl (cN hk.2.2.1 37 rfl) (hts _ q93) (by decide +kernel) ⟨Nat.le_of_ble_eq_true rfl, Nat.le_of_ble_eq_true rfl⟩, rfl, hts _ q188⟩ (c_preS hk hH hS) rfl rfl hl.1 rfl (lv_room (Nat.le_of_ble_eq_true rfl)) dX10_init_9 hR⟩) ?_
  clear hf
  refine Jgd (fun hg => ?_)
  refine Jst (σ1 := uFR σ2 a0 83 (some (cZ σ))) rfl rfl (fun H locs ls hH hS hl k => c_putRF (F := 83) (ty := (.object "FortyDays$Thought")) (x := (some (cZ σ))) hx hb hts hown hK hH hS hg (hts _ q689) (fun _ h => h) rfl hnm rfl rfl (by decide +kernel) rfl rfl rfl dX10_init_12 k) (fun σ4 => ?_)
  refine Jrow (fun H locs ls hH hS hl k => lv_aload_n hx hb dX10_init_15 rfl (lv_at hl 0 rfl) (k ls hl)) ?_
  refine Jrow (fun H locs ls hH hS hl k => lv_iload_n hx hb dX10_init_16 rfl (lv_at hl 2 rfl) (k ls hl)) ?_
  refine Jgd (fun hg => ?_)
  refine Jst (σ1 := uFI σ4 a0 81 p2) rfl rfl (fun H locs ls hH hS hl k => c_putIF (F := 81) (ty := .int) (x := p2) hx hb hts hown hK hH hS hg (hts _ q685) (fun _ h => h) rfl hnm rfl rfl (by decide +kernel) rfl rfl rfl dX10_init_17 k) (fun σ5 => ?_)
  refine Jrow (fun H locs ls hH hS hl k => lv_aload_n hx hb dX10_init_20 rfl (lv_at hl 0 rfl) (k ls hl)) ?_
  refine Jrow (fun H locs ls hH hS hl k => lv_iload_n hx hb dX10_init_21 rfl (lv_at hl 3 rfl) (k ls hl)) ?_
  refine Jgd (fun hg => ?_)
  refine Jst (σ1 := uFI σ5 a0 82 p3) rfl rfl (fun H locs ls hH hS hl k => c_putIF (F := 82) (ty := .int) (x := p3) hx hb hts hown hK hH hS hg (hts _ q687) (fun _ h => h) rfl hnm rfl rfl (by decide +kernel) rfl rfl rfl dX10_init_22 k) (fun σ6 => ?_)
  refine Jrow (fun H locs ls hH hS hl k => lv_aload_n hx hb dX10_init_25 rfl (lv_at hl 0 rfl) (k ls hl)) ?_
  refine Jgd (fun hg => ?_)
  refine Jcl (fun x7 hq => ?_)
  refine Jrow (fun H locs ls hH hS hl k => c_get (F := 83) (v := .ref x7) hx hb hts hown hK hH hg (hts _ q689) (fun _ h => h) (fvR rfl hq) dX10_init_26 (k ls hl)) ?_
  clear hq
  refine Jrow (fun H locs ls hH hS hl k => lv_aload_n hx hb dX10_init_29 rfl (lv_at hl 1 rfl) (k ls hl)) ?_
  refine Jrow (fun H locs ls hH hS hl k => lv_iload_n hx hb dX10_init_30 rfl (lv_at hl 3 rfl) (k ls hl)) ?_
  refine Jrow (fun H locs ls hH hS hl k => lv_iload_n hx hb dX10_init_31 rfl (lv_at hl 2 rfl) (k ls hl)) ?_
  refine Jrow (fun H locs ls hH hS hl k => lv_aload_n hx hb dX10_init_32 rfl (lv_at hl 1 rfl) (k ls hl)) ?_
  refine Jgd (fun hg => ?_)
  refine Jcl (fun x8 hq => ?_)
  refine Jrow (fun H locs ls hH hS hl k => c_getN (F := 62) (v := .ref x8) hx hb hts hown hK hH hg (cN hk.2.2.1 36 rfl) (fun _ h => h) (fvR rfl hq) dX10_init_33 (k ls hl)) ?_
  clear hq
  refine Jrow (fun H locs ls hH hS hl k => lv_iload_n hx hb dX10_init_36 rfl (lv_at hl 2 rfl) (k ls hl)) ?_
  refine Jgd (fun hk1 => ?_)
  refine Jgd (fun hg => ?_)
  refine Jrow (fun H locs ls hH hS hl k => c_iald hx hb hK hH hk1 hg dX10_init_37 (k ls hl)) ?_
  refine Jgd (fun hg => ?_)
  refine Jcl2 (fun _ σ9 hf => ?_)
  refine Jcall (v := none) (rest := []) (mX2_begin l E hf).1 ⟨rfl, rfl⟩ (fun H locs ls hH hS hl hR => ⟨_, va_runV (C := RX2) (As := [.ref p1, .int p3, .int p2, .int (cAI σ6 x8 p2.toNatClampNeg)]) ⟨hx, hb, hml, hown, hts⟩ (mX2_begin l E hf).2 (cwV 4 hts (lw_V q672 q673 q674 q93 q675) rfl rfl rfl (by decide +kernel) ⟨Nat.le_of_ble_eq_true rfl, Nat.le_of_ble_eq_true rfl⟩) (c_preV (ci := 3) hk hH hS hg rfl) rfl rfl hl.1 rfl (lv_room (Nat.le_of_ble_eq_true rfl)) dX10_init_38 hR⟩) ?_
  clear hf
  exact Jvret hx hb hr hlocks dX10_init_41

def fX10_sayAnew (a0 : Nat) (p1 : Int32) (p2 : Int32) (σ : CS) : Option (Unit × CS) :=
 gd (hf (cK σ a0) 83) (
 cl (cFR σ a0 83) (fun (x1 : Nat) =>
 gd (hf (cK σ a0) 83) (
 cl (cFR σ a0 83) (fun (x2 : Nat) =>
 gd (hf (cK σ x2) 50) (
 cl (cFR σ x2 50) (fun (x3 : Nat) =>
 gd (hf (cK σ a0) 82) (
 gd (hf (cK σ a0) 83) (
 cl (cFR σ a0 83) (fun (x4 : Nat) =>
 gd (hf (cK σ x4) 50) (
 cl (cFR σ x4 50) (fun (x5 : Nat) =>
 gd (hf (cK σ x5) 62) (
 cl (cFR σ x5 62) (fun (x6 : Nat) =>
 gd (kd σ x6 101) (
 gd (ib p1 (cLN σ x6)) (
 bd (if (0:Int32) < ((cAI σ x6 p1.toNatClampNeg) - ((10:Int32) * p2)) then ((cAI σ x6 p1.toNatClampNeg) - ((10:Int32) * p2)) else (0:Int32)) (fun (x7 : Int32) =>
 gd (kd σ x1 4) (
 cl2 (fX2_begin x1 x3 (cFI σ a0 82) p1 x7 σ) (fun (_ : Unit) (σ8 : CS) =>
 some ((), σ8)))))))))))))))))))
theorem nX10_sayAnew {a0 : Nat} {p1 : Int32} {p2 : Int32} {σ : CS} : Mn σ (fX10_sayAnew a0 p1 p2 σ) := by
  unfold fX10_sayAnew
  refine Mgd ?_
  refine Mcl (fun x1 => ?_)
  refine Mgd ?_
  refine Mcl (fun x2 => ?_)
  refine Mgd ?_
  refine Mcl (fun x3 => ?_)
  refine Mgd ?_
  refine Mgd ?_
  refine Mcl (fun x4 => ?_)
  refine Mgd ?_
  refine Mcl (fun x5 => ?_)
  refine Mgd ?_
  refine Mcl (fun x6 => ?_)
  refine Mgd ?_
  refine Mgd ?_
  refine Mbd (fun x7 => ?_)
  refine Mgd ?_
  refine Mcl2 (nX2_begin) (fun _ σ8 => ?_)
  exact Mret
set_option maxHeartbeats 4000000 in
set_option maxRecDepth 100000 in
theorem mX10_sayAnew (l : Launch) (E : CE) {a0 : Nat} {p1 : Int32} {p2 : Int32} {σ : CS} {σz : CS} (hX : fX10_sayAnew a0 p1 p2 σ = some ((), σz)) : MetC l yX10_sayAnew (ws_ yX10_sayAnew cX10_sayAnew 3 none) 3 71 E σ [.ref a0, .int p1, .int p2] none σz := by
  refine MetC.of hX (by decide) (Nat.le_of_ble_eq_true rfl) (nX10_sayAnew _ hX) ?_
  intro p e s m below meth c hx hb hr hml hts hown hlocks hnm hk hz0
  have hK := hk.1
  show J p l e (headSpec (ws_ yX10_sayAnew cX10_sayAnew 3 none) (rmC 3 71 σ σz)).room s m ([.ref a0, .int p1, .int p2] : List Value).toArray below meth c 3 E (cZ σ) (cS σ) (MQ below (cQ E none σz) ([.ref a0, .int p1, .int p2] : List Value).toArray s (cZ σz - cZ σ) (cS σz - cS σ) (EA E)) ((), σz) (fX10_sayAnew a0 p1 p2 σ) σ 0 [(0, .ref a0), (1, .int p1), (2, .int p2)] []
  unfold fX10_sayAnew
  refine Jrow (fun H locs ls hH hS hl k => lv_aload_n hx hb dX10_sayAnew_0 rfl (lv_at hl 0 rfl) (k ls hl)) ?_
  refine Jgd (fun hg => ?_)
  refine Jcl (fun x1 hq => ?_)
  refine Jrow (fun H locs ls hH hS hl k => c_get (F := 83) (v := .ref x1) hx hb hts hown hK hH hg (hts _ q689) (fun _ h => h) (fvR rfl hq) dX10_sayAnew_1 (k ls hl)) ?_
  clear hq
  refine Jrow (fun H locs ls hH hS hl k => lv_aload_n hx hb dX10_sayAnew_4 rfl (lv_at hl 0 rfl) (k ls hl)) ?_
  refine Jgd (fun hg => ?_)
  refine Jcl (fun x2 hq => ?_)
  refine Jrow (fun H locs ls hH hS hl k => c_get (F := 83) (v := .ref x2) hx hb hts hown hK hH hg (hts _ q689) (fun _ h => h) (fvR rfl hq) dX10_sayAnew_5 (k ls hl)) ?_
  clear hq
  refine Jgd (fun hg => ?_)
  refine Jcl (fun x3 hq => ?_)
  refine Jrow (fun H locs ls hH hS hl k => c_getN (F := 50) (v := .ref x3) hx hb hts hown hK hH hg (cN hk.2.2.1 35 rfl) (fun _ h => h) (fvR rfl hq) dX10_sayAnew_8 (k ls hl)) ?_
  clear hq
  refine Jrow (fun H locs ls hH hS hl k => lv_aload_n hx hb dX10_sayAnew_11 rfl (lv_at hl 0 rfl) (k ls hl)) ?_
  refine Jgd (fun hg => ?_)
  refine Jrow (fun H locs ls hH hS hl k => c_get (F := 82) (v := .int (cFI σ a0 82)) hx hb hts hown hK hH hg (hts _ q687) (fun _ h => h) rfl dX10_sayAnew_12 (k ls hl)) ?_
  refine Jrow (fun H locs ls hH hS hl k => lv_iload_n hx hb dX10_sayAnew_15 rfl (lv_at hl 1 rfl) (k ls hl)) ?_
  refine Jrow (fun H locs ls hH hS hl k => lv_iconst (v := (0:Int32)) hx hb dX10_sayAnew_16 (by decide) (k ls hl)) ?_
  refine Jrow (fun H locs ls hH hS hl k => lv_aload_n hx hb dX10_sayAnew_17 rfl (lv_at hl 0 rfl) (k ls hl)) ?_
  refine Jgd (fun hg => ?_)
  refine Jcl (fun x4 hq => ?_)
  refine Jrow (fun H locs ls hH hS hl k => c_get (F := 83) (v := .ref x4) hx hb hts hown hK hH hg (hts _ q689) (fun _ h => h) (fvR rfl hq) dX10_sayAnew_18 (k ls hl)) ?_
  clear hq
  refine Jgd (fun hg => ?_)
  refine Jcl (fun x5 hq => ?_)
  refine Jrow (fun H locs ls hH hS hl k => c_getN (F := 50) (v := .ref x5) hx hb hts hown hK hH hg (cN hk.2.2.1 35 rfl) (fun _ h => h) (fvR rfl hq) dX10_sayAnew_21 (k ls hl)) ?_
  clear hq
  refine Jgd (fun hg => ?_)
  refine Jcl (fun x6 hq => ?_)
  refine Jrow (fun H locs ls hH hS hl k => c_getN (F := 62) (v := .ref x6) hx hb hts hown hK hH hg (cN hk.2.2.1 36 rfl) (fun _ h => h) (fvR rfl hq) dX10_sayAnew_24 (k ls hl)) ?_
  clear hq
  refine Jrow (fun H locs ls hH hS hl k => lv_iload_n hx hb dX10_sayAnew_27 rfl (lv_at hl 1 rfl) (k ls hl)) ?_
  refine Jgd (fun hk1 => ?_)
  refine Jgd (fun hg => ?_)
  refine Jrow (fun H locs ls hH hS hl k => c_iald hx hb hK hH hk1 hg dX10_sayAnew_28 (k ls hl)) ?_
  refine Jrow (fun H locs ls hH hS hl k => lv_bipush (v := (10:Int32)) hx hb dX10_sayAnew_29 (by decide) (k ls hl)) ?_
  refine Jrow (fun H locs ls hH hS hl k => lv_iload_n hx hb dX10_sayAnew_31 rfl (lv_at hl 2 rfl) (k ls hl)) ?_
  refine Jrow (fun H locs ls hH hS hl k => lv_imul hx hb dX10_sayAnew_32 (k ls hl)) ?_
  refine Jrow (fun H locs ls hH hS hl k => lv_isub hx hb dX10_sayAnew_33 (k ls hl)) ?_
  refine JrowB ⟨rfl, rfl⟩ (fun H locs ls hH hS hl h1 h2 k => va_mmax hx hb (hml.trans hl.1.symm) hown (hts _ q711) (hts _ q545) (hts _ q104) (hts _ q546) (Nat.le_of_ble_eq_true rfl) (Nat.le_of_ble_eq_true rfl) h1 h2 dX10_sayAnew_34 (k ls hl)) ?_
  refine JbdI (fun x7 => ?_)
  refine Jgd (fun hg => ?_)
  refine Jcl2 (fun _ σ8 hf => ?_)
  refine Jcall (v := none) (rest := []) (mX2_begin l E hf).1 ⟨rfl, rfl⟩ (fun H locs ls hH hS hl hR => ⟨_, va_runV (C := RX2) (As := [.ref x3, .int (cFI σ a0 82), .int p1, .int x7]) ⟨hx, hb, hml, hown, hts⟩ (mX2_begin l E hf).2 (cwV 4 hts (lw_V q672 q673 q674 q93 q675) rfl rfl rfl (by decide +kernel) ⟨Nat.le_of_ble_eq_true rfl, Nat.le_of_ble_eq_true rfl⟩) (c_preV (ci := 3) hk hH hS hg rfl) rfl rfl hl.1 rfl (lv_room (Nat.le_of_ble_eq_true rfl)) dX10_sayAnew_37 hR⟩) ?_
  clear hf
  exact Jvret hx hb hr hlocks dX10_sayAnew_40
