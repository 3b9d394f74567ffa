/-! printed by gen/comp.py -/
def fX0_init (T : Nat × Nat) (a0 : Nat) (σ : CS) : Option (Unit × CS) :=
 gd (na (120:Int32)) (
 bd (nA σ 104 (120:Int32).toNatClampNeg) (fun (σ1 : CS) =>
 gd (hf (cK σ1 a0) 24) (
 bd (uFR σ1 a0 24 (some (cZ σ))) (fun (σ2 : CS) =>
 bd (nO σ2 20 3) (fun (σ3 : CS) =>
 cl2 (fJ2_init T (cZ σ2) σ3) (fun (_ : Unit) (σ4 : CS) =>
 gd (hf (cK σ4 a0) 26) (
 bd (uFR σ4 a0 26 (some (cZ σ2))) (fun (σ6 : CS) =>
 bd (nO σ6 3 6) (fun (σ7 : CS) =>
 cl2 (fX1_init (cZ σ6) a0 σ7) (fun (_ : Unit) (σ8 : CS) =>
 gd (hf (cK σ8 a0) 27) (
 bd (uFR σ8 a0 27 (some (cZ σ6))) (fun (σ10 : CS) =>
 bd (nO σ10 20 3) (fun (σ11 : CS) =>
 cl2 (fJ2_init T (cZ σ10) σ11) (fun (_ : Unit) (σ12 : CS) =>
 gd (hf (cK σ12 a0) 28) (
 bd (uFR σ12 a0 28 (some (cZ σ10))) (fun (σ14 : CS) =>
 gd (na (21:Int32)) (
 bd (nA σ14 107 (21:Int32).toNatClampNeg) (fun (σ15 : CS) =>
 gd (hf (cK σ15 a0) 29) (
 bd (uFR σ15 a0 29 (some (cZ σ14))) (fun (σ16 : CS) =>
 gd (na (21:Int32)) (
 bd (nA σ16 103 (21:Int32).toNatClampNeg) (fun (σ17 : CS) =>
 gd (hf (cK σ17 a0) 30) (
 bd (uFR σ17 a0 30 (some (cZ σ16))) (fun (σ18 : CS) =>
 gd (na (21:Int32)) (
 bd (nA σ18 103 (21:Int32).toNatClampNeg) (fun (σ19 : CS) =>
 gd (hf (cK σ19 a0) 31) (
 bd (uFR σ19 a0 31 (some (cZ σ18))) (fun (σ20 : CS) =>
 gd (na (21:Int32)) (
 bd (nA σ20 101 (21:Int32).toNatClampNeg) (fun (σ21 : CS) =>
 gd (hf (cK σ21 a0) 32) (
 bd (uFR σ21 a0 32 (some (cZ σ20))) (fun (σ22 : CS) =>
 bd (nO σ22 4 6) (fun (σ23 : CS) =>
 cl2 (fX2_init (cZ σ22) σ23) (fun (_ : Unit) (σ24 : CS) =>
 gd (hf (cK σ24 a0) 33) (
 bd (uFR σ24 a0 33 (some (cZ σ22))) (fun (σ26 : CS) =>
 bd (nO σ26 4 6) (fun (σ27 : CS) =>
 cl2 (fX2_init (cZ σ26) σ27) (fun (_ : Unit) (σ28 : CS) =>
 gd (hf (cK σ28 a0) 34) (
 bd (uFR σ28 a0 34 (some (cZ σ26))) (fun (σ30 : CS) =>
 lp (fun _ _ => none) (fun (k33 : Int32 → CS → Option (Unit × CS)) (x31 : Int32) (σ32 : CS) =>
 if (20:Int32) < x31 then
 gd (na (20:Int32)) (
 bd (nA σ32 101 (20:Int32).toNatClampNeg) (fun (σ34 : CS) =>
 gd (hf (cK σ34 a0) 36) (
 bd (uFR σ34 a0 36 (some (cZ σ32))) (fun (σ35 : CS) =>
 bd (nO σ35 5 5) (fun (σ36 : CS) =>
 cl2 (fX3_init (cZ σ35) a0 σ36) (fun (_ : Unit) (σ37 : CS) =>
 gd (hf (cK σ37 a0) 37) (
 bd (uFR σ37 a0 37 (some (cZ σ35))) (fun (σ39 : CS) =>
 bd (nO σ39 20 3) (fun (σ40 : CS) =>
 cl2 (fJ2_init T (cZ σ39) σ40) (fun (_ : Unit) (σ41 : CS) =>
 gd (hf (cK σ41 a0) 38) (
 bd (uFR σ41 a0 38 (some (cZ σ39))) (fun (σ43 : CS) =>
 gd (na (4:Int32)) (
 bd (nA σ43 103 (4:Int32).toNatClampNeg) (fun (σ44 : CS) =>
 gd (hf (cK σ44 a0) 39) (
 bd (uFR σ44 a0 39 (some (cZ σ43))) (fun (σ45 : CS) =>
 gd (na (10:Int32)) (
 bd (mT σ45 (10:Int32).toNatClampNeg) (fun (σ46 : CS) =>
 gd (hf (cK σ46 a0) 40) (
 bd (uFR σ46 a0 40 (some (cZ σ45))) (fun (σ47 : CS) =>
 gd (na (10:Int32)) (
 bd (mT σ47 (10:Int32).toNatClampNeg) (fun (σ48 : CS) =>
 gd (hf (cK σ48 a0) 41) (
 bd (uFR σ48 a0 41 (some (cZ σ47))) (fun (σ49 : CS) =>
 some ((), σ49)))))))))))))))))))))))))
 else
 gd (hf (cK σ32 a0) 29) (
 cl (cFR σ32 a0 29) (fun (x50 : Nat) =>
 bd (nO σ32 4 6) (fun (σ51 : CS) =>
 cl2 (fX2_init (cZ σ32) σ51) (fun (_ : Unit) (σ52 : CS) =>
 gd (kd σ52 x50 107) (
 gd (ib x31 (cLN σ52 x50)) (
 gd (kd σ52 (cZ σ32) 4) (
 bd (uAR σ52 x50 x31.toNatClampNeg (some (cZ σ32))) (fun (σ54 : CS) =>
 bd (x31 + (1:Int32)) (fun (x55 : Int32) =>
 k33 x55 σ54)))))))))) NF (0:Int32) σ30))))))))))))))))))))))))))))))))))))))))
theorem nX0_init {T : Nat × Nat} {a0 : Nat} {σ : CS} : Mn σ (fX0_init T a0 σ) := by
  unfold fX0_init
  refine Mgd ?_
  refine Mst (Nat.le_succ _) (Nat.le_add_right _ _) (fun σ1 => ?_)
  refine Mgd ?_
  refine Mst (Nat.le_refl _) (Nat.le_refl _) (fun σ2 => ?_)
  refine Mst (Nat.le_succ _) (Nat.le_add_right _ _) (fun σ3 => ?_)
  refine Mcl2 (nJ2_init) (fun _ σ4 => ?_)
  refine Mgd ?_
  refine Mst (Nat.le_refl _) (Nat.le_refl _) (fun σ6 => ?_)
  refine Mst (Nat.le_succ _) (Nat.le_add_right _ _) (fun σ7 => ?_)
  refine Mcl2 (nX1_init) (fun _ σ8 => ?_)
  refine Mgd ?_
  refine Mst (Nat.le_refl _) (Nat.le_refl _) (fun σ10 => ?_)
  refine Mst (Nat.le_succ _) (Nat.le_add_right _ _) (fun σ11 => ?_)
  refine Mcl2 (nJ2_init) (fun _ σ12 => ?_)
  refine Mgd ?_
  refine Mst (Nat.le_refl _) (Nat.le_refl _) (fun σ14 => ?_)
  refine Mgd ?_
  refine Mst (Nat.le_succ _) (Nat.le_add_right _ _) (fun σ15 => ?_)
  refine Mgd ?_
  refine Mst (Nat.le_refl _) (Nat.le_refl _) (fun σ16 => ?_)
  refine Mgd ?_
  refine Mst (Nat.le_succ _) (Nat.le_add_right _ _) (fun σ17 => ?_)
  refine Mgd ?_
  refine Mst (Nat.le_refl _) (Nat.le_refl _) (fun σ18 => ?_)
  refine Mgd ?_
  refine Mst (Nat.le_succ _) (Nat.le_add_right _ _) (fun σ19 => ?_)
  refine Mgd ?_
  refine Mst (Nat.le_refl _) (Nat.le_refl _) (fun σ20 => ?_)
  refine Mgd ?_
  refine Mst (Nat.le_succ _) (Nat.le_add_right _ _) (fun σ21 => ?_)
  refine Mgd ?_
  refine Mst (Nat.le_refl _) (Nat.le_refl _) (fun σ22 => ?_)
  refine Mst (Nat.le_succ _) (Nat.le_add_right _ _) (fun σ23 => ?_)
  refine Mcl2 (nX2_init) (fun _ σ24 => ?_)
  refine Mgd ?_
  refine Mst (Nat.le_refl _) (Nat.le_refl _) (fun σ26 => ?_)
  refine Mst (Nat.le_succ _) (Nat.le_add_right _ _) (fun σ27 => ?_)
  refine Mcl2 (nX2_init) (fun _ σ28 => ?_)
  refine Mgd ?_
  refine Mst (Nat.le_refl _) (Nat.le_refl _) (fun σ30 => ?_)
  refine Plp2 (fun (x31 : Int32) (σ32 : CS) (X56 : Option (Unit × CS)) => Mn σ32 X56) (fun _ _ => Mnone) (fun k33 hk33 x31 σ32 => ?_)
  refine Mite ?_ ?_
  · refine Mgd ?_
    refine Mst (Nat.le_succ _) (Nat.le_add_right _ _) (fun σ34 => ?_)
    refine Mgd ?_
    refine Mst (Nat.le_refl _) (Nat.le_refl _) (fun σ35 => ?_)
    refine Mst (Nat.le_succ _) (Nat.le_add_right _ _) (fun σ36 => ?_)
    refine Mcl2 (nX3_init) (fun _ σ37 => ?_)
    refine Mgd ?_
    refine Mst (Nat.le_refl _) (Nat.le_refl _) (fun σ39 => ?_)
    refine Mst (Nat.le_succ _) (Nat.le_add_right _ _) (fun σ40 => ?_)
    refine Mcl2 (nJ2_init) (fun _ σ41 => ?_)
    refine Mgd ?_
    refine Mst (Nat.le_refl _) (Nat.le_refl _) (fun σ43 => ?_)
    refine Mgd ?_
    refine Mst (Nat.le_succ _) (Nat.le_add_right _ _) (fun σ44 => ?_)
    refine Mgd ?_
    refine Mst (Nat.le_refl _) (Nat.le_refl _) (fun σ45 => ?_)
    refine Mgd ?_
    refine Mst (by rw [mT_z]; omega) (by rw [mT_s]; omega) (fun σ46 => ?_)
    refine Mgd ?_
    refine Mst (Nat.le_refl _) (Nat.le_refl _) (fun σ47 => ?_)
    refine Mgd ?_
    refine Mst (by rw [mT_z]; omega) (by rw [mT_s]; omega) (fun σ48 => ?_)
    refine Mgd ?_
    refine Mst (Nat.le_refl _) (Nat.le_refl _) (fun σ49 => ?_)
    exact Mret
  · refine Mgd ?_
    refine Mcl (fun x50 => ?_)
    refine Mst (Nat.le_succ _) (Nat.le_add_right _ _) (fun σ51 => ?_)
    refine Mcl2 (nX2_init) (fun _ σ52 => ?_)
    refine Mgd ?_
    refine Mgd ?_
    refine Mgd ?_
    refine Mst (Nat.le_refl _) (Nat.le_refl _) (fun σ54 => ?_)
    refine Mbd (fun x55 => ?_)
    exact hk33 x55 σ54
set_option maxHeartbeats 4000000 in
set_option maxRecDepth 100000 in
theorem mX0_init (l : Launch) (E : CE) {a0 : Nat} {σ : CS} {σz : CS} (hX : fX0_init E.2.2.2 a0 σ = some ((), σz)) : MetC l yX0_init (ws_ yX0_init cX0_init 2 none) 4 72 E σ [.ref a0] none σz := by
  refine MetC.of hX (by decide) (Nat.le_of_ble_eq_true rfl) (nX0_init _ hX) ?_
  intro p e s m below meth c hx hb hr hml hts hown hlocks hnm hk hz0
  have hK := hk.1
  show J p l e (headSpec (ws_ yX0_init cX0_init 2 none) (rmC 4 72 σ σz)).room s m ([.ref a0] : List Value).toArray below meth c 2 E (cZ σ) (cS σ) (MQ below (cQ E none σz) ([.ref a0] : List Value).toArray s (cZ σz - cZ σ) (cS σz - cS σ) (EA E)) ((), σz) (fX0_init E.2.2.2 a0 σ) σ 0 [(0, .ref a0)] []
  unfold fX0_init
  refine Jrow (fun H locs ls hH hS hl k => lv_aload_n hx hb dX0_init_0 rfl (lv_at hl 0 rfl) (k ls hl)) ?_
  refine Jrow (fun H locs ls hH hS hl k => W.objInit hx hb hown (hts _ q126) (hts _ q127) (hts _ q128) rfl (by rw [hml]; exact hl.1) rfl dX0_init_1 (Nat.le_of_ble_eq_true rfl) (Nat.le_of_ble_eq_true rfl) (W.eq (g2 := F0 m 4 ls []) rfl (k ls hl))) ?_
  refine Jrow (fun H locs ls hH hS hl k => lv_aload_n hx hb dX0_init_4 rfl (lv_at hl 0 rfl) (k ls hl)) ?_
  refine Jrow (fun H locs ls hH hS hl k => lv_bipush (v := (120:Int32)) hx hb dX0_init_5 (by decide) (k ls hl)) ?_
  refine Jgd (fun hg => ?_)
  refine Jnew (σ1 := nA σ 104 (120:Int32).toNatClampNeg) (n := (120:Int32).toNatClampNeg) rfl rfl ⟨rfl, rfl⟩ (fun H locs ls hH hS hl h1 h2 k => c_newa (t := 3) (ty := .byte) hx hb hts hK hH hS hk.2.1 (by decide) rfl rfl (fun h => h) rfl (by decide) q155 hg h1 h2 dX0_init_7 k) (fun σ1 eσ1 => ?_)
  clear eσ1
  refine Jgd (fun hg => ?_)
  refine Jst (σ1 := uFR σ1 a0 24 (some (cZ σ))) rfl rfl (fun H locs ls hH hS hl k => c_putRF (F := 24) (ty := (.array .byte)) (x := (some (cZ σ))) hx hb hts hown hK hH hS hg (hts _ q248) (fun _ h => h) rfl hnm rfl rfl (by decide +kernel) rfl rfl rfl dX0_init_9 k) (fun σ2 => ?_)
  refine Jrow (fun H locs ls hH hS hl k => lv_aload_n hx hb dX0_init_12 rfl (lv_at hl 0 rfl) (k ls hl)) ?_
  refine Jnew (σ1 := nO σ2 20 3) (n := 3) rfl rfl ⟨rfl, rfl⟩ (fun H locs ls hH hS hl h1 h2 k => c_new (ci := 19) hx hb hts hown hK hH hS hk.2.1 in_J2 tyJ2 tyJ2_ok (by decide +kernel) (hts _ q129) (hts _ q130) (hts _ q91) rfl h1 h2 dX0_init_13 k) (fun σ3 eσ3 => ?_)
  clear eσ3
  refine Jrow (fun H locs ls hH hS hl k => lv_dup hx hb dX0_init_16 rfl (k ls hl)) ?_
  refine Jcl2 (fun _ σ4 hf => ?_)
  refine Jcall (v := none) (rest := [.ref (cZ σ2), .ref a0]) (mJ2_init l E hf).1 ⟨rfl, rfl⟩ (fun H locs ls hH hS hl hR => ⟨_, va_runI (As := []) ⟨hx, hb, hml, hown, hts⟩ (mJ2_init l E hf).2 (cwI 0 hts (lw_meth q133) rfl rfl rfl (hts _ q91) (hts _ q131) (hts _ q132) rfl (by decide +kernel) ⟨Nat.le_of_ble_eq_true rfl, Nat.le_of_ble_eq_true rfl⟩) (c_preS hk hH hS) rfl rfl hl.1 rfl (lv_room (Nat.le_of_ble_eq_true rfl)) dX0_init_17 hR⟩) ?_
  clear hf
  refine Jgd (fun hg => ?_)
  refine Jst (σ1 := uFR σ4 a0 26 (some (cZ σ2))) rfl rfl (fun H locs ls hH hS hl k => c_putRF (F := 26) (ty := (.object "java/util/ArrayList")) (x := (some (cZ σ2))) hx hb hts hown hK hH hS hg (hts _ q253) (fun _ h => h) rfl hnm rfl rfl (by decide +kernel) rfl rfl rfl dX0_init_20 k) (fun σ6 => ?_)
  refine Jrow (fun H locs ls hH hS hl k => lv_aload_n hx hb dX0_init_23 rfl (lv_at hl 0 rfl) (k ls hl)) ?_
  refine Jnew (σ1 := nO σ6 3 6) (n := 6) rfl rfl ⟨rfl, rfl⟩ (fun H locs ls hH hS hl h1 h2 k => c_new (ci := 2) hx hb hts hown hK hH hS hk.2.1 in_X1 tyX1 tyX1_ok (by decide +kernel) (hts _ q156) (hts _ q157) (hts _ q92) rfl h1 h2 dX0_init_24 k) (fun σ7 eσ7 => ?_)
  clear eσ7
  refine Jrow (fun H locs ls hH hS hl k => lv_dup hx hb dX0_init_27 rfl (k ls hl)) ?_
  refine Jrow (fun H locs ls hH hS hl k => lv_aload_n hx hb dX0_init_28 rfl (lv_at hl 0 rfl) (k ls hl)) ?_
  refine Jcl2 (fun _ σ8 hf => ?_)
  refine Jcall (v := none) (rest := [.ref (cZ σ6), .ref a0]) (mX1_init l E hf).1 ⟨rfl, rfl⟩ (fun H locs ls hH hS hl hR => ⟨_, va_runIN (As := [.ref a0]) ⟨hx, hb, hml, hown, hts⟩ (mX1_init l E hf).2 ⟨va_cnB 1 hts (lw_meth q160) rfl rfl rfl (cN hk.2.2.1 8 rfl) (hts _ q92) (by decide +kernel) ⟨Nat.le_of_ble_eq_true rfl, Nat.le_of_ble_eq_true rfl⟩, rfl, hts _ q159⟩ (c_preS hk hH hS) rfl rfl hl.1 rfl (lv_room (Nat.le_of_ble_eq_true rfl)) dX0_init_29 hR⟩) ?_
  clear hf
  refine Jgd (fun hg => ?_)
  refine Jst (σ1 := uFR σ8 a0 27 (some (cZ σ6))) rfl rfl (fun H locs ls hH hS hl k => c_putRF (F := 27) (ty := (.object "FortyDays$Reader")) (x := (some (cZ σ6))) hx hb hts hown hK hH hS hg (hts _ q255) (fun _ h => h) rfl hnm rfl rfl (by decide +kernel) rfl rfl rfl dX0_init_32 k) (fun σ10 => ?_)
  refine Jrow (fun H locs ls hH hS hl k => lv_aload_n hx hb dX0_init_35 rfl (lv_at hl 0 rfl) (k ls hl)) ?_
  refine Jnew (σ1 := nO σ10 20 3) (n := 3) rfl rfl ⟨rfl, rfl⟩ (fun H locs ls hH hS hl h1 h2 k => c_new (ci := 19) hx hb hts hown hK hH hS hk.2.1 in_J2 tyJ2 tyJ2_ok (by decide +kernel) (hts _ q129) (hts _ q130) (hts _ q91) rfl h1 h2 dX0_init_36 k) (fun σ11 eσ11 => ?_)
  clear eσ11
  refine Jrow (fun H locs ls hH hS hl k => lv_dup hx hb dX0_init_39 rfl (k ls hl)) ?_
  refine Jcl2 (fun _ σ12 hf => ?_)
  refine Jcall (v := none) (rest := [.ref (cZ σ10), .ref a0]) (mJ2_init l E hf).1 ⟨rfl, rfl⟩ (fun H locs ls hH hS hl hR => ⟨_, va_runI (As := []) ⟨hx, hb, hml, hown, hts⟩ (mJ2_init l E hf).2 (cwI 0 hts (lw_meth q133) rfl rfl rfl (hts _ q91) (hts _ q131) (hts _ q132) rfl (by decide +kernel) ⟨Nat.le_of_ble_eq_true rfl, Nat.le_of_ble_eq_true rfl⟩) (c_preS hk hH hS) rfl rfl hl.1 rfl (lv_room (Nat.le_of_ble_eq_true rfl)) dX0_init_40 hR⟩) ?_
  clear hf
  refine Jgd (fun hg => ?_)
  refine Jst (σ1 := uFR σ12 a0 28 (some (cZ σ10))) rfl rfl (fun H locs ls hH hS hl k => c_putRF (F := 28) (ty := (.object "java/util/ArrayList")) (x := (some (cZ σ10))) hx hb hts hown hK hH hS hg (hts _ q257) (fun _ h => h) rfl hnm rfl rfl (by decide +kernel) rfl rfl rfl dX0_init_43 k) (fun σ14 => ?_)
  refine Jrow (fun H locs ls hH hS hl k => lv_aload_n hx hb dX0_init_46 rfl (lv_at hl 0 rfl) (k ls hl)) ?_
  refine Jrow (fun H locs ls hH hS hl k => lv_bipush (v := (21:Int32)) hx hb dX0_init_47 (by decide) (k ls hl)) ?_
  refine Jgd (fun hg => ?_)
  refine Jnew (σ1 := nA σ14 107 (21:Int32).toNatClampNeg) (n := (21:Int32).toNatClampNeg) rfl rfl ⟨rfl, rfl⟩ (fun H locs ls hH hS hl h1 h2 k => c_newq (t := 6) hx hb hown (hts _ q184) hk.2.2.2.2.2.2.2.2.1.1 hK hH hS hk.2.1 (by decide) (by decide) rfl hg h1 h2 dX0_init_49 k) (fun σ15 eσ15 => ?_)
  clear eσ15
  refine Jgd (fun hg => ?_)
  refine Jst (σ1 := uFR σ15 a0 29 (some (cZ σ14))) rfl rfl (fun H locs ls hH hS hl k => c_putRF (F := 29) (ty := (.array (.object "FortyDays$Thought"))) (x := (some (cZ σ14))) hx hb hts hown hK hH hS hg (hts _ q258) (fun _ h => h) rfl hnm rfl rfl (by decide +kernel) rfl rfl rfl dX0_init_52 k) (fun σ16 => ?_)
  refine Jrow (fun H locs ls hH hS hl k => lv_aload_n hx hb dX0_init_55 rfl (lv_at hl 0 rfl) (k ls hl)) ?_
  refine Jrow (fun H locs ls hH hS hl k => lv_bipush (v := (21:Int32)) hx hb dX0_init_56 (by decide) (k ls hl)) ?_
  refine Jgd (fun hg => ?_)
  refine Jnew (σ1 := nA σ16 103 (21:Int32).toNatClampNeg) (n := (21:Int32).toNatClampNeg) rfl rfl ⟨rfl, rfl⟩ (fun H locs ls hH hS hl h1 h2 k => c_newa (t := 2) (ty := .long) hx hb hts hK hH hS hk.2.1 (by decide) rfl rfl (fun h => h) rfl (by decide) q218 hg h1 h2 dX0_init_58 k) (fun σ17 eσ17 => ?_)
  clear eσ17
  refine Jgd (fun hg => ?_)
  refine Jst (σ1 := uFR σ17 a0 30 (some (cZ σ16))) rfl rfl (fun H locs ls hH hS hl k => c_putRF (F := 30) (ty := (.array .long)) (x := (some (cZ σ16))) hx hb hts hown hK hH hS hg (hts _ q259) (fun _ h => h) rfl hnm rfl rfl (by decide +kernel) rfl rfl rfl dX0_init_60 k) (fun σ18 => ?_)
  refine Jrow (fun H locs ls hH hS hl k => lv_aload_n hx hb dX0_init_63 rfl (lv_at hl 0 rfl) (k ls hl)) ?_
  refine Jrow (fun H locs ls hH hS hl k => lv_bipush (v := (21:Int32)) hx hb dX0_init_64 (by decide) (k ls hl)) ?_
  refine Jgd (fun hg => ?_)
  refine Jnew (σ1 := nA σ18 103 (21:Int32).toNatClampNeg) (n := (21:Int32).toNatClampNeg) rfl rfl ⟨rfl, rfl⟩ (fun H locs ls hH hS hl h1 h2 k => c_newa (t := 2) (ty := .long) hx hb hts hK hH hS hk.2.1 (by decide) rfl rfl (fun h => h) rfl (by decide) q218 hg h1 h2 dX0_init_66 k) (fun σ19 eσ19 => ?_)
  clear eσ19
  refine Jgd (fun hg => ?_)
  refine Jst (σ1 := uFR σ19 a0 31 (some (cZ σ18))) rfl rfl (fun H locs ls hH hS hl k => c_putRF (F := 31) (ty := (.array .long)) (x := (some (cZ σ18))) hx hb hts hown hK hH hS hg (hts _ q260) (fun _ h => h) rfl hnm rfl rfl (by decide +kernel) rfl rfl rfl dX0_init_68 k) (fun σ20 => ?_)
  refine Jrow (fun H locs ls hH hS hl k => lv_aload_n hx hb dX0_init_71 rfl (lv_at hl 0 rfl) (k ls hl)) ?_
  refine Jrow (fun H locs ls hH hS hl k => lv_bipush (v := (21:Int32)) hx hb dX0_init_72 (by decide) (k ls hl)) ?_
  refine Jgd (fun hg => ?_)
  refine Jnew (σ1 := nA σ20 101 (21:Int32).toNatClampNeg) (n := (21:Int32).toNatClampNeg) rfl rfl ⟨rfl, rfl⟩ (fun H locs ls hH hS hl h1 h2 k => c_newa (t := 0) (ty := .int) hx hb hts hK hH hS hk.2.1 (by decide) rfl rfl (fun h => h) rfl (by decide) q219 hg h1 h2 dX0_init_74 k) (fun σ21 eσ21 => ?_)
  clear eσ21
  refine Jgd (fun hg => ?_)
  refine Jst (σ1 := uFR σ21 a0 32 (some (cZ σ20))) rfl rfl (fun H locs ls hH hS hl k => c_putRF (F := 32) (ty := (.array .int)) (x := (some (cZ σ20))) hx hb hts hown hK hH hS hg (hts _ q262) (fun _ h => h) rfl hnm rfl rfl (by decide +kernel) rfl rfl rfl dX0_init_76 k) (fun σ22 => ?_)
  refine Jrow (fun H locs ls hH hS hl k => lv_aload_n hx hb dX0_init_79 rfl (lv_at hl 0 rfl) (k ls hl)) ?_
  refine Jnew (σ1 := nO σ22 4 6) (n := 6) rfl rfl ⟨rfl, rfl⟩ (fun H locs ls hH hS hl h1 h2 k => c_new (ci := 3) hx hb hts hown hK hH hS hk.2.1 in_X2 tyX2 tyX2_ok (by decide +kernel) (hts _ q184) (hts _ q186) (hts _ q93) rfl h1 h2 dX0_init_80 k) (fun σ23 eσ23 => ?_)
  clear eσ23
  refine Jrow (fun H locs ls hH hS hl k => lv_dup hx hb dX0_init_83 rfl (k ls hl)) ?_
  refine Jcl2 (fun _ σ24 hf => ?_)
  refine Jcall (v := none) (rest := [.ref (cZ σ22), .ref a0]) (mX2_init l E hf).1 ⟨rfl, rfl⟩ (fun H locs ls hH hS hl hR => ⟨_, va_runIN (As := []) ⟨hx, hb, hml, hown, hts⟩ (mX2_init l E hf).2 ⟨va_cnB 0 hts (lw_meth q189) rfl rfl rfl (cN hk.2.2.1 9 rfl) (hts _ q93) (by decide +kernel) ⟨Nat.le_of_ble_eq_true rfl, Nat.le_of_ble_eq_true rfl⟩, rfl, hts _ q188⟩ (c_preS hk hH hS) rfl rfl hl.1 rfl (lv_room (Nat.le_of_ble_eq_true rfl)) dX0_init_84 hR⟩) ?_
  clear hf
  refine Jgd (fun hg => ?_)
  refine Jst (σ1 := uFR σ24 a0 33 (some (cZ σ22))) rfl rfl (fun H locs ls hH hS hl k => c_putRF (F := 33) (ty := (.object "FortyDays$Thought")) (x := (some (cZ σ22))) hx hb hts hown hK hH hS hg (hts _ q263) (fun _ h => h) rfl hnm rfl rfl (by decide +kernel) rfl rfl rfl dX0_init_87 k) (fun σ26 => ?_)
  refine Jrow (fun H locs ls hH hS hl k => lv_aload_n hx hb dX0_init_90 rfl (lv_at hl 0 rfl) (k ls hl)) ?_
  refine Jnew (σ1 := nO σ26 4 6) (n := 6) rfl rfl ⟨rfl, rfl⟩ (fun H locs ls hH hS hl h1 h2 k => c_new (ci := 3) hx hb hts hown hK hH hS hk.2.1 in_X2 tyX2 tyX2_ok (by decide +kernel) (hts _ q184) (hts _ q186) (hts _ q93) rfl h1 h2 dX0_init_91 k) (fun σ27 eσ27 => ?_)
  clear eσ27
  refine Jrow (fun H locs ls hH hS hl k => lv_dup hx hb dX0_init_94 rfl (k ls hl)) ?_
  refine Jcl2 (fun _ σ28 hf => ?_)
  refine Jcall (v := none) (rest := [.ref (cZ σ26), .ref a0]) (mX2_init l E hf).1 ⟨rfl, rfl⟩ (fun H locs ls hH hS hl hR => ⟨_, va_runIN (As := []) ⟨hx, hb, hml, hown, hts⟩ (mX2_init l E hf).2 ⟨va_cnB 0 hts (lw_meth q189) rfl rfl rfl (cN hk.2.2.1 9 rfl) (hts _ q93) (by decide +kernel) ⟨Nat.le_of_ble_eq_true rfl, Nat.le_of_ble_eq_true rfl⟩, rfl, hts _ q188⟩ (c_preS hk hH hS) rfl rfl hl.1 rfl (lv_room (Nat.le_of_ble_eq_true rfl)) dX0_init_95 hR⟩) ?_
  clear hf
  refine Jgd (fun hg => ?_)
  refine Jst (σ1 := uFR σ28 a0 34 (some (cZ σ26))) rfl rfl (fun H locs ls hH hS hl k => c_putRF (F := 34) (ty := (.object "FortyDays$Thought")) (x := (some (cZ σ26))) hx hb hts hown hK hH hS hg (hts _ q264) (fun _ h => h) rfl hnm rfl rfl (by decide +kernel) rfl rfl rfl dX0_init_98 k) (fun σ30 => ?_)
  refine Jrow (fun H locs ls hH hS hl k => lv_iconst (v := (0:Int32)) hx hb dX0_init_101 (by decide) (k ls hl)) ?_
  refine Jrow (fun H locs ls hH hS hl k => lv_istore_n (lv' := [(1, .int (0:Int32)), (0, .ref a0)]) hx hb dX0_init_102 rfl hl (by decide) rfl k) ?_
  refine Jsub [1, 0] rfl (Plp2 (fun (x31 : Int32) (σ32 : CS) X56 => J p l e (headSpec (ws_ yX0_init cX0_init 2 none) (rmC 4 72 σ σz)).room s m ([.ref a0] : List Value).toArray below meth c 2 E (cZ σ) (cS σ) (MQ below (cQ E none σz) ([.ref a0] : List Value).toArray s (cZ σz - cZ σ) (cS σz - cS σ) (EA E)) ((), σz) X56 σ32 103 [(0, .ref a0), (1, .int x31)] []) (fun _ _ => Jnone) (fun k33 hk33 x31 σ32 => ?_))
  refine Jrow (fun H locs ls hH hS hl k => lv_iload_n hx hb dX0_init_103 rfl (lv_at hl 1 rfl) (k ls hl)) ?_
  refine Jrow (fun H locs ls hH hS hl k => lv_bipush (v := (20:Int32)) hx hb dX0_init_104 (by decide) (k ls hl)) ?_
  refine Jite (fun hc => ?_) (fun hc => ?_)
  · refine Jrow (fun H locs ls hH hS hl k => lv_icmp_gt (tgt := 128) hx hb dX0_init_106 (by decide) (fun _ => (k ls hl)) (fun h => absurd hc h)) ?_
    clear hc
    refine Jrow (fun H locs ls hH hS hl k => lv_aload_n hx hb dX0_init_128 rfl (lv_at hl 0 rfl) (k ls hl)) ?_
    refine Jrow (fun H locs ls hH hS hl k => lv_bipush (v := (20:Int32)) hx hb dX0_init_129 (by decide) (k ls hl)) ?_
    refine Jgd (fun hg => ?_)
    refine Jnew (σ1 := nA σ32 101 (20:Int32).toNatClampNeg) (n := (20:Int32).toNatClampNeg) rfl rfl ⟨rfl, rfl⟩ (fun H locs ls hH hS hl h1 h2 k => c_newa (t := 0) (ty := .int) hx hb hts hK hH hS hk.2.1 (by decide) rfl rfl (fun h => h) rfl (by decide) q219 hg h1 h2 dX0_init_131 k) (fun σ34 eσ34 => ?_)
    clear eσ34
    refine Jgd (fun hg => ?_)
    refine Jst (σ1 := uFR σ34 a0 36 (some (cZ σ32))) rfl rfl (fun H locs ls hH hS hl k => c_putRF (F := 36) (ty := (.array .int)) (x := (some (cZ σ32))) hx hb hts hown hK hH hS hg (hts _ q266) (fun _ h => h) rfl hnm rfl rfl (by decide +kernel) rfl rfl rfl dX0_init_133 k) (fun σ35 => ?_)
    refine Jrow (fun H locs ls hH hS hl k => lv_aload_n hx hb dX0_init_136 rfl (lv_at hl 0 rfl) (k ls hl)) ?_
    refine Jnew (σ1 := nO σ35 5 5) (n := 5) rfl rfl ⟨rfl, rfl⟩ (fun H locs ls hH hS hl h1 h2 k => c_new (ci := 4) hx hb hts hown hK hH hS hk.2.1 in_X3 tyX3 tyX3_ok (by decide +kernel) (hts _ q220) (hts _ q221) (hts _ q94) rfl h1 h2 dX0_init_137 k) (fun σ36 eσ36 => ?_)
    clear eσ36
    refine Jrow (fun H locs ls hH hS hl k => lv_dup hx hb dX0_init_140 rfl (k ls hl)) ?_
    refine Jrow (fun H locs ls hH hS hl k => lv_aload_n hx hb dX0_init_141 rfl (lv_at hl 0 rfl) (k ls hl)) ?_
    refine Jcl2 (fun _ σ37 hf => ?_)
    refine Jcall (v := none) (rest := [.ref (cZ σ35), .ref a0]) (mX3_init l E hf).1 ⟨rfl, rfl⟩ (fun H locs ls hH hS hl hR => ⟨_, va_runI (As := [.ref a0]) ⟨hx, hb, hml, hown, hts⟩ (mX3_init l E hf).2 (cwI 1 hts (lw_meth q224) rfl rfl rfl (hts _ q94) (hts _ q222) (hts _ q223) rfl (by decide +kernel) ⟨Nat.le_of_ble_eq_true rfl, Nat.le_of_ble_eq_true rfl⟩) (c_preS hk hH hS) rfl rfl hl.1 rfl (lv_room (Nat.le_of_ble_eq_true rfl)) dX0_init_142 hR⟩) ?_
    clear hf
    refine Jgd (fun hg => ?_)
    refine Jst (σ1 := uFR σ37 a0 37 (some (cZ σ35))) rfl rfl (fun H locs ls hH hS hl k => c_putRF (F := 37) (ty := (.object "FortyDays$Beside")) (x := (some (cZ σ35))) hx hb hts hown hK hH hS hg (hts _ q268) (fun _ h => h) rfl hnm rfl rfl (by decide +kernel) rfl rfl rfl dX0_init_145 k) (fun σ39 => ?_)
    refine Jrow (fun H locs ls hH hS hl k => lv_aload_n hx hb dX0_init_148 rfl (lv_at hl 0 rfl) (k ls hl)) ?_
    refine Jnew (σ1 := nO σ39 20 3) (n := 3) rfl rfl ⟨rfl, rfl⟩ (fun H locs ls hH hS hl h1 h2 k => c_new (ci := 19) hx hb hts hown hK hH hS hk.2.1 in_J2 tyJ2 tyJ2_ok (by decide +kernel) (hts _ q129) (hts _ q130) (hts _ q91) rfl h1 h2 dX0_init_149 k) (fun σ40 eσ40 => ?_)
    clear eσ40
    refine Jrow (fun H locs ls hH hS hl k => lv_dup hx hb dX0_init_152 rfl (k ls hl)) ?_
    refine Jcl2 (fun _ σ41 hf => ?_)
    refine Jcall (v := none) (rest := [.ref (cZ σ39), .ref a0]) (mJ2_init l E hf).1 ⟨rfl, rfl⟩ (fun H locs ls hH hS hl hR => ⟨_, va_runI (As := []) ⟨hx, hb, hml, hown, hts⟩ (mJ2_init l E hf).2 (cwI 0 hts (lw_meth q133) rfl rfl rfl (hts _ q91) (hts _ q131) (hts _ q132) rfl (by decide +kernel) ⟨Nat.le_of_ble_eq_true rfl, Nat.le_of_ble_eq_true rfl⟩) (c_preS hk hH hS) rfl rfl hl.1 rfl (lv_room (Nat.le_of_ble_eq_true rfl)) dX0_init_153 hR⟩) ?_
    clear hf
    refine Jgd (fun hg => ?_)
    refine Jst (σ1 := uFR σ41 a0 38 (some (cZ σ39))) rfl rfl (fun H locs ls hH hS hl k => c_putRF (F := 38) (ty := (.object "java/util/ArrayList")) (x := (some (cZ σ39))) hx hb hts hown hK hH hS hg (hts _ q271) (fun _ h => h) rfl hnm rfl rfl (by decide +kernel) rfl rfl rfl dX0_init_156 k) (fun σ43 => ?_)
    refine Jrow (fun H locs ls hH hS hl k => lv_aload_n hx hb dX0_init_159 rfl (lv_at hl 0 rfl) (k ls hl)) ?_
    refine Jrow (fun H locs ls hH hS hl k => lv_iconst (v := (4:Int32)) hx hb dX0_init_160 (by decide) (k ls hl)) ?_
    refine Jgd (fun hg => ?_)
    refine Jnew (σ1 := nA σ43 103 (4:Int32).toNatClampNeg) (n := (4:Int32).toNatClampNeg) rfl rfl ⟨rfl, rfl⟩ (fun H locs ls hH hS hl h1 h2 k => c_newa (t := 2) (ty := .long) hx hb hts hK hH hS hk.2.1 (by decide) rfl rfl (fun h => h) rfl (by decide) q218 hg h1 h2 dX0_init_161 k) (fun σ44 eσ44 => ?_)
    clear eσ44
    refine Jgd (fun hg => ?_)
    refine Jst (σ1 := uFR σ44 a0 39 (some (cZ σ43))) rfl rfl (fun H locs ls hH hS hl k => c_putRF (F := 39) (ty := (.array .long)) (x := (some (cZ σ43))) hx hb hts hown hK hH hS hg (hts _ q272) (fun _ h => h) rfl hnm rfl rfl (by decide +kernel) rfl rfl rfl dX0_init_163 k) (fun σ45 => ?_)
    refine Jrow (fun H locs ls hH hS hl k => lv_aload_n hx hb dX0_init_166 rfl (lv_at hl 0 rfl) (k ls hl)) ?_
    refine Jrow (fun H locs ls hH hS hl k => lv_iconst (v := (2:Int32)) hx hb dX0_init_167 (by decide) (k ls hl)) ?_
    refine Jrow (fun H locs ls hH hS hl k => lv_bipush (v := (10:Int32)) hx hb dX0_init_168 (by decide) (k ls hl)) ?_
    refine Jgd (fun hg => ?_)
    refine Jnew3 (σ1 := mT σ45 (10:Int32).toNatClampNeg) (n := 2 + (10:Int32).toNatClampNeg + (10:Int32).toNatClampNeg) (mT_z _ _) (mT_s _ _) ⟨rfl, rfl⟩ (fun H locs ls hH hS hl h1 h2 k => c_multi hx hb hown (by decide +kernel) (hts _ q244) (by exact hk.2.2.2.2.2.2.2.2.1.2.2) (hts _ q218) hK hH hS hk.2.1 hg h1 h2 dX0_init_170 k) (fun σ46 eσ46 => ?_)
    clear eσ46
    refine Jgd (fun hg => ?_)
    refine Jst (σ1 := uFR σ46 a0 40 (some (cZ σ45))) rfl rfl (fun H locs ls hH hS hl k => c_putRF (F := 40) (ty := (.array (.array .long))) (x := (some (cZ σ45))) hx hb hts hown hK hH hS hg (hts _ q273) (fun _ h => h) rfl hnm rfl rfl (by decide +kernel) rfl rfl rfl dX0_init_174 k) (fun σ47 => ?_)
    refine Jrow (fun H locs ls hH hS hl k => lv_aload_n hx hb dX0_init_177 rfl (lv_at hl 0 rfl) (k ls hl)) ?_
    refine Jrow (fun H locs ls hH hS hl k => lv_iconst (v := (2:Int32)) hx hb dX0_init_178 (by decide) (k ls hl)) ?_
    refine Jrow (fun H locs ls hH hS hl k => lv_bipush (v := (10:Int32)) hx hb dX0_init_179 (by decide) (k ls hl)) ?_
    refine Jgd (fun hg => ?_)
    refine Jnew3 (σ1 := mT σ47 (10:Int32).toNatClampNeg) (n := 2 + (10:Int32).toNatClampNeg + (10:Int32).toNatClampNeg) (mT_z _ _) (mT_s _ _) ⟨rfl, rfl⟩ (fun H locs ls hH hS hl h1 h2 k => c_multi hx hb hown (by decide +kernel) (hts _ q244) (by exact hk.2.2.2.2.2.2.2.2.1.2.2) (hts _ q218) hK hH hS hk.2.1 hg h1 h2 dX0_init_181 k) (fun σ48 eσ48 => ?_)
    clear eσ48
    refine Jgd (fun hg => ?_)
    refine Jst (σ1 := uFR σ48 a0 41 (some (cZ σ47))) rfl rfl (fun H locs ls hH hS hl k => c_putRF (F := 41) (ty := (.array (.array .long))) (x := (some (cZ σ47))) hx hb hts hown hK hH hS hg (hts _ q274) (fun _ h => h) rfl hnm rfl rfl (by decide +kernel) rfl rfl rfl dX0_init_185 k) (fun σ49 => ?_)
    exact Jvret hx hb hr hlocks dX0_init_188
  · refine Jrow (fun H locs ls hH hS hl k => lv_icmp_gt (tgt := 128) hx hb dX0_init_106 (by decide) (fun h => absurd h hc) (fun _ => (k ls hl))) ?_
    clear hc
    refine Jrow (fun H locs ls hH hS hl k => lv_aload_n hx hb dX0_init_109 rfl (lv_at hl 0 rfl) (k ls hl)) ?_
    refine Jgd (fun hg => ?_)
    refine Jcl (fun x50 hq => ?_)
    refine Jrow (fun H locs ls hH hS hl k => c_get (F := 29) (v := .ref x50) hx hb hts hown hK hH hg (hts _ q258) (fun _ h => h) (fvR rfl hq) dX0_init_110 (k ls hl)) ?_
    clear hq
    refine Jrow (fun H locs ls hH hS hl k => lv_iload_n hx hb dX0_init_113 rfl (lv_at hl 1 rfl) (k ls hl)) ?_
    refine Jnew (σ1 := nO σ32 4 6) (n := 6) rfl rfl ⟨rfl, rfl⟩ (fun H locs ls hH hS hl h1 h2 k => c_new (ci := 3) hx hb hts hown hK hH hS hk.2.1 in_X2 tyX2 tyX2_ok (by decide +kernel) (hts _ q184) (hts _ q186) (hts _ q93) rfl h1 h2 dX0_init_114 k) (fun σ51 eσ51 => ?_)
    clear eσ51
    refine Jrow (fun H locs ls hH hS hl k => lv_dup hx hb dX0_init_117 rfl (k ls hl)) ?_
    refine Jcl2 (fun _ σ52 hf => ?_)
    refine Jcall (v := none) (rest := [.ref (cZ σ32), .int x31, .ref x50]) (mX2_init l E hf).1 ⟨rfl, rfl⟩ (fun H locs ls hH hS hl hR => ⟨_, va_runIN (As := []) ⟨hx, hb, hml, hown, hts⟩ (mX2_init l E hf).2 ⟨va_cnB 0 hts (lw_meth q189) rfl rfl rfl (cN hk.2.2.1 9 rfl) (hts _ q93) (by decide +kernel) ⟨Nat.le_of_ble_eq_true rfl, Nat.le_of_ble_eq_true rfl⟩, rfl, hts _ q188⟩ (c_preS hk hH hS) rfl rfl hl.1 rfl (lv_room (Nat.le_of_ble_eq_true rfl)) dX0_init_118 hR⟩) ?_
    clear hf
    refine Jgd (fun hk1 => ?_)
    refine Jgd (fun hg => ?_)
    refine Jgd (fun hg3 => ?_)
    refine Jst (σ1 := uAR σ52 x50 x31.toNatClampNeg (some (cZ σ32))) rfl rfl (fun H locs ls hH hS hl k => c_aast (t := 6) (ci := 3) hx hb hK hH hS (by decide) (by decide) rfl hk1 (kd_eq hg3) rfl (Or.inr rfl) hg dX0_init_121 k) (fun σ54 => ?_)
    refine Jbd (fun x55 ex55 => ?_)
    refine Jrow (fun H locs ls hH hS hl k => lv_iinc (v := x55) (lv' := [(1, .int x55), (0, .ref a0)]) hx hb dX0_init_122 hl (k := 1) rfl (by rw [ex55]; rfl) (by decide) rfl k) ?_
    clear ex55
    refine Jrow (fun H locs ls hH hS hl k => lv_goto (tgt := 103) hx hb dX0_init_125 (by decide) (k ls hl)) ?_
    exact Jsub [1, 0] rfl (hk33 x55 σ54)

def fX4_init (a0 : Nat) (σ : CS) : Option (Unit × CS) :=
 gd (na (1160:Int32)) (
 bd (nA σ 101 (1160:Int32).toNatClampNeg) (fun (σ1 : CS) =>
 gd (hf (cK σ1 a0) 1) (
 bd (uFR σ1 a0 1 (some (cZ σ))) (fun (σ2 : CS) =>
 gd (na (1160:Int32)) (
 bd (nA σ2 101 (1160:Int32).toNatClampNeg) (fun (σ3 : CS) =>
 gd (hf (cK σ3 a0) 2) (
 bd (uFR σ3 a0 2 (some (cZ σ2))) (fun (σ4 : CS) =>
 gd (na (64:Int32)) (
 bd (nA σ4 102 (64:Int32).toNatClampNeg) (fun (σ5 : CS) =>
 gd (hf (cK σ5 a0) 9) (
 bd (uFR σ5 a0 9 (some (cZ σ4))) (fun (σ6 : CS) =>
 gd (na (8:Int32)) (
 bd (nA σ6 101 (8:Int32).toNatClampNeg) (fun (σ7 : CS) =>
 gd (hf (cK σ7 a0) 10) (
 bd (uFR σ7 a0 10 (some (cZ σ6))) (fun (σ8 : CS) =>
 gd (na (12:Int32)) (
 bd (nA σ8 103 (12:Int32).toNatClampNeg) (fun (σ9 : CS) =>
 gd (hf (cK σ9 a0) 16) (
 bd (uFR σ9 a0 16 (some (cZ σ8))) (fun (σ10 : CS) =>
 gd (na (20:Int32)) (
 bd (nA σ10 103 (20:Int32).toNatClampNeg) (fun (σ11 : CS) =>
 gd (hf (cK σ11 a0) 17) (
 bd (uFR σ11 a0 17 (some (cZ σ10))) (fun (σ12 : CS) =>
 gd (na (20:Int32)) (
 bd (nA σ12 103 (20:Int32).toNatClampNeg) (fun (σ13 : CS) =>
 gd (hf (cK σ13 a0) 18) (
 bd (uFR σ13 a0 18 (some (cZ σ12))) (fun (σ14 : CS) =>
 gd (na (20:Int32)) (
 bd (nA σ14 101 (20:Int32).toNatClampNeg) (fun (σ15 : CS) =>
 gd (hf (cK σ15 a0) 19) (
 bd (uFR σ15 a0 19 (some (cZ σ14))) (fun (σ16 : CS) =>
 some ((), σ16)))))))))))))))))))))))))))))))))
theorem nX4_init {a0 : Nat} {σ : CS} : Mn σ (fX4_init a0 σ) := by
  unfold fX4_init
  refine Mgd ?_
  refine Mst (Nat.le_succ _) (Nat.le_add_right _ _) (fun σ1 => ?_)
  refine Mgd ?_
  refine Mst (Nat.le_refl _) (Nat.le_refl _) (fun σ2 => ?_)
  refine Mgd ?_
  refine Mst (Nat.le_succ _) (Nat.le_add_right _ _) (fun σ3 => ?_)
  refine Mgd ?_
  refine Mst (Nat.le_refl _) (Nat.le_refl _) (fun σ4 => ?_)
  refine Mgd ?_
  refine Mst (Nat.le_succ _) (Nat.le_add_right _ _) (fun σ5 => ?_)
  refine Mgd ?_
  refine Mst (Nat.le_refl _) (Nat.le_refl _) (fun σ6 => ?_)
  refine Mgd ?_
  refine Mst (Nat.le_succ _) (Nat.le_add_right _ _) (fun σ7 => ?_)
  refine Mgd ?_
  refine Mst (Nat.le_refl _) (Nat.le_refl _) (fun σ8 => ?_)
  refine Mgd ?_
  refine Mst (Nat.le_succ _) (Nat.le_add_right _ _) (fun σ9 => ?_)
  refine Mgd ?_
  refine Mst (Nat.le_refl _) (Nat.le_refl _) (fun σ10 => ?_)
  refine Mgd ?_
  refine Mst (Nat.le_succ _) (Nat.le_add_right _ _) (fun σ11 => ?_)
  refine Mgd ?_
  refine Mst (Nat.le_refl _) (Nat.le_refl _) (fun σ12 => ?_)
  refine Mgd ?_
  refine Mst (Nat.le_succ _) (Nat.le_add_right _ _) (fun σ13 => ?_)
  refine Mgd ?_
  refine Mst (Nat.le_refl _) (Nat.le_refl _) (fun σ14 => ?_)
  refine Mgd ?_
  refine Mst (Nat.le_succ _) (Nat.le_add_right _ _) (fun σ15 => ?_)
  refine Mgd ?_
  refine Mst (Nat.le_refl _) (Nat.le_refl _) (fun σ16 => ?_)
  exact Mret
set_option maxHeartbeats 4000000 in
set_option maxRecDepth 100000 in
theorem mX4_init (l : Launch) (E : CE) {a0 : Nat} {σ : CS} {σz : CS} (hX : fX4_init a0 σ = some ((), σz)) : MetC l yX4_init (ws_ yX4_init cX4_init 1 none) 1 12 E σ [.ref a0] none σz := by
  refine MetC.of hX (by decide) (Nat.le_of_ble_eq_true rfl) (nX4_init _ hX) ?_
  intro p e s m below meth c hx hb hr hml hts hown hlocks hnm hk hz0
  have hK := hk.1
  show J p l e (headSpec (ws_ yX4_init cX4_init 1 none) (rmC 1 12 σ σz)).room s m ([.ref a0] : List Value).toArray below meth c 1 E (cZ σ) (cS σ) (MQ below (cQ E none σz) ([.ref a0] : List Value).toArray s (cZ σz - cZ σ) (cS σz - cS σ) (EA E)) ((), σz) (fX4_init a0 σ) σ 0 [(0, .ref a0)] []
  unfold fX4_init
  refine Jrow (fun H locs ls hH hS hl k => lv_aload_n hx hb dX4_init_0 rfl (lv_at hl 0 rfl) (k ls hl)) ?_
  refine Jrow (fun H locs ls hH hS hl k => W.objInit hx hb hown (hts _ q1290) (hts _ q127) (hts _ q128) rfl (by rw [hml]; exact hl.1) rfl dX4_init_1 (Nat.le_of_ble_eq_true rfl) (Nat.le_of_ble_eq_true rfl) (W.eq (g2 := F0 m 4 ls []) rfl (k ls hl))) ?_
  refine Jrow (fun H locs ls hH hS hl k => lv_aload_n hx hb dX4_init_4 rfl (lv_at hl 0 rfl) (k ls hl)) ?_
  refine Jrow (fun H locs ls hH hS hl k => lv_sipush (v := (1160:Int32)) hx hb dX4_init_5 (by decide) (k ls hl)) ?_
  refine Jgd (fun hg => ?_)
  refine Jnew (σ1 := nA σ 101 (1160:Int32).toNatClampNeg) (n := (1160:Int32).toNatClampNeg) rfl rfl ⟨rfl, rfl⟩ (fun H locs ls hH hS hl h1 h2 k => c_newa (t := 0) (ty := .int) hx hb hts hK hH hS hk.2.1 (by decide) rfl rfl (fun h => h) rfl (by decide) q219 hg h1 h2 dX4_init_8 k) (fun σ1 eσ1 => ?_)
  clear eσ1
  refine Jgd (fun hg => ?_)
  refine Jst (σ1 := uFR σ1 a0 1 (some (cZ σ))) rfl rfl (fun H locs ls hH hS hl k => c_putRF (F := 1) (ty := (.array .int)) (x := (some (cZ σ))) hx hb hts hown hK hH hS hg (hts _ q1291) (fun _ h => h) rfl hnm rfl rfl (by decide +kernel) rfl rfl rfl dX4_init_10 k) (fun σ2 => ?_)
  refine Jrow (fun H locs ls hH hS hl k => lv_aload_n hx hb dX4_init_13 rfl (lv_at hl 0 rfl) (k ls hl)) ?_
  refine Jrow (fun H locs ls hH hS hl k => lv_sipush (v := (1160:Int32)) hx hb dX4_init_14 (by decide) (k ls hl)) ?_
  refine Jgd (fun hg => ?_)
  refine Jnew (σ1 := nA σ2 101 (1160:Int32).toNatClampNeg) (n := (1160:Int32).toNatClampNeg) rfl rfl ⟨rfl, rfl⟩ (fun H locs ls hH hS hl h1 h2 k => c_newa (t := 0) (ty := .int) hx hb hts hK hH hS hk.2.1 (by decide) rfl rfl (fun h => h) rfl (by decide) q219 hg h1 h2 dX4_init_17 k) (fun σ3 eσ3 => ?_)
  clear eσ3
  refine Jgd (fun hg => ?_)
  refine Jst (σ1 := uFR σ3 a0 2 (some (cZ σ2))) rfl rfl (fun H locs ls hH hS hl k => c_putRF (F := 2) (ty := (.array .int)) (x := (some (cZ σ2))) hx hb hts hown hK hH hS hg (hts _ q1292) (fun _ h => h) rfl hnm rfl rfl (by decide +kernel) rfl rfl rfl dX4_init_19 k) (fun σ4 => ?_)
  refine Jrow (fun H locs ls hH hS hl k => lv_aload_n hx hb dX4_init_22 rfl (lv_at hl 0 rfl) (k ls hl)) ?_
  refine Jrow (fun H locs ls hH hS hl k => lv_bipush (v := (64:Int32)) hx hb dX4_init_23 (by decide) (k ls hl)) ?_
  refine Jgd (fun hg => ?_)
  refine Jnew (σ1 := nA σ4 102 (64:Int32).toNatClampNeg) (n := (64:Int32).toNatClampNeg) rfl rfl ⟨rfl, rfl⟩ (fun H locs ls hH hS hl h1 h2 k => c_newa (t := 1) (ty := .boolean) hx hb hts hK hH hS hk.2.1 (by decide) rfl rfl (fun h => h) rfl (by decide) q1363 hg h1 h2 dX4_init_25 k) (fun σ5 eσ5 => ?_)
  clear eσ5
  refine Jgd (fun hg => ?_)
  refine Jst (σ1 := uFR σ5 a0 9 (some (cZ σ4))) rfl rfl (fun H locs ls hH hS hl k => c_putRF (F := 9) (ty := (.array .boolean)) (x := (some (cZ σ4))) hx hb hts hown hK hH hS hg (hts _ q1299) (fun _ h => h) rfl hnm rfl rfl (by decide +kernel) rfl rfl rfl dX4_init_27 k) (fun σ6 => ?_)
  refine Jrow (fun H locs ls hH hS hl k => lv_aload_n hx hb dX4_init_30 rfl (lv_at hl 0 rfl) (k ls hl)) ?_
  refine Jrow (fun H locs ls hH hS hl k => lv_bipush (v := (8:Int32)) hx hb dX4_init_31 (by decide) (k ls hl)) ?_
  refine Jgd (fun hg => ?_)
  refine Jnew (σ1 := nA σ6 101 (8:Int32).toNatClampNeg) (n := (8:Int32).toNatClampNeg) rfl rfl ⟨rfl, rfl⟩ (fun H locs ls hH hS hl h1 h2 k => c_newa (t := 0) (ty := .int) hx hb hts hK hH hS hk.2.1 (by decide) rfl rfl (fun h => h) rfl (by decide) q219 hg h1 h2 dX4_init_33 k) (fun σ7 eσ7 => ?_)
  clear eσ7
  refine Jgd (fun hg => ?_)
  refine Jst (σ1 := uFR σ7 a0 10 (some (cZ σ6))) rfl rfl (fun H locs ls hH hS hl k => c_putRF (F := 10) (ty := (.array .int)) (x := (some (cZ σ6))) hx hb hts hown hK hH hS hg (hts _ q1300) (fun _ h => h) rfl hnm rfl rfl (by decide +kernel) rfl rfl rfl dX4_init_35 k) (fun σ8 => ?_)
  refine Jrow (fun H locs ls hH hS hl k => lv_aload_n hx hb dX4_init_38 rfl (lv_at hl 0 rfl) (k ls hl)) ?_
  refine Jrow (fun H locs ls hH hS hl k => lv_bipush (v := (12:Int32)) hx hb dX4_init_39 (by decide) (k ls hl)) ?_
  refine Jgd (fun hg => ?_)
  refine Jnew (σ1 := nA σ8 103 (12:Int32).toNatClampNeg) (n := (12:Int32).toNatClampNeg) rfl rfl ⟨rfl, rfl⟩ (fun H locs ls hH hS hl h1 h2 k => c_newa (t := 2) (ty := .long) hx hb hts hK hH hS hk.2.1 (by decide) rfl rfl (fun h => h) rfl (by decide) q218 hg h1 h2 dX4_init_41 k) (fun σ9 eσ9 => ?_)
  clear eσ9
  refine Jgd (fun hg => ?_)
  refine Jst (σ1 := uFR σ9 a0 16 (some (cZ σ8))) rfl rfl (fun H locs ls hH hS hl k => c_putRF (F := 16) (ty := (.array .long)) (x := (some (cZ σ8))) hx hb hts hown hK hH hS hg (hts _ q1306) (fun _ h => h) rfl hnm rfl rfl (by decide +kernel) rfl rfl rfl dX4_init_43 k) (fun σ10 => ?_)
  refine Jrow (fun H locs ls hH hS hl k => lv_aload_n hx hb dX4_init_46 rfl (lv_at hl 0 rfl) (k ls hl)) ?_
  refine Jrow (fun H locs ls hH hS hl k => lv_bipush (v := (20:Int32)) hx hb dX4_init_47 (by decide) (k ls hl)) ?_
  refine Jgd (fun hg => ?_)
  refine Jnew (σ1 := nA σ10 103 (20:Int32).toNatClampNeg) (n := (20:Int32).toNatClampNeg) rfl rfl ⟨rfl, rfl⟩ (fun H locs ls hH hS hl h1 h2 k => c_newa (t := 2) (ty := .long) hx hb hts hK hH hS hk.2.1 (by decide) rfl rfl (fun h => h) rfl (by decide) q218 hg h1 h2 dX4_init_49 k) (fun σ11 eσ11 => ?_)
  clear eσ11
  refine Jgd (fun hg => ?_)
  refine Jst (σ1 := uFR σ11 a0 17 (some (cZ σ10))) rfl rfl (fun H locs ls hH hS hl k => c_putRF (F := 17) (ty := (.array .long)) (x := (some (cZ σ10))) hx hb hts hown hK hH hS hg (hts _ q1307) (fun _ h => h) rfl hnm rfl rfl (by decide +kernel) rfl rfl rfl dX4_init_51 k) (fun σ12 => ?_)
  refine Jrow (fun H locs ls hH hS hl k => lv_aload_n hx hb dX4_init_54 rfl (lv_at hl 0 rfl) (k ls hl)) ?_
  refine Jrow (fun H locs ls hH hS hl k => lv_bipush (v := (20:Int32)) hx hb dX4_init_55 (by decide) (k ls hl)) ?_
  refine Jgd (fun hg => ?_)
  refine Jnew (σ1 := nA σ12 103 (20:Int32).toNatClampNeg) (n := (20:Int32).toNatClampNeg) rfl rfl ⟨rfl, rfl⟩ (fun H locs ls hH hS hl h1 h2 k => c_newa (t := 2) (ty := .long) hx hb hts hK hH hS hk.2.1 (by decide) rfl rfl (fun h => h) rfl (by decide) q218 hg h1 h2 dX4_init_57 k) (fun σ13 eσ13 => ?_)
  clear eσ13
  refine Jgd (fun hg => ?_)
  refine Jst (σ1 := uFR σ13 a0 18 (some (cZ σ12))) rfl rfl (fun H locs ls hH hS hl k => c_putRF (F := 18) (ty := (.array .long)) (x := (some (cZ σ12))) hx hb hts hown hK hH hS hg (hts _ q1308) (fun _ h => h) rfl hnm rfl rfl (by decide +kernel) rfl rfl rfl dX4_init_59 k) (fun σ14 => ?_)
  refine Jrow (fun H locs ls hH hS hl k => lv_aload_n hx hb dX4_init_62 rfl (lv_at hl 0 rfl) (k ls hl)) ?_
  refine Jrow (fun H locs ls hH hS hl k => lv_bipush (v := (20:Int32)) hx hb dX4_init_63 (by decide) (k ls hl)) ?_
  refine Jgd (fun hg => ?_)
  refine Jnew (σ1 := nA σ14 101 (20:Int32).toNatClampNeg) (n := (20:Int32).toNatClampNeg) rfl rfl ⟨rfl, rfl⟩ (fun H locs ls hH hS hl h1 h2 k => c_newa (t := 0) (ty := .int) hx hb hts hK hH hS hk.2.1 (by decide) rfl rfl (fun h => h) rfl (by decide) q219 hg h1 h2 dX4_init_65 k) (fun σ15 eσ15 => ?_)
  clear eσ15
  refine Jgd (fun hg => ?_)
  refine Jst (σ1 := uFR σ15 a0 19 (some (cZ σ14))) rfl rfl (fun H locs ls hH hS hl k => c_putRF (F := 19) (ty := (.array .int)) (x := (some (cZ σ14))) hx hb hts hown hK hH hS hg (hts _ q1309) (fun _ h => h) rfl hnm rfl rfl (by decide +kernel) rfl rfl rfl dX4_init_67 k) (fun σ16 => ?_)
  exact Jvret hx hb hr hlocks dX4_init_70
