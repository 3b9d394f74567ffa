/-! printed by gen/comp.py -/
def fX3_init (a0 : Nat) (p1 : Nat) (σ : CS) : Option (Unit × CS) :=
 gd (hf (cK σ a0) 59) (
 bd (uFR σ a0 59 (some p1)) (fun (σ1 : CS) =>
 gd (na (10:Int32)) (
 bd (nA σ1 107 (10:Int32).toNatClampNeg) (fun (σ2 : CS) =>
 gd (hf (cK σ2 a0) 55) (
 bd (uFR σ2 a0 55 (some (cZ σ1))) (fun (σ3 : CS) =>
 gd (na (10:Int32)) (
 bd (nA σ3 103 (10:Int32).toNatClampNeg) (fun (σ4 : CS) =>
 gd (hf (cK σ4 a0) 56) (
 bd (uFR σ4 a0 56 (some (cZ σ3))) (fun (σ5 : CS) =>
 gd (na (10:Int32)) (
 bd (nA σ5 103 (10:Int32).toNatClampNeg) (fun (σ6 : CS) =>
 gd (hf (cK σ6 a0) 57) (
 bd (uFR σ6 a0 57 (some (cZ σ5))) (fun (σ7 : CS) =>
 gd (na (10:Int32)) (
 bd (nA σ7 101 (10:Int32).toNatClampNeg) (fun (σ8 : CS) =>
 gd (hf (cK σ8 a0) 58) (
 bd (uFR σ8 a0 58 (some (cZ σ7))) (fun (σ9 : CS) =>
 lp (fun _ _ => none) (fun (k12 : Int32 → CS → Option (Unit × CS)) (x10 : Int32) (σ11 : CS) =>
 if (9:Int32) < x10 then
 some ((), σ11)
 else
 gd (hf (cK σ11 a0) 55) (
 cl (cFR σ11 a0 55) (fun (x13 : Nat) =>
 bd (nO σ11 4 6) (fun (σ14 : CS) =>
 cl2 (fX2_init (cZ σ11) σ14) (fun (_ : Unit) (σ15 : CS) =>
 gd (kd σ15 x13 107) (
 gd (ib x10 (cLN σ15 x13)) (
 gd (kd σ15 (cZ σ11) 4) (
 bd (uAR σ15 x13 x10.toNatClampNeg (some (cZ σ11))) (fun (σ17 : CS) =>
 bd (x10 + (1:Int32)) (fun (x18 : Int32) =>
 k12 x18 σ17)))))))))) NF (0:Int32) σ9))))))))))))))))))
theorem nX3_init {a0 : Nat} {p1 : Nat} {σ : CS} : Mn σ (fX3_init a0 p1 σ) := by
  unfold fX3_init
  refine Mgd ?_
  refine Mst (Nat.le_refl _) (Nat.le_refl _) (fun σ1 => ?_)
  refine Mgd ?_
  refine Mst (Nat.le_succ _) (Nat.le_add_right _ _) (fun σ2 => ?_)
  refine Mgd ?_
  refine Mst (Nat.le_refl _) (Nat.le_refl _) (fun σ3 => ?_)
  refine Mgd ?_
  refine Mst (Nat.le_succ _) (Nat.le_add_right _ _) (fun σ4 => ?_)
  refine Mgd ?_
  refine Mst (Nat.le_refl _) (Nat.le_refl _) (fun σ5 => ?_)
  refine Mgd ?_
  refine Mst (Nat.le_succ _) (Nat.le_add_right _ _) (fun σ6 => ?_)
  refine Mgd ?_
  refine Mst (Nat.le_refl _) (Nat.le_refl _) (fun σ7 => ?_)
  refine Mgd ?_
  refine Mst (Nat.le_succ _) (Nat.le_add_right _ _) (fun σ8 => ?_)
  refine Mgd ?_
  refine Mst (Nat.le_refl _) (Nat.le_refl _) (fun σ9 => ?_)
  refine Plp2 (fun (x10 : Int32) (σ11 : CS) (X19 : Option (Unit × CS)) => Mn σ11 X19) (fun _ _ => Mnone) (fun k12 hk12 x10 σ11 => ?_)
  refine Mite ?_ ?_
  · exact Mret
  · refine Mgd ?_
    refine Mcl (fun x13 => ?_)
    refine Mst (Nat.le_succ _) (Nat.le_add_right _ _) (fun σ14 => ?_)
    refine Mcl2 (nX2_init) (fun _ σ15 => ?_)
    refine Mgd ?_
    refine Mgd ?_
    refine Mgd ?_
    refine Mst (Nat.le_refl _) (Nat.le_refl _) (fun σ17 => ?_)
    refine Mbd (fun x18 => ?_)
    exact hk12 x18 σ17
set_option maxHeartbeats 4000000 in
set_option maxRecDepth 100000 in
theorem mX3_init (l : Launch) (E : CE) {a0 : Nat} {p1 : Nat} {σ : CS} {σz : CS} (hX : fX3_init a0 p1 σ = some ((), σz)) : MetC l yX3_init (ws_ yX3_init cX3_init 3 none) 2 32 E σ [.ref a0, .ref p1] none σz := by
  refine MetC.of hX (by decide) (Nat.le_of_ble_eq_true rfl) (nX3_init _ hX) ?_
  intro p e s m below meth c hx hb hr hml hts hown hlocks hnm hk hz0
  have hK := hk.1
  show J p l e (headSpec (ws_ yX3_init cX3_init 3 none) (rmC 2 32 σ σz)).room s m ([.ref a0, .ref p1] : List Value).toArray below meth c 3 E (cZ σ) (cS σ) (MQ below (cQ E none σz) ([.ref a0, .ref p1] : List Value).toArray s (cZ σz - cZ σ) (cS σz - cS σ) (EA E)) ((), σz) (fX3_init a0 p1 σ) σ 0 [(0, .ref a0), (1, .ref p1)] []
  unfold fX3_init
  refine Jrow (fun H locs ls hH hS hl k => lv_aload_n hx hb dX3_init_0 rfl (lv_at hl 0 rfl) (k ls hl)) ?_
  refine Jrow (fun H locs ls hH hS hl k => lv_aload_n hx hb dX3_init_1 rfl (lv_at hl 1 rfl) (k ls hl)) ?_
  refine Jgd (fun hg => ?_)
  refine Jst (σ1 := uFR σ a0 59 (some p1)) rfl rfl (fun H locs ls hH hS hl k => c_putRF (F := 59) (ty := (.object "FortyDays")) (x := (some p1)) hx hb hts hown hK hH hS hg (hts _ q232) (fun _ h => h) rfl hnm rfl rfl (by decide +kernel) rfl rfl rfl dX3_init_2 k) (fun σ1 => ?_)
  refine Jrow (fun H locs ls hH hS hl k => lv_aload_n hx hb dX3_init_5 rfl (lv_at hl 0 rfl) (k ls hl)) ?_
  refine Jrow (fun H locs ls hH hS hl k => W.objInit hx hb hown (hts _ q225) (hts _ q127) (hts _ q128) rfl (by rw [hml]; exact hl.1) rfl dX3_init_6 (Nat.le_of_ble_eq_true rfl) (Nat.le_of_ble_eq_true rfl) (W.eq (g2 := F0 m 9 ls []) rfl (k ls hl))) ?_
  refine Jrow (fun H locs ls hH hS hl k => lv_aload_n hx hb dX3_init_9 rfl (lv_at hl 0 rfl) (k ls hl)) ?_
  refine Jrow (fun H locs ls hH hS hl k => lv_bipush (v := (10:Int32)) hx hb dX3_init_10 (by decide) (k ls hl)) ?_
  refine Jgd (fun hg => ?_)
  refine Jnew (σ1 := nA σ1 107 (10:Int32).toNatClampNeg) (n := (10:Int32).toNatClampNeg) rfl rfl ⟨rfl, rfl⟩ (fun H locs ls hH hS hl h1 h2 k => c_newq (t := 6) hx hb hown (hts _ q226) hk.2.2.2.2.2.2.2.2.1.1 hK hH hS hk.2.1 (by decide) (by decide) rfl hg h1 h2 dX3_init_12 k) (fun σ2 eσ2 => ?_)
  clear eσ2
  refine Jgd (fun hg => ?_)
  refine Jst (σ1 := uFR σ2 a0 55 (some (cZ σ1))) rfl rfl (fun H locs ls hH hS hl k => c_putRF (F := 55) (ty := (.array (.object "FortyDays$Thought"))) (x := (some (cZ σ1))) hx hb hts hown hK hH hS hg (hts _ q228) (fun _ h => h) rfl hnm rfl rfl (by decide +kernel) rfl rfl rfl dX3_init_15 k) (fun σ3 => ?_)
  refine Jrow (fun H locs ls hH hS hl k => lv_aload_n hx hb dX3_init_18 rfl (lv_at hl 0 rfl) (k ls hl)) ?_
  refine Jrow (fun H locs ls hH hS hl k => lv_bipush (v := (10:Int32)) hx hb dX3_init_19 (by decide) (k ls hl)) ?_
  refine Jgd (fun hg => ?_)
  refine Jnew (σ1 := nA σ3 103 (10:Int32).toNatClampNeg) (n := (10:Int32).toNatClampNeg) rfl rfl ⟨rfl, rfl⟩ (fun H locs ls hH hS hl h1 h2 k => c_newa (t := 2) (ty := .long) hx hb hts hK hH hS hk.2.1 (by decide) rfl rfl (fun h => h) rfl (by decide) q218 hg h1 h2 dX3_init_21 k) (fun σ4 eσ4 => ?_)
  clear eσ4
  refine Jgd (fun hg => ?_)
  refine Jst (σ1 := uFR σ4 a0 56 (some (cZ σ3))) rfl rfl (fun H locs ls hH hS hl k => c_putRF (F := 56) (ty := (.array .long)) (x := (some (cZ σ3))) hx hb hts hown hK hH hS hg (hts _ q229) (fun _ h => h) rfl hnm rfl rfl (by decide +kernel) rfl rfl rfl dX3_init_23 k) (fun σ5 => ?_)
  refine Jrow (fun H locs ls hH hS hl k => lv_aload_n hx hb dX3_init_26 rfl (lv_at hl 0 rfl) (k ls hl)) ?_
  refine Jrow (fun H locs ls hH hS hl k => lv_bipush (v := (10:Int32)) hx hb dX3_init_27 (by decide) (k ls hl)) ?_
  refine Jgd (fun hg => ?_)
  refine Jnew (σ1 := nA σ5 103 (10:Int32).toNatClampNeg) (n := (10:Int32).toNatClampNeg) rfl rfl ⟨rfl, rfl⟩ (fun H locs ls hH hS hl h1 h2 k => c_newa (t := 2) (ty := .long) hx hb hts hK hH hS hk.2.1 (by decide) rfl rfl (fun h => h) rfl (by decide) q218 hg h1 h2 dX3_init_29 k) (fun σ6 eσ6 => ?_)
  clear eσ6
  refine Jgd (fun hg => ?_)
  refine Jst (σ1 := uFR σ6 a0 57 (some (cZ σ5))) rfl rfl (fun H locs ls hH hS hl k => c_putRF (F := 57) (ty := (.array .long)) (x := (some (cZ σ5))) hx hb hts hown hK hH hS hg (hts _ q230) (fun _ h => h) rfl hnm rfl rfl (by decide +kernel) rfl rfl rfl dX3_init_31 k) (fun σ7 => ?_)
  refine Jrow (fun H locs ls hH hS hl k => lv_aload_n hx hb dX3_init_34 rfl (lv_at hl 0 rfl) (k ls hl)) ?_
  refine Jrow (fun H locs ls hH hS hl k => lv_bipush (v := (10:Int32)) hx hb dX3_init_35 (by decide) (k ls hl)) ?_
  refine Jgd (fun hg => ?_)
  refine Jnew (σ1 := nA σ7 101 (10:Int32).toNatClampNeg) (n := (10:Int32).toNatClampNeg) rfl rfl ⟨rfl, rfl⟩ (fun H locs ls hH hS hl h1 h2 k => c_newa (t := 0) (ty := .int) hx hb hts hK hH hS hk.2.1 (by decide) rfl rfl (fun h => h) rfl (by decide) q219 hg h1 h2 dX3_init_37 k) (fun σ8 eσ8 => ?_)
  clear eσ8
  refine Jgd (fun hg => ?_)
  refine Jst (σ1 := uFR σ8 a0 58 (some (cZ σ7))) rfl rfl (fun H locs ls hH hS hl k => c_putRF (F := 58) (ty := (.array .int)) (x := (some (cZ σ7))) hx hb hts hown hK hH hS hg (hts _ q231) (fun _ h => h) rfl hnm rfl rfl (by decide +kernel) rfl rfl rfl dX3_init_39 k) (fun σ9 => ?_)
  refine Jrow (fun H locs ls hH hS hl k => lv_iconst (v := (0:Int32)) hx hb dX3_init_42 (by decide) (k ls hl)) ?_
  refine Jrow (fun H locs ls hH hS hl k => lv_istore_n (lv' := [(2, .int (0:Int32)), (0, .ref a0), (1, .ref p1)]) hx hb dX3_init_43 rfl hl (by decide) rfl k) ?_
  refine Jsub [1, 0] rfl (Plp2 (fun (x10 : Int32) (σ11 : CS) X19 => J p l e (headSpec (ws_ yX3_init cX3_init 3 none) (rmC 2 32 σ σz)).room s m ([.ref a0, .ref p1] : List Value).toArray below meth c 3 E (cZ σ) (cS σ) (MQ below (cQ E none σz) ([.ref a0, .ref p1] : List Value).toArray s (cZ σz - cZ σ) (cS σz - cS σ) (EA E)) ((), σz) X19 σ11 44 [(0, .ref a0), (2, .int x10)] []) (fun _ _ => Jnone) (fun k12 hk12 x10 σ11 => ?_))
  refine Jrow (fun H locs ls hH hS hl k => lv_iload_n hx hb dX3_init_44 rfl (lv_at hl 1 rfl) (k ls hl)) ?_
  refine Jrow (fun H locs ls hH hS hl k => lv_bipush (v := (9:Int32)) hx hb dX3_init_45 (by decide) (k ls hl)) ?_
  refine Jite (fun hc => ?_) (fun hc => ?_)
  · refine Jrow (fun H locs ls hH hS hl k => lv_icmp_gt (tgt := 69) hx hb dX3_init_47 (by decide) (fun _ => (k ls hl)) (fun h => absurd hc h)) ?_
    clear hc
    exact Jvret hx hb hr hlocks dX3_init_69
  · refine Jrow (fun H locs ls hH hS hl k => lv_icmp_gt (tgt := 69) hx hb dX3_init_47 (by decide) (fun h => absurd h hc) (fun _ => (k ls hl))) ?_
    clear hc
    refine Jrow (fun H locs ls hH hS hl k => lv_aload_n hx hb dX3_init_50 rfl (lv_at hl 0 rfl) (k ls hl)) ?_
    refine Jgd (fun hg => ?_)
    refine Jcl (fun x13 hq => ?_)
    refine Jrow (fun H locs ls hH hS hl k => c_get (F := 55) (v := .ref x13) hx hb hts hown hK hH hg (hts _ q228) (fun _ h => h) (fvR rfl hq) dX3_init_51 (k ls hl)) ?_
    clear hq
    refine Jrow (fun H locs ls hH hS hl k => lv_iload_n hx hb dX3_init_54 rfl (lv_at hl 1 rfl) (k ls hl)) ?_
    refine Jnew (σ1 := nO σ11 4 6) (n := 6) rfl rfl ⟨rfl, rfl⟩ (fun H locs ls hH hS hl h1 h2 k => c_new (ci := 3) hx hb hts hown hK hH hS hk.2.1 in_X2 tyX2 tyX2_ok (by decide +kernel) (hts _ q226) (hts _ q186) (hts _ q93) rfl h1 h2 dX3_init_55 k) (fun σ14 eσ14 => ?_)
    clear eσ14
    refine Jrow (fun H locs ls hH hS hl k => lv_dup hx hb dX3_init_58 rfl (k ls hl)) ?_
    refine Jcl2 (fun _ σ15 hf => ?_)
    refine Jcall (v := none) (rest := [.ref (cZ σ11), .int x10, .ref x13]) (mX2_init l E hf).1 ⟨rfl, rfl⟩ (fun H locs ls hH hS hl hR => ⟨_, va_runIN (As := []) ⟨hx, hb, hml, hown, hts⟩ (mX2_init l E hf).2 ⟨va_cnB 0 hts (lw_meth q189) rfl rfl rfl (cN hk.2.2.1 80 rfl) (hts _ q93) (by decide +kernel) ⟨Nat.le_of_ble_eq_true rfl, Nat.le_of_ble_eq_true rfl⟩, rfl, hts _ q188⟩ (c_preS hk hH hS) rfl rfl hl.1 rfl (lv_room (Nat.le_of_ble_eq_true rfl)) dX3_init_59 hR⟩) ?_
    clear hf
    refine Jgd (fun hk1 => ?_)
    refine Jgd (fun hg => ?_)
    refine Jgd (fun hg3 => ?_)
    refine Jst (σ1 := uAR σ15 x13 x10.toNatClampNeg (some (cZ σ11))) rfl rfl (fun H locs ls hH hS hl k => c_aast (t := 6) (ci := 3) hx hb hK hH hS (by decide) (by decide) rfl hk1 (kd_eq hg3) rfl (Or.inr rfl) hg dX3_init_62 k) (fun σ17 => ?_)
    refine Jbd (fun x18 ex18 => ?_)
    refine Jrow (fun H locs ls hH hS hl k => lv_iinc (v := x18) (lv' := [(2, .int x18), (0, .ref a0)]) hx hb dX3_init_63 hl (k := 1) rfl (by rw [ex18]; rfl) (by decide) rfl k) ?_
    clear ex18
    refine Jrow (fun H locs ls hH hS hl k => lv_goto (tgt := 44) hx hb dX3_init_66 (by decide) (k ls hl)) ?_
    exact Jsub [1, 0] rfl (hk12 x18 σ17)

def fX18_cut (a0 : Nat) (p1 : Nat) (p2 : Int32) (σ : CS) : Option (Unit × CS) :=
 lp (fun _ => none) (fun (k2 : CS → Option (Unit × CS)) (σ1 : CS) =>
 gd (kd σ1 p1 20) (
 cl2 (fJ2_size p1 σ1) (fun (x4 : Int32) (σ3 : CS) =>
 if x4 ≤ p2 then
 some ((), σ3)
 else
 gd (kd σ3 p1 20) (
 cl2 (fJ2_size p1 σ3) (fun (x6 : Int32) (σ5 : CS) =>
 gd (kd σ5 p1 20) (
 cl2 (fJ2_remove p1 (x6 - (1:Int32)) σ5) (fun (x8 : Nat) (σ7 : CS) =>
 k2 σ7))))))) NF σ
theorem nX18_cut {a0 : Nat} {p1 : Nat} {p2 : Int32} {σ : CS} : Mn σ (fX18_cut a0 p1 p2 σ) := by
  unfold fX18_cut
  refine Plp1 (fun (σ1 : CS) (X9 : Option (Unit × CS)) => Mn σ1 X9) (fun _ => Mnone) (fun k2 hk2 σ1 => ?_)
  refine Mgd ?_
  refine Mcl2 (nJ2_size) (fun x4 σ3 => ?_)
  refine Mite ?_ ?_
  · exact Mret
  · refine Mgd ?_
    refine Mcl2 (nJ2_size) (fun x6 σ5 => ?_)
    refine Mgd ?_
    refine Mcl2 (nJ2_remove) (fun x8 σ7 => ?_)
    exact hk2 σ7
set_option maxHeartbeats 4000000 in
set_option maxRecDepth 100000 in
theorem mX18_cut (l : Launch) (E : CE) {a0 : Nat} {p1 : Nat} {p2 : Int32} {σ : CS} {σz : CS} (hX : fX18_cut a0 p1 p2 σ = some ((), σz)) : MetC l yX18_cut (ws_ yX18_cut cX18_cut 3 none) 3 106 E σ [.ref a0, .ref p1, .int p2] none σz := by
  refine MetC.of hX (by decide) (Nat.le_of_ble_eq_true rfl) (nX18_cut _ hX) ?_
  intro p e s m below meth c hx hb hr hml hts hown hlocks hnm hk hz0
  have hK := hk.1
  show J p l e (headSpec (ws_ yX18_cut cX18_cut 3 none) (rmC 3 106 σ σz)).room s m ([.ref a0, .ref p1, .int p2] : List Value).toArray below meth c 3 E (cZ σ) (cS σ) (MQ below (cQ E none σz) ([.ref a0, .ref p1, .int p2] : List Value).toArray s (cZ σz - cZ σ) (cS σz - cS σ) (EA E)) ((), σz) (fX18_cut a0 p1 p2 σ) σ 0 [(0, .ref a0), (1, .ref p1), (2, .int p2)] []
  unfold fX18_cut
  refine Jsub [1, 2] rfl (Plp1 (fun (σ1 : CS) X9 => J p l e (headSpec (ws_ yX18_cut cX18_cut 3 none) (rmC 3 106 σ σz)).room s m ([.ref a0, .ref p1, .int p2] : List Value).toArray below meth c 3 E (cZ σ) (cS σ) (MQ below (cQ E none σz) ([.ref a0, .ref p1, .int p2] : List Value).toArray s (cZ σz - cZ σ) (cS σz - cS σ) (EA E)) ((), σz) X9 σ1 0 [(1, .ref p1), (2, .int p2)] []) (fun _ => Jnone) (fun k2 hk2 σ1 => ?_))
  refine Jrow (fun H locs ls hH hS hl k => lv_aload_n hx hb dX18_cut_0 rfl (lv_at hl 0 rfl) (k ls hl)) ?_
  refine Jgd (fun hg => ?_)
  refine Jcl2 (fun x4 σ3 hf => ?_)
  refine Jcall (v := (some (.int x4))) (rest := []) (mJ2_size l E hf).1 ⟨rfl, rfl⟩ (fun H locs ls hH hS hl hR => ⟨_, va_runV (C := RJ2) (As := []) ⟨hx, hb, hml, hown, hts⟩ (mJ2_size l E hf).2 (cwV 0 hts (lw_V q1220 q328 q329 q91 q330) rfl rfl rfl (by decide +kernel) ⟨Nat.le_of_ble_eq_true rfl, Nat.le_of_ble_eq_true rfl⟩) (c_preV (ci := 19) hk hH hS hg rfl) rfl rfl hl.1 rfl (lv_room (Nat.le_of_ble_eq_true rfl)) dX18_cut_1 hR⟩) ?_
  clear hf
  refine Jrow (fun H locs ls hH hS hl k => lv_iload_n hx hb dX18_cut_4 rfl (lv_at hl 1 rfl) (k ls hl)) ?_
  refine Jite (fun hc => ?_) (fun hc => ?_)
  · refine Jrow (fun H locs ls hH hS hl k => lv_icmp_le (tgt := 22) hx hb dX18_cut_5 (by decide) (fun _ => (k ls hl)) (fun h => absurd hc h)) ?_
    clear hc
    exact Jvret hx hb hr hlocks dX18_cut_22
  · refine Jrow (fun H locs ls hH hS hl k => lv_icmp_le (tgt := 22) hx hb dX18_cut_5 (by decide) (fun h => absurd h hc) (fun _ => (k ls hl))) ?_
    clear hc
    refine Jrow (fun H locs ls hH hS hl k => lv_aload_n hx hb dX18_cut_8 rfl (lv_at hl 0 rfl) (k ls hl)) ?_
    refine Jrow (fun H locs ls hH hS hl k => lv_aload_n hx hb dX18_cut_9 rfl (lv_at hl 0 rfl) (k ls hl)) ?_
    refine Jgd (fun hg => ?_)
    refine Jcl2 (fun x6 σ5 hf => ?_)
    refine Jcall (v := (some (.int x6))) (rest := [.ref p1]) (mJ2_size l E hf).1 ⟨rfl, rfl⟩ (fun H locs ls hH hS hl hR => ⟨_, va_runV (C := RJ2) (As := []) ⟨hx, hb, hml, hown, hts⟩ (mJ2_size l E hf).2 (cwV 0 hts (lw_V q1220 q328 q329 q91 q330) rfl rfl rfl (by decide +kernel) ⟨Nat.le_of_ble_eq_true rfl, Nat.le_of_ble_eq_true rfl⟩) (c_preV (ci := 19) hk hH hS hg rfl) rfl rfl hl.1 rfl (lv_room (Nat.le_of_ble_eq_true rfl)) dX18_cut_10 hR⟩) ?_
    clear hf
    refine Jrow (fun H locs ls hH hS hl k => lv_iconst (v := (1:Int32)) hx hb dX18_cut_13 (by decide) (k ls hl)) ?_
    refine Jrow (fun H locs ls hH hS hl k => lv_isub hx hb dX18_cut_14 (k ls hl)) ?_
    refine Jgd (fun hg => ?_)
    refine Jcl2 (fun x8 σ7 hf => ?_)
    refine Jcall (v := (some (.ref x8))) (rest := []) (mJ2_remove l E hf).1 ⟨rfl, rfl⟩ (fun H locs ls hH hS hl hR => ⟨_, va_runV (C := RJ2) (As := [.int (x6 - (1:Int32))]) ⟨hx, hb, hml, hown, hts⟩ (mJ2_remove l E hf).2 (cwV 1 hts (lw_V q1271 q1272 q1273 q91 q1274) rfl rfl rfl (by decide +kernel) ⟨Nat.le_of_ble_eq_true rfl, Nat.le_of_ble_eq_true rfl⟩) (c_preV (ci := 19) hk hH hS hg rfl) rfl rfl hl.1 rfl (lv_room (Nat.le_of_ble_eq_true rfl)) dX18_cut_15 hR⟩) ?_
    clear hf
    refine Jrow (fun H locs ls hH hS hl k => lv_pop hx hb dX18_cut_18 rfl (k ls hl)) ?_
    refine Jrow (fun H locs ls hH hS hl k => lv_goto (tgt := 0) hx hb dX18_cut_19 (by decide) (k ls hl)) ?_
    exact Jsub [0, 1] rfl (hk2 σ7)

def fX18_putBack (a0 : Nat) (σ : CS) : Option (Unit × CS) :=
 gd (hf (cK σ a0) 102) (
 cl (cFR σ a0 102) (fun (x1 : Nat) =>
 gd (hf (cK σ x1) 26) (
 cl (cFR σ x1 26) (fun (x2 : Nat) =>
 gd (hf (cK σ a0) 95) (
 gd (kd σ a0 19) (
 cl2 (fX18_cut a0 x2 (cFI σ a0 95) σ) (fun (_ : Unit) (σ3 : CS) =>
 gd (hf (cK σ3 a0) 102) (
 cl (cFR σ3 a0 102) (fun (x5 : Nat) =>
 gd (hf (cK σ3 x5) 28) (
 cl (cFR σ3 x5 28) (fun (x6 : Nat) =>
 gd (hf (cK σ3 a0) 96) (
 gd (kd σ3 a0 19) (
 cl2 (fX18_cut a0 x6 (cFI σ3 a0 96) σ3) (fun (_ : Unit) (σ7 : CS) =>
 gd (hf (cK σ7 a0) 102) (
 cl (cFR σ7 a0 102) (fun (x9 : Nat) =>
 gd (hf (cK σ7 x9) 38) (
 cl (cFR σ7 x9 38) (fun (x10 : Nat) =>
 gd (hf (cK σ7 a0) 97) (
 gd (kd σ7 a0 19) (
 cl2 (fX18_cut a0 x10 (cFI σ7 a0 97) σ7) (fun (_ : Unit) (σ11 : CS) =>
 lp (fun _ _ => none) (fun (k15 : Int32 → CS → Option (Unit × CS)) (x13 : Int32) (σ14 : CS) =>
 gd (hf (cK σ14 a0) 96) (
 if (cFI σ14 a0 96) ≤ x13 then
 lp (fun _ _ => none) (fun (k18 : Int32 → CS → Option (Unit × CS)) (x16 : Int32) (σ17 : CS) =>
 gd (hf (cK σ17 a0) 97) (
 if (cFI σ17 a0 97) ≤ x16 then
 gd (hf (cK σ17 a0) 99) (
 cl (cFR σ17 a0 99) (fun (x19 : Nat) =>
 gd (hf (cK σ17 a0) 102) (
 cl (cFR σ17 a0 102) (fun (x20 : Nat) =>
 gd (hf (cK σ17 x20) 24) (
 cl (cFR σ17 x20 24) (fun (x21 : Nat) =>
 gd (kd σ17 x19 104) (
 gd (kd σ17 x21 104) (
 gd (cpb σ17 x19 x21 (0:Int32) (0:Int32) (120:Int32)) (
 gd (fitR (cAI σ17 x19) (0:Int32).toNatClampNeg (120:Int32).toNatClampNeg) (
 bd (cpI σ17 x19 x21 (0:Int32).toNatClampNeg (0:Int32).toNatClampNeg (120:Int32).toNatClampNeg) (fun (σ22 : CS) =>
 gd (hf (cK σ22 a0) 102) (
 cl (cFR σ22 a0 102) (fun (x23 : Nat) =>
 gd (hf (cK σ22 a0) 98) (
 gd (hf (cK σ22 x23) 25) (
 bd (uFI σ22 x23 25 (cFI σ22 a0 98)) (fun (σ24 : CS) =>
 some ((), σ24)))))))))))))))))
 else
 gd (hf (cK σ17 a0) 102) (
 cl (cFR σ17 a0 102) (fun (x25 : Nat) =>
 gd (hf (cK σ17 x25) 38) (
 cl (cFR σ17 x25 38) (fun (x26 : Nat) =>
 gd (kd σ17 x26 20) (
 cl2 (fJ2_get x26 x16 σ17) (fun (x28 : Nat) (σ27 : CS) =>
 gd (isX11 (cK σ27 x28)) (
 bd (cond (kd σ27 x28 17) 1 0) (fun (x29 : Int32) =>
 jn (fun (σ30 : CS) => bd (x16 + (1:Int32)) (fun (x32 : Int32) =>
 k18 x32 σ30)) (fun (k31 : CS → Option (Unit × CS)) =>
 if x29 = (0:Int32) then
 k31 σ27
 else
 gd (hf (cK σ27 a0) 102) (
 cl (cFR σ27 a0 102) (fun (x33 : Nat) =>
 gd (hf (cK σ27 x33) 38) (
 cl (cFR σ27 x33 38) (fun (x34 : Nat) =>
 gd (kd σ27 x34 20) (
 cl2 (fJ2_get x34 x16 σ27) (fun (x36 : Nat) (σ35 : CS) =>
 gd (kd σ35 x36 17) (
 gd (hf (cK σ35 a0) 101) (
 cl (cFR σ35 a0 101) (fun (x37 : Nat) =>
 gd (kd σ35 x37 101) (
 gd (ib x16 (cLN σ35 x37)) (
 gd (hf (cK σ35 x36) 92) (
 bd (uFI σ35 x36 92 (cAI σ35 x37 x16.toNatClampNeg)) (fun (σ38 : CS) =>
 k31 σ38)))))))))))))))))))))))) NF (0:Int32) σ14
 else
 gd (hf (cK σ14 a0) 102) (
 cl (cFR σ14 a0 102) (fun (x41 : Nat) =>
 gd (hf (cK σ14 x41) 28) (
 cl (cFR σ14 x41 28) (fun (x42 : Nat) =>
 gd (kd σ14 x42 20) (
 cl2 (fJ2_get x42 x13 σ14) (fun (x44 : Nat) (σ43 : CS) =>
 gd (kd σ43 x44 11) (
 gd (hf (cK σ43 x44) 83) (
 cl (cFR σ43 x44 83) (fun (x45 : Nat) =>
 gd (hf (cK σ43 a0) 100) (
 cl (cFR σ43 a0 100) (fun (x46 : Nat) =>
 gd (kd σ43 x46 107) (
 gd (ib x13 (cLN σ43 x46)) (
 cl (cAR σ43 x46 x13.toNatClampNeg) (fun (x47 : Nat) =>
 gd (kd σ43 x45 4) (
 cl2 (fX2_become x45 x47 σ43) (fun (_ : Unit) (σ48 : CS) =>
 bd (x13 + (1:Int32)) (fun (x50 : Int32) =>
 k15 x50 σ48))))))))))))))))))) NF (0:Int32) σ11)))))))))))))))))))))
theorem nX18_putBack {a0 : Nat} {σ : CS} : Mn σ (fX18_putBack a0 σ) := by
  unfold fX18_putBack
  refine Mgd ?_
  refine Mcl (fun x1 => ?_)
  refine Mgd ?_
  refine Mcl (fun x2 => ?_)
  refine Mgd ?_
  refine Mgd ?_
  refine Mcl2 (nX18_cut) (fun _ σ3 => ?_)
  refine Mgd ?_
  refine Mcl (fun x5 => ?_)
  refine Mgd ?_
  refine Mcl (fun x6 => ?_)
  refine Mgd ?_
  refine Mgd ?_
  refine Mcl2 (nX18_cut) (fun _ σ7 => ?_)
  refine Mgd ?_
  refine Mcl (fun x9 => ?_)
  refine Mgd ?_
  refine Mcl (fun x10 => ?_)
  refine Mgd ?_
  refine Mgd ?_
  refine Mcl2 (nX18_cut) (fun _ σ11 => ?_)
  refine Plp2 (fun (x13 : Int32) (σ14 : CS) (X51 : Option (Unit × CS)) => Mn σ14 X51) (fun _ _ => Mnone) (fun k15 hk15 x13 σ14 => ?_)
  refine Mgd ?_
  refine Mite ?_ ?_
  · refine Plp2 (fun (x16 : Int32) (σ17 : CS) (X40 : Option (Unit × CS)) => Mn σ17 X40) (fun _ _ => Mnone) (fun k18 hk18 x16 σ17 => ?_)
    refine Mgd ?_
    refine Mite ?_ ?_
    · refine Mgd ?_
      refine Mcl (fun x19 => ?_)
      refine Mgd ?_
      refine Mcl (fun x20 => ?_)
      refine Mgd ?_
      refine Mcl (fun x21 => ?_)
      refine Mgd ?_
      refine Mgd ?_
      refine Mgd ?_
      refine Mgd ?_
      refine Mst (Nat.le_refl _) (Nat.le_refl _) (fun σ22 => ?_)
      refine Mgd ?_
      refine Mcl (fun x23 => ?_)
      refine Mgd ?_
      refine Mgd ?_
      refine Mst (Nat.le_refl _) (Nat.le_refl _) (fun σ24 => ?_)
      exact Mret
    · refine Mgd ?_
      refine Mcl (fun x25 => ?_)
      refine Mgd ?_
      refine Mcl (fun x26 => ?_)
      refine Mgd ?_
      refine Mcl2 (nJ2_get) (fun x28 σ27 => ?_)
      refine Mgd ?_
      refine Mbd (fun x29 => ?_)
      refine Mjn1 (fun (σ30 : CS) (X39 : Option (Unit × CS)) => Mn σ30 X39) (fun σ30 => ?_) (fun k31 hk31 => ?_)
      · refine Mbd (fun x32 => ?_)
        exact hk18 x32 σ30
      · refine Mite ?_ ?_
        · exact hk31 σ27
        · refine Mgd ?_
          refine Mcl (fun x33 => ?_)
          refine Mgd ?_
          refine Mcl (fun x34 => ?_)
          refine Mgd ?_
          refine Mcl2 (nJ2_get) (fun x36 σ35 => ?_)
          refine Mgd ?_
          refine Mgd ?_
          refine Mcl (fun x37 => ?_)
          refine Mgd ?_
          refine Mgd ?_
          refine Mgd ?_
          refine Mst (Nat.le_refl _) (Nat.le_refl _) (fun σ38 => ?_)
          exact hk31 σ38
  · refine Mgd ?_
    refine Mcl (fun x41 => ?_)
    refine Mgd ?_
    refine Mcl (fun x42 => ?_)
    refine Mgd ?_
    refine Mcl2 (nJ2_get) (fun x44 σ43 => ?_)
    refine Mgd ?_
    refine Mgd ?_
    refine Mcl (fun x45 => ?_)
    refine Mgd ?_
    refine Mcl (fun x46 => ?_)
    refine Mgd ?_
    refine Mgd ?_
    refine Mcl (fun x47 => ?_)
    refine Mgd ?_
    refine Mcl2 (nX2_become) (fun _ σ48 => ?_)
    refine Mbd (fun x50 => ?_)
    exact hk15 x50 σ48
set_option maxHeartbeats 4000000 in
set_option maxRecDepth 100000 in
theorem mX18_putBack (l : Launch) (E : CE) {a0 : Nat} {σ : CS} {σz : CS} (hX : fX18_putBack a0 σ = some ((), σz)) : MetC l yX18_putBack (ws_ yX18_putBack cX18_putBack 2 none) 4 128 E σ [.ref a0] none σz := by
  refine MetC.of hX (by decide) (Nat.le_of_ble_eq_true rfl) (nX18_putBack _ hX) ?_
  intro p e s m below meth c hx hb hr hml hts hown hlocks hnm hk hz0
  have hK := hk.1
  show J p l e (headSpec (ws_ yX18_putBack cX18_putBack 2 none) (rmC 4 128 σ σz)).room s m ([.ref a0] : List Value).toArray below meth c 2 E (cZ σ) (cS σ) (MQ below (cQ E none σz) ([.ref a0] : List Value).toArray s (cZ σz - cZ σ) (cS σz - cS σ) (EA E)) ((), σz) (fX18_putBack a0 σ) σ 0 [(0, .ref a0)] []
  unfold fX18_putBack
  refine Jrow (fun H locs ls hH hS hl k => lv_aload_n hx hb dX18_putBack_0 rfl (lv_at hl 0 rfl) (k ls hl)) ?_
  refine Jrow (fun H locs ls hH hS hl k => lv_aload_n hx hb dX18_putBack_1 rfl (lv_at hl 0 rfl) (k ls hl)) ?_
  refine Jgd (fun hg => ?_)
  refine Jcl (fun x1 hq => ?_)
  refine Jrow (fun H locs ls hH hS hl k => c_get (F := 102) (v := .ref x1) hx hb hts hown hK hH hg (hts _ q1241) (fun _ h => h) (fvR rfl hq) dX18_putBack_2 (k ls hl)) ?_
  clear hq
  refine Jgd (fun hg => ?_)
  refine Jcl (fun x2 hq => ?_)
  refine Jrow (fun H locs ls hH hS hl k => c_getN (F := 26) (v := .ref x2) hx hb hts hown hK hH hg (cN hk.2.2.1 70 rfl) (fun _ h => h) (fvR rfl hq) dX18_putBack_5 (k ls hl)) ?_
  clear hq
  refine Jrow (fun H locs ls hH hS hl k => lv_aload_n hx hb dX18_putBack_8 rfl (lv_at hl 0 rfl) (k ls hl)) ?_
  refine Jgd (fun hg => ?_)
  refine Jrow (fun H locs ls hH hS hl k => c_get (F := 95) (v := .int (cFI σ a0 95)) hx hb hts hown hK hH hg (hts _ q1234) (fun _ h => h) rfl dX18_putBack_9 (k ls hl)) ?_
  refine Jgd (fun hg => ?_)
  refine Jcl2 (fun _ σ3 hf => ?_)
  refine Jcall (v := none) (rest := []) (mX18_cut l E hf).1 ⟨rfl, rfl⟩ (fun H locs ls hH hS hl hR => ⟨_, va_runV (C := RX18) (As := [.ref x2, .int (cFI σ a0 95)]) ⟨hx, hb, hml, hown, hts⟩ (mX18_cut l E hf).2 (cwV 2 hts (lw_V q1267 q1269 qs39 q120 q1270) rfl rfl rfl (by decide +kernel) ⟨Nat.le_of_ble_eq_true rfl, Nat.le_of_ble_eq_true rfl⟩) (c_preV (ci := 18) hk hH hS hg rfl) rfl rfl hl.1 rfl (lv_room (Nat.le_of_ble_eq_true rfl)) dX18_putBack_12 hR⟩) ?_
  clear hf
  refine Jrow (fun H locs ls hH hS hl k => lv_aload_n hx hb dX18_putBack_15 rfl (lv_at hl 0 rfl) (k ls hl)) ?_
  refine Jrow (fun H locs ls hH hS hl k => lv_aload_n hx hb dX18_putBack_16 rfl (lv_at hl 0 rfl) (k ls hl)) ?_
  refine Jgd (fun hg => ?_)
  refine Jcl (fun x5 hq => ?_)
  refine Jrow (fun H locs ls hH hS hl k => c_get (F := 102) (v := .ref x5) hx hb hts hown hK hH hg (hts _ q1241) (fun _ h => h) (fvR rfl hq) dX18_putBack_17 (k ls hl)) ?_
  clear hq
  refine Jgd (fun hg => ?_)
  refine Jcl (fun x6 hq => ?_)
  refine Jrow (fun H locs ls hH hS hl k => c_getN (F := 28) (v := .ref x6) hx hb hts hown hK hH hg (cN hk.2.2.1 71 rfl) (fun _ h => h) (fvR rfl hq) dX18_putBack_20 (k ls hl)) ?_
  clear hq
  refine Jrow (fun H locs ls hH hS hl k => lv_aload_n hx hb dX18_putBack_23 rfl (lv_at hl 0 rfl) (k ls hl)) ?_
  refine Jgd (fun hg => ?_)
  refine Jrow (fun H locs ls hH hS hl k => c_get (F := 96) (v := .int (cFI σ3 a0 96)) hx hb hts hown hK hH hg (hts _ q1235) (fun _ h => h) rfl dX18_putBack_24 (k ls hl)) ?_
  refine Jgd (fun hg => ?_)
  refine Jcl2 (fun _ σ7 hf => ?_)
  refine Jcall (v := none) (rest := []) (mX18_cut l E hf).1 ⟨rfl, rfl⟩ (fun H locs ls hH hS hl hR => ⟨_, va_runV (C := RX18) (As := [.ref x6, .int (cFI σ3 a0 96)]) ⟨hx, hb, hml, hown, hts⟩ (mX18_cut l E hf).2 (cwV 2 hts (lw_V q1267 q1269 qs39 q120 q1270) rfl rfl rfl (by decide +kernel) ⟨Nat.le_of_ble_eq_true rfl, Nat.le_of_ble_eq_true rfl⟩) (c_preV (ci := 18) hk hH hS hg rfl) rfl rfl hl.1 rfl (lv_room (Nat.le_of_ble_eq_true rfl)) dX18_putBack_27 hR⟩) ?_
  clear hf
  refine Jrow (fun H locs ls hH hS hl k => lv_aload_n hx hb dX18_putBack_30 rfl (lv_at hl 0 rfl) (k ls hl)) ?_
  refine Jrow (fun H locs ls hH hS hl k => lv_aload_n hx hb dX18_putBack_31 rfl (lv_at hl 0 rfl) (k ls hl)) ?_
  refine Jgd (fun hg => ?_)
  refine Jcl (fun x9 hq => ?_)
  refine Jrow (fun H locs ls hH hS hl k => c_get (F := 102) (v := .ref x9) hx hb hts hown hK hH hg (hts _ q1241) (fun _ h => h) (fvR rfl hq) dX18_putBack_32 (k ls hl)) ?_
  clear hq
  refine Jgd (fun hg => ?_)
  refine Jcl (fun x10 hq => ?_)
  refine Jrow (fun H locs ls hH hS hl k => c_getN (F := 38) (v := .ref x10) hx hb hts hown hK hH hg (cN hk.2.2.1 72 rfl) (fun _ h => h) (fvR rfl hq) dX18_putBack_35 (k ls hl)) ?_
  clear hq
  refine Jrow (fun H locs ls hH hS hl k => lv_aload_n hx hb dX18_putBack_38 rfl (lv_at hl 0 rfl) (k ls hl)) ?_
  refine Jgd (fun hg => ?_)
  refine Jrow (fun H locs ls hH hS hl k => c_get (F := 97) (v := .int (cFI σ7 a0 97)) hx hb hts hown hK hH hg (hts _ q1236) (fun _ h => h) rfl dX18_putBack_39 (k ls hl)) ?_
  refine Jgd (fun hg => ?_)
  refine Jcl2 (fun _ σ11 hf => ?_)
  refine Jcall (v := none) (rest := []) (mX18_cut l E hf).1 ⟨rfl, rfl⟩ (fun H locs ls hH hS hl hR => ⟨_, va_runV (C := RX18) (As := [.ref x10, .int (cFI σ7 a0 97)]) ⟨hx, hb, hml, hown, hts⟩ (mX18_cut l E hf).2 (cwV 2 hts (lw_V q1267 q1269 qs39 q120 q1270) rfl rfl rfl (by decide +kernel) ⟨Nat.le_of_ble_eq_true rfl, Nat.le_of_ble_eq_true rfl⟩) (c_preV (ci := 18) hk hH hS hg rfl) rfl rfl hl.1 rfl (lv_room (Nat.le_of_ble_eq_true rfl)) dX18_putBack_42 hR⟩) ?_
  clear hf
  refine Jrow (fun H locs ls hH hS hl k => lv_iconst (v := (0:Int32)) hx hb dX18_putBack_45 (by decide) (k ls hl)) ?_
  refine Jrow (fun H locs ls hH hS hl k => lv_istore_n (lv' := [(1, .int (0:Int32)), (0, .ref a0)]) hx hb dX18_putBack_46 rfl hl (by decide) rfl k) ?_
  refine Jsub [1, 0] rfl (Plp2 (fun (x13 : Int32) (σ14 : CS) X51 => J p l e (headSpec (ws_ yX18_putBack cX18_putBack 2 none) (rmC 4 128 σ σz)).room s m ([.ref a0] : List Value).toArray below meth c 2 E (cZ σ) (cS σ) (MQ below (cQ E none σz) ([.ref a0] : List Value).toArray s (cZ σz - cZ σ) (cS σz - cS σ) (EA E)) ((), σz) X51 σ14 47 [(0, .ref a0), (1, .int x13)] []) (fun _ _ => Jnone) (fun k15 hk15 x13 σ14 => ?_))
  refine Jrow (fun H locs ls hH hS hl k => lv_iload_n hx hb dX18_putBack_47 rfl (lv_at hl 1 rfl) (k ls hl)) ?_
  refine Jrow (fun H locs ls hH hS hl k => lv_aload_n hx hb dX18_putBack_48 rfl (lv_at hl 0 rfl) (k ls hl)) ?_
  refine Jgd (fun hg => ?_)
  refine Jrow (fun H locs ls hH hS hl k => c_get (F := 96) (v := .int (cFI σ14 a0 96)) hx hb hts hown hK hH hg (hts _ q1235) (fun _ h => h) rfl dX18_putBack_49 (k ls hl)) ?_
  refine Jite (fun hc => ?_) (fun hc => ?_)
  · refine Jrow (fun H locs ls hH hS hl k => lv_icmp_ge (tgt := 87) hx hb dX18_putBack_52 (by decide) (fun _ => (k ls hl)) (fun h => absurd hc h)) ?_
    clear hc
    refine Jrow (fun H locs ls hH hS hl k => lv_iconst (v := (0:Int32)) hx hb dX18_putBack_87 (by decide) (k ls hl)) ?_
    refine Jrow (fun H locs ls hH hS hl k => lv_istore_n (lv' := [(1, .int (0:Int32)), (0, .ref a0)]) hx hb dX18_putBack_88 rfl hl (by decide) rfl k) ?_
    refine Jsub [1, 0] rfl (Plp2 (fun (x16 : Int32) (σ17 : CS) X40 => J p l e (headSpec (ws_ yX18_putBack cX18_putBack 2 none) (rmC 4 128 σ σz)).room s m ([.ref a0] : List Value).toArray below meth c 2 E (cZ σ) (cS σ) (MQ below (cQ E none σz) ([.ref a0] : List Value).toArray s (cZ σz - cZ σ) (cS σz - cS σ) (EA E)) ((), σz) X40 σ17 89 [(0, .ref a0), (1, .int x16)] []) (fun _ _ => Jnone) (fun k18 hk18 x16 σ17 => ?_))
    refine Jrow (fun H locs ls hH hS hl k => lv_iload_n hx hb dX18_putBack_89 rfl (lv_at hl 1 rfl) (k ls hl)) ?_
    refine Jrow (fun H locs ls hH hS hl k => lv_aload_n hx hb dX18_putBack_90 rfl (lv_at hl 0 rfl) (k ls hl)) ?_
    refine Jgd (fun hg => ?_)
    refine Jrow (fun H locs ls hH hS hl k => c_get (F := 97) (v := .int (cFI σ17 a0 97)) hx hb hts hown hK hH hg (hts _ q1236) (fun _ h => h) rfl dX18_putBack_91 (k ls hl)) ?_
    refine Jite (fun hc => ?_) (fun hc => ?_)
    · refine Jrow (fun H locs ls hH hS hl k => lv_icmp_ge (tgt := 143) hx hb dX18_putBack_94 (by decide) (fun _ => (k ls hl)) (fun h => absurd hc h)) ?_
      clear hc
      refine Jrow (fun H locs ls hH hS hl k => lv_aload_n hx hb dX18_putBack_143 rfl (lv_at hl 0 rfl) (k ls hl)) ?_
      refine Jgd (fun hg => ?_)
      refine Jcl (fun x19 hq => ?_)
      refine Jrow (fun H locs ls hH hS hl k => c_get (F := 99) (v := .ref x19) hx hb hts hown hK hH hg (hts _ q1238) (fun _ h => h) (fvR rfl hq) dX18_putBack_144 (k ls hl)) ?_
      clear hq
      refine Jrow (fun H locs ls hH hS hl k => lv_iconst (v := (0:Int32)) hx hb dX18_putBack_147 (by decide) (k ls hl)) ?_
      refine Jrow (fun H locs ls hH hS hl k => lv_aload_n hx hb dX18_putBack_148 rfl (lv_at hl 0 rfl) (k ls hl)) ?_
      refine Jgd (fun hg => ?_)
      refine Jcl (fun x20 hq => ?_)
      refine Jrow (fun H locs ls hH hS hl k => c_get (F := 102) (v := .ref x20) hx hb hts hown hK hH hg (hts _ q1241) (fun _ h => h) (fvR rfl hq) dX18_putBack_149 (k ls hl)) ?_
      clear hq
      refine Jgd (fun hg => ?_)
      refine Jcl (fun x21 hq => ?_)
      refine Jrow (fun H locs ls hH hS hl k => c_getN (F := 24) (v := .ref x21) hx hb hts hown hK hH hg (cN hk.2.2.1 68 rfl) (fun _ h => h) (fvR rfl hq) dX18_putBack_152 (k ls hl)) ?_
      clear hq
      refine Jrow (fun H locs ls hH hS hl k => lv_iconst (v := (0:Int32)) hx hb dX18_putBack_155 (by decide) (k ls hl)) ?_
      refine Jrow (fun H locs ls hH hS hl k => lv_bipush (v := (120:Int32)) hx hb dX18_putBack_156 (by decide) (k ls hl)) ?_
      refine Jgd (fun hk0 => ?_)
      refine Jgd (fun hk1 => ?_)
      refine Jgd (fun hcp => ?_)
      refine Jgd (fun hft => ?_)
      refine Jst (σ1 := cpI σ17 x19 x21 (0:Int32).toNatClampNeg (0:Int32).toNatClampNeg (120:Int32).toNatClampNeg) rfl rfl (fun H locs ls hH hS hl k => c_copyI hx hb (hml.trans hl.1.symm) hown (hts _ q1280) (hts _ q589) (hts _ q588) (hts _ q106) hK hH hS hcp (t := 3) (Or.inr rfl) rfl rfl (fitR_s hft) hk0 hk1 (Nat.le_of_ble_eq_true rfl) (Nat.le_of_ble_eq_true rfl) dX18_putBack_158 k) (fun σ22 => ?_)
      refine Jrow (fun H locs ls hH hS hl k => lv_aload_n hx hb dX18_putBack_161 rfl (lv_at hl 0 rfl) (k ls hl)) ?_
      refine Jgd (fun hg => ?_)
      refine Jcl (fun x23 hq => ?_)
      refine Jrow (fun H locs ls hH hS hl k => c_get (F := 102) (v := .ref x23) hx hb hts hown hK hH hg (hts _ q1241) (fun _ h => h) (fvR rfl hq) dX18_putBack_162 (k ls hl)) ?_
      clear hq
      refine Jrow (fun H locs ls hH hS hl k => lv_aload_n hx hb dX18_putBack_165 rfl (lv_at hl 0 rfl) (k ls hl)) ?_
      refine Jgd (fun hg => ?_)
      refine Jrow (fun H locs ls hH hS hl k => c_get (F := 98) (v := .int (cFI σ22 a0 98)) hx hb hts hown hK hH hg (hts _ q1237) (fun _ h => h) rfl dX18_putBack_166 (k ls hl)) ?_
      refine Jgd (fun hg => ?_)
      refine Jst (σ1 := uFI σ22 x23 25 (cFI σ22 a0 98)) rfl rfl (fun H locs ls hH hS hl k => c_putIN (F := 25) (ty := .int) (x := (cFI σ22 a0 98)) hx hb hts hown hK hH hS hg (cN hk.2.2.1 69 rfl) (fun _ h => h) rfl rfl (by decide +kernel) rfl rfl rfl dX18_putBack_169 k) (fun σ24 => ?_)
      exact Jvret hx hb hr hlocks dX18_putBack_172
    · refine Jrow (fun H locs ls hH hS hl k => lv_icmp_ge (tgt := 143) hx hb dX18_putBack_94 (by decide) (fun h => absurd h hc) (fun _ => (k ls hl))) ?_
      clear hc
      refine Jrow (fun H locs ls hH hS hl k => lv_aload_n hx hb dX18_putBack_97 rfl (lv_at hl 0 rfl) (k ls hl)) ?_
      refine Jgd (fun hg => ?_)
      refine Jcl (fun x25 hq => ?_)
      refine Jrow (fun H locs ls hH hS hl k => c_get (F := 102) (v := .ref x25) hx hb hts hown hK hH hg (hts _ q1241) (fun _ h => h) (fvR rfl hq) dX18_putBack_98 (k ls hl)) ?_
      clear hq
      refine Jgd (fun hg => ?_)
      refine Jcl (fun x26 hq => ?_)
      refine Jrow (fun H locs ls hH hS hl k => c_getN (F := 38) (v := .ref x26) hx hb hts hown hK hH hg (cN hk.2.2.1 72 rfl) (fun _ h => h) (fvR rfl hq) dX18_putBack_101 (k ls hl)) ?_
      clear hq
      refine Jrow (fun H locs ls hH hS hl k => lv_iload_n hx hb dX18_putBack_104 rfl (lv_at hl 1 rfl) (k ls hl)) ?_
      refine Jgd (fun hg => ?_)
      refine Jcl2 (fun x28 σ27 hf => ?_)
      refine Jcall (v := (some (.ref x28))) (rest := []) (mJ2_get l E hf).1 ⟨rfl, rfl⟩ (fun H locs ls hH hS hl hR => ⟨_, va_runV (C := RJ2) (As := [.int x16]) ⟨hx, hb, hml, hown, hts⟩ (mJ2_get l E hf).2 (cwV 1 hts (lw_V q1230 q606 q607 q91 q608) rfl rfl rfl (by decide +kernel) ⟨Nat.le_of_ble_eq_true rfl, Nat.le_of_ble_eq_true rfl⟩) (c_preV (ci := 19) hk hH hS hg rfl) rfl rfl hl.1 rfl (lv_room (Nat.le_of_ble_eq_true rfl)) dX18_putBack_105 hR⟩) ?_
      clear hf
      refine Jgd (fun hg => ?_)
      refine Jrow (fun H locs ls hH hS hl k => c_instX16 hx hb hown (hts _ q1233) hk hH hg dX18_putBack_108 (k ls hl)) ?_
      refine JbdI (fun x29 => ?_)
      refine Jjn1 (fun (σ30 : CS) X39 => J p l e (headSpec (ws_ yX18_putBack cX18_putBack 2 none) (rmC 4 128 σ σz)).room s m ([.ref a0] : List Value).toArray below meth c 2 E (cZ σ) (cS σ) (MQ below (cQ E none σz) ([.ref a0] : List Value).toArray s (cZ σz - cZ σ) (cS σz - cS σ) (EA E)) ((), σz) X39 σ30 137 [(0, .ref a0), (1, .int x16)] []) (fun σ30 => ?_) (fun k31 hk31 => ?_)
      · refine Jbd (fun x32 ex32 => ?_)
        refine Jrow (fun H locs ls hH hS hl k => lv_iinc (v := x32) (lv' := [(1, .int x32), (0, .ref a0)]) hx hb dX18_putBack_137 hl (k := 1) rfl (by rw [ex32]; rfl) (by decide) rfl k) ?_
        clear ex32
        refine Jrow (fun H locs ls hH hS hl k => lv_goto (tgt := 89) hx hb dX18_putBack_140 (by decide) (k ls hl)) ?_
        exact Jsub [1, 0] rfl (hk18 x32 σ30)
      · refine Jite (fun hc => ?_) (fun hc => ?_)
        · refine Jrow (fun H locs ls hH hS hl k => lv_if_eq (tgt := 137) hx hb dX18_putBack_111 (by decide) (fun _ => (k ls hl)) (fun h => absurd hc h)) ?_
          clear hc
          exact Jsub [0, 1] rfl (hk31 σ27)
        · refine Jrow (fun H locs ls hH hS hl k => lv_if_eq (tgt := 137) hx hb dX18_putBack_111 (by decide) (fun h => absurd h hc) (fun _ => (k ls hl))) ?_
          clear hc
          refine Jrow (fun H locs ls hH hS hl k => lv_aload_n hx hb dX18_putBack_114 rfl (lv_at hl 0 rfl) (k ls hl)) ?_
          refine Jgd (fun hg => ?_)
          refine Jcl (fun x33 hq => ?_)
          refine Jrow (fun H locs ls hH hS hl k => c_get (F := 102) (v := .ref x33) hx hb hts hown hK hH hg (hts _ q1241) (fun _ h => h) (fvR rfl hq) dX18_putBack_115 (k ls hl)) ?_
          clear hq
          refine Jgd (fun hg => ?_)
          refine Jcl (fun x34 hq => ?_)
          refine Jrow (fun H locs ls hH hS hl k => c_getN (F := 38) (v := .ref x34) hx hb hts hown hK hH hg (cN hk.2.2.1 72 rfl) (fun _ h => h) (fvR rfl hq) dX18_putBack_118 (k ls hl)) ?_
          clear hq
          refine Jrow (fun H locs ls hH hS hl k => lv_iload_n hx hb dX18_putBack_121 rfl (lv_at hl 1 rfl) (k ls hl)) ?_
          refine Jgd (fun hg => ?_)
          refine Jcl2 (fun x36 σ35 hf => ?_)
          refine Jcall (v := (some (.ref x36))) (rest := []) (mJ2_get l E hf).1 ⟨rfl, rfl⟩ (fun H locs ls hH hS hl hR => ⟨_, va_runV (C := RJ2) (As := [.int x16]) ⟨hx, hb, hml, hown, hts⟩ (mJ2_get l E hf).2 (cwV 1 hts (lw_V q1230 q606 q607 q91 q608) rfl rfl rfl (by decide +kernel) ⟨Nat.le_of_ble_eq_true rfl, Nat.le_of_ble_eq_true rfl⟩) (c_preV (ci := 19) hk hH hS hg rfl) rfl rfl hl.1 rfl (lv_room (Nat.le_of_ble_eq_true rfl)) dX18_putBack_122 hR⟩) ?_
          clear hf
          refine Jgd (fun hg => ?_)
          refine Jrow (fun H locs ls hH hS hl k => va_castE hx hb hown (hts _ q1233) (c_recv hK hH (ci := 16) hg rfl) dX18_putBack_125 (k ls hl)) ?_
          refine Jrow (fun H locs ls hH hS hl k => lv_aload_n hx hb dX18_putBack_128 rfl (lv_at hl 0 rfl) (k ls hl)) ?_
          refine Jgd (fun hg => ?_)
          refine Jcl (fun x37 hq => ?_)
          refine Jrow (fun H locs ls hH hS hl k => c_get (F := 101) (v := .ref x37) hx hb hts hown hK hH hg (hts _ q1240) (fun _ h => h) (fvR rfl hq) dX18_putBack_129 (k ls hl)) ?_
          clear hq
          refine Jrow (fun H locs ls hH hS hl k => lv_iload_n hx hb dX18_putBack_132 rfl (lv_at hl 1 rfl) (k ls hl)) ?_
          refine Jgd (fun hk1 => ?_)
          refine Jgd (fun hg => ?_)
          refine Jrow (fun H locs ls hH hS hl k => c_iald hx hb hK hH hk1 hg dX18_putBack_133 (k ls hl)) ?_
          refine Jgd (fun hg => ?_)
          refine Jst (σ1 := uFI σ35 x36 92 (cAI σ35 x37 x16.toNatClampNeg)) rfl rfl (fun H locs ls hH hS hl k => c_putIN (F := 92) (ty := .int) (x := (cAI σ35 x37 x16.toNatClampNeg)) hx hb hts hown hK hH hS hg (cN hk.2.2.1 74 rfl) (fun _ h => h) rfl rfl (by decide +kernel) rfl rfl rfl dX18_putBack_134 k) (fun σ38 => ?_)
          exact Jsub [0, 1] rfl (hk31 σ38)
  · refine Jrow (fun H locs ls hH hS hl k => lv_icmp_ge (tgt := 87) hx hb dX18_putBack_52 (by decide) (fun h => absurd h hc) (fun _ => (k ls hl))) ?_
    clear hc
    refine Jrow (fun H locs ls hH hS hl k => lv_aload_n hx hb dX18_putBack_55 rfl (lv_at hl 0 rfl) (k ls hl)) ?_
    refine Jgd (fun hg => ?_)
    refine Jcl (fun x41 hq => ?_)
    refine Jrow (fun H locs ls hH hS hl k => c_get (F := 102) (v := .ref x41) hx hb hts hown hK hH hg (hts _ q1241) (fun _ h => h) (fvR rfl hq) dX18_putBack_56 (k ls hl)) ?_
    clear hq
    refine Jgd (fun hg => ?_)
    refine Jcl (fun x42 hq => ?_)
    refine Jrow (fun H locs ls hH hS hl k => c_getN (F := 28) (v := .ref x42) hx hb hts hown hK hH hg (cN hk.2.2.1 71 rfl) (fun _ h => h) (fvR rfl hq) dX18_putBack_59 (k ls hl)) ?_
    clear hq
    refine Jrow (fun H locs ls hH hS hl k => lv_iload_n hx hb dX18_putBack_62 rfl (lv_at hl 1 rfl) (k ls hl)) ?_
    refine Jgd (fun hg => ?_)
    refine Jcl2 (fun x44 σ43 hf => ?_)
    refine Jcall (v := (some (.ref x44))) (rest := []) (mJ2_get l E hf).1 ⟨rfl, rfl⟩ (fun H locs ls hH hS hl hR => ⟨_, va_runV (C := RJ2) (As := [.int x13]) ⟨hx, hb, hml, hown, hts⟩ (mJ2_get l E hf).2 (cwV 1 hts (lw_V q1230 q606 q607 q91 q608) rfl rfl rfl (by decide +kernel) ⟨Nat.le_of_ble_eq_true rfl, Nat.le_of_ble_eq_true rfl⟩) (c_preV (ci := 19) hk hH hS hg rfl) rfl rfl hl.1 rfl (lv_room (Nat.le_of_ble_eq_true rfl)) dX18_putBack_63 hR⟩) ?_
    clear hf
    refine Jgd (fun hg => ?_)
    refine Jrow (fun H locs ls hH hS hl k => va_castE hx hb hown (hts _ q1231) (c_recv hK hH (ci := 10) hg rfl) dX18_putBack_66 (k ls hl)) ?_
    refine Jgd (fun hg => ?_)
    refine Jcl (fun x45 hq => ?_)
    refine Jrow (fun H locs ls hH hS hl k => c_getN (F := 83) (v := .ref x45) hx hb hts hown hK hH hg (cN hk.2.2.1 73 rfl) (fun _ h => h) (fvR rfl hq) dX18_putBack_69 (k ls hl)) ?_
    clear hq
    refine Jrow (fun H locs ls hH hS hl k => lv_aload_n hx hb dX18_putBack_72 rfl (lv_at hl 0 rfl) (k ls hl)) ?_
    refine Jgd (fun hg => ?_)
    refine Jcl (fun x46 hq => ?_)
    refine Jrow (fun H locs ls hH hS hl k => c_get (F := 100) (v := .ref x46) hx hb hts hown hK hH hg (hts _ q1239) (fun _ h => h) (fvR rfl hq) dX18_putBack_73 (k ls hl)) ?_
    clear hq
    refine Jrow (fun H locs ls hH hS hl k => lv_iload_n hx hb dX18_putBack_76 rfl (lv_at hl 1 rfl) (k ls hl)) ?_
    refine Jgd (fun hk1 => ?_)
    refine Jgd (fun hg => ?_)
    refine Jcl (fun x47 hq => ?_)
    refine Jrow (fun H locs ls hH hS hl k => c_aald (t := 6) (q := some x47) hx hb hK hH (by decide) (by decide) hk1 hg hq dX18_putBack_77 (k ls hl)) ?_
    clear hq
    refine Jgd (fun hg => ?_)
    refine Jcl2 (fun _ σ48 hf => ?_)
    refine Jcall (v := none) (rest := []) (mX2_become l E hf).1 ⟨rfl, rfl⟩ (fun H locs ls hH hS hl hR => ⟨_, va_runV (C := RX2) (As := [.ref x47]) ⟨hx, hb, hml, hown, hts⟩ (mX2_become l E hf).2 (cwV 1 hts (lw_V q1232 q918 q919 q93 q920) rfl rfl rfl (by decide +kernel) ⟨Nat.le_of_ble_eq_true rfl, Nat.le_of_ble_eq_true rfl⟩) (c_preV (ci := 3) hk hH hS hg rfl) rfl rfl hl.1 rfl (lv_room (Nat.le_of_ble_eq_true rfl)) dX18_putBack_78 hR⟩) ?_
    clear hf
    refine Jbd (fun x50 ex50 => ?_)
    refine Jrow (fun H locs ls hH hS hl k => lv_iinc (v := x50) (lv' := [(1, .int x50), (0, .ref a0)]) hx hb dX18_putBack_81 hl (k := 1) rfl (by rw [ex50]; rfl) (by decide) rfl k) ?_
    clear ex50
    refine Jrow (fun H locs ls hH hS hl k => lv_goto (tgt := 47) hx hb dX18_putBack_84 (by decide) (k ls hl)) ?_
    exact Jsub [1, 0] rfl (hk15 x50 σ48)

def fX18_init (a0 : Nat) (p1 : Nat) (σ : CS) : Option (Unit × CS) :=
 gd (hf (cK σ a0) 102) (
 bd (uFR σ a0 102 (some p1)) (fun (σ1 : CS) =>
 gd (hf (cK σ1 a0) 102) (
 cl (cFR σ1 a0 102) (fun (x2 : Nat) =>
 gd (hf (cK σ1 x2) 26) (
 cl (cFR σ1 x2 26) (fun (x3 : Nat) =>
 gd (kd σ1 x3 20) (
 cl2 (fJ2_size x3 σ1) (fun (x5 : Int32) (σ4 : CS) =>
 gd (hf (cK σ4 a0) 95) (
 bd (uFI σ4 a0 95 x5) (fun (σ6 : CS) =>
 gd (hf (cK σ6 a0) 102) (
 cl (cFR σ6 a0 102) (fun (x7 : Nat) =>
 gd (hf (cK σ6 x7) 28) (
 cl (cFR σ6 x7 28) (fun (x8 : Nat) =>
 gd (kd σ6 x8 20) (
 cl2 (fJ2_size x8 σ6) (fun (x10 : Int32) (σ9 : CS) =>
 gd (hf (cK σ9 a0) 96) (
 bd (uFI σ9 a0 96 x10) (fun (σ11 : CS) =>
 gd (hf (cK σ11 a0) 102) (
 cl (cFR σ11 a0 102) (fun (x12 : Nat) =>
 gd (hf (cK σ11 x12) 38) (
 cl (cFR σ11 x12 38) (fun (x13 : Nat) =>
 gd (kd σ11 x13 20) (
 cl2 (fJ2_size x13 σ11) (fun (x15 : Int32) (σ14 : CS) =>
 gd (hf (cK σ14 a0) 97) (
 bd (uFI σ14 a0 97 x15) (fun (σ16 : CS) =>
 gd (hf (cK σ16 a0) 102) (
 cl (cFR σ16 a0 102) (fun (x17 : Nat) =>
 gd (hf (cK σ16 x17) 25) (
 gd (hf (cK σ16 a0) 98) (
 bd (uFI σ16 a0 98 (cFI σ16 x17 25)) (fun (σ18 : CS) =>
 gd (hf (cK σ18 a0) 102) (
 cl (cFR σ18 a0 102) (fun (x19 : Nat) =>
 gd (hf (cK σ18 x19) 24) (
 cl (cFR σ18 x19 24) (fun (x20 : Nat) =>
 gd (kd σ18 x20 104) (
 gd (fitR (cAI σ18 x20) 0 (cLN σ18 x20)) (
 bd (clB σ18 x20) (fun (σ21 : CS) =>
 gd (kd σ21 (cZ σ18) 104) (
 gd (hf (cK σ21 a0) 99) (
 bd (uFR σ21 a0 99 (some (cZ σ18))) (fun (σ22 : CS) =>
 gd (hf (cK σ22 a0) 102) (
 cl (cFR σ22 a0 102) (fun (x23 : Nat) =>
 gd (hf (cK σ22 x23) 28) (
 cl (cFR σ22 x23 28) (fun (x24 : Nat) =>
 gd (kd σ22 x24 20) (
 cl2 (fJ2_size x24 σ22) (fun (x26 : Int32) (σ25 : CS) =>
 gd (na x26) (
 bd (nA σ25 107 x26.toNatClampNeg) (fun (σ27 : CS) =>
 gd (hf (cK σ27 a0) 100) (
 bd (uFR σ27 a0 100 (some (cZ σ25))) (fun (σ28 : CS) =>
 gd (hf (cK σ28 a0) 102) (
 cl (cFR σ28 a0 102) (fun (x29 : Nat) =>
 gd (hf (cK σ28 x29) 38) (
 cl (cFR σ28 x29 38) (fun (x30 : Nat) =>
 gd (kd σ28 x30 20) (
 cl2 (fJ2_size x30 σ28) (fun (x32 : Int32) (σ31 : CS) =>
 gd (na x32) (
 bd (nA σ31 101 x32.toNatClampNeg) (fun (σ33 : CS) =>
 gd (hf (cK σ33 a0) 101) (
 bd (uFR σ33 a0 101 (some (cZ σ31))) (fun (σ34 : CS) =>
 lp (fun _ _ => none) (fun (k37 : Int32 → CS → Option (Unit × CS)) (x35 : Int32) (σ36 : CS) =>
 gd (hf (cK σ36 a0) 96) (
 if (cFI σ36 a0 96) ≤ x35 then
 lp (fun _ _ => none) (fun (k40 : Int32 → CS → Option (Unit × CS)) (x38 : Int32) (σ39 : CS) =>
 gd (hf (cK σ39 a0) 97) (
 if (cFI σ39 a0 97) ≤ x38 then
 some ((), σ39)
 else
 gd (hf (cK σ39 p1) 38) (
 cl (cFR σ39 p1 38) (fun (x41 : Nat) =>
 gd (kd σ39 x41 20) (
 cl2 (fJ2_get x41 x38 σ39) (fun (x43 : Nat) (σ42 : CS) =>
 gd (isX11 (cK σ42 x43)) (
 bd (cond (kd σ42 x43 17) 1 0) (fun (x44 : Int32) =>
 jn (fun (σ45 : CS) => bd (x38 + (1:Int32)) (fun (x47 : Int32) =>
 k40 x47 σ45)) (fun (k46 : CS → Option (Unit × CS)) =>
 if x44 = (0:Int32) then
 k46 σ42
 else
 gd (hf (cK σ42 a0) 101) (
 cl (cFR σ42 a0 101) (fun (x48 : Nat) =>
 gd (hf (cK σ42 p1) 38) (
 cl (cFR σ42 p1 38) (fun (x49 : Nat) =>
 gd (kd σ42 x49 20) (
 cl2 (fJ2_get x49 x38 σ42) (fun (x51 : Nat) (σ50 : CS) =>
 gd (kd σ50 x51 17) (
 gd (hf (cK σ50 x51) 92) (
 gd (kd σ50 x48 101) (
 gd (ib x38 (cLN σ50 x48)) (
 bd (uAI σ50 x48 x38.toNatClampNeg (cFI σ50 x51 92)) (fun (σ52 : CS) =>
 k46 σ52)))))))))))))))))))) NF (0:Int32) σ36
 else
 gd (hf (cK σ36 a0) 100) (
 cl (cFR σ36 a0 100) (fun (x55 : Nat) =>
 bd (nO σ36 4 6) (fun (σ56 : CS) =>
 cl2 (fX2_init (cZ σ36) σ56) (fun (_ : Unit) (σ57 : CS) =>
 gd (kd σ57 x55 107) (
 gd (ib x35 (cLN σ57 x55)) (
 gd (kd σ57 (cZ σ36) 4) (
 bd (uAR σ57 x55 x35.toNatClampNeg (some (cZ σ36))) (fun (σ59 : CS) =>
 gd (hf (cK σ59 a0) 100) (
 cl (cFR σ59 a0 100) (fun (x60 : Nat) =>
 gd (kd σ59 x60 107) (
 gd (ib x35 (cLN σ59 x60)) (
 cl (cAR σ59 x60 x35.toNatClampNeg) (fun (x61 : Nat) =>
 gd (hf (cK σ59 p1) 28) (
 cl (cFR σ59 p1 28) (fun (x62 : Nat) =>
 gd (kd σ59 x62 20) (
 cl2 (fJ2_get x62 x35 σ59) (fun (x64 : Nat) (σ63 : CS) =>
 gd (kd σ63 x64 11) (
 gd (hf (cK σ63 x64) 83) (
 cl (cFR σ63 x64 83) (fun (x65 : Nat) =>
 gd (kd σ63 x61 4) (
 cl2 (fX2_become x61 x65 σ63) (fun (_ : Unit) (σ66 : CS) =>
 bd (x35 + (1:Int32)) (fun (x68 : Int32) =>
 k37 x68 σ66))))))))))))))))))))))))) NF (0:Int32) σ34)))))))))))))))))))))))))))))))))))))))))))))))))))))))))))))
theorem nX18_init {a0 : Nat} {p1 : Nat} {σ : CS} : Mn σ (fX18_init a0 p1 σ) := by
  unfold fX18_init
  refine Mgd ?_
  refine Mst (Nat.le_refl _) (Nat.le_refl _) (fun σ1 => ?_)
  refine Mgd ?_
  refine Mcl (fun x2 => ?_)
  refine Mgd ?_
  refine Mcl (fun x3 => ?_)
  refine Mgd ?_
  refine Mcl2 (nJ2_size) (fun x5 σ4 => ?_)
  refine Mgd ?_
  refine Mst (Nat.le_refl _) (Nat.le_refl _) (fun σ6 => ?_)
  refine Mgd ?_
  refine Mcl (fun x7 => ?_)
  refine Mgd ?_
  refine Mcl (fun x8 => ?_)
  refine Mgd ?_
  refine Mcl2 (nJ2_size) (fun x10 σ9 => ?_)
  refine Mgd ?_
  refine Mst (Nat.le_refl _) (Nat.le_refl _) (fun σ11 => ?_)
  refine Mgd ?_
  refine Mcl (fun x12 => ?_)
  refine Mgd ?_
  refine Mcl (fun x13 => ?_)
  refine Mgd ?_
  refine Mcl2 (nJ2_size) (fun x15 σ14 => ?_)
  refine Mgd ?_
  refine Mst (Nat.le_refl _) (Nat.le_refl _) (fun σ16 => ?_)
  refine Mgd ?_
  refine Mcl (fun x17 => ?_)
  refine Mgd ?_
  refine Mgd ?_
  refine Mst (Nat.le_refl _) (Nat.le_refl _) (fun σ18 => ?_)
  refine Mgd ?_
  refine Mcl (fun x19 => ?_)
  refine Mgd ?_
  refine Mcl (fun x20 => ?_)
  refine Mgd ?_
  refine Mgd ?_
  refine Mst (Nat.le_succ _) (Nat.le_add_right _ _) (fun σ21 => ?_)
  refine Mgd ?_
  refine Mgd ?_
  refine Mst (Nat.le_refl _) (Nat.le_refl _) (fun σ22 => ?_)
  refine Mgd ?_
  refine Mcl (fun x23 => ?_)
  refine Mgd ?_
  refine Mcl (fun x24 => ?_)
  refine Mgd ?_
  refine Mcl2 (nJ2_size) (fun x26 σ25 => ?_)
  refine Mgd ?_
  refine Mst (Nat.le_succ _) (Nat.le_add_right _ _) (fun σ27 => ?_)
  refine Mgd ?_
  refine Mst (Nat.le_refl _) (Nat.le_refl _) (fun σ28 => ?_)
  refine Mgd ?_
  refine Mcl (fun x29 => ?_)
  refine Mgd ?_
  refine Mcl (fun x30 => ?_)
  refine Mgd ?_
  refine Mcl2 (nJ2_size) (fun x32 σ31 => ?_)
  refine Mgd ?_
  refine Mst (Nat.le_succ _) (Nat.le_add_right _ _) (fun σ33 => ?_)
  refine Mgd ?_
  refine Mst (Nat.le_refl _) (Nat.le_refl _) (fun σ34 => ?_)
  refine Plp2 (fun (x35 : Int32) (σ36 : CS) (X69 : Option (Unit × CS)) => Mn σ36 X69) (fun _ _ => Mnone) (fun k37 hk37 x35 σ36 => ?_)
  refine Mgd ?_
  refine Mite ?_ ?_
  · refine Plp2 (fun (x38 : Int32) (σ39 : CS) (X54 : Option (Unit × CS)) => Mn σ39 X54) (fun _ _ => Mnone) (fun k40 hk40 x38 σ39 => ?_)
    refine Mgd ?_
    refine Mite ?_ ?_
    · exact Mret
    · refine Mgd ?_
      refine Mcl (fun x41 => ?_)
      refine Mgd ?_
      refine Mcl2 (nJ2_get) (fun x43 σ42 => ?_)
      refine Mgd ?_
      refine Mbd (fun x44 => ?_)
      refine Mjn1 (fun (σ45 : CS) (X53 : Option (Unit × CS)) => Mn σ45 X53) (fun σ45 => ?_) (fun k46 hk46 => ?_)
      · refine Mbd (fun x47 => ?_)
        exact hk40 x47 σ45
      · refine Mite ?_ ?_
        · exact hk46 σ42
        · refine Mgd ?_
          refine Mcl (fun x48 => ?_)
          refine Mgd ?_
          refine Mcl (fun x49 => ?_)
          refine Mgd ?_
          refine Mcl2 (nJ2_get) (fun x51 σ50 => ?_)
          refine Mgd ?_
          refine Mgd ?_
          refine Mgd ?_
          refine Mgd ?_
          refine Mst (Nat.le_refl _) (Nat.le_refl _) (fun σ52 => ?_)
          exact hk46 σ52
  · refine Mgd ?_
    refine Mcl (fun x55 => ?_)
    refine Mst (Nat.le_succ _) (Nat.le_add_right _ _) (fun σ56 => ?_)
    refine Mcl2 (nX2_init) (fun _ σ57 => ?_)
    refine Mgd ?_
    refine Mgd ?_
    refine Mgd ?_
    refine Mst (Nat.le_refl _) (Nat.le_refl _) (fun σ59 => ?_)
    refine Mgd ?_
    refine Mcl (fun x60 => ?_)
    refine Mgd ?_
    refine Mgd ?_
    refine Mcl (fun x61 => ?_)
    refine Mgd ?_
    refine Mcl (fun x62 => ?_)
    refine Mgd ?_
    refine Mcl2 (nJ2_get) (fun x64 σ63 => ?_)
    refine Mgd ?_
    refine Mgd ?_
    refine Mcl (fun x65 => ?_)
    refine Mgd ?_
    refine Mcl2 (nX2_become) (fun _ σ66 => ?_)
    refine Mbd (fun x68 => ?_)
    exact hk37 x68 σ66
set_option maxHeartbeats 4000000 in
set_option maxRecDepth 100000 in
theorem mX18_init (l : Launch) (E : CE) {a0 : Nat} {p1 : Nat} {σ : CS} {σz : CS} (hX : fX18_init a0 p1 σ = some ((), σz)) : MetC l yX18_init (ws_ yX18_init cX18_init 3 none) 3 81 E σ [.ref a0, .ref p1] none σz := by
  refine MetC.of hX (by decide) (Nat.le_of_ble_eq_true rfl) (nX18_init _ hX) ?_
  intro p e s m below meth c hx hb hr hml hts hown hlocks hnm hk hz0
  have hK := hk.1
  show J p l e (headSpec (ws_ yX18_init cX18_init 3 none) (rmC 3 81 σ σz)).room s m ([.ref a0, .ref p1] : List Value).toArray below meth c 3 E (cZ σ) (cS σ) (MQ below (cQ E none σz) ([.ref a0, .ref p1] : List Value).toArray s (cZ σz - cZ σ) (cS σz - cS σ) (EA E)) ((), σz) (fX18_init a0 p1 σ) σ 0 [(0, .ref a0), (1, .ref p1)] []
  unfold fX18_init
  refine Jrow (fun H locs ls hH hS hl k => lv_aload_n hx hb dX18_init_0 rfl (lv_at hl 0 rfl) (k ls hl)) ?_
  refine Jrow (fun H locs ls hH hS hl k => lv_aload_n hx hb dX18_init_1 rfl (lv_at hl 1 rfl) (k ls hl)) ?_
  refine Jgd (fun hg => ?_)
  refine Jst (σ1 := uFR σ a0 102 (some p1)) rfl rfl (fun H locs ls hH hS hl k => c_putRF (F := 102) (ty := (.object "FortyDays")) (x := (some p1)) hx hb hts hown hK hH hS hg (hts _ q1241) (fun _ h => h) rfl hnm rfl rfl (by decide +kernel) rfl rfl rfl dX18_init_2 k) (fun σ1 => ?_)
  refine Jrow (fun H locs ls hH hS hl k => lv_aload_n hx hb dX18_init_5 rfl (lv_at hl 0 rfl) (k ls hl)) ?_
  refine Jrow (fun H locs ls hH hS hl k => W.objInit hx hb hown (hts _ q1219) (hts _ q127) (hts _ q128) rfl (by rw [hml]; exact hl.1) rfl dX18_init_6 (Nat.le_of_ble_eq_true rfl) (Nat.le_of_ble_eq_true rfl) (W.eq (g2 := F0 m 9 ls []) rfl (k ls hl))) ?_
  refine Jrow (fun H locs ls hH hS hl k => lv_aload_n hx hb dX18_init_9 rfl (lv_at hl 0 rfl) (k ls hl)) ?_
  refine Jrow (fun H locs ls hH hS hl k => lv_aload_n hx hb dX18_init_10 rfl (lv_at hl 0 rfl) (k ls hl)) ?_
  refine Jgd (fun hg => ?_)
  refine Jcl (fun x2 hq => ?_)
  refine Jrow (fun H locs ls hH hS hl k => c_get (F := 102) (v := .ref x2) hx hb hts hown hK hH hg (hts _ q1241) (fun _ h => h) (fvR rfl hq) dX18_init_11 (k ls hl)) ?_
  clear hq
  refine Jgd (fun hg => ?_)
  refine Jcl (fun x3 hq => ?_)
  refine Jrow (fun H locs ls hH hS hl k => c_getN (F := 26) (v := .ref x3) hx hb hts hown hK hH hg (cN hk.2.2.1 70 rfl) (fun _ h => h) (fvR rfl hq) dX18_init_14 (k ls hl)) ?_
  clear hq
  refine Jgd (fun hg => ?_)
  refine Jcl2 (fun x5 σ4 hf => ?_)
  refine Jcall (v := (some (.int x5))) (rest := [.ref a0]) (mJ2_size l E hf).1 ⟨rfl, rfl⟩ (fun H locs ls hH hS hl hR => ⟨_, va_runV (C := RJ2) (As := []) ⟨hx, hb, hml, hown, hts⟩ (mJ2_size l E hf).2 (cwV 0 hts (lw_V q1220 q328 q329 q91 q330) rfl rfl rfl (by decide +kernel) ⟨Nat.le_of_ble_eq_true rfl, Nat.le_of_ble_eq_true rfl⟩) (c_preV (ci := 19) hk hH hS hg rfl) rfl rfl hl.1 rfl (lv_room (Nat.le_of_ble_eq_true rfl)) dX18_init_17 hR⟩) ?_
  clear hf
  refine Jgd (fun hg => ?_)
  refine Jst (σ1 := uFI σ4 a0 95 x5) rfl rfl (fun H locs ls hH hS hl k => c_putIF (F := 95) (ty := .int) (x := x5) hx hb hts hown hK hH hS hg (hts _ q1234) (fun _ h => h) rfl hnm rfl rfl (by decide +kernel) rfl rfl rfl dX18_init_20 k) (fun σ6 => ?_)
  refine Jrow (fun H locs ls hH hS hl k => lv_aload_n hx hb dX18_init_23 rfl (lv_at hl 0 rfl) (k ls hl)) ?_
  refine Jrow (fun H locs ls hH hS hl k => lv_aload_n hx hb dX18_init_24 rfl (lv_at hl 0 rfl) (k ls hl)) ?_
  refine Jgd (fun hg => ?_)
  refine Jcl (fun x7 hq => ?_)
  refine Jrow (fun H locs ls hH hS hl k => c_get (F := 102) (v := .ref x7) hx hb hts hown hK hH hg (hts _ q1241) (fun _ h => h) (fvR rfl hq) dX18_init_25 (k ls hl)) ?_
  clear hq
  refine Jgd (fun hg => ?_)
  refine Jcl (fun x8 hq => ?_)
  refine Jrow (fun H locs ls hH hS hl k => c_getN (F := 28) (v := .ref x8) hx hb hts hown hK hH hg (cN hk.2.2.1 71 rfl) (fun _ h => h) (fvR rfl hq) dX18_init_28 (k ls hl)) ?_
  clear hq
  refine Jgd (fun hg => ?_)
  refine Jcl2 (fun x10 σ9 hf => ?_)
  refine Jcall (v := (some (.int x10))) (rest := [.ref a0]) (mJ2_size l E hf).1 ⟨rfl, rfl⟩ (fun H locs ls hH hS hl hR => ⟨_, va_runV (C := RJ2) (As := []) ⟨hx, hb, hml, hown, hts⟩ (mJ2_size l E hf).2 (cwV 0 hts (lw_V q1220 q328 q329 q91 q330) rfl rfl rfl (by decide +kernel) ⟨Nat.le_of_ble_eq_true rfl, Nat.le_of_ble_eq_true rfl⟩) (c_preV (ci := 19) hk hH hS hg rfl) rfl rfl hl.1 rfl (lv_room (Nat.le_of_ble_eq_true rfl)) dX18_init_31 hR⟩) ?_
  clear hf
  refine Jgd (fun hg => ?_)
  refine Jst (σ1 := uFI σ9 a0 96 x10) rfl rfl (fun H locs ls hH hS hl k => c_putIF (F := 96) (ty := .int) (x := x10) hx hb hts hown hK hH hS hg (hts _ q1235) (fun _ h => h) rfl hnm rfl rfl (by decide +kernel) rfl rfl rfl dX18_init_34 k) (fun σ11 => ?_)
  refine Jrow (fun H locs ls hH hS hl k => lv_aload_n hx hb dX18_init_37 rfl (lv_at hl 0 rfl) (k ls hl)) ?_
  refine Jrow (fun H locs ls hH hS hl k => lv_aload_n hx hb dX18_init_38 rfl (lv_at hl 0 rfl) (k ls hl)) ?_
  refine Jgd (fun hg => ?_)
  refine Jcl (fun x12 hq => ?_)
  refine Jrow (fun H locs ls hH hS hl k => c_get (F := 102) (v := .ref x12) hx hb hts hown hK hH hg (hts _ q1241) (fun _ h => h) (fvR rfl hq) dX18_init_39 (k ls hl)) ?_
  clear hq
  refine Jgd (fun hg => ?_)
  refine Jcl (fun x13 hq => ?_)
  refine Jrow (fun H locs ls hH hS hl k => c_getN (F := 38) (v := .ref x13) hx hb hts hown hK hH hg (cN hk.2.2.1 72 rfl) (fun _ h => h) (fvR rfl hq) dX18_init_42 (k ls hl)) ?_
  clear hq
  refine Jgd (fun hg => ?_)
  refine Jcl2 (fun x15 σ14 hf => ?_)
  refine Jcall (v := (some (.int x15))) (rest := [.ref a0]) (mJ2_size l E hf).1 ⟨rfl, rfl⟩ (fun H locs ls hH hS hl hR => ⟨_, va_runV (C := RJ2) (As := []) ⟨hx, hb, hml, hown, hts⟩ (mJ2_size l E hf).2 (cwV 0 hts (lw_V q1220 q328 q329 q91 q330) rfl rfl rfl (by decide +kernel) ⟨Nat.le_of_ble_eq_true rfl, Nat.le_of_ble_eq_true rfl⟩) (c_preV (ci := 19) hk hH hS hg rfl) rfl rfl hl.1 rfl (lv_room (Nat.le_of_ble_eq_true rfl)) dX18_init_45 hR⟩) ?_
  clear hf
  refine Jgd (fun hg => ?_)
  refine Jst (σ1 := uFI σ14 a0 97 x15) rfl rfl (fun H locs ls hH hS hl k => c_putIF (F := 97) (ty := .int) (x := x15) hx hb hts hown hK hH hS hg (hts _ q1236) (fun _ h => h) rfl hnm rfl rfl (by decide +kernel) rfl rfl rfl dX18_init_48 k) (fun σ16 => ?_)
  refine Jrow (fun H locs ls hH hS hl k => lv_aload_n hx hb dX18_init_51 rfl (lv_at hl 0 rfl) (k ls hl)) ?_
  refine Jrow (fun H locs ls hH hS hl k => lv_aload_n hx hb dX18_init_52 rfl (lv_at hl 0 rfl) (k ls hl)) ?_
  refine Jgd (fun hg => ?_)
  refine Jcl (fun x17 hq => ?_)
  refine Jrow (fun H locs ls hH hS hl k => c_get (F := 102) (v := .ref x17) hx hb hts hown hK hH hg (hts _ q1241) (fun _ h => h) (fvR rfl hq) dX18_init_53 (k ls hl)) ?_
  clear hq
  refine Jgd (fun hg => ?_)
  refine Jrow (fun H locs ls hH hS hl k => c_getN (F := 25) (v := .int (cFI σ16 x17 25)) hx hb hts hown hK hH hg (cN hk.2.2.1 69 rfl) (fun _ h => h) rfl dX18_init_56 (k ls hl)) ?_
  refine Jgd (fun hg => ?_)
  refine Jst (σ1 := uFI σ16 a0 98 (cFI σ16 x17 25)) rfl rfl (fun H locs ls hH hS hl k => c_putIF (F := 98) (ty := .int) (x := (cFI σ16 x17 25)) hx hb hts hown hK hH hS hg (hts _ q1237) (fun _ h => h) rfl hnm rfl rfl (by decide +kernel) rfl rfl rfl dX18_init_59 k) (fun σ18 => ?_)
  refine Jrow (fun H locs ls hH hS hl k => lv_aload_n hx hb dX18_init_62 rfl (lv_at hl 0 rfl) (k ls hl)) ?_
  refine Jrow (fun H locs ls hH hS hl k => lv_aload_n hx hb dX18_init_63 rfl (lv_at hl 0 rfl) (k ls hl)) ?_
  refine Jgd (fun hg => ?_)
  refine Jcl (fun x19 hq => ?_)
  refine Jrow (fun H locs ls hH hS hl k => c_get (F := 102) (v := .ref x19) hx hb hts hown hK hH hg (hts _ q1241) (fun _ h => h) (fvR rfl hq) dX18_init_64 (k ls hl)) ?_
  clear hq
  refine Jgd (fun hg => ?_)
  refine Jcl (fun x20 hq => ?_)
  refine Jrow (fun H locs ls hH hS hl k => c_getN (F := 24) (v := .ref x20) hx hb hts hown hK hH hg (cN hk.2.2.1 68 rfl) (fun _ h => h) (fvR rfl hq) dX18_init_67 (k ls hl)) ?_
  clear hq
  refine Jgd (fun hk1 => ?_)
  refine Jgd (fun hft => ?_)
  refine Jnew (σ1 := clB σ18 x20) (n := cLN σ18 x20) rfl rfl ⟨rfl, rfl⟩ (fun H locs ls hH hS hl h1 h2 k => c_clone hx hb (hml.trans hl.1.symm) hown (hts _ q1221) (hts _ q1222) (hts _ q1223) (hts _ q1224) (hts _ q1225) (cN hk.2.2.1 94 rfl) hK hH hS hk.2.1 hk1 hft (Nat.le_of_ble_eq_true rfl) (Nat.le_of_ble_eq_true rfl) h1 h2 dX18_init_70 k) (fun σ21 eσ21 => ?_)
  clear eσ21
  refine Jgd (fun hg => ?_)
  refine Jrow (fun H locs ls hH hS hl k => va_castE hx hb hown (hts _ q1227) (c_recvB hK hH hg) dX18_init_73 (k ls hl)) ?_
  refine Jgd (fun hg => ?_)
  refine Jst (σ1 := uFR σ21 a0 99 (some (cZ σ18))) rfl rfl (fun H locs ls hH hS hl k => c_putRF (F := 99) (ty := (.array .byte)) (x := (some (cZ σ18))) hx hb hts hown hK hH hS hg (hts _ q1238) (fun _ h => h) rfl hnm rfl rfl (by decide +kernel) rfl rfl rfl dX18_init_76 k) (fun σ22 => ?_)
  refine Jrow (fun H locs ls hH hS hl k => lv_aload_n hx hb dX18_init_79 rfl (lv_at hl 0 rfl) (k ls hl)) ?_
  refine Jrow (fun H locs ls hH hS hl k => lv_aload_n hx hb dX18_init_80 rfl (lv_at hl 0 rfl) (k ls hl)) ?_
  refine Jgd (fun hg => ?_)
  refine Jcl (fun x23 hq => ?_)
  refine Jrow (fun H locs ls hH hS hl k => c_get (F := 102) (v := .ref x23) hx hb hts hown hK hH hg (hts _ q1241) (fun _ h => h) (fvR rfl hq) dX18_init_81 (k ls hl)) ?_
  clear hq
  refine Jgd (fun hg => ?_)
  refine Jcl (fun x24 hq => ?_)
  refine Jrow (fun H locs ls hH hS hl k => c_getN (F := 28) (v := .ref x24) hx hb hts hown hK hH hg (cN hk.2.2.1 71 rfl) (fun _ h => h) (fvR rfl hq) dX18_init_84 (k ls hl)) ?_
  clear hq
  refine Jgd (fun hg => ?_)
  refine Jcl2 (fun x26 σ25 hf => ?_)
  refine Jcall (v := (some (.int x26))) (rest := [.ref a0]) (mJ2_size l E hf).1 ⟨rfl, rfl⟩ (fun H locs ls hH hS hl hR => ⟨_, va_runV (C := RJ2) (As := []) ⟨hx, hb, hml, hown, hts⟩ (mJ2_size l E hf).2 (cwV 0 hts (lw_V q1220 q328 q329 q91 q330) rfl rfl rfl (by decide +kernel) ⟨Nat.le_of_ble_eq_true rfl, Nat.le_of_ble_eq_true rfl⟩) (c_preV (ci := 19) hk hH hS hg rfl) rfl rfl hl.1 rfl (lv_room (Nat.le_of_ble_eq_true rfl)) dX18_init_87 hR⟩) ?_
  clear hf
  refine Jgd (fun hg => ?_)
  refine Jnew (σ1 := nA σ25 107 x26.toNatClampNeg) (n := x26.toNatClampNeg) rfl rfl ⟨rfl, rfl⟩ (fun H locs ls hH hS hl h1 h2 k => c_newq (t := 6) hx hb hown (hts _ q1228) hk.2.2.2.2.2.2.2.2.1.1 hK hH hS hk.2.1 (by decide) (by decide) rfl hg h1 h2 dX18_init_90 k) (fun σ27 eσ27 => ?_)
  clear eσ27
  refine Jgd (fun hg => ?_)
  refine Jst (σ1 := uFR σ27 a0 100 (some (cZ σ25))) rfl rfl (fun H locs ls hH hS hl k => c_putRF (F := 100) (ty := (.array (.object "FortyDays$Thought"))) (x := (some (cZ σ25))) hx hb hts hown hK hH hS hg (hts _ q1239) (fun _ h => h) rfl hnm rfl rfl (by decide +kernel) rfl rfl rfl dX18_init_93 k) (fun σ28 => ?_)
  refine Jrow (fun H locs ls hH hS hl k => lv_aload_n hx hb dX18_init_96 rfl (lv_at hl 0 rfl) (k ls hl)) ?_
  refine Jrow (fun H locs ls hH hS hl k => lv_aload_n hx hb dX18_init_97 rfl (lv_at hl 0 rfl) (k ls hl)) ?_
  refine Jgd (fun hg => ?_)
  refine Jcl (fun x29 hq => ?_)
  refine Jrow (fun H locs ls hH hS hl k => c_get (F := 102) (v := .ref x29) hx hb hts hown hK hH hg (hts _ q1241) (fun _ h => h) (fvR rfl hq) dX18_init_98 (k ls hl)) ?_
  clear hq
  refine Jgd (fun hg => ?_)
  refine Jcl (fun x30 hq => ?_)
  refine Jrow (fun H locs ls hH hS hl k => c_getN (F := 38) (v := .ref x30) hx hb hts hown hK hH hg (cN hk.2.2.1 72 rfl) (fun _ h => h) (fvR rfl hq) dX18_init_101 (k ls hl)) ?_
  clear hq
  refine Jgd (fun hg => ?_)
  refine Jcl2 (fun x32 σ31 hf => ?_)
  refine Jcall (v := (some (.int x32))) (rest := [.ref a0]) (mJ2_size l E hf).1 ⟨rfl, rfl⟩ (fun H locs ls hH hS hl hR => ⟨_, va_runV (C := RJ2) (As := []) ⟨hx, hb, hml, hown, hts⟩ (mJ2_size l E hf).2 (cwV 0 hts (lw_V q1220 q328 q329 q91 q330) rfl rfl rfl (by decide +kernel) ⟨Nat.le_of_ble_eq_true rfl, Nat.le_of_ble_eq_true rfl⟩) (c_preV (ci := 19) hk hH hS hg rfl) rfl rfl hl.1 rfl (lv_room (Nat.le_of_ble_eq_true rfl)) dX18_init_104 hR⟩) ?_
  clear hf
  refine Jgd (fun hg => ?_)
  refine Jnew (σ1 := nA σ31 101 x32.toNatClampNeg) (n := x32.toNatClampNeg) rfl rfl ⟨rfl, rfl⟩ (fun H locs ls hH hS hl h1 h2 k => c_newa (t := 0) (ty := .int) hx hb hts hK hH hS hk.2.1 (by decide) rfl rfl (fun h => h) rfl (by decide) q219 hg h1 h2 dX18_init_107 k) (fun σ33 eσ33 => ?_)
  clear eσ33
  refine Jgd (fun hg => ?_)
  refine Jst (σ1 := uFR σ33 a0 101 (some (cZ σ31))) rfl rfl (fun H locs ls hH hS hl k => c_putRF (F := 101) (ty := (.array .int)) (x := (some (cZ σ31))) hx hb hts hown hK hH hS hg (hts _ q1240) (fun _ h => h) rfl hnm rfl rfl (by decide +kernel) rfl rfl rfl dX18_init_109 k) (fun σ34 => ?_)
  refine Jrow (fun H locs ls hH hS hl k => lv_iconst (v := (0:Int32)) hx hb dX18_init_112 (by decide) (k ls hl)) ?_
  refine Jrow (fun H locs ls hH hS hl k => lv_istore_n (lv' := [(2, .int (0:Int32)), (0, .ref a0), (1, .ref p1)]) hx hb dX18_init_113 rfl hl (by decide) rfl k) ?_
  refine Jsub [1, 2, 0] rfl (Plp2 (fun (x35 : Int32) (σ36 : CS) X69 => J p l e (headSpec (ws_ yX18_init cX18_init 3 none) (rmC 3 81 σ σz)).room s m ([.ref a0, .ref p1] : List Value).toArray below meth c 3 E (cZ σ) (cS σ) (MQ below (cQ E none σz) ([.ref a0, .ref p1] : List Value).toArray s (cZ σz - cZ σ) (cS σz - cS σ) (EA E)) ((), σz) X69 σ36 114 [(0, .ref a0), (1, .ref p1), (2, .int x35)] []) (fun _ _ => Jnone) (fun k37 hk37 x35 σ36 => ?_))
  refine Jrow (fun H locs ls hH hS hl k => lv_iload_n hx hb dX18_init_114 rfl (lv_at hl 2 rfl) (k ls hl)) ?_
  refine Jrow (fun H locs ls hH hS hl k => lv_aload_n hx hb dX18_init_115 rfl (lv_at hl 0 rfl) (k ls hl)) ?_
  refine Jgd (fun hg => ?_)
  refine Jrow (fun H locs ls hH hS hl k => c_get (F := 96) (v := .int (cFI σ36 a0 96)) hx hb hts hown hK hH hg (hts _ q1235) (fun _ h => h) rfl dX18_init_116 (k ls hl)) ?_
  refine Jite (fun hc => ?_) (fun hc => ?_)
  · refine Jrow (fun H locs ls hH hS hl k => lv_icmp_ge (tgt := 164) hx hb dX18_init_119 (by decide) (fun _ => (k ls hl)) (fun h => absurd hc h)) ?_
    clear hc
    refine Jrow (fun H locs ls hH hS hl k => lv_iconst (v := (0:Int32)) hx hb dX18_init_164 (by decide) (k ls hl)) ?_
    refine Jrow (fun H locs ls hH hS hl k => lv_istore_n (lv' := [(2, .int (0:Int32)), (0, .ref a0), (1, .ref p1)]) hx hb dX18_init_165 rfl hl (by decide) rfl k) ?_
    refine Jsub [1, 2, 0] rfl (Plp2 (fun (x38 : Int32) (σ39 : CS) X54 => J p l e (headSpec (ws_ yX18_init cX18_init 3 none) (rmC 3 81 σ σz)).room s m ([.ref a0, .ref p1] : List Value).toArray below meth c 3 E (cZ σ) (cS σ) (MQ below (cQ E none σz) ([.ref a0, .ref p1] : List Value).toArray s (cZ σz - cZ σ) (cS σz - cS σ) (EA E)) ((), σz) X54 σ39 166 [(0, .ref a0), (1, .ref p1), (2, .int x38)] []) (fun _ _ => Jnone) (fun k40 hk40 x38 σ39 => ?_))
    refine Jrow (fun H locs ls hH hS hl k => lv_iload_n hx hb dX18_init_166 rfl (lv_at hl 2 rfl) (k ls hl)) ?_
    refine Jrow (fun H locs ls hH hS hl k => lv_aload_n hx hb dX18_init_167 rfl (lv_at hl 0 rfl) (k ls hl)) ?_
    refine Jgd (fun hg => ?_)
    refine Jrow (fun H locs ls hH hS hl k => c_get (F := 97) (v := .int (cFI σ39 a0 97)) hx hb hts hown hK hH hg (hts _ q1236) (fun _ h => h) rfl dX18_init_168 (k ls hl)) ?_
    refine Jite (fun hc => ?_) (fun hc => ?_)
    · refine Jrow (fun H locs ls hH hS hl k => lv_icmp_ge (tgt := 214) hx hb dX18_init_171 (by decide) (fun _ => (k ls hl)) (fun h => absurd hc h)) ?_
      clear hc
      exact Jvret hx hb hr hlocks dX18_init_214
    · refine Jrow (fun H locs ls hH hS hl k => lv_icmp_ge (tgt := 214) hx hb dX18_init_171 (by decide) (fun h => absurd h hc) (fun _ => (k ls hl))) ?_
      clear hc
      refine Jrow (fun H locs ls hH hS hl k => lv_aload_n hx hb dX18_init_174 rfl (lv_at hl 1 rfl) (k ls hl)) ?_
      refine Jgd (fun hg => ?_)
      refine Jcl (fun x41 hq => ?_)
      refine Jrow (fun H locs ls hH hS hl k => c_getN (F := 38) (v := .ref x41) hx hb hts hown hK hH hg (cN hk.2.2.1 72 rfl) (fun _ h => h) (fvR rfl hq) dX18_init_175 (k ls hl)) ?_
      clear hq
      refine Jrow (fun H locs ls hH hS hl k => lv_iload_n hx hb dX18_init_178 rfl (lv_at hl 2 rfl) (k ls hl)) ?_
      refine Jgd (fun hg => ?_)
      refine Jcl2 (fun x43 σ42 hf => ?_)
      refine Jcall (v := (some (.ref x43))) (rest := []) (mJ2_get l E hf).1 ⟨rfl, rfl⟩ (fun H locs ls hH hS hl hR => ⟨_, va_runV (C := RJ2) (As := [.int x38]) ⟨hx, hb, hml, hown, hts⟩ (mJ2_get l E hf).2 (cwV 1 hts (lw_V q1230 q606 q607 q91 q608) rfl rfl rfl (by decide +kernel) ⟨Nat.le_of_ble_eq_true rfl, Nat.le_of_ble_eq_true rfl⟩) (c_preV (ci := 19) hk hH hS hg rfl) rfl rfl hl.1 rfl (lv_room (Nat.le_of_ble_eq_true rfl)) dX18_init_179 hR⟩) ?_
      clear hf
      refine Jgd (fun hg => ?_)
      refine Jrow (fun H locs ls hH hS hl k => c_instX16 hx hb hown (hts _ q1233) hk hH hg dX18_init_182 (k ls hl)) ?_
      refine JbdI (fun x44 => ?_)
      refine Jjn1 (fun (σ45 : CS) X53 => J p l e (headSpec (ws_ yX18_init cX18_init 3 none) (rmC 3 81 σ σz)).room s m ([.ref a0, .ref p1] : List Value).toArray below meth c 3 E (cZ σ) (cS σ) (MQ below (cQ E none σz) ([.ref a0, .ref p1] : List Value).toArray s (cZ σz - cZ σ) (cS σz - cS σ) (EA E)) ((), σz) X53 σ45 208 [(0, .ref a0), (1, .ref p1), (2, .int x38)] []) (fun σ45 => ?_) (fun k46 hk46 => ?_)
      · refine Jbd (fun x47 ex47 => ?_)
        refine Jrow (fun H locs ls hH hS hl k => lv_iinc (v := x47) (lv' := [(2, .int x47), (0, .ref a0), (1, .ref p1)]) hx hb dX18_init_208 hl (k := 2) rfl (by rw [ex47]; rfl) (by decide) rfl k) ?_
        clear ex47
        refine Jrow (fun H locs ls hH hS hl k => lv_goto (tgt := 166) hx hb dX18_init_211 (by decide) (k ls hl)) ?_
        exact Jsub [1, 2, 0] rfl (hk40 x47 σ45)
      · refine Jite (fun hc => ?_) (fun hc => ?_)
        · refine Jrow (fun H locs ls hH hS hl k => lv_if_eq (tgt := 208) hx hb dX18_init_185 (by decide) (fun _ => (k ls hl)) (fun h => absurd hc h)) ?_
          clear hc
          exact Jsub [0, 1, 2] rfl (hk46 σ42)
        · refine Jrow (fun H locs ls hH hS hl k => lv_if_eq (tgt := 208) hx hb dX18_init_185 (by decide) (fun h => absurd h hc) (fun _ => (k ls hl))) ?_
          clear hc
          refine Jrow (fun H locs ls hH hS hl k => lv_aload_n hx hb dX18_init_188 rfl (lv_at hl 0 rfl) (k ls hl)) ?_
          refine Jgd (fun hg => ?_)
          refine Jcl (fun x48 hq => ?_)
          refine Jrow (fun H locs ls hH hS hl k => c_get (F := 101) (v := .ref x48) hx hb hts hown hK hH hg (hts _ q1240) (fun _ h => h) (fvR rfl hq) dX18_init_189 (k ls hl)) ?_
          clear hq
          refine Jrow (fun H locs ls hH hS hl k => lv_iload_n hx hb dX18_init_192 rfl (lv_at hl 2 rfl) (k ls hl)) ?_
          refine Jrow (fun H locs ls hH hS hl k => lv_aload_n hx hb dX18_init_193 rfl (lv_at hl 1 rfl) (k ls hl)) ?_
          refine Jgd (fun hg => ?_)
          refine Jcl (fun x49 hq => ?_)
          refine Jrow (fun H locs ls hH hS hl k => c_getN (F := 38) (v := .ref x49) hx hb hts hown hK hH hg (cN hk.2.2.1 72 rfl) (fun _ h => h) (fvR rfl hq) dX18_init_194 (k ls hl)) ?_
          clear hq
          refine Jrow (fun H locs ls hH hS hl k => lv_iload_n hx hb dX18_init_197 rfl (lv_at hl 2 rfl) (k ls hl)) ?_
          refine Jgd (fun hg => ?_)
          refine Jcl2 (fun x51 σ50 hf => ?_)
          refine Jcall (v := (some (.ref x51))) (rest := [.int x38, .ref x48]) (mJ2_get l E hf).1 ⟨rfl, rfl⟩ (fun H locs ls hH hS hl hR => ⟨_, va_runV (C := RJ2) (As := [.int x38]) ⟨hx, hb, hml, hown, hts⟩ (mJ2_get l E hf).2 (cwV 1 hts (lw_V q1230 q606 q607 q91 q608) rfl rfl rfl (by decide +kernel) ⟨Nat.le_of_ble_eq_true rfl, Nat.le_of_ble_eq_true rfl⟩) (c_preV (ci := 19) hk hH hS hg rfl) rfl rfl hl.1 rfl (lv_room (Nat.le_of_ble_eq_true rfl)) dX18_init_198 hR⟩) ?_
          clear hf
          refine Jgd (fun hg => ?_)
          refine Jrow (fun H locs ls hH hS hl k => va_castE hx hb hown (hts _ q1233) (c_recv hK hH (ci := 16) hg rfl) dX18_init_201 (k ls hl)) ?_
          refine Jgd (fun hg => ?_)
          refine Jrow (fun H locs ls hH hS hl k => c_getN (F := 92) (v := .int (cFI σ50 x51 92)) hx hb hts hown hK hH hg (cN hk.2.2.1 74 rfl) (fun _ h => h) rfl dX18_init_204 (k ls hl)) ?_
          refine Jgd (fun hk1 => ?_)
          refine Jgd (fun hg => ?_)
          refine Jst (σ1 := uAI σ50 x48 x38.toNatClampNeg (cFI σ50 x51 92)) rfl rfl (fun H locs ls hH hS hl k => c_iast hx hb hK hH hS hk1 hg dX18_init_207 k) (fun σ52 => ?_)
          exact Jsub [0, 1, 2] rfl (hk46 σ52)
  · refine Jrow (fun H locs ls hH hS hl k => lv_icmp_ge (tgt := 164) hx hb dX18_init_119 (by decide) (fun h => absurd h hc) (fun _ => (k ls hl))) ?_
    clear hc
    refine Jrow (fun H locs ls hH hS hl k => lv_aload_n hx hb dX18_init_122 rfl (lv_at hl 0 rfl) (k ls hl)) ?_
    refine Jgd (fun hg => ?_)
    refine Jcl (fun x55 hq => ?_)
    refine Jrow (fun H locs ls hH hS hl k => c_get (F := 100) (v := .ref x55) hx hb hts hown hK hH hg (hts _ q1239) (fun _ h => h) (fvR rfl hq) dX18_init_123 (k ls hl)) ?_
    clear hq
    refine Jrow (fun H locs ls hH hS hl k => lv_iload_n hx hb dX18_init_126 rfl (lv_at hl 2 rfl) (k ls hl)) ?_
    refine Jnew (σ1 := nO σ36 4 6) (n := 6) rfl rfl ⟨rfl, rfl⟩ (fun H locs ls hH hS hl h1 h2 k => c_new (ci := 3) hx hb hts hown hK hH hS hk.2.1 in_X2 tyX2 tyX2_ok (by decide +kernel) (hts _ q1228) (hts _ q186) (hts _ q93) rfl h1 h2 dX18_init_127 k) (fun σ56 eσ56 => ?_)
    clear eσ56
    refine Jrow (fun H locs ls hH hS hl k => lv_dup hx hb dX18_init_130 rfl (k ls hl)) ?_
    refine Jcl2 (fun _ σ57 hf => ?_)
    refine Jcall (v := none) (rest := [.ref (cZ σ36), .int x35, .ref x55]) (mX2_init l E hf).1 ⟨rfl, rfl⟩ (fun H locs ls hH hS hl hR => ⟨_, va_runIN (As := []) ⟨hx, hb, hml, hown, hts⟩ (mX2_init l E hf).2 ⟨va_cnB 0 hts (lw_meth q189) rfl rfl rfl (cN hk.2.2.1 75 rfl) (hts _ q93) (by decide +kernel) ⟨Nat.le_of_ble_eq_true rfl, Nat.le_of_ble_eq_true rfl⟩, rfl, hts _ q188⟩ (c_preS hk hH hS) rfl rfl hl.1 rfl (lv_room (Nat.le_of_ble_eq_true rfl)) dX18_init_131 hR⟩) ?_
    clear hf
    refine Jgd (fun hk1 => ?_)
    refine Jgd (fun hg => ?_)
    refine Jgd (fun hg3 => ?_)
    refine Jst (σ1 := uAR σ57 x55 x35.toNatClampNeg (some (cZ σ36))) rfl rfl (fun H locs ls hH hS hl k => c_aast (t := 6) (ci := 3) hx hb hK hH hS (by decide) (by decide) rfl hk1 (kd_eq hg3) rfl (Or.inr rfl) hg dX18_init_134 k) (fun σ59 => ?_)
    refine Jrow (fun H locs ls hH hS hl k => lv_aload_n hx hb dX18_init_135 rfl (lv_at hl 0 rfl) (k ls hl)) ?_
    refine Jgd (fun hg => ?_)
    refine Jcl (fun x60 hq => ?_)
    refine Jrow (fun H locs ls hH hS hl k => c_get (F := 100) (v := .ref x60) hx hb hts hown hK hH hg (hts _ q1239) (fun _ h => h) (fvR rfl hq) dX18_init_136 (k ls hl)) ?_
    clear hq
    refine Jrow (fun H locs ls hH hS hl k => lv_iload_n hx hb dX18_init_139 rfl (lv_at hl 2 rfl) (k ls hl)) ?_
    refine Jgd (fun hk1 => ?_)
    refine Jgd (fun hg => ?_)
    refine Jcl (fun x61 hq => ?_)
    refine Jrow (fun H locs ls hH hS hl k => c_aald (t := 6) (q := some x61) hx hb hK hH (by decide) (by decide) hk1 hg hq dX18_init_140 (k ls hl)) ?_
    clear hq
    refine Jrow (fun H locs ls hH hS hl k => lv_aload_n hx hb dX18_init_141 rfl (lv_at hl 1 rfl) (k ls hl)) ?_
    refine Jgd (fun hg => ?_)
    refine Jcl (fun x62 hq => ?_)
    refine Jrow (fun H locs ls hH hS hl k => c_getN (F := 28) (v := .ref x62) hx hb hts hown hK hH hg (cN hk.2.2.1 71 rfl) (fun _ h => h) (fvR rfl hq) dX18_init_142 (k ls hl)) ?_
    clear hq
    refine Jrow (fun H locs ls hH hS hl k => lv_iload_n hx hb dX18_init_145 rfl (lv_at hl 2 rfl) (k ls hl)) ?_
    refine Jgd (fun hg => ?_)
    refine Jcl2 (fun x64 σ63 hf => ?_)
    refine Jcall (v := (some (.ref x64))) (rest := [.ref x61]) (mJ2_get l E hf).1 ⟨rfl, rfl⟩ (fun H locs ls hH hS hl hR => ⟨_, va_runV (C := RJ2) (As := [.int x35]) ⟨hx, hb, hml, hown, hts⟩ (mJ2_get l E hf).2 (cwV 1 hts (lw_V q1230 q606 q607 q91 q608) rfl rfl rfl (by decide +kernel) ⟨Nat.le_of_ble_eq_true rfl, Nat.le_of_ble_eq_true rfl⟩) (c_preV (ci := 19) hk hH hS hg rfl) rfl rfl hl.1 rfl (lv_room (Nat.le_of_ble_eq_true rfl)) dX18_init_146 hR⟩) ?_
    clear hf
    refine Jgd (fun hg => ?_)
    refine Jrow (fun H locs ls hH hS hl k => va_castE hx hb hown (hts _ q1231) (c_recv hK hH (ci := 10) hg rfl) dX18_init_149 (k ls hl)) ?_
    refine Jgd (fun hg => ?_)
    refine Jcl (fun x65 hq => ?_)
    refine Jrow (fun H locs ls hH hS hl k => c_getN (F := 83) (v := .ref x65) hx hb hts hown hK hH hg (cN hk.2.2.1 73 rfl) (fun _ h => h) (fvR rfl hq) dX18_init_152 (k ls hl)) ?_
    clear hq
    refine Jgd (fun hg => ?_)
    refine Jcl2 (fun _ σ66 hf => ?_)
    refine Jcall (v := none) (rest := []) (mX2_become l E hf).1 ⟨rfl, rfl⟩ (fun H locs ls hH hS hl hR => ⟨_, va_runV (C := RX2) (As := [.ref x65]) ⟨hx, hb, hml, hown, hts⟩ (mX2_become l E hf).2 (cwV 1 hts (lw_V q1232 q918 q919 q93 q920) rfl rfl rfl (by decide +kernel) ⟨Nat.le_of_ble_eq_true rfl, Nat.le_of_ble_eq_true rfl⟩) (c_preV (ci := 3) hk hH hS hg rfl) rfl rfl hl.1 rfl (lv_room (Nat.le_of_ble_eq_true rfl)) dX18_init_155 hR⟩) ?_
    clear hf
    refine Jbd (fun x68 ex68 => ?_)
    refine Jrow (fun H locs ls hH hS hl k => lv_iinc (v := x68) (lv' := [(2, .int x68), (0, .ref a0), (1, .ref p1)]) hx hb dX18_init_158 hl (k := 2) rfl (by rw [ex68]; rfl) (by decide) rfl k) ?_
    clear ex68
    refine Jrow (fun H locs ls hH hS hl k => lv_goto (tgt := 114) hx hb dX18_init_161 (by decide) (k ls hl)) ?_
    exact Jsub [1, 2, 0] rfl (hk37 x68 σ66)

def fX0_image (a0 : Nat) (σ : CS) : Option (Int32 × CS) :=
 bd (nO σ 19 8) (fun (σ1 : CS) =>
 cl2 (fX18_init (cZ σ) a0 σ1) (fun (_ : Unit) (σ2 : CS) =>
 gd (hf (cK σ2 a0) 42) (
 bd (uFR σ2 a0 42 (some (cZ σ))) (fun (σ4 : CS) =>
 gd (hf (cK σ4 a0) 28) (
 cl (cFR σ4 a0 28) (fun (x5 : Nat) =>
 gd (kd σ4 x5 20) (
 cl2 (fJ2_size x5 σ4) (fun (x7 : Int32) (σ6 : CS) =>
 some (x7, σ6)))))))))
theorem nX0_image {a0 : Nat} {σ : CS} : Mn σ (fX0_image a0 σ) := by
  unfold fX0_image
  refine Mst (Nat.le_succ _) (Nat.le_add_right _ _) (fun σ1 => ?_)
  refine Mcl2 (nX18_init) (fun _ σ2 => ?_)
  refine Mgd ?_
  refine Mst (Nat.le_refl _) (Nat.le_refl _) (fun σ4 => ?_)
  refine Mgd ?_
  refine Mcl (fun x5 => ?_)
  refine Mgd ?_
  refine Mcl2 (nJ2_size) (fun x7 σ6 => ?_)
  exact Mret
set_option maxHeartbeats 4000000 in
set_option maxRecDepth 100000 in
theorem mX0_image (l : Launch) (E : CE) {a0 : Nat} {σ : CS} {r : Int32} {σz : CS} (hX : fX0_image a0 σ = some (r, σz)) : MetC l yX0_image (ws_ yX0_image cX0_image 1 (some .int)) 4 103 E σ [.ref a0] (some (.int r)) σz := by
  refine MetC.of hX (by decide) (Nat.le_of_ble_eq_true rfl) (nX0_image _ hX) ?_
  intro p e s m below meth c hx hb hr hml hts hown hlocks hnm hk hz0
  have hK := hk.1
  show J p l e (headSpec (ws_ yX0_image cX0_image 1 (some .int)) (rmC 4 103 σ σz)).room s m ([.ref a0] : List Value).toArray below meth c 1 E (cZ σ) (cS σ) (MQ below (cQ E (some (.int r)) σz) ([.ref a0] : List Value).toArray s (cZ σz - cZ σ) (cS σz - cS σ) (EA E)) (r, σz) (fX0_image a0 σ) σ 0 [(0, .ref a0)] []
  unfold fX0_image
  refine Jrow (fun H locs ls hH hS hl k => lv_aload_n hx hb dX0_image_0 rfl (lv_at hl 0 rfl) (k ls hl)) ?_
  refine Jnew (σ1 := nO σ 19 8) (n := 8) rfl rfl ⟨rfl, rfl⟩ (fun H locs ls hH hS hl h1 h2 k => c_new (ci := 18) hx hb hts hown hK hH hS hk.2.1 in_X18 tyX18 tyX18_ok (by decide +kernel) (hts _ q1214) (hts _ q1215) (hts _ q120) rfl h1 h2 dX0_image_1 k) (fun σ1 eσ1 => ?_)
  clear eσ1
  refine Jrow (fun H locs ls hH hS hl k => lv_dup hx hb dX0_image_4 rfl (k ls hl)) ?_
  refine Jrow (fun H locs ls hH hS hl k => lv_aload_n hx hb dX0_image_5 rfl (lv_at hl 0 rfl) (k ls hl)) ?_
  refine Jcl2 (fun _ σ2 hf => ?_)
  refine Jcall (v := none) (rest := [.ref (cZ σ), .ref a0]) (mX18_init l E hf).1 ⟨rfl, rfl⟩ (fun H locs ls hH hS hl hR => ⟨_, va_runI (As := [.ref a0]) ⟨hx, hb, hml, hown, hts⟩ (mX18_init l E hf).2 (cwI 1 hts (lw_meth q1218) rfl rfl rfl (hts _ q120) (hts _ q1216) (hts _ q1217) rfl (by decide +kernel) ⟨Nat.le_of_ble_eq_true rfl, Nat.le_of_ble_eq_true rfl⟩) (c_preS hk hH hS) rfl rfl hl.1 rfl (lv_room (Nat.le_of_ble_eq_true rfl)) dX0_image_6 hR⟩) ?_
  clear hf
  refine Jgd (fun hg => ?_)
  refine Jst (σ1 := uFR σ2 a0 42 (some (cZ σ))) rfl rfl (fun H locs ls hH hS hl k => c_putR (F := 42) (ty := (.object "FortyDays$Image")) (x := (some (cZ σ))) hx hb hts hown hK hH hS hg (hts _ q275) (fun _ h => h) rfl rfl (by decide +kernel) rfl rfl rfl dX0_image_9 k) (fun σ4 => ?_)
  refine Jrow (fun H locs ls hH hS hl k => lv_aload_n hx hb dX0_image_12 rfl (lv_at hl 0 rfl) (k ls hl)) ?_
  refine Jgd (fun hg => ?_)
  refine Jcl (fun x5 hq => ?_)
  refine Jrow (fun H locs ls hH hS hl k => c_get (F := 28) (v := .ref x5) hx hb hts hown hK hH hg (hts _ q257) (fun _ h => h) (fvR rfl hq) dX0_image_13 (k ls hl)) ?_
  clear hq
  refine Jgd (fun hg => ?_)
  refine Jcl2 (fun x7 σ6 hf => ?_)
  refine Jcall (v := (some (.int x7))) (rest := []) (mJ2_size l E hf).1 ⟨rfl, rfl⟩ (fun H locs ls hH hS hl hR => ⟨_, va_runV (C := RJ2) (As := []) ⟨hx, hb, hml, hown, hts⟩ (mJ2_size l E hf).2 (cwV 0 hts (lw_V q327 q328 q329 q91 q330) rfl rfl rfl (by decide +kernel) ⟨Nat.le_of_ble_eq_true rfl, Nat.le_of_ble_eq_true rfl⟩) (c_preV (ci := 19) hk hH hS hg rfl) rfl rfl hl.1 rfl (lv_room (Nat.le_of_ble_eq_true rfl)) dX0_image_16 hR⟩) ?_
  clear hf
  exact Jiret hx hb hr hlocks dX0_image_19

def fX0_undo (a0 : Nat) (σ : CS) : Option (Int32 × CS) :=
 gd (hf (cK σ a0) 42) (
 oc (cFR σ a0 42) (
 some ((-3:Int32), σ)) (fun (x1 : Nat) =>
 gd (hf (cK σ a0) 42) (
 cl (cFR σ a0 42) (fun (x2 : Nat) =>
 gd (kd σ x2 19) (
 cl2 (fX18_putBack x2 σ) (fun (_ : Unit) (σ3 : CS) =>
 gd (hf (cK σ3 a0) 28) (
 cl (cFR σ3 a0 28) (fun (x5 : Nat) =>
 gd (kd σ3 x5 20) (
 cl2 (fJ2_size x5 σ3) (fun (x7 : Int32) (σ6 : CS) =>
 some (x7, σ6)))))))))))
theorem nX0_undo {a0 : Nat} {σ : CS} : Mn σ (fX0_undo a0 σ) := by
  unfold fX0_undo
  refine Mgd ?_
  refine Moc ?_ (fun x1 => ?_)
  · exact Mret
  · refine Mgd ?_
    refine Mcl (fun x2 => ?_)
    refine Mgd ?_
    refine Mcl2 (nX18_putBack) (fun _ σ3 => ?_)
    refine Mgd ?_
    refine Mcl (fun x5 => ?_)
    refine Mgd ?_
    refine Mcl2 (nJ2_size) (fun x7 σ6 => ?_)
    exact Mret
set_option maxHeartbeats 4000000 in
set_option maxRecDepth 100000 in
theorem mX0_undo (l : Launch) (E : CE) {a0 : Nat} {σ : CS} {r : Int32} {σz : CS} (hX : fX0_undo a0 σ = some (r, σz)) : MetC l yX0_undo (ws_ yX0_undo cX0_undo 1 (some .int)) 5 149 E σ [.ref a0] (some (.int r)) σz := by
  refine MetC.of hX (by decide) (Nat.le_of_ble_eq_true rfl) (nX0_undo _ hX) ?_
  intro p e s m below meth c hx hb hr hml hts hown hlocks hnm hk hz0
  have hK := hk.1
  show J p l e (headSpec (ws_ yX0_undo cX0_undo 1 (some .int)) (rmC 5 149 σ σz)).room s m ([.ref a0] : List Value).toArray below meth c 1 E (cZ σ) (cS σ) (MQ below (cQ E (some (.int r)) σz) ([.ref a0] : List Value).toArray s (cZ σz - cZ σ) (cS σz - cS σ) (EA E)) (r, σz) (fX0_undo a0 σ) σ 0 [(0, .ref a0)] []
  unfold fX0_undo
  refine Jrow (fun H locs ls hH hS hl k => lv_aload_n hx hb dX0_undo_0 rfl (lv_at hl 0 rfl) (k ls hl)) ?_
  refine Jgd (fun hg => ?_)
  refine Jrow (fun H locs ls hH hS hl k => c_get (F := 42) (v := va_rf (cFR σ a0 42)) hx hb hts hown hK hH hg (hts _ q275) (fun _ h => h) rfl dX0_undo_1 (k ls hl)) ?_
  refine JocS ?_ (fun x1 => ?_)
  · refine Jrow (fun H locs ls hH hS hl k => lv_ifnonnullN hx hb dX0_undo_4 (k ls hl)) ?_
    refine Jrow (fun H locs ls hH hS hl k => lv_bipush (v := (-3:Int32)) hx hb dX0_undo_7 (by decide) (k ls hl)) ?_
    exact Jiret hx hb hr hlocks dX0_undo_9
  · refine Jrow (fun H locs ls hH hS hl k => lv_ifnonnull (tgt := 10) hx hb dX0_undo_4 (by decide) (k ls hl)) ?_
    refine Jrow (fun H locs ls hH hS hl k => lv_aload_n hx hb dX0_undo_10 rfl (lv_at hl 0 rfl) (k ls hl)) ?_
    refine Jgd (fun hg => ?_)
    refine Jcl (fun x2 hq => ?_)
    refine Jrow (fun H locs ls hH hS hl k => c_get (F := 42) (v := .ref x2) hx hb hts hown hK hH hg (hts _ q275) (fun _ h => h) (fvR rfl hq) dX0_undo_11 (k ls hl)) ?_
    clear hq
    refine Jgd (fun hg => ?_)
    refine Jcl2 (fun _ σ3 hf => ?_)
    refine Jcall (v := none) (rest := []) (mX18_putBack l E hf).1 ⟨rfl, rfl⟩ (fun H locs ls hH hS hl hR => ⟨_, va_runV (C := RX18) (As := []) ⟨hx, hb, hml, hown, hts⟩ (mX18_putBack l E hf).2 (cwV 0 hts (lw_V q1263 q1264 q1265 q120 q1266) rfl rfl rfl (by decide +kernel) ⟨Nat.le_of_ble_eq_true rfl, Nat.le_of_ble_eq_true rfl⟩) (c_preV (ci := 18) hk hH hS hg rfl) rfl rfl hl.1 rfl (lv_room (Nat.le_of_ble_eq_true rfl)) dX0_undo_14 hR⟩) ?_
    clear hf
    refine Jrow (fun H locs ls hH hS hl k => lv_aload_n hx hb dX0_undo_17 rfl (lv_at hl 0 rfl) (k ls hl)) ?_
    refine Jgd (fun hg => ?_)
    refine Jcl (fun x5 hq => ?_)
    refine Jrow (fun H locs ls hH hS hl k => c_get (F := 28) (v := .ref x5) hx hb hts hown hK hH hg (hts _ q257) (fun _ h => h) (fvR rfl hq) dX0_undo_18 (k ls hl)) ?_
    clear hq
    refine Jgd (fun hg => ?_)
    refine Jcl2 (fun x7 σ6 hf => ?_)
    refine Jcall (v := (some (.int x7))) (rest := []) (mJ2_size l E hf).1 ⟨rfl, rfl⟩ (fun H locs ls hH hS hl hR => ⟨_, va_runV (C := RJ2) (As := []) ⟨hx, hb, hml, hown, hts⟩ (mJ2_size l E hf).2 (cwV 0 hts (lw_V q327 q328 q329 q91 q330) rfl rfl rfl (by decide +kernel) ⟨Nat.le_of_ble_eq_true rfl, Nat.le_of_ble_eq_true rfl⟩) (c_preV (ci := 19) hk hH hS hg rfl) rfl rfl hl.1 rfl (lv_room (Nat.le_of_ble_eq_true rfl)) dX0_undo_21 hR⟩) ?_
    clear hf
    exact Jiret hx hb hr hlocks dX0_undo_24
