/-! printed by gen/comp.py -/
def fX7_init (a0 : Nat) (p1 : Nat) (σ : CS) : Option (Unit × CS) :=
 gd (hf (cK σ a0) 74) (
 bd (uFR σ a0 74 (some p1)) (fun (σ1 : CS) =>
 some ((), σ1)))
theorem nX7_init {a0 : Nat} {p1 : Nat} {σ : CS} : Mn σ (fX7_init a0 p1 σ) := by
  unfold fX7_init
  refine Mgd ?_
  refine Mst (Nat.le_refl _) (Nat.le_refl _) (fun σ1 => ?_)
  exact Mret
set_option maxHeartbeats 4000000 in
set_option maxRecDepth 100000 in
theorem mX7_init (l : Launch) (E : CE) {a0 : Nat} {p1 : Nat} {σ : CS} {σz : CS} (hX : fX7_init a0 p1 σ = some ((), σz)) : MetC l yX7_init (ws_ yX7_init cX7_init 2 none) 1 12 E σ [.ref a0, .ref p1] none σz := by
  refine MetC.of hX (by decide) (Nat.le_of_ble_eq_true rfl) (nX7_init _ hX) ?_
  intro p e s m below meth c hx hb hr hml hts hown hlocks hnm hk hz0
  have hK := hk.1
  show J p l e (headSpec (ws_ yX7_init cX7_init 2 none) (rmC 1 12 σ σz)).room s m ([.ref a0, .ref p1] : List Value).toArray below meth c 2 E (cZ σ) (cS σ) (MQ below (cQ E none σz) ([.ref a0, .ref p1] : List Value).toArray s (cZ σz - cZ σ) (cS σz - cS σ) (EA E)) ((), σz) (fX7_init a0 p1 σ) σ 0 [(0, .ref a0), (1, .ref p1)] []
  unfold fX7_init
  refine Jrow (fun H locs ls hH hS hl k => lv_aload_n hx hb dX7_init_0 rfl (lv_at hl 0 rfl) (k ls hl)) ?_
  refine Jrow (fun H locs ls hH hS hl k => W.objInit hx hb hown (hts _ q488) (hts _ q127) (hts _ q128) rfl (by rw [hml]; exact hl.1) rfl dX7_init_1 (Nat.le_of_ble_eq_true rfl) (Nat.le_of_ble_eq_true rfl) (W.eq (g2 := F0 m 4 ls []) rfl (k ls hl))) ?_
  refine Jrow (fun H locs ls hH hS hl k => lv_aload_n hx hb dX7_init_4 rfl (lv_at hl 0 rfl) (k ls hl)) ?_
  refine Jrow (fun H locs ls hH hS hl k => lv_aload_n hx hb dX7_init_5 rfl (lv_at hl 1 rfl) (k ls hl)) ?_
  refine Jgd (fun hg => ?_)
  refine Jst (σ1 := uFR σ a0 74 (some p1)) rfl rfl (fun H locs ls hH hS hl k => c_putRF (F := 74) (ty := (.object "FortyDays$Test")) (x := (some p1)) hx hb hts hown hK hH hS hg (hts _ q489) (fun _ h => h) rfl hnm rfl rfl (by decide +kernel) rfl rfl rfl dX7_init_6 k) (fun σ1 => ?_)
  exact Jvret hx hb hr hlocks dX7_init_9

def fX8_init (a0 : Nat) (p1 : Int32) (p2 : Int32) (p3 : Int32) (σ : CS) : Option (Unit × CS) :=
 gd (hf (cK σ a0) 75) (
 bd (uFI σ a0 75 p1) (fun (σ1 : CS) =>
 gd (hf (cK σ1 a0) 76) (
 bd (uFI σ1 a0 76 p2) (fun (σ2 : CS) =>
 gd (hf (cK σ2 a0) 77) (
 bd (uFI σ2 a0 77 p3) (fun (σ3 : CS) =>
 some ((), σ3)))))))
theorem nX8_init {a0 : Nat} {p1 : Int32} {p2 : Int32} {p3 : Int32} {σ : CS} : Mn σ (fX8_init a0 p1 p2 p3 σ) := by
  unfold fX8_init
  refine Mgd ?_
  refine Mst (Nat.le_refl _) (Nat.le_refl _) (fun σ1 => ?_)
  refine Mgd ?_
  refine Mst (Nat.le_refl _) (Nat.le_refl _) (fun σ2 => ?_)
  refine Mgd ?_
  refine Mst (Nat.le_refl _) (Nat.le_refl _) (fun σ3 => ?_)
  exact Mret
set_option maxHeartbeats 4000000 in
set_option maxRecDepth 100000 in
theorem mX8_init (l : Launch) (E : CE) {a0 : Nat} {p1 : Int32} {p2 : Int32} {p3 : Int32} {σ : CS} {σz : CS} (hX : fX8_init a0 p1 p2 p3 σ = some ((), σz)) : MetC l yX8_init (ws_ yX8_init cX8_init 4 none) 1 12 E σ [.ref a0, .int p1, .int p2, .int p3] none σz := by
  refine MetC.of hX (by decide) (Nat.le_of_ble_eq_true rfl) (nX8_init _ hX) ?_
  intro p e s m below meth c hx hb hr hml hts hown hlocks hnm hk hz0
  have hK := hk.1
  show J p l e (headSpec (ws_ yX8_init cX8_init 4 none) (rmC 1 12 σ σz)).room s m ([.ref a0, .int p1, .int p2, .int p3] : List Value).toArray below meth c 4 E (cZ σ) (cS σ) (MQ below (cQ E none σz) ([.ref a0, .int p1, .int p2, .int p3] : List Value).toArray s (cZ σz - cZ σ) (cS σz - cS σ) (EA E)) ((), σz) (fX8_init a0 p1 p2 p3 σ) σ 0 [(0, .ref a0), (1, .int p1), (2, .int p2), (3, .int p3)] []
  unfold fX8_init
  refine Jrow (fun H locs ls hH hS hl k => lv_aload_n hx hb dX8_init_0 rfl (lv_at hl 0 rfl) (k ls hl)) ?_
  refine Jrow (fun H locs ls hH hS hl k => W.objInit hx hb hown (hts _ q498) (hts _ q127) (hts _ q128) rfl (by rw [hml]; exact hl.1) rfl dX8_init_1 (Nat.le_of_ble_eq_true rfl) (Nat.le_of_ble_eq_true rfl) (W.eq (g2 := F0 m 4 ls []) rfl (k ls hl))) ?_
  refine Jrow (fun H locs ls hH hS hl k => lv_aload_n hx hb dX8_init_4 rfl (lv_at hl 0 rfl) (k ls hl)) ?_
  refine Jrow (fun H locs ls hH hS hl k => lv_iload_n hx hb dX8_init_5 rfl (lv_at hl 1 rfl) (k ls hl)) ?_
  refine Jgd (fun hg => ?_)
  refine Jst (σ1 := uFI σ a0 75 p1) rfl rfl (fun H locs ls hH hS hl k => c_putIF (F := 75) (ty := .int) (x := p1) hx hb hts hown hK hH hS hg (hts _ q499) (fun _ h => h) rfl hnm rfl rfl (by decide +kernel) rfl rfl rfl dX8_init_6 k) (fun σ1 => ?_)
  refine Jrow (fun H locs ls hH hS hl k => lv_aload_n hx hb dX8_init_9 rfl (lv_at hl 0 rfl) (k ls hl)) ?_
  refine Jrow (fun H locs ls hH hS hl k => lv_iload_n hx hb dX8_init_10 rfl (lv_at hl 2 rfl) (k ls hl)) ?_
  refine Jgd (fun hg => ?_)
  refine Jst (σ1 := uFI σ1 a0 76 p2) rfl rfl (fun H locs ls hH hS hl k => c_putIF (F := 76) (ty := .int) (x := p2) hx hb hts hown hK hH hS hg (hts _ q500) (fun _ h => h) rfl hnm rfl rfl (by decide +kernel) rfl rfl rfl dX8_init_11 k) (fun σ2 => ?_)
  refine Jrow (fun H locs ls hH hS hl k => lv_aload_n hx hb dX8_init_14 rfl (lv_at hl 0 rfl) (k ls hl)) ?_
  refine Jrow (fun H locs ls hH hS hl k => lv_iload_n hx hb dX8_init_15 rfl (lv_at hl 3 rfl) (k ls hl)) ?_
  refine Jgd (fun hg => ?_)
  refine Jst (σ1 := uFI σ2 a0 77 p3) rfl rfl (fun H locs ls hH hS hl k => c_putIF (F := 77) (ty := .int) (x := p3) hx hb hts hown hK hH hS hg (hts _ q501) (fun _ h => h) rfl hnm rfl rfl (by decide +kernel) rfl rfl rfl dX8_init_16 k) (fun σ3 => ?_)
  exact Jvret hx hb hr hlocks dX8_init_19

def fX9_init (a0 : Nat) (p1 : Nat) (p2 : Nat) (p3 : Int32) (σ : CS) : Option (Unit × CS) :=
 gd (hf (cK σ a0) 78) (
 bd (uFR σ a0 78 (some p1)) (fun (σ1 : CS) =>
 gd (hf (cK σ1 a0) 79) (
 bd (uFR σ1 a0 79 (some p2)) (fun (σ2 : CS) =>
 gd (hf (cK σ2 a0) 80) (
 gd (isb p3) (
 bd (uFI σ2 a0 80 p3) (fun (σ3 : CS) =>
 some ((), σ3))))))))
theorem nX9_init {a0 : Nat} {p1 : Nat} {p2 : Nat} {p3 : Int32} {σ : CS} : Mn σ (fX9_init a0 p1 p2 p3 σ) := by
  unfold fX9_init
  refine Mgd ?_
  refine Mst (Nat.le_refl _) (Nat.le_refl _) (fun σ1 => ?_)
  refine Mgd ?_
  refine Mst (Nat.le_refl _) (Nat.le_refl _) (fun σ2 => ?_)
  refine Mgd ?_
  refine Mgd ?_
  refine Mst (Nat.le_refl _) (Nat.le_refl _) (fun σ3 => ?_)
  exact Mret
set_option maxHeartbeats 4000000 in
set_option maxRecDepth 100000 in
theorem mX9_init (l : Launch) (E : CE) {a0 : Nat} {p1 : Nat} {p2 : Nat} {p3 : Int32} {σ : CS} {σz : CS} (hX : fX9_init a0 p1 p2 p3 σ = some ((), σz)) : MetC l yX9_init (ws_ yX9_init cX9_init 4 none) 1 12 E σ [.ref a0, .ref p1, .ref p2, .int p3] none σz := by
  refine MetC.of hX (by decide) (Nat.le_of_ble_eq_true rfl) (nX9_init _ hX) ?_
  intro p e s m below meth c hx hb hr hml hts hown hlocks hnm hk hz0
  have hK := hk.1
  show J p l e (headSpec (ws_ yX9_init cX9_init 4 none) (rmC 1 12 σ σz)).room s m ([.ref a0, .ref p1, .ref p2, .int p3] : List Value).toArray below meth c 4 E (cZ σ) (cS σ) (MQ below (cQ E none σz) ([.ref a0, .ref p1, .ref p2, .int p3] : List Value).toArray s (cZ σz - cZ σ) (cS σz - cS σ) (EA E)) ((), σz) (fX9_init a0 p1 p2 p3 σ) σ 0 [(0, .ref a0), (1, .ref p1), (2, .ref p2), (3, .int p3)] []
  unfold fX9_init
  refine Jrow (fun H locs ls hH hS hl k => lv_aload_n hx hb dX9_init_0 rfl (lv_at hl 0 rfl) (k ls hl)) ?_
  refine Jrow (fun H locs ls hH hS hl k => W.objInit hx hb hown (hts _ q514) (hts _ q127) (hts _ q128) rfl (by rw [hml]; exact hl.1) rfl dX9_init_1 (Nat.le_of_ble_eq_true rfl) (Nat.le_of_ble_eq_true rfl) (W.eq (g2 := F0 m 4 ls []) rfl (k ls hl))) ?_
  refine Jrow (fun H locs ls hH hS hl k => lv_aload_n hx hb dX9_init_4 rfl (lv_at hl 0 rfl) (k ls hl)) ?_
  refine Jrow (fun H locs ls hH hS hl k => lv_aload_n hx hb dX9_init_5 rfl (lv_at hl 1 rfl) (k ls hl)) ?_
  refine Jgd (fun hg => ?_)
  refine Jst (σ1 := uFR σ a0 78 (some p1)) rfl rfl (fun H locs ls hH hS hl k => c_putRF (F := 78) (ty := (.object "FortyDays$Test")) (x := (some p1)) hx hb hts hown hK hH hS hg (hts _ q515) (fun _ h => h) rfl hnm rfl rfl (by decide +kernel) rfl rfl rfl dX9_init_6 k) (fun σ1 => ?_)
  refine Jrow (fun H locs ls hH hS hl k => lv_aload_n hx hb dX9_init_9 rfl (lv_at hl 0 rfl) (k ls hl)) ?_
  refine Jrow (fun H locs ls hH hS hl k => lv_aload_n hx hb dX9_init_10 rfl (lv_at hl 2 rfl) (k ls hl)) ?_
  refine Jgd (fun hg => ?_)
  refine Jst (σ1 := uFR σ1 a0 79 (some p2)) rfl rfl (fun H locs ls hH hS hl k => c_putRF (F := 79) (ty := (.object "FortyDays$Test")) (x := (some p2)) hx hb hts hown hK hH hS hg (hts _ q516) (fun _ h => h) rfl hnm rfl rfl (by decide +kernel) rfl rfl rfl dX9_init_11 k) (fun σ2 => ?_)
  refine Jrow (fun H locs ls hH hS hl k => lv_aload_n hx hb dX9_init_14 rfl (lv_at hl 0 rfl) (k ls hl)) ?_
  refine Jrow (fun H locs ls hH hS hl k => lv_iload_n hx hb dX9_init_15 rfl (lv_at hl 3 rfl) (k ls hl)) ?_
  refine Jgd (fun hg => ?_)
  refine Jgd (fun hg2 => ?_)
  refine Jst (σ1 := uFI σ2 a0 80 p3) rfl rfl (fun H locs ls hH hS hl k => c_putIF (F := 80) (ty := .boolean) (x := p3) hx hb hts hown hK hH hS hg (hts _ q517) (fun _ h => h) rfl hnm rfl rfl (by decide +kernel) (isb_n hg2) (isb_f hg2) rfl dX9_init_16 k) (fun σ3 => ?_)
  exact Jvret hx hb hr hlocks dX9_init_19

abbrev KR : Type := Nat → Nat → CS → Option ((Nat ⊕ Nat) × CS)
/-- what a call of fact, both, some (0, 1, 2) keeps to -/
def VR (l : Launch) (E : CE) (fT nT : Nat) (kr : KR) : Prop := (∀ {a0 : Nat} {σ : CS} {res : Nat ⊕ Nat} {σz : CS}, kr 0 a0 σ = some (res, σz) → MetX l yX1_fact (ws_ yX1_fact cX1_fact 5 (some (.object "FortyDays$Test"))) fT nT E σ [.ref a0] (xoR res) σz) ∧ (∀ {a0 : Nat} {σ : CS} {res : Nat ⊕ Nat} {σz : CS}, kr 1 a0 σ = some (res, σz) → MetX l yX1_both (ws_ yX1_both cX1_both 2 (some (.object "FortyDays$Test"))) fT nT E σ [.ref a0] (xoR res) σz) ∧ (∀ {a0 : Nat} {σ : CS} {res : Nat ⊕ Nat} {σz : CS}, kr 2 a0 σ = some (res, σz) → MetX l yX1_some (ws_ yX1_some cX1_some 2 (some (.object "FortyDays$Test"))) fT nT E σ [.ref a0] (xoR res) σz)

def fX1_fact (kr : KR) (a0 : Nat) (σ : CS) : Option ((Nat ⊕ Nat) × CS) :=
 gd (kd σ a0 3) (
 cl2 (fX1_next a0 σ) (fun (x2 : Int32) (σ1 : CS) =>
 if x2 = (33:Int32) then
 gd (kd σ1 a0 3) (
 clx (fX1_opens a0 σ1) (fun (_ : Unit) (σ3 : CS) =>
 gd (kd σ3 a0 3) (
 clx (kr 0 a0 σ3) (fun (x5 : Nat) (σ6 : CS) =>
 gd (hf (cK σ6 a0) 47) (
 gd (hf (cK σ6 a0) 47) (
 bd (uFI σ6 a0 47 ((cFI σ6 a0 47) - (1:Int32))) (fun (σ7 : CS) =>
 bd (nO σ7 8 1) (fun (σ8 : CS) =>
 cl2 (fX7_init (cZ σ7) x5 σ8) (fun (_ : Unit) (σ9 : CS) =>
 some (.inl (cZ σ7), σ9))))))))))
 else
 if x2 = (40:Int32) then
 gd (kd σ1 a0 3) (
 clx (fX1_opens a0 σ1) (fun (_ : Unit) (σ11 : CS) =>
 gd (kd σ11 a0 3) (
 clx (kr 2 a0 σ11) (fun (x13 : Nat) (σ14 : CS) =>
 gd (kd σ14 a0 3) (
 clx (fX1_sign a0 (41:Int32) σ14) (fun (_ : Unit) (σ15 : CS) =>
 gd (hf (cK σ15 a0) 47) (
 gd (hf (cK σ15 a0) 47) (
 bd (uFI σ15 a0 47 ((cFI σ15 a0 47) - (1:Int32))) (fun (σ17 : CS) =>
 some (.inl x13, σ17))))))))))
 else
 if x2 = (100:Int32) then
 gd (hf (cK σ1 a0) 46) (
 gd (hf (cK σ1 a0) 46) (
 bd (uFI σ1 a0 46 ((cFI σ1 a0 46) + (1:Int32))) (fun (σ18 : CS) =>
 gd (kd σ18 a0 3) (
 cl2 (fX1_next a0 σ18) (fun (x20 : Int32) (σ19 : CS) =>
 jn (gd (hf (cK σ19 a0) 46) (
 gd (hf (cK σ19 a0) 46) (
 bd (uFI σ19 a0 46 ((cFI σ19 a0 46) + (1:Int32))) (fun (σ22 : CS) =>
 bd (nO σ22 9 3) (fun (σ23 : CS) =>
 gd (kd σ23 a0 3) (
 clx (fX1_number a0 σ23) (fun (x25 : Int32) (σ24 : CS) =>
 cl2 (fX8_init (cZ σ22) x2 x20 x25 σ24) (fun (_ : Unit) (σ26 : CS) =>
 some (.inl (cZ σ22), σ26))))))))) (fun (k21 : Option ((Nat ⊕ Nat) × CS)) =>
 if x20 = (60:Int32) then
 k21
 else
 if x20 = (61:Int32) then
 k21
 else
 if x20 = (62:Int32) then
 k21
 else
 bd (nO σ19 7 7) (fun (σ28 : CS) =>
 gd (hf (cK σ28 a0) 46) (
 cl2 (fX6_init (cZ σ19) (cFI σ28 a0 46) σ28) (fun (_ : Unit) (σ29 : CS) =>
 some (.inr (cZ σ19), σ29))))))))))
 else
 if x2 = (104:Int32) then
 gd (hf (cK σ1 a0) 46) (
 gd (hf (cK σ1 a0) 46) (
 bd (uFI σ1 a0 46 ((cFI σ1 a0 46) + (1:Int32))) (fun (σ32 : CS) =>
 gd (kd σ32 a0 3) (
 cl2 (fX1_next a0 σ32) (fun (x34 : Int32) (σ33 : CS) =>
 jn (gd (hf (cK σ33 a0) 46) (
 gd (hf (cK σ33 a0) 46) (
 bd (uFI σ33 a0 46 ((cFI σ33 a0 46) + (1:Int32))) (fun (σ36 : CS) =>
 bd (nO σ36 9 3) (fun (σ37 : CS) =>
 gd (kd σ37 a0 3) (
 clx (fX1_number a0 σ37) (fun (x39 : Int32) (σ38 : CS) =>
 cl2 (fX8_init (cZ σ36) x2 x34 x39 σ38) (fun (_ : Unit) (σ40 : CS) =>
 some (.inl (cZ σ36), σ40))))))))) (fun (k35 : Option ((Nat ⊕ Nat) × CS)) =>
 if x34 = (60:Int32) then
 k35
 else
 if x34 = (61:Int32) then
 k35
 else
 if x34 = (62:Int32) then
 k35
 else
 bd (nO σ33 7 7) (fun (σ42 : CS) =>
 gd (hf (cK σ42 a0) 46) (
 cl2 (fX6_init (cZ σ33) (cFI σ42 a0 46) σ42) (fun (_ : Unit) (σ43 : CS) =>
 some (.inr (cZ σ33), σ43))))))))))
 else
 if x2 = (112:Int32) then
 gd (hf (cK σ1 a0) 46) (
 gd (hf (cK σ1 a0) 46) (
 bd (uFI σ1 a0 46 ((cFI σ1 a0 46) + (1:Int32))) (fun (σ46 : CS) =>
 gd (kd σ46 a0 3) (
 cl2 (fX1_next a0 σ46) (fun (x48 : Int32) (σ47 : CS) =>
 jn (gd (hf (cK σ47 a0) 46) (
 gd (hf (cK σ47 a0) 46) (
 bd (uFI σ47 a0 46 ((cFI σ47 a0 46) + (1:Int32))) (fun (σ50 : CS) =>
 bd (nO σ50 9 3) (fun (σ51 : CS) =>
 gd (kd σ51 a0 3) (
 clx (fX1_number a0 σ51) (fun (x53 : Int32) (σ52 : CS) =>
 cl2 (fX8_init (cZ σ50) x2 x48 x53 σ52) (fun (_ : Unit) (σ54 : CS) =>
 some (.inl (cZ σ50), σ54))))))))) (fun (k49 : Option ((Nat ⊕ Nat) × CS)) =>
 if x48 = (60:Int32) then
 k49
 else
 if x48 = (61:Int32) then
 k49
 else
 if x48 = (62:Int32) then
 k49
 else
 bd (nO σ47 7 7) (fun (σ56 : CS) =>
 gd (hf (cK σ56 a0) 46) (
 cl2 (fX6_init (cZ σ47) (cFI σ56 a0 46) σ56) (fun (_ : Unit) (σ57 : CS) =>
 some (.inr (cZ σ47), σ57))))))))))
 else
 bd (nO σ1 7 7) (fun (σ60 : CS) =>
 gd (hf (cK σ60 a0) 46) (
 cl2 (fX6_init (cZ σ1) (cFI σ60 a0 46) σ60) (fun (_ : Unit) (σ61 : CS) =>
 some (.inr (cZ σ1), σ61))))))
theorem nX1_fact {kr : KR} (hm : ∀ i a σ, Mn σ (kr i a σ)) {a0 : Nat} {σ : CS} : Mn σ (fX1_fact kr a0 σ) := by
  unfold fX1_fact
  refine Mgd ?_
  refine Mcl2 (nX1_next) (fun x2 σ1 => ?_)
  refine Mite ?_ ?_
  · refine Mgd ?_
    refine Mclx (nX1_opens) (fun _ σ3 => ?_)
    refine Mgd ?_
    refine Mclx (hm 0 _ _) (fun x5 σ6 => ?_)
    refine Mgd ?_
    refine Mgd ?_
    refine Mst (Nat.le_refl _) (Nat.le_refl _) (fun σ7 => ?_)
    refine Mst (Nat.le_succ _) (Nat.le_add_right _ _) (fun σ8 => ?_)
    refine Mcl2 (nX7_init) (fun _ σ9 => ?_)
    exact Mret
  · refine Mite ?_ ?_
    · refine Mgd ?_
      refine Mclx (nX1_opens) (fun _ σ11 => ?_)
      refine Mgd ?_
      refine Mclx (hm 2 _ _) (fun x13 σ14 => ?_)
      refine Mgd ?_
      refine Mclx (nX1_sign) (fun _ σ15 => ?_)
      refine Mgd ?_
      refine Mgd ?_
      refine Mst (Nat.le_refl _) (Nat.le_refl _) (fun σ17 => ?_)
      exact Mret
    · refine Mite ?_ ?_
      · refine Mgd ?_
        refine Mgd ?_
        refine Mst (Nat.le_refl _) (Nat.le_refl _) (fun σ18 => ?_)
        refine Mgd ?_
        refine Mcl2 (nX1_next) (fun x20 σ19 => ?_)
        refine Mjn0 (fun  (X31 : Option ((Nat ⊕ Nat) × CS)) => Mn σ19 X31) (?_) (fun k21 hk21 => ?_)
        · refine Mgd ?_
          refine Mgd ?_
          refine Mst (Nat.le_refl _) (Nat.le_refl _) (fun σ22 => ?_)
          refine Mst (Nat.le_succ _) (Nat.le_add_right _ _) (fun σ23 => ?_)
          refine Mgd ?_
          refine Mclx (nX1_number) (fun x25 σ24 => ?_)
          refine Mcl2 (nX8_init) (fun _ σ26 => ?_)
          exact Mret
        · refine Mite ?_ ?_
          · exact hk21
          · refine Mite ?_ ?_
            · exact hk21
            · refine Mite ?_ ?_
              · exact hk21
              · refine Mst (Nat.le_succ _) (Nat.le_add_right _ _) (fun σ28 => ?_)
                refine Mgd ?_
                refine Mcl2 (nX6_init) (fun _ σ29 => ?_)
                exact Mret
      · refine Mite ?_ ?_
        · refine Mgd ?_
          refine Mgd ?_
          refine Mst (Nat.le_refl _) (Nat.le_refl _) (fun σ32 => ?_)
          refine Mgd ?_
          refine Mcl2 (nX1_next) (fun x34 σ33 => ?_)
          refine Mjn0 (fun  (X45 : Option ((Nat ⊕ Nat) × CS)) => Mn σ33 X45) (?_) (fun k35 hk35 => ?_)
          · refine Mgd ?_
            refine Mgd ?_
            refine Mst (Nat.le_refl _) (Nat.le_refl _) (fun σ36 => ?_)
            refine Mst (Nat.le_succ _) (Nat.le_add_right _ _) (fun σ37 => ?_)
            refine Mgd ?_
            refine Mclx (nX1_number) (fun x39 σ38 => ?_)
            refine Mcl2 (nX8_init) (fun _ σ40 => ?_)
            exact Mret
          · refine Mite ?_ ?_
            · exact hk35
            · refine Mite ?_ ?_
              · exact hk35
              · refine Mite ?_ ?_
                · exact hk35
                · refine Mst (Nat.le_succ _) (Nat.le_add_right _ _) (fun σ42 => ?_)
                  refine Mgd ?_
                  refine Mcl2 (nX6_init) (fun _ σ43 => ?_)
                  exact Mret
        · refine Mite ?_ ?_
          · refine Mgd ?_
            refine Mgd ?_
            refine Mst (Nat.le_refl _) (Nat.le_refl _) (fun σ46 => ?_)
            refine Mgd ?_
            refine Mcl2 (nX1_next) (fun x48 σ47 => ?_)
            refine Mjn0 (fun  (X59 : Option ((Nat ⊕ Nat) × CS)) => Mn σ47 X59) (?_) (fun k49 hk49 => ?_)
            · refine Mgd ?_
              refine Mgd ?_
              refine Mst (Nat.le_refl _) (Nat.le_refl _) (fun σ50 => ?_)
              refine Mst (Nat.le_succ _) (Nat.le_add_right _ _) (fun σ51 => ?_)
              refine Mgd ?_
              refine Mclx (nX1_number) (fun x53 σ52 => ?_)
              refine Mcl2 (nX8_init) (fun _ σ54 => ?_)
              exact Mret
            · refine Mite ?_ ?_
              · exact hk49
              · refine Mite ?_ ?_
                · exact hk49
                · refine Mite ?_ ?_
                  · exact hk49
                  · refine Mst (Nat.le_succ _) (Nat.le_add_right _ _) (fun σ56 => ?_)
                    refine Mgd ?_
                    refine Mcl2 (nX6_init) (fun _ σ57 => ?_)
                    exact Mret
          · refine Mst (Nat.le_succ _) (Nat.le_add_right _ _) (fun σ60 => ?_)
            refine Mgd ?_
            refine Mcl2 (nX6_init) (fun _ σ61 => ?_)
            exact Mret
set_option maxHeartbeats 4000000 in
set_option maxRecDepth 100000 in
theorem mX1_fact (l : Launch) (E : CE) {fT nT : Nat} {kr : KR} (hv : VR l E fT nT kr) (hm : ∀ i a σ, Mn σ (kr i a σ)) {a0 : Nat} {σ : CS} {res : Nat ⊕ Nat} {σz : CS} (hX : fX1_fact kr a0 σ = some (res, σz)) : MetX l yX1_fact (ws_ yX1_fact cX1_fact 5 (some (.object "FortyDays$Test"))) (fT + 12) (nT + 300) E σ [.ref a0] (xoR res) σz := by
  refine MetX.of hX (by decide) (Nat.le_of_ble_eq_true rfl) (nX1_fact hm _ hX) ?_
  intro p e s m below meth c hx hb hr hml hts hown hlocks hout hk hz0
  have hK := hk.1
  show J p l e (headSpec (ws_ yX1_fact cX1_fact 5 (some (.object "FortyDays$Test"))) (rmC (fT + 12) (nT + 300) σ σz)).room s m ([.ref a0] : List Value).toArray below meth c 5 E (cZ σ) (cS σ) (MQX below E (xoR res) σz s (cZ σz - cZ σ) (cS σz - cS σ)) (res, σz) (fX1_fact kr a0 σ) σ 0 [(0, .ref a0)] []
  unfold fX1_fact
  refine Jrow (fun H locs ls hH hS hl k => lv_aload_n hx hb dX1_fact_0 rfl (lv_at hl 0 rfl) (k ls hl)) ?_
  refine Jgd (fun hg => ?_)
  refine Jcl2 (fun x2 σ1 hf => ?_)
  refine Jcall (v := (some (.int x2))) (rest := []) (mX1_next l E hf).1 ⟨rfl, rfl⟩ (fun H locs ls hH hS hl hR => ⟨_, va_runV (C := RX1) (As := []) ⟨hx, hb, hml, hown, hts⟩ (mX1_next l E hf).2 (cwV 0 hts (lw_V q380 q382 qs1 q92 q383) rfl rfl rfl (by decide +kernel) ⟨Nat.le_trans (m := 12) (Nat.le_of_ble_eq_true rfl) (Nat.le_add_left _ _), Nat.le_trans (m := 300) (Nat.le_of_ble_eq_true rfl) (Nat.le_add_left _ _)⟩) (c_preV (ci := 2) hk hH hS hg rfl) rfl rfl hl.1 rfl (lv_room (Nat.le_of_ble_eq_true rfl)) dX1_fact_1 hR⟩) ?_
  clear hf
  refine Jrow (fun H locs ls hH hS hl k => lv_istore_n (lv' := [(1, .int x2), (0, .ref a0)]) hx hb dX1_fact_4 rfl hl (by decide) rfl k) ?_
  refine Jrow (fun H locs ls hH hS hl k => lv_iload_n hx hb dX1_fact_5 rfl (lv_at hl 0 rfl) (k ls hl)) ?_
  refine Jite (fun hc0 => ?_) (fun hc0 => ?_)
  · refine Jrow (fun H locs ls hH hS hl k => lv_lookup (off := 50) (tgt := 56) hx hb dX1_fact_6 (by decide) (by rw [hc0]; decide) (by decide) (k ls hl)) ?_
    refine Jrow (fun H locs ls hH hS hl k => lv_aload_n hx hb dX1_fact_56 rfl (lv_at hl 1 rfl) (k ls hl)) ?_
    refine Jgd (fun hg => ?_)
    refine Jclx (fun x4 σ3 hf => JXleave (rest := []) (fun _ => rfl) (mX1_opens l E hf).1 ⟨rfl, rfl⟩ hout hlocks (fun H locs ls hH hS hl hR => throwV (C := RX1) (As := []) ⟨hx, hb, hml, hown, hts⟩ (mX1_opens l E hf) (cwV 0 hts (lw_V q479 q481 qs11 q92 q482) rfl rfl rfl (by decide +kernel) ⟨Nat.le_trans (m := 12) (Nat.le_of_ble_eq_true rfl) (Nat.le_add_left _ _), Nat.le_trans (m := 300) (Nat.le_of_ble_eq_true rfl) (Nat.le_add_left _ _)⟩) (c_preV (ci := 2) hk hH hS hg rfl) hS rfl rfl hl.1 rfl (lv_room (Nat.le_of_ble_eq_true rfl)) dX1_fact_57 hR)) (fun _ σ3 hf => ?_)
    refine Jcall (v := none) (rest := []) (mX1_opens l E hf).1 ⟨rfl, rfl⟩ (fun H locs ls hH hS hl hR => ⟨_, va_runV (C := RX1) (As := []) ⟨hx, hb, hml, hown, hts⟩ (mX1_opens l E hf).ret.2 (cwV 0 hts (lw_V q479 q481 qs11 q92 q482) rfl rfl rfl (by decide +kernel) ⟨Nat.le_trans (m := 12) (Nat.le_of_ble_eq_true rfl) (Nat.le_add_left _ _), Nat.le_trans (m := 300) (Nat.le_of_ble_eq_true rfl) (Nat.le_add_left _ _)⟩) (c_preV (ci := 2) hk hH hS hg rfl) rfl rfl hl.1 rfl (lv_room (Nat.le_of_ble_eq_true rfl)) dX1_fact_57 hR⟩) ?_
    clear hf
    refine Jrow (fun H locs ls hH hS hl k => lv_aload_n hx hb dX1_fact_60 rfl (lv_at hl 1 rfl) (k ls hl)) ?_
    refine Jgd (fun hg => ?_)
    refine Jclx (fun x5 σ6 hf => JXleave (rest := []) (fun _ => rfl) (hv.1 hf).1 ⟨rfl, rfl⟩ hout hlocks (fun H locs ls hH hS hl hR => throwV (C := RX1) (As := []) ⟨hx, hb, hml, hown, hts⟩ (hv.1 hf) (cwV 0 hts (lw_V q475 q477 qs10 q92 q478) rfl rfl rfl (by decide +kernel) ⟨Nat.add_le_add_left (Nat.le_of_ble_eq_true rfl : 1 ≤ 12) fT, (by show 8 + (5 + 11) + nT ≤ nT + 300; omega)⟩) (c_preV (ci := 2) hk hH hS hg rfl) hS rfl rfl hl.1 rfl (lv_room (Nat.le_of_ble_eq_true rfl)) dX1_fact_61 hR)) (fun x5 σ6 hf => ?_)
    refine Jcall (v := (some (.ref x5))) (rest := []) (hv.1 hf).1 ⟨rfl, rfl⟩ (fun H locs ls hH hS hl hR => ⟨_, va_runV (C := RX1) (As := []) ⟨hx, hb, hml, hown, hts⟩ (hv.1 hf).ret.2 (cwV 0 hts (lw_V q475 q477 qs10 q92 q478) rfl rfl rfl (by decide +kernel) ⟨Nat.add_le_add_left (Nat.le_of_ble_eq_true rfl : 1 ≤ 12) fT, (by show 8 + (5 + 11) + nT ≤ nT + 300; omega)⟩) (c_preV (ci := 2) hk hH hS hg rfl) rfl rfl hl.1 rfl (lv_room (Nat.le_of_ble_eq_true rfl)) dX1_fact_61 hR⟩) ?_
    clear hf
    refine Jrow (fun H locs ls hH hS hl k => lv_astore_n (lv' := [(2, .ref x5), (1, .int x2), (0, .ref a0)]) hx hb dX1_fact_64 rfl hl (by decide) rfl k) ?_
    refine Jrow (fun H locs ls hH hS hl k => lv_aload_n hx hb dX1_fact_65 rfl (lv_at hl 2 rfl) (k ls hl)) ?_
    refine Jrow (fun H locs ls hH hS hl k => lv_dup hx hb dX1_fact_66 rfl (k ls hl)) ?_
    refine Jgd (fun hg => ?_)
    refine Jrow (fun H locs ls hH hS hl k => c_get (F := 47) (v := .int (cFI σ6 a0 47)) hx hb hts hown hK hH hg (hts _ q168) (fun _ h => h) rfl dX1_fact_67 (k ls hl)) ?_
    refine Jrow (fun H locs ls hH hS hl k => lv_iconst (v := (1:Int32)) hx hb dX1_fact_70 (by decide) (k ls hl)) ?_
    refine Jrow (fun H locs ls hH hS hl k => lv_isub hx hb dX1_fact_71 (k ls hl)) ?_
    refine Jgd (fun hg => ?_)
    refine Jst (σ1 := uFI σ6 a0 47 ((cFI σ6 a0 47) - (1:Int32))) rfl rfl (fun H locs ls hH hS hl k => c_putI (F := 47) (ty := .int) (x := ((cFI σ6 a0 47) - (1:Int32))) hx hb hts hown hK hH hS hg (hts _ q168) (fun _ h => h) rfl rfl (by decide +kernel) rfl rfl rfl dX1_fact_72 k) (fun σ7 => ?_)
    refine Jnew (σ1 := nO σ7 8 1) (n := 1) rfl rfl ⟨rfl, rfl⟩ (fun H locs ls hH hS hl h1 h2 k => c_new (ci := 7) hx hb hts hown hK hH hS hk.2.1 in_X7 tyX7 tyX7_ok (by decide +kernel) (hts _ q483) (hts _ q484) (hts _ q100) rfl h1 h2 dX1_fact_75 k) (fun σ8 eσ8 => ?_)
    clear eσ8
    refine Jrow (fun H locs ls hH hS hl k => lv_dup hx hb dX1_fact_78 rfl (k ls hl)) ?_
    refine Jrow (fun H locs ls hH hS hl k => lv_aload_n hx hb dX1_fact_79 rfl (lv_at hl 0 rfl) (k ls hl)) ?_
    refine Jcl2 (fun _ σ9 hf => ?_)
    refine Jcall (v := none) (rest := [.ref (cZ σ7)]) (mX7_init l E hf).1 ⟨rfl, rfl⟩ (fun H locs ls hH hS hl hR => ⟨_, va_runI (As := [.ref x5]) ⟨hx, hb, hml, hown, hts⟩ (mX7_init l E hf).2 (cwI 1 hts (lw_meth q487) rfl rfl rfl (hts _ q100) (hts _ q485) (hts _ q486) rfl (by decide +kernel) ⟨Nat.le_trans (m := 12) (Nat.le_of_ble_eq_true rfl) (Nat.le_add_left _ _), Nat.le_trans (m := 300) (Nat.le_of_ble_eq_true rfl) (Nat.le_add_left _ _)⟩) (c_preS hk hH hS) rfl rfl hl.1 rfl (lv_room (Nat.le_of_ble_eq_true rfl)) dX1_fact_80 hR⟩) ?_
    clear hf
    exact JXaret hx hb hr (Or.inl ⟨_, rfl⟩) hlocks dX1_fact_83
  · refine Jite (fun hc1 => ?_) (fun hc1 => ?_)
    · refine Jrow (fun H locs ls hH hS hl k => lv_lookup (off := 78) (tgt := 84) hx hb dX1_fact_6 (by decide) (by rw [hc1]; decide) (by decide) (k ls hl)) ?_
      refine Jrow (fun H locs ls hH hS hl k => lv_aload_n hx hb dX1_fact_84 rfl (lv_at hl 1 rfl) (k ls hl)) ?_
      refine Jgd (fun hg => ?_)
      refine Jclx (fun x12 σ11 hf => JXleave (rest := []) (fun _ => rfl) (mX1_opens l E hf).1 ⟨rfl, rfl⟩ hout hlocks (fun H locs ls hH hS hl hR => throwV (C := RX1) (As := []) ⟨hx, hb, hml, hown, hts⟩ (mX1_opens l E hf) (cwV 0 hts (lw_V q479 q481 qs11 q92 q482) rfl rfl rfl (by decide +kernel) ⟨Nat.le_trans (m := 12) (Nat.le_of_ble_eq_true rfl) (Nat.le_add_left _ _), Nat.le_trans (m := 300) (Nat.le_of_ble_eq_true rfl) (Nat.le_add_left _ _)⟩) (c_preV (ci := 2) hk hH hS hg rfl) hS rfl rfl hl.1 rfl (lv_room (Nat.le_of_ble_eq_true rfl)) dX1_fact_85 hR)) (fun _ σ11 hf => ?_)
      refine Jcall (v := none) (rest := []) (mX1_opens l E hf).1 ⟨rfl, rfl⟩ (fun H locs ls hH hS hl hR => ⟨_, va_runV (C := RX1) (As := []) ⟨hx, hb, hml, hown, hts⟩ (mX1_opens l E hf).ret.2 (cwV 0 hts (lw_V q479 q481 qs11 q92 q482) rfl rfl rfl (by decide +kernel) ⟨Nat.le_trans (m := 12) (Nat.le_of_ble_eq_true rfl) (Nat.le_add_left _ _), Nat.le_trans (m := 300) (Nat.le_of_ble_eq_true rfl) (Nat.le_add_left _ _)⟩) (c_preV (ci := 2) hk hH hS hg rfl) rfl rfl hl.1 rfl (lv_room (Nat.le_of_ble_eq_true rfl)) dX1_fact_85 hR⟩) ?_
      clear hf
      refine Jrow (fun H locs ls hH hS hl k => lv_aload_n hx hb dX1_fact_88 rfl (lv_at hl 1 rfl) (k ls hl)) ?_
      refine Jgd (fun hg => ?_)
      refine Jclx (fun x13 σ14 hf => JXleave (rest := []) (fun _ => rfl) (hv.2.2 hf).1 ⟨rfl, rfl⟩ hout hlocks (fun H locs ls hH hS hl hR => throwV (C := RX1) (As := []) ⟨hx, hb, hml, hown, hts⟩ (hv.2.2 hf) (cwV 0 hts (lw_V q467 q469 qs8 q92 q470) rfl rfl rfl (by decide +kernel) ⟨Nat.add_le_add_left (Nat.le_of_ble_eq_true rfl : 1 ≤ 12) fT, (by show 8 + (2 + 11) + nT ≤ nT + 300; omega)⟩) (c_preV (ci := 2) hk hH hS hg rfl) hS rfl rfl hl.1 rfl (lv_room (Nat.le_of_ble_eq_true rfl)) dX1_fact_89 hR)) (fun x13 σ14 hf => ?_)
      refine Jcall (v := (some (.ref x13))) (rest := []) (hv.2.2 hf).1 ⟨rfl, rfl⟩ (fun H locs ls hH hS hl hR => ⟨_, va_runV (C := RX1) (As := []) ⟨hx, hb, hml, hown, hts⟩ (hv.2.2 hf).ret.2 (cwV 0 hts (lw_V q467 q469 qs8 q92 q470) rfl rfl rfl (by decide +kernel) ⟨Nat.add_le_add_left (Nat.le_of_ble_eq_true rfl : 1 ≤ 12) fT, (by show 8 + (2 + 11) + nT ≤ nT + 300; omega)⟩) (c_preV (ci := 2) hk hH hS hg rfl) rfl rfl hl.1 rfl (lv_room (Nat.le_of_ble_eq_true rfl)) dX1_fact_89 hR⟩) ?_
      clear hf
      refine Jrow (fun H locs ls hH hS hl k => lv_astore_n (lv' := [(3, .ref x13), (1, .int x2), (0, .ref a0)]) hx hb dX1_fact_92 rfl hl (by decide) rfl k) ?_
      refine Jrow (fun H locs ls hH hS hl k => lv_aload_n hx hb dX1_fact_93 rfl (lv_at hl 2 rfl) (k ls hl)) ?_
      refine Jrow (fun H locs ls hH hS hl k => lv_bipush (v := (41:Int32)) hx hb dX1_fact_94 (by decide) (k ls hl)) ?_
      refine Jgd (fun hg => ?_)
      refine Jclx (fun x16 σ15 hf => JXleave (rest := []) (fun _ => rfl) (mX1_sign l E hf).1 ⟨rfl, rfl⟩ hout hlocks (fun H locs ls hH hS hl hR => throwV (C := RX1) (As := [.int (41:Int32)]) ⟨hx, hb, hml, hown, hts⟩ (mX1_sign l E hf) (cwV 1 hts (lw_V q396 q398 qs5 q92 q399) rfl rfl rfl (by decide +kernel) ⟨Nat.le_trans (m := 12) (Nat.le_of_ble_eq_true rfl) (Nat.le_add_left _ _), Nat.le_trans (m := 300) (Nat.le_of_ble_eq_true rfl) (Nat.le_add_left _ _)⟩) (c_preV (ci := 2) hk hH hS hg rfl) hS rfl rfl hl.1 rfl (lv_room (Nat.le_of_ble_eq_true rfl)) dX1_fact_96 hR)) (fun _ σ15 hf => ?_)
      refine Jcall (v := none) (rest := []) (mX1_sign l E hf).1 ⟨rfl, rfl⟩ (fun H locs ls hH hS hl hR => ⟨_, va_runV (C := RX1) (As := [.int (41:Int32)]) ⟨hx, hb, hml, hown, hts⟩ (mX1_sign l E hf).ret.2 (cwV 1 hts (lw_V q396 q398 qs5 q92 q399) rfl rfl rfl (by decide +kernel) ⟨Nat.le_trans (m := 12) (Nat.le_of_ble_eq_true rfl) (Nat.le_add_left _ _), Nat.le_trans (m := 300) (Nat.le_of_ble_eq_true rfl) (Nat.le_add_left _ _)⟩) (c_preV (ci := 2) hk hH hS hg rfl) rfl rfl hl.1 rfl (lv_room (Nat.le_of_ble_eq_true rfl)) dX1_fact_96 hR⟩) ?_
      clear hf
      refine Jrow (fun H locs ls hH hS hl k => lv_aload_n hx hb dX1_fact_99 rfl (lv_at hl 2 rfl) (k ls hl)) ?_
      refine Jrow (fun H locs ls hH hS hl k => lv_dup hx hb dX1_fact_100 rfl (k ls hl)) ?_
      refine Jgd (fun hg => ?_)
      refine Jrow (fun H locs ls hH hS hl k => c_get (F := 47) (v := .int (cFI σ15 a0 47)) hx hb hts hown hK hH hg (hts _ q168) (fun _ h => h) rfl dX1_fact_101 (k ls hl)) ?_
      refine Jrow (fun H locs ls hH hS hl k => lv_iconst (v := (1:Int32)) hx hb dX1_fact_104 (by decide) (k ls hl)) ?_
      refine Jrow (fun H locs ls hH hS hl k => lv_isub hx hb dX1_fact_105 (k ls hl)) ?_
      refine Jgd (fun hg => ?_)
      refine Jst (σ1 := uFI σ15 a0 47 ((cFI σ15 a0 47) - (1:Int32))) rfl rfl (fun H locs ls hH hS hl k => c_putI (F := 47) (ty := .int) (x := ((cFI σ15 a0 47) - (1:Int32))) hx hb hts hown hK hH hS hg (hts _ q168) (fun _ h => h) rfl rfl (by decide +kernel) rfl rfl rfl dX1_fact_106 k) (fun σ17 => ?_)
      refine Jrow (fun H locs ls hH hS hl k => lv_aload_n hx hb dX1_fact_109 rfl (lv_at hl 0 rfl) (k ls hl)) ?_
      exact JXaret hx hb hr (Or.inl ⟨_, rfl⟩) hlocks dX1_fact_110
    · refine Jite (fun hc2 => ?_) (fun hc2 => ?_)
      · refine Jrow (fun H locs ls hH hS hl k => lv_lookup (off := 105) (tgt := 111) hx hb dX1_fact_6 (by decide) (by rw [hc2]; decide) (by decide) (k ls hl)) ?_
        refine Jrow (fun H locs ls hH hS hl k => lv_aload_n hx hb dX1_fact_111 rfl (lv_at hl 1 rfl) (k ls hl)) ?_
        refine Jrow (fun H locs ls hH hS hl k => lv_dup hx hb dX1_fact_112 rfl (k ls hl)) ?_
        refine Jgd (fun hg => ?_)
        refine Jrow (fun H locs ls hH hS hl k => c_get (F := 46) (v := .int (cFI σ1 a0 46)) hx hb hts hown hK hH hg (hts _ q167) (fun _ h => h) rfl dX1_fact_113 (k ls hl)) ?_
        refine Jrow (fun H locs ls hH hS hl k => lv_iconst (v := (1:Int32)) hx hb dX1_fact_116 (by decide) (k ls hl)) ?_
        refine Jrow (fun H locs ls hH hS hl k => lv_iadd hx hb dX1_fact_117 (k ls hl)) ?_
        refine Jgd (fun hg => ?_)
        refine Jst (σ1 := uFI σ1 a0 46 ((cFI σ1 a0 46) + (1:Int32))) rfl rfl (fun H locs ls hH hS hl k => c_putI (F := 46) (ty := .int) (x := ((cFI σ1 a0 46) + (1:Int32))) hx hb hts hown hK hH hS hg (hts _ q167) (fun _ h => h) rfl rfl (by decide +kernel) rfl rfl rfl dX1_fact_118 k) (fun σ18 => ?_)
        refine Jrow (fun H locs ls hH hS hl k => lv_aload_n hx hb dX1_fact_121 rfl (lv_at hl 1 rfl) (k ls hl)) ?_
        refine Jgd (fun hg => ?_)
        refine Jcl2 (fun x20 σ19 hf => ?_)
        refine Jcall (v := (some (.int x20))) (rest := []) (mX1_next l E hf).1 ⟨rfl, rfl⟩ (fun H locs ls hH hS hl hR => ⟨_, va_runV (C := RX1) (As := []) ⟨hx, hb, hml, hown, hts⟩ (mX1_next l E hf).2 (cwV 0 hts (lw_V q380 q382 qs1 q92 q383) rfl rfl rfl (by decide +kernel) ⟨Nat.le_trans (m := 12) (Nat.le_of_ble_eq_true rfl) (Nat.le_add_left _ _), Nat.le_trans (m := 300) (Nat.le_of_ble_eq_true rfl) (Nat.le_add_left _ _)⟩) (c_preV (ci := 2) hk hH hS hg rfl) rfl rfl hl.1 rfl (lv_room (Nat.le_of_ble_eq_true rfl)) dX1_fact_122 hR⟩) ?_
        clear hf
        refine Jrow (fun H locs ls hH hS hl k => lv_istore (lv' := [(4, .int x20), (1, .int x2), (0, .ref a0)]) hx hb dX1_fact_125 hl (by decide) rfl k) ?_
        refine Jrow (fun H locs ls hH hS hl k => lv_iload hx hb dX1_fact_127 (lv_at hl 0 rfl) (k ls hl)) ?_
        refine Jrow (fun H locs ls hH hS hl k => lv_bipush (v := (60:Int32)) hx hb dX1_fact_129 (by decide) (k ls hl)) ?_
        refine Jjn0 (fun  X31 => J p l e (headSpec (ws_ yX1_fact cX1_fact 5 (some (.object "FortyDays$Test"))) (rmC (fT + 12) (nT + 300) σ σz)).room s m ([.ref a0] : List Value).toArray below meth c 5 E (cZ σ) (cS σ) (MQX below E (xoR res) σz s (cZ σz - cZ σ) (cS σz - cS σ)) (res, σz) X31 σ19 160 [(0, .ref a0), (1, .int x2), (4, .int x20)] []) (?_) (fun k21 hk21 => ?_)
        · refine Jrow (fun H locs ls hH hS hl k => lv_aload_n hx hb dX1_fact_160 rfl (lv_at hl 0 rfl) (k ls hl)) ?_
          refine Jrow (fun H locs ls hH hS hl k => lv_dup hx hb dX1_fact_161 rfl (k ls hl)) ?_
          refine Jgd (fun hg => ?_)
          refine Jrow (fun H locs ls hH hS hl k => c_get (F := 46) (v := .int (cFI σ19 a0 46)) hx hb hts hown hK hH hg (hts _ q167) (fun _ h => h) rfl dX1_fact_162 (k ls hl)) ?_
          refine Jrow (fun H locs ls hH hS hl k => lv_iconst (v := (1:Int32)) hx hb dX1_fact_165 (by decide) (k ls hl)) ?_
          refine Jrow (fun H locs ls hH hS hl k => lv_iadd hx hb dX1_fact_166 (k ls hl)) ?_
          refine Jgd (fun hg => ?_)
          refine Jst (σ1 := uFI σ19 a0 46 ((cFI σ19 a0 46) + (1:Int32))) rfl rfl (fun H locs ls hH hS hl k => c_putI (F := 46) (ty := .int) (x := ((cFI σ19 a0 46) + (1:Int32))) hx hb hts hown hK hH hS hg (hts _ q167) (fun _ h => h) rfl rfl (by decide +kernel) rfl rfl rfl dX1_fact_167 k) (fun σ22 => ?_)
          refine Jnew (σ1 := nO σ22 9 3) (n := 3) rfl rfl ⟨rfl, rfl⟩ (fun H locs ls hH hS hl h1 h2 k => c_new (ci := 8) hx hb hts hown hK hH hS hk.2.1 in_X8 tyX8 tyX8_ok (by decide +kernel) (hts _ q493) (hts _ q494) (hts _ q101) rfl h1 h2 dX1_fact_170 k) (fun σ23 eσ23 => ?_)
          clear eσ23
          refine Jrow (fun H locs ls hH hS hl k => lv_dup hx hb dX1_fact_173 rfl (k ls hl)) ?_
          refine Jrow (fun H locs ls hH hS hl k => lv_iload_n hx hb dX1_fact_174 rfl (lv_at hl 1 rfl) (k ls hl)) ?_
          refine Jrow (fun H locs ls hH hS hl k => lv_iload hx hb dX1_fact_175 (lv_at hl 2 rfl) (k ls hl)) ?_
          refine Jrow (fun H locs ls hH hS hl k => lv_aload_n hx hb dX1_fact_177 rfl (lv_at hl 0 rfl) (k ls hl)) ?_
          refine Jgd (fun hg => ?_)
          refine Jclx (fun x25 σ24 hf => JXleave (rest := [.int x20, .int x2, .ref (cZ σ22), .ref (cZ σ22)]) (fun _ => rfl) (mX1_number l E hf).1 ⟨rfl, rfl⟩ hout hlocks (fun H locs ls hH hS hl hR => throwV (C := RX1) (As := []) ⟨hx, hb, hml, hown, hts⟩ (mX1_number l E hf) (cwV 0 hts (lw_V q463 q465 qs7 q92 q466) rfl rfl rfl (by decide +kernel) ⟨Nat.le_trans (m := 12) (Nat.le_of_ble_eq_true rfl) (Nat.le_add_left _ _), Nat.le_trans (m := 300) (Nat.le_of_ble_eq_true rfl) (Nat.le_add_left _ _)⟩) (c_preV (ci := 2) hk hH hS hg rfl) hS rfl rfl hl.1 rfl (lv_room (Nat.le_of_ble_eq_true rfl)) dX1_fact_178 hR)) (fun x25 σ24 hf => ?_)
          refine Jcall (v := (some (.int x25))) (rest := [.int x20, .int x2, .ref (cZ σ22), .ref (cZ σ22)]) (mX1_number l E hf).1 ⟨rfl, rfl⟩ (fun H locs ls hH hS hl hR => ⟨_, va_runV (C := RX1) (As := []) ⟨hx, hb, hml, hown, hts⟩ (mX1_number l E hf).ret.2 (cwV 0 hts (lw_V q463 q465 qs7 q92 q466) rfl rfl rfl (by decide +kernel) ⟨Nat.le_trans (m := 12) (Nat.le_of_ble_eq_true rfl) (Nat.le_add_left _ _), Nat.le_trans (m := 300) (Nat.le_of_ble_eq_true rfl) (Nat.le_add_left _ _)⟩) (c_preV (ci := 2) hk hH hS hg rfl) rfl rfl hl.1 rfl (lv_room (Nat.le_of_ble_eq_true rfl)) dX1_fact_178 hR⟩) ?_
          clear hf
          refine Jcl2 (fun _ σ26 hf => ?_)
          refine Jcall (v := none) (rest := [.ref (cZ σ22)]) (mX8_init l E hf).1 ⟨rfl, rfl⟩ (fun H locs ls hH hS hl hR => ⟨_, va_runI (As := [.int x2, .int x20, .int x25]) ⟨hx, hb, hml, hown, hts⟩ (mX8_init l E hf).2 (cwI 3 hts (lw_meth q497) rfl rfl rfl (hts _ q101) (hts _ q495) (hts _ q496) rfl (by decide +kernel) ⟨Nat.le_trans (m := 12) (Nat.le_of_ble_eq_true rfl) (Nat.le_add_left _ _), Nat.le_trans (m := 300) (Nat.le_of_ble_eq_true rfl) (Nat.le_add_left _ _)⟩) (c_preS hk hH hS) rfl rfl hl.1 rfl (lv_room (Nat.le_of_ble_eq_true rfl)) dX1_fact_181 hR⟩) ?_
          clear hf
          exact JXaret hx hb hr (Or.inl ⟨_, rfl⟩) hlocks dX1_fact_184
        · refine Jite (fun hc => ?_) (fun hc => ?_)
          · refine Jrow (fun H locs ls hH hS hl k => lv_icmp_eq (tgt := 160) hx hb dX1_fact_131 (by decide) (fun _ => (k ls hl)) (fun h => absurd hc h)) ?_
            clear hc
            exact Jsub [2, 1, 0] rfl (hk21)
          · refine Jrow (fun H locs ls hH hS hl k => lv_icmp_eq (tgt := 160) hx hb dX1_fact_131 (by decide) (fun h => absurd h hc) (fun _ => (k ls hl))) ?_
            clear hc
            refine Jrow (fun H locs ls hH hS hl k => lv_iload hx hb dX1_fact_134 (lv_at hl 0 rfl) (k ls hl)) ?_
            refine Jrow (fun H locs ls hH hS hl k => lv_bipush (v := (61:Int32)) hx hb dX1_fact_136 (by decide) (k ls hl)) ?_
            refine Jite (fun hc => ?_) (fun hc => ?_)
            · refine Jrow (fun H locs ls hH hS hl k => lv_icmp_eq (tgt := 160) hx hb dX1_fact_138 (by decide) (fun _ => (k ls hl)) (fun h => absurd hc h)) ?_
              clear hc
              exact Jsub [2, 1, 0] rfl (hk21)
            · refine Jrow (fun H locs ls hH hS hl k => lv_icmp_eq (tgt := 160) hx hb dX1_fact_138 (by decide) (fun h => absurd h hc) (fun _ => (k ls hl))) ?_
              clear hc
              refine Jrow (fun H locs ls hH hS hl k => lv_iload hx hb dX1_fact_141 (lv_at hl 0 rfl) (k ls hl)) ?_
              refine Jrow (fun H locs ls hH hS hl k => lv_bipush (v := (62:Int32)) hx hb dX1_fact_143 (by decide) (k ls hl)) ?_
              refine Jite (fun hc => ?_) (fun hc => ?_)
              · refine Jrow (fun H locs ls hH hS hl k => lv_icmp_eq (tgt := 160) hx hb dX1_fact_145 (by decide) (fun _ => (k ls hl)) (fun h => absurd hc h)) ?_
                clear hc
                exact Jsub [2, 1, 0] rfl (hk21)
              · refine Jrow (fun H locs ls hH hS hl k => lv_icmp_eq (tgt := 160) hx hb dX1_fact_145 (by decide) (fun h => absurd h hc) (fun _ => (k ls hl))) ?_
                clear hc
                refine Jnew (σ1 := nO σ19 7 7) (n := 7) rfl rfl ⟨rfl, rfl⟩ (fun H locs ls hH hS hl h1 h2 k => c_new (ci := 6) hx hb hts hown hK hH hS hk.2.1 in_X6 tyX6 tyX6_ok (by decide +kernel) (hts _ q400) (hts _ q401) (hts _ q99) rfl h1 h2 dX1_fact_148 k) (fun σ28 eσ28 => ?_)
                clear eσ28
                refine Jrow (fun H locs ls hH hS hl k => lv_dup hx hb dX1_fact_151 rfl (k ls hl)) ?_
                refine Jrow (fun H locs ls hH hS hl k => lv_aload_n hx hb dX1_fact_152 rfl (lv_at hl 2 rfl) (k ls hl)) ?_
                refine Jgd (fun hg => ?_)
                refine Jrow (fun H locs ls hH hS hl k => c_get (F := 46) (v := .int (cFI σ28 a0 46)) hx hb hts hown hK hH hg (hts _ q167) (fun _ h => h) rfl dX1_fact_153 (k ls hl)) ?_
                refine Jcl2 (fun _ σ29 hf => ?_)
                refine Jcall (v := none) (rest := [.ref (cZ σ19)]) (mX6_init l E hf).1 ⟨rfl, rfl⟩ (fun H locs ls hH hS hl hR => ⟨_, va_runI (As := [.int (cFI σ28 a0 46)]) ⟨hx, hb, hml, hown, hts⟩ (mX6_init l E hf).2 (cwI 1 hts (lw_meth q439) rfl rfl rfl (hts _ q99) (hts _ q437) (hts _ q438) rfl (by decide +kernel) ⟨Nat.le_trans (m := 12) (Nat.le_of_ble_eq_true rfl) (Nat.le_add_left _ _), Nat.le_trans (m := 300) (Nat.le_of_ble_eq_true rfl) (Nat.le_add_left _ _)⟩) (c_preS hk hH hS) rfl rfl hl.1 rfl (lv_room (Nat.le_of_ble_eq_true rfl)) dX1_fact_156 hR⟩) ?_
                clear hf
                exact JXthrow (fun _ => rfl) hx hb hout hlocks dX1_fact_159
      · refine Jite (fun hc3 => ?_) (fun hc3 => ?_)
        · refine Jrow (fun H locs ls hH hS hl k => lv_lookup (off := 105) (tgt := 111) hx hb dX1_fact_6 (by decide) (by rw [hc3]; decide) (by decide) (k ls hl)) ?_
          refine Jrow (fun H locs ls hH hS hl k => lv_aload_n hx hb dX1_fact_111 rfl (lv_at hl 1 rfl) (k ls hl)) ?_
          refine Jrow (fun H locs ls hH hS hl k => lv_dup hx hb dX1_fact_112 rfl (k ls hl)) ?_
          refine Jgd (fun hg => ?_)
          refine Jrow (fun H locs ls hH hS hl k => c_get (F := 46) (v := .int (cFI σ1 a0 46)) hx hb hts hown hK hH hg (hts _ q167) (fun _ h => h) rfl dX1_fact_113 (k ls hl)) ?_
          refine Jrow (fun H locs ls hH hS hl k => lv_iconst (v := (1:Int32)) hx hb dX1_fact_116 (by decide) (k ls hl)) ?_
          refine Jrow (fun H locs ls hH hS hl k => lv_iadd hx hb dX1_fact_117 (k ls hl)) ?_
          refine Jgd (fun hg => ?_)
          refine Jst (σ1 := uFI σ1 a0 46 ((cFI σ1 a0 46) + (1:Int32))) rfl rfl (fun H locs ls hH hS hl k => c_putI (F := 46) (ty := .int) (x := ((cFI σ1 a0 46) + (1:Int32))) hx hb hts hown hK hH hS hg (hts _ q167) (fun _ h => h) rfl rfl (by decide +kernel) rfl rfl rfl dX1_fact_118 k) (fun σ32 => ?_)
          refine Jrow (fun H locs ls hH hS hl k => lv_aload_n hx hb dX1_fact_121 rfl (lv_at hl 1 rfl) (k ls hl)) ?_
          refine Jgd (fun hg => ?_)
          refine Jcl2 (fun x34 σ33 hf => ?_)
          refine Jcall (v := (some (.int x34))) (rest := []) (mX1_next l E hf).1 ⟨rfl, rfl⟩ (fun H locs ls hH hS hl hR => ⟨_, va_runV (C := RX1) (As := []) ⟨hx, hb, hml, hown, hts⟩ (mX1_next l E hf).2 (cwV 0 hts (lw_V q380 q382 qs1 q92 q383) rfl rfl rfl (by decide +kernel) ⟨Nat.le_trans (m := 12) (Nat.le_of_ble_eq_true rfl) (Nat.le_add_left _ _), Nat.le_trans (m := 300) (Nat.le_of_ble_eq_true rfl) (Nat.le_add_left _ _)⟩) (c_preV (ci := 2) hk hH hS hg rfl) rfl rfl hl.1 rfl (lv_room (Nat.le_of_ble_eq_true rfl)) dX1_fact_122 hR⟩) ?_
          clear hf
          refine Jrow (fun H locs ls hH hS hl k => lv_istore (lv' := [(4, .int x34), (1, .int x2), (0, .ref a0)]) hx hb dX1_fact_125 hl (by decide) rfl k) ?_
          refine Jrow (fun H locs ls hH hS hl k => lv_iload hx hb dX1_fact_127 (lv_at hl 0 rfl) (k ls hl)) ?_
          refine Jrow (fun H locs ls hH hS hl k => lv_bipush (v := (60:Int32)) hx hb dX1_fact_129 (by decide) (k ls hl)) ?_
          refine Jjn0 (fun  X45 => J p l e (headSpec (ws_ yX1_fact cX1_fact 5 (some (.object "FortyDays$Test"))) (rmC (fT + 12) (nT + 300) σ σz)).room s m ([.ref a0] : List Value).toArray below meth c 5 E (cZ σ) (cS σ) (MQX below E (xoR res) σz s (cZ σz - cZ σ) (cS σz - cS σ)) (res, σz) X45 σ33 160 [(0, .ref a0), (1, .int x2), (4, .int x34)] []) (?_) (fun k35 hk35 => ?_)
          · refine Jrow (fun H locs ls hH hS hl k => lv_aload_n hx hb dX1_fact_160 rfl (lv_at hl 0 rfl) (k ls hl)) ?_
            refine Jrow (fun H locs ls hH hS hl k => lv_dup hx hb dX1_fact_161 rfl (k ls hl)) ?_
            refine Jgd (fun hg => ?_)
            refine Jrow (fun H locs ls hH hS hl k => c_get (F := 46) (v := .int (cFI σ33 a0 46)) hx hb hts hown hK hH hg (hts _ q167) (fun _ h => h) rfl dX1_fact_162 (k ls hl)) ?_
            refine Jrow (fun H locs ls hH hS hl k => lv_iconst (v := (1:Int32)) hx hb dX1_fact_165 (by decide) (k ls hl)) ?_
            refine Jrow (fun H locs ls hH hS hl k => lv_iadd hx hb dX1_fact_166 (k ls hl)) ?_
            refine Jgd (fun hg => ?_)
            refine Jst (σ1 := uFI σ33 a0 46 ((cFI σ33 a0 46) + (1:Int32))) rfl rfl (fun H locs ls hH hS hl k => c_putI (F := 46) (ty := .int) (x := ((cFI σ33 a0 46) + (1:Int32))) hx hb hts hown hK hH hS hg (hts _ q167) (fun _ h => h) rfl rfl (by decide +kernel) rfl rfl rfl dX1_fact_167 k) (fun σ36 => ?_)
            refine Jnew (σ1 := nO σ36 9 3) (n := 3) rfl rfl ⟨rfl, rfl⟩ (fun H locs ls hH hS hl h1 h2 k => c_new (ci := 8) hx hb hts hown hK hH hS hk.2.1 in_X8 tyX8 tyX8_ok (by decide +kernel) (hts _ q493) (hts _ q494) (hts _ q101) rfl h1 h2 dX1_fact_170 k) (fun σ37 eσ37 => ?_)
            clear eσ37
            refine Jrow (fun H locs ls hH hS hl k => lv_dup hx hb dX1_fact_173 rfl (k ls hl)) ?_
            refine Jrow (fun H locs ls hH hS hl k => lv_iload_n hx hb dX1_fact_174 rfl (lv_at hl 1 rfl) (k ls hl)) ?_
            refine Jrow (fun H locs ls hH hS hl k => lv_iload hx hb dX1_fact_175 (lv_at hl 2 rfl) (k ls hl)) ?_
            refine Jrow (fun H locs ls hH hS hl k => lv_aload_n hx hb dX1_fact_177 rfl (lv_at hl 0 rfl) (k ls hl)) ?_
            refine Jgd (fun hg => ?_)
            refine Jclx (fun x39 σ38 hf => JXleave (rest := [.int x34, .int x2, .ref (cZ σ36), .ref (cZ σ36)]) (fun _ => rfl) (mX1_number l E hf).1 ⟨rfl, rfl⟩ hout hlocks (fun H locs ls hH hS hl hR => throwV (C := RX1) (As := []) ⟨hx, hb, hml, hown, hts⟩ (mX1_number l E hf) (cwV 0 hts (lw_V q463 q465 qs7 q92 q466) rfl rfl rfl (by decide +kernel) ⟨Nat.le_trans (m := 12) (Nat.le_of_ble_eq_true rfl) (Nat.le_add_left _ _), Nat.le_trans (m := 300) (Nat.le_of_ble_eq_true rfl) (Nat.le_add_left _ _)⟩) (c_preV (ci := 2) hk hH hS hg rfl) hS rfl rfl hl.1 rfl (lv_room (Nat.le_of_ble_eq_true rfl)) dX1_fact_178 hR)) (fun x39 σ38 hf => ?_)
            refine Jcall (v := (some (.int x39))) (rest := [.int x34, .int x2, .ref (cZ σ36), .ref (cZ σ36)]) (mX1_number l E hf).1 ⟨rfl, rfl⟩ (fun H locs ls hH hS hl hR => ⟨_, va_runV (C := RX1) (As := []) ⟨hx, hb, hml, hown, hts⟩ (mX1_number l E hf).ret.2 (cwV 0 hts (lw_V q463 q465 qs7 q92 q466) rfl rfl rfl (by decide +kernel) ⟨Nat.le_trans (m := 12) (Nat.le_of_ble_eq_true rfl) (Nat.le_add_left _ _), Nat.le_trans (m := 300) (Nat.le_of_ble_eq_true rfl) (Nat.le_add_left _ _)⟩) (c_preV (ci := 2) hk hH hS hg rfl) rfl rfl hl.1 rfl (lv_room (Nat.le_of_ble_eq_true rfl)) dX1_fact_178 hR⟩) ?_
            clear hf
            refine Jcl2 (fun _ σ40 hf => ?_)
            refine Jcall (v := none) (rest := [.ref (cZ σ36)]) (mX8_init l E hf).1 ⟨rfl, rfl⟩ (fun H locs ls hH hS hl hR => ⟨_, va_runI (As := [.int x2, .int x34, .int x39]) ⟨hx, hb, hml, hown, hts⟩ (mX8_init l E hf).2 (cwI 3 hts (lw_meth q497) rfl rfl rfl (hts _ q101) (hts _ q495) (hts _ q496) rfl (by decide +kernel) ⟨Nat.le_trans (m := 12) (Nat.le_of_ble_eq_true rfl) (Nat.le_add_left _ _), Nat.le_trans (m := 300) (Nat.le_of_ble_eq_true rfl) (Nat.le_add_left _ _)⟩) (c_preS hk hH hS) rfl rfl hl.1 rfl (lv_room (Nat.le_of_ble_eq_true rfl)) dX1_fact_181 hR⟩) ?_
            clear hf
            exact JXaret hx hb hr (Or.inl ⟨_, rfl⟩) hlocks dX1_fact_184
          · refine Jite (fun hc => ?_) (fun hc => ?_)
            · refine Jrow (fun H locs ls hH hS hl k => lv_icmp_eq (tgt := 160) hx hb dX1_fact_131 (by decide) (fun _ => (k ls hl)) (fun h => absurd hc h)) ?_
              clear hc
              exact Jsub [2, 1, 0] rfl (hk35)
            · refine Jrow (fun H locs ls hH hS hl k => lv_icmp_eq (tgt := 160) hx hb dX1_fact_131 (by decide) (fun h => absurd h hc) (fun _ => (k ls hl))) ?_
              clear hc
              refine Jrow (fun H locs ls hH hS hl k => lv_iload hx hb dX1_fact_134 (lv_at hl 0 rfl) (k ls hl)) ?_
              refine Jrow (fun H locs ls hH hS hl k => lv_bipush (v := (61:Int32)) hx hb dX1_fact_136 (by decide) (k ls hl)) ?_
              refine Jite (fun hc => ?_) (fun hc => ?_)
              · refine Jrow (fun H locs ls hH hS hl k => lv_icmp_eq (tgt := 160) hx hb dX1_fact_138 (by decide) (fun _ => (k ls hl)) (fun h => absurd hc h)) ?_
                clear hc
                exact Jsub [2, 1, 0] rfl (hk35)
              · refine Jrow (fun H locs ls hH hS hl k => lv_icmp_eq (tgt := 160) hx hb dX1_fact_138 (by decide) (fun h => absurd h hc) (fun _ => (k ls hl))) ?_
                clear hc
                refine Jrow (fun H locs ls hH hS hl k => lv_iload hx hb dX1_fact_141 (lv_at hl 0 rfl) (k ls hl)) ?_
                refine Jrow (fun H locs ls hH hS hl k => lv_bipush (v := (62:Int32)) hx hb dX1_fact_143 (by decide) (k ls hl)) ?_
                refine Jite (fun hc => ?_) (fun hc => ?_)
                · refine Jrow (fun H locs ls hH hS hl k => lv_icmp_eq (tgt := 160) hx hb dX1_fact_145 (by decide) (fun _ => (k ls hl)) (fun h => absurd hc h)) ?_
                  clear hc
                  exact Jsub [2, 1, 0] rfl (hk35)
                · refine Jrow (fun H locs ls hH hS hl k => lv_icmp_eq (tgt := 160) hx hb dX1_fact_145 (by decide) (fun h => absurd h hc) (fun _ => (k ls hl))) ?_
                  clear hc
                  refine Jnew (σ1 := nO σ33 7 7) (n := 7) rfl rfl ⟨rfl, rfl⟩ (fun H locs ls hH hS hl h1 h2 k => c_new (ci := 6) hx hb hts hown hK hH hS hk.2.1 in_X6 tyX6 tyX6_ok (by decide +kernel) (hts _ q400) (hts _ q401) (hts _ q99) rfl h1 h2 dX1_fact_148 k) (fun σ42 eσ42 => ?_)
                  clear eσ42
                  refine Jrow (fun H locs ls hH hS hl k => lv_dup hx hb dX1_fact_151 rfl (k ls hl)) ?_
                  refine Jrow (fun H locs ls hH hS hl k => lv_aload_n hx hb dX1_fact_152 rfl (lv_at hl 2 rfl) (k ls hl)) ?_
                  refine Jgd (fun hg => ?_)
                  refine Jrow (fun H locs ls hH hS hl k => c_get (F := 46) (v := .int (cFI σ42 a0 46)) hx hb hts hown hK hH hg (hts _ q167) (fun _ h => h) rfl dX1_fact_153 (k ls hl)) ?_
                  refine Jcl2 (fun _ σ43 hf => ?_)
                  refine Jcall (v := none) (rest := [.ref (cZ σ33)]) (mX6_init l E hf).1 ⟨rfl, rfl⟩ (fun H locs ls hH hS hl hR => ⟨_, va_runI (As := [.int (cFI σ42 a0 46)]) ⟨hx, hb, hml, hown, hts⟩ (mX6_init l E hf).2 (cwI 1 hts (lw_meth q439) rfl rfl rfl (hts _ q99) (hts _ q437) (hts _ q438) rfl (by decide +kernel) ⟨Nat.le_trans (m := 12) (Nat.le_of_ble_eq_true rfl) (Nat.le_add_left _ _), Nat.le_trans (m := 300) (Nat.le_of_ble_eq_true rfl) (Nat.le_add_left _ _)⟩) (c_preS hk hH hS) rfl rfl hl.1 rfl (lv_room (Nat.le_of_ble_eq_true rfl)) dX1_fact_156 hR⟩) ?_
                  clear hf
                  exact JXthrow (fun _ => rfl) hx hb hout hlocks dX1_fact_159
        · refine Jite (fun hc4 => ?_) (fun hc4 => ?_)
          · refine Jrow (fun H locs ls hH hS hl k => lv_lookup (off := 105) (tgt := 111) hx hb dX1_fact_6 (by decide) (by rw [hc4]; decide) (by decide) (k ls hl)) ?_
            refine Jrow (fun H locs ls hH hS hl k => lv_aload_n hx hb dX1_fact_111 rfl (lv_at hl 1 rfl) (k ls hl)) ?_
            refine Jrow (fun H locs ls hH hS hl k => lv_dup hx hb dX1_fact_112 rfl (k ls hl)) ?_
            refine Jgd (fun hg => ?_)
            refine Jrow (fun H locs ls hH hS hl k => c_get (F := 46) (v := .int (cFI σ1 a0 46)) hx hb hts hown hK hH hg (hts _ q167) (fun _ h => h) rfl dX1_fact_113 (k ls hl)) ?_
            refine Jrow (fun H locs ls hH hS hl k => lv_iconst (v := (1:Int32)) hx hb dX1_fact_116 (by decide) (k ls hl)) ?_
            refine Jrow (fun H locs ls hH hS hl k => lv_iadd hx hb dX1_fact_117 (k ls hl)) ?_
            refine Jgd (fun hg => ?_)
            refine Jst (σ1 := uFI σ1 a0 46 ((cFI σ1 a0 46) + (1:Int32))) rfl rfl (fun H locs ls hH hS hl k => c_putI (F := 46) (ty := .int) (x := ((cFI σ1 a0 46) + (1:Int32))) hx hb hts hown hK hH hS hg (hts _ q167) (fun _ h => h) rfl rfl (by decide +kernel) rfl rfl rfl dX1_fact_118 k) (fun σ46 => ?_)
            refine Jrow (fun H locs ls hH hS hl k => lv_aload_n hx hb dX1_fact_121 rfl (lv_at hl 1 rfl) (k ls hl)) ?_
            refine Jgd (fun hg => ?_)
            refine Jcl2 (fun x48 σ47 hf => ?_)
            refine Jcall (v := (some (.int x48))) (rest := []) (mX1_next l E hf).1 ⟨rfl, rfl⟩ (fun H locs ls hH hS hl hR => ⟨_, va_runV (C := RX1) (As := []) ⟨hx, hb, hml, hown, hts⟩ (mX1_next l E hf).2 (cwV 0 hts (lw_V q380 q382 qs1 q92 q383) rfl rfl rfl (by decide +kernel) ⟨Nat.le_trans (m := 12) (Nat.le_of_ble_eq_true rfl) (Nat.le_add_left _ _), Nat.le_trans (m := 300) (Nat.le_of_ble_eq_true rfl) (Nat.le_add_left _ _)⟩) (c_preV (ci := 2) hk hH hS hg rfl) rfl rfl hl.1 rfl (lv_room (Nat.le_of_ble_eq_true rfl)) dX1_fact_122 hR⟩) ?_
            clear hf
            refine Jrow (fun H locs ls hH hS hl k => lv_istore (lv' := [(4, .int x48), (1, .int x2), (0, .ref a0)]) hx hb dX1_fact_125 hl (by decide) rfl k) ?_
            refine Jrow (fun H locs ls hH hS hl k => lv_iload hx hb dX1_fact_127 (lv_at hl 0 rfl) (k ls hl)) ?_
            refine Jrow (fun H locs ls hH hS hl k => lv_bipush (v := (60:Int32)) hx hb dX1_fact_129 (by decide) (k ls hl)) ?_
            refine Jjn0 (fun  X59 => J p l e (headSpec (ws_ yX1_fact cX1_fact 5 (some (.object "FortyDays$Test"))) (rmC (fT + 12) (nT + 300) σ σz)).room s m ([.ref a0] : List Value).toArray below meth c 5 E (cZ σ) (cS σ) (MQX below E (xoR res) σz s (cZ σz - cZ σ) (cS σz - cS σ)) (res, σz) X59 σ47 160 [(0, .ref a0), (1, .int x2), (4, .int x48)] []) (?_) (fun k49 hk49 => ?_)
            · refine Jrow (fun H locs ls hH hS hl k => lv_aload_n hx hb dX1_fact_160 rfl (lv_at hl 0 rfl) (k ls hl)) ?_
              refine Jrow (fun H locs ls hH hS hl k => lv_dup hx hb dX1_fact_161 rfl (k ls hl)) ?_
              refine Jgd (fun hg => ?_)
              refine Jrow (fun H locs ls hH hS hl k => c_get (F := 46) (v := .int (cFI σ47 a0 46)) hx hb hts hown hK hH hg (hts _ q167) (fun _ h => h) rfl dX1_fact_162 (k ls hl)) ?_
              refine Jrow (fun H locs ls hH hS hl k => lv_iconst (v := (1:Int32)) hx hb dX1_fact_165 (by decide) (k ls hl)) ?_
              refine Jrow (fun H locs ls hH hS hl k => lv_iadd hx hb dX1_fact_166 (k ls hl)) ?_
              refine Jgd (fun hg => ?_)
              refine Jst (σ1 := uFI σ47 a0 46 ((cFI σ47 a0 46) + (1:Int32))) rfl rfl (fun H locs ls hH hS hl k => c_putI (F := 46) (ty := .int) (x := ((cFI σ47 a0 46) + (1:Int32))) hx hb hts hown hK hH hS hg (hts _ q167) (fun _ h => h) rfl rfl (by decide +kernel) rfl rfl rfl dX1_fact_167 k) (fun σ50 => ?_)
              refine Jnew (σ1 := nO σ50 9 3) (n := 3) rfl rfl ⟨rfl, rfl⟩ (fun H locs ls hH hS hl h1 h2 k => c_new (ci := 8) hx hb hts hown hK hH hS hk.2.1 in_X8 tyX8 tyX8_ok (by decide +kernel) (hts _ q493) (hts _ q494) (hts _ q101) rfl h1 h2 dX1_fact_170 k) (fun σ51 eσ51 => ?_)
              clear eσ51
              refine Jrow (fun H locs ls hH hS hl k => lv_dup hx hb dX1_fact_173 rfl (k ls hl)) ?_
              refine Jrow (fun H locs ls hH hS hl k => lv_iload_n hx hb dX1_fact_174 rfl (lv_at hl 1 rfl) (k ls hl)) ?_
              refine Jrow (fun H locs ls hH hS hl k => lv_iload hx hb dX1_fact_175 (lv_at hl 2 rfl) (k ls hl)) ?_
              refine Jrow (fun H locs ls hH hS hl k => lv_aload_n hx hb dX1_fact_177 rfl (lv_at hl 0 rfl) (k ls hl)) ?_
              refine Jgd (fun hg => ?_)
              refine Jclx (fun x53 σ52 hf => JXleave (rest := [.int x48, .int x2, .ref (cZ σ50), .ref (cZ σ50)]) (fun _ => rfl) (mX1_number l E hf).1 ⟨rfl, rfl⟩ hout hlocks (fun H locs ls hH hS hl hR => throwV (C := RX1) (As := []) ⟨hx, hb, hml, hown, hts⟩ (mX1_number l E hf) (cwV 0 hts (lw_V q463 q465 qs7 q92 q466) rfl rfl rfl (by decide +kernel) ⟨Nat.le_trans (m := 12) (Nat.le_of_ble_eq_true rfl) (Nat.le_add_left _ _), Nat.le_trans (m := 300) (Nat.le_of_ble_eq_true rfl) (Nat.le_add_left _ _)⟩) (c_preV (ci := 2) hk hH hS hg rfl) hS rfl rfl hl.1 rfl (lv_room (Nat.le_of_ble_eq_true rfl)) dX1_fact_178 hR)) (fun x53 σ52 hf => ?_)
              refine Jcall (v := (some (.int x53))) (rest := [.int x48, .int x2, .ref (cZ σ50), .ref (cZ σ50)]) (mX1_number l E hf).1 ⟨rfl, rfl⟩ (fun H locs ls hH hS hl hR => ⟨_, va_runV (C := RX1) (As := []) ⟨hx, hb, hml, hown, hts⟩ (mX1_number l E hf).ret.2 (cwV 0 hts (lw_V q463 q465 qs7 q92 q466) rfl rfl rfl (by decide +kernel) ⟨Nat.le_trans (m := 12) (Nat.le_of_ble_eq_true rfl) (Nat.le_add_left _ _), Nat.le_trans (m := 300) (Nat.le_of_ble_eq_true rfl) (Nat.le_add_left _ _)⟩) (c_preV (ci := 2) hk hH hS hg rfl) rfl rfl hl.1 rfl (lv_room (Nat.le_of_ble_eq_true rfl)) dX1_fact_178 hR⟩) ?_
              clear hf
              refine Jcl2 (fun _ σ54 hf => ?_)
              refine Jcall (v := none) (rest := [.ref (cZ σ50)]) (mX8_init l E hf).1 ⟨rfl, rfl⟩ (fun H locs ls hH hS hl hR => ⟨_, va_runI (As := [.int x2, .int x48, .int x53]) ⟨hx, hb, hml, hown, hts⟩ (mX8_init l E hf).2 (cwI 3 hts (lw_meth q497) rfl rfl rfl (hts _ q101) (hts _ q495) (hts _ q496) rfl (by decide +kernel) ⟨Nat.le_trans (m := 12) (Nat.le_of_ble_eq_true rfl) (Nat.le_add_left _ _), Nat.le_trans (m := 300) (Nat.le_of_ble_eq_true rfl) (Nat.le_add_left _ _)⟩) (c_preS hk hH hS) rfl rfl hl.1 rfl (lv_room (Nat.le_of_ble_eq_true rfl)) dX1_fact_181 hR⟩) ?_
              clear hf
              exact JXaret hx hb hr (Or.inl ⟨_, rfl⟩) hlocks dX1_fact_184
            · refine Jite (fun hc => ?_) (fun hc => ?_)
              · refine Jrow (fun H locs ls hH hS hl k => lv_icmp_eq (tgt := 160) hx hb dX1_fact_131 (by decide) (fun _ => (k ls hl)) (fun h => absurd hc h)) ?_
                clear hc
                exact Jsub [2, 1, 0] rfl (hk49)
              · refine Jrow (fun H locs ls hH hS hl k => lv_icmp_eq (tgt := 160) hx hb dX1_fact_131 (by decide) (fun h => absurd h hc) (fun _ => (k ls hl))) ?_
                clear hc
                refine Jrow (fun H locs ls hH hS hl k => lv_iload hx hb dX1_fact_134 (lv_at hl 0 rfl) (k ls hl)) ?_
                refine Jrow (fun H locs ls hH hS hl k => lv_bipush (v := (61:Int32)) hx hb dX1_fact_136 (by decide) (k ls hl)) ?_
                refine Jite (fun hc => ?_) (fun hc => ?_)
                · refine Jrow (fun H locs ls hH hS hl k => lv_icmp_eq (tgt := 160) hx hb dX1_fact_138 (by decide) (fun _ => (k ls hl)) (fun h => absurd hc h)) ?_
                  clear hc
                  exact Jsub [2, 1, 0] rfl (hk49)
                · refine Jrow (fun H locs ls hH hS hl k => lv_icmp_eq (tgt := 160) hx hb dX1_fact_138 (by decide) (fun h => absurd h hc) (fun _ => (k ls hl))) ?_
                  clear hc
                  refine Jrow (fun H locs ls hH hS hl k => lv_iload hx hb dX1_fact_141 (lv_at hl 0 rfl) (k ls hl)) ?_
                  refine Jrow (fun H locs ls hH hS hl k => lv_bipush (v := (62:Int32)) hx hb dX1_fact_143 (by decide) (k ls hl)) ?_
                  refine Jite (fun hc => ?_) (fun hc => ?_)
                  · refine Jrow (fun H locs ls hH hS hl k => lv_icmp_eq (tgt := 160) hx hb dX1_fact_145 (by decide) (fun _ => (k ls hl)) (fun h => absurd hc h)) ?_
                    clear hc
                    exact Jsub [2, 1, 0] rfl (hk49)
                  · refine Jrow (fun H locs ls hH hS hl k => lv_icmp_eq (tgt := 160) hx hb dX1_fact_145 (by decide) (fun h => absurd h hc) (fun _ => (k ls hl))) ?_
                    clear hc
                    refine Jnew (σ1 := nO σ47 7 7) (n := 7) rfl rfl ⟨rfl, rfl⟩ (fun H locs ls hH hS hl h1 h2 k => c_new (ci := 6) hx hb hts hown hK hH hS hk.2.1 in_X6 tyX6 tyX6_ok (by decide +kernel) (hts _ q400) (hts _ q401) (hts _ q99) rfl h1 h2 dX1_fact_148 k) (fun σ56 eσ56 => ?_)
                    clear eσ56
                    refine Jrow (fun H locs ls hH hS hl k => lv_dup hx hb dX1_fact_151 rfl (k ls hl)) ?_
                    refine Jrow (fun H locs ls hH hS hl k => lv_aload_n hx hb dX1_fact_152 rfl (lv_at hl 2 rfl) (k ls hl)) ?_
                    refine Jgd (fun hg => ?_)
                    refine Jrow (fun H locs ls hH hS hl k => c_get (F := 46) (v := .int (cFI σ56 a0 46)) hx hb hts hown hK hH hg (hts _ q167) (fun _ h => h) rfl dX1_fact_153 (k ls hl)) ?_
                    refine Jcl2 (fun _ σ57 hf => ?_)
                    refine Jcall (v := none) (rest := [.ref (cZ σ47)]) (mX6_init l E hf).1 ⟨rfl, rfl⟩ (fun H locs ls hH hS hl hR => ⟨_, va_runI (As := [.int (cFI σ56 a0 46)]) ⟨hx, hb, hml, hown, hts⟩ (mX6_init l E hf).2 (cwI 1 hts (lw_meth q439) rfl rfl rfl (hts _ q99) (hts _ q437) (hts _ q438) rfl (by decide +kernel) ⟨Nat.le_trans (m := 12) (Nat.le_of_ble_eq_true rfl) (Nat.le_add_left _ _), Nat.le_trans (m := 300) (Nat.le_of_ble_eq_true rfl) (Nat.le_add_left _ _)⟩) (c_preS hk hH hS) rfl rfl hl.1 rfl (lv_room (Nat.le_of_ble_eq_true rfl)) dX1_fact_156 hR⟩) ?_
                    clear hf
                    exact JXthrow (fun _ => rfl) hx hb hout hlocks dX1_fact_159
          · refine Jrow (fun H locs ls hH hS hl k => lv_lookup (off := 179) (tgt := 185) hx hb dX1_fact_6 (by decide) (by show Op.lookupswitch.offset _ _ _ = _; rw [lv_osw hc0 (by decide)]; rw [lv_osw hc1 (by decide)]; rw [lv_osw hc2 (by decide)]; rw [lv_osw hc3 (by decide)]; rw [lv_osw hc4 (by decide)]; rfl) (by decide) (k ls hl)) ?_
            refine Jnew (σ1 := nO σ1 7 7) (n := 7) rfl rfl ⟨rfl, rfl⟩ (fun H locs ls hH hS hl h1 h2 k => c_new (ci := 6) hx hb hts hown hK hH hS hk.2.1 in_X6 tyX6 tyX6_ok (by decide +kernel) (hts _ q400) (hts _ q401) (hts _ q99) rfl h1 h2 dX1_fact_185 k) (fun σ60 eσ60 => ?_)
            clear eσ60
            refine Jrow (fun H locs ls hH hS hl k => lv_dup hx hb dX1_fact_188 rfl (k ls hl)) ?_
            refine Jrow (fun H locs ls hH hS hl k => lv_aload_n hx hb dX1_fact_189 rfl (lv_at hl 1 rfl) (k ls hl)) ?_
            refine Jgd (fun hg => ?_)
            refine Jrow (fun H locs ls hH hS hl k => c_get (F := 46) (v := .int (cFI σ60 a0 46)) hx hb hts hown hK hH hg (hts _ q167) (fun _ h => h) rfl dX1_fact_190 (k ls hl)) ?_
            refine Jcl2 (fun _ σ61 hf => ?_)
            refine Jcall (v := none) (rest := [.ref (cZ σ1)]) (mX6_init l E hf).1 ⟨rfl, rfl⟩ (fun H locs ls hH hS hl hR => ⟨_, va_runI (As := [.int (cFI σ60 a0 46)]) ⟨hx, hb, hml, hown, hts⟩ (mX6_init l E hf).2 (cwI 1 hts (lw_meth q439) rfl rfl rfl (hts _ q99) (hts _ q437) (hts _ q438) rfl (by decide +kernel) ⟨Nat.le_trans (m := 12) (Nat.le_of_ble_eq_true rfl) (Nat.le_add_left _ _), Nat.le_trans (m := 300) (Nat.le_of_ble_eq_true rfl) (Nat.le_add_left _ _)⟩) (c_preS hk hH hS) rfl rfl hl.1 rfl (lv_room (Nat.le_of_ble_eq_true rfl)) dX1_fact_193 hR⟩) ?_
            clear hf
            exact JXthrow (fun _ => rfl) hx hb hout hlocks dX1_fact_196

def fX1_both (kr : KR) (a0 : Nat) (σ : CS) : Option ((Nat ⊕ Nat) × CS) :=
 gd (kd σ a0 3) (
 clx (kr 0 a0 σ) (fun (x1 : Nat) (σ2 : CS) =>
 lp (fun _ _ => none) (fun (k5 : Nat → CS → Option ((Nat ⊕ Nat) × CS)) (x3 : Nat) (σ4 : CS) =>
 gd (kd σ4 a0 3) (
 cl2 (fX1_next a0 σ4) (fun (x7 : Int32) (σ6 : CS) =>
 if x7 = (38:Int32) then
 gd (hf (cK σ6 a0) 46) (
 gd (hf (cK σ6 a0) 46) (
 bd (uFI σ6 a0 46 ((cFI σ6 a0 46) + (1:Int32))) (fun (σ8 : CS) =>
 bd (nO σ8 10 3) (fun (σ9 : CS) =>
 gd (kd σ9 a0 3) (
 clx (kr 0 a0 σ9) (fun (x10 : Nat) (σ11 : CS) =>
 cl2 (fX9_init (cZ σ8) x3 x10 (1:Int32) σ11) (fun (_ : Unit) (σ12 : CS) =>
 k5 (cZ σ8) σ12)))))))
 else
 some (.inl x3, σ6)))) NF x1 σ2))
theorem nX1_both {kr : KR} (hm : ∀ i a σ, Mn σ (kr i a σ)) {a0 : Nat} {σ : CS} : Mn σ (fX1_both kr a0 σ) := by
  unfold fX1_both
  refine Mgd ?_
  refine Mclx (hm 0 _ _) (fun x1 σ2 => ?_)
  refine Plp2 (fun (x3 : Nat) (σ4 : CS) (X14 : Option ((Nat ⊕ Nat) × CS)) => Mn σ4 X14) (fun _ _ => Mnone) (fun k5 hk5 x3 σ4 => ?_)
  refine Mgd ?_
  refine Mcl2 (nX1_next) (fun x7 σ6 => ?_)
  refine Mite ?_ ?_
  · refine Mgd ?_
    refine Mgd ?_
    refine Mst (Nat.le_refl _) (Nat.le_refl _) (fun σ8 => ?_)
    refine Mst (Nat.le_succ _) (Nat.le_add_right _ _) (fun σ9 => ?_)
    refine Mgd ?_
    refine Mclx (hm 0 _ _) (fun x10 σ11 => ?_)
    refine Mcl2 (nX9_init) (fun _ σ12 => ?_)
    exact hk5 (cZ σ8) σ12
  · exact Mret
set_option maxHeartbeats 4000000 in
set_option maxRecDepth 100000 in
theorem mX1_both (l : Launch) (E : CE) {fT nT : Nat} {kr : KR} (hv : VR l E fT nT kr) (hm : ∀ i a σ, Mn σ (kr i a σ)) {a0 : Nat} {σ : CS} {res : Nat ⊕ Nat} {σz : CS} (hX : fX1_both kr a0 σ = some (res, σz)) : MetX l yX1_both (ws_ yX1_both cX1_both 2 (some (.object "FortyDays$Test"))) (fT + 12) (nT + 300) E σ [.ref a0] (xoR res) σz := by
  refine MetX.of hX (by decide) (Nat.le_of_ble_eq_true rfl) (nX1_both hm _ hX) ?_
  intro p e s m below meth c hx hb hr hml hts hown hlocks hout hk hz0
  have hK := hk.1
  show J p l e (headSpec (ws_ yX1_both cX1_both 2 (some (.object "FortyDays$Test"))) (rmC (fT + 12) (nT + 300) σ σz)).room s m ([.ref a0] : List Value).toArray below meth c 2 E (cZ σ) (cS σ) (MQX below E (xoR res) σz s (cZ σz - cZ σ) (cS σz - cS σ)) (res, σz) (fX1_both kr a0 σ) σ 0 [(0, .ref a0)] []
  unfold fX1_both
  refine Jrow (fun H locs ls hH hS hl k => lv_aload_n hx hb dX1_both_0 rfl (lv_at hl 0 rfl) (k ls hl)) ?_
  refine Jgd (fun hg => ?_)
  refine Jclx (fun x1 σ2 hf => JXleave (rest := []) (fun _ => rfl) (hv.1 hf).1 ⟨rfl, rfl⟩ hout hlocks (fun H locs ls hH hS hl hR => throwV (C := RX1) (As := []) ⟨hx, hb, hml, hown, hts⟩ (hv.1 hf) (cwV 0 hts (lw_V q475 q477 qs10 q92 q478) rfl rfl rfl (by decide +kernel) ⟨Nat.add_le_add_left (Nat.le_of_ble_eq_true rfl : 1 ≤ 12) fT, (by show 8 + (5 + 11) + nT ≤ nT + 300; omega)⟩) (c_preV (ci := 2) hk hH hS hg rfl) hS rfl rfl hl.1 rfl (lv_room (Nat.le_of_ble_eq_true rfl)) dX1_both_1 hR)) (fun x1 σ2 hf => ?_)
  refine Jcall (v := (some (.ref x1))) (rest := []) (hv.1 hf).1 ⟨rfl, rfl⟩ (fun H locs ls hH hS hl hR => ⟨_, va_runV (C := RX1) (As := []) ⟨hx, hb, hml, hown, hts⟩ (hv.1 hf).ret.2 (cwV 0 hts (lw_V q475 q477 qs10 q92 q478) rfl rfl rfl (by decide +kernel) ⟨Nat.add_le_add_left (Nat.le_of_ble_eq_true rfl : 1 ≤ 12) fT, (by show 8 + (5 + 11) + nT ≤ nT + 300; omega)⟩) (c_preV (ci := 2) hk hH hS hg rfl) rfl rfl hl.1 rfl (lv_room (Nat.le_of_ble_eq_true rfl)) dX1_both_1 hR⟩) ?_
  clear hf
  refine Jrow (fun H locs ls hH hS hl k => lv_astore_n (lv' := [(1, .ref x1), (0, .ref a0)]) hx hb dX1_both_4 rfl hl (by decide) rfl k) ?_
  refine Jsub [1, 0] rfl (Plp2 (fun (x3 : Nat) (σ4 : CS) X14 => J p l e (headSpec (ws_ yX1_both cX1_both 2 (some (.object "FortyDays$Test"))) (rmC (fT + 12) (nT + 300) σ σz)).room s m ([.ref a0] : List Value).toArray below meth c 2 E (cZ σ) (cS σ) (MQX below E (xoR res) σz s (cZ σz - cZ σ) (cS σz - cS σ)) (res, σz) X14 σ4 5 [(0, .ref a0), (1, .ref x3)] []) (fun _ _ => Jnone) (fun k5 hk5 x3 σ4 => ?_))
  refine Jrow (fun H locs ls hH hS hl k => lv_aload_n hx hb dX1_both_5 rfl (lv_at hl 0 rfl) (k ls hl)) ?_
  refine Jgd (fun hg => ?_)
  refine Jcl2 (fun x7 σ6 hf => ?_)
  refine Jcall (v := (some (.int x7))) (rest := []) (mX1_next l E hf).1 ⟨rfl, rfl⟩ (fun H locs ls hH hS hl hR => ⟨_, va_runV (C := RX1) (As := []) ⟨hx, hb, hml, hown, hts⟩ (mX1_next l E hf).2 (cwV 0 hts (lw_V q380 q382 qs1 q92 q383) rfl rfl rfl (by decide +kernel) ⟨Nat.le_trans (m := 12) (Nat.le_of_ble_eq_true rfl) (Nat.le_add_left _ _), Nat.le_trans (m := 300) (Nat.le_of_ble_eq_true rfl) (Nat.le_add_left _ _)⟩) (c_preV (ci := 2) hk hH hS hg rfl) rfl rfl hl.1 rfl (lv_room (Nat.le_of_ble_eq_true rfl)) dX1_both_6 hR⟩) ?_
  clear hf
  refine Jrow (fun H locs ls hH hS hl k => lv_bipush (v := (38:Int32)) hx hb dX1_both_9 (by decide) (k ls hl)) ?_
  refine Jite (fun hc => ?_) (fun hc => ?_)
  · refine Jrow (fun H locs ls hH hS hl k => lv_icmp_ne (tgt := 41) hx hb dX1_both_11 (by decide) (fun h => absurd hc h) (fun _ => (k ls hl))) ?_
    clear hc
    refine Jrow (fun H locs ls hH hS hl k => lv_aload_n hx hb dX1_both_14 rfl (lv_at hl 0 rfl) (k ls hl)) ?_
    refine Jrow (fun H locs ls hH hS hl k => lv_dup hx hb dX1_both_15 rfl (k ls hl)) ?_
    refine Jgd (fun hg => ?_)
    refine Jrow (fun H locs ls hH hS hl k => c_get (F := 46) (v := .int (cFI σ6 a0 46)) hx hb hts hown hK hH hg (hts _ q167) (fun _ h => h) rfl dX1_both_16 (k ls hl)) ?_
    refine Jrow (fun H locs ls hH hS hl k => lv_iconst (v := (1:Int32)) hx hb dX1_both_19 (by decide) (k ls hl)) ?_
    refine Jrow (fun H locs ls hH hS hl k => lv_iadd hx hb dX1_both_20 (k ls hl)) ?_
    refine Jgd (fun hg => ?_)
    refine Jst (σ1 := uFI σ6 a0 46 ((cFI σ6 a0 46) + (1:Int32))) rfl rfl (fun H locs ls hH hS hl k => c_putI (F := 46) (ty := .int) (x := ((cFI σ6 a0 46) + (1:Int32))) hx hb hts hown hK hH hS hg (hts _ q167) (fun _ h => h) rfl rfl (by decide +kernel) rfl rfl rfl dX1_both_21 k) (fun σ8 => ?_)
    refine Jnew (σ1 := nO σ8 10 3) (n := 3) rfl rfl ⟨rfl, rfl⟩ (fun H locs ls hH hS hl h1 h2 k => c_new (ci := 9) hx hb hts hown hK hH hS hk.2.1 in_X9 tyX9 tyX9_ok (by decide +kernel) (hts _ q509) (hts _ q510) (hts _ q102) rfl h1 h2 dX1_both_24 k) (fun σ9 eσ9 => ?_)
    clear eσ9
    refine Jrow (fun H locs ls hH hS hl k => lv_dup hx hb dX1_both_27 rfl (k ls hl)) ?_
    refine Jrow (fun H locs ls hH hS hl k => lv_aload_n hx hb dX1_both_28 rfl (lv_at hl 1 rfl) (k ls hl)) ?_
    refine Jrow (fun H locs ls hH hS hl k => lv_aload_n hx hb dX1_both_29 rfl (lv_at hl 0 rfl) (k ls hl)) ?_
    refine Jgd (fun hg => ?_)
    refine Jclx (fun x10 σ11 hf => JXleave (rest := [.ref x3, .ref (cZ σ8), .ref (cZ σ8)]) (fun _ => rfl) (hv.1 hf).1 ⟨rfl, rfl⟩ hout hlocks (fun H locs ls hH hS hl hR => throwV (C := RX1) (As := []) ⟨hx, hb, hml, hown, hts⟩ (hv.1 hf) (cwV 0 hts (lw_V q475 q477 qs10 q92 q478) rfl rfl rfl (by decide +kernel) ⟨Nat.add_le_add_left (Nat.le_of_ble_eq_true rfl : 1 ≤ 12) fT, (by show 8 + (5 + 11) + nT ≤ nT + 300; omega)⟩) (c_preV (ci := 2) hk hH hS hg rfl) hS rfl rfl hl.1 rfl (lv_room (Nat.le_of_ble_eq_true rfl)) dX1_both_30 hR)) (fun x10 σ11 hf => ?_)
    refine Jcall (v := (some (.ref x10))) (rest := [.ref x3, .ref (cZ σ8), .ref (cZ σ8)]) (hv.1 hf).1 ⟨rfl, rfl⟩ (fun H locs ls hH hS hl hR => ⟨_, va_runV (C := RX1) (As := []) ⟨hx, hb, hml, hown, hts⟩ (hv.1 hf).ret.2 (cwV 0 hts (lw_V q475 q477 qs10 q92 q478) rfl rfl rfl (by decide +kernel) ⟨Nat.add_le_add_left (Nat.le_of_ble_eq_true rfl : 1 ≤ 12) fT, (by show 8 + (5 + 11) + nT ≤ nT + 300; omega)⟩) (c_preV (ci := 2) hk hH hS hg rfl) rfl rfl hl.1 rfl (lv_room (Nat.le_of_ble_eq_true rfl)) dX1_both_30 hR⟩) ?_
    clear hf
    refine Jrow (fun H locs ls hH hS hl k => lv_iconst (v := (1:Int32)) hx hb dX1_both_33 (by decide) (k ls hl)) ?_
    refine Jcl2 (fun _ σ12 hf => ?_)
    refine Jcall (v := none) (rest := [.ref (cZ σ8)]) (mX9_init l E hf).1 ⟨rfl, rfl⟩ (fun H locs ls hH hS hl hR => ⟨_, va_runI (As := [.ref x3, .ref x10, .int (1:Int32)]) ⟨hx, hb, hml, hown, hts⟩ (mX9_init l E hf).2 (cwI 3 hts (lw_meth q513) rfl rfl rfl (hts _ q102) (hts _ q511) (hts _ q512) rfl (by decide +kernel) ⟨Nat.le_trans (m := 12) (Nat.le_of_ble_eq_true rfl) (Nat.le_add_left _ _), Nat.le_trans (m := 300) (Nat.le_of_ble_eq_true rfl) (Nat.le_add_left _ _)⟩) (c_preS hk hH hS) rfl rfl hl.1 rfl (lv_room (Nat.le_of_ble_eq_true rfl)) dX1_both_34 hR⟩) ?_
    clear hf
    refine Jrow (fun H locs ls hH hS hl k => lv_astore_n (lv' := [(1, .ref (cZ σ8)), (0, .ref a0)]) hx hb dX1_both_37 rfl hl (by decide) rfl k) ?_
    refine Jrow (fun H locs ls hH hS hl k => lv_goto (tgt := 5) hx hb dX1_both_38 (by decide) (k ls hl)) ?_
    exact Jsub [1, 0] rfl (hk5 (cZ σ8) σ12)
  · refine Jrow (fun H locs ls hH hS hl k => lv_icmp_ne (tgt := 41) hx hb dX1_both_11 (by decide) (fun _ => (k ls hl)) (fun h => absurd h hc)) ?_
    clear hc
    refine Jrow (fun H locs ls hH hS hl k => lv_aload_n hx hb dX1_both_41 rfl (lv_at hl 1 rfl) (k ls hl)) ?_
    exact JXaret hx hb hr (Or.inl ⟨_, rfl⟩) hlocks dX1_both_42

def fX1_some (kr : KR) (a0 : Nat) (σ : CS) : Option ((Nat ⊕ Nat) × CS) :=
 gd (kd σ a0 3) (
 clx (kr 1 a0 σ) (fun (x1 : Nat) (σ2 : CS) =>
 lp (fun _ _ => none) (fun (k5 : Nat → CS → Option ((Nat ⊕ Nat) × CS)) (x3 : Nat) (σ4 : CS) =>
 gd (kd σ4 a0 3) (
 cl2 (fX1_next a0 σ4) (fun (x7 : Int32) (σ6 : CS) =>
 if x7 = (124:Int32) then
 gd (hf (cK σ6 a0) 46) (
 gd (hf (cK σ6 a0) 46) (
 bd (uFI σ6 a0 46 ((cFI σ6 a0 46) + (1:Int32))) (fun (σ8 : CS) =>
 bd (nO σ8 10 3) (fun (σ9 : CS) =>
 gd (kd σ9 a0 3) (
 clx (kr 1 a0 σ9) (fun (x10 : Nat) (σ11 : CS) =>
 cl2 (fX9_init (cZ σ8) x3 x10 (0:Int32) σ11) (fun (_ : Unit) (σ12 : CS) =>
 k5 (cZ σ8) σ12)))))))
 else
 some (.inl x3, σ6)))) NF x1 σ2))
theorem nX1_some {kr : KR} (hm : ∀ i a σ, Mn σ (kr i a σ)) {a0 : Nat} {σ : CS} : Mn σ (fX1_some kr a0 σ) := by
  unfold fX1_some
  refine Mgd ?_
  refine Mclx (hm 1 _ _) (fun x1 σ2 => ?_)
  refine Plp2 (fun (x3 : Nat) (σ4 : CS) (X14 : Option ((Nat ⊕ Nat) × CS)) => Mn σ4 X14) (fun _ _ => Mnone) (fun k5 hk5 x3 σ4 => ?_)
  refine Mgd ?_
  refine Mcl2 (nX1_next) (fun x7 σ6 => ?_)
  refine Mite ?_ ?_
  · refine Mgd ?_
    refine Mgd ?_
    refine Mst (Nat.le_refl _) (Nat.le_refl _) (fun σ8 => ?_)
    refine Mst (Nat.le_succ _) (Nat.le_add_right _ _) (fun σ9 => ?_)
    refine Mgd ?_
    refine Mclx (hm 1 _ _) (fun x10 σ11 => ?_)
    refine Mcl2 (nX9_init) (fun _ σ12 => ?_)
    exact hk5 (cZ σ8) σ12
  · exact Mret
set_option maxHeartbeats 4000000 in
set_option maxRecDepth 100000 in
theorem mX1_some (l : Launch) (E : CE) {fT nT : Nat} {kr : KR} (hv : VR l E fT nT kr) (hm : ∀ i a σ, Mn σ (kr i a σ)) {a0 : Nat} {σ : CS} {res : Nat ⊕ Nat} {σz : CS} (hX : fX1_some kr a0 σ = some (res, σz)) : MetX l yX1_some (ws_ yX1_some cX1_some 2 (some (.object "FortyDays$Test"))) (fT + 12) (nT + 300) E σ [.ref a0] (xoR res) σz := by
  refine MetX.of hX (by decide) (Nat.le_of_ble_eq_true rfl) (nX1_some hm _ hX) ?_
  intro p e s m below meth c hx hb hr hml hts hown hlocks hout hk hz0
  have hK := hk.1
  show J p l e (headSpec (ws_ yX1_some cX1_some 2 (some (.object "FortyDays$Test"))) (rmC (fT + 12) (nT + 300) σ σz)).room s m ([.ref a0] : List Value).toArray below meth c 2 E (cZ σ) (cS σ) (MQX below E (xoR res) σz s (cZ σz - cZ σ) (cS σz - cS σ)) (res, σz) (fX1_some kr a0 σ) σ 0 [(0, .ref a0)] []
  unfold fX1_some
  refine Jrow (fun H locs ls hH hS hl k => lv_aload_n hx hb dX1_some_0 rfl (lv_at hl 0 rfl) (k ls hl)) ?_
  refine Jgd (fun hg => ?_)
  refine Jclx (fun x1 σ2 hf => JXleave (rest := []) (fun _ => rfl) (hv.2.1 hf).1 ⟨rfl, rfl⟩ hout hlocks (fun H locs ls hH hS hl hR => throwV (C := RX1) (As := []) ⟨hx, hb, hml, hown, hts⟩ (hv.2.1 hf) (cwV 0 hts (lw_V q471 q473 qs9 q92 q474) rfl rfl rfl (by decide +kernel) ⟨Nat.add_le_add_left (Nat.le_of_ble_eq_true rfl : 1 ≤ 12) fT, (by show 8 + (2 + 11) + nT ≤ nT + 300; omega)⟩) (c_preV (ci := 2) hk hH hS hg rfl) hS rfl rfl hl.1 rfl (lv_room (Nat.le_of_ble_eq_true rfl)) dX1_some_1 hR)) (fun x1 σ2 hf => ?_)
  refine Jcall (v := (some (.ref x1))) (rest := []) (hv.2.1 hf).1 ⟨rfl, rfl⟩ (fun H locs ls hH hS hl hR => ⟨_, va_runV (C := RX1) (As := []) ⟨hx, hb, hml, hown, hts⟩ (hv.2.1 hf).ret.2 (cwV 0 hts (lw_V q471 q473 qs9 q92 q474) rfl rfl rfl (by decide +kernel) ⟨Nat.add_le_add_left (Nat.le_of_ble_eq_true rfl : 1 ≤ 12) fT, (by show 8 + (2 + 11) + nT ≤ nT + 300; omega)⟩) (c_preV (ci := 2) hk hH hS hg rfl) rfl rfl hl.1 rfl (lv_room (Nat.le_of_ble_eq_true rfl)) dX1_some_1 hR⟩) ?_
  clear hf
  refine Jrow (fun H locs ls hH hS hl k => lv_astore_n (lv' := [(1, .ref x1), (0, .ref a0)]) hx hb dX1_some_4 rfl hl (by decide) rfl k) ?_
  refine Jsub [1, 0] rfl (Plp2 (fun (x3 : Nat) (σ4 : CS) X14 => J p l e (headSpec (ws_ yX1_some cX1_some 2 (some (.object "FortyDays$Test"))) (rmC (fT + 12) (nT + 300) σ σz)).room s m ([.ref a0] : List Value).toArray below meth c 2 E (cZ σ) (cS σ) (MQX below E (xoR res) σz s (cZ σz - cZ σ) (cS σz - cS σ)) (res, σz) X14 σ4 5 [(0, .ref a0), (1, .ref x3)] []) (fun _ _ => Jnone) (fun k5 hk5 x3 σ4 => ?_))
  refine Jrow (fun H locs ls hH hS hl k => lv_aload_n hx hb dX1_some_5 rfl (lv_at hl 0 rfl) (k ls hl)) ?_
  refine Jgd (fun hg => ?_)
  refine Jcl2 (fun x7 σ6 hf => ?_)
  refine Jcall (v := (some (.int x7))) (rest := []) (mX1_next l E hf).1 ⟨rfl, rfl⟩ (fun H locs ls hH hS hl hR => ⟨_, va_runV (C := RX1) (As := []) ⟨hx, hb, hml, hown, hts⟩ (mX1_next l E hf).2 (cwV 0 hts (lw_V q380 q382 qs1 q92 q383) rfl rfl rfl (by decide +kernel) ⟨Nat.le_trans (m := 12) (Nat.le_of_ble_eq_true rfl) (Nat.le_add_left _ _), Nat.le_trans (m := 300) (Nat.le_of_ble_eq_true rfl) (Nat.le_add_left _ _)⟩) (c_preV (ci := 2) hk hH hS hg rfl) rfl rfl hl.1 rfl (lv_room (Nat.le_of_ble_eq_true rfl)) dX1_some_6 hR⟩) ?_
  clear hf
  refine Jrow (fun H locs ls hH hS hl k => lv_bipush (v := (124:Int32)) hx hb dX1_some_9 (by decide) (k ls hl)) ?_
  refine Jite (fun hc => ?_) (fun hc => ?_)
  · refine Jrow (fun H locs ls hH hS hl k => lv_icmp_ne (tgt := 41) hx hb dX1_some_11 (by decide) (fun h => absurd hc h) (fun _ => (k ls hl))) ?_
    clear hc
    refine Jrow (fun H locs ls hH hS hl k => lv_aload_n hx hb dX1_some_14 rfl (lv_at hl 0 rfl) (k ls hl)) ?_
    refine Jrow (fun H locs ls hH hS hl k => lv_dup hx hb dX1_some_15 rfl (k ls hl)) ?_
    refine Jgd (fun hg => ?_)
    refine Jrow (fun H locs ls hH hS hl k => c_get (F := 46) (v := .int (cFI σ6 a0 46)) hx hb hts hown hK hH hg (hts _ q167) (fun _ h => h) rfl dX1_some_16 (k ls hl)) ?_
    refine Jrow (fun H locs ls hH hS hl k => lv_iconst (v := (1:Int32)) hx hb dX1_some_19 (by decide) (k ls hl)) ?_
    refine Jrow (fun H locs ls hH hS hl k => lv_iadd hx hb dX1_some_20 (k ls hl)) ?_
    refine Jgd (fun hg => ?_)
    refine Jst (σ1 := uFI σ6 a0 46 ((cFI σ6 a0 46) + (1:Int32))) rfl rfl (fun H locs ls hH hS hl k => c_putI (F := 46) (ty := .int) (x := ((cFI σ6 a0 46) + (1:Int32))) hx hb hts hown hK hH hS hg (hts _ q167) (fun _ h => h) rfl rfl (by decide +kernel) rfl rfl rfl dX1_some_21 k) (fun σ8 => ?_)
    refine Jnew (σ1 := nO σ8 10 3) (n := 3) rfl rfl ⟨rfl, rfl⟩ (fun H locs ls hH hS hl h1 h2 k => c_new (ci := 9) hx hb hts hown hK hH hS hk.2.1 in_X9 tyX9 tyX9_ok (by decide +kernel) (hts _ q509) (hts _ q510) (hts _ q102) rfl h1 h2 dX1_some_24 k) (fun σ9 eσ9 => ?_)
    clear eσ9
    refine Jrow (fun H locs ls hH hS hl k => lv_dup hx hb dX1_some_27 rfl (k ls hl)) ?_
    refine Jrow (fun H locs ls hH hS hl k => lv_aload_n hx hb dX1_some_28 rfl (lv_at hl 1 rfl) (k ls hl)) ?_
    refine Jrow (fun H locs ls hH hS hl k => lv_aload_n hx hb dX1_some_29 rfl (lv_at hl 0 rfl) (k ls hl)) ?_
    refine Jgd (fun hg => ?_)
    refine Jclx (fun x10 σ11 hf => JXleave (rest := [.ref x3, .ref (cZ σ8), .ref (cZ σ8)]) (fun _ => rfl) (hv.2.1 hf).1 ⟨rfl, rfl⟩ hout hlocks (fun H locs ls hH hS hl hR => throwV (C := RX1) (As := []) ⟨hx, hb, hml, hown, hts⟩ (hv.2.1 hf) (cwV 0 hts (lw_V q471 q473 qs9 q92 q474) rfl rfl rfl (by decide +kernel) ⟨Nat.add_le_add_left (Nat.le_of_ble_eq_true rfl : 1 ≤ 12) fT, (by show 8 + (2 + 11) + nT ≤ nT + 300; omega)⟩) (c_preV (ci := 2) hk hH hS hg rfl) hS rfl rfl hl.1 rfl (lv_room (Nat.le_of_ble_eq_true rfl)) dX1_some_30 hR)) (fun x10 σ11 hf => ?_)
    refine Jcall (v := (some (.ref x10))) (rest := [.ref x3, .ref (cZ σ8), .ref (cZ σ8)]) (hv.2.1 hf).1 ⟨rfl, rfl⟩ (fun H locs ls hH hS hl hR => ⟨_, va_runV (C := RX1) (As := []) ⟨hx, hb, hml, hown, hts⟩ (hv.2.1 hf).ret.2 (cwV 0 hts (lw_V q471 q473 qs9 q92 q474) rfl rfl rfl (by decide +kernel) ⟨Nat.add_le_add_left (Nat.le_of_ble_eq_true rfl : 1 ≤ 12) fT, (by show 8 + (2 + 11) + nT ≤ nT + 300; omega)⟩) (c_preV (ci := 2) hk hH hS hg rfl) rfl rfl hl.1 rfl (lv_room (Nat.le_of_ble_eq_true rfl)) dX1_some_30 hR⟩) ?_
    clear hf
    refine Jrow (fun H locs ls hH hS hl k => lv_iconst (v := (0:Int32)) hx hb dX1_some_33 (by decide) (k ls hl)) ?_
    refine Jcl2 (fun _ σ12 hf => ?_)
    refine Jcall (v := none) (rest := [.ref (cZ σ8)]) (mX9_init l E hf).1 ⟨rfl, rfl⟩ (fun H locs ls hH hS hl hR => ⟨_, va_runI (As := [.ref x3, .ref x10, .int (0:Int32)]) ⟨hx, hb, hml, hown, hts⟩ (mX9_init l E hf).2 (cwI 3 hts (lw_meth q513) rfl rfl rfl (hts _ q102) (hts _ q511) (hts _ q512) rfl (by decide +kernel) ⟨Nat.le_trans (m := 12) (Nat.le_of_ble_eq_true rfl) (Nat.le_add_left _ _), Nat.le_trans (m := 300) (Nat.le_of_ble_eq_true rfl) (Nat.le_add_left _ _)⟩) (c_preS hk hH hS) rfl rfl hl.1 rfl (lv_room (Nat.le_of_ble_eq_true rfl)) dX1_some_34 hR⟩) ?_
    clear hf
    refine Jrow (fun H locs ls hH hS hl k => lv_astore_n (lv' := [(1, .ref (cZ σ8)), (0, .ref a0)]) hx hb dX1_some_37 rfl hl (by decide) rfl k) ?_
    refine Jrow (fun H locs ls hH hS hl k => lv_goto (tgt := 5) hx hb dX1_some_38 (by decide) (k ls hl)) ?_
    exact Jsub [1, 0] rfl (hk5 (cZ σ8) σ12)
  · refine Jrow (fun H locs ls hH hS hl k => lv_icmp_ne (tgt := 41) hx hb dX1_some_11 (by decide) (fun _ => (k ls hl)) (fun h => absurd h hc)) ?_
    clear hc
    refine Jrow (fun H locs ls hH hS hl k => lv_aload_n hx hb dX1_some_41 rfl (lv_at hl 1 rfl) (k ls hl)) ?_
    exact JXaret hx hb hr (Or.inl ⟨_, rfl⟩) hlocks dX1_some_42

/-- fact, both, some by fuel -/
def gR : Nat → KR
  | 0 => fun _ _ _ => none
  | n + 1 => fun i a σ => if i = 0 then fX1_fact (gR n) a σ else if i = 1 then fX1_both (gR n) a σ else fX1_some (gR n) a σ
theorem nR : ∀ (n i a : Nat) (σ : CS), Mn σ (gR n i a σ) := by
  intro n
  induction n with
  | zero => intro i a σ; exact Mnone
  | succ n ih => intro i a σ; exact Mite (nX1_fact ih) (Mite (nX1_both ih) (nX1_some ih))
theorem vR (l : Launch) (E : CE) : ∀ n, VR l E (12 * n) (300 * n) (gR n) := by
  intro n
  induction n with
  | zero => exact ⟨fun hX => (by cases hX), fun hX => (by cases hX), fun hX => (by cases hX)⟩
  | succ n ih => exact ⟨fun hX => mX1_fact l E ih (nR n) hX, fun hX => mX1_both l E ih (nR n) hX, fun hX => mX1_some l E ih (nR n) hX⟩
def fG_some (a0 : Nat) (σ : CS) : Option ((Nat ⊕ Nat) × CS) := gR 30 2 a0 σ
theorem nG_some {a0 : Nat} {σ : CS} : Mn σ (fG_some a0 σ) := nR 30 2 a0 σ
theorem mG_some (l : Launch) (E : CE) {a0 : Nat} {σ : CS} {res : Nat ⊕ Nat} {σz : CS} (hX : fG_some a0 σ = some (res, σz)) : MetX l yX1_some (ws_ yX1_some cX1_some 2 (some (.object "FortyDays$Test"))) 360 9000 E σ [.ref a0] (xoR res) σz := (vR l E 30).2.2 hX
