/-! printed by gen/comp.py -/
def eJ3_init_2 (u1 u2 : Option Nat) (a0 : Nat) (σ : CS) : Option (Unit × CS) :=
 gd (hf (cK σ a0) 67) (
 bd (uFR σ a0 67 (some a0)) (fun (σ1 : CS) =>
 gd (hf (cK σ1 a0) 68) (
 bd (uFR σ1 a0 68 u1) (fun (σ2 : CS) =>
 gd (hf (cK σ2 a0) 69) (
 bd (uFR σ2 a0 69 u2) (fun (σ3 : CS) =>
 if (0:Int32) = (0:Int32) then
 gd (hf (cK σ3 a0) 68) (
 bd (uFR σ3 a0 68 none) (fun (σ4 : CS) =>
 gd (hf (cK σ4 a0) 70) (
 bd (uFR σ4 a0 70 none) (fun (σ5 : CS) =>
 gd (hf (cK σ5 a0) 67) (
 bd (uFR σ5 a0 67 none) (fun (σ6 : CS) =>
 jn (fun (σ7 : CS) => some ((), σ7)) (fun (k8 : CS → Option (Unit × CS)) =>
 if (0:Int32) = (0:Int32) then
 gd (hf (cK σ6 a0) 69) (
 bd (uFR σ6 a0 69 none) (fun (σ9 : CS) =>
 k8 σ9))
 else
 k8 σ6)))))))
 else
 none))))))
theorem neJ3_init_2 {u1 u2 : Option Nat} {a0 : Nat} {σ : CS} : Mn σ (eJ3_init_2 u1 u2 a0 σ) := by
  unfold eJ3_init_2
  refine Mgd ?_
  refine Mst (Nat.le_refl _) (Nat.le_refl _) (fun σ1 => ?_)
  refine Mgd ?_
  refine Mst (Nat.le_refl _) (Nat.le_refl _) (fun σ2 => ?_)
  refine Mgd ?_
  refine Mst (Nat.le_refl _) (Nat.le_refl _) (fun σ3 => ?_)
  refine Mite ?_ ?_
  · refine Mgd ?_
    refine Mst (Nat.le_refl _) (Nat.le_refl _) (fun σ4 => ?_)
    refine Mgd ?_
    refine Mst (Nat.le_refl _) (Nat.le_refl _) (fun σ5 => ?_)
    refine Mgd ?_
    refine Mst (Nat.le_refl _) (Nat.le_refl _) (fun σ6 => ?_)
    refine Mjn1 (fun (σ7 : CS) (X10 : Option (Unit × CS)) => Mn σ7 X10) (fun σ7 => ?_) (fun k8 hk8 => ?_)
    · exact Mret
    · refine Mite ?_ ?_
      · refine Mgd ?_
        refine Mst (Nat.le_refl _) (Nat.le_refl _) (fun σ9 => ?_)
        exact hk8 σ9
      · exact hk8 σ6
  · exact Mnone

def fJ3_init_2 (a0 : Nat) (σ : CS) : Option (Unit × CS) := eJ3_init_2 none none a0 σ
theorem nJ3_init_2 {a0 : Nat} {σ : CS} : Mn σ (fJ3_init_2 a0 σ) := neJ3_init_2
theorem up2_up2 {α : Type} (f : Nat → Nat → α) (a F : Nat) (x y : α) : up2 (up2 f a F x) a F y = up2 f a F y := by
  funext b G
  unfold up2
  split <;> rfl
theorem up2_com {α : Type} (f : Nat → Nat → α) (a F G : Nat) (x y : α) (h : F ≠ G) : up2 (up2 f a F x) a G y = up2 (up2 f a G y) a F x := by
  funext b K
  unfold up2
  by_cases h1 : b = a ∧ K = G
  · have h2 : ¬ (b = a ∧ K = F) := fun h3 => h (h3.2.symm.trans h1.2)
    simp only [if_pos h1, if_neg h2]
  · simp only [if_neg h1]
theorem uFR_uFR (σ : CS) (a F : Nat) (x y : Option Nat) : uFR (uFR σ a F x) a F y = uFR σ a F y := by
  unfold uFR
  rw [up2_up2]
theorem uFR_com (σ : CS) (a F G : Nat) (x y : Option Nat) (h : F ≠ G) : uFR (uFR σ a F x) a G y = uFR (uFR σ a G y) a F x := by
  unfold uFR
  rw [up2_com _ _ _ _ _ _ h]
theorem uJ3 (a0 : Nat) (p1 p2 : Option Nat) (σ : CS) (u1 u2 : Option Nat) : uFR (uFR (uFR (uFR (uFR (uFR σ a0 68 u1) a0 69 u2) a0 68 none) a0 70 p1) a0 67 p2) a0 69 none = uFR (uFR (uFR (uFR σ a0 68 none) a0 70 p1) a0 67 p2) a0 69 none := by
  rw [uFR_com _ a0 69 68 _ _ (by decide), uFR_uFR, uFR_com _ a0 69 70 _ _ (by decide), uFR_com _ a0 69 67 _ _ (by decide), uFR_uFR]
theorem eJ3_eq (u1 u2 : Option Nat) (a0 : Nat) (σ : CS) : fJ3_init_2 a0 σ = eJ3_init_2 u1 u2 a0 σ := by
  unfold fJ3_init_2 eJ3_init_2
  simp only [if_true, bd, jn]
  rw [uJ3 a0 none none _ u1 u2, uJ3 a0 none none _ none none]
  rfl
set_option maxHeartbeats 4000000 in
set_option maxRecDepth 100000 in
theorem mJ3_init_2 (l : Launch) (E : CE) {a0 : Nat} {σ : CS} {σz : CS} (hX : fJ3_init_2 a0 σ = some ((), σz)) : MetC l yJ3_init_2 (ws_ yJ3_init_2 cJ3_init_2 5 none) 1 12 E σ [.ref a0, .null, .null, .int (0:Int32), .int (0:Int32)] none σz := by
  refine MetC.of hX (by decide) (Nat.le_of_ble_eq_true rfl) (nJ3_init_2 _ hX) ?_
  intro p e s m below meth c hx hb hr hml hts hown hlocks hnm hk hz0
  have hK := hk.1
  show J p l e (headSpec (ws_ yJ3_init_2 cJ3_init_2 5 none) (rmC 1 12 σ σz)).room s m ([.ref a0, .null, .null, .int (0:Int32), .int (0:Int32)] : List Value).toArray below meth c 5 E (cZ σ) (cS σ) (MQ below (cQ E none σz) ([.ref a0, .null, .null, .int (0:Int32), .int (0:Int32)] : List Value).toArray s (cZ σz - cZ σ) (cS σz - cS σ) (EA E)) ((), σz) (fJ3_init_2 a0 σ) σ 0 [(0, .ref a0), (1, .null), (2, .null), (3, .int (0:Int32)), (4, .int (0:Int32))] []
  obtain ⟨u1, hu1⟩ : ∃ u : Option Nat, va_Z "java/lang/Throwable" "UNASSIGNED_STACK" "[Ljava/lang/StackTraceElement;" (va_rf u) (EA E) s s.heap := by
    rcases hk.2.2.2.2.1 with h | ⟨t, h⟩
    · exact ⟨none, h⟩
    · exact ⟨some t, h⟩
  obtain ⟨u2, hu2⟩ : ∃ u : Option Nat, va_Z "java/lang/Throwable" "SUPPRESSED_SENTINEL" "Ljava/util/List;" (va_rf u) (EA E) s s.heap := by
    rcases hk.2.2.2.2.2.1 with h | ⟨t, h⟩
    · exact ⟨none, h⟩
    · exact ⟨some t, h⟩
  rw [eJ3_eq u1 u2]
  unfold eJ3_init_2
  refine Jrow (fun H locs ls hH hS hl k => lv_aload_n hx hb dJ3_init_2_0 rfl (lv_at hl 0 rfl) (k ls hl)) ?_
  refine Jrow (fun H locs ls hH hS hl k => W.objInit hx hb hown (hts _ q423) (hts _ q127) (hts _ q128) rfl (by rw [hml]; exact hl.1) rfl dJ3_init_2_1 (Nat.le_of_ble_eq_true rfl) (Nat.le_of_ble_eq_true rfl) (W.eq (g2 := F0 m 4 ls []) rfl (k ls hl))) ?_
  refine Jrow (fun H locs ls hH hS hl k => lv_aload_n hx hb dJ3_init_2_4 rfl (lv_at hl 0 rfl) (k ls hl)) ?_
  refine Jrow (fun H locs ls hH hS hl k => lv_aload_n hx hb dJ3_init_2_5 rfl (lv_at hl 0 rfl) (k ls hl)) ?_
  refine Jgd (fun hg => ?_)
  refine Jst (σ1 := uFR σ a0 67 (some a0)) rfl rfl (fun H locs ls hH hS hl k => c_putR (F := 67) (ty := (.object "java/lang/Throwable")) (x := (some a0)) hx hb hts hown hK hH hS hg (hts _ q450) (fun _ h => h) rfl rfl (by decide +kernel) rfl rfl rfl dJ3_init_2_6 k) (fun σ1 => ?_)
  refine Jrow (fun H locs ls hH hS hl k => lv_aload_n hx hb dJ3_init_2_9 rfl (lv_at hl 0 rfl) (k ls hl)) ?_
  refine Jrow (fun H locs ls hH hS hl k => va_gets hx hb hu1 hS hown (hts _ q424) (fun _ h => h) dJ3_init_2_10 (k ls hl)) ?_
  refine Jgd (fun hg => ?_)
  refine Jst (σ1 := uFR σ1 a0 68 u1) rfl rfl (fun H locs ls hH hS hl k => c_putR (F := 68) (ty := (.array (.object "java/lang/StackTraceElement"))) (x := u1) hx hb hts hown hK hH hS hg (hts _ q451) (fun _ h => h) rfl rfl (by decide +kernel) (by cases u1 <;> rfl) (by cases u1 <;> rfl) rfl dJ3_init_2_13 k) (fun σ2 => ?_)
  refine Jrow (fun H locs ls hH hS hl k => lv_aload_n hx hb dJ3_init_2_16 rfl (lv_at hl 0 rfl) (k ls hl)) ?_
  refine Jrow (fun H locs ls hH hS hl k => va_gets hx hb hu2 hS hown (hts _ q426) (fun _ h => h) dJ3_init_2_17 (k ls hl)) ?_
  refine Jgd (fun hg => ?_)
  refine Jst (σ1 := uFR σ2 a0 69 u2) rfl rfl (fun H locs ls hH hS hl k => c_putR (F := 69) (ty := (.object "java/util/List")) (x := u2) hx hb hts hown hK hH hS hg (hts _ q452) (fun _ h => h) rfl rfl (by decide +kernel) (by cases u2 <;> rfl) (by cases u2 <;> rfl) rfl dJ3_init_2_20 k) (fun σ3 => ?_)
  refine Jrow (fun H locs ls hH hS hl k => lv_iload hx hb dJ3_init_2_23 (lv_at hl 4 rfl) (k ls hl)) ?_
  refine Jite (fun hc => ?_) (fun hc => ?_)
  · refine Jrow (fun H locs ls hH hS hl k => lv_if_eq (tgt := 36) hx hb dJ3_init_2_25 (by decide) (fun _ => (k ls hl)) (fun h => absurd hc h)) ?_
    clear hc
    refine Jrow (fun H locs ls hH hS hl k => lv_aload_n hx hb dJ3_init_2_36 rfl (lv_at hl 0 rfl) (k ls hl)) ?_
    refine Jrow (fun H locs ls hH hS hl k => lv_null hx hb dJ3_init_2_37 (k ls hl)) ?_
    refine Jgd (fun hg => ?_)
    refine Jst (σ1 := uFR σ3 a0 68 none) rfl rfl (fun H locs ls hH hS hl k => c_putR (F := 68) (ty := (.array (.object "java/lang/StackTraceElement"))) (x := none) hx hb hts hown hK hH hS hg (hts _ q451) (fun _ h => h) rfl rfl (by decide +kernel) rfl rfl rfl dJ3_init_2_38 k) (fun σ4 => ?_)
    refine Jrow (fun H locs ls hH hS hl k => lv_aload_n hx hb dJ3_init_2_41 rfl (lv_at hl 0 rfl) (k ls hl)) ?_
    refine Jrow (fun H locs ls hH hS hl k => lv_aload_nN hx hb dJ3_init_2_42 rfl (lv_at hl 1 rfl) (k ls hl)) ?_
    refine Jgd (fun hg => ?_)
    refine Jst (σ1 := uFR σ4 a0 70 none) rfl rfl (fun H locs ls hH hS hl k => c_putR (F := 70) (ty := (.object "java/lang/String")) (x := none) hx hb hts hown hK hH hS hg (hts _ q449) (fun _ h => h) rfl rfl (by decide +kernel) rfl rfl rfl dJ3_init_2_43 k) (fun σ5 => ?_)
    refine Jrow (fun H locs ls hH hS hl k => lv_aload_n hx hb dJ3_init_2_46 rfl (lv_at hl 0 rfl) (k ls hl)) ?_
    refine Jrow (fun H locs ls hH hS hl k => lv_aload_nN hx hb dJ3_init_2_47 rfl (lv_at hl 2 rfl) (k ls hl)) ?_
    refine Jgd (fun hg => ?_)
    refine Jst (σ1 := uFR σ5 a0 67 none) rfl rfl (fun H locs ls hH hS hl k => c_putR (F := 67) (ty := (.object "java/lang/Throwable")) (x := none) hx hb hts hown hK hH hS hg (hts _ q450) (fun _ h => h) rfl rfl (by decide +kernel) rfl rfl rfl dJ3_init_2_48 k) (fun σ6 => ?_)
    refine Jrow (fun H locs ls hH hS hl k => lv_iload_n hx hb dJ3_init_2_51 rfl (lv_at hl 3 rfl) (k ls hl)) ?_
    refine Jjn1 (fun (σ7 : CS) X10 => J p l e (headSpec (ws_ yJ3_init_2 cJ3_init_2 5 none) (rmC 1 12 σ σz)).room s m ([.ref a0, .null, .null, .int (0:Int32), .int (0:Int32)] : List Value).toArray below meth c 5 E (cZ σ) (cS σ) (MQ below (cQ E none σz) ([.ref a0, .null, .null, .int (0:Int32), .int (0:Int32)] : List Value).toArray s (cZ σz - cZ σ) (cS σz - cS σ) (EA E)) ((), σz) X10 σ7 60 [] []) (fun σ7 => ?_) (fun k8 hk8 => ?_)
    · exact Jvret hx hb hr hlocks dJ3_init_2_60
    · refine Jite (fun hc => ?_) (fun hc => ?_)
      · refine Jrow (fun H locs ls hH hS hl k => lv_if_ne (tgt := 60) hx hb dJ3_init_2_52 (by decide) (fun h => absurd hc h) (fun _ => (k ls hl))) ?_
        clear hc
        refine Jrow (fun H locs ls hH hS hl k => lv_aload_n hx hb dJ3_init_2_55 rfl (lv_at hl 0 rfl) (k ls hl)) ?_
        refine Jrow (fun H locs ls hH hS hl k => lv_null hx hb dJ3_init_2_56 (k ls hl)) ?_
        refine Jgd (fun hg => ?_)
        refine Jst (σ1 := uFR σ6 a0 69 none) rfl rfl (fun H locs ls hH hS hl k => c_putR (F := 69) (ty := (.object "java/util/List")) (x := none) hx hb hts hown hK hH hS hg (hts _ q452) (fun _ h => h) rfl rfl (by decide +kernel) rfl rfl rfl dJ3_init_2_57 k) (fun σ9 => ?_)
        exact Jsub [] rfl (hk8 σ9)
      · refine Jrow (fun H locs ls hH hS hl k => lv_if_ne (tgt := 60) hx hb dJ3_init_2_52 (by decide) (fun _ => (k ls hl)) (fun h => absurd h hc)) ?_
        clear hc
        exact Jsub [] rfl (hk8 σ6)
  · refine Jrow (fun H locs ls hH hS hl k => lv_if_eq (tgt := 36) hx hb dJ3_init_2_25 (by decide) (fun h => absurd h hc) (fun _ => (k ls hl))) ?_
    clear hc
    refine Jrow (fun H locs ls hH hS hl k => lv_aload_n hx hb dJ3_init_2_28 rfl (lv_at hl 0 rfl) (k ls hl)) ?_
    exact Jnone

def fJ4_init (a0 : Nat) (σ : CS) : Option (Unit × CS) :=
 cl2 (fJ3_init_2 a0 σ) (fun (_ : Unit) (σ1 : CS) =>
 some ((), σ1))
theorem nJ4_init {a0 : Nat} {σ : CS} : Mn σ (fJ4_init a0 σ) := by
  unfold fJ4_init
  refine Mcl2 (nJ3_init_2) (fun _ σ1 => ?_)
  exact Mret
set_option maxHeartbeats 4000000 in
set_option maxRecDepth 100000 in
theorem mJ4_init (l : Launch) (E : CE) {a0 : Nat} {σ : CS} {σz : CS} (hX : fJ4_init a0 σ = some ((), σz)) : MetC l yJ4_init (ws_ yJ4_init cJ4_init 5 none) 2 36 E σ [.ref a0, .null, .null, .int (0:Int32), .int (0:Int32)] none σz := by
  refine MetC.of hX (by decide) (Nat.le_of_ble_eq_true rfl) (nJ4_init _ hX) ?_
  intro p e s m below meth c hx hb hr hml hts hown hlocks hnm hk hz0
  have hK := hk.1
  show J p l e (headSpec (ws_ yJ4_init cJ4_init 5 none) (rmC 2 36 σ σz)).room s m ([.ref a0, .null, .null, .int (0:Int32), .int (0:Int32)] : List Value).toArray below meth c 5 E (cZ σ) (cS σ) (MQ below (cQ E none σz) ([.ref a0, .null, .null, .int (0:Int32), .int (0:Int32)] : List Value).toArray s (cZ σz - cZ σ) (cS σz - cS σ) (EA E)) ((), σz) (fJ4_init a0 σ) σ 0 [(0, .ref a0), (1, .null), (2, .null), (3, .int (0:Int32)), (4, .int (0:Int32))] []
  unfold fJ4_init
  refine Jrow (fun H locs ls hH hS hl k => lv_aload_n hx hb dJ4_init_0 rfl (lv_at hl 0 rfl) (k ls hl)) ?_
  refine Jrow (fun H locs ls hH hS hl k => lv_aload_nN hx hb dJ4_init_1 rfl (lv_at hl 1 rfl) (k ls hl)) ?_
  refine Jrow (fun H locs ls hH hS hl k => lv_aload_nN hx hb dJ4_init_2 rfl (lv_at hl 2 rfl) (k ls hl)) ?_
  refine Jrow (fun H locs ls hH hS hl k => lv_iload_n hx hb dJ4_init_3 rfl (lv_at hl 3 rfl) (k ls hl)) ?_
  refine Jrow (fun H locs ls hH hS hl k => lv_iload hx hb dJ4_init_4 (lv_at hl 4 rfl) (k ls hl)) ?_
  refine Jcl2 (fun _ σ1 hf => ?_)
  refine Jcall (v := none) (rest := []) (mJ3_init_2 l E hf).1 ⟨rfl, rfl⟩ (fun H locs ls hH hS hl hR => ⟨_, va_runI (As := [.null, .null, .int (0:Int32), .int (0:Int32)]) ⟨hx, hb, hml, hown, hts⟩ (mJ3_init_2 l E hf).2 (cwI 4 hts (lw_meth q445) rfl rfl rfl (hts _ q97) (hts _ q443) (hts _ q444) rfl (by decide +kernel) ⟨Nat.le_of_ble_eq_true rfl, Nat.le_of_ble_eq_true rfl⟩) (c_preS hk hH hS) rfl rfl hl.1 rfl (lv_room (Nat.le_of_ble_eq_true rfl)) dJ4_init_6 hR⟩) ?_
  clear hf
  exact Jvret hx hb hr hlocks dJ4_init_9

def fX6_init (a0 : Nat) (p1 : Int32) (σ : CS) : Option (Unit × CS) :=
 cl2 (fJ4_init a0 σ) (fun (_ : Unit) (σ1 : CS) =>
 gd (hf (cK σ1 a0) 73) (
 bd (uFI σ1 a0 73 p1) (fun (σ3 : CS) =>
 some ((), σ3))))
theorem nX6_init {a0 : Nat} {p1 : Int32} {σ : CS} : Mn σ (fX6_init a0 p1 σ) := by
  unfold fX6_init
  refine Mcl2 (nJ4_init) (fun _ σ1 => ?_)
  refine Mgd ?_
  refine Mst (Nat.le_refl _) (Nat.le_refl _) (fun σ3 => ?_)
  exact Mret
set_option maxHeartbeats 4000000 in
set_option maxRecDepth 100000 in
theorem mX6_init (l : Launch) (E : CE) {a0 : Nat} {p1 : Int32} {σ : CS} {σz : CS} (hX : fX6_init a0 p1 σ = some ((), σz)) : MetC l yX6_init (ws_ yX6_init cX6_init 2 none) 3 60 E σ [.ref a0, .int p1] none σz := by
  refine MetC.of hX (by decide) (Nat.le_of_ble_eq_true rfl) (nX6_init _ hX) ?_
  intro p e s m below meth c hx hb hr hml hts hown hlocks hnm hk hz0
  have hK := hk.1
  show J p l e (headSpec (ws_ yX6_init cX6_init 2 none) (rmC 3 60 σ σz)).room s m ([.ref a0, .int p1] : List Value).toArray below meth c 2 E (cZ σ) (cS σ) (MQ below (cQ E none σz) ([.ref a0, .int p1] : List Value).toArray s (cZ σz - cZ σ) (cS σz - cS σ) (EA E)) ((), σz) (fX6_init a0 p1 σ) σ 0 [(0, .ref a0), (1, .int p1)] []
  unfold fX6_init
  refine Jrow (fun H locs ls hH hS hl k => lv_aload_n hx hb dX6_init_0 rfl (lv_at hl 0 rfl) (k ls hl)) ?_
  refine Jrow (fun H locs ls hH hS hl k => lv_null hx hb dX6_init_1 (k ls hl)) ?_
  refine Jrow (fun H locs ls hH hS hl k => lv_null hx hb dX6_init_2 (k ls hl)) ?_
  refine Jrow (fun H locs ls hH hS hl k => lv_iconst (v := (0:Int32)) hx hb dX6_init_3 (by decide) (k ls hl)) ?_
  refine Jrow (fun H locs ls hH hS hl k => lv_iconst (v := (0:Int32)) hx hb dX6_init_4 (by decide) (k ls hl)) ?_
  refine Jcl2 (fun _ σ1 hf => ?_)
  refine Jcall (v := none) (rest := []) (mJ4_init l E hf).1 ⟨rfl, rfl⟩ (fun H locs ls hH hS hl hR => ⟨_, va_runI (As := [.null, .null, .int (0:Int32), .int (0:Int32)]) ⟨hx, hb, hml, hown, hts⟩ (mJ4_init l E hf).2 (cwI 4 hts (lw_meth q442) rfl rfl rfl (hts _ q98) (hts _ q440) (hts _ q441) rfl (by decide +kernel) ⟨Nat.le_of_ble_eq_true rfl, Nat.le_of_ble_eq_true rfl⟩) (c_preS hk hH hS) rfl rfl hl.1 rfl (lv_room (Nat.le_of_ble_eq_true rfl)) dX6_init_5 hR⟩) ?_
  clear hf
  refine Jrow (fun H locs ls hH hS hl k => lv_aload_n hx hb dX6_init_8 rfl (lv_at hl 0 rfl) (k ls hl)) ?_
  refine Jrow (fun H locs ls hH hS hl k => lv_iload_n hx hb dX6_init_9 rfl (lv_at hl 1 rfl) (k ls hl)) ?_
  refine Jgd (fun hg => ?_)
  refine Jst (σ1 := uFI σ1 a0 73 p1) rfl rfl (fun H locs ls hH hS hl k => c_putIF (F := 73) (ty := .int) (x := p1) hx hb hts hown hK hH hS hg (hts _ q446) (fun _ h => h) rfl hnm rfl rfl (by decide +kernel) rfl rfl rfl dX6_init_10 k) (fun σ3 => ?_)
  exact Jvret hx hb hr hlocks dX6_init_13
