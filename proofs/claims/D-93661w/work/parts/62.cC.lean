/-! printed by gen/comp.py -/
abbrev rmJ5_newLength : Room := { frames := 1, cells := 0, slots := 0, locals := 24 }
def fJ5_newLength (p1 : Int32) (p2 : Int32) (p3 : Int32) : Option (Int32) :=
 bd (if p2 < p3 then p3 else p2) (fun (x1 : Int32) =>
 bd (p1 + x1) (fun (x2 : Int32) =>
 jn (none) (fun (k3 : Option (Int32)) =>
 if x2 ≤ (0:Int32) then
 k3
 else
 if (2147483639:Int32) < x2 then
 k3
 else
 some x2)))
set_option maxHeartbeats 4000000 in
set_option maxRecDepth 100000 in
theorem mJ5_newLength (l : Launch) {p1 : Int32} {p2 : Int32} {p3 : Int32} {r : Int32} (hX : fJ5_newLength p1 p2 p3 = some r) : Met l yJ5_newLength (ws_ yJ5_newLength cJ5_newLength 4 (some .int)) (rmJ5_newLength) (sPc [.int p1, .int p2, .int p3]) (sQi r) 0 0 noA := by
  refine Met.ofW (cc := cJ5_newLength) (maxL := 4) (ret := (some .int)) (by decide) rfl ?_
  intro p e s m args below meth c s₁ B hml hv
  obtain ⟨rfl, -⟩ := hv
  have hx := B.exec
  have hb := B.bytes
  have hr := B.returns
  have hts := atoms_spec (ws := (ws_ yJ5_newLength cJ5_newLength 4 (some .int))) B.pre
  have hts : ∀ w ∈ lw_all, w.before _ s = true := fun w h => hts w (List.mem_cons_of_mem _ h)
  have hown : s.vm.findClass RJ5 = some m.cls := findClass_of_methodNamed B.named
  have hlocks := B.notSynchronized
  have hl := lv_entry ([.int p1, .int p2, .int p3]) (n := 4) (Nat.le_of_ble_eq_true rfl)
  rw [lg_entry_eq]
  generalize (lg_sl ([.int p1, .int p2, .int p3]) ++ List.replicate (4 - (lg_sl ([.int p1, .int p2, .int p3])).length) Slot.unset).toArray = ls at hl ⊢
  have hl : lv_has ls 4 [(0, .int p1), (1, .int p2), (2, .int p3)] := hl
  unfold fJ5_newLength at hX
  refine s_start (fun H locs hS => ?_)
  refine lv_iload_n hx hb dJ5_newLength_0 rfl (lv_at hl 0 rfl) ?_
  refine lv_iload_n hx hb dJ5_newLength_1 rfl (lv_at hl 1 rfl) ?_
  refine lv_iload_n hx hb dJ5_newLength_2 rfl (lv_at hl 2 rfl) ?_
  refine va_mmax hx hb (hml.trans hl.1.symm) hown (hts _ q544) (hts _ q545) (hts _ q104) (hts _ q546) (Nat.le_of_ble_eq_true rfl) (Nat.le_of_ble_eq_true rfl) (Nat.zero_le _) (Nat.zero_le _) dJ5_newLength_3 ?_
  refine lv_topi (fun x1 ex1 => ?_)
  replace hX := bd_inv ex1 hX; clear ex1
  refine lv_iadd hx hb dJ5_newLength_6 ?_
  refine lv_topi (fun x2 ex2 => ?_)
  replace hX := bd_inv ex2 hX; clear ex2
  refine lv_istore_n (lv' := [(3, .int x2), (0, .int p1), (1, .int p2), (2, .int p3)]) hx hb dJ5_newLength_7 rfl hl (by decide) rfl (fun ls hl => ?_)
  refine lv_iconst (v := (0:Int32)) hx hb dJ5_newLength_8 (by decide) ?_
  refine lv_iload_n hx hb dJ5_newLength_9 rfl (lv_at hl 0 rfl) ?_
  refine jnu0 hX (∀ (H : Heap) (locs : List Loc), va_S noA s.heap H locs → ∀ (ls : Array Slot), lv_has ls 4 [(0, .int p1), (1, .int p2)] → W p l e (headSpec (ws_ yJ5_newLength cJ5_newLength 4 (some .int)) (rmJ5_newLength)).room s m ([.int p1, .int p2, .int p3] : List Value).toArray below meth c H locs 0 0 (MQ below (sQi r) ([.int p1, .int p2, .int p3] : List Value).toArray s 0 0 noA) (F0 m 21 ls [])) (fun  hX H locs hS ls hl => ?_) (fun k3 hk3 hX => ?_)
  · refine lv_iload_n hx hb dJ5_newLength_21 rfl (lv_at hl 0 rfl) ?_
    refine lv_iload_n hx hb dJ5_newLength_22 rfl (lv_at hl 1 rfl) ?_
    cases hX
  · refine lv_icmp_ge (tgt := 21) hx hb dJ5_newLength_10 (by decide) (fun hc => ?_) (fun hc => ?_)
    · replace hX := ipos hc hX; clear hc
      exact hk3  hX H locs hS ls (lv_sub hl [1, 2] rfl)
    · replace hX := ineg hc hX; clear hc
      refine lv_iload_n hx hb dJ5_newLength_13 rfl (lv_at hl 0 rfl) ?_
      refine lv_ldc (v := (2147483639:Int32)) hx hb hown (hts _ q547) dJ5_newLength_14 ?_
      refine lv_icmp_gt (tgt := 21) hx hb dJ5_newLength_16 (by decide) (fun hc => ?_) (fun hc => ?_)
      · replace hX := ipos hc hX; clear hc
        exact hk3  hX H locs hS ls (lv_sub hl [1, 2] rfl)
      · replace hX := ineg hc hX; clear hc
        refine lv_iload_n hx hb dJ5_newLength_19 rfl (lv_at hl 0 rfl) ?_
        have e1 := rinv hX; subst e1
        exact W.iret hx hb hr (fun t ht hW => ⟨⟨_, (), rfl, rfl, trivial⟩, hS.F ht⟩) hS.2.2 dJ5_newLength_20

def fJ0_init (a0 : Nat) (σ : CS) : Option (Unit × CS) :=
 some ((), σ)
theorem nJ0_init {a0 : Nat} {σ : CS} : Mn σ (fJ0_init a0 σ) := by
  unfold fJ0_init
  exact Mret
set_option maxHeartbeats 4000000 in
set_option maxRecDepth 100000 in
theorem mJ0_init (l : Launch) (E : CE) {a0 : Nat} {σ : CS} {σz : CS} (hX : fJ0_init a0 σ = some ((), σz)) : MetC l yJ0_init (ws_ yJ0_init cJ0_init 1 none) 1 12 E σ [.ref a0] none σz := by
  refine MetC.of hX (by decide) (Nat.le_of_ble_eq_true rfl) (nJ0_init _ hX) ?_
  intro p e s m below meth c hx hb hr hml hts hown hlocks hnm hk hz0
  have hK := hk.1
  show J p l e (headSpec (ws_ yJ0_init cJ0_init 1 none) (rmC 1 12 σ σz)).room s m ([.ref a0] : List Value).toArray below meth c 1 E (cZ σ) (cS σ) (MQ below (cQ E none σz) ([.ref a0] : List Value).toArray s (cZ σz - cZ σ) (cS σz - cS σ) (EA E)) ((), σz) (fJ0_init a0 σ) σ 0 [(0, .ref a0)] []
  unfold fJ0_init
  refine Jrow (fun H locs ls hH hS hl k => lv_aload_n hx hb dJ0_init_0 rfl (lv_at hl 0 rfl) (k ls hl)) ?_
  refine Jrow (fun H locs ls hH hS hl k => W.objInit hx hb hown (hts _ q140) (hts _ q127) (hts _ q128) rfl (by rw [hml]; exact hl.1) rfl dJ0_init_1 (Nat.le_of_ble_eq_true rfl) (Nat.le_of_ble_eq_true rfl) (W.eq (g2 := F0 m 4 ls []) rfl (k ls hl))) ?_
  exact Jvret hx hb hr hlocks dJ0_init_4

def fJ1_init (a0 : Nat) (σ : CS) : Option (Unit × CS) :=
 cl2 (fJ0_init a0 σ) (fun (_ : Unit) (σ1 : CS) =>
 gd (hf (cK σ1 a0) 103) (
 bd (uFI σ1 a0 103 (0:Int32)) (fun (σ3 : CS) =>
 some ((), σ3))))
theorem nJ1_init {a0 : Nat} {σ : CS} : Mn σ (fJ1_init a0 σ) := by
  unfold fJ1_init
  refine Mcl2 (nJ0_init) (fun _ σ1 => ?_)
  refine Mgd ?_
  refine Mst (Nat.le_refl _) (Nat.le_refl _) (fun σ3 => ?_)
  exact Mret
set_option maxHeartbeats 4000000 in
set_option maxRecDepth 100000 in
theorem mJ1_init (l : Launch) (E : CE) {a0 : Nat} {σ : CS} {σz : CS} (hX : fJ1_init a0 σ = some ((), σz)) : MetC l yJ1_init (ws_ yJ1_init cJ1_init 1 none) 2 32 E σ [.ref a0] none σz := by
  refine MetC.of hX (by decide) (Nat.le_of_ble_eq_true rfl) (nJ1_init _ hX) ?_
  intro p e s m below meth c hx hb hr hml hts hown hlocks hnm hk hz0
  have hK := hk.1
  show J p l e (headSpec (ws_ yJ1_init cJ1_init 1 none) (rmC 2 32 σ σz)).room s m ([.ref a0] : List Value).toArray below meth c 1 E (cZ σ) (cS σ) (MQ below (cQ E none σz) ([.ref a0] : List Value).toArray s (cZ σz - cZ σ) (cS σz - cS σ) (EA E)) ((), σz) (fJ1_init a0 σ) σ 0 [(0, .ref a0)] []
  unfold fJ1_init
  refine Jrow (fun H locs ls hH hS hl k => lv_aload_n hx hb dJ1_init_0 rfl (lv_at hl 0 rfl) (k ls hl)) ?_
  refine Jcl2 (fun _ σ1 hf => ?_)
  refine Jcall (v := none) (rest := []) (mJ0_init l E hf).1 ⟨rfl, rfl⟩ (fun H locs ls hH hS hl hR => ⟨_, va_runI (As := []) ⟨hx, hb, hml, hown, hts⟩ (mJ0_init l E hf).2 (cwI 0 hts (lw_meth q139) rfl rfl rfl (hts _ q89) (hts _ q137) (hts _ q138) rfl (by decide +kernel) ⟨Nat.le_of_ble_eq_true rfl, Nat.le_of_ble_eq_true rfl⟩) (c_preS hk hH hS) rfl rfl hl.1 rfl (lv_room (Nat.le_of_ble_eq_true rfl)) dJ1_init_1 hR⟩) ?_
  clear hf
  refine Jrow (fun H locs ls hH hS hl k => lv_aload_n hx hb dJ1_init_4 rfl (lv_at hl 0 rfl) (k ls hl)) ?_
  refine Jrow (fun H locs ls hH hS hl k => lv_iconst (v := (0:Int32)) hx hb dJ1_init_5 (by decide) (k ls hl)) ?_
  refine Jgd (fun hg => ?_)
  refine Jst (σ1 := uFI σ1 a0 103 (0:Int32)) rfl rfl (fun H locs ls hH hS hl k => c_putI (F := 103) (ty := .int) (x := (0:Int32)) hx hb hts hown hK hH hS hg (hts _ q145) (fun _ h => h) rfl rfl (by decide +kernel) rfl rfl rfl dJ1_init_6 k) (fun σ3 => ?_)
  exact Jvret hx hb hr hlocks dJ1_init_9

def fJ2_init (T : Nat × Nat) (a0 : Nat) (σ : CS) : Option (Unit × CS) :=
 cl2 (fJ1_init a0 σ) (fun (_ : Unit) (σ1 : CS) =>
 gd (hf (cK σ1 a0) 104) (
 bd (uFR σ1 a0 104 (some (T.1))) (fun (σ3 : CS) =>
 some ((), σ3))))
theorem nJ2_init {T : Nat × Nat} {a0 : Nat} {σ : CS} : Mn σ (fJ2_init T a0 σ) := by
  unfold fJ2_init
  refine Mcl2 (nJ1_init) (fun _ σ1 => ?_)
  refine Mgd ?_
  refine Mst (Nat.le_refl _) (Nat.le_refl _) (fun σ3 => ?_)
  exact Mret
set_option maxHeartbeats 4000000 in
set_option maxRecDepth 100000 in
theorem mJ2_init (l : Launch) (E : CE) {a0 : Nat} {σ : CS} {σz : CS} (hX : fJ2_init E.2.2.2 a0 σ = some ((), σz)) : MetC l yJ2_init (ws_ yJ2_init cJ2_init 1 none) 3 52 E σ [.ref a0] none σz := by
  refine MetC.of hX (by decide) (Nat.le_of_ble_eq_true rfl) (nJ2_init _ hX) ?_
  intro p e s m below meth c hx hb hr hml hts hown hlocks hnm hk hz0
  have hK := hk.1
  show J p l e (headSpec (ws_ yJ2_init cJ2_init 1 none) (rmC 3 52 σ σz)).room s m ([.ref a0] : List Value).toArray below meth c 1 E (cZ σ) (cS σ) (MQ below (cQ E none σz) ([.ref a0] : List Value).toArray s (cZ σz - cZ σ) (cS σz - cS σ) (EA E)) ((), σz) (fJ2_init E.2.2.2 a0 σ) σ 0 [(0, .ref a0)] []
  unfold fJ2_init
  refine Jrow (fun H locs ls hH hS hl k => lv_aload_n hx hb dJ2_init_0 rfl (lv_at hl 0 rfl) (k ls hl)) ?_
  refine Jcl2 (fun _ σ1 hf => ?_)
  refine Jcall (v := none) (rest := []) (mJ1_init l E hf).1 ⟨rfl, rfl⟩ (fun H locs ls hH hS hl hR => ⟨_, va_runI (As := []) ⟨hx, hb, hml, hown, hts⟩ (mJ1_init l E hf).2 (cwI 0 hts (lw_meth q136) rfl rfl rfl (hts _ q90) (hts _ q134) (hts _ q135) rfl (by decide +kernel) ⟨Nat.le_of_ble_eq_true rfl, Nat.le_of_ble_eq_true rfl⟩) (c_preS hk hH hS) rfl rfl hl.1 rfl (lv_room (Nat.le_of_ble_eq_true rfl)) dJ2_init_1 hR⟩) ?_
  clear hf
  refine Jrow (fun H locs ls hH hS hl k => lv_aload_n hx hb dJ2_init_4 rfl (lv_at hl 0 rfl) (k ls hl)) ?_
  refine Jrow (fun H locs ls hH hS hl k => va_gets hx hb hk.2.2.2.1 hS hown (hts _ q141) (fun _ h => h) dJ2_init_5 (k ls hl)) ?_
  refine Jgd (fun hg => ?_)
  refine Jst (σ1 := uFR σ1 a0 104 (some (E.2.2.2.1))) rfl rfl (fun H locs ls hH hS hl k => c_putR (F := 104) (ty := (.array (.object "java/lang/Object"))) (x := (some (E.2.2.2.1))) hx hb hts hown hK hH hS hg (hts _ q143) (fun _ h => h) rfl rfl (by decide +kernel) rfl rfl rfl dJ2_init_8 k) (fun σ3 => ?_)
  exact Jvret hx hb hr hlocks dJ2_init_11

def fJ2_size (a0 : Nat) (σ : CS) : Option (Int32 × CS) :=
 gd (hf (cK σ a0) 105) (
 some (cFI σ a0 105, σ))
theorem nJ2_size {a0 : Nat} {σ : CS} : Mn σ (fJ2_size a0 σ) := by
  unfold fJ2_size
  refine Mgd ?_
  exact Mret
set_option maxHeartbeats 4000000 in
set_option maxRecDepth 100000 in
theorem mJ2_size (l : Launch) (E : CE) {a0 : Nat} {σ : CS} {r : Int32} {σz : CS} (hX : fJ2_size a0 σ = some (r, σz)) : MetC l yJ2_size (ws_ yJ2_size cJ2_size 1 (some .int)) 0 0 E σ [.ref a0] (some (.int r)) σz := by
  refine MetC.of hX (by decide) (Nat.le_of_ble_eq_true rfl) (nJ2_size _ hX) ?_
  intro p e s m below meth c hx hb hr hml hts hown hlocks hnm hk hz0
  have hK := hk.1
  show J p l e (headSpec (ws_ yJ2_size cJ2_size 1 (some .int)) (rmC 0 0 σ σz)).room s m ([.ref a0] : List Value).toArray below meth c 1 E (cZ σ) (cS σ) (MQ below (cQ E (some (.int r)) σz) ([.ref a0] : List Value).toArray s (cZ σz - cZ σ) (cS σz - cS σ) (EA E)) (r, σz) (fJ2_size a0 σ) σ 0 [(0, .ref a0)] []
  unfold fJ2_size
  refine Jrow (fun H locs ls hH hS hl k => lv_aload_n hx hb dJ2_size_0 rfl (lv_at hl 0 rfl) (k ls hl)) ?_
  refine Jgd (fun hg => ?_)
  refine Jrow (fun H locs ls hH hS hl k => c_get (F := 105) (v := .int (cFI σ a0 105)) hx hb hts hown hK hH hg (hts _ q144) (fun _ h => h) rfl dJ2_size_1 (k ls hl)) ?_
  exact Jiret hx hb hr hlocks dJ2_size_4

def fJ2_elementData (a0 : Nat) (p1 : Int32) (σ : CS) : Option (Nat × CS) :=
 gd (hf (cK σ a0) 104) (
 cl (cFR σ a0 104) (fun (x1 : Nat) =>
 gd (kd σ x1 106) (
 gd (ib p1 (cLN σ x1)) (
 cl (cAR σ x1 p1.toNatClampNeg) (fun (x2 : Nat) =>
 some (x2, σ))))))
theorem nJ2_elementData {a0 : Nat} {p1 : Int32} {σ : CS} : Mn σ (fJ2_elementData a0 p1 σ) := by
  unfold fJ2_elementData
  refine Mgd ?_
  refine Mcl (fun x1 => ?_)
  refine Mgd ?_
  refine Mgd ?_
  refine Mcl (fun x2 => ?_)
  exact Mret
set_option maxHeartbeats 4000000 in
set_option maxRecDepth 100000 in
theorem mJ2_elementData (l : Launch) (E : CE) {a0 : Nat} {p1 : Int32} {σ : CS} {r : Nat} {σz : CS} (hX : fJ2_elementData a0 p1 σ = some (r, σz)) : MetC l yJ2_elementData (ws_ yJ2_elementData cJ2_elementData 2 (some (.object "java/lang/Object"))) 0 0 E σ [.ref a0, .int p1] (some (.ref r)) σz := by
  refine MetC.of hX (by decide) (Nat.le_of_ble_eq_true rfl) (nJ2_elementData _ hX) ?_
  intro p e s m below meth c hx hb hr hml hts hown hlocks hnm hk hz0
  have hK := hk.1
  show J p l e (headSpec (ws_ yJ2_elementData cJ2_elementData 2 (some (.object "java/lang/Object"))) (rmC 0 0 σ σz)).room s m ([.ref a0, .int p1] : List Value).toArray below meth c 2 E (cZ σ) (cS σ) (MQ below (cQ E (some (.ref r)) σz) ([.ref a0, .int p1] : List Value).toArray s (cZ σz - cZ σ) (cS σz - cS σ) (EA E)) (r, σz) (fJ2_elementData a0 p1 σ) σ 0 [(0, .ref a0), (1, .int p1)] []
  unfold fJ2_elementData
  refine Jrow (fun H locs ls hH hS hl k => lv_aload_n hx hb dJ2_elementData_0 rfl (lv_at hl 0 rfl) (k ls hl)) ?_
  refine Jgd (fun hg => ?_)
  refine Jcl (fun x1 hq => ?_)
  refine Jrow (fun H locs ls hH hS hl k => c_get (F := 104) (v := .ref x1) hx hb hts hown hK hH hg (hts _ q143) (fun _ h => h) (fvR rfl hq) dJ2_elementData_1 (k ls hl)) ?_
  clear hq
  refine Jrow (fun H locs ls hH hS hl k => lv_iload_n hx hb dJ2_elementData_4 rfl (lv_at hl 1 rfl) (k ls hl)) ?_
  refine Jgd (fun hk1 => ?_)
  refine Jgd (fun hg => ?_)
  refine Jcl (fun x2 hq => ?_)
  refine Jrow (fun H locs ls hH hS hl k => c_aald (t := 5) (q := some x2) hx hb hK hH (by decide) (by decide) hk1 hg hq dJ2_elementData_5 (k ls hl)) ?_
  clear hq
  exact Jaret hx hb hr (Or.inl ⟨_, rfl⟩) hlocks dJ2_elementData_6

def fJ2_get (a0 : Nat) (p1 : Int32) (σ : CS) : Option (Nat × CS) :=
 gd (hf (cK σ a0) 105) (
 cl (fJ12_checkIndex p1 (cFI σ a0 105)) (fun (x1 : Int32) =>
 gd (kd σ a0 20) (
 cl2 (fJ2_elementData a0 p1 σ) (fun (x3 : Nat) (σ2 : CS) =>
 some (x3, σ2)))))
theorem nJ2_get {a0 : Nat} {p1 : Int32} {σ : CS} : Mn σ (fJ2_get a0 p1 σ) := by
  unfold fJ2_get
  refine Mgd ?_
  refine Mcl (fun x1 => ?_)
  refine Mgd ?_
  refine Mcl2 (nJ2_elementData) (fun x3 σ2 => ?_)
  exact Mret
set_option maxHeartbeats 4000000 in
set_option maxRecDepth 100000 in
theorem mJ2_get (l : Launch) (E : CE) {a0 : Nat} {p1 : Int32} {σ : CS} {r : Nat} {σz : CS} (hX : fJ2_get a0 p1 σ = some (r, σz)) : MetC l yJ2_get (ws_ yJ2_get cJ2_get 2 (some (.object "java/lang/Object"))) 2 43 E σ [.ref a0, .int p1] (some (.ref r)) σz := by
  refine MetC.of hX (by decide) (Nat.le_of_ble_eq_true rfl) (nJ2_get _ hX) ?_
  intro p e s m below meth c hx hb hr hml hts hown hlocks hnm hk hz0
  have hK := hk.1
  show J p l e (headSpec (ws_ yJ2_get cJ2_get 2 (some (.object "java/lang/Object"))) (rmC 2 43 σ σz)).room s m ([.ref a0, .int p1] : List Value).toArray below meth c 2 E (cZ σ) (cS σ) (MQ below (cQ E (some (.ref r)) σz) ([.ref a0, .int p1] : List Value).toArray s (cZ σz - cZ σ) (cS σz - cS σ) (EA E)) (r, σz) (fJ2_get a0 p1 σ) σ 0 [(0, .ref a0), (1, .int p1)] []
  unfold fJ2_get
  refine Jrow (fun H locs ls hH hS hl k => lv_iload_n hx hb dJ2_get_0 rfl (lv_at hl 1 rfl) (k ls hl)) ?_
  refine Jrow (fun H locs ls hH hS hl k => lv_aload_n hx hb dJ2_get_1 rfl (lv_at hl 0 rfl) (k ls hl)) ?_
  refine Jgd (fun hg => ?_)
  refine Jrow (fun H locs ls hH hS hl k => c_get (F := 105) (v := .int (cFI σ a0 105)) hx hb hts hown hK hH hg (hts _ q144) (fun _ h => h) rfl dJ2_get_2 (k ls hl)) ?_
  refine Jcl (fun x1 hf => ?_)
  refine JcallS (v := .int x1) (rest := []) hz0 ⟨rfl, rfl⟩ sQi_o (fun H locs ls hl hR => va_runS (As := [.int p1, .int (cFI σ a0 105)]) ⟨hx, hb, hml, hown, hts⟩ (mJ12_checkIndex l hf) (va_cwS 2 hts (lw_S q609 q610 q111 q611) rfl rfl rfl (by decide +kernel) ⟨Nat.le_of_ble_eq_true rfl, Nat.le_of_ble_eq_true rfl⟩) s_pre rfl rfl hl.1 rfl (lv_room (Nat.le_of_ble_eq_true rfl)) dJ2_get_5 hR) ?_
  clear hf
  refine Jrow (fun H locs ls hH hS hl k => lv_pop hx hb dJ2_get_8 rfl (k ls hl)) ?_
  refine Jrow (fun H locs ls hH hS hl k => lv_aload_n hx hb dJ2_get_9 rfl (lv_at hl 0 rfl) (k ls hl)) ?_
  refine Jrow (fun H locs ls hH hS hl k => lv_iload_n hx hb dJ2_get_10 rfl (lv_at hl 1 rfl) (k ls hl)) ?_
  refine Jgd (fun hg => ?_)
  refine Jcl2 (fun x3 σ2 hf => ?_)
  refine Jcall (v := (some (.ref x3))) (rest := []) (mJ2_elementData l E hf).1 ⟨rfl, rfl⟩ (fun H locs ls hH hS hl hR => ⟨_, va_runV (C := RJ2) (As := [.int p1]) ⟨hx, hb, hml, hown, hts⟩ (mJ2_elementData l E hf).2 (cwV 1 hts (lw_V q615 q616 q617 q91 q618) rfl rfl rfl (by decide +kernel) ⟨Nat.le_of_ble_eq_true rfl, Nat.le_of_ble_eq_true rfl⟩) (c_preV (ci := 19) hk hH hS hg rfl) rfl rfl hl.1 rfl (lv_room (Nat.le_of_ble_eq_true rfl)) dJ2_get_11 hR⟩) ?_
  clear hf
  exact Jaret hx hb hr (Or.inl ⟨_, rfl⟩) hlocks dJ2_get_14

def fJ7_copyOf_2 (T : Nat × Nat) (p1 : Nat) (p2 : Int32) (p3 : Nat) (σ : CS) : Option (Nat × CS) :=
 if p3 = (T.2) then
 gd (na p2) (
 bd (nA σ 106 p2.toNatClampNeg) (fun (σ1 : CS) =>
 gd (kd σ1 p1 106) (
 bd (if p2 < (nI (cLN σ1 p1)) then p2 else (nI (cLN σ1 p1))) (fun (x2 : Int32) =>
 gd (kd σ1 p1 106) (
 gd (kd σ1 (cZ σ) 106) (
 gd (cpb σ1 p1 (cZ σ) (0:Int32) (0:Int32) x2) (
 gd (elR σ1 p1 (0:Int32).toNatClampNeg x2.toNatClampNeg) (
 bd (cpR σ1 p1 (cZ σ) (0:Int32).toNatClampNeg (0:Int32).toNatClampNeg x2.toNatClampNeg) (fun (σ3 : CS) =>
 some (cZ σ, σ3))))))))))
 else
 none
theorem nJ7_copyOf_2 {T : Nat × Nat} {p1 : Nat} {p2 : Int32} {p3 : Nat} {σ : CS} : Mn σ (fJ7_copyOf_2 T p1 p2 p3 σ) := by
  unfold fJ7_copyOf_2
  refine Mite ?_ ?_
  · refine Mgd ?_
    refine Mst (Nat.le_succ _) (Nat.le_add_right _ _) (fun σ1 => ?_)
    refine Mgd ?_
    refine Mbd (fun x2 => ?_)
    refine Mgd ?_
    refine Mgd ?_
    refine Mgd ?_
    refine Mgd ?_
    refine Mst (Nat.le_refl _) (Nat.le_refl _) (fun σ3 => ?_)
    exact Mret
  · exact Mnone
set_option maxHeartbeats 4000000 in
set_option maxRecDepth 100000 in
theorem mJ7_copyOf_2 (l : Launch) (E : CE) {p1 : Nat} {p2 : Int32} {p3 : Nat} {σ : CS} {r : Nat} {σz : CS} (hX : fJ7_copyOf_2 E.2.2.2 p1 p2 p3 σ = some (r, σz)) : MetC l yJ7_copyOf_2 (ws_ yJ7_copyOf_2 cJ7_copyOf_2 4 (some (.array (.object "java/lang/Object")))) 1 60 E σ [.ref p1, .int p2, .ref p3] (some (.ref r)) σz := by
  refine MetC.of hX (by decide) (Nat.le_of_ble_eq_true rfl) (nJ7_copyOf_2 _ hX) ?_
  intro p e s m below meth c hx hb hr hml hts hown hlocks hnm hk hz0
  have hK := hk.1
  show J p l e (headSpec (ws_ yJ7_copyOf_2 cJ7_copyOf_2 4 (some (.array (.object "java/lang/Object")))) (rmC 1 60 σ σz)).room s m ([.ref p1, .int p2, .ref p3] : List Value).toArray below meth c 4 E (cZ σ) (cS σ) (MQ below (cQ E (some (.ref r)) σz) ([.ref p1, .int p2, .ref p3] : List Value).toArray s (cZ σz - cZ σ) (cS σz - cS σ) (EA E)) (r, σz) (fJ7_copyOf_2 E.2.2.2 p1 p2 p3 σ) σ 0 [(0, .ref p1), (1, .int p2), (2, .ref p3)] []
  unfold fJ7_copyOf_2
  refine Jrow (fun H locs ls hH hS hl k => lv_aload_n hx hb dJ7_copyOf_2_0 rfl (lv_at hl 2 rfl) (k ls hl)) ?_
  refine Jrow (fun H locs ls hH hS hl k => va_ldcM hx hb hown (hts _ q581) hk.2.2.2.2.2.2.1 dJ7_copyOf_2_1 (k ls hl)) ?_
  refine Jite (fun hc => ?_) (fun hc => ?_)
  · refine Jrow (fun H locs ls hH hS hl k => lv_acmp_ne (rx := (some p3)) (ry := (some (E.2.2.2.2))) (tgt := 13) hx hb dJ7_copyOf_2_3 (by decide) (fun h => absurd (congrArg some hc) h) (fun _ => (k ls hl))) ?_
    clear hc
    refine Jrow (fun H locs ls hH hS hl k => lv_iload_n hx hb dJ7_copyOf_2_6 rfl (lv_at hl 1 rfl) (k ls hl)) ?_
    refine Jgd (fun hg => ?_)
    refine Jnew (σ1 := nA σ 106 p2.toNatClampNeg) (n := p2.toNatClampNeg) rfl rfl ⟨rfl, rfl⟩ (fun H locs ls hH hS hl h1 h2 k => c_newq (t := 5) hx hb hown (hts _ q583) hk.2.2.2.2.2.2.2.1 hK hH hS hk.2.1 (by decide) (by decide) rfl hg h1 h2 dJ7_copyOf_2_7 k) (fun σ1 eσ1 => ?_)
    clear eσ1
    refine Jrow (fun H locs ls hH hS hl k => lv_goto (tgt := 24) hx hb dJ7_copyOf_2_10 (by decide) (k ls hl)) ?_
    refine Jrow (fun H locs ls hH hS hl k => lv_astore_n (lv' := [(3, .ref (cZ σ)), (0, .ref p1), (1, .int p2), (2, .ref p3)]) hx hb dJ7_copyOf_2_24 rfl hl (by decide) rfl k) ?_
    refine Jrow (fun H locs ls hH hS hl k => lv_aload_n hx hb dJ7_copyOf_2_25 rfl (lv_at hl 1 rfl) (k ls hl)) ?_
    refine Jrow (fun H locs ls hH hS hl k => lv_iconst (v := (0:Int32)) hx hb dJ7_copyOf_2_26 (by decide) (k ls hl)) ?_
    refine Jrow (fun H locs ls hH hS hl k => lv_aload_n hx hb dJ7_copyOf_2_27 rfl (lv_at hl 0 rfl) (k ls hl)) ?_
    refine Jrow (fun H locs ls hH hS hl k => lv_iconst (v := (0:Int32)) hx hb dJ7_copyOf_2_28 (by decide) (k ls hl)) ?_
    refine Jrow (fun H locs ls hH hS hl k => lv_aload_n hx hb dJ7_copyOf_2_29 rfl (lv_at hl 1 rfl) (k ls hl)) ?_
    refine Jgd (fun hk1 => ?_)
    refine Jrow (fun H locs ls hH hS hl k => c_alen (t := 5) hx hb hK hH (by decide) hk1 dJ7_copyOf_2_30 (k ls hl)) ?_
    refine Jrow (fun H locs ls hH hS hl k => lv_iload_n hx hb dJ7_copyOf_2_31 rfl (lv_at hl 2 rfl) (k ls hl)) ?_
    refine JrowB ⟨rfl, rfl⟩ (fun H locs ls hH hS hl h1 h2 k => va_mmin hx hb (hml.trans hl.1.symm) hown (hts _ q584) (hts _ q585) (hts _ q104) (hts _ q586) (Nat.le_of_ble_eq_true rfl) (Nat.le_of_ble_eq_true rfl) h1 h2 dJ7_copyOf_2_32 (k ls hl)) ?_
    refine JbdI (fun x2 => ?_)
    refine Jgd (fun hk0 => ?_)
    refine Jgd (fun hk1 => ?_)
    refine Jgd (fun hcp => ?_)
    refine Jgd (fun hel => ?_)
    refine Jst (σ1 := cpR σ1 p1 (cZ σ) (0:Int32).toNatClampNeg (0:Int32).toNatClampNeg x2.toNatClampNeg) rfl rfl (fun H locs ls hH hS hl k => c_copyR hx hb (hml.trans hl.1.symm) hown (hts _ q587) (hts _ q589) (hts _ q588) (hts _ q106) hK hH hS hcp hk.2.2.1 hel hk0 hk1 (Nat.le_of_ble_eq_true rfl) (Nat.le_of_ble_eq_true rfl) dJ7_copyOf_2_35 k) (fun σ3 => ?_)
    refine Jrow (fun H locs ls hH hS hl k => lv_aload_n hx hb dJ7_copyOf_2_38 rfl (lv_at hl 0 rfl) (k ls hl)) ?_
    exact Jaret hx hb hr (Or.inr ⟨_, rfl⟩) hlocks dJ7_copyOf_2_39
  · refine Jrow (fun H locs ls hH hS hl k => lv_acmp_ne (rx := (some p3)) (ry := (some (E.2.2.2.2))) (tgt := 13) hx hb dJ7_copyOf_2_3 (by decide) (fun _ => (k ls hl)) (fun h => absurd (Option.some.inj h) hc)) ?_
    clear hc
    refine Jrow (fun H locs ls hH hS hl k => lv_aload_n hx hb dJ7_copyOf_2_13 rfl (lv_at hl 2 rfl) (k ls hl)) ?_
    exact Jnone

def fJ7_copyOf (T : Nat × Nat) (p1 : Nat) (p2 : Int32) (σ : CS) : Option (Nat × CS) :=
 gd (kd σ p1 106) (
 cl2 (fJ7_copyOf_2 T p1 p2 (T.2) σ) (fun (x2 : Nat) (σ1 : CS) =>
 some (x2, σ1)))
theorem nJ7_copyOf {T : Nat × Nat} {p1 : Nat} {p2 : Int32} {σ : CS} : Mn σ (fJ7_copyOf T p1 p2 σ) := by
  unfold fJ7_copyOf
  refine Mgd ?_
  refine Mcl2 (nJ7_copyOf_2) (fun x2 σ1 => ?_)
  exact Mret
set_option maxHeartbeats 4000000 in
set_option maxRecDepth 100000 in
theorem mJ7_copyOf (l : Launch) (E : CE) {p1 : Nat} {p2 : Int32} {σ : CS} {r : Nat} {σz : CS} (hX : fJ7_copyOf E.2.2.2 p1 p2 σ = some (r, σz)) : MetC l yJ7_copyOf (ws_ yJ7_copyOf cJ7_copyOf 2 (some (.array (.object "java/lang/Object")))) 2 83 E σ [.ref p1, .int p2] (some (.ref r)) σz := by
  refine MetC.of hX (by decide) (Nat.le_of_ble_eq_true rfl) (nJ7_copyOf _ hX) ?_
  intro p e s m below meth c hx hb hr hml hts hown hlocks hnm hk hz0
  have hK := hk.1
  show J p l e (headSpec (ws_ yJ7_copyOf cJ7_copyOf 2 (some (.array (.object "java/lang/Object")))) (rmC 2 83 σ σz)).room s m ([.ref p1, .int p2] : List Value).toArray below meth c 2 E (cZ σ) (cS σ) (MQ below (cQ E (some (.ref r)) σz) ([.ref p1, .int p2] : List Value).toArray s (cZ σz - cZ σ) (cS σz - cS σ) (EA E)) (r, σz) (fJ7_copyOf E.2.2.2 p1 p2 σ) σ 0 [(0, .ref p1), (1, .int p2)] []
  unfold fJ7_copyOf
  refine Jrow (fun H locs ls hH hS hl k => lv_aload_n hx hb dJ7_copyOf_0 rfl (lv_at hl 0 rfl) (k ls hl)) ?_
  refine Jrow (fun H locs ls hH hS hl k => lv_iload_n hx hb dJ7_copyOf_1 rfl (lv_at hl 1 rfl) (k ls hl)) ?_
  refine Jrow (fun H locs ls hH hS hl k => lv_aload_n hx hb dJ7_copyOf_2 rfl (lv_at hl 0 rfl) (k ls hl)) ?_
  refine Jgd (fun hg => ?_)
  refine Jrow (fun H locs ls hH hS hl k => va_getC (C := "[Ljava/lang/Object;") hx hb (hml.trans hl.1.symm) hown (hts _ q554) (va_Nw.use rfl (cN hk.2.2.1 0 rfl)) (hts _ q1787) (hts _ q555) (hts _ q577) hk.2.2.2.2.2.2.1 (c_recvA hK hH hg) (Nat.le_of_ble_eq_true rfl) (Nat.le_of_ble_eq_true rfl) dJ7_copyOf_3 (k ls hl)) ?_
  refine Jcl2 (fun x2 σ1 hf => ?_)
  refine Jcall (v := (some (.ref x2))) (rest := []) (mJ7_copyOf_2 l E hf).1 ⟨rfl, rfl⟩ (fun H locs ls hH hS hl hR => ⟨_, va_runS (As := [.ref p1, .int p2, .ref (E.2.2.2.2)]) ⟨hx, hb, hml, hown, hts⟩ (mJ7_copyOf_2 l E hf).2 (va_cwS 3 hts (lw_S q578 q579 q105 q580) rfl rfl rfl (by decide +kernel) ⟨Nat.le_of_ble_eq_true rfl, Nat.le_of_ble_eq_true rfl⟩) (c_preS hk hH hS) rfl rfl hl.1 rfl (lv_room (Nat.le_of_ble_eq_true rfl)) dJ7_copyOf_6 hR⟩) ?_
  clear hf
  exact Jaret hx hb hr (Or.inr ⟨_, rfl⟩) hlocks dJ7_copyOf_9

def fJ2_grow_2 (T : Nat × Nat) (a0 : Nat) (p1 : Int32) (σ : CS) : Option (Nat × CS) :=
 gd (hf (cK σ a0) 104) (
 cl (cFR σ a0 104) (fun (x1 : Nat) =>
 gd (kd σ x1 106) (
 bd (nI (cLN σ x1)) (fun (x2 : Int32) =>
 jn (cl (fJ5_newLength x2 (p1 - x2) (x2 >>> ((1:Int32) &&& 31))) (fun (x4 : Int32) =>
 gd (hf (cK σ a0) 104) (
 cl (cFR σ a0 104) (fun (x5 : Nat) =>
 cl2 (fJ7_copyOf T x5 x4 σ) (fun (x7 : Nat) (σ6 : CS) =>
 gd (hf (cK σ6 a0) 104) (
 bd (uFR σ6 a0 104 (some x7)) (fun (σ8 : CS) =>
 some (x7, σ8)))))))) (fun (k3 : Option (Nat × CS)) =>
 if (0:Int32) < x2 then
 k3
 else
 gd (hf (cK σ a0) 104) (
 cl (cFR σ a0 104) (fun (x9 : Nat) =>
 if x9 = (T.1) then
 bd (if (10:Int32) < p1 then p1 else (10:Int32)) (fun (x10 : Int32) =>
 gd (na x10) (
 bd (nA σ 106 x10.toNatClampNeg) (fun (σ11 : CS) =>
 gd (hf (cK σ11 a0) 104) (
 bd (uFR σ11 a0 104 (some (cZ σ))) (fun (σ12 : CS) =>
 some (cZ σ, σ12))))))
 else
 k3)))))))
theorem nJ2_grow_2 {T : Nat × Nat} {a0 : Nat} {p1 : Int32} {σ : CS} : Mn σ (fJ2_grow_2 T a0 p1 σ) := by
  unfold fJ2_grow_2
  refine Mgd ?_
  refine Mcl (fun x1 => ?_)
  refine Mgd ?_
  refine Mbd (fun x2 => ?_)
  refine Mjn0 (fun  (X13 : Option (Nat × CS)) => Mn σ X13) (?_) (fun k3 hk3 => ?_)
  · refine Mcl (fun x4 => ?_)
    refine Mgd ?_
    refine Mcl (fun x5 => ?_)
    refine Mcl2 (nJ7_copyOf) (fun x7 σ6 => ?_)
    refine Mgd ?_
    refine Mst (Nat.le_refl _) (Nat.le_refl _) (fun σ8 => ?_)
    exact Mret
  · refine Mite ?_ ?_
    · exact hk3
    · refine Mgd ?_
      refine Mcl (fun x9 => ?_)
      refine Mite ?_ ?_
      · refine Mbd (fun x10 => ?_)
        refine Mgd ?_
        refine Mst (Nat.le_succ _) (Nat.le_add_right _ _) (fun σ11 => ?_)
        refine Mgd ?_
        refine Mst (Nat.le_refl _) (Nat.le_refl _) (fun σ12 => ?_)
        exact Mret
      · exact hk3
set_option maxHeartbeats 4000000 in
set_option maxRecDepth 100000 in
theorem mJ2_grow_2 (l : Launch) (E : CE) {a0 : Nat} {p1 : Int32} {σ : CS} {r : Nat} {σz : CS} (hX : fJ2_grow_2 E.2.2.2 a0 p1 σ = some (r, σz)) : MetC l yJ2_grow_2 (ws_ yJ2_grow_2 cJ2_grow_2 4 (some (.array (.object "java/lang/Object")))) 3 104 E σ [.ref a0, .int p1] (some (.ref r)) σz := by
  refine MetC.of hX (by decide) (Nat.le_of_ble_eq_true rfl) (nJ2_grow_2 _ hX) ?_
  intro p e s m below meth c hx hb hr hml hts hown hlocks hnm hk hz0
  have hK := hk.1
  show J p l e (headSpec (ws_ yJ2_grow_2 cJ2_grow_2 4 (some (.array (.object "java/lang/Object")))) (rmC 3 104 σ σz)).room s m ([.ref a0, .int p1] : List Value).toArray below meth c 4 E (cZ σ) (cS σ) (MQ below (cQ E (some (.ref r)) σz) ([.ref a0, .int p1] : List Value).toArray s (cZ σz - cZ σ) (cS σz - cS σ) (EA E)) (r, σz) (fJ2_grow_2 E.2.2.2 a0 p1 σ) σ 0 [(0, .ref a0), (1, .int p1)] []
  unfold fJ2_grow_2
  refine Jrow (fun H locs ls hH hS hl k => lv_aload_n hx hb dJ2_grow_2_0 rfl (lv_at hl 0 rfl) (k ls hl)) ?_
  refine Jgd (fun hg => ?_)
  refine Jcl (fun x1 hq => ?_)
  refine Jrow (fun H locs ls hH hS hl k => c_get (F := 104) (v := .ref x1) hx hb hts hown hK hH hg (hts _ q143) (fun _ h => h) (fvR rfl hq) dJ2_grow_2_1 (k ls hl)) ?_
  clear hq
  refine Jgd (fun hk1 => ?_)
  refine Jrow (fun H locs ls hH hS hl k => c_alen (t := 5) hx hb hK hH (by decide) hk1 dJ2_grow_2_4 (k ls hl)) ?_
  refine JbdI (fun x2 => ?_)
  refine Jrow (fun H locs ls hH hS hl k => lv_istore_n (lv' := [(2, .int x2), (0, .ref a0), (1, .int p1)]) hx hb dJ2_grow_2_5 rfl hl (by decide) rfl k) ?_
  refine Jrow (fun H locs ls hH hS hl k => lv_iload_n hx hb dJ2_grow_2_6 rfl (lv_at hl 0 rfl) (k ls hl)) ?_
  refine Jjn0 (fun  X13 => J p l e (headSpec (ws_ yJ2_grow_2 cJ2_grow_2 4 (some (.array (.object "java/lang/Object")))) (rmC 3 104 σ σz)).room s m ([.ref a0, .int p1] : List Value).toArray below meth c 4 E (cZ σ) (cS σ) (MQ below (cQ E (some (.ref r)) σz) ([.ref a0, .int p1] : List Value).toArray s (cZ σz - cZ σ) (cS σz - cS σ) (EA E)) (r, σz) X13 σ 20 [(0, .ref a0), (1, .int p1), (2, .int x2)] []) (?_) (fun k3 hk3 => ?_)
  · refine Jrow (fun H locs ls hH hS hl k => lv_iload_n hx hb dJ2_grow_2_20 rfl (lv_at hl 2 rfl) (k ls hl)) ?_
    refine Jrow (fun H locs ls hH hS hl k => lv_iload_n hx hb dJ2_grow_2_21 rfl (lv_at hl 1 rfl) (k ls hl)) ?_
    refine Jrow (fun H locs ls hH hS hl k => lv_iload_n hx hb dJ2_grow_2_22 rfl (lv_at hl 2 rfl) (k ls hl)) ?_
    refine Jrow (fun H locs ls hH hS hl k => lv_isub hx hb dJ2_grow_2_23 (k ls hl)) ?_
    refine Jrow (fun H locs ls hH hS hl k => lv_iload_n hx hb dJ2_grow_2_24 rfl (lv_at hl 2 rfl) (k ls hl)) ?_
    refine Jrow (fun H locs ls hH hS hl k => lv_iconst (v := (1:Int32)) hx hb dJ2_grow_2_25 (by decide) (k ls hl)) ?_
    refine Jrow (fun H locs ls hH hS hl k => lv_ishr hx hb dJ2_grow_2_26 (k ls hl)) ?_
    refine Jcl (fun x4 hf => ?_)
    refine JcallS (v := .int x4) (rest := []) hz0 ⟨rfl, rfl⟩ sQi_o (fun H locs ls hl hR => va_runS (As := [.int x2, .int (p1 - x2), .int (x2 >>> ((1:Int32) &&& 31))]) ⟨hx, hb, hml, hown, hts⟩ (mJ5_newLength l hf) (va_cwS 3 hts (lw_S q541 q542 q103 q543) rfl rfl rfl (by decide +kernel) ⟨Nat.le_of_ble_eq_true rfl, Nat.le_of_ble_eq_true rfl⟩) s_pre rfl rfl hl.1 rfl (lv_room (Nat.le_of_ble_eq_true rfl)) dJ2_grow_2_27 hR) ?_
    clear hf
    refine Jrow (fun H locs ls hH hS hl k => lv_istore_n (lv' := [(3, .int x4), (0, .ref a0), (1, .int p1), (2, .int x2)]) hx hb dJ2_grow_2_30 rfl hl (by decide) rfl k) ?_
    refine Jrow (fun H locs ls hH hS hl k => lv_aload_n hx hb dJ2_grow_2_31 rfl (lv_at hl 1 rfl) (k ls hl)) ?_
    refine Jrow (fun H locs ls hH hS hl k => lv_aload_n hx hb dJ2_grow_2_32 rfl (lv_at hl 1 rfl) (k ls hl)) ?_
    refine Jgd (fun hg => ?_)
    refine Jcl (fun x5 hq => ?_)
    refine Jrow (fun H locs ls hH hS hl k => c_get (F := 104) (v := .ref x5) hx hb hts hown hK hH hg (hts _ q143) (fun _ h => h) (fvR rfl hq) dJ2_grow_2_33 (k ls hl)) ?_
    clear hq
    refine Jrow (fun H locs ls hH hS hl k => lv_iload_n hx hb dJ2_grow_2_36 rfl (lv_at hl 0 rfl) (k ls hl)) ?_
    refine Jcl2 (fun x7 σ6 hf => ?_)
    refine Jcall (v := (some (.ref x7))) (rest := [.ref a0]) (mJ7_copyOf l E hf).1 ⟨rfl, rfl⟩ (fun H locs ls hH hS hl hR => ⟨_, va_runS (As := [.ref x5, .int x4]) ⟨hx, hb, hml, hown, hts⟩ (mJ7_copyOf l E hf).2 (va_cwS 2 hts (lw_S q551 q552 q105 q553) rfl rfl rfl (by decide +kernel) ⟨Nat.le_of_ble_eq_true rfl, Nat.le_of_ble_eq_true rfl⟩) (c_preS hk hH hS) rfl rfl hl.1 rfl (lv_room (Nat.le_of_ble_eq_true rfl)) dJ2_grow_2_37 hR⟩) ?_
    clear hf
    refine Jrow (fun H locs ls hH hS hl k => lv_dup_x1 hx hb dJ2_grow_2_40 rfl rfl (k ls hl)) ?_
    refine Jgd (fun hg => ?_)
    refine Jst (σ1 := uFR σ6 a0 104 (some x7)) rfl rfl (fun H locs ls hH hS hl k => c_putR (F := 104) (ty := (.array (.object "java/lang/Object"))) (x := (some x7)) hx hb hts hown hK hH hS hg (hts _ q143) (fun _ h => h) rfl rfl (by decide +kernel) rfl rfl rfl dJ2_grow_2_41 k) (fun σ8 => ?_)
    exact Jaret hx hb hr (Or.inr ⟨_, rfl⟩) hlocks dJ2_grow_2_44
  · refine Jite (fun hc => ?_) (fun hc => ?_)
    · refine Jrow (fun H locs ls hH hS hl k => lv_if_gt (tgt := 20) hx hb dJ2_grow_2_7 (by decide) (fun _ => (k ls hl)) (fun h => absurd hc h)) ?_
      clear hc
      exact Jsub [1, 2, 0] rfl (hk3)
    · refine Jrow (fun H locs ls hH hS hl k => lv_if_gt (tgt := 20) hx hb dJ2_grow_2_7 (by decide) (fun h => absurd h hc) (fun _ => (k ls hl))) ?_
      clear hc
      refine Jrow (fun H locs ls hH hS hl k => lv_aload_n hx hb dJ2_grow_2_10 rfl (lv_at hl 1 rfl) (k ls hl)) ?_
      refine Jgd (fun hg => ?_)
      refine Jcl (fun x9 hq => ?_)
      refine Jrow (fun H locs ls hH hS hl k => c_get (F := 104) (v := .ref x9) hx hb hts hown hK hH hg (hts _ q143) (fun _ h => h) (fvR rfl hq) dJ2_grow_2_11 (k ls hl)) ?_
      clear hq
      refine Jrow (fun H locs ls hH hS hl k => va_gets hx hb hk.2.2.2.1 hS hown (hts _ q141) (fun _ h => h) dJ2_grow_2_14 (k ls hl)) ?_
      refine Jite (fun hc => ?_) (fun hc => ?_)
      · refine Jrow (fun H locs ls hH hS hl k => lv_acmp_eq (rx := (some x9)) (ry := (some (E.2.2.2.1))) (tgt := 45) hx hb dJ2_grow_2_17 (by decide) (fun _ => (k ls hl)) (fun h => absurd (congrArg some hc) h)) ?_
        clear hc
        refine Jrow (fun H locs ls hH hS hl k => lv_aload_n hx hb dJ2_grow_2_45 rfl (lv_at hl 1 rfl) (k ls hl)) ?_
        refine Jrow (fun H locs ls hH hS hl k => lv_bipush (v := (10:Int32)) hx hb dJ2_grow_2_46 (by decide) (k ls hl)) ?_
        refine Jrow (fun H locs ls hH hS hl k => lv_iload_n hx hb dJ2_grow_2_48 rfl (lv_at hl 2 rfl) (k ls hl)) ?_
        refine JrowB ⟨rfl, rfl⟩ (fun H locs ls hH hS hl h1 h2 k => va_mmax hx hb (hml.trans hl.1.symm) hown (hts _ q590) (hts _ q545) (hts _ q104) (hts _ q546) (Nat.le_of_ble_eq_true rfl) (Nat.le_of_ble_eq_true rfl) h1 h2 dJ2_grow_2_49 (k ls hl)) ?_
        refine JbdI (fun x10 => ?_)
        refine Jgd (fun hg => ?_)
        refine Jnew (σ1 := nA σ 106 x10.toNatClampNeg) (n := x10.toNatClampNeg) rfl rfl ⟨rfl, rfl⟩ (fun H locs ls hH hS hl h1 h2 k => c_newq (t := 5) hx hb hown (hts _ q591) hk.2.2.2.2.2.2.2.1 hK hH hS hk.2.1 (by decide) (by decide) rfl hg h1 h2 dJ2_grow_2_52 k) (fun σ11 eσ11 => ?_)
        clear eσ11
        refine Jrow (fun H locs ls hH hS hl k => lv_dup_x1 hx hb dJ2_grow_2_55 rfl rfl (k ls hl)) ?_
        refine Jgd (fun hg => ?_)
        refine Jst (σ1 := uFR σ11 a0 104 (some (cZ σ))) rfl rfl (fun H locs ls hH hS hl k => c_putR (F := 104) (ty := (.array (.object "java/lang/Object"))) (x := (some (cZ σ))) hx hb hts hown hK hH hS hg (hts _ q143) (fun _ h => h) rfl rfl (by decide +kernel) rfl rfl rfl dJ2_grow_2_56 k) (fun σ12 => ?_)
        exact Jaret hx hb hr (Or.inr ⟨_, rfl⟩) hlocks dJ2_grow_2_59
      · refine Jrow (fun H locs ls hH hS hl k => lv_acmp_eq (rx := (some x9)) (ry := (some (E.2.2.2.1))) (tgt := 45) hx hb dJ2_grow_2_17 (by decide) (fun h => absurd (Option.some.inj h) hc) (fun _ => (k ls hl))) ?_
        clear hc
        exact Jsub [1, 2, 0] rfl (hk3)

def fJ2_grow (T : Nat × Nat) (a0 : Nat) (σ : CS) : Option (Nat × CS) :=
 gd (hf (cK σ a0) 105) (
 gd (kd σ a0 20) (
 cl2 (fJ2_grow_2 T a0 ((cFI σ a0 105) + (1:Int32)) σ) (fun (x2 : Nat) (σ1 : CS) =>
 some (x2, σ1))))
theorem nJ2_grow {T : Nat × Nat} {a0 : Nat} {σ : CS} : Mn σ (fJ2_grow T a0 σ) := by
  unfold fJ2_grow
  refine Mgd ?_
  refine Mgd ?_
  refine Mcl2 (nJ2_grow_2) (fun x2 σ1 => ?_)
  exact Mret
set_option maxHeartbeats 4000000 in
set_option maxRecDepth 100000 in
theorem mJ2_grow (l : Launch) (E : CE) {a0 : Nat} {σ : CS} {r : Nat} {σz : CS} (hX : fJ2_grow E.2.2.2 a0 σ = some (r, σz)) : MetC l yJ2_grow (ws_ yJ2_grow cJ2_grow 1 (some (.array (.object "java/lang/Object")))) 4 127 E σ [.ref a0] (some (.ref r)) σz := by
  refine MetC.of hX (by decide) (Nat.le_of_ble_eq_true rfl) (nJ2_grow _ hX) ?_
  intro p e s m below meth c hx hb hr hml hts hown hlocks hnm hk hz0
  have hK := hk.1
  show J p l e (headSpec (ws_ yJ2_grow cJ2_grow 1 (some (.array (.object "java/lang/Object")))) (rmC 4 127 σ σz)).room s m ([.ref a0] : List Value).toArray below meth c 1 E (cZ σ) (cS σ) (MQ below (cQ E (some (.ref r)) σz) ([.ref a0] : List Value).toArray s (cZ σz - cZ σ) (cS σz - cS σ) (EA E)) (r, σz) (fJ2_grow E.2.2.2 a0 σ) σ 0 [(0, .ref a0)] []
  unfold fJ2_grow
  refine Jrow (fun H locs ls hH hS hl k => lv_aload_n hx hb dJ2_grow_0 rfl (lv_at hl 0 rfl) (k ls hl)) ?_
  refine Jrow (fun H locs ls hH hS hl k => lv_aload_n hx hb dJ2_grow_1 rfl (lv_at hl 0 rfl) (k ls hl)) ?_
  refine Jgd (fun hg => ?_)
  refine Jrow (fun H locs ls hH hS hl k => c_get (F := 105) (v := .int (cFI σ a0 105)) hx hb hts hown hK hH hg (hts _ q144) (fun _ h => h) rfl dJ2_grow_2 (k ls hl)) ?_
  refine Jrow (fun H locs ls hH hS hl k => lv_iconst (v := (1:Int32)) hx hb dJ2_grow_5 (by decide) (k ls hl)) ?_
  refine Jrow (fun H locs ls hH hS hl k => lv_iadd hx hb dJ2_grow_6 (k ls hl)) ?_
  refine Jgd (fun hg => ?_)
  refine Jcl2 (fun x2 σ1 hf => ?_)
  refine Jcall (v := (some (.ref x2))) (rest := []) (mJ2_grow_2 l E hf).1 ⟨rfl, rfl⟩ (fun H locs ls hH hS hl hR => ⟨_, va_runV (C := RJ2) (As := [.int ((cFI σ a0 105) + (1:Int32))]) ⟨hx, hb, hml, hown, hts⟩ (mJ2_grow_2 l E hf).2 (cwV 1 hts (lw_V q537 q539 qs14 q91 q540) rfl rfl rfl (by decide +kernel) ⟨Nat.le_of_ble_eq_true rfl, Nat.le_of_ble_eq_true rfl⟩) (c_preV (ci := 19) hk hH hS hg rfl) rfl rfl hl.1 rfl (lv_room (Nat.le_of_ble_eq_true rfl)) dJ2_grow_7 hR⟩) ?_
  clear hf
  exact Jaret hx hb hr (Or.inr ⟨_, rfl⟩) hlocks dJ2_grow_10

def fJ2_add_2 (T : Nat × Nat) (a0 : Nat) (p1 : Nat) (p2 : Nat) (p3 : Int32) (σ : CS) : Option (Unit × CS) :=
 gd (kd σ p2 106) (
 jn (fun (x1 : Nat) (σ2 : CS) => gd (kd σ2 x1 106) (
 gd (ib p3 (cLN σ2 x1)) (
 gd (elO (cK σ2 p1)) (
 bd (uAR σ2 x1 p3.toNatClampNeg (some p1)) (fun (σ4 : CS) =>
 gd (hf (cK σ4 a0) 105) (
 bd (uFI σ4 a0 105 (p3 + (1:Int32))) (fun (σ5 : CS) =>
 some ((), σ5)))))))) (fun (k3 : Nat → CS → Option (Unit × CS)) =>
 if p3 = (nI (cLN σ p2)) then
 gd (kd σ a0 20) (
 cl2 (fJ2_grow T a0 σ) (fun (x7 : Nat) (σ6 : CS) =>
 k3 x7 σ6))
 else
 k3 p2 σ))
theorem nJ2_add_2 {T : Nat × Nat} {a0 : Nat} {p1 : Nat} {p2 : Nat} {p3 : Int32} {σ : CS} : Mn σ (fJ2_add_2 T a0 p1 p2 p3 σ) := by
  unfold fJ2_add_2
  refine Mgd ?_
  refine Mjn2 (fun (x1 : Nat) (σ2 : CS) (X8 : Option (Unit × CS)) => Mn σ2 X8) (fun x1 σ2 => ?_) (fun k3 hk3 => ?_)
  · refine Mgd ?_
    refine Mgd ?_
    refine Mgd ?_
    refine Mst (Nat.le_refl _) (Nat.le_refl _) (fun σ4 => ?_)
    refine Mgd ?_
    refine Mst (Nat.le_refl _) (Nat.le_refl _) (fun σ5 => ?_)
    exact Mret
  · refine Mite ?_ ?_
    · refine Mgd ?_
      refine Mcl2 (nJ2_grow) (fun x7 σ6 => ?_)
      exact hk3 x7 σ6
    · exact hk3 p2 σ
set_option maxHeartbeats 4000000 in
set_option maxRecDepth 100000 in
theorem mJ2_add_2 (l : Launch) (E : CE) {a0 : Nat} {p1 : Nat} {p2 : Nat} {p3 : Int32} {σ : CS} {σz : CS} (hX : fJ2_add_2 E.2.2.2 a0 p1 p2 p3 σ = some ((), σz)) : MetC l yJ2_add_2 (ws_ yJ2_add_2 cJ2_add_2 4 none) 5 147 E σ [.ref a0, .ref p1, .ref p2, .int p3] none σz := by
  refine MetC.of hX (by decide) (Nat.le_of_ble_eq_true rfl) (nJ2_add_2 _ hX) ?_
  intro p e s m below meth c hx hb hr hml hts hown hlocks hnm hk hz0
  have hK := hk.1
  show J p l e (headSpec (ws_ yJ2_add_2 cJ2_add_2 4 none) (rmC 5 147 σ σz)).room s m ([.ref a0, .ref p1, .ref p2, .int p3] : List Value).toArray below meth c 4 E (cZ σ) (cS σ) (MQ below (cQ E none σz) ([.ref a0, .ref p1, .ref p2, .int p3] : List Value).toArray s (cZ σz - cZ σ) (cS σz - cS σ) (EA E)) ((), σz) (fJ2_add_2 E.2.2.2 a0 p1 p2 p3 σ) σ 0 [(0, .ref a0), (1, .ref p1), (2, .ref p2), (3, .int p3)] []
  unfold fJ2_add_2
  refine Jrow (fun H locs ls hH hS hl k => lv_iload_n hx hb dJ2_add_2_0 rfl (lv_at hl 3 rfl) (k ls hl)) ?_
  refine Jrow (fun H locs ls hH hS hl k => lv_aload_n hx hb dJ2_add_2_1 rfl (lv_at hl 2 rfl) (k ls hl)) ?_
  refine Jgd (fun hk1 => ?_)
  refine Jrow (fun H locs ls hH hS hl k => c_alen (t := 5) hx hb hK hH (by decide) hk1 dJ2_add_2_2 (k ls hl)) ?_
  refine Jjn2 (fun (x1 : Nat) (σ2 : CS) X8 => J p l e (headSpec (ws_ yJ2_add_2 cJ2_add_2 4 none) (rmC 5 147 σ σz)).room s m ([.ref a0, .ref p1, .ref p2, .int p3] : List Value).toArray below meth c 4 E (cZ σ) (cS σ) (MQ below (cQ E none σz) ([.ref a0, .ref p1, .ref p2, .int p3] : List Value).toArray s (cZ σz - cZ σ) (cS σz - cS σ) (EA E)) ((), σz) X8 σ2 11 [(0, .ref a0), (1, .ref p1), (2, .ref x1), (3, .int p3)] []) (fun x1 σ2 => ?_) (fun k3 hk3 => ?_)
  · refine Jrow (fun H locs ls hH hS hl k => lv_aload_n hx hb dJ2_add_2_11 rfl (lv_at hl 2 rfl) (k ls hl)) ?_
    refine Jrow (fun H locs ls hH hS hl k => lv_iload_n hx hb dJ2_add_2_12 rfl (lv_at hl 3 rfl) (k ls hl)) ?_
    refine Jrow (fun H locs ls hH hS hl k => lv_aload_n hx hb dJ2_add_2_13 rfl (lv_at hl 1 rfl) (k ls hl)) ?_
    refine Jgd (fun hk1 => ?_)
    refine Jgd (fun hg => ?_)
    refine Jgd (fun hg3 => ?_)
    obtain ⟨ci3, C3, T3, N3, ec3, hc3, hw3⟩ := elO_spec hg3
    refine Jst (σ1 := uAR σ2 x1 p3.toNatClampNeg (some p1)) rfl rfl (fun H locs ls hH hS hl k => c_aast (t := 5) hx hb hK hH hS (by decide) (by decide) rfl hk1 ec3 hc3 (Or.inl (va_Nw.use rfl (hw3 s hk.2.2.1))) hg dJ2_add_2_14 k) (fun σ4 => ?_)
    refine Jrow (fun H locs ls hH hS hl k => lv_aload_n hx hb dJ2_add_2_15 rfl (lv_at hl 0 rfl) (k ls hl)) ?_
    refine Jrow (fun H locs ls hH hS hl k => lv_iload_n hx hb dJ2_add_2_16 rfl (lv_at hl 3 rfl) (k ls hl)) ?_
    refine Jrow (fun H locs ls hH hS hl k => lv_iconst (v := (1:Int32)) hx hb dJ2_add_2_17 (by decide) (k ls hl)) ?_
    refine Jrow (fun H locs ls hH hS hl k => lv_iadd hx hb dJ2_add_2_18 (k ls hl)) ?_
    refine Jgd (fun hg => ?_)
    refine Jst (σ1 := uFI σ4 a0 105 (p3 + (1:Int32))) rfl rfl (fun H locs ls hH hS hl k => c_putI (F := 105) (ty := .int) (x := (p3 + (1:Int32))) hx hb hts hown hK hH hS hg (hts _ q144) (fun _ h => h) rfl rfl (by decide +kernel) rfl rfl rfl dJ2_add_2_19 k) (fun σ5 => ?_)
    exact Jvret hx hb hr hlocks dJ2_add_2_22
  · refine Jite (fun hc => ?_) (fun hc => ?_)
    · refine Jrow (fun H locs ls hH hS hl k => lv_icmp_ne (tgt := 11) hx hb dJ2_add_2_3 (by decide) (fun h => absurd hc h) (fun _ => (k ls hl))) ?_
      clear hc
      refine Jrow (fun H locs ls hH hS hl k => lv_aload_n hx hb dJ2_add_2_6 rfl (lv_at hl 0 rfl) (k ls hl)) ?_
      refine Jgd (fun hg => ?_)
      refine Jcl2 (fun x7 σ6 hf => ?_)
      refine Jcall (v := (some (.ref x7))) (rest := []) (mJ2_grow l E hf).1 ⟨rfl, rfl⟩ (fun H locs ls hH hS hl hR => ⟨_, va_runV (C := RJ2) (As := []) ⟨hx, hb, hml, hown, hts⟩ (mJ2_grow l E hf).2 (cwV 0 hts (lw_V q533 q535 qs13 q91 q536) rfl rfl rfl (by decide +kernel) ⟨Nat.le_of_ble_eq_true rfl, Nat.le_of_ble_eq_true rfl⟩) (c_preV (ci := 19) hk hH hS hg rfl) rfl rfl hl.1 rfl (lv_room (Nat.le_of_ble_eq_true rfl)) dJ2_add_2_7 hR⟩) ?_
      clear hf
      refine Jrow (fun H locs ls hH hS hl k => lv_astore_n (lv' := [(2, .ref x7), (0, .ref a0), (1, .ref p1), (3, .int p3)]) hx hb dJ2_add_2_10 rfl hl (by decide) rfl k) ?_
      exact Jsub [1, 2, 0, 3] rfl (hk3 x7 σ6)
    · refine Jrow (fun H locs ls hH hS hl k => lv_icmp_ne (tgt := 11) hx hb dJ2_add_2_3 (by decide) (fun _ => (k ls hl)) (fun h => absurd h hc)) ?_
      clear hc
      exact Jsub [0, 1, 2, 3] rfl (hk3 p2 σ)

def fJ2_add (T : Nat × Nat) (a0 : Nat) (p1 : Nat) (σ : CS) : Option (Int32 × CS) :=
 gd (hf (cK σ a0) 103) (
 gd (hf (cK σ a0) 103) (
 bd (uFI σ a0 103 ((cFI σ a0 103) + (1:Int32))) (fun (σ1 : CS) =>
 gd (hf (cK σ1 a0) 104) (
 cl (cFR σ1 a0 104) (fun (x2 : Nat) =>
 gd (hf (cK σ1 a0) 105) (
 gd (kd σ1 a0 20) (
 cl2 (fJ2_add_2 T a0 p1 x2 (cFI σ1 a0 105) σ1) (fun (_ : Unit) (σ3 : CS) =>
 some ((1:Int32), σ3)))))))))
theorem nJ2_add {T : Nat × Nat} {a0 : Nat} {p1 : Nat} {σ : CS} : Mn σ (fJ2_add T a0 p1 σ) := by
  unfold fJ2_add
  refine Mgd ?_
  refine Mgd ?_
  refine Mst (Nat.le_refl _) (Nat.le_refl _) (fun σ1 => ?_)
  refine Mgd ?_
  refine Mcl (fun x2 => ?_)
  refine Mgd ?_
  refine Mgd ?_
  refine Mcl2 (nJ2_add_2) (fun _ σ3 => ?_)
  exact Mret
set_option maxHeartbeats 4000000 in
set_option maxRecDepth 100000 in
theorem mJ2_add (l : Launch) (E : CE) {a0 : Nat} {p1 : Nat} {σ : CS} {r : Int32} {σz : CS} (hX : fJ2_add E.2.2.2 a0 p1 σ = some (r, σz)) : MetC l yJ2_add (ws_ yJ2_add cJ2_add 2 (some .boolean)) 6 170 E σ [.ref a0, .ref p1] (some (.int r)) σz := by
  refine MetC.of hX (by decide) (Nat.le_of_ble_eq_true rfl) (nJ2_add _ hX) ?_
  intro p e s m below meth c hx hb hr hml hts hown hlocks hnm hk hz0
  have hK := hk.1
  show J p l e (headSpec (ws_ yJ2_add cJ2_add 2 (some .boolean)) (rmC 6 170 σ σz)).room s m ([.ref a0, .ref p1] : List Value).toArray below meth c 2 E (cZ σ) (cS σ) (MQ below (cQ E (some (.int r)) σz) ([.ref a0, .ref p1] : List Value).toArray s (cZ σz - cZ σ) (cS σz - cS σ) (EA E)) (r, σz) (fJ2_add E.2.2.2 a0 p1 σ) σ 0 [(0, .ref a0), (1, .ref p1)] []
  unfold fJ2_add
  refine Jrow (fun H locs ls hH hS hl k => lv_aload_n hx hb dJ2_add_0 rfl (lv_at hl 0 rfl) (k ls hl)) ?_
  refine Jrow (fun H locs ls hH hS hl k => lv_dup hx hb dJ2_add_1 rfl (k ls hl)) ?_
  refine Jgd (fun hg => ?_)
  refine Jrow (fun H locs ls hH hS hl k => c_get (F := 103) (v := .int (cFI σ a0 103)) hx hb hts hown hK hH hg (hts _ q146) (u_same (hts _ q147)) rfl dJ2_add_2 (k ls hl)) ?_
  refine Jrow (fun H locs ls hH hS hl k => lv_iconst (v := (1:Int32)) hx hb dJ2_add_5 (by decide) (k ls hl)) ?_
  refine Jrow (fun H locs ls hH hS hl k => lv_iadd hx hb dJ2_add_6 (k ls hl)) ?_
  refine Jgd (fun hg => ?_)
  refine Jst (σ1 := uFI σ a0 103 ((cFI σ a0 103) + (1:Int32))) rfl rfl (fun H locs ls hH hS hl k => c_putI (F := 103) (ty := .int) (x := ((cFI σ a0 103) + (1:Int32))) hx hb hts hown hK hH hS hg (hts _ q146) (u_same (hts _ q147)) rfl rfl (by decide +kernel) rfl rfl rfl dJ2_add_7 k) (fun σ1 => ?_)
  refine Jrow (fun H locs ls hH hS hl k => lv_aload_n hx hb dJ2_add_10 rfl (lv_at hl 0 rfl) (k ls hl)) ?_
  refine Jrow (fun H locs ls hH hS hl k => lv_aload_n hx hb dJ2_add_11 rfl (lv_at hl 1 rfl) (k ls hl)) ?_
  refine Jrow (fun H locs ls hH hS hl k => lv_aload_n hx hb dJ2_add_12 rfl (lv_at hl 0 rfl) (k ls hl)) ?_
  refine Jgd (fun hg => ?_)
  refine Jcl (fun x2 hq => ?_)
  refine Jrow (fun H locs ls hH hS hl k => c_get (F := 104) (v := .ref x2) hx hb hts hown hK hH hg (hts _ q143) (fun _ h => h) (fvR rfl hq) dJ2_add_13 (k ls hl)) ?_
  clear hq
  refine Jrow (fun H locs ls hH hS hl k => lv_aload_n hx hb dJ2_add_16 rfl (lv_at hl 0 rfl) (k ls hl)) ?_
  refine Jgd (fun hg => ?_)
  refine Jrow (fun H locs ls hH hS hl k => c_get (F := 105) (v := .int (cFI σ1 a0 105)) hx hb hts hown hK hH hg (hts _ q144) (fun _ h => h) rfl dJ2_add_17 (k ls hl)) ?_
  refine Jgd (fun hg => ?_)
  refine Jcl2 (fun _ σ3 hf => ?_)
  refine Jcall (v := none) (rest := []) (mJ2_add_2 l E hf).1 ⟨rfl, rfl⟩ (fun H locs ls hH hS hl hR => ⟨_, va_runV (C := RJ2) (As := [.ref p1, .ref x2, .int (cFI σ1 a0 105)]) ⟨hx, hb, hml, hown, hts⟩ (mJ2_add_2 l E hf).2 (cwV 3 hts (lw_V q529 q531 qs12 q91 q532) rfl rfl rfl (by decide +kernel) ⟨Nat.le_of_ble_eq_true rfl, Nat.le_of_ble_eq_true rfl⟩) (c_preV (ci := 19) hk hH hS hg rfl) rfl rfl hl.1 rfl (lv_room (Nat.le_of_ble_eq_true rfl)) dJ2_add_20 hR⟩) ?_
  clear hf
  refine Jrow (fun H locs ls hH hS hl k => lv_iconst (v := (1:Int32)) hx hb dJ2_add_23 (by decide) (k ls hl)) ?_
  exact Jzret hx hb hr hlocks rfl dJ2_add_24

def fJ2_fastRemove (a0 : Nat) (p1 : Nat) (p2 : Int32) (σ : CS) : Option (Unit × CS) :=
 gd (hf (cK σ a0) 103) (
 gd (hf (cK σ a0) 103) (
 bd (uFI σ a0 103 ((cFI σ a0 103) + (1:Int32))) (fun (σ1 : CS) =>
 gd (hf (cK σ1 a0) 105) (
 bd ((cFI σ1 a0 105) - (1:Int32)) (fun (x2 : Int32) =>
 jn (fun (σ3 : CS) => gd (hf (cK σ3 a0) 105) (
 bd (uFI σ3 a0 105 x2) (fun (σ5 : CS) =>
 gd (kd σ5 p1 106) (
 gd (ib x2 (cLN σ5 p1)) (
 bd (uAR σ5 p1 x2.toNatClampNeg none) (fun (σ6 : CS) =>
 some ((), σ6))))))) (fun (k4 : CS → Option (Unit × CS)) =>
 if ((cFI σ1 a0 105) - (1:Int32)) ≤ p2 then
 k4 σ1
 else
 gd (kd σ1 p1 106) (
 gd (kd σ1 p1 106) (
 gd (cpb σ1 p1 p1 (p2 + (1:Int32)) p2 (x2 - p2)) (
 gd (elR σ1 p1 (p2 + (1:Int32)).toNatClampNeg (x2 - p2).toNatClampNeg) (
 bd (cpR σ1 p1 p1 (p2 + (1:Int32)).toNatClampNeg p2.toNatClampNeg (x2 - p2).toNatClampNeg) (fun (σ7 : CS) =>
 k4 σ7)))))))))))
theorem nJ2_fastRemove {a0 : Nat} {p1 : Nat} {p2 : Int32} {σ : CS} : Mn σ (fJ2_fastRemove a0 p1 p2 σ) := by
  unfold fJ2_fastRemove
  refine Mgd ?_
  refine Mgd ?_
  refine Mst (Nat.le_refl _) (Nat.le_refl _) (fun σ1 => ?_)
  refine Mgd ?_
  refine Mbd (fun x2 => ?_)
  refine Mjn1 (fun (σ3 : CS) (X8 : Option (Unit × CS)) => Mn σ3 X8) (fun σ3 => ?_) (fun k4 hk4 => ?_)
  · refine Mgd ?_
    refine Mst (Nat.le_refl _) (Nat.le_refl _) (fun σ5 => ?_)
    refine Mgd ?_
    refine Mgd ?_
    refine Mst (Nat.le_refl _) (Nat.le_refl _) (fun σ6 => ?_)
    exact Mret
  · refine Mite ?_ ?_
    · exact hk4 σ1
    · refine Mgd ?_
      refine Mgd ?_
      refine Mgd ?_
      refine Mgd ?_
      refine Mst (Nat.le_refl _) (Nat.le_refl _) (fun σ7 => ?_)
      exact hk4 σ7
set_option maxHeartbeats 4000000 in
set_option maxRecDepth 100000 in
theorem mJ2_fastRemove (l : Launch) (E : CE) {a0 : Nat} {p1 : Nat} {p2 : Int32} {σ : CS} {σz : CS} (hX : fJ2_fastRemove a0 p1 p2 σ = some ((), σz)) : MetC l yJ2_fastRemove (ws_ yJ2_fastRemove cJ2_fastRemove 4 none) 1 60 E σ [.ref a0, .ref p1, .int p2] none σz := by
  refine MetC.of hX (by decide) (Nat.le_of_ble_eq_true rfl) (nJ2_fastRemove _ hX) ?_
  intro p e s m below meth c hx hb hr hml hts hown hlocks hnm hk hz0
  have hK := hk.1
  show J p l e (headSpec (ws_ yJ2_fastRemove cJ2_fastRemove 4 none) (rmC 1 60 σ σz)).room s m ([.ref a0, .ref p1, .int p2] : List Value).toArray below meth c 4 E (cZ σ) (cS σ) (MQ below (cQ E none σz) ([.ref a0, .ref p1, .int p2] : List Value).toArray s (cZ σz - cZ σ) (cS σz - cS σ) (EA E)) ((), σz) (fJ2_fastRemove a0 p1 p2 σ) σ 0 [(0, .ref a0), (1, .ref p1), (2, .int p2)] []
  unfold fJ2_fastRemove
  refine Jrow (fun H locs ls hH hS hl k => lv_aload_n hx hb dJ2_fastRemove_0 rfl (lv_at hl 0 rfl) (k ls hl)) ?_
  refine Jrow (fun H locs ls hH hS hl k => lv_dup hx hb dJ2_fastRemove_1 rfl (k ls hl)) ?_
  refine Jgd (fun hg => ?_)
  refine Jrow (fun H locs ls hH hS hl k => c_get (F := 103) (v := .int (cFI σ a0 103)) hx hb hts hown hK hH hg (hts _ q146) (u_same (hts _ q147)) rfl dJ2_fastRemove_2 (k ls hl)) ?_
  refine Jrow (fun H locs ls hH hS hl k => lv_iconst (v := (1:Int32)) hx hb dJ2_fastRemove_5 (by decide) (k ls hl)) ?_
  refine Jrow (fun H locs ls hH hS hl k => lv_iadd hx hb dJ2_fastRemove_6 (k ls hl)) ?_
  refine Jgd (fun hg => ?_)
  refine Jst (σ1 := uFI σ a0 103 ((cFI σ a0 103) + (1:Int32))) rfl rfl (fun H locs ls hH hS hl k => c_putI (F := 103) (ty := .int) (x := ((cFI σ a0 103) + (1:Int32))) hx hb hts hown hK hH hS hg (hts _ q146) (u_same (hts _ q147)) rfl rfl (by decide +kernel) rfl rfl rfl dJ2_fastRemove_7 k) (fun σ1 => ?_)
  refine Jrow (fun H locs ls hH hS hl k => lv_aload_n hx hb dJ2_fastRemove_10 rfl (lv_at hl 0 rfl) (k ls hl)) ?_
  refine Jgd (fun hg => ?_)
  refine Jrow (fun H locs ls hH hS hl k => c_get (F := 105) (v := .int (cFI σ1 a0 105)) hx hb hts hown hK hH hg (hts _ q144) (fun _ h => h) rfl dJ2_fastRemove_11 (k ls hl)) ?_
  refine Jrow (fun H locs ls hH hS hl k => lv_iconst (v := (1:Int32)) hx hb dJ2_fastRemove_14 (by decide) (k ls hl)) ?_
  refine Jrow (fun H locs ls hH hS hl k => lv_isub hx hb dJ2_fastRemove_15 (k ls hl)) ?_
  refine Jrow (fun H locs ls hH hS hl k => lv_dup hx hb dJ2_fastRemove_16 rfl (k ls hl)) ?_
  refine JbdI (fun x2 => ?_)
  refine Jrow (fun H locs ls hH hS hl k => lv_istore_n (lv' := [(3, .int x2), (0, .ref a0), (1, .ref p1), (2, .int p2)]) hx hb dJ2_fastRemove_17 rfl hl (by decide) rfl k) ?_
  refine Jrow (fun H locs ls hH hS hl k => lv_iload_n hx hb dJ2_fastRemove_18 rfl (lv_at hl 3 rfl) (k ls hl)) ?_
  refine Jjn1 (fun (σ3 : CS) X8 => J p l e (headSpec (ws_ yJ2_fastRemove cJ2_fastRemove 4 none) (rmC 1 60 σ σz)).room s m ([.ref a0, .ref p1, .int p2] : List Value).toArray below meth c 4 E (cZ σ) (cS σ) (MQ below (cQ E none σz) ([.ref a0, .ref p1, .int p2] : List Value).toArray s (cZ σz - cZ σ) (cS σz - cS σ) (EA E)) ((), σz) X8 σ3 34 [(0, .ref a0), (1, .ref p1), (3, .int x2)] []) (fun σ3 => ?_) (fun k4 hk4 => ?_)
  · refine Jrow (fun H locs ls hH hS hl k => lv_aload_n hx hb dJ2_fastRemove_34 rfl (lv_at hl 1 rfl) (k ls hl)) ?_
    refine Jrow (fun H locs ls hH hS hl k => lv_aload_n hx hb dJ2_fastRemove_35 rfl (lv_at hl 0 rfl) (k ls hl)) ?_
    refine Jrow (fun H locs ls hH hS hl k => lv_iload_n hx hb dJ2_fastRemove_36 rfl (lv_at hl 2 rfl) (k ls hl)) ?_
    refine Jrow (fun H locs ls hH hS hl k => lv_dup_x1 hx hb dJ2_fastRemove_37 rfl rfl (k ls hl)) ?_
    refine Jgd (fun hg => ?_)
    refine Jst (σ1 := uFI σ3 a0 105 x2) rfl rfl (fun H locs ls hH hS hl k => c_putI (F := 105) (ty := .int) (x := x2) hx hb hts hown hK hH hS hg (hts _ q144) (fun _ h => h) rfl rfl (by decide +kernel) rfl rfl rfl dJ2_fastRemove_38 k) (fun σ5 => ?_)
    refine Jrow (fun H locs ls hH hS hl k => lv_null hx hb dJ2_fastRemove_41 (k ls hl)) ?_
    refine Jgd (fun hk1 => ?_)
    refine Jgd (fun hg => ?_)
    refine Jst (σ1 := uAR σ5 p1 x2.toNatClampNeg none) rfl rfl (fun H locs ls hH hS hl k => c_aastN (t := 5) hx hb hK hH hS (by decide) (by decide) rfl hk1 hg dJ2_fastRemove_42 k) (fun σ6 => ?_)
    exact Jvret hx hb hr hlocks dJ2_fastRemove_43
  · refine Jite (fun hc => ?_) (fun hc => ?_)
    · refine Jrow (fun H locs ls hH hS hl k => lv_icmp_le (tgt := 34) hx hb dJ2_fastRemove_19 (by decide) (fun _ => (k ls hl)) (fun h => absurd hc h)) ?_
      clear hc
      exact Jsub [1, 2, 0] rfl (hk4 σ1)
    · refine Jrow (fun H locs ls hH hS hl k => lv_icmp_le (tgt := 34) hx hb dJ2_fastRemove_19 (by decide) (fun h => absurd h hc) (fun _ => (k ls hl))) ?_
      clear hc
      refine Jrow (fun H locs ls hH hS hl k => lv_aload_n hx hb dJ2_fastRemove_22 rfl (lv_at hl 2 rfl) (k ls hl)) ?_
      refine Jrow (fun H locs ls hH hS hl k => lv_iload_n hx hb dJ2_fastRemove_23 rfl (lv_at hl 3 rfl) (k ls hl)) ?_
      refine Jrow (fun H locs ls hH hS hl k => lv_iconst (v := (1:Int32)) hx hb dJ2_fastRemove_24 (by decide) (k ls hl)) ?_
      refine Jrow (fun H locs ls hH hS hl k => lv_iadd hx hb dJ2_fastRemove_25 (k ls hl)) ?_
      refine Jrow (fun H locs ls hH hS hl k => lv_aload_n hx hb dJ2_fastRemove_26 rfl (lv_at hl 2 rfl) (k ls hl)) ?_
      refine Jrow (fun H locs ls hH hS hl k => lv_iload_n hx hb dJ2_fastRemove_27 rfl (lv_at hl 3 rfl) (k ls hl)) ?_
      refine Jrow (fun H locs ls hH hS hl k => lv_iload_n hx hb dJ2_fastRemove_28 rfl (lv_at hl 0 rfl) (k ls hl)) ?_
      refine Jrow (fun H locs ls hH hS hl k => lv_iload_n hx hb dJ2_fastRemove_29 rfl (lv_at hl 3 rfl) (k ls hl)) ?_
      refine Jrow (fun H locs ls hH hS hl k => lv_isub hx hb dJ2_fastRemove_30 (k ls hl)) ?_
      refine Jgd (fun hk0 => ?_)
      refine Jgd (fun hk1 => ?_)
      refine Jgd (fun hcp => ?_)
      refine Jgd (fun hel => ?_)
      refine Jst (σ1 := cpR σ1 p1 p1 (p2 + (1:Int32)).toNatClampNeg p2.toNatClampNeg (x2 - p2).toNatClampNeg) rfl rfl (fun H locs ls hH hS hl k => c_copyR hx hb (hml.trans hl.1.symm) hown (hts _ q1279) (hts _ q589) (hts _ q588) (hts _ q106) hK hH hS hcp hk.2.2.1 hel hk0 hk1 (Nat.le_of_ble_eq_true rfl) (Nat.le_of_ble_eq_true rfl) dJ2_fastRemove_31 k) (fun σ7 => ?_)
      exact Jsub [1, 2, 0] rfl (hk4 σ7)

def fJ2_remove (a0 : Nat) (p1 : Int32) (σ : CS) : Option (Nat × CS) :=
 gd (hf (cK σ a0) 105) (
 cl (fJ12_checkIndex p1 (cFI σ a0 105)) (fun (x1 : Int32) =>
 gd (hf (cK σ a0) 104) (
 cl (cFR σ a0 104) (fun (x2 : Nat) =>
 gd (kd σ x2 106) (
 gd (ib p1 (cLN σ x2)) (
 cl (cAR σ x2 p1.toNatClampNeg) (fun (x3 : Nat) =>
 gd (kd σ a0 20) (
 cl2 (fJ2_fastRemove a0 x2 p1 σ) (fun (_ : Unit) (σ4 : CS) =>
 some (x3, σ4))))))))))
theorem nJ2_remove {a0 : Nat} {p1 : Int32} {σ : CS} : Mn σ (fJ2_remove a0 p1 σ) := by
  unfold fJ2_remove
  refine Mgd ?_
  refine Mcl (fun x1 => ?_)
  refine Mgd ?_
  refine Mcl (fun x2 => ?_)
  refine Mgd ?_
  refine Mgd ?_
  refine Mcl (fun x3 => ?_)
  refine Mgd ?_
  refine Mcl2 (nJ2_fastRemove) (fun _ σ4 => ?_)
  exact Mret
set_option maxHeartbeats 4000000 in
set_option maxRecDepth 100000 in
theorem mJ2_remove (l : Launch) (E : CE) {a0 : Nat} {p1 : Int32} {σ : CS} {r : Nat} {σz : CS} (hX : fJ2_remove a0 p1 σ = some (r, σz)) : MetC l yJ2_remove (ws_ yJ2_remove cJ2_remove 4 (some (.object "java/lang/Object"))) 2 83 E σ [.ref a0, .int p1] (some (.ref r)) σz := by
  refine MetC.of hX (by decide) (Nat.le_of_ble_eq_true rfl) (nJ2_remove _ hX) ?_
  intro p e s m below meth c hx hb hr hml hts hown hlocks hnm hk hz0
  have hK := hk.1
  show J p l e (headSpec (ws_ yJ2_remove cJ2_remove 4 (some (.object "java/lang/Object"))) (rmC 2 83 σ σz)).room s m ([.ref a0, .int p1] : List Value).toArray below meth c 4 E (cZ σ) (cS σ) (MQ below (cQ E (some (.ref r)) σz) ([.ref a0, .int p1] : List Value).toArray s (cZ σz - cZ σ) (cS σz - cS σ) (EA E)) (r, σz) (fJ2_remove a0 p1 σ) σ 0 [(0, .ref a0), (1, .int p1)] []
  unfold fJ2_remove
  refine Jrow (fun H locs ls hH hS hl k => lv_iload_n hx hb dJ2_remove_0 rfl (lv_at hl 1 rfl) (k ls hl)) ?_
  refine Jrow (fun H locs ls hH hS hl k => lv_aload_n hx hb dJ2_remove_1 rfl (lv_at hl 0 rfl) (k ls hl)) ?_
  refine Jgd (fun hg => ?_)
  refine Jrow (fun H locs ls hH hS hl k => c_get (F := 105) (v := .int (cFI σ a0 105)) hx hb hts hown hK hH hg (hts _ q144) (fun _ h => h) rfl dJ2_remove_2 (k ls hl)) ?_
  refine Jcl (fun x1 hf => ?_)
  refine JcallS (v := .int x1) (rest := []) hz0 ⟨rfl, rfl⟩ sQi_o (fun H locs ls hl hR => va_runS (As := [.int p1, .int (cFI σ a0 105)]) ⟨hx, hb, hml, hown, hts⟩ (mJ12_checkIndex l hf) (va_cwS 2 hts (lw_S q609 q610 q111 q611) rfl rfl rfl (by decide +kernel) ⟨Nat.le_of_ble_eq_true rfl, Nat.le_of_ble_eq_true rfl⟩) s_pre rfl rfl hl.1 rfl (lv_room (Nat.le_of_ble_eq_true rfl)) dJ2_remove_5 hR) ?_
  clear hf
  refine Jrow (fun H locs ls hH hS hl k => lv_pop hx hb dJ2_remove_8 rfl (k ls hl)) ?_
  refine Jrow (fun H locs ls hH hS hl k => lv_aload_n hx hb dJ2_remove_9 rfl (lv_at hl 0 rfl) (k ls hl)) ?_
  refine Jgd (fun hg => ?_)
  refine Jcl (fun x2 hq => ?_)
  refine Jrow (fun H locs ls hH hS hl k => c_get (F := 104) (v := .ref x2) hx hb hts hown hK hH hg (hts _ q143) (fun _ h => h) (fvR rfl hq) dJ2_remove_10 (k ls hl)) ?_
  clear hq
  refine Jrow (fun H locs ls hH hS hl k => lv_astore_n (lv' := [(2, .ref x2), (0, .ref a0), (1, .int p1)]) hx hb dJ2_remove_13 rfl hl (by decide) rfl k) ?_
  refine Jrow (fun H locs ls hH hS hl k => lv_aload_n hx hb dJ2_remove_14 rfl (lv_at hl 0 rfl) (k ls hl)) ?_
  refine Jrow (fun H locs ls hH hS hl k => lv_iload_n hx hb dJ2_remove_15 rfl (lv_at hl 2 rfl) (k ls hl)) ?_
  refine Jgd (fun hk1 => ?_)
  refine Jgd (fun hg => ?_)
  refine Jcl (fun x3 hq => ?_)
  refine Jrow (fun H locs ls hH hS hl k => c_aald (t := 5) (q := some x3) hx hb hK hH (by decide) (by decide) hk1 hg hq dJ2_remove_16 (k ls hl)) ?_
  clear hq
  refine Jrow (fun H locs ls hH hS hl k => lv_astore_n (lv' := [(3, .ref x3), (2, .ref x2), (0, .ref a0), (1, .int p1)]) hx hb dJ2_remove_17 rfl hl (by decide) rfl k) ?_
  refine Jrow (fun H locs ls hH hS hl k => lv_aload_n hx hb dJ2_remove_18 rfl (lv_at hl 2 rfl) (k ls hl)) ?_
  refine Jrow (fun H locs ls hH hS hl k => lv_aload_n hx hb dJ2_remove_19 rfl (lv_at hl 1 rfl) (k ls hl)) ?_
  refine Jrow (fun H locs ls hH hS hl k => lv_iload_n hx hb dJ2_remove_20 rfl (lv_at hl 3 rfl) (k ls hl)) ?_
  refine Jgd (fun hg => ?_)
  refine Jcl2 (fun _ σ4 hf => ?_)
  refine Jcall (v := none) (rest := []) (mJ2_fastRemove l E hf).1 ⟨rfl, rfl⟩ (fun H locs ls hH hS hl hR => ⟨_, va_runV (C := RJ2) (As := [.ref x2, .int p1]) ⟨hx, hb, hml, hown, hts⟩ (mJ2_fastRemove l E hf).2 (cwV 2 hts (lw_V q1275 q1277 qs40 q91 q1278) rfl rfl rfl (by decide +kernel) ⟨Nat.le_of_ble_eq_true rfl, Nat.le_of_ble_eq_true rfl⟩) (c_preV (ci := 19) hk hH hS hg rfl) rfl rfl hl.1 rfl (lv_room (Nat.le_of_ble_eq_true rfl)) dJ2_remove_21 hR⟩) ?_
  clear hf
  refine Jrow (fun H locs ls hH hS hl k => lv_aload_n hx hb dJ2_remove_24 rfl (lv_at hl 0 rfl) (k ls hl)) ?_
  exact Jaret hx hb hr (Or.inl ⟨_, rfl⟩) hlocks dJ2_remove_25
