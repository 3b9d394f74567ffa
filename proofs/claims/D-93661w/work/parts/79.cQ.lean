/-! printed by gen/comp.py -/
def fX1_have (a0 : Nat) (p1 : Nat) (σ : CS) : Option ((Unit ⊕ Nat) × CS) :=
 gd (hf (cK σ a0) 44) (
 cl (cFR σ a0 44) (fun (x1 : Nat) =>
 gd (kd σ a0 3) (
 clx (fX1_word a0 x1 σ) (fun (_ : Unit) (σ2 : CS) =>
 gd (kd σ2 a0 3) (
 cl2 (fX1_next a0 σ2) (fun (x5 : Int32) (σ4 : CS) =>
 jn (fun (σ6 : CS) => bd (nO σ6 7 7) (fun (σ8 : CS) =>
 gd (hf (cK σ8 a0) 46) (
 cl2 (fX6_init (cZ σ6) (cFI σ8 a0 46) σ8) (fun (_ : Unit) (σ9 : CS) =>
 some (.inr (cZ σ6), σ9))))) (fun (k7 : CS → Option ((Unit ⊕ Nat) × CS)) =>
 if x5 < (48:Int32) then
 k7 σ4
 else
 gd (kd σ4 a0 3) (
 cl2 (fX1_next a0 σ4) (fun (x12 : Int32) (σ11 : CS) =>
 if x12 ≤ (51:Int32) then
 gd (hf (cK σ11 a0) 48) (
 cl (cFR σ11 a0 48) (fun (x13 : Nat) =>
 gd (hf (cK σ11 x13) 24) (
 cl (cFR σ11 x13 24) (fun (x14 : Nat) =>
 gd (hf (cK σ11 a0) 46) (
 gd (hf (cK σ11 a0) 46) (
 bd (uFI σ11 a0 46 ((cFI σ11 a0 46) + (1:Int32))) (fun (σ15 : CS) =>
 gd (kd σ15 x14 104) (
 gd (ib (cFI σ11 a0 46) (cLN σ15 x14)) (
 bd ((cAI σ15 x14 (cFI σ11 a0 46).toNatClampNeg) - (48:Int32)) (fun (x16 : Int32) =>
 gd (kd σ15 a0 3) (
 clx (fX1_sign a0 (32:Int32) σ15) (fun (_ : Unit) (σ17 : CS) =>
 gd (hf (cK σ17 p1) 62) (
 cl (cFR σ17 p1 62) (fun (x19 : Nat) =>
 gd (kd σ17 a0 3) (
 clx (fX1_number a0 σ17) (fun (x21 : Int32) (σ20 : CS) =>
 gd (kd σ20 x19 101) (
 gd (ib x16 (cLN σ20 x19)) (
 bd (uAI σ20 x19 x16.toNatClampNeg x21) (fun (σ22 : CS) =>
 some (.inl (), σ22))))))))))))))))))))
 else
 k7 σ11)))))))))
theorem nX1_have {a0 : Nat} {p1 : Nat} {σ : CS} : Mn σ (fX1_have a0 p1 σ) := by
  unfold fX1_have
  refine Mgd ?_
  refine Mcl (fun x1 => ?_)
  refine Mgd ?_
  refine Mclx (nX1_word) (fun _ σ2 => ?_)
  refine Mgd ?_
  refine Mcl2 (nX1_next) (fun x5 σ4 => ?_)
  refine Mjn1 (fun (σ6 : CS) (X23 : Option ((Unit ⊕ Nat) × CS)) => Mn σ6 X23) (fun σ6 => ?_) (fun k7 hk7 => ?_)
  · refine Mst (Nat.le_succ _) (Nat.le_add_right _ _) (fun σ8 => ?_)
    refine Mgd ?_
    refine Mcl2 (nX6_init) (fun _ σ9 => ?_)
    exact Mret
  · refine Mite ?_ ?_
    · exact hk7 σ4
    · refine Mgd ?_
      refine Mcl2 (nX1_next) (fun x12 σ11 => ?_)
      refine Mite ?_ ?_
      · refine Mgd ?_
        refine Mcl (fun x13 => ?_)
        refine Mgd ?_
        refine Mcl (fun x14 => ?_)
        refine Mgd ?_
        refine Mgd ?_
        refine Mst (Nat.le_refl _) (Nat.le_refl _) (fun σ15 => ?_)
        refine Mgd ?_
        refine Mgd ?_
        refine Mbd (fun x16 => ?_)
        refine Mgd ?_
        refine Mclx (nX1_sign) (fun _ σ17 => ?_)
        refine Mgd ?_
        refine Mcl (fun x19 => ?_)
        refine Mgd ?_
        refine Mclx (nX1_number) (fun x21 σ20 => ?_)
        refine Mgd ?_
        refine Mgd ?_
        refine Mst (Nat.le_refl _) (Nat.le_refl _) (fun σ22 => ?_)
        exact Mret
      · exact hk7 σ11
set_option maxHeartbeats 4000000 in
set_option maxRecDepth 100000 in
theorem mX1_have (l : Launch) (E : CE) {a0 : Nat} {p1 : Nat} {σ : CS} {res : Unit ⊕ Nat} {σz : CS} (hX : fX1_have a0 p1 σ = some (res, σz)) : MetX l yX1_have (ws_ yX1_have cX1_have 3 none) 6 127 E σ [.ref a0, .ref p1] (xoV res) σz := by
  refine MetX.of hX (by decide) (Nat.le_of_ble_eq_true rfl) (nX1_have _ hX) ?_
  intro p e s m below meth c hx hb hr hml hts hown hlocks hout hk hz0
  have hK := hk.1
  show J p l e (headSpec (ws_ yX1_have cX1_have 3 none) (rmC 6 127 σ σz)).room s m ([.ref a0, .ref p1] : List Value).toArray below meth c 3 E (cZ σ) (cS σ) (MQX below E (xoV res) σz s (cZ σz - cZ σ) (cS σz - cS σ)) (res, σz) (fX1_have a0 p1 σ) σ 0 [(0, .ref a0), (1, .ref p1)] []
  unfold fX1_have
  refine Jrow (fun H locs ls hH hS hl k => lv_aload_n hx hb dX1_have_0 rfl (lv_at hl 0 rfl) (k ls hl)) ?_
  refine Jrow (fun H locs ls hH hS hl k => lv_aload_n hx hb dX1_have_1 rfl (lv_at hl 0 rfl) (k ls hl)) ?_
  refine Jgd (fun hg => ?_)
  refine Jcl (fun x1 hq => ?_)
  refine Jrow (fun H locs ls hH hS hl k => c_get (F := 44) (v := .ref x1) hx hb hts hown hK hH hg (hts _ q165) (fun _ h => h) (fvR rfl hq) dX1_have_2 (k ls hl)) ?_
  clear hq
  refine Jgd (fun hg => ?_)
  refine Jclx (fun x3 σ2 hf => JXleave (rest := []) (fun _ => rfl) (mX1_word l E hf).1 ⟨rfl, rfl⟩ hout hlocks (fun H locs ls hH hS hl hR => throwV (C := RX1) (As := [.ref x1]) ⟨hx, hb, hml, hown, hts⟩ (mX1_word l E hf) (cwV 1 hts (lw_V q392 q394 qs4 q92 q395) rfl rfl rfl (by decide +kernel) ⟨Nat.le_of_ble_eq_true rfl, Nat.le_of_ble_eq_true rfl⟩) (c_preV (ci := 2) hk hH hS hg rfl) hS rfl rfl hl.1 rfl (lv_room (Nat.le_of_ble_eq_true rfl)) dX1_have_5 hR)) (fun _ σ2 hf => ?_)
  refine Jcall (v := none) (rest := []) (mX1_word l E hf).1 ⟨rfl, rfl⟩ (fun H locs ls hH hS hl hR => ⟨_, va_runV (C := RX1) (As := [.ref x1]) ⟨hx, hb, hml, hown, hts⟩ (mX1_word l E hf).ret.2 (cwV 1 hts (lw_V q392 q394 qs4 q92 q395) rfl rfl rfl (by decide +kernel) ⟨Nat.le_of_ble_eq_true rfl, Nat.le_of_ble_eq_true rfl⟩) (c_preV (ci := 2) hk hH hS hg rfl) rfl rfl hl.1 rfl (lv_room (Nat.le_of_ble_eq_true rfl)) dX1_have_5 hR⟩) ?_
  clear hf
  refine Jrow (fun H locs ls hH hS hl k => lv_aload_n hx hb dX1_have_8 rfl (lv_at hl 0 rfl) (k ls hl)) ?_
  refine Jgd (fun hg => ?_)
  refine Jcl2 (fun x5 σ4 hf => ?_)
  refine Jcall (v := (some (.int x5))) (rest := []) (mX1_next l E hf).1 ⟨rfl, rfl⟩ (fun H locs ls hH hS hl hR => ⟨_, va_runV (C := RX1) (As := []) ⟨hx, hb, hml, hown, hts⟩ (mX1_next l E hf).2 (cwV 0 hts (lw_V q380 q382 qs1 q92 q383) rfl rfl rfl (by decide +kernel) ⟨Nat.le_of_ble_eq_true rfl, Nat.le_of_ble_eq_true rfl⟩) (c_preV (ci := 2) hk hH hS hg rfl) rfl rfl hl.1 rfl (lv_room (Nat.le_of_ble_eq_true rfl)) dX1_have_9 hR⟩) ?_
  clear hf
  refine Jrow (fun H locs ls hH hS hl k => lv_bipush (v := (48:Int32)) hx hb dX1_have_12 (by decide) (k ls hl)) ?_
  refine Jjn1 (fun (σ6 : CS) X23 => J p l e (headSpec (ws_ yX1_have cX1_have 3 none) (rmC 6 127 σ σz)).room s m ([.ref a0, .ref p1] : List Value).toArray below meth c 3 E (cZ σ) (cS σ) (MQX below E (xoV res) σz s (cZ σz - cZ σ) (cS σz - cS σ)) (res, σz) X23 σ6 26 [(0, .ref a0)] []) (fun σ6 => ?_) (fun k7 hk7 => ?_)
  · refine Jnew (σ1 := nO σ6 7 7) (n := 7) rfl rfl ⟨rfl, rfl⟩ (fun H locs ls hH hS hl h1 h2 k => c_new (ci := 6) hx hb hts hown hK hH hS hk.2.1 in_X6 tyX6 tyX6_ok (by decide +kernel) (hts _ q400) (hts _ q401) (hts _ q99) rfl h1 h2 dX1_have_26 k) (fun σ8 eσ8 => ?_)
    clear eσ8
    refine Jrow (fun H locs ls hH hS hl k => lv_dup hx hb dX1_have_29 rfl (k ls hl)) ?_
    refine Jrow (fun H locs ls hH hS hl k => lv_aload_n hx hb dX1_have_30 rfl (lv_at hl 0 rfl) (k ls hl)) ?_
    refine Jgd (fun hg => ?_)
    refine Jrow (fun H locs ls hH hS hl k => c_get (F := 46) (v := .int (cFI σ8 a0 46)) hx hb hts hown hK hH hg (hts _ q167) (fun _ h => h) rfl dX1_have_31 (k ls hl)) ?_
    refine Jcl2 (fun _ σ9 hf => ?_)
    refine Jcall (v := none) (rest := [.ref (cZ σ6)]) (mX6_init l E hf).1 ⟨rfl, rfl⟩ (fun H locs ls hH hS hl hR => ⟨_, va_runI (As := [.int (cFI σ8 a0 46)]) ⟨hx, hb, hml, hown, hts⟩ (mX6_init l E hf).2 (cwI 1 hts (lw_meth q439) rfl rfl rfl (hts _ q99) (hts _ q437) (hts _ q438) rfl (by decide +kernel) ⟨Nat.le_of_ble_eq_true rfl, Nat.le_of_ble_eq_true rfl⟩) (c_preS hk hH hS) rfl rfl hl.1 rfl (lv_room (Nat.le_of_ble_eq_true rfl)) dX1_have_34 hR⟩) ?_
    clear hf
    exact JXthrow (fun _ => rfl) hx hb hout hlocks dX1_have_37
  · refine Jite (fun hc => ?_) (fun hc => ?_)
    · refine Jrow (fun H locs ls hH hS hl k => lv_icmp_lt (tgt := 26) hx hb dX1_have_14 (by decide) (fun _ => (k ls hl)) (fun h => absurd hc h)) ?_
      clear hc
      exact Jsub [0] rfl (hk7 σ4)
    · refine Jrow (fun H locs ls hH hS hl k => lv_icmp_lt (tgt := 26) hx hb dX1_have_14 (by decide) (fun h => absurd h hc) (fun _ => (k ls hl))) ?_
      clear hc
      refine Jrow (fun H locs ls hH hS hl k => lv_aload_n hx hb dX1_have_17 rfl (lv_at hl 0 rfl) (k ls hl)) ?_
      refine Jgd (fun hg => ?_)
      refine Jcl2 (fun x12 σ11 hf => ?_)
      refine Jcall (v := (some (.int x12))) (rest := []) (mX1_next l E hf).1 ⟨rfl, rfl⟩ (fun H locs ls hH hS hl hR => ⟨_, va_runV (C := RX1) (As := []) ⟨hx, hb, hml, hown, hts⟩ (mX1_next l E hf).2 (cwV 0 hts (lw_V q380 q382 qs1 q92 q383) rfl rfl rfl (by decide +kernel) ⟨Nat.le_of_ble_eq_true rfl, Nat.le_of_ble_eq_true rfl⟩) (c_preV (ci := 2) hk hH hS hg rfl) rfl rfl hl.1 rfl (lv_room (Nat.le_of_ble_eq_true rfl)) dX1_have_18 hR⟩) ?_
      clear hf
      refine Jrow (fun H locs ls hH hS hl k => lv_bipush (v := (51:Int32)) hx hb dX1_have_21 (by decide) (k ls hl)) ?_
      refine Jite (fun hc => ?_) (fun hc => ?_)
      · refine Jrow (fun H locs ls hH hS hl k => lv_icmp_le (tgt := 38) hx hb dX1_have_23 (by decide) (fun _ => (k ls hl)) (fun h => absurd hc h)) ?_
        clear hc
        refine Jrow (fun H locs ls hH hS hl k => lv_aload_n hx hb dX1_have_38 rfl (lv_at hl 0 rfl) (k ls hl)) ?_
        refine Jgd (fun hg => ?_)
        refine Jcl (fun x13 hq => ?_)
        refine Jrow (fun H locs ls hH hS hl k => c_get (F := 48) (v := .ref x13) hx hb hts hown hK hH hg (hts _ q169) (fun _ h => h) (fvR rfl hq) dX1_have_39 (k ls hl)) ?_
        clear hq
        refine Jgd (fun hg => ?_)
        refine Jcl (fun x14 hq => ?_)
        refine Jrow (fun H locs ls hH hS hl k => c_getN (F := 24) (v := .ref x14) hx hb hts hown hK hH hg (cN hk.2.2.1 26 rfl) (fun _ h => h) (fvR rfl hq) dX1_have_42 (k ls hl)) ?_
        clear hq
        refine Jrow (fun H locs ls hH hS hl k => lv_aload_n hx hb dX1_have_45 rfl (lv_at hl 0 rfl) (k ls hl)) ?_
        refine Jrow (fun H locs ls hH hS hl k => lv_dup hx hb dX1_have_46 rfl (k ls hl)) ?_
        refine Jgd (fun hg => ?_)
        refine Jrow (fun H locs ls hH hS hl k => c_get (F := 46) (v := .int (cFI σ11 a0 46)) hx hb hts hown hK hH hg (hts _ q167) (fun _ h => h) rfl dX1_have_47 (k ls hl)) ?_
        refine Jrow (fun H locs ls hH hS hl k => lv_dup_x1 hx hb dX1_have_50 rfl rfl (k ls hl)) ?_
        refine Jrow (fun H locs ls hH hS hl k => lv_iconst (v := (1:Int32)) hx hb dX1_have_51 (by decide) (k ls hl)) ?_
        refine Jrow (fun H locs ls hH hS hl k => lv_iadd hx hb dX1_have_52 (k ls hl)) ?_
        refine Jgd (fun hg => ?_)
        refine Jst (σ1 := uFI σ11 a0 46 ((cFI σ11 a0 46) + (1:Int32))) rfl rfl (fun H locs ls hH hS hl k => c_putI (F := 46) (ty := .int) (x := ((cFI σ11 a0 46) + (1:Int32))) hx hb hts hown hK hH hS hg (hts _ q167) (fun _ h => h) rfl rfl (by decide +kernel) rfl rfl rfl dX1_have_53 k) (fun σ15 => ?_)
        refine Jgd (fun hk1 => ?_)
        refine Jgd (fun hg => ?_)
        refine Jrow (fun H locs ls hH hS hl k => c_bald hx hb hK hH hk1 hg dX1_have_56 (k ls hl)) ?_
        refine Jrow (fun H locs ls hH hS hl k => lv_bipush (v := (48:Int32)) hx hb dX1_have_57 (by decide) (k ls hl)) ?_
        refine Jrow (fun H locs ls hH hS hl k => lv_isub hx hb dX1_have_59 (k ls hl)) ?_
        refine JbdI (fun x16 => ?_)
        refine Jrow (fun H locs ls hH hS hl k => lv_istore_n (lv' := [(2, .int x16), (0, .ref a0), (1, .ref p1)]) hx hb dX1_have_60 rfl hl (by decide) rfl k) ?_
        refine Jrow (fun H locs ls hH hS hl k => lv_aload_n hx hb dX1_have_61 rfl (lv_at hl 1 rfl) (k ls hl)) ?_
        refine Jrow (fun H locs ls hH hS hl k => lv_bipush (v := (32:Int32)) hx hb dX1_have_62 (by decide) (k ls hl)) ?_
        refine Jgd (fun hg => ?_)
        refine Jclx (fun x18 σ17 hf => JXleave (rest := []) (fun _ => rfl) (mX1_sign l E hf).1 ⟨rfl, rfl⟩ hout hlocks (fun H locs ls hH hS hl hR => throwV (C := RX1) (As := [.int (32:Int32)]) ⟨hx, hb, hml, hown, hts⟩ (mX1_sign l E hf) (cwV 1 hts (lw_V q396 q398 qs5 q92 q399) rfl rfl rfl (by decide +kernel) ⟨Nat.le_of_ble_eq_true rfl, Nat.le_of_ble_eq_true rfl⟩) (c_preV (ci := 2) hk hH hS hg rfl) hS rfl rfl hl.1 rfl (lv_room (Nat.le_of_ble_eq_true rfl)) dX1_have_64 hR)) (fun _ σ17 hf => ?_)
        refine Jcall (v := none) (rest := []) (mX1_sign l E hf).1 ⟨rfl, rfl⟩ (fun H locs ls hH hS hl hR => ⟨_, va_runV (C := RX1) (As := [.int (32:Int32)]) ⟨hx, hb, hml, hown, hts⟩ (mX1_sign l E hf).ret.2 (cwV 1 hts (lw_V q396 q398 qs5 q92 q399) rfl rfl rfl (by decide +kernel) ⟨Nat.le_of_ble_eq_true rfl, Nat.le_of_ble_eq_true rfl⟩) (c_preV (ci := 2) hk hH hS hg rfl) rfl rfl hl.1 rfl (lv_room (Nat.le_of_ble_eq_true rfl)) dX1_have_64 hR⟩) ?_
        clear hf
        refine Jrow (fun H locs ls hH hS hl k => lv_aload_n hx hb dX1_have_67 rfl (lv_at hl 2 rfl) (k ls hl)) ?_
        refine Jgd (fun hg => ?_)
        refine Jcl (fun x19 hq => ?_)
        refine Jrow (fun H locs ls hH hS hl k => c_getN (F := 62) (v := .ref x19) hx hb hts hown hK hH hg (cN hk.2.2.1 30 rfl) (fun _ h => h) (fvR rfl hq) dX1_have_68 (k ls hl)) ?_
        clear hq
        refine Jrow (fun H locs ls hH hS hl k => lv_iload_n hx hb dX1_have_71 rfl (lv_at hl 0 rfl) (k ls hl)) ?_
        refine Jrow (fun H locs ls hH hS hl k => lv_aload_n hx hb dX1_have_72 rfl (lv_at hl 1 rfl) (k ls hl)) ?_
        refine Jgd (fun hg => ?_)
        refine Jclx (fun x21 σ20 hf => JXleave (rest := [.int x16, .ref x19]) (fun _ => rfl) (mX1_number l E hf).1 ⟨rfl, rfl⟩ hout hlocks (fun H locs ls hH hS hl hR => throwV (C := RX1) (As := []) ⟨hx, hb, hml, hown, hts⟩ (mX1_number l E hf) (cwV 0 hts (lw_V q463 q465 qs7 q92 q466) rfl rfl rfl (by decide +kernel) ⟨Nat.le_of_ble_eq_true rfl, Nat.le_of_ble_eq_true rfl⟩) (c_preV (ci := 2) hk hH hS hg rfl) hS rfl rfl hl.1 rfl (lv_room (Nat.le_of_ble_eq_true rfl)) dX1_have_73 hR)) (fun x21 σ20 hf => ?_)
        refine Jcall (v := (some (.int x21))) (rest := [.int x16, .ref x19]) (mX1_number l E hf).1 ⟨rfl, rfl⟩ (fun H locs ls hH hS hl hR => ⟨_, va_runV (C := RX1) (As := []) ⟨hx, hb, hml, hown, hts⟩ (mX1_number l E hf).ret.2 (cwV 0 hts (lw_V q463 q465 qs7 q92 q466) rfl rfl rfl (by decide +kernel) ⟨Nat.le_of_ble_eq_true rfl, Nat.le_of_ble_eq_true rfl⟩) (c_preV (ci := 2) hk hH hS hg rfl) rfl rfl hl.1 rfl (lv_room (Nat.le_of_ble_eq_true rfl)) dX1_have_73 hR⟩) ?_
        clear hf
        refine Jgd (fun hk1 => ?_)
        refine Jgd (fun hg => ?_)
        refine Jst (σ1 := uAI σ20 x19 x16.toNatClampNeg x21) rfl rfl (fun H locs ls hH hS hl k => c_iast hx hb hK hH hS hk1 hg dX1_have_76 k) (fun σ22 => ?_)
        exact JXvret hx hb hr hlocks dX1_have_77
      · refine Jrow (fun H locs ls hH hS hl k => lv_icmp_le (tgt := 38) hx hb dX1_have_23 (by decide) (fun h => absurd h hc) (fun _ => (k ls hl))) ?_
        clear hc
        exact Jsub [0] rfl (hk7 σ11)

def fX1_hold (T : Nat × Nat) (a0 : Nat) (p1 : Nat) (σ : CS) : Option ((Unit ⊕ Nat) × CS) :=
 gd (hf (cK σ a0) 45) (
 cl (cFR σ a0 45) (fun (x1 : Nat) =>
 gd (kd σ a0 3) (
 clx (fX1_word a0 x1 σ) (fun (_ : Unit) (σ2 : CS) =>
 gd (hf (cK σ2 p1) 64) (
 cl (cFR σ2 p1 64) (fun (x4 : Nat) =>
 gd (hf (cK σ2 p1) 65) (
 cl (cFR σ2 p1 65) (fun (x5 : Nat) =>
 gd (kd σ2 x5 20) (
 cl2 (fJ2_size x5 σ2) (fun (x7 : Int32) (σ6 : CS) =>
 gd (kd σ6 a0 3) (
 clx (fX1_number a0 σ6) (fun (x9 : Int32) (σ8 : CS) =>
 gd (kd σ8 x4 101) (
 gd (ib x7 (cLN σ8 x4)) (
 bd (uAI σ8 x4 x7.toNatClampNeg x9) (fun (σ10 : CS) =>
 gd (kd σ10 a0 3) (
 clx (fX1_sign a0 (32:Int32) σ10) (fun (_ : Unit) (σ11 : CS) =>
 gd (hf (cK σ11 a0) 47) (
 bd (uFI σ11 a0 47 (0:Int32)) (fun (σ13 : CS) =>
 gd (hf (cK σ13 p1) 65) (
 cl (cFR σ13 p1 65) (fun (x14 : Nat) =>
 gd (kd σ13 a0 3) (
 clx (fG_some a0 σ13) (fun (x16 : Nat) (σ15 : CS) =>
 gd (kd σ15 x14 20) (
 cl2 (fJ2_add T x14 x16 σ15) (fun (x18 : Int32) (σ17 : CS) =>
 some (.inl (), σ17))))))))))))))))))))))))))
theorem nX1_hold {T : Nat × Nat} {a0 : Nat} {p1 : Nat} {σ : CS} : Mn σ (fX1_hold T a0 p1 σ) := by
  unfold fX1_hold
  refine Mgd ?_
  refine Mcl (fun x1 => ?_)
  refine Mgd ?_
  refine Mclx (nX1_word) (fun _ σ2 => ?_)
  refine Mgd ?_
  refine Mcl (fun x4 => ?_)
  refine Mgd ?_
  refine Mcl (fun x5 => ?_)
  refine Mgd ?_
  refine Mcl2 (nJ2_size) (fun x7 σ6 => ?_)
  refine Mgd ?_
  refine Mclx (nX1_number) (fun x9 σ8 => ?_)
  refine Mgd ?_
  refine Mgd ?_
  refine Mst (Nat.le_refl _) (Nat.le_refl _) (fun σ10 => ?_)
  refine Mgd ?_
  refine Mclx (nX1_sign) (fun _ σ11 => ?_)
  refine Mgd ?_
  refine Mst (Nat.le_refl _) (Nat.le_refl _) (fun σ13 => ?_)
  refine Mgd ?_
  refine Mcl (fun x14 => ?_)
  refine Mgd ?_
  refine Mclx (nG_some) (fun x16 σ15 => ?_)
  refine Mgd ?_
  refine Mcl2 (nJ2_add) (fun x18 σ17 => ?_)
  exact Mret
set_option maxHeartbeats 4000000 in
set_option maxRecDepth 100000 in
theorem mX1_hold (l : Launch) (E : CE) {a0 : Nat} {p1 : Nat} {σ : CS} {res : Unit ⊕ Nat} {σz : CS} (hX : fX1_hold E.2.2.2 a0 p1 σ = some (res, σz)) : MetX l yX1_hold (ws_ yX1_hold cX1_hold 2 none) 361 9021 E σ [.ref a0, .ref p1] (xoV res) σz := by
  refine MetX.of hX (by decide) (Nat.le_of_ble_eq_true rfl) (nX1_hold _ hX) ?_
  intro p e s m below meth c hx hb hr hml hts hown hlocks hout hk hz0
  have hK := hk.1
  show J p l e (headSpec (ws_ yX1_hold cX1_hold 2 none) (rmC 361 9021 σ σz)).room s m ([.ref a0, .ref p1] : List Value).toArray below meth c 2 E (cZ σ) (cS σ) (MQX below E (xoV res) σz s (cZ σz - cZ σ) (cS σz - cS σ)) (res, σz) (fX1_hold E.2.2.2 a0 p1 σ) σ 0 [(0, .ref a0), (1, .ref p1)] []
  unfold fX1_hold
  refine Jrow (fun H locs ls hH hS hl k => lv_aload_n hx hb dX1_hold_0 rfl (lv_at hl 0 rfl) (k ls hl)) ?_
  refine Jrow (fun H locs ls hH hS hl k => lv_aload_n hx hb dX1_hold_1 rfl (lv_at hl 0 rfl) (k ls hl)) ?_
  refine Jgd (fun hg => ?_)
  refine Jcl (fun x1 hq => ?_)
  refine Jrow (fun H locs ls hH hS hl k => c_get (F := 45) (v := .ref x1) hx hb hts hown hK hH hg (hts _ q166) (fun _ h => h) (fvR rfl hq) dX1_hold_2 (k ls hl)) ?_
  clear hq
  refine Jgd (fun hg => ?_)
  refine Jclx (fun x3 σ2 hf => JXleave (rest := []) (fun _ => rfl) (mX1_word l E hf).1 ⟨rfl, rfl⟩ hout hlocks (fun H locs ls hH hS hl hR => throwV (C := RX1) (As := [.ref x1]) ⟨hx, hb, hml, hown, hts⟩ (mX1_word l E hf) (cwV 1 hts (lw_V q392 q394 qs4 q92 q395) rfl rfl rfl (by decide +kernel) ⟨Nat.le_of_ble_eq_true rfl, Nat.le_of_ble_eq_true rfl⟩) (c_preV (ci := 2) hk hH hS hg rfl) hS rfl rfl hl.1 rfl (lv_room (Nat.le_of_ble_eq_true rfl)) dX1_hold_5 hR)) (fun _ σ2 hf => ?_)
  refine Jcall (v := none) (rest := []) (mX1_word l E hf).1 ⟨rfl, rfl⟩ (fun H locs ls hH hS hl hR => ⟨_, va_runV (C := RX1) (As := [.ref x1]) ⟨hx, hb, hml, hown, hts⟩ (mX1_word l E hf).ret.2 (cwV 1 hts (lw_V q392 q394 qs4 q92 q395) rfl rfl rfl (by decide +kernel) ⟨Nat.le_of_ble_eq_true rfl, Nat.le_of_ble_eq_true rfl⟩) (c_preV (ci := 2) hk hH hS hg rfl) rfl rfl hl.1 rfl (lv_room (Nat.le_of_ble_eq_true rfl)) dX1_hold_5 hR⟩) ?_
  clear hf
  refine Jrow (fun H locs ls hH hS hl k => lv_aload_n hx hb dX1_hold_8 rfl (lv_at hl 1 rfl) (k ls hl)) ?_
  refine Jgd (fun hg => ?_)
  refine Jcl (fun x4 hq => ?_)
  refine Jrow (fun H locs ls hH hS hl k => c_getN (F := 64) (v := .ref x4) hx hb hts hown hK hH hg (cN hk.2.2.1 32 rfl) (fun _ h => h) (fvR rfl hq) dX1_hold_9 (k ls hl)) ?_
  clear hq
  refine Jrow (fun H locs ls hH hS hl k => lv_aload_n hx hb dX1_hold_12 rfl (lv_at hl 1 rfl) (k ls hl)) ?_
  refine Jgd (fun hg => ?_)
  refine Jcl (fun x5 hq => ?_)
  refine Jrow (fun H locs ls hH hS hl k => c_getN (F := 65) (v := .ref x5) hx hb hts hown hK hH hg (cN hk.2.2.1 33 rfl) (fun _ h => h) (fvR rfl hq) dX1_hold_13 (k ls hl)) ?_
  clear hq
  refine Jgd (fun hg => ?_)
  refine Jcl2 (fun x7 σ6 hf => ?_)
  refine Jcall (v := (some (.int x7))) (rest := [.ref x4]) (mJ2_size l E hf).1 ⟨rfl, rfl⟩ (fun H locs ls hH hS hl hR => ⟨_, va_runV (C := RJ2) (As := []) ⟨hx, hb, hml, hown, hts⟩ (mJ2_size l E hf).2 (cwV 0 hts (lw_V q337 q328 q329 q91 q330) rfl rfl rfl (by decide +kernel) ⟨Nat.le_of_ble_eq_true rfl, Nat.le_of_ble_eq_true rfl⟩) (c_preV (ci := 19) hk hH hS hg rfl) rfl rfl hl.1 rfl (lv_room (Nat.le_of_ble_eq_true rfl)) dX1_hold_16 hR⟩) ?_
  clear hf
  refine Jrow (fun H locs ls hH hS hl k => lv_aload_n hx hb dX1_hold_19 rfl (lv_at hl 0 rfl) (k ls hl)) ?_
  refine Jgd (fun hg => ?_)
  refine Jclx (fun x9 σ8 hf => JXleave (rest := [.int x7, .ref x4]) (fun _ => rfl) (mX1_number l E hf).1 ⟨rfl, rfl⟩ hout hlocks (fun H locs ls hH hS hl hR => throwV (C := RX1) (As := []) ⟨hx, hb, hml, hown, hts⟩ (mX1_number l E hf) (cwV 0 hts (lw_V q463 q465 qs7 q92 q466) rfl rfl rfl (by decide +kernel) ⟨Nat.le_of_ble_eq_true rfl, Nat.le_of_ble_eq_true rfl⟩) (c_preV (ci := 2) hk hH hS hg rfl) hS rfl rfl hl.1 rfl (lv_room (Nat.le_of_ble_eq_true rfl)) dX1_hold_20 hR)) (fun x9 σ8 hf => ?_)
  refine Jcall (v := (some (.int x9))) (rest := [.int x7, .ref x4]) (mX1_number l E hf).1 ⟨rfl, rfl⟩ (fun H locs ls hH hS hl hR => ⟨_, va_runV (C := RX1) (As := []) ⟨hx, hb, hml, hown, hts⟩ (mX1_number l E hf).ret.2 (cwV 0 hts (lw_V q463 q465 qs7 q92 q466) rfl rfl rfl (by decide +kernel) ⟨Nat.le_of_ble_eq_true rfl, Nat.le_of_ble_eq_true rfl⟩) (c_preV (ci := 2) hk hH hS hg rfl) rfl rfl hl.1 rfl (lv_room (Nat.le_of_ble_eq_true rfl)) dX1_hold_20 hR⟩) ?_
  clear hf
  refine Jgd (fun hk1 => ?_)
  refine Jgd (fun hg => ?_)
  refine Jst (σ1 := uAI σ8 x4 x7.toNatClampNeg x9) rfl rfl (fun H locs ls hH hS hl k => c_iast hx hb hK hH hS hk1 hg dX1_hold_23 k) (fun σ10 => ?_)
  refine Jrow (fun H locs ls hH hS hl k => lv_aload_n hx hb dX1_hold_24 rfl (lv_at hl 0 rfl) (k ls hl)) ?_
  refine Jrow (fun H locs ls hH hS hl k => lv_bipush (v := (32:Int32)) hx hb dX1_hold_25 (by decide) (k ls hl)) ?_
  refine Jgd (fun hg => ?_)
  refine Jclx (fun x12 σ11 hf => JXleave (rest := []) (fun _ => rfl) (mX1_sign l E hf).1 ⟨rfl, rfl⟩ hout hlocks (fun H locs ls hH hS hl hR => throwV (C := RX1) (As := [.int (32:Int32)]) ⟨hx, hb, hml, hown, hts⟩ (mX1_sign l E hf) (cwV 1 hts (lw_V q396 q398 qs5 q92 q399) rfl rfl rfl (by decide +kernel) ⟨Nat.le_of_ble_eq_true rfl, Nat.le_of_ble_eq_true rfl⟩) (c_preV (ci := 2) hk hH hS hg rfl) hS rfl rfl hl.1 rfl (lv_room (Nat.le_of_ble_eq_true rfl)) dX1_hold_27 hR)) (fun _ σ11 hf => ?_)
  refine Jcall (v := none) (rest := []) (mX1_sign l E hf).1 ⟨rfl, rfl⟩ (fun H locs ls hH hS hl hR => ⟨_, va_runV (C := RX1) (As := [.int (32:Int32)]) ⟨hx, hb, hml, hown, hts⟩ (mX1_sign l E hf).ret.2 (cwV 1 hts (lw_V q396 q398 qs5 q92 q399) rfl rfl rfl (by decide +kernel) ⟨Nat.le_of_ble_eq_true rfl, Nat.le_of_ble_eq_true rfl⟩) (c_preV (ci := 2) hk hH hS hg rfl) rfl rfl hl.1 rfl (lv_room (Nat.le_of_ble_eq_true rfl)) dX1_hold_27 hR⟩) ?_
  clear hf
  refine Jrow (fun H locs ls hH hS hl k => lv_aload_n hx hb dX1_hold_30 rfl (lv_at hl 0 rfl) (k ls hl)) ?_
  refine Jrow (fun H locs ls hH hS hl k => lv_iconst (v := (0:Int32)) hx hb dX1_hold_31 (by decide) (k ls hl)) ?_
  refine Jgd (fun hg => ?_)
  refine Jst (σ1 := uFI σ11 a0 47 (0:Int32)) rfl rfl (fun H locs ls hH hS hl k => c_putI (F := 47) (ty := .int) (x := (0:Int32)) hx hb hts hown hK hH hS hg (hts _ q168) (fun _ h => h) rfl rfl (by decide +kernel) rfl rfl rfl dX1_hold_32 k) (fun σ13 => ?_)
  refine Jrow (fun H locs ls hH hS hl k => lv_aload_n hx hb dX1_hold_35 rfl (lv_at hl 1 rfl) (k ls hl)) ?_
  refine Jgd (fun hg => ?_)
  refine Jcl (fun x14 hq => ?_)
  refine Jrow (fun H locs ls hH hS hl k => c_getN (F := 65) (v := .ref x14) hx hb hts hown hK hH hg (cN hk.2.2.1 33 rfl) (fun _ h => h) (fvR rfl hq) dX1_hold_36 (k ls hl)) ?_
  clear hq
  refine Jrow (fun H locs ls hH hS hl k => lv_aload_n hx hb dX1_hold_39 rfl (lv_at hl 0 rfl) (k ls hl)) ?_
  refine Jgd (fun hg => ?_)
  refine Jclx (fun x16 σ15 hf => JXleave (rest := [.ref x14]) (fun _ => rfl) (mG_some l E hf).1 ⟨rfl, rfl⟩ hout hlocks (fun H locs ls hH hS hl hR => throwV (C := RX1) (As := []) ⟨hx, hb, hml, hown, hts⟩ (mG_some l E hf) (cwV 0 hts (lw_V q467 q469 qs8 q92 q470) rfl rfl rfl (by decide +kernel) ⟨Nat.le_of_ble_eq_true rfl, Nat.le_of_ble_eq_true rfl⟩) (c_preV (ci := 2) hk hH hS hg rfl) hS rfl rfl hl.1 rfl (lv_room (Nat.le_of_ble_eq_true rfl)) dX1_hold_40 hR)) (fun x16 σ15 hf => ?_)
  refine Jcall (v := (some (.ref x16))) (rest := [.ref x14]) (mG_some l E hf).1 ⟨rfl, rfl⟩ (fun H locs ls hH hS hl hR => ⟨_, va_runV (C := RX1) (As := []) ⟨hx, hb, hml, hown, hts⟩ (mG_some l E hf).ret.2 (cwV 0 hts (lw_V q467 q469 qs8 q92 q470) rfl rfl rfl (by decide +kernel) ⟨Nat.le_of_ble_eq_true rfl, Nat.le_of_ble_eq_true rfl⟩) (c_preV (ci := 2) hk hH hS hg rfl) rfl rfl hl.1 rfl (lv_room (Nat.le_of_ble_eq_true rfl)) dX1_hold_40 hR⟩) ?_
  clear hf
  refine Jgd (fun hg => ?_)
  refine Jcl2 (fun x18 σ17 hf => ?_)
  refine Jcall (v := (some (.int x18))) (rest := []) (mJ2_add l E hf).1 ⟨rfl, rfl⟩ (fun H locs ls hH hS hl hR => ⟨_, va_runV (C := RJ2) (As := [.ref x16]) ⟨hx, hb, hml, hown, hts⟩ (mJ2_add l E hf).2 (cwV 1 hts (lw_V q525 q526 q527 q91 q528) rfl rfl rfl (by decide +kernel) ⟨Nat.le_of_ble_eq_true rfl, Nat.le_of_ble_eq_true rfl⟩) (c_preV (ci := 19) hk hH hS hg rfl) rfl rfl hl.1 rfl (lv_room (Nat.le_of_ble_eq_true rfl)) dX1_hold_43 hR⟩) ?_
  clear hf
  refine Jrow (fun H locs ls hH hS hl k => lv_pop hx hb dX1_hold_46 rfl (k ls hl)) ?_
  exact JXvret hx hb hr hlocks dX1_hold_47

def fX1_clause (T : Nat × Nat) (a0 : Nat) (p1 : Nat) (σ : CS) : Option ((Unit ⊕ Nat) × CS) :=
 gd (hf (cK σ p1) 61) (
 gd (hf (cK σ p1) 61) (
 bd (uFI σ p1 61 ((cFI σ p1 61) + (1:Int32))) (fun (σ1 : CS) =>
 gd (kd σ1 a0 3) (
 cl2 (fX1_next a0 σ1) (fun (x3 : Int32) (σ2 : CS) =>
 jn (fun (σ4 : CS) => gd (kd σ4 a0 3) (
 cl2 (fX1_next a0 σ4) (fun (x7 : Int32) (σ6 : CS) =>
 jn (fun (σ8 : CS) => lp (fun _ _ => none) (fun (k12 : Int32 → CS → Option ((Unit ⊕ Nat) × CS)) (x10 : Int32) (σ11 : CS) =>
 jn (fun (σ13 : CS) => if (0:Int32) ≤ x10 then
 gd (hf (cK σ13 a0) 43) (
 cl (cFR σ13 a0 43) (fun (x15 : Nat) =>
 gd (kd σ13 x15 109) (
 gd (ib x10 (cLN σ13 x15)) (
 cl (cAR σ13 x15 x10.toNatClampNeg) (fun (x16 : Nat) =>
 gd (kd σ13 a0 3) (
 clx (fX1_word a0 x16 σ13) (fun (_ : Unit) (σ17 : CS) =>
 gd (hf (cK σ17 p1) 63) (
 cl (cFR σ17 p1 63) (fun (x19 : Nat) =>
 gd (kd σ17 a0 3) (
 clx (fX1_number a0 σ17) (fun (x21 : Int32) (σ20 : CS) =>
 gd (kd σ20 x19 101) (
 gd (ib x10 (cLN σ20 x19)) (
 bd (uAI σ20 x19 x10.toNatClampNeg x21) (fun (σ22 : CS) =>
 some (.inl (), σ22)))))))))))))))
 else
 bd (nO σ13 7 7) (fun (σ23 : CS) =>
 gd (hf (cK σ23 a0) 46) (
 cl2 (fX6_init (cZ σ13) (cFI σ23 a0 46) σ23) (fun (_ : Unit) (σ24 : CS) =>
 some (.inr (cZ σ13), σ24))))) (fun (k14 : CS → Option ((Unit ⊕ Nat) × CS)) =>
 if x10 < (0:Int32) then
 k14 σ11
 else
 gd (hf (cK σ11 a0) 43) (
 cl (cFR σ11 a0 43) (fun (x26 : Nat) =>
 gd (kd σ11 x26 109) (
 gd (ib x10 (cLN σ11 x26)) (
 cl (cAR σ11 x26 x10.toNatClampNeg) (fun (x27 : Nat) =>
 gd (kd σ11 x27 105) (
 gd (ib (0:Int32) (cLN σ11 x27)) (
 gd (kd σ11 a0 3) (
 cl2 (fX1_next a0 σ11) (fun (x29 : Int32) (σ28 : CS) =>
 if (cAI σ11 x27 (0:Int32).toNatClampNeg) = x29 then
 k14 σ28
 else
 bd (x10 + (-1:Int32)) (fun (x30 : Int32) =>
 k12 x30 σ28)))))))))))) NF (5:Int32) σ8) (fun (k9 : CS → Option ((Unit ⊕ Nat) × CS)) =>
 if x7 = (104:Int32) then
 gd (kd σ6 a0 3) (
 cl2 (fX1_ahead a0 (1:Int32) σ6) (fun (x34 : Int32) (σ33 : CS) =>
 jn (fun (σ35 : CS) => gd (kd σ35 a0 3) (
 clx (fX1_have a0 p1 σ35) (fun (_ : Unit) (σ37 : CS) =>
 some (.inl (), σ37)))) (fun (k36 : CS → Option ((Unit ⊕ Nat) × CS)) =>
 if x34 = (97:Int32) then
 gd (kd σ33 a0 3) (
 cl2 (fX1_ahead a0 (2:Int32) σ33) (fun (x40 : Int32) (σ39 : CS) =>
 if x40 = (114:Int32) then
 k9 σ39
 else
 k36 σ39))
 else
 k36 σ33)))
 else
 k9 σ6)))) (fun (k5 : CS → Option ((Unit ⊕ Nat) × CS)) =>
 if x3 = (104:Int32) then
 gd (kd σ2 a0 3) (
 cl2 (fX1_ahead a0 (1:Int32) σ2) (fun (x44 : Int32) (σ43 : CS) =>
 if x44 = (111:Int32) then
 gd (kd σ43 a0 3) (
 clx (fX1_hold T a0 p1 σ43) (fun (_ : Unit) (σ45 : CS) =>
 some (.inl (), σ45)))
 else
 k5 σ43))
 else
 k5 σ2))))))
theorem nX1_clause {T : Nat × Nat} {a0 : Nat} {p1 : Nat} {σ : CS} : Mn σ (fX1_clause T a0 p1 σ) := by
  unfold fX1_clause
  refine Mgd ?_
  refine Mgd ?_
  refine Mst (Nat.le_refl _) (Nat.le_refl _) (fun σ1 => ?_)
  refine Mgd ?_
  refine Mcl2 (nX1_next) (fun x3 σ2 => ?_)
  refine Mjn1 (fun (σ4 : CS) (X47 : Option ((Unit ⊕ Nat) × CS)) => Mn σ4 X47) (fun σ4 => ?_) (fun k5 hk5 => ?_)
  · refine Mgd ?_
    refine Mcl2 (nX1_next) (fun x7 σ6 => ?_)
    refine Mjn1 (fun (σ8 : CS) (X42 : Option ((Unit ⊕ Nat) × CS)) => Mn σ8 X42) (fun σ8 => ?_) (fun k9 hk9 => ?_)
    · refine Plp2 (fun (x10 : Int32) (σ11 : CS) (X32 : Option ((Unit ⊕ Nat) × CS)) => Mn σ11 X32) (fun _ _ => Mnone) (fun k12 hk12 x10 σ11 => ?_)
      refine Mjn1 (fun (σ13 : CS) (X31 : Option ((Unit ⊕ Nat) × CS)) => Mn σ13 X31) (fun σ13 => ?_) (fun k14 hk14 => ?_)
      · refine Mite ?_ ?_
        · refine Mgd ?_
          refine Mcl (fun x15 => ?_)
          refine Mgd ?_
          refine Mgd ?_
          refine Mcl (fun x16 => ?_)
          refine Mgd ?_
          refine Mclx (nX1_word) (fun _ σ17 => ?_)
          refine Mgd ?_
          refine Mcl (fun x19 => ?_)
          refine Mgd ?_
          refine Mclx (nX1_number) (fun x21 σ20 => ?_)
          refine Mgd ?_
          refine Mgd ?_
          refine Mst (Nat.le_refl _) (Nat.le_refl _) (fun σ22 => ?_)
          exact Mret
        · refine Mst (Nat.le_succ _) (Nat.le_add_right _ _) (fun σ23 => ?_)
          refine Mgd ?_
          refine Mcl2 (nX6_init) (fun _ σ24 => ?_)
          exact Mret
      · refine Mite ?_ ?_
        · exact hk14 σ11
        · refine Mgd ?_
          refine Mcl (fun x26 => ?_)
          refine Mgd ?_
          refine Mgd ?_
          refine Mcl (fun x27 => ?_)
          refine Mgd ?_
          refine Mgd ?_
          refine Mgd ?_
          refine Mcl2 (nX1_next) (fun x29 σ28 => ?_)
          refine Mite ?_ ?_
          · exact hk14 σ28
          · refine Mbd (fun x30 => ?_)
            exact hk12 x30 σ28
    · refine Mite ?_ ?_
      · refine Mgd ?_
        refine Mcl2 (nX1_ahead) (fun x34 σ33 => ?_)
        refine Mjn1 (fun (σ35 : CS) (X41 : Option ((Unit ⊕ Nat) × CS)) => Mn σ35 X41) (fun σ35 => ?_) (fun k36 hk36 => ?_)
        · refine Mgd ?_
          refine Mclx (nX1_have) (fun _ σ37 => ?_)
          exact Mret
        · refine Mite ?_ ?_
          · refine Mgd ?_
            refine Mcl2 (nX1_ahead) (fun x40 σ39 => ?_)
            refine Mite ?_ ?_
            · exact hk9 σ39
            · exact hk36 σ39
          · exact hk36 σ33
      · exact hk9 σ6
  · refine Mite ?_ ?_
    · refine Mgd ?_
      refine Mcl2 (nX1_ahead) (fun x44 σ43 => ?_)
      refine Mite ?_ ?_
      · refine Mgd ?_
        refine Mclx (nX1_hold) (fun _ σ45 => ?_)
        exact Mret
      · exact hk5 σ43
    · exact hk5 σ2
set_option maxHeartbeats 4000000 in
set_option maxRecDepth 100000 in
theorem mX1_clause (l : Launch) (E : CE) {a0 : Nat} {p1 : Nat} {σ : CS} {res : Unit ⊕ Nat} {σz : CS} (hX : fX1_clause E.2.2.2 a0 p1 σ = some (res, σz)) : MetX l yX1_clause (ws_ yX1_clause cX1_clause 3 none) 362 9042 E σ [.ref a0, .ref p1] (xoV res) σz := by
  refine MetX.of hX (by decide) (Nat.le_of_ble_eq_true rfl) (nX1_clause _ hX) ?_
  intro p e s m below meth c hx hb hr hml hts hown hlocks hout hk hz0
  have hK := hk.1
  show J p l e (headSpec (ws_ yX1_clause cX1_clause 3 none) (rmC 362 9042 σ σz)).room s m ([.ref a0, .ref p1] : List Value).toArray below meth c 3 E (cZ σ) (cS σ) (MQX below E (xoV res) σz s (cZ σz - cZ σ) (cS σz - cS σ)) (res, σz) (fX1_clause E.2.2.2 a0 p1 σ) σ 0 [(0, .ref a0), (1, .ref p1)] []
  unfold fX1_clause
  refine Jrow (fun H locs ls hH hS hl k => lv_aload_n hx hb dX1_clause_0 rfl (lv_at hl 1 rfl) (k ls hl)) ?_
  refine Jrow (fun H locs ls hH hS hl k => lv_dup hx hb dX1_clause_1 rfl (k ls hl)) ?_
  refine Jgd (fun hg => ?_)
  refine Jrow (fun H locs ls hH hS hl k => c_getN (F := 61) (v := .int (cFI σ p1 61)) hx hb hts hown hK hH hg (cN hk.2.2.1 29 rfl) (fun _ h => h) rfl dX1_clause_2 (k ls hl)) ?_
  refine Jrow (fun H locs ls hH hS hl k => lv_iconst (v := (1:Int32)) hx hb dX1_clause_5 (by decide) (k ls hl)) ?_
  refine Jrow (fun H locs ls hH hS hl k => lv_iadd hx hb dX1_clause_6 (k ls hl)) ?_
  refine Jgd (fun hg => ?_)
  refine Jst (σ1 := uFI σ p1 61 ((cFI σ p1 61) + (1:Int32))) rfl rfl (fun H locs ls hH hS hl k => c_putIN (F := 61) (ty := .int) (x := ((cFI σ p1 61) + (1:Int32))) hx hb hts hown hK hH hS hg (cN hk.2.2.1 29 rfl) (fun _ h => h) rfl rfl (by decide +kernel) rfl rfl rfl dX1_clause_7 k) (fun σ1 => ?_)
  refine Jrow (fun H locs ls hH hS hl k => lv_aload_n hx hb dX1_clause_10 rfl (lv_at hl 0 rfl) (k ls hl)) ?_
  refine Jgd (fun hg => ?_)
  refine Jcl2 (fun x3 σ2 hf => ?_)
  refine Jcall (v := (some (.int x3))) (rest := []) (mX1_next l E hf).1 ⟨rfl, rfl⟩ (fun H locs ls hH hS hl hR => ⟨_, va_runV (C := RX1) (As := []) ⟨hx, hb, hml, hown, hts⟩ (mX1_next l E hf).2 (cwV 0 hts (lw_V q380 q382 qs1 q92 q383) rfl rfl rfl (by decide +kernel) ⟨Nat.le_of_ble_eq_true rfl, Nat.le_of_ble_eq_true rfl⟩) (c_preV (ci := 2) hk hH hS hg rfl) rfl rfl hl.1 rfl (lv_room (Nat.le_of_ble_eq_true rfl)) dX1_clause_11 hR⟩) ?_
  clear hf
  refine Jrow (fun H locs ls hH hS hl k => lv_bipush (v := (104:Int32)) hx hb dX1_clause_14 (by decide) (k ls hl)) ?_
  refine Jjn1 (fun (σ4 : CS) X47 => J p l e (headSpec (ws_ yX1_clause cX1_clause 3 none) (rmC 362 9042 σ σz)).room s m ([.ref a0, .ref p1] : List Value).toArray below meth c 3 E (cZ σ) (cS σ) (MQX below E (xoV res) σz s (cZ σz - cZ σ) (cS σz - cS σ)) (res, σz) X47 σ4 35 [(0, .ref a0), (1, .ref p1)] []) (fun σ4 => ?_) (fun k5 hk5 => ?_)
  · refine Jrow (fun H locs ls hH hS hl k => lv_aload_n hx hb dX1_clause_35 rfl (lv_at hl 0 rfl) (k ls hl)) ?_
    refine Jgd (fun hg => ?_)
    refine Jcl2 (fun x7 σ6 hf => ?_)
    refine Jcall (v := (some (.int x7))) (rest := []) (mX1_next l E hf).1 ⟨rfl, rfl⟩ (fun H locs ls hH hS hl hR => ⟨_, va_runV (C := RX1) (As := []) ⟨hx, hb, hml, hown, hts⟩ (mX1_next l E hf).2 (cwV 0 hts (lw_V q380 q382 qs1 q92 q383) rfl rfl rfl (by decide +kernel) ⟨Nat.le_of_ble_eq_true rfl, Nat.le_of_ble_eq_true rfl⟩) (c_preV (ci := 2) hk hH hS hg rfl) rfl rfl hl.1 rfl (lv_room (Nat.le_of_ble_eq_true rfl)) dX1_clause_36 hR⟩) ?_
    clear hf
    refine Jrow (fun H locs ls hH hS hl k => lv_bipush (v := (104:Int32)) hx hb dX1_clause_39 (by decide) (k ls hl)) ?_
    refine Jjn1 (fun (σ8 : CS) X42 => J p l e (headSpec (ws_ yX1_clause cX1_clause 3 none) (rmC 362 9042 σ σz)).room s m ([.ref a0, .ref p1] : List Value).toArray below meth c 3 E (cZ σ) (cS σ) (MQX below E (xoV res) σz s (cZ σz - cZ σ) (cS σz - cS σ)) (res, σz) X42 σ8 70 [(0, .ref a0), (1, .ref p1)] []) (fun σ8 => ?_) (fun k9 hk9 => ?_)
    · refine Jrow (fun H locs ls hH hS hl k => lv_iconst (v := (5:Int32)) hx hb dX1_clause_70 (by decide) (k ls hl)) ?_
      refine Jrow (fun H locs ls hH hS hl k => lv_istore_n (lv' := [(2, .int (5:Int32)), (0, .ref a0), (1, .ref p1)]) hx hb dX1_clause_71 rfl hl (by decide) rfl k) ?_
      refine Jsub [1, 2, 0] rfl (Plp2 (fun (x10 : Int32) (σ11 : CS) X32 => J p l e (headSpec (ws_ yX1_clause cX1_clause 3 none) (rmC 362 9042 σ σz)).room s m ([.ref a0, .ref p1] : List Value).toArray below meth c 3 E (cZ σ) (cS σ) (MQX below E (xoV res) σz s (cZ σz - cZ σ) (cS σz - cS σ)) (res, σz) X32 σ11 72 [(0, .ref a0), (1, .ref p1), (2, .int x10)] []) (fun _ _ => Jnone) (fun k12 hk12 x10 σ11 => ?_))
      refine Jrow (fun H locs ls hH hS hl k => lv_iload_n hx hb dX1_clause_72 rfl (lv_at hl 2 rfl) (k ls hl)) ?_
      refine Jjn1 (fun (σ13 : CS) X31 => J p l e (headSpec (ws_ yX1_clause cX1_clause 3 none) (rmC 362 9042 σ σz)).room s m ([.ref a0, .ref p1] : List Value).toArray below meth c 3 E (cZ σ) (cS σ) (MQX below E (xoV res) σz s (cZ σz - cZ σ) (cS σz - cS σ)) (res, σz) X31 σ13 97 [(0, .ref a0), (1, .ref p1), (2, .int x10)] []) (fun σ13 => ?_) (fun k14 hk14 => ?_)
      · refine Jrow (fun H locs ls hH hS hl k => lv_iload_n hx hb dX1_clause_97 rfl (lv_at hl 2 rfl) (k ls hl)) ?_
        refine Jite (fun hc => ?_) (fun hc => ?_)
        · refine Jrow (fun H locs ls hH hS hl k => lv_if_ge (tgt := 113) hx hb dX1_clause_98 (by decide) (fun _ => (k ls hl)) (fun h => absurd hc h)) ?_
          clear hc
          refine Jrow (fun H locs ls hH hS hl k => lv_aload_n hx hb dX1_clause_113 rfl (lv_at hl 0 rfl) (k ls hl)) ?_
          refine Jrow (fun H locs ls hH hS hl k => lv_aload_n hx hb dX1_clause_114 rfl (lv_at hl 0 rfl) (k ls hl)) ?_
          refine Jgd (fun hg => ?_)
          refine Jcl (fun x15 hq => ?_)
          refine Jrow (fun H locs ls hH hS hl k => c_get (F := 43) (v := .ref x15) hx hb hts hown hK hH hg (hts _ q164) (fun _ h => h) (fvR rfl hq) dX1_clause_115 (k ls hl)) ?_
          clear hq
          refine Jrow (fun H locs ls hH hS hl k => lv_iload_n hx hb dX1_clause_118 rfl (lv_at hl 2 rfl) (k ls hl)) ?_
          refine Jgd (fun hk1 => ?_)
          refine Jgd (fun hg => ?_)
          refine Jcl (fun x16 hq => ?_)
          refine Jrow (fun H locs ls hH hS hl k => c_aald (t := 8) (q := some x16) hx hb hK hH (by decide) (by decide) hk1 hg hq dX1_clause_119 (k ls hl)) ?_
          clear hq
          refine Jgd (fun hg => ?_)
          refine Jclx (fun x18 σ17 hf => JXleave (rest := []) (fun _ => rfl) (mX1_word l E hf).1 ⟨rfl, rfl⟩ hout hlocks (fun H locs ls hH hS hl hR => throwV (C := RX1) (As := [.ref x16]) ⟨hx, hb, hml, hown, hts⟩ (mX1_word l E hf) (cwV 1 hts (lw_V q392 q394 qs4 q92 q395) rfl rfl rfl (by decide +kernel) ⟨Nat.le_of_ble_eq_true rfl, Nat.le_of_ble_eq_true rfl⟩) (c_preV (ci := 2) hk hH hS hg rfl) hS rfl rfl hl.1 rfl (lv_room (Nat.le_of_ble_eq_true rfl)) dX1_clause_120 hR)) (fun _ σ17 hf => ?_)
          refine Jcall (v := none) (rest := []) (mX1_word l E hf).1 ⟨rfl, rfl⟩ (fun H locs ls hH hS hl hR => ⟨_, va_runV (C := RX1) (As := [.ref x16]) ⟨hx, hb, hml, hown, hts⟩ (mX1_word l E hf).ret.2 (cwV 1 hts (lw_V q392 q394 qs4 q92 q395) rfl rfl rfl (by decide +kernel) ⟨Nat.le_of_ble_eq_true rfl, Nat.le_of_ble_eq_true rfl⟩) (c_preV (ci := 2) hk hH hS hg rfl) rfl rfl hl.1 rfl (lv_room (Nat.le_of_ble_eq_true rfl)) dX1_clause_120 hR⟩) ?_
          clear hf
          refine Jrow (fun H locs ls hH hS hl k => lv_aload_n hx hb dX1_clause_123 rfl (lv_at hl 1 rfl) (k ls hl)) ?_
          refine Jgd (fun hg => ?_)
          refine Jcl (fun x19 hq => ?_)
          refine Jrow (fun H locs ls hH hS hl k => c_getN (F := 63) (v := .ref x19) hx hb hts hown hK hH hg (cN hk.2.2.1 31 rfl) (fun _ h => h) (fvR rfl hq) dX1_clause_124 (k ls hl)) ?_
          clear hq
          refine Jrow (fun H locs ls hH hS hl k => lv_iload_n hx hb dX1_clause_127 rfl (lv_at hl 2 rfl) (k ls hl)) ?_
          refine Jrow (fun H locs ls hH hS hl k => lv_aload_n hx hb dX1_clause_128 rfl (lv_at hl 0 rfl) (k ls hl)) ?_
          refine Jgd (fun hg => ?_)
          refine Jclx (fun x21 σ20 hf => JXleave (rest := [.int x10, .ref x19]) (fun _ => rfl) (mX1_number l E hf).1 ⟨rfl, rfl⟩ hout hlocks (fun H locs ls hH hS hl hR => throwV (C := RX1) (As := []) ⟨hx, hb, hml, hown, hts⟩ (mX1_number l E hf) (cwV 0 hts (lw_V q463 q465 qs7 q92 q466) rfl rfl rfl (by decide +kernel) ⟨Nat.le_of_ble_eq_true rfl, Nat.le_of_ble_eq_true rfl⟩) (c_preV (ci := 2) hk hH hS hg rfl) hS rfl rfl hl.1 rfl (lv_room (Nat.le_of_ble_eq_true rfl)) dX1_clause_129 hR)) (fun x21 σ20 hf => ?_)
          refine Jcall (v := (some (.int x21))) (rest := [.int x10, .ref x19]) (mX1_number l E hf).1 ⟨rfl, rfl⟩ (fun H locs ls hH hS hl hR => ⟨_, va_runV (C := RX1) (As := []) ⟨hx, hb, hml, hown, hts⟩ (mX1_number l E hf).ret.2 (cwV 0 hts (lw_V q463 q465 qs7 q92 q466) rfl rfl rfl (by decide +kernel) ⟨Nat.le_of_ble_eq_true rfl, Nat.le_of_ble_eq_true rfl⟩) (c_preV (ci := 2) hk hH hS hg rfl) rfl rfl hl.1 rfl (lv_room (Nat.le_of_ble_eq_true rfl)) dX1_clause_129 hR⟩) ?_
          clear hf
          refine Jgd (fun hk1 => ?_)
          refine Jgd (fun hg => ?_)
          refine Jst (σ1 := uAI σ20 x19 x10.toNatClampNeg x21) rfl rfl (fun H locs ls hH hS hl k => c_iast hx hb hK hH hS hk1 hg dX1_clause_132 k) (fun σ22 => ?_)
          exact JXvret hx hb hr hlocks dX1_clause_133
        · refine Jrow (fun H locs ls hH hS hl k => lv_if_ge (tgt := 113) hx hb dX1_clause_98 (by decide) (fun h => absurd h hc) (fun _ => (k ls hl))) ?_
          clear hc
          refine Jnew (σ1 := nO σ13 7 7) (n := 7) rfl rfl ⟨rfl, rfl⟩ (fun H locs ls hH hS hl h1 h2 k => c_new (ci := 6) hx hb hts hown hK hH hS hk.2.1 in_X6 tyX6 tyX6_ok (by decide +kernel) (hts _ q400) (hts _ q401) (hts _ q99) rfl h1 h2 dX1_clause_101 k) (fun σ23 eσ23 => ?_)
          clear eσ23
          refine Jrow (fun H locs ls hH hS hl k => lv_dup hx hb dX1_clause_104 rfl (k ls hl)) ?_
          refine Jrow (fun H locs ls hH hS hl k => lv_aload_n hx hb dX1_clause_105 rfl (lv_at hl 0 rfl) (k ls hl)) ?_
          refine Jgd (fun hg => ?_)
          refine Jrow (fun H locs ls hH hS hl k => c_get (F := 46) (v := .int (cFI σ23 a0 46)) hx hb hts hown hK hH hg (hts _ q167) (fun _ h => h) rfl dX1_clause_106 (k ls hl)) ?_
          refine Jcl2 (fun _ σ24 hf => ?_)
          refine Jcall (v := none) (rest := [.ref (cZ σ13)]) (mX6_init l E hf).1 ⟨rfl, rfl⟩ (fun H locs ls hH hS hl hR => ⟨_, va_runI (As := [.int (cFI σ23 a0 46)]) ⟨hx, hb, hml, hown, hts⟩ (mX6_init l E hf).2 (cwI 1 hts (lw_meth q439) rfl rfl rfl (hts _ q99) (hts _ q437) (hts _ q438) rfl (by decide +kernel) ⟨Nat.le_of_ble_eq_true rfl, Nat.le_of_ble_eq_true rfl⟩) (c_preS hk hH hS) rfl rfl hl.1 rfl (lv_room (Nat.le_of_ble_eq_true rfl)) dX1_clause_109 hR⟩) ?_
          clear hf
          exact JXthrow (fun _ => rfl) hx hb hout hlocks dX1_clause_112
      · refine Jite (fun hc => ?_) (fun hc => ?_)
        · refine Jrow (fun H locs ls hH hS hl k => lv_if_lt (tgt := 97) hx hb dX1_clause_73 (by decide) (fun _ => (k ls hl)) (fun h => absurd hc h)) ?_
          clear hc
          exact Jsub [0, 1, 2] rfl (hk14 σ11)
        · refine Jrow (fun H locs ls hH hS hl k => lv_if_lt (tgt := 97) hx hb dX1_clause_73 (by decide) (fun h => absurd h hc) (fun _ => (k ls hl))) ?_
          clear hc
          refine Jrow (fun H locs ls hH hS hl k => lv_aload_n hx hb dX1_clause_76 rfl (lv_at hl 0 rfl) (k ls hl)) ?_
          refine Jgd (fun hg => ?_)
          refine Jcl (fun x26 hq => ?_)
          refine Jrow (fun H locs ls hH hS hl k => c_get (F := 43) (v := .ref x26) hx hb hts hown hK hH hg (hts _ q164) (fun _ h => h) (fvR rfl hq) dX1_clause_77 (k ls hl)) ?_
          clear hq
          refine Jrow (fun H locs ls hH hS hl k => lv_iload_n hx hb dX1_clause_80 rfl (lv_at hl 2 rfl) (k ls hl)) ?_
          refine Jgd (fun hk1 => ?_)
          refine Jgd (fun hg => ?_)
          refine Jcl (fun x27 hq => ?_)
          refine Jrow (fun H locs ls hH hS hl k => c_aald (t := 8) (q := some x27) hx hb hK hH (by decide) (by decide) hk1 hg hq dX1_clause_81 (k ls hl)) ?_
          clear hq
          refine Jrow (fun H locs ls hH hS hl k => lv_iconst (v := (0:Int32)) hx hb dX1_clause_82 (by decide) (k ls hl)) ?_
          refine Jgd (fun hk1 => ?_)
          refine Jgd (fun hg => ?_)
          refine Jrow (fun H locs ls hH hS hl k => c_cald hx hb hK hH hk1 hg dX1_clause_83 (k ls hl)) ?_
          refine Jrow (fun H locs ls hH hS hl k => lv_aload_n hx hb dX1_clause_84 rfl (lv_at hl 0 rfl) (k ls hl)) ?_
          refine Jgd (fun hg => ?_)
          refine Jcl2 (fun x29 σ28 hf => ?_)
          refine Jcall (v := (some (.int x29))) (rest := [.int (cAI σ11 x27 (0:Int32).toNatClampNeg)]) (mX1_next l E hf).1 ⟨rfl, rfl⟩ (fun H locs ls hH hS hl hR => ⟨_, va_runV (C := RX1) (As := []) ⟨hx, hb, hml, hown, hts⟩ (mX1_next l E hf).2 (cwV 0 hts (lw_V q380 q382 qs1 q92 q383) rfl rfl rfl (by decide +kernel) ⟨Nat.le_of_ble_eq_true rfl, Nat.le_of_ble_eq_true rfl⟩) (c_preV (ci := 2) hk hH hS hg rfl) rfl rfl hl.1 rfl (lv_room (Nat.le_of_ble_eq_true rfl)) dX1_clause_85 hR⟩) ?_
          clear hf
          refine Jite (fun hc => ?_) (fun hc => ?_)
          · refine Jrow (fun H locs ls hH hS hl k => lv_icmp_eq (tgt := 97) hx hb dX1_clause_88 (by decide) (fun _ => (k ls hl)) (fun h => absurd hc h)) ?_
            clear hc
            exact Jsub [0, 1, 2] rfl (hk14 σ28)
          · refine Jrow (fun H locs ls hH hS hl k => lv_icmp_eq (tgt := 97) hx hb dX1_clause_88 (by decide) (fun h => absurd h hc) (fun _ => (k ls hl))) ?_
            clear hc
            refine Jbd (fun x30 ex30 => ?_)
            refine Jrow (fun H locs ls hH hS hl k => lv_iinc (v := x30) (lv' := [(2, .int x30), (0, .ref a0), (1, .ref p1)]) hx hb dX1_clause_91 hl (k := 2) rfl (by rw [ex30]; rfl) (by decide) rfl k) ?_
            clear ex30
            refine Jrow (fun H locs ls hH hS hl k => lv_goto (tgt := 72) hx hb dX1_clause_94 (by decide) (k ls hl)) ?_
            exact Jsub [1, 2, 0] rfl (hk12 x30 σ28)
    · refine Jite (fun hc => ?_) (fun hc => ?_)
      · refine Jrow (fun H locs ls hH hS hl k => lv_icmp_ne (tgt := 70) hx hb dX1_clause_41 (by decide) (fun h => absurd hc h) (fun _ => (k ls hl))) ?_
        clear hc
        refine Jrow (fun H locs ls hH hS hl k => lv_aload_n hx hb dX1_clause_44 rfl (lv_at hl 0 rfl) (k ls hl)) ?_
        refine Jrow (fun H locs ls hH hS hl k => lv_iconst (v := (1:Int32)) hx hb dX1_clause_45 (by decide) (k ls hl)) ?_
        refine Jgd (fun hg => ?_)
        refine Jcl2 (fun x34 σ33 hf => ?_)
        refine Jcall (v := (some (.int x34))) (rest := []) (mX1_ahead l E hf).1 ⟨rfl, rfl⟩ (fun H locs ls hH hS hl hR => ⟨_, va_runV (C := RX1) (As := [.int (1:Int32)]) ⟨hx, hb, hml, hown, hts⟩ (mX1_ahead l E hf).2 (cwV 1 hts (lw_V q384 q386 qs2 q92 q387) rfl rfl rfl (by decide +kernel) ⟨Nat.le_of_ble_eq_true rfl, Nat.le_of_ble_eq_true rfl⟩) (c_preV (ci := 2) hk hH hS hg rfl) rfl rfl hl.1 rfl (lv_room (Nat.le_of_ble_eq_true rfl)) dX1_clause_46 hR⟩) ?_
        clear hf
        refine Jrow (fun H locs ls hH hS hl k => lv_bipush (v := (97:Int32)) hx hb dX1_clause_49 (by decide) (k ls hl)) ?_
        refine Jjn1 (fun (σ35 : CS) X41 => J p l e (headSpec (ws_ yX1_clause cX1_clause 3 none) (rmC 362 9042 σ σz)).room s m ([.ref a0, .ref p1] : List Value).toArray below meth c 3 E (cZ σ) (cS σ) (MQX below E (xoV res) σz s (cZ σz - cZ σ) (cS σz - cS σ)) (res, σz) X41 σ35 64 [(0, .ref a0), (1, .ref p1)] []) (fun σ35 => ?_) (fun k36 hk36 => ?_)
        · refine Jrow (fun H locs ls hH hS hl k => lv_aload_n hx hb dX1_clause_64 rfl (lv_at hl 0 rfl) (k ls hl)) ?_
          refine Jrow (fun H locs ls hH hS hl k => lv_aload_n hx hb dX1_clause_65 rfl (lv_at hl 1 rfl) (k ls hl)) ?_
          refine Jgd (fun hg => ?_)
          refine Jclx (fun x38 σ37 hf => JXleave (rest := []) (fun _ => rfl) (mX1_have l E hf).1 ⟨rfl, rfl⟩ hout hlocks (fun H locs ls hH hS hl hR => throwV (C := RX1) (As := [.ref p1]) ⟨hx, hb, hml, hown, hts⟩ (mX1_have l E hf) (cwV 1 hts (lw_V q592 q594 qs15 q92 q595) rfl rfl rfl (by decide +kernel) ⟨Nat.le_of_ble_eq_true rfl, Nat.le_of_ble_eq_true rfl⟩) (c_preV (ci := 2) hk hH hS hg rfl) hS rfl rfl hl.1 rfl (lv_room (Nat.le_of_ble_eq_true rfl)) dX1_clause_66 hR)) (fun _ σ37 hf => ?_)
          refine Jcall (v := none) (rest := []) (mX1_have l E hf).1 ⟨rfl, rfl⟩ (fun H locs ls hH hS hl hR => ⟨_, va_runV (C := RX1) (As := [.ref p1]) ⟨hx, hb, hml, hown, hts⟩ (mX1_have l E hf).ret.2 (cwV 1 hts (lw_V q592 q594 qs15 q92 q595) rfl rfl rfl (by decide +kernel) ⟨Nat.le_of_ble_eq_true rfl, Nat.le_of_ble_eq_true rfl⟩) (c_preV (ci := 2) hk hH hS hg rfl) rfl rfl hl.1 rfl (lv_room (Nat.le_of_ble_eq_true rfl)) dX1_clause_66 hR⟩) ?_
          clear hf
          exact JXvret hx hb hr hlocks dX1_clause_69
        · refine Jite (fun hc => ?_) (fun hc => ?_)
          · refine Jrow (fun H locs ls hH hS hl k => lv_icmp_ne (tgt := 64) hx hb dX1_clause_51 (by decide) (fun h => absurd hc h) (fun _ => (k ls hl))) ?_
            clear hc
            refine Jrow (fun H locs ls hH hS hl k => lv_aload_n hx hb dX1_clause_54 rfl (lv_at hl 0 rfl) (k ls hl)) ?_
            refine Jrow (fun H locs ls hH hS hl k => lv_iconst (v := (2:Int32)) hx hb dX1_clause_55 (by decide) (k ls hl)) ?_
            refine Jgd (fun hg => ?_)
            refine Jcl2 (fun x40 σ39 hf => ?_)
            refine Jcall (v := (some (.int x40))) (rest := []) (mX1_ahead l E hf).1 ⟨rfl, rfl⟩ (fun H locs ls hH hS hl hR => ⟨_, va_runV (C := RX1) (As := [.int (2:Int32)]) ⟨hx, hb, hml, hown, hts⟩ (mX1_ahead l E hf).2 (cwV 1 hts (lw_V q384 q386 qs2 q92 q387) rfl rfl rfl (by decide +kernel) ⟨Nat.le_of_ble_eq_true rfl, Nat.le_of_ble_eq_true rfl⟩) (c_preV (ci := 2) hk hH hS hg rfl) rfl rfl hl.1 rfl (lv_room (Nat.le_of_ble_eq_true rfl)) dX1_clause_56 hR⟩) ?_
            clear hf
            refine Jrow (fun H locs ls hH hS hl k => lv_bipush (v := (114:Int32)) hx hb dX1_clause_59 (by decide) (k ls hl)) ?_
            refine Jite (fun hc => ?_) (fun hc => ?_)
            · refine Jrow (fun H locs ls hH hS hl k => lv_icmp_eq (tgt := 70) hx hb dX1_clause_61 (by decide) (fun _ => (k ls hl)) (fun h => absurd hc h)) ?_
              clear hc
              exact Jsub [0, 1] rfl (hk9 σ39)
            · refine Jrow (fun H locs ls hH hS hl k => lv_icmp_eq (tgt := 70) hx hb dX1_clause_61 (by decide) (fun h => absurd h hc) (fun _ => (k ls hl))) ?_
              clear hc
              exact Jsub [0, 1] rfl (hk36 σ39)
          · refine Jrow (fun H locs ls hH hS hl k => lv_icmp_ne (tgt := 64) hx hb dX1_clause_51 (by decide) (fun _ => (k ls hl)) (fun h => absurd h hc)) ?_
            clear hc
            exact Jsub [0, 1] rfl (hk36 σ33)
      · refine Jrow (fun H locs ls hH hS hl k => lv_icmp_ne (tgt := 70) hx hb dX1_clause_41 (by decide) (fun _ => (k ls hl)) (fun h => absurd h hc)) ?_
        clear hc
        exact Jsub [0, 1] rfl (hk9 σ6)
  · refine Jite (fun hc => ?_) (fun hc => ?_)
    · refine Jrow (fun H locs ls hH hS hl k => lv_icmp_ne (tgt := 35) hx hb dX1_clause_16 (by decide) (fun h => absurd hc h) (fun _ => (k ls hl))) ?_
      clear hc
      refine Jrow (fun H locs ls hH hS hl k => lv_aload_n hx hb dX1_clause_19 rfl (lv_at hl 0 rfl) (k ls hl)) ?_
      refine Jrow (fun H locs ls hH hS hl k => lv_iconst (v := (1:Int32)) hx hb dX1_clause_20 (by decide) (k ls hl)) ?_
      refine Jgd (fun hg => ?_)
      refine Jcl2 (fun x44 σ43 hf => ?_)
      refine Jcall (v := (some (.int x44))) (rest := []) (mX1_ahead l E hf).1 ⟨rfl, rfl⟩ (fun H locs ls hH hS hl hR => ⟨_, va_runV (C := RX1) (As := [.int (1:Int32)]) ⟨hx, hb, hml, hown, hts⟩ (mX1_ahead l E hf).2 (cwV 1 hts (lw_V q384 q386 qs2 q92 q387) rfl rfl rfl (by decide +kernel) ⟨Nat.le_of_ble_eq_true rfl, Nat.le_of_ble_eq_true rfl⟩) (c_preV (ci := 2) hk hH hS hg rfl) rfl rfl hl.1 rfl (lv_room (Nat.le_of_ble_eq_true rfl)) dX1_clause_21 hR⟩) ?_
      clear hf
      refine Jrow (fun H locs ls hH hS hl k => lv_bipush (v := (111:Int32)) hx hb dX1_clause_24 (by decide) (k ls hl)) ?_
      refine Jite (fun hc => ?_) (fun hc => ?_)
      · refine Jrow (fun H locs ls hH hS hl k => lv_icmp_ne (tgt := 35) hx hb dX1_clause_26 (by decide) (fun h => absurd hc h) (fun _ => (k ls hl))) ?_
        clear hc
        refine Jrow (fun H locs ls hH hS hl k => lv_aload_n hx hb dX1_clause_29 rfl (lv_at hl 0 rfl) (k ls hl)) ?_
        refine Jrow (fun H locs ls hH hS hl k => lv_aload_n hx hb dX1_clause_30 rfl (lv_at hl 1 rfl) (k ls hl)) ?_
        refine Jgd (fun hg => ?_)
        refine Jclx (fun x46 σ45 hf => JXleave (rest := []) (fun _ => rfl) (mX1_hold l E hf).1 ⟨rfl, rfl⟩ hout hlocks (fun H locs ls hH hS hl hR => throwV (C := RX1) (As := [.ref p1]) ⟨hx, hb, hml, hown, hts⟩ (mX1_hold l E hf) (cwV 1 hts (lw_V q388 q390 qs3 q92 q391) rfl rfl rfl (by decide +kernel) ⟨Nat.le_of_ble_eq_true rfl, Nat.le_of_ble_eq_true rfl⟩) (c_preV (ci := 2) hk hH hS hg rfl) hS rfl rfl hl.1 rfl (lv_room (Nat.le_of_ble_eq_true rfl)) dX1_clause_31 hR)) (fun _ σ45 hf => ?_)
        refine Jcall (v := none) (rest := []) (mX1_hold l E hf).1 ⟨rfl, rfl⟩ (fun H locs ls hH hS hl hR => ⟨_, va_runV (C := RX1) (As := [.ref p1]) ⟨hx, hb, hml, hown, hts⟩ (mX1_hold l E hf).ret.2 (cwV 1 hts (lw_V q388 q390 qs3 q92 q391) rfl rfl rfl (by decide +kernel) ⟨Nat.le_of_ble_eq_true rfl, Nat.le_of_ble_eq_true rfl⟩) (c_preV (ci := 2) hk hH hS hg rfl) rfl rfl hl.1 rfl (lv_room (Nat.le_of_ble_eq_true rfl)) dX1_clause_31 hR⟩) ?_
        clear hf
        exact JXvret hx hb hr hlocks dX1_clause_34
      · refine Jrow (fun H locs ls hH hS hl k => lv_icmp_ne (tgt := 35) hx hb dX1_clause_26 (by decide) (fun _ => (k ls hl)) (fun h => absurd h hc)) ?_
        clear hc
        exact Jsub [0, 1] rfl (hk5 σ43)
    · refine Jrow (fun H locs ls hH hS hl k => lv_icmp_ne (tgt := 35) hx hb dX1_clause_16 (by decide) (fun _ => (k ls hl)) (fun h => absurd h hc)) ?_
      clear hc
      exact Jsub [0, 1] rfl (hk5 σ2)

def fX1_read (T : Nat × Nat) (a0 : Nat) (σ : CS) : Option ((Nat ⊕ Nat) × CS) :=
 gd (hf (cK σ a0) 46) (
 bd (uFI σ a0 46 (0:Int32)) (fun (σ1 : CS) =>
 bd (nO σ1 6 7) (fun (σ2 : CS) =>
 gd (hf (cK σ2 a0) 48) (
 cl (cFR σ2 a0 48) (fun (x3 : Nat) =>
 gd (hf (cK σ2 x3) 26) (
 cl (cFR σ2 x3 26) (fun (x4 : Nat) =>
 gd (kd σ2 x4 20) (
 cl2 (fJ2_size x4 σ2) (fun (x6 : Int32) (σ5 : CS) =>
 cl2 (fX5_init T (cZ σ1) x6 σ5) (fun (_ : Unit) (σ7 : CS) =>
 gd (kd σ7 a0 3) (
 clx (fX1_clause T a0 (cZ σ1) σ7) (fun (_ : Unit) (σ9 : CS) =>
 lp (fun _ => none) (fun (k12 : CS → Option ((Nat ⊕ Nat) × CS)) (σ11 : CS) =>
 gd (hf (cK σ11 a0) 46) (
 gd (hf (cK σ11 a0) 48) (
 cl (cFR σ11 a0 48) (fun (x13 : Nat) =>
 gd (hf (cK σ11 x13) 25) (
 if (cFI σ11 x13 25) ≤ (cFI σ11 a0 46) then
 some (.inl (cZ σ1), σ11)
 else
 gd (kd σ11 a0 3) (
 cl2 (fX1_next a0 σ11) (fun (x15 : Int32) (σ14 : CS) =>
 jn (bd (nO σ14 7 7) (fun (σ17 : CS) =>
 gd (hf (cK σ17 a0) 46) (
 cl2 (fX6_init (cZ σ14) (cFI σ17 a0 46) σ17) (fun (_ : Unit) (σ18 : CS) =>
 some (.inr (cZ σ14), σ18))))) (fun (k16 : Option ((Nat ⊕ Nat) × CS)) =>
 if x15 = (59:Int32) then
 gd (hf (cK σ14 (cZ σ1)) 61) (
 if (cFI σ14 (cZ σ1) 61) = (12:Int32) then
 k16
 else
 gd (hf (cK σ14 a0) 46) (
 gd (hf (cK σ14 a0) 46) (
 bd (uFI σ14 a0 46 ((cFI σ14 a0 46) + (1:Int32))) (fun (σ20 : CS) =>
 gd (kd σ20 a0 3) (
 clx (fX1_clause T a0 (cZ σ1) σ20) (fun (_ : Unit) (σ21 : CS) =>
 k12 σ21))))))
 else
 k16)))))))) NF σ9))))))))))))
theorem nX1_read {T : Nat × Nat} {a0 : Nat} {σ : CS} : Mn σ (fX1_read T a0 σ) := by
  unfold fX1_read
  refine Mgd ?_
  refine Mst (Nat.le_refl _) (Nat.le_refl _) (fun σ1 => ?_)
  refine Mst (Nat.le_succ _) (Nat.le_add_right _ _) (fun σ2 => ?_)
  refine Mgd ?_
  refine Mcl (fun x3 => ?_)
  refine Mgd ?_
  refine Mcl (fun x4 => ?_)
  refine Mgd ?_
  refine Mcl2 (nJ2_size) (fun x6 σ5 => ?_)
  refine Mcl2 (nX5_init) (fun _ σ7 => ?_)
  refine Mgd ?_
  refine Mclx (nX1_clause) (fun _ σ9 => ?_)
  refine Plp1 (fun (σ11 : CS) (X24 : Option ((Nat ⊕ Nat) × CS)) => Mn σ11 X24) (fun _ => Mnone) (fun k12 hk12 σ11 => ?_)
  refine Mgd ?_
  refine Mgd ?_
  refine Mcl (fun x13 => ?_)
  refine Mgd ?_
  refine Mite ?_ ?_
  · exact Mret
  · refine Mgd ?_
    refine Mcl2 (nX1_next) (fun x15 σ14 => ?_)
    refine Mjn0 (fun  (X23 : Option ((Nat ⊕ Nat) × CS)) => Mn σ14 X23) (?_) (fun k16 hk16 => ?_)
    · refine Mst (Nat.le_succ _) (Nat.le_add_right _ _) (fun σ17 => ?_)
      refine Mgd ?_
      refine Mcl2 (nX6_init) (fun _ σ18 => ?_)
      exact Mret
    · refine Mite ?_ ?_
      · refine Mgd ?_
        refine Mite ?_ ?_
        · exact hk16
        · refine Mgd ?_
          refine Mgd ?_
          refine Mst (Nat.le_refl _) (Nat.le_refl _) (fun σ20 => ?_)
          refine Mgd ?_
          refine Mclx (nX1_clause) (fun _ σ21 => ?_)
          exact hk12 σ21
      · exact hk16
set_option maxHeartbeats 4000000 in
set_option maxRecDepth 100000 in
theorem mX1_read (l : Launch) (E : CE) {a0 : Nat} {σ : CS} {res : Nat ⊕ Nat} {σz : CS} (hX : fX1_read E.2.2.2 a0 σ = some (res, σz)) : MetX l yX1_read (ws_ yX1_read cX1_read 2 (some (.object "FortyDays$Port"))) 363 9064 E σ [.ref a0] (xoR res) σz := by
  refine MetX.of hX (by decide) (Nat.le_of_ble_eq_true rfl) (nX1_read _ hX) ?_
  intro p e s m below meth c hx hb hr hml hts hown hlocks hout hk hz0
  have hK := hk.1
  show J p l e (headSpec (ws_ yX1_read cX1_read 2 (some (.object "FortyDays$Port"))) (rmC 363 9064 σ σz)).room s m ([.ref a0] : List Value).toArray below meth c 2 E (cZ σ) (cS σ) (MQX below E (xoR res) σz s (cZ σz - cZ σ) (cS σz - cS σ)) (res, σz) (fX1_read E.2.2.2 a0 σ) σ 0 [(0, .ref a0)] []
  unfold fX1_read
  refine Jrow (fun H locs ls hH hS hl k => lv_aload_n hx hb dX1_read_0 rfl (lv_at hl 0 rfl) (k ls hl)) ?_
  refine Jrow (fun H locs ls hH hS hl k => lv_iconst (v := (0:Int32)) hx hb dX1_read_1 (by decide) (k ls hl)) ?_
  refine Jgd (fun hg => ?_)
  refine Jst (σ1 := uFI σ a0 46 (0:Int32)) rfl rfl (fun H locs ls hH hS hl k => c_putI (F := 46) (ty := .int) (x := (0:Int32)) hx hb hts hown hK hH hS hg (hts _ q167) (fun _ h => h) rfl rfl (by decide +kernel) rfl rfl rfl dX1_read_2 k) (fun σ1 => ?_)
  refine Jnew (σ1 := nO σ1 6 7) (n := 7) rfl rfl ⟨rfl, rfl⟩ (fun H locs ls hH hS hl h1 h2 k => c_new (ci := 5) hx hb hts hown hK hH hS hk.2.1 in_X5 tyX5 tyX5_ok (by decide +kernel) (hts _ q335) (hts _ q336) (hts _ q96) rfl h1 h2 dX1_read_5 k) (fun σ2 eσ2 => ?_)
  clear eσ2
  refine Jrow (fun H locs ls hH hS hl k => lv_dup hx hb dX1_read_8 rfl (k ls hl)) ?_
  refine Jrow (fun H locs ls hH hS hl k => lv_aload_n hx hb dX1_read_9 rfl (lv_at hl 0 rfl) (k ls hl)) ?_
  refine Jgd (fun hg => ?_)
  refine Jcl (fun x3 hq => ?_)
  refine Jrow (fun H locs ls hH hS hl k => c_get (F := 48) (v := .ref x3) hx hb hts hown hK hH hg (hts _ q169) (fun _ h => h) (fvR rfl hq) dX1_read_10 (k ls hl)) ?_
  clear hq
  refine Jgd (fun hg => ?_)
  refine Jcl (fun x4 hq => ?_)
  refine Jrow (fun H locs ls hH hS hl k => c_getN (F := 26) (v := .ref x4) hx hb hts hown hK hH hg (cN hk.2.2.1 28 rfl) (fun _ h => h) (fvR rfl hq) dX1_read_13 (k ls hl)) ?_
  clear hq
  refine Jgd (fun hg => ?_)
  refine Jcl2 (fun x6 σ5 hf => ?_)
  refine Jcall (v := (some (.int x6))) (rest := [.ref (cZ σ1), .ref (cZ σ1)]) (mJ2_size l E hf).1 ⟨rfl, rfl⟩ (fun H locs ls hH hS hl hR => ⟨_, va_runV (C := RJ2) (As := []) ⟨hx, hb, hml, hown, hts⟩ (mJ2_size l E hf).2 (cwV 0 hts (lw_V q337 q328 q329 q91 q330) rfl rfl rfl (by decide +kernel) ⟨Nat.le_of_ble_eq_true rfl, Nat.le_of_ble_eq_true rfl⟩) (c_preV (ci := 19) hk hH hS hg rfl) rfl rfl hl.1 rfl (lv_room (Nat.le_of_ble_eq_true rfl)) dX1_read_16 hR⟩) ?_
  clear hf
  refine Jcl2 (fun _ σ7 hf => ?_)
  refine Jcall (v := none) (rest := [.ref (cZ σ1)]) (mX5_init l E hf).1 ⟨rfl, rfl⟩ (fun H locs ls hH hS hl hR => ⟨_, va_runI (As := [.int x6]) ⟨hx, hb, hml, hown, hts⟩ (mX5_init l E hf).2 (cwI 1 hts (lw_meth q340) rfl rfl rfl (hts _ q96) (hts _ q338) (hts _ q339) rfl (by decide +kernel) ⟨Nat.le_of_ble_eq_true rfl, Nat.le_of_ble_eq_true rfl⟩) (c_preS hk hH hS) rfl rfl hl.1 rfl (lv_room (Nat.le_of_ble_eq_true rfl)) dX1_read_19 hR⟩) ?_
  clear hf
  refine Jrow (fun H locs ls hH hS hl k => lv_astore_n (lv' := [(1, .ref (cZ σ1)), (0, .ref a0)]) hx hb dX1_read_22 rfl hl (by decide) rfl k) ?_
  refine Jrow (fun H locs ls hH hS hl k => lv_aload_n hx hb dX1_read_23 rfl (lv_at hl 1 rfl) (k ls hl)) ?_
  refine Jrow (fun H locs ls hH hS hl k => lv_aload_n hx hb dX1_read_24 rfl (lv_at hl 0 rfl) (k ls hl)) ?_
  refine Jgd (fun hg => ?_)
  refine Jclx (fun x10 σ9 hf => JXleave (rest := []) (fun _ => rfl) (mX1_clause l E hf).1 ⟨rfl, rfl⟩ hout hlocks (fun H locs ls hH hS hl hR => throwV (C := RX1) (As := [.ref (cZ σ1)]) ⟨hx, hb, hml, hown, hts⟩ (mX1_clause l E hf) (cwV 1 hts (lw_V q376 q378 qs0 q92 q379) rfl rfl rfl (by decide +kernel) ⟨Nat.le_of_ble_eq_true rfl, Nat.le_of_ble_eq_true rfl⟩) (c_preV (ci := 2) hk hH hS hg rfl) hS rfl rfl hl.1 rfl (lv_room (Nat.le_of_ble_eq_true rfl)) dX1_read_25 hR)) (fun _ σ9 hf => ?_)
  refine Jcall (v := none) (rest := []) (mX1_clause l E hf).1 ⟨rfl, rfl⟩ (fun H locs ls hH hS hl hR => ⟨_, va_runV (C := RX1) (As := [.ref (cZ σ1)]) ⟨hx, hb, hml, hown, hts⟩ (mX1_clause l E hf).ret.2 (cwV 1 hts (lw_V q376 q378 qs0 q92 q379) rfl rfl rfl (by decide +kernel) ⟨Nat.le_of_ble_eq_true rfl, Nat.le_of_ble_eq_true rfl⟩) (c_preV (ci := 2) hk hH hS hg rfl) rfl rfl hl.1 rfl (lv_room (Nat.le_of_ble_eq_true rfl)) dX1_read_25 hR⟩) ?_
  clear hf
  refine Jsub [1, 0] rfl (Plp1 (fun (σ11 : CS) X24 => J p l e (headSpec (ws_ yX1_read cX1_read 2 (some (.object "FortyDays$Port"))) (rmC 363 9064 σ σz)).room s m ([.ref a0] : List Value).toArray below meth c 2 E (cZ σ) (cS σ) (MQX below E (xoR res) σz s (cZ σz - cZ σ) (cS σz - cS σ)) (res, σz) X24 σ11 28 [(0, .ref a0), (1, .ref (cZ σ1))] []) (fun _ => Jnone) (fun k12 hk12 σ11 => ?_))
  refine Jrow (fun H locs ls hH hS hl k => lv_aload_n hx hb dX1_read_28 rfl (lv_at hl 0 rfl) (k ls hl)) ?_
  refine Jgd (fun hg => ?_)
  refine Jrow (fun H locs ls hH hS hl k => c_get (F := 46) (v := .int (cFI σ11 a0 46)) hx hb hts hown hK hH hg (hts _ q167) (fun _ h => h) rfl dX1_read_29 (k ls hl)) ?_
  refine Jrow (fun H locs ls hH hS hl k => lv_aload_n hx hb dX1_read_32 rfl (lv_at hl 0 rfl) (k ls hl)) ?_
  refine Jgd (fun hg => ?_)
  refine Jcl (fun x13 hq => ?_)
  refine Jrow (fun H locs ls hH hS hl k => c_get (F := 48) (v := .ref x13) hx hb hts hown hK hH hg (hts _ q169) (fun _ h => h) (fvR rfl hq) dX1_read_33 (k ls hl)) ?_
  clear hq
  refine Jgd (fun hg => ?_)
  refine Jrow (fun H locs ls hH hS hl k => c_getN (F := 25) (v := .int (cFI σ11 x13 25)) hx hb hts hown hK hH hg (cN hk.2.2.1 27 rfl) (fun _ h => h) rfl dX1_read_36 (k ls hl)) ?_
  refine Jite (fun hc => ?_) (fun hc => ?_)
  · refine Jrow (fun H locs ls hH hS hl k => lv_icmp_ge (tgt := 90) hx hb dX1_read_39 (by decide) (fun _ => (k ls hl)) (fun h => absurd hc h)) ?_
    clear hc
    refine Jrow (fun H locs ls hH hS hl k => lv_aload_n hx hb dX1_read_90 rfl (lv_at hl 1 rfl) (k ls hl)) ?_
    exact JXaret hx hb hr (Or.inl ⟨_, rfl⟩) hlocks dX1_read_91
  · refine Jrow (fun H locs ls hH hS hl k => lv_icmp_ge (tgt := 90) hx hb dX1_read_39 (by decide) (fun h => absurd h hc) (fun _ => (k ls hl))) ?_
    clear hc
    refine Jrow (fun H locs ls hH hS hl k => lv_aload_n hx hb dX1_read_42 rfl (lv_at hl 0 rfl) (k ls hl)) ?_
    refine Jgd (fun hg => ?_)
    refine Jcl2 (fun x15 σ14 hf => ?_)
    refine Jcall (v := (some (.int x15))) (rest := []) (mX1_next l E hf).1 ⟨rfl, rfl⟩ (fun H locs ls hH hS hl hR => ⟨_, va_runV (C := RX1) (As := []) ⟨hx, hb, hml, hown, hts⟩ (mX1_next l E hf).2 (cwV 0 hts (lw_V q380 q382 qs1 q92 q383) rfl rfl rfl (by decide +kernel) ⟨Nat.le_of_ble_eq_true rfl, Nat.le_of_ble_eq_true rfl⟩) (c_preV (ci := 2) hk hH hS hg rfl) rfl rfl hl.1 rfl (lv_room (Nat.le_of_ble_eq_true rfl)) dX1_read_43 hR⟩) ?_
    clear hf
    refine Jrow (fun H locs ls hH hS hl k => lv_bipush (v := (59:Int32)) hx hb dX1_read_46 (by decide) (k ls hl)) ?_
    refine Jjn0 (fun  X23 => J p l e (headSpec (ws_ yX1_read cX1_read 2 (some (.object "FortyDays$Port"))) (rmC 363 9064 σ σz)).room s m ([.ref a0] : List Value).toArray below meth c 2 E (cZ σ) (cS σ) (MQX below E (xoR res) σz s (cZ σz - cZ σ) (cS σz - cS σ)) (res, σz) X23 σ14 60 [(0, .ref a0)] []) (?_) (fun k16 hk16 => ?_)
    · refine Jnew (σ1 := nO σ14 7 7) (n := 7) rfl rfl ⟨rfl, rfl⟩ (fun H locs ls hH hS hl h1 h2 k => c_new (ci := 6) hx hb hts hown hK hH hS hk.2.1 in_X6 tyX6 tyX6_ok (by decide +kernel) (hts _ q400) (hts _ q401) (hts _ q99) rfl h1 h2 dX1_read_60 k) (fun σ17 eσ17 => ?_)
      clear eσ17
      refine Jrow (fun H locs ls hH hS hl k => lv_dup hx hb dX1_read_63 rfl (k ls hl)) ?_
      refine Jrow (fun H locs ls hH hS hl k => lv_aload_n hx hb dX1_read_64 rfl (lv_at hl 0 rfl) (k ls hl)) ?_
      refine Jgd (fun hg => ?_)
      refine Jrow (fun H locs ls hH hS hl k => c_get (F := 46) (v := .int (cFI σ17 a0 46)) hx hb hts hown hK hH hg (hts _ q167) (fun _ h => h) rfl dX1_read_65 (k ls hl)) ?_
      refine Jcl2 (fun _ σ18 hf => ?_)
      refine Jcall (v := none) (rest := [.ref (cZ σ14)]) (mX6_init l E hf).1 ⟨rfl, rfl⟩ (fun H locs ls hH hS hl hR => ⟨_, va_runI (As := [.int (cFI σ17 a0 46)]) ⟨hx, hb, hml, hown, hts⟩ (mX6_init l E hf).2 (cwI 1 hts (lw_meth q439) rfl rfl rfl (hts _ q99) (hts _ q437) (hts _ q438) rfl (by decide +kernel) ⟨Nat.le_of_ble_eq_true rfl, Nat.le_of_ble_eq_true rfl⟩) (c_preS hk hH hS) rfl rfl hl.1 rfl (lv_room (Nat.le_of_ble_eq_true rfl)) dX1_read_68 hR⟩) ?_
      clear hf
      exact JXthrow (fun _ => rfl) hx hb hout hlocks dX1_read_71
    · refine Jite (fun hc => ?_) (fun hc => ?_)
      · refine Jrow (fun H locs ls hH hS hl k => lv_icmp_ne (tgt := 60) hx hb dX1_read_48 (by decide) (fun h => absurd hc h) (fun _ => (k ls hl))) ?_
        clear hc
        refine Jrow (fun H locs ls hH hS hl k => lv_aload_n hx hb dX1_read_51 rfl (lv_at hl 1 rfl) (k ls hl)) ?_
        refine Jgd (fun hg => ?_)
        refine Jrow (fun H locs ls hH hS hl k => c_getN (F := 61) (v := .int (cFI σ14 (cZ σ1) 61)) hx hb hts hown hK hH hg (cN hk.2.2.1 29 rfl) (fun _ h => h) rfl dX1_read_52 (k ls hl)) ?_
        refine Jrow (fun H locs ls hH hS hl k => lv_bipush (v := (12:Int32)) hx hb dX1_read_55 (by decide) (k ls hl)) ?_
        refine Jite (fun hc => ?_) (fun hc => ?_)
        · refine Jrow (fun H locs ls hH hS hl k => lv_icmp_ne (tgt := 72) hx hb dX1_read_57 (by decide) (fun h => absurd hc h) (fun _ => (k ls hl))) ?_
          clear hc
          exact Jsub [0] rfl (hk16)
        · refine Jrow (fun H locs ls hH hS hl k => lv_icmp_ne (tgt := 72) hx hb dX1_read_57 (by decide) (fun _ => (k ls hl)) (fun h => absurd h hc)) ?_
          clear hc
          refine Jrow (fun H locs ls hH hS hl k => lv_aload_n hx hb dX1_read_72 rfl (lv_at hl 0 rfl) (k ls hl)) ?_
          refine Jrow (fun H locs ls hH hS hl k => lv_dup hx hb dX1_read_73 rfl (k ls hl)) ?_
          refine Jgd (fun hg => ?_)
          refine Jrow (fun H locs ls hH hS hl k => c_get (F := 46) (v := .int (cFI σ14 a0 46)) hx hb hts hown hK hH hg (hts _ q167) (fun _ h => h) rfl dX1_read_74 (k ls hl)) ?_
          refine Jrow (fun H locs ls hH hS hl k => lv_iconst (v := (1:Int32)) hx hb dX1_read_77 (by decide) (k ls hl)) ?_
          refine Jrow (fun H locs ls hH hS hl k => lv_iadd hx hb dX1_read_78 (k ls hl)) ?_
          refine Jgd (fun hg => ?_)
          refine Jst (σ1 := uFI σ14 a0 46 ((cFI σ14 a0 46) + (1:Int32))) rfl rfl (fun H locs ls hH hS hl k => c_putI (F := 46) (ty := .int) (x := ((cFI σ14 a0 46) + (1:Int32))) hx hb hts hown hK hH hS hg (hts _ q167) (fun _ h => h) rfl rfl (by decide +kernel) rfl rfl rfl dX1_read_79 k) (fun σ20 => ?_)
          refine Jrow (fun H locs ls hH hS hl k => lv_aload_n hx hb dX1_read_82 rfl (lv_at hl 0 rfl) (k ls hl)) ?_
          refine Jrow (fun H locs ls hH hS hl k => lv_aload_n hx hb dX1_read_83 rfl (lv_at hl 1 rfl) (k ls hl)) ?_
          refine Jgd (fun hg => ?_)
          refine Jclx (fun x22 σ21 hf => JXleave (rest := []) (fun _ => rfl) (mX1_clause l E hf).1 ⟨rfl, rfl⟩ hout hlocks (fun H locs ls hH hS hl hR => throwV (C := RX1) (As := [.ref (cZ σ1)]) ⟨hx, hb, hml, hown, hts⟩ (mX1_clause l E hf) (cwV 1 hts (lw_V q376 q378 qs0 q92 q379) rfl rfl rfl (by decide +kernel) ⟨Nat.le_of_ble_eq_true rfl, Nat.le_of_ble_eq_true rfl⟩) (c_preV (ci := 2) hk hH hS hg rfl) hS rfl rfl hl.1 rfl (lv_room (Nat.le_of_ble_eq_true rfl)) dX1_read_84 hR)) (fun _ σ21 hf => ?_)
          refine Jcall (v := none) (rest := []) (mX1_clause l E hf).1 ⟨rfl, rfl⟩ (fun H locs ls hH hS hl hR => ⟨_, va_runV (C := RX1) (As := [.ref (cZ σ1)]) ⟨hx, hb, hml, hown, hts⟩ (mX1_clause l E hf).ret.2 (cwV 1 hts (lw_V q376 q378 qs0 q92 q379) rfl rfl rfl (by decide +kernel) ⟨Nat.le_of_ble_eq_true rfl, Nat.le_of_ble_eq_true rfl⟩) (c_preV (ci := 2) hk hH hS hg rfl) rfl rfl hl.1 rfl (lv_room (Nat.le_of_ble_eq_true rfl)) dX1_read_84 hR⟩) ?_
          clear hf
          refine Jrow (fun H locs ls hH hS hl k => lv_goto (tgt := 28) hx hb dX1_read_87 (by decide) (k ls hl)) ?_
          exact Jsub [0, 1] rfl (hk12 σ21)
      · refine Jrow (fun H locs ls hH hS hl k => lv_icmp_ne (tgt := 60) hx hb dX1_read_48 (by decide) (fun _ => (k ls hl)) (fun h => absurd h hc)) ?_
        clear hc
        exact Jsub [0] rfl (hk16)
