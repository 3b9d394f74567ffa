/-! printed by gen/comp.py -/
def fX5_give (a0 : Nat) (σ : CS) : Option (Int32 × CS) :=
 gd (hf (cK σ a0) 63) (
 cl (cFR σ a0 63) (fun (x1 : Nat) =>
 gd (kd σ x1 101) (
 gd (ib (0:Int32) (cLN σ x1)) (
 gd (hf (cK σ a0) 66) (
 some ((cAI σ x1 (0:Int32).toNatClampNeg) + (cFI σ a0 66), σ))))))
theorem nX5_give {a0 : Nat} {σ : CS} : Mn σ (fX5_give a0 σ) := by
  unfold fX5_give
  refine Mgd ?_
  refine Mcl (fun x1 => ?_)
  refine Mgd ?_
  refine Mgd ?_
  refine Mgd ?_
  exact Mret
set_option maxHeartbeats 4000000 in
set_option maxRecDepth 100000 in
theorem mX5_give (l : Launch) (E : CE) {a0 : Nat} {σ : CS} {r : Int32} {σz : CS} (hX : fX5_give a0 σ = some (r, σz)) : MetC l yX5_give (ws_ yX5_give cX5_give 1 (some .int)) 0 0 E σ [.ref a0] (some (.int r)) σz := by
  refine MetC.of hX (by decide) (Nat.le_of_ble_eq_true rfl) (nX5_give _ hX) ?_
  intro p e s m below meth c hx hb hr hml hts hown hlocks hnm hk hz0
  have hK := hk.1
  show J p l e (headSpec (ws_ yX5_give cX5_give 1 (some .int)) (rmC 0 0 σ σz)).room s m ([.ref a0] : List Value).toArray below meth c 1 E (cZ σ) (cS σ) (MQ below (cQ E (some (.int r)) σz) ([.ref a0] : List Value).toArray s (cZ σz - cZ σ) (cS σz - cS σ) (EA E)) (r, σz) (fX5_give a0 σ) σ 0 [(0, .ref a0)] []
  unfold fX5_give
  refine Jrow (fun H locs ls hH hS hl k => lv_aload_n hx hb dX5_give_0 rfl (lv_at hl 0 rfl) (k ls hl)) ?_
  refine Jgd (fun hg => ?_)
  refine Jcl (fun x1 hq => ?_)
  refine Jrow (fun H locs ls hH hS hl k => c_get (F := 63) (v := .ref x1) hx hb hts hown hK hH hg (hts _ q351) (fun _ h => h) (fvR rfl hq) dX5_give_1 (k ls hl)) ?_
  clear hq
  refine Jrow (fun H locs ls hH hS hl k => lv_iconst (v := (0:Int32)) hx hb dX5_give_4 (by decide) (k ls hl)) ?_
  refine Jgd (fun hk1 => ?_)
  refine Jgd (fun hg => ?_)
  refine Jrow (fun H locs ls hH hS hl k => c_iald hx hb hK hH hk1 hg dX5_give_5 (k ls hl)) ?_
  refine Jrow (fun H locs ls hH hS hl k => lv_aload_n hx hb dX5_give_6 rfl (lv_at hl 0 rfl) (k ls hl)) ?_
  refine Jgd (fun hg => ?_)
  refine Jrow (fun H locs ls hH hS hl k => c_get (F := 66) (v := .int (cFI σ a0 66)) hx hb hts hown hK hH hg (hts _ q359) (fun _ h => h) rfl dX5_give_7 (k ls hl)) ?_
  refine Jrow (fun H locs ls hH hS hl k => lv_iadd hx hb dX5_give_10 (k ls hl)) ?_
  exact Jiret hx hb hr hlocks dX5_give_11

def fX2_move (a0 : Nat) (p1 : Int32) (p2 : Int32) (p3 : Int32) (σ : CS) : Option (Unit × CS) :=
 gd (hf (cK σ a0) 49) (
 cl (cFR σ a0 49) (fun (x1 : Nat) =>
 gd (kd σ x1 101) (
 gd (ib p1 (cLN σ x1)) (
 cl (fX2_share (cAI σ x1 p1.toNatClampNeg) p3) (fun (x2 : Int32) =>
 gd (hf (cK σ a0) 49) (
 cl (cFR σ a0 49) (fun (x3 : Nat) =>
 gd (kd σ x3 101) (
 gd (ib p1 (cLN σ x3)) (
 gd (kd σ x3 101) (
 gd (ib p1 (cLN σ x3)) (
 bd (uAI σ x3 p1.toNatClampNeg ((cAI σ x3 p1.toNatClampNeg) - x2)) (fun (σ4 : CS) =>
 gd (hf (cK σ4 a0) 49) (
 cl (cFR σ4 a0 49) (fun (x5 : Nat) =>
 gd (kd σ4 x5 101) (
 gd (ib p2 (cLN σ4 x5)) (
 gd (kd σ4 x5 101) (
 gd (ib p2 (cLN σ4 x5)) (
 bd (uAI σ4 x5 p2.toNatClampNeg ((cAI σ4 x5 p2.toNatClampNeg) + x2)) (fun (σ6 : CS) =>
 some ((), σ6))))))))))))))))))))
theorem nX2_move {a0 : Nat} {p1 : Int32} {p2 : Int32} {p3 : Int32} {σ : CS} : Mn σ (fX2_move a0 p1 p2 p3 σ) := by
  unfold fX2_move
  refine Mgd ?_
  refine Mcl (fun x1 => ?_)
  refine Mgd ?_
  refine Mgd ?_
  refine Mcl (fun x2 => ?_)
  refine Mgd ?_
  refine Mcl (fun x3 => ?_)
  refine Mgd ?_
  refine Mgd ?_
  refine Mgd ?_
  refine Mgd ?_
  refine Mst (Nat.le_refl _) (Nat.le_refl _) (fun σ4 => ?_)
  refine Mgd ?_
  refine Mcl (fun x5 => ?_)
  refine Mgd ?_
  refine Mgd ?_
  refine Mgd ?_
  refine Mgd ?_
  refine Mst (Nat.le_refl _) (Nat.le_refl _) (fun σ6 => ?_)
  exact Mret
set_option maxHeartbeats 4000000 in
set_option maxRecDepth 100000 in
theorem mX2_move (l : Launch) (E : CE) {a0 : Nat} {p1 : Int32} {p2 : Int32} {p3 : Int32} {σ : CS} {σz : CS} (hX : fX2_move a0 p1 p2 p3 σ = some ((), σz)) : MetC l yX2_move (ws_ yX2_move cX2_move 5 none) 1 21 E σ [.ref a0, .int p1, .int p2, .int p3] none σz := by
  refine MetC.of hX (by decide) (Nat.le_of_ble_eq_true rfl) (nX2_move _ hX) ?_
  intro p e s m below meth c hx hb hr hml hts hown hlocks hnm hk hz0
  have hK := hk.1
  show J p l e (headSpec (ws_ yX2_move cX2_move 5 none) (rmC 1 21 σ σz)).room s m ([.ref a0, .int p1, .int p2, .int p3] : List Value).toArray below meth c 5 E (cZ σ) (cS σ) (MQ below (cQ E none σz) ([.ref a0, .int p1, .int p2, .int p3] : List Value).toArray s (cZ σz - cZ σ) (cS σz - cS σ) (EA E)) ((), σz) (fX2_move a0 p1 p2 p3 σ) σ 0 [(0, .ref a0), (1, .int p1), (2, .int p2), (3, .int p3)] []
  unfold fX2_move
  refine Jrow (fun H locs ls hH hS hl k => lv_aload_n hx hb dX2_move_0 rfl (lv_at hl 0 rfl) (k ls hl)) ?_
  refine Jgd (fun hg => ?_)
  refine Jcl (fun x1 hq => ?_)
  refine Jrow (fun H locs ls hH hS hl k => c_get (F := 49) (v := .ref x1) hx hb hts hown hK hH hg (hts _ q191) (fun _ h => h) (fvR rfl hq) dX2_move_1 (k ls hl)) ?_
  clear hq
  refine Jrow (fun H locs ls hH hS hl k => lv_iload_n hx hb dX2_move_4 rfl (lv_at hl 1 rfl) (k ls hl)) ?_
  refine Jgd (fun hk1 => ?_)
  refine Jgd (fun hg => ?_)
  refine Jrow (fun H locs ls hH hS hl k => c_iald hx hb hK hH hk1 hg dX2_move_5 (k ls hl)) ?_
  refine Jrow (fun H locs ls hH hS hl k => lv_iload_n hx hb dX2_move_6 rfl (lv_at hl 3 rfl) (k ls hl)) ?_
  refine Jcl (fun x2 hf => ?_)
  refine JcallS (v := .int x2) (rest := []) hz0 ⟨rfl, rfl⟩ sQi_o (fun H locs ls hl hR => va_runS (As := [.int (cAI σ x1 p1.toNatClampNeg), .int p3]) ⟨hx, hb, hml, hown, hts⟩ (mX2_share l hf) (va_cwS 2 hts (lw_S q681 q682 q93 q683) rfl rfl rfl (by decide +kernel) ⟨Nat.le_of_ble_eq_true rfl, Nat.le_of_ble_eq_true rfl⟩) s_pre rfl rfl hl.1 rfl (lv_room (Nat.le_of_ble_eq_true rfl)) dX2_move_7 hR) ?_
  clear hf
  refine Jrow (fun H locs ls hH hS hl k => lv_istore (lv' := [(4, .int x2), (0, .ref a0), (1, .int p1), (2, .int p2), (3, .int p3)]) hx hb dX2_move_10 hl (by decide) rfl k) ?_
  refine Jrow (fun H locs ls hH hS hl k => lv_aload_n hx hb dX2_move_12 rfl (lv_at hl 1 rfl) (k ls hl)) ?_
  refine Jgd (fun hg => ?_)
  refine Jcl (fun x3 hq => ?_)
  refine Jrow (fun H locs ls hH hS hl k => c_get (F := 49) (v := .ref x3) hx hb hts hown hK hH hg (hts _ q191) (fun _ h => h) (fvR rfl hq) dX2_move_13 (k ls hl)) ?_
  clear hq
  refine Jrow (fun H locs ls hH hS hl k => lv_iload_n hx hb dX2_move_16 rfl (lv_at hl 2 rfl) (k ls hl)) ?_
  refine Jrow (fun H locs ls hH hS hl k => lv_dup2_11 hx hb dX2_move_17 rfl rfl (k ls hl)) ?_
  refine Jgd (fun hk1 => ?_)
  refine Jgd (fun hg => ?_)
  refine Jrow (fun H locs ls hH hS hl k => c_iald hx hb hK hH hk1 hg dX2_move_18 (k ls hl)) ?_
  refine Jrow (fun H locs ls hH hS hl k => lv_iload hx hb dX2_move_19 (lv_at hl 0 rfl) (k ls hl)) ?_
  refine Jrow (fun H locs ls hH hS hl k => lv_isub hx hb dX2_move_21 (k ls hl)) ?_
  refine Jgd (fun hk1 => ?_)
  refine Jgd (fun hg => ?_)
  refine Jst (σ1 := uAI σ x3 p1.toNatClampNeg ((cAI σ x3 p1.toNatClampNeg) - x2)) rfl rfl (fun H locs ls hH hS hl k => c_iast hx hb hK hH hS hk1 hg dX2_move_22 k) (fun σ4 => ?_)
  refine Jrow (fun H locs ls hH hS hl k => lv_aload_n hx hb dX2_move_23 rfl (lv_at hl 1 rfl) (k ls hl)) ?_
  refine Jgd (fun hg => ?_)
  refine Jcl (fun x5 hq => ?_)
  refine Jrow (fun H locs ls hH hS hl k => c_get (F := 49) (v := .ref x5) hx hb hts hown hK hH hg (hts _ q191) (fun _ h => h) (fvR rfl hq) dX2_move_24 (k ls hl)) ?_
  clear hq
  refine Jrow (fun H locs ls hH hS hl k => lv_iload_n hx hb dX2_move_27 rfl (lv_at hl 3 rfl) (k ls hl)) ?_
  refine Jrow (fun H locs ls hH hS hl k => lv_dup2_11 hx hb dX2_move_28 rfl rfl (k ls hl)) ?_
  refine Jgd (fun hk1 => ?_)
  refine Jgd (fun hg => ?_)
  refine Jrow (fun H locs ls hH hS hl k => c_iald hx hb hK hH hk1 hg dX2_move_29 (k ls hl)) ?_
  refine Jrow (fun H locs ls hH hS hl k => lv_iload hx hb dX2_move_30 (lv_at hl 0 rfl) (k ls hl)) ?_
  refine Jrow (fun H locs ls hH hS hl k => lv_iadd hx hb dX2_move_32 (k ls hl)) ?_
  refine Jgd (fun hk1 => ?_)
  refine Jgd (fun hg => ?_)
  refine Jst (σ1 := uAI σ4 x5 p2.toNatClampNeg ((cAI σ4 x5 p2.toNatClampNeg) + x2)) rfl rfl (fun H locs ls hH hS hl k => c_iast hx hb hK hH hS hk1 hg dX2_move_33 k) (fun σ6 => ?_)
  exact Jvret hx hb hr hlocks dX2_move_34

def fX2_lead (a0 : Nat) (σ : CS) : Option (Unit × CS) :=
 gd (hf (cK σ a0) 54) (
 bd ((1000000:Int32) - (cFI σ a0 54)) (fun (x1 : Int32) =>
 lp (fun _ _ _ => none) (fun (k5 : Int32 → Int32 → CS → Option (Unit × CS)) (x2 : Int32) (x3 : Int32) (σ4 : CS) =>
 if (4:Int32) ≤ x3 then
 gd (hf (cK σ4 a0) 49) (
 cl (cFR σ4 a0 49) (fun (x6 : Nat) =>
 gd (kd σ4 x6 101) (
 gd (ib (0:Int32) (cLN σ4 x6)) (
 gd (kd σ4 x6 101) (
 gd (ib (0:Int32) (cLN σ4 x6)) (
 bd (uAI σ4 x6 (0:Int32).toNatClampNeg ((cAI σ4 x6 (0:Int32).toNatClampNeg) + ((1000000:Int32) - x2))) (fun (σ7 : CS) =>
 some ((), σ7))))))))
 else
 gd (hf (cK σ4 a0) 49) (
 cl (cFR σ4 a0 49) (fun (x8 : Nat) =>
 jn (fun (x9 : Int32) => gd (kd σ4 x8 101) (
 gd (ib x3 (cLN σ4 x8)) (
 bd (uAI σ4 x8 x3.toNatClampNeg x9) (fun (σ11 : CS) =>
 gd (hf (cK σ11 a0) 49) (
 cl (cFR σ11 a0 49) (fun (x12 : Nat) =>
 gd (kd σ11 x12 101) (
 gd (ib x3 (cLN σ11 x12)) (
 bd (x2 + (cAI σ11 x12 x3.toNatClampNeg)) (fun (x13 : Int32) =>
 bd (x3 + (1:Int32)) (fun (x14 : Int32) =>
 k5 x13 x14 σ11)))))))))) (fun (k10 : Int32 → Option (Unit × CS)) =>
 if x1 = (0:Int32) then
 k10 (0:Int32)
 else
 gd (hf (cK σ4 a0) 49) (
 cl (cFR σ4 a0 49) (fun (x15 : Nat) =>
 gd (kd σ4 x15 101) (
 gd (ib x3 (cLN σ4 x15)) (
 gd (nzl (x1.toInt64)) (
 k10 (((((cAI σ4 x15 x3.toNatClampNeg).toInt64) * (1000000:Int64)) / (x1.toInt64)).toInt32)))))))))) NF (0:Int32) (0:Int32) σ))
theorem nX2_lead {a0 : Nat} {σ : CS} : Mn σ (fX2_lead a0 σ) := by
  unfold fX2_lead
  refine Mgd ?_
  refine Mbd (fun x1 => ?_)
  refine Plp3 (fun (x2 : Int32) (x3 : Int32) (σ4 : CS) (X17 : Option (Unit × CS)) => Mn σ4 X17) (fun _ _ _ => Mnone) (fun k5 hk5 x2 x3 σ4 => ?_)
  refine Mite ?_ ?_
  · refine Mgd ?_
    refine Mcl (fun x6 => ?_)
    refine Mgd ?_
    refine Mgd ?_
    refine Mgd ?_
    refine Mgd ?_
    refine Mst (Nat.le_refl _) (Nat.le_refl _) (fun σ7 => ?_)
    exact Mret
  · refine Mgd ?_
    refine Mcl (fun x8 => ?_)
    refine Mjn1 (fun (x9 : Int32) (X16 : Option (Unit × CS)) => Mn σ4 X16) (fun x9 => ?_) (fun k10 hk10 => ?_)
    · refine Mgd ?_
      refine Mgd ?_
      refine Mst (Nat.le_refl _) (Nat.le_refl _) (fun σ11 => ?_)
      refine Mgd ?_
      refine Mcl (fun x12 => ?_)
      refine Mgd ?_
      refine Mgd ?_
      refine Mbd (fun x13 => ?_)
      refine Mbd (fun x14 => ?_)
      exact hk5 x13 x14 σ11
    · refine Mite ?_ ?_
      · exact hk10 (0:Int32)
      · refine Mgd ?_
        refine Mcl (fun x15 => ?_)
        refine Mgd ?_
        refine Mgd ?_
        refine Mgd ?_
        exact hk10 (((((cAI σ4 x15 x3.toNatClampNeg).toInt64) * (1000000:Int64)) / (x1.toInt64)).toInt32)
set_option maxHeartbeats 4000000 in
set_option maxRecDepth 100000 in
theorem mX2_lead (l : Launch) (E : CE) {a0 : Nat} {σ : CS} {σz : CS} (hX : fX2_lead a0 σ = some ((), σz)) : MetC l yX2_lead (ws_ yX2_lead cX2_lead 4 none) 0 0 E σ [.ref a0] none σz := by
  refine MetC.of hX (by decide) (Nat.le_of_ble_eq_true rfl) (nX2_lead _ hX) ?_
  intro p e s m below meth c hx hb hr hml hts hown hlocks hnm hk hz0
  have hK := hk.1
  show J p l e (headSpec (ws_ yX2_lead cX2_lead 4 none) (rmC 0 0 σ σz)).room s m ([.ref a0] : List Value).toArray below meth c 4 E (cZ σ) (cS σ) (MQ below (cQ E none σz) ([.ref a0] : List Value).toArray s (cZ σz - cZ σ) (cS σz - cS σ) (EA E)) ((), σz) (fX2_lead a0 σ) σ 0 [(0, .ref a0)] []
  unfold fX2_lead
  refine Jrow (fun H locs ls hH hS hl k => lv_ldc (v := (1000000:Int32)) hx hb hown (hts _ q676) dX2_lead_0 (k ls hl)) ?_
  refine Jrow (fun H locs ls hH hS hl k => lv_aload_n hx hb dX2_lead_2 rfl (lv_at hl 0 rfl) (k ls hl)) ?_
  refine Jgd (fun hg => ?_)
  refine Jrow (fun H locs ls hH hS hl k => c_get (F := 54) (v := .int (cFI σ a0 54)) hx hb hts hown hK hH hg (hts _ q203) (fun _ h => h) rfl dX2_lead_3 (k ls hl)) ?_
  refine Jrow (fun H locs ls hH hS hl k => lv_isub hx hb dX2_lead_6 (k ls hl)) ?_
  refine JbdI (fun x1 => ?_)
  refine Jrow (fun H locs ls hH hS hl k => lv_istore_n (lv' := [(1, .int x1), (0, .ref a0)]) hx hb dX2_lead_7 rfl hl (by decide) rfl k) ?_
  refine Jrow (fun H locs ls hH hS hl k => lv_iconst (v := (0:Int32)) hx hb dX2_lead_8 (by decide) (k ls hl)) ?_
  refine Jrow (fun H locs ls hH hS hl k => lv_istore_n (lv' := [(2, .int (0:Int32)), (1, .int x1), (0, .ref a0)]) hx hb dX2_lead_9 rfl hl (by decide) rfl k) ?_
  refine Jrow (fun H locs ls hH hS hl k => lv_iconst (v := (0:Int32)) hx hb dX2_lead_10 (by decide) (k ls hl)) ?_
  refine Jrow (fun H locs ls hH hS hl k => lv_istore_n (lv' := [(3, .int (0:Int32)), (2, .int (0:Int32)), (1, .int x1), (0, .ref a0)]) hx hb dX2_lead_11 rfl hl (by decide) rfl k) ?_
  refine Jsub [3, 2, 1, 0] rfl (Plp3 (fun (x2 : Int32) (x3 : Int32) (σ4 : CS) X17 => J p l e (headSpec (ws_ yX2_lead cX2_lead 4 none) (rmC 0 0 σ σz)).room s m ([.ref a0] : List Value).toArray below meth c 4 E (cZ σ) (cS σ) (MQ below (cQ E none σz) ([.ref a0] : List Value).toArray s (cZ σz - cZ σ) (cS σz - cS σ) (EA E)) ((), σz) X17 σ4 12 [(0, .ref a0), (1, .int x1), (2, .int x2), (3, .int x3)] []) (fun _ _ _ => Jnone) (fun k5 hk5 x2 x3 σ4 => ?_))
  refine Jrow (fun H locs ls hH hS hl k => lv_iload_n hx hb dX2_lead_12 rfl (lv_at hl 3 rfl) (k ls hl)) ?_
  refine Jrow (fun H locs ls hH hS hl k => lv_iconst (v := (4:Int32)) hx hb dX2_lead_13 (by decide) (k ls hl)) ?_
  refine Jite (fun hc => ?_) (fun hc => ?_)
  · refine Jrow (fun H locs ls hH hS hl k => lv_icmp_ge (tgt := 61) hx hb dX2_lead_14 (by decide) (fun _ => (k ls hl)) (fun h => absurd hc h)) ?_
    clear hc
    refine Jrow (fun H locs ls hH hS hl k => lv_aload_n hx hb dX2_lead_61 rfl (lv_at hl 0 rfl) (k ls hl)) ?_
    refine Jgd (fun hg => ?_)
    refine Jcl (fun x6 hq => ?_)
    refine Jrow (fun H locs ls hH hS hl k => c_get (F := 49) (v := .ref x6) hx hb hts hown hK hH hg (hts _ q191) (fun _ h => h) (fvR rfl hq) dX2_lead_62 (k ls hl)) ?_
    clear hq
    refine Jrow (fun H locs ls hH hS hl k => lv_iconst (v := (0:Int32)) hx hb dX2_lead_65 (by decide) (k ls hl)) ?_
    refine Jrow (fun H locs ls hH hS hl k => lv_dup2_11 hx hb dX2_lead_66 rfl rfl (k ls hl)) ?_
    refine Jgd (fun hk1 => ?_)
    refine Jgd (fun hg => ?_)
    refine Jrow (fun H locs ls hH hS hl k => c_iald hx hb hK hH hk1 hg dX2_lead_67 (k ls hl)) ?_
    refine Jrow (fun H locs ls hH hS hl k => lv_ldc (v := (1000000:Int32)) hx hb hown (hts _ q676) dX2_lead_68 (k ls hl)) ?_
    refine Jrow (fun H locs ls hH hS hl k => lv_iload_n hx hb dX2_lead_70 rfl (lv_at hl 2 rfl) (k ls hl)) ?_
    refine Jrow (fun H locs ls hH hS hl k => lv_isub hx hb dX2_lead_71 (k ls hl)) ?_
    refine Jrow (fun H locs ls hH hS hl k => lv_iadd hx hb dX2_lead_72 (k ls hl)) ?_
    refine Jgd (fun hk1 => ?_)
    refine Jgd (fun hg => ?_)
    refine Jst (σ1 := uAI σ4 x6 (0:Int32).toNatClampNeg ((cAI σ4 x6 (0:Int32).toNatClampNeg) + ((1000000:Int32) - x2))) rfl rfl (fun H locs ls hH hS hl k => c_iast hx hb hK hH hS hk1 hg dX2_lead_73 k) (fun σ7 => ?_)
    exact Jvret hx hb hr hlocks dX2_lead_74
  · refine Jrow (fun H locs ls hH hS hl k => lv_icmp_ge (tgt := 61) hx hb dX2_lead_14 (by decide) (fun h => absurd h hc) (fun _ => (k ls hl))) ?_
    clear hc
    refine Jrow (fun H locs ls hH hS hl k => lv_aload_n hx hb dX2_lead_17 rfl (lv_at hl 0 rfl) (k ls hl)) ?_
    refine Jgd (fun hg => ?_)
    refine Jcl (fun x8 hq => ?_)
    refine Jrow (fun H locs ls hH hS hl k => c_get (F := 49) (v := .ref x8) hx hb hts hown hK hH hg (hts _ q191) (fun _ h => h) (fvR rfl hq) dX2_lead_18 (k ls hl)) ?_
    clear hq
    refine Jrow (fun H locs ls hH hS hl k => lv_iload_n hx hb dX2_lead_21 rfl (lv_at hl 3 rfl) (k ls hl)) ?_
    refine Jrow (fun H locs ls hH hS hl k => lv_iload_n hx hb dX2_lead_22 rfl (lv_at hl 1 rfl) (k ls hl)) ?_
    refine Jjn1 (fun (x9 : Int32) X16 => J p l e (headSpec (ws_ yX2_lead cX2_lead 4 none) (rmC 0 0 σ σz)).room s m ([.ref a0] : List Value).toArray below meth c 4 E (cZ σ) (cS σ) (MQ below (cQ E none σz) ([.ref a0] : List Value).toArray s (cZ σz - cZ σ) (cS σz - cS σ) (EA E)) ((), σz) X16 σ4 45 [(0, .ref a0), (1, .int x1), (2, .int x2), (3, .int x3)] [.int x9, .int x3, .ref x8]) (fun x9 => ?_) (fun k10 hk10 => ?_)
    · refine Jgd (fun hk1 => ?_)
      refine Jgd (fun hg => ?_)
      refine Jst (σ1 := uAI σ4 x8 x3.toNatClampNeg x9) rfl rfl (fun H locs ls hH hS hl k => c_iast hx hb hK hH hS hk1 hg dX2_lead_45 k) (fun σ11 => ?_)
      refine Jrow (fun H locs ls hH hS hl k => lv_iload_n hx hb dX2_lead_46 rfl (lv_at hl 2 rfl) (k ls hl)) ?_
      refine Jrow (fun H locs ls hH hS hl k => lv_aload_n hx hb dX2_lead_47 rfl (lv_at hl 0 rfl) (k ls hl)) ?_
      refine Jgd (fun hg => ?_)
      refine Jcl (fun x12 hq => ?_)
      refine Jrow (fun H locs ls hH hS hl k => c_get (F := 49) (v := .ref x12) hx hb hts hown hK hH hg (hts _ q191) (fun _ h => h) (fvR rfl hq) dX2_lead_48 (k ls hl)) ?_
      clear hq
      refine Jrow (fun H locs ls hH hS hl k => lv_iload_n hx hb dX2_lead_51 rfl (lv_at hl 3 rfl) (k ls hl)) ?_
      refine Jgd (fun hk1 => ?_)
      refine Jgd (fun hg => ?_)
      refine Jrow (fun H locs ls hH hS hl k => c_iald hx hb hK hH hk1 hg dX2_lead_52 (k ls hl)) ?_
      refine Jrow (fun H locs ls hH hS hl k => lv_iadd hx hb dX2_lead_53 (k ls hl)) ?_
      refine JbdI (fun x13 => ?_)
      refine Jrow (fun H locs ls hH hS hl k => lv_istore_n (lv' := [(2, .int x13), (0, .ref a0), (1, .int x1), (3, .int x3)]) hx hb dX2_lead_54 rfl hl (by decide) rfl k) ?_
      refine Jbd (fun x14 ex14 => ?_)
      refine Jrow (fun H locs ls hH hS hl k => lv_iinc (v := x14) (lv' := [(3, .int x14), (2, .int x13), (0, .ref a0), (1, .int x1)]) hx hb dX2_lead_55 hl (k := 3) rfl (by rw [ex14]; rfl) (by decide) rfl k) ?_
      clear ex14
      refine Jrow (fun H locs ls hH hS hl k => lv_goto (tgt := 12) hx hb dX2_lead_58 (by decide) (k ls hl)) ?_
      exact Jsub [2, 3, 1, 0] rfl (hk5 x13 x14 σ11)
    · refine Jite (fun hc => ?_) (fun hc => ?_)
      · refine Jrow (fun H locs ls hH hS hl k => lv_if_ne (tgt := 30) hx hb dX2_lead_23 (by decide) (fun h => absurd hc h) (fun _ => (k ls hl))) ?_
        clear hc
        refine Jrow (fun H locs ls hH hS hl k => lv_iconst (v := (0:Int32)) hx hb dX2_lead_26 (by decide) (k ls hl)) ?_
        refine Jrow (fun H locs ls hH hS hl k => lv_goto (tgt := 45) hx hb dX2_lead_27 (by decide) (k ls hl)) ?_
        exact Jsub [0, 1, 2, 3] rfl (hk10 (0:Int32))
      · refine Jrow (fun H locs ls hH hS hl k => lv_if_ne (tgt := 30) hx hb dX2_lead_23 (by decide) (fun _ => (k ls hl)) (fun h => absurd h hc)) ?_
        clear hc
        refine Jrow (fun H locs ls hH hS hl k => lv_aload_n hx hb dX2_lead_30 rfl (lv_at hl 0 rfl) (k ls hl)) ?_
        refine Jgd (fun hg => ?_)
        refine Jcl (fun x15 hq => ?_)
        refine Jrow (fun H locs ls hH hS hl k => c_get (F := 49) (v := .ref x15) hx hb hts hown hK hH hg (hts _ q191) (fun _ h => h) (fvR rfl hq) dX2_lead_31 (k ls hl)) ?_
        clear hq
        refine Jrow (fun H locs ls hH hS hl k => lv_iload_n hx hb dX2_lead_34 rfl (lv_at hl 3 rfl) (k ls hl)) ?_
        refine Jgd (fun hk1 => ?_)
        refine Jgd (fun hg => ?_)
        refine Jrow (fun H locs ls hH hS hl k => c_iald hx hb hK hH hk1 hg dX2_lead_35 (k ls hl)) ?_
        refine Jrow (fun H locs ls hH hS hl k => lv_i2l hx hb dX2_lead_36 rfl (k ls hl)) ?_
        refine Jrow (fun H locs ls hH hS hl k => lv_ldc2 (v := (1000000:Int64)) hx hb hown (hts _ q744) dX2_lead_37 (k ls hl)) ?_
        refine Jrow (fun H locs ls hH hS hl k => lv_lmul hx hb dX2_lead_40 (k ls hl)) ?_
        refine Jrow (fun H locs ls hH hS hl k => lv_iload_n hx hb dX2_lead_41 rfl (lv_at hl 1 rfl) (k ls hl)) ?_
        refine Jrow (fun H locs ls hH hS hl k => lv_i2l hx hb dX2_lead_42 rfl (k ls hl)) ?_
        refine Jgd (fun hg => ?_)
        refine Jrow (fun H locs ls hH hS hl k => lv_ldiv hx hb dX2_lead_43 (nzl_ne hg) (k ls hl)) ?_
        refine Jrow (fun H locs ls hH hS hl k => lv_l2i hx hb dX2_lead_44 rfl (k ls hl)) ?_
        exact Jsub [0, 1, 2, 3] rfl (hk10 (((((cAI σ4 x15 x3.toNatClampNeg).toInt64) * (1000000:Int64)) / (x1.toInt64)).toInt32))

def fX2_day (a0 : Nat) (σ : CS) : Option (Unit × CS) :=
 lp (fun _ _ => none) (fun (k3 : Int32 → CS → Option (Unit × CS)) (x1 : Int32) (σ2 : CS) =>
 if x1 < (1:Int32) then
 lp (fun _ _ => none) (fun (k6 : Int32 → CS → Option (Unit × CS)) (x4 : Int32) (σ5 : CS) =>
 if (4:Int32) ≤ x4 then
 gd (hf (cK σ5 a0) 54) (
 bd (uFI σ5 a0 54 (0:Int32)) (fun (σ7 : CS) =>
 lp (fun _ _ => none) (fun (k10 : Int32 → CS → Option (Unit × CS)) (x8 : Int32) (σ9 : CS) =>
 if (4:Int32) ≤ x8 then
 gd (kd σ9 a0 4) (
 cl2 (fX2_lead a0 σ9) (fun (_ : Unit) (σ11 : CS) =>
 gd (hf (cK σ11 a0) 53) (
 gd (hf (cK σ11 a0) 53) (
 bd (uFI σ11 a0 53 ((cFI σ11 a0 53) + (1:Int32))) (fun (σ13 : CS) =>
 some ((), σ13))))))
 else
 gd (hf (cK σ9 a0) 49) (
 cl (cFR σ9 a0 49) (fun (x14 : Nat) =>
 gd (kd σ9 x14 101) (
 gd (ib x8 (cLN σ9 x14)) (
 gd (hf (cK σ9 a0) 50) (
 cl (cFR σ9 a0 50) (fun (x15 : Nat) =>
 gd (hf (cK σ9 x15) 63) (
 cl (cFR σ9 x15 63) (fun (x16 : Nat) =>
 gd (kd σ9 x16 101) (
 gd (ib (1:Int32) (cLN σ9 x16)) (
 cl (fX5_times x8 (cAI σ9 x16 (1:Int32).toNatClampNeg)) (fun (x17 : Int32) =>
 cl (fX2_share (cAI σ9 x14 x8.toNatClampNeg) x17) (fun (x18 : Int32) =>
 gd (hf (cK σ9 a0) 49) (
 cl (cFR σ9 a0 49) (fun (x19 : Nat) =>
 gd (kd σ9 x19 101) (
 gd (ib x8 (cLN σ9 x19)) (
 gd (kd σ9 x19 101) (
 gd (ib x8 (cLN σ9 x19)) (
 bd (uAI σ9 x19 x8.toNatClampNeg ((cAI σ9 x19 x8.toNatClampNeg) - x18)) (fun (σ20 : CS) =>
 gd (hf (cK σ20 a0) 54) (
 gd (hf (cK σ20 a0) 54) (
 bd (uFI σ20 a0 54 ((cFI σ20 a0 54) + x18)) (fun (σ21 : CS) =>
 bd (x8 + (1:Int32)) (fun (x22 : Int32) =>
 k10 x22 σ21)))))))))))))))))))))))) NF (1:Int32) σ7))
 else
 gd (hf (cK σ5 a0) 50) (
 cl (cFR σ5 a0 50) (fun (x24 : Nat) =>
 gd (hf (cK σ5 x24) 63) (
 cl (cFR σ5 x24 63) (fun (x25 : Nat) =>
 gd (kd σ5 x25 101) (
 gd (ib (2:Int32) (cLN σ5 x25)) (
 cl (fX5_times x4 (cAI σ5 x25 (2:Int32).toNatClampNeg)) (fun (x26 : Int32) =>
 gd (kd σ5 a0 4) (
 cl2 (fX2_move a0 x4 (x4 - (1:Int32)) x26 σ5) (fun (_ : Unit) (σ27 : CS) =>
 bd (x4 + (1:Int32)) (fun (x29 : Int32) =>
 k6 x29 σ27))))))))))) NF (1:Int32) σ2
 else
 gd (hf (cK σ2 a0) 51) (
 jn (fun (σ31 : CS) => bd (x1 + (-1:Int32)) (fun (x33 : Int32) =>
 k3 x33 σ31)) (fun (k32 : CS → Option (Unit × CS)) =>
 if (cFI σ2 a0 51) ≤ x1 then
 k32 σ2
 else
 gd (hf (cK σ2 a0) 50) (
 cl (cFR σ2 a0 50) (fun (x34 : Nat) =>
 gd (kd σ2 x34 6) (
 cl2 (fX5_give x34 σ2) (fun (x36 : Int32) (σ35 : CS) =>
 cl (fX5_times x1 x36) (fun (x37 : Int32) =>
 gd (kd σ35 a0 4) (
 cl2 (fX2_move a0 x1 (x1 + (1:Int32)) x37 σ35) (fun (_ : Unit) (σ38 : CS) =>
 k32 σ38)))))))))) NF (2:Int32) σ
theorem nX2_day {a0 : Nat} {σ : CS} : Mn σ (fX2_day a0 σ) := by
  unfold fX2_day
  refine Plp2 (fun (x1 : Int32) (σ2 : CS) (X41 : Option (Unit × CS)) => Mn σ2 X41) (fun _ _ => Mnone) (fun k3 hk3 x1 σ2 => ?_)
  refine Mite ?_ ?_
  · refine Plp2 (fun (x4 : Int32) (σ5 : CS) (X30 : Option (Unit × CS)) => Mn σ5 X30) (fun _ _ => Mnone) (fun k6 hk6 x4 σ5 => ?_)
    refine Mite ?_ ?_
    · refine Mgd ?_
      refine Mst (Nat.le_refl _) (Nat.le_refl _) (fun σ7 => ?_)
      refine Plp2 (fun (x8 : Int32) (σ9 : CS) (X23 : Option (Unit × CS)) => Mn σ9 X23) (fun _ _ => Mnone) (fun k10 hk10 x8 σ9 => ?_)
      refine Mite ?_ ?_
      · refine Mgd ?_
        refine Mcl2 (nX2_lead) (fun _ σ11 => ?_)
        refine Mgd ?_
        refine Mgd ?_
        refine Mst (Nat.le_refl _) (Nat.le_refl _) (fun σ13 => ?_)
        exact Mret
      · refine Mgd ?_
        refine Mcl (fun x14 => ?_)
        refine Mgd ?_
        refine Mgd ?_
        refine Mgd ?_
        refine Mcl (fun x15 => ?_)
        refine Mgd ?_
        refine Mcl (fun x16 => ?_)
        refine Mgd ?_
        refine Mgd ?_
        refine Mcl (fun x17 => ?_)
        refine Mcl (fun x18 => ?_)
        refine Mgd ?_
        refine Mcl (fun x19 => ?_)
        refine Mgd ?_
        refine Mgd ?_
        refine Mgd ?_
        refine Mgd ?_
        refine Mst (Nat.le_refl _) (Nat.le_refl _) (fun σ20 => ?_)
        refine Mgd ?_
        refine Mgd ?_
        refine Mst (Nat.le_refl _) (Nat.le_refl _) (fun σ21 => ?_)
        refine Mbd (fun x22 => ?_)
        exact hk10 x22 σ21
    · refine Mgd ?_
      refine Mcl (fun x24 => ?_)
      refine Mgd ?_
      refine Mcl (fun x25 => ?_)
      refine Mgd ?_
      refine Mgd ?_
      refine Mcl (fun x26 => ?_)
      refine Mgd ?_
      refine Mcl2 (nX2_move) (fun _ σ27 => ?_)
      refine Mbd (fun x29 => ?_)
      exact hk6 x29 σ27
  · refine Mgd ?_
    refine Mjn1 (fun (σ31 : CS) (X40 : Option (Unit × CS)) => Mn σ31 X40) (fun σ31 => ?_) (fun k32 hk32 => ?_)
    · refine Mbd (fun x33 => ?_)
      exact hk3 x33 σ31
    · refine Mite ?_ ?_
      · exact hk32 σ2
      · refine Mgd ?_
        refine Mcl (fun x34 => ?_)
        refine Mgd ?_
        refine Mcl2 (nX5_give) (fun x36 σ35 => ?_)
        refine Mcl (fun x37 => ?_)
        refine Mgd ?_
        refine Mcl2 (nX2_move) (fun _ σ38 => ?_)
        exact hk32 σ38
set_option maxHeartbeats 4000000 in
set_option maxRecDepth 100000 in
theorem mX2_day (l : Launch) (E : CE) {a0 : Nat} {σ : CS} {σz : CS} (hX : fX2_day a0 σ = some ((), σz)) : MetC l yX2_day (ws_ yX2_day cX2_day 3 none) 2 45 E σ [.ref a0] none σz := by
  refine MetC.of hX (by decide) (Nat.le_of_ble_eq_true rfl) (nX2_day _ hX) ?_
  intro p e s m below meth c hx hb hr hml hts hown hlocks hnm hk hz0
  have hK := hk.1
  show J p l e (headSpec (ws_ yX2_day cX2_day 3 none) (rmC 2 45 σ σz)).room s m ([.ref a0] : List Value).toArray below meth c 3 E (cZ σ) (cS σ) (MQ below (cQ E none σz) ([.ref a0] : List Value).toArray s (cZ σz - cZ σ) (cS σz - cS σ) (EA E)) ((), σz) (fX2_day a0 σ) σ 0 [(0, .ref a0)] []
  unfold fX2_day
  refine Jrow (fun H locs ls hH hS hl k => lv_iconst (v := (2:Int32)) hx hb dX2_day_0 (by decide) (k ls hl)) ?_
  refine Jrow (fun H locs ls hH hS hl k => lv_istore_n (lv' := [(1, .int (2:Int32)), (0, .ref a0)]) hx hb dX2_day_1 rfl hl (by decide) rfl k) ?_
  refine Jsub [1, 0] rfl (Plp2 (fun (x1 : Int32) (σ2 : CS) X41 => J p l e (headSpec (ws_ yX2_day cX2_day 3 none) (rmC 2 45 σ σz)).room s m ([.ref a0] : List Value).toArray below meth c 3 E (cZ σ) (cS σ) (MQ below (cQ E none σz) ([.ref a0] : List Value).toArray s (cZ σz - cZ σ) (cS σz - cS σ) (EA E)) ((), σz) X41 σ2 2 [(0, .ref a0), (1, .int x1)] []) (fun _ _ => Jnone) (fun k3 hk3 x1 σ2 => ?_))
  refine Jrow (fun H locs ls hH hS hl k => lv_iload_n hx hb dX2_day_2 rfl (lv_at hl 1 rfl) (k ls hl)) ?_
  refine Jrow (fun H locs ls hH hS hl k => lv_iconst (v := (1:Int32)) hx hb dX2_day_3 (by decide) (k ls hl)) ?_
  refine Jite (fun hc => ?_) (fun hc => ?_)
  · refine Jrow (fun H locs ls hH hS hl k => lv_icmp_lt (tgt := 40) hx hb dX2_day_4 (by decide) (fun _ => (k ls hl)) (fun h => absurd hc h)) ?_
    clear hc
    refine Jrow (fun H locs ls hH hS hl k => lv_iconst (v := (1:Int32)) hx hb dX2_day_40 (by decide) (k ls hl)) ?_
    refine Jrow (fun H locs ls hH hS hl k => lv_istore_n (lv' := [(1, .int (1:Int32)), (0, .ref a0)]) hx hb dX2_day_41 rfl hl (by decide) rfl k) ?_
    refine Jsub [1, 0] rfl (Plp2 (fun (x4 : Int32) (σ5 : CS) X30 => J p l e (headSpec (ws_ yX2_day cX2_day 3 none) (rmC 2 45 σ σz)).room s m ([.ref a0] : List Value).toArray below meth c 3 E (cZ σ) (cS σ) (MQ below (cQ E none σz) ([.ref a0] : List Value).toArray s (cZ σz - cZ σ) (cS σz - cS σ) (EA E)) ((), σz) X30 σ5 42 [(0, .ref a0), (1, .int x4)] []) (fun _ _ => Jnone) (fun k6 hk6 x4 σ5 => ?_))
    refine Jrow (fun H locs ls hH hS hl k => lv_iload_n hx hb dX2_day_42 rfl (lv_at hl 1 rfl) (k ls hl)) ?_
    refine Jrow (fun H locs ls hH hS hl k => lv_iconst (v := (4:Int32)) hx hb dX2_day_43 (by decide) (k ls hl)) ?_
    refine Jite (fun hc => ?_) (fun hc => ?_)
    · refine Jrow (fun H locs ls hH hS hl k => lv_icmp_ge (tgt := 74) hx hb dX2_day_44 (by decide) (fun _ => (k ls hl)) (fun h => absurd hc h)) ?_
      clear hc
      refine Jrow (fun H locs ls hH hS hl k => lv_aload_n hx hb dX2_day_74 rfl (lv_at hl 0 rfl) (k ls hl)) ?_
      refine Jrow (fun H locs ls hH hS hl k => lv_iconst (v := (0:Int32)) hx hb dX2_day_75 (by decide) (k ls hl)) ?_
      refine Jgd (fun hg => ?_)
      refine Jst (σ1 := uFI σ5 a0 54 (0:Int32)) rfl rfl (fun H locs ls hH hS hl k => c_putI (F := 54) (ty := .int) (x := (0:Int32)) hx hb hts hown hK hH hS hg (hts _ q203) (fun _ h => h) rfl rfl (by decide +kernel) rfl rfl rfl dX2_day_76 k) (fun σ7 => ?_)
      refine Jrow (fun H locs ls hH hS hl k => lv_iconst (v := (1:Int32)) hx hb dX2_day_79 (by decide) (k ls hl)) ?_
      refine Jrow (fun H locs ls hH hS hl k => lv_istore_n (lv' := [(1, .int (1:Int32)), (0, .ref a0)]) hx hb dX2_day_80 rfl hl (by decide) rfl k) ?_
      refine Jsub [1, 0] rfl (Plp2 (fun (x8 : Int32) (σ9 : CS) X23 => J p l e (headSpec (ws_ yX2_day cX2_day 3 none) (rmC 2 45 σ σz)).room s m ([.ref a0] : List Value).toArray below meth c 3 E (cZ σ) (cS σ) (MQ below (cQ E none σz) ([.ref a0] : List Value).toArray s (cZ σz - cZ σ) (cS σz - cS σ) (EA E)) ((), σz) X23 σ9 81 [(0, .ref a0), (1, .int x8)] []) (fun _ _ => Jnone) (fun k10 hk10 x8 σ9 => ?_))
      refine Jrow (fun H locs ls hH hS hl k => lv_iload_n hx hb dX2_day_81 rfl (lv_at hl 1 rfl) (k ls hl)) ?_
      refine Jrow (fun H locs ls hH hS hl k => lv_iconst (v := (4:Int32)) hx hb dX2_day_82 (by decide) (k ls hl)) ?_
      refine Jite (fun hc => ?_) (fun hc => ?_)
      · refine Jrow (fun H locs ls hH hS hl k => lv_icmp_ge (tgt := 135) hx hb dX2_day_83 (by decide) (fun _ => (k ls hl)) (fun h => absurd hc h)) ?_
        clear hc
        refine Jrow (fun H locs ls hH hS hl k => lv_aload_n hx hb dX2_day_135 rfl (lv_at hl 0 rfl) (k ls hl)) ?_
        refine Jgd (fun hg => ?_)
        refine Jcl2 (fun _ σ11 hf => ?_)
        refine Jcall (v := none) (rest := []) (mX2_lead l E hf).1 ⟨rfl, rfl⟩ (fun H locs ls hH hS hl hR => ⟨_, va_runV (C := RX2) (As := []) ⟨hx, hb, hml, hown, hts⟩ (mX2_lead l E hf).2 (cwV 0 hts (lw_V q740 q742 qs19 q93 q743) rfl rfl rfl (by decide +kernel) ⟨Nat.le_of_ble_eq_true rfl, Nat.le_of_ble_eq_true rfl⟩) (c_preV (ci := 3) hk hH hS hg rfl) rfl rfl hl.1 rfl (lv_room (Nat.le_of_ble_eq_true rfl)) dX2_day_136 hR⟩) ?_
        clear hf
        refine Jrow (fun H locs ls hH hS hl k => lv_aload_n hx hb dX2_day_139 rfl (lv_at hl 0 rfl) (k ls hl)) ?_
        refine Jrow (fun H locs ls hH hS hl k => lv_dup hx hb dX2_day_140 rfl (k ls hl)) ?_
        refine Jgd (fun hg => ?_)
        refine Jrow (fun H locs ls hH hS hl k => c_get (F := 53) (v := .int (cFI σ11 a0 53)) hx hb hts hown hK hH hg (hts _ q200) (fun _ h => h) rfl dX2_day_141 (k ls hl)) ?_
        refine Jrow (fun H locs ls hH hS hl k => lv_iconst (v := (1:Int32)) hx hb dX2_day_144 (by decide) (k ls hl)) ?_
        refine Jrow (fun H locs ls hH hS hl k => lv_iadd hx hb dX2_day_145 (k ls hl)) ?_
        refine Jgd (fun hg => ?_)
        refine Jst (σ1 := uFI σ11 a0 53 ((cFI σ11 a0 53) + (1:Int32))) rfl rfl (fun H locs ls hH hS hl k => c_putI (F := 53) (ty := .int) (x := ((cFI σ11 a0 53) + (1:Int32))) hx hb hts hown hK hH hS hg (hts _ q200) (fun _ h => h) rfl rfl (by decide +kernel) rfl rfl rfl dX2_day_146 k) (fun σ13 => ?_)
        exact Jvret hx hb hr hlocks dX2_day_149
      · refine Jrow (fun H locs ls hH hS hl k => lv_icmp_ge (tgt := 135) hx hb dX2_day_83 (by decide) (fun h => absurd h hc) (fun _ => (k ls hl))) ?_
        clear hc
        refine Jrow (fun H locs ls hH hS hl k => lv_aload_n hx hb dX2_day_86 rfl (lv_at hl 0 rfl) (k ls hl)) ?_
        refine Jgd (fun hg => ?_)
        refine Jcl (fun x14 hq => ?_)
        refine Jrow (fun H locs ls hH hS hl k => c_get (F := 49) (v := .ref x14) hx hb hts hown hK hH hg (hts _ q191) (fun _ h => h) (fvR rfl hq) dX2_day_87 (k ls hl)) ?_
        clear hq
        refine Jrow (fun H locs ls hH hS hl k => lv_iload_n hx hb dX2_day_90 rfl (lv_at hl 1 rfl) (k ls hl)) ?_
        refine Jgd (fun hk1 => ?_)
        refine Jgd (fun hg => ?_)
        refine Jrow (fun H locs ls hH hS hl k => c_iald hx hb hK hH hk1 hg dX2_day_91 (k ls hl)) ?_
        refine Jrow (fun H locs ls hH hS hl k => lv_iload_n hx hb dX2_day_92 rfl (lv_at hl 1 rfl) (k ls hl)) ?_
        refine Jrow (fun H locs ls hH hS hl k => lv_aload_n hx hb dX2_day_93 rfl (lv_at hl 0 rfl) (k ls hl)) ?_
        refine Jgd (fun hg => ?_)
        refine Jcl (fun x15 hq => ?_)
        refine Jrow (fun H locs ls hH hS hl k => c_get (F := 50) (v := .ref x15) hx hb hts hown hK hH hg (hts _ q193) (fun _ h => h) (fvR rfl hq) dX2_day_94 (k ls hl)) ?_
        clear hq
        refine Jgd (fun hg => ?_)
        refine Jcl (fun x16 hq => ?_)
        refine Jrow (fun H locs ls hH hS hl k => c_getN (F := 63) (v := .ref x16) hx hb hts hown hK hH hg (cN hk.2.2.1 77 rfl) (fun _ h => h) (fvR rfl hq) dX2_day_97 (k ls hl)) ?_
        clear hq
        refine Jrow (fun H locs ls hH hS hl k => lv_iconst (v := (1:Int32)) hx hb dX2_day_100 (by decide) (k ls hl)) ?_
        refine Jgd (fun hk1 => ?_)
        refine Jgd (fun hg => ?_)
        refine Jrow (fun H locs ls hH hS hl k => c_iald hx hb hK hH hk1 hg dX2_day_101 (k ls hl)) ?_
        refine Jcl (fun x17 hf => ?_)
        refine JcallS (v := .int x17) (rest := [.int (cAI σ9 x14 x8.toNatClampNeg)]) hz0 ⟨rfl, rfl⟩ sQi_o (fun H locs ls hl hR => va_runS (As := [.int x8, .int (cAI σ9 x16 (1:Int32).toNatClampNeg)]) ⟨hx, hb, hml, hown, hts⟩ (mX5_times l hf) (va_cwS 2 hts (lw_S q736 q737 q96 q738) rfl rfl rfl (by decide +kernel) ⟨Nat.le_of_ble_eq_true rfl, Nat.le_of_ble_eq_true rfl⟩) s_pre rfl rfl hl.1 rfl (lv_room (Nat.le_of_ble_eq_true rfl)) dX2_day_102 hR) ?_
        clear hf
        refine Jcl (fun x18 hf => ?_)
        refine JcallS (v := .int x18) (rest := []) hz0 ⟨rfl, rfl⟩ sQi_o (fun H locs ls hl hR => va_runS (As := [.int (cAI σ9 x14 x8.toNatClampNeg), .int x17]) ⟨hx, hb, hml, hown, hts⟩ (mX2_share l hf) (va_cwS 2 hts (lw_S q681 q682 q93 q683) rfl rfl rfl (by decide +kernel) ⟨Nat.le_of_ble_eq_true rfl, Nat.le_of_ble_eq_true rfl⟩) s_pre rfl rfl hl.1 rfl (lv_room (Nat.le_of_ble_eq_true rfl)) dX2_day_105 hR) ?_
        clear hf
        refine Jrow (fun H locs ls hH hS hl k => lv_istore_n (lv' := [(2, .int x18), (0, .ref a0), (1, .int x8)]) hx hb dX2_day_108 rfl hl (by decide) rfl k) ?_
        refine Jrow (fun H locs ls hH hS hl k => lv_aload_n hx hb dX2_day_109 rfl (lv_at hl 1 rfl) (k ls hl)) ?_
        refine Jgd (fun hg => ?_)
        refine Jcl (fun x19 hq => ?_)
        refine Jrow (fun H locs ls hH hS hl k => c_get (F := 49) (v := .ref x19) hx hb hts hown hK hH hg (hts _ q191) (fun _ h => h) (fvR rfl hq) dX2_day_110 (k ls hl)) ?_
        clear hq
        refine Jrow (fun H locs ls hH hS hl k => lv_iload_n hx hb dX2_day_113 rfl (lv_at hl 2 rfl) (k ls hl)) ?_
        refine Jrow (fun H locs ls hH hS hl k => lv_dup2_11 hx hb dX2_day_114 rfl rfl (k ls hl)) ?_
        refine Jgd (fun hk1 => ?_)
        refine Jgd (fun hg => ?_)
        refine Jrow (fun H locs ls hH hS hl k => c_iald hx hb hK hH hk1 hg dX2_day_115 (k ls hl)) ?_
        refine Jrow (fun H locs ls hH hS hl k => lv_iload_n hx hb dX2_day_116 rfl (lv_at hl 0 rfl) (k ls hl)) ?_
        refine Jrow (fun H locs ls hH hS hl k => lv_isub hx hb dX2_day_117 (k ls hl)) ?_
        refine Jgd (fun hk1 => ?_)
        refine Jgd (fun hg => ?_)
        refine Jst (σ1 := uAI σ9 x19 x8.toNatClampNeg ((cAI σ9 x19 x8.toNatClampNeg) - x18)) rfl rfl (fun H locs ls hH hS hl k => c_iast hx hb hK hH hS hk1 hg dX2_day_118 k) (fun σ20 => ?_)
        refine Jrow (fun H locs ls hH hS hl k => lv_aload_n hx hb dX2_day_119 rfl (lv_at hl 1 rfl) (k ls hl)) ?_
        refine Jrow (fun H locs ls hH hS hl k => lv_dup hx hb dX2_day_120 rfl (k ls hl)) ?_
        refine Jgd (fun hg => ?_)
        refine Jrow (fun H locs ls hH hS hl k => c_get (F := 54) (v := .int (cFI σ20 a0 54)) hx hb hts hown hK hH hg (hts _ q203) (fun _ h => h) rfl dX2_day_121 (k ls hl)) ?_
        refine Jrow (fun H locs ls hH hS hl k => lv_iload_n hx hb dX2_day_124 rfl (lv_at hl 0 rfl) (k ls hl)) ?_
        refine Jrow (fun H locs ls hH hS hl k => lv_iadd hx hb dX2_day_125 (k ls hl)) ?_
        refine Jgd (fun hg => ?_)
        refine Jst (σ1 := uFI σ20 a0 54 ((cFI σ20 a0 54) + x18)) rfl rfl (fun H locs ls hH hS hl k => c_putI (F := 54) (ty := .int) (x := ((cFI σ20 a0 54) + x18)) hx hb hts hown hK hH hS hg (hts _ q203) (fun _ h => h) rfl rfl (by decide +kernel) rfl rfl rfl dX2_day_126 k) (fun σ21 => ?_)
        refine Jbd (fun x22 ex22 => ?_)
        refine Jrow (fun H locs ls hH hS hl k => lv_iinc (v := x22) (lv' := [(1, .int x22), (2, .int x18), (0, .ref a0)]) hx hb dX2_day_129 hl (k := 2) rfl (by rw [ex22]; rfl) (by decide) rfl k) ?_
        clear ex22
        refine Jrow (fun H locs ls hH hS hl k => lv_goto (tgt := 81) hx hb dX2_day_132 (by decide) (k ls hl)) ?_
        exact Jsub [2, 0] rfl (hk10 x22 σ21)
    · refine Jrow (fun H locs ls hH hS hl k => lv_icmp_ge (tgt := 74) hx hb dX2_day_44 (by decide) (fun h => absurd h hc) (fun _ => (k ls hl))) ?_
      clear hc
      refine Jrow (fun H locs ls hH hS hl k => lv_aload_n hx hb dX2_day_47 rfl (lv_at hl 0 rfl) (k ls hl)) ?_
      refine Jrow (fun H locs ls hH hS hl k => lv_iload_n hx hb dX2_day_48 rfl (lv_at hl 1 rfl) (k ls hl)) ?_
      refine Jrow (fun H locs ls hH hS hl k => lv_iload_n hx hb dX2_day_49 rfl (lv_at hl 1 rfl) (k ls hl)) ?_
      refine Jrow (fun H locs ls hH hS hl k => lv_iconst (v := (1:Int32)) hx hb dX2_day_50 (by decide) (k ls hl)) ?_
      refine Jrow (fun H locs ls hH hS hl k => lv_isub hx hb dX2_day_51 (k ls hl)) ?_
      refine Jrow (fun H locs ls hH hS hl k => lv_iload_n hx hb dX2_day_52 rfl (lv_at hl 1 rfl) (k ls hl)) ?_
      refine Jrow (fun H locs ls hH hS hl k => lv_aload_n hx hb dX2_day_53 rfl (lv_at hl 0 rfl) (k ls hl)) ?_
      refine Jgd (fun hg => ?_)
      refine Jcl (fun x24 hq => ?_)
      refine Jrow (fun H locs ls hH hS hl k => c_get (F := 50) (v := .ref x24) hx hb hts hown hK hH hg (hts _ q193) (fun _ h => h) (fvR rfl hq) dX2_day_54 (k ls hl)) ?_
      clear hq
      refine Jgd (fun hg => ?_)
      refine Jcl (fun x25 hq => ?_)
      refine Jrow (fun H locs ls hH hS hl k => c_getN (F := 63) (v := .ref x25) hx hb hts hown hK hH hg (cN hk.2.2.1 77 rfl) (fun _ h => h) (fvR rfl hq) dX2_day_57 (k ls hl)) ?_
      clear hq
      refine Jrow (fun H locs ls hH hS hl k => lv_iconst (v := (2:Int32)) hx hb dX2_day_60 (by decide) (k ls hl)) ?_
      refine Jgd (fun hk1 => ?_)
      refine Jgd (fun hg => ?_)
      refine Jrow (fun H locs ls hH hS hl k => c_iald hx hb hK hH hk1 hg dX2_day_61 (k ls hl)) ?_
      refine Jcl (fun x26 hf => ?_)
      refine JcallS (v := .int x26) (rest := [.int (x4 - (1:Int32)), .int x4, .ref a0]) hz0 ⟨rfl, rfl⟩ sQi_o (fun H locs ls hl hR => va_runS (As := [.int x4, .int (cAI σ5 x25 (2:Int32).toNatClampNeg)]) ⟨hx, hb, hml, hown, hts⟩ (mX5_times l hf) (va_cwS 2 hts (lw_S q736 q737 q96 q738) rfl rfl rfl (by decide +kernel) ⟨Nat.le_of_ble_eq_true rfl, Nat.le_of_ble_eq_true rfl⟩) s_pre rfl rfl hl.1 rfl (lv_room (Nat.le_of_ble_eq_true rfl)) dX2_day_62 hR) ?_
      clear hf
      refine Jgd (fun hg => ?_)
      refine Jcl2 (fun _ σ27 hf => ?_)
      refine Jcall (v := none) (rest := []) (mX2_move l E hf).1 ⟨rfl, rfl⟩ (fun H locs ls hH hS hl hR => ⟨_, va_runV (C := RX2) (As := [.int x4, .int (x4 - (1:Int32)), .int x26]) ⟨hx, hb, hml, hown, hts⟩ (mX2_move l E hf).2 (cwV 3 hts (lw_V q677 q679 qs17 q93 q680) rfl rfl rfl (by decide +kernel) ⟨Nat.le_of_ble_eq_true rfl, Nat.le_of_ble_eq_true rfl⟩) (c_preV (ci := 3) hk hH hS hg rfl) rfl rfl hl.1 rfl (lv_room (Nat.le_of_ble_eq_true rfl)) dX2_day_65 hR⟩) ?_
      clear hf
      refine Jbd (fun x29 ex29 => ?_)
      refine Jrow (fun H locs ls hH hS hl k => lv_iinc (v := x29) (lv' := [(1, .int x29), (0, .ref a0)]) hx hb dX2_day_68 hl (k := 1) rfl (by rw [ex29]; rfl) (by decide) rfl k) ?_
      clear ex29
      refine Jrow (fun H locs ls hH hS hl k => lv_goto (tgt := 42) hx hb dX2_day_71 (by decide) (k ls hl)) ?_
      exact Jsub [1, 0] rfl (hk6 x29 σ27)
  · refine Jrow (fun H locs ls hH hS hl k => lv_icmp_lt (tgt := 40) hx hb dX2_day_4 (by decide) (fun h => absurd h hc) (fun _ => (k ls hl))) ?_
    clear hc
    refine Jrow (fun H locs ls hH hS hl k => lv_iload_n hx hb dX2_day_7 rfl (lv_at hl 1 rfl) (k ls hl)) ?_
    refine Jrow (fun H locs ls hH hS hl k => lv_aload_n hx hb dX2_day_8 rfl (lv_at hl 0 rfl) (k ls hl)) ?_
    refine Jgd (fun hg => ?_)
    refine Jrow (fun H locs ls hH hS hl k => c_get (F := 51) (v := .int (cFI σ2 a0 51)) hx hb hts hown hK hH hg (hts _ q196) (fun _ h => h) rfl dX2_day_9 (k ls hl)) ?_
    refine Jjn1 (fun (σ31 : CS) X40 => J p l e (headSpec (ws_ yX2_day cX2_day 3 none) (rmC 2 45 σ σz)).room s m ([.ref a0] : List Value).toArray below meth c 3 E (cZ σ) (cS σ) (MQ below (cQ E none σz) ([.ref a0] : List Value).toArray s (cZ σz - cZ σ) (cS σz - cS σ) (EA E)) ((), σz) X40 σ31 34 [(0, .ref a0), (1, .int x1)] []) (fun σ31 => ?_) (fun k32 hk32 => ?_)
    · refine Jbd (fun x33 ex33 => ?_)
      refine Jrow (fun H locs ls hH hS hl k => lv_iinc (v := x33) (lv' := [(1, .int x33), (0, .ref a0)]) hx hb dX2_day_34 hl (k := 1) rfl (by rw [ex33]; rfl) (by decide) rfl k) ?_
      clear ex33
      refine Jrow (fun H locs ls hH hS hl k => lv_goto (tgt := 2) hx hb dX2_day_37 (by decide) (k ls hl)) ?_
      exact Jsub [1, 0] rfl (hk3 x33 σ31)
    · refine Jite (fun hc => ?_) (fun hc => ?_)
      · refine Jrow (fun H locs ls hH hS hl k => lv_icmp_ge (tgt := 34) hx hb dX2_day_12 (by decide) (fun _ => (k ls hl)) (fun h => absurd hc h)) ?_
        clear hc
        exact Jsub [0, 1] rfl (hk32 σ2)
      · refine Jrow (fun H locs ls hH hS hl k => lv_icmp_ge (tgt := 34) hx hb dX2_day_12 (by decide) (fun h => absurd h hc) (fun _ => (k ls hl))) ?_
        clear hc
        refine Jrow (fun H locs ls hH hS hl k => lv_aload_n hx hb dX2_day_15 rfl (lv_at hl 0 rfl) (k ls hl)) ?_
        refine Jrow (fun H locs ls hH hS hl k => lv_iload_n hx hb dX2_day_16 rfl (lv_at hl 1 rfl) (k ls hl)) ?_
        refine Jrow (fun H locs ls hH hS hl k => lv_iload_n hx hb dX2_day_17 rfl (lv_at hl 1 rfl) (k ls hl)) ?_
        refine Jrow (fun H locs ls hH hS hl k => lv_iconst (v := (1:Int32)) hx hb dX2_day_18 (by decide) (k ls hl)) ?_
        refine Jrow (fun H locs ls hH hS hl k => lv_iadd hx hb dX2_day_19 (k ls hl)) ?_
        refine Jrow (fun H locs ls hH hS hl k => lv_iload_n hx hb dX2_day_20 rfl (lv_at hl 1 rfl) (k ls hl)) ?_
        refine Jrow (fun H locs ls hH hS hl k => lv_aload_n hx hb dX2_day_21 rfl (lv_at hl 0 rfl) (k ls hl)) ?_
        refine Jgd (fun hg => ?_)
        refine Jcl (fun x34 hq => ?_)
        refine Jrow (fun H locs ls hH hS hl k => c_get (F := 50) (v := .ref x34) hx hb hts hown hK hH hg (hts _ q193) (fun _ h => h) (fvR rfl hq) dX2_day_22 (k ls hl)) ?_
        clear hq
        refine Jgd (fun hg => ?_)
        refine Jcl2 (fun x36 σ35 hf => ?_)
        refine Jcall (v := (some (.int x36))) (rest := [.int x1, .int (x1 + (1:Int32)), .int x1, .ref a0]) (mX5_give l E hf).1 ⟨rfl, rfl⟩ (fun H locs ls hH hS hl hR => ⟨_, va_runV (C := RX5) (As := []) ⟨hx, hb, hml, hown, hts⟩ (mX5_give l E hf).2 (cwV 0 hts (lw_V q732 q733 q734 q96 q735) rfl rfl rfl (by decide +kernel) ⟨Nat.le_of_ble_eq_true rfl, Nat.le_of_ble_eq_true rfl⟩) (c_preV (ci := 5) hk hH hS hg rfl) rfl rfl hl.1 rfl (lv_room (Nat.le_of_ble_eq_true rfl)) dX2_day_25 hR⟩) ?_
        clear hf
        refine Jcl (fun x37 hf => ?_)
        refine JcallS (v := .int x37) (rest := [.int (x1 + (1:Int32)), .int x1, .ref a0]) hz0 ⟨rfl, rfl⟩ sQi_o (fun H locs ls hl hR => va_runS (As := [.int x1, .int x36]) ⟨hx, hb, hml, hown, hts⟩ (mX5_times l hf) (va_cwS 2 hts (lw_S q736 q737 q96 q738) rfl rfl rfl (by decide +kernel) ⟨Nat.le_of_ble_eq_true rfl, Nat.le_of_ble_eq_true rfl⟩) s_pre rfl rfl hl.1 rfl (lv_room (Nat.le_of_ble_eq_true rfl)) dX2_day_28 hR) ?_
        clear hf
        refine Jgd (fun hg => ?_)
        refine Jcl2 (fun _ σ38 hf => ?_)
        refine Jcall (v := none) (rest := []) (mX2_move l E hf).1 ⟨rfl, rfl⟩ (fun H locs ls hH hS hl hR => ⟨_, va_runV (C := RX2) (As := [.int x1, .int (x1 + (1:Int32)), .int x37]) ⟨hx, hb, hml, hown, hts⟩ (mX2_move l E hf).2 (cwV 3 hts (lw_V q677 q679 qs17 q93 q680) rfl rfl rfl (by decide +kernel) ⟨Nat.le_of_ble_eq_true rfl, Nat.le_of_ble_eq_true rfl⟩) (c_preV (ci := 3) hk hH hS hg rfl) rfl rfl hl.1 rfl (lv_room (Nat.le_of_ble_eq_true rfl)) dX2_day_31 hR⟩) ?_
        clear hf
        exact Jsub [0, 1] rfl (hk32 σ38)

def fX2_look (a0 : Nat) (σ : CS) : Option (Unit × CS) :=
 gd (hf (cK σ a0) 54) (
 bd (uFI σ a0 54 (0:Int32)) (fun (σ1 : CS) =>
 lp (fun _ _ => none) (fun (k4 : Int32 → CS → Option (Unit × CS)) (x2 : Int32) (σ3 : CS) =>
 if (4:Int32) ≤ x2 then
 gd (kd σ3 a0 4) (
 cl2 (fX2_lead a0 σ3) (fun (_ : Unit) (σ5 : CS) =>
 some ((), σ5)))
 else
 gd (hf (cK σ3 a0) 49) (
 cl (cFR σ3 a0 49) (fun (x7 : Nat) =>
 gd (kd σ3 x7 101) (
 gd (ib x2 (cLN σ3 x7)) (
 bd (cAI σ3 x7 x2.toNatClampNeg) (fun (x8 : Int32) =>
 lp (fun _ _ => none) (fun (k11 : Int32 → Int32 → Option (Unit × CS)) (x9 : Int32) (x10 : Int32) =>
 if x2 ≤ x10 then
 gd (hf (cK σ3 a0) 54) (
 gd (hf (cK σ3 a0) 49) (
 cl (cFR σ3 a0 49) (fun (x12 : Nat) =>
 gd (kd σ3 x12 101) (
 gd (ib x2 (cLN σ3 x12)) (
 gd (hf (cK σ3 a0) 54) (
 bd (uFI σ3 a0 54 ((cFI σ3 a0 54) + ((cAI σ3 x12 x2.toNatClampNeg) - x9))) (fun (σ13 : CS) =>
 gd (hf (cK σ13 a0) 49) (
 cl (cFR σ13 a0 49) (fun (x14 : Nat) =>
 gd (kd σ13 x14 101) (
 gd (ib x2 (cLN σ13 x14)) (
 bd (uAI σ13 x14 x2.toNatClampNeg x9) (fun (σ15 : CS) =>
 bd (x2 + (1:Int32)) (fun (x16 : Int32) =>
 k4 x16 σ15)))))))))))))
 else
 gd (hf (cK σ3 a0) 50) (
 cl (cFR σ3 a0 50) (fun (x17 : Nat) =>
 gd (hf (cK σ3 x17) 63) (
 cl (cFR σ3 x17 63) (fun (x18 : Nat) =>
 gd (kd σ3 x18 101) (
 gd (ib (5:Int32) (cLN σ3 x18)) (
 cl (fX2_share x9 (cAI σ3 x18 (5:Int32).toNatClampNeg)) (fun (x19 : Int32) =>
 bd (x10 + (1:Int32)) (fun (x20 : Int32) =>
 k11 x19 x20))))))))) NF x8 (0:Int32))))))) NF (1:Int32) σ1))
theorem nX2_look {a0 : Nat} {σ : CS} : Mn σ (fX2_look a0 σ) := by
  unfold fX2_look
  refine Mgd ?_
  refine Mst (Nat.le_refl _) (Nat.le_refl _) (fun σ1 => ?_)
  refine Plp2 (fun (x2 : Int32) (σ3 : CS) (X22 : Option (Unit × CS)) => Mn σ3 X22) (fun _ _ => Mnone) (fun k4 hk4 x2 σ3 => ?_)
  refine Mite ?_ ?_
  · refine Mgd ?_
    refine Mcl2 (nX2_lead) (fun _ σ5 => ?_)
    exact Mret
  · refine Mgd ?_
    refine Mcl (fun x7 => ?_)
    refine Mgd ?_
    refine Mgd ?_
    refine Mbd (fun x8 => ?_)
    refine Plp2 (fun (x9 : Int32) (x10 : Int32) (X21 : Option (Unit × CS)) => Mn σ3 X21) (fun _ _ => Mnone) (fun k11 hk11 x9 x10 => ?_)
    refine Mite ?_ ?_
    · refine Mgd ?_
      refine Mgd ?_
      refine Mcl (fun x12 => ?_)
      refine Mgd ?_
      refine Mgd ?_
      refine Mgd ?_
      refine Mst (Nat.le_refl _) (Nat.le_refl _) (fun σ13 => ?_)
      refine Mgd ?_
      refine Mcl (fun x14 => ?_)
      refine Mgd ?_
      refine Mgd ?_
      refine Mst (Nat.le_refl _) (Nat.le_refl _) (fun σ15 => ?_)
      refine Mbd (fun x16 => ?_)
      exact hk4 x16 σ15
    · refine Mgd ?_
      refine Mcl (fun x17 => ?_)
      refine Mgd ?_
      refine Mcl (fun x18 => ?_)
      refine Mgd ?_
      refine Mgd ?_
      refine Mcl (fun x19 => ?_)
      refine Mbd (fun x20 => ?_)
      exact hk11 x19 x20
set_option maxHeartbeats 4000000 in
set_option maxRecDepth 100000 in
theorem mX2_look (l : Launch) (E : CE) {a0 : Nat} {σ : CS} {σz : CS} (hX : fX2_look a0 σ = some ((), σz)) : MetC l yX2_look (ws_ yX2_look cX2_look 4 none) 1 23 E σ [.ref a0] none σz := by
  refine MetC.of hX (by decide) (Nat.le_of_ble_eq_true rfl) (nX2_look _ hX) ?_
  intro p e s m below meth c hx hb hr hml hts hown hlocks hnm hk hz0
  have hK := hk.1
  show J p l e (headSpec (ws_ yX2_look cX2_look 4 none) (rmC 1 23 σ σz)).room s m ([.ref a0] : List Value).toArray below meth c 4 E (cZ σ) (cS σ) (MQ below (cQ E none σz) ([.ref a0] : List Value).toArray s (cZ σz - cZ σ) (cS σz - cS σ) (EA E)) ((), σz) (fX2_look a0 σ) σ 0 [(0, .ref a0)] []
  unfold fX2_look
  refine Jrow (fun H locs ls hH hS hl k => lv_aload_n hx hb dX2_look_0 rfl (lv_at hl 0 rfl) (k ls hl)) ?_
  refine Jrow (fun H locs ls hH hS hl k => lv_iconst (v := (0:Int32)) hx hb dX2_look_1 (by decide) (k ls hl)) ?_
  refine Jgd (fun hg => ?_)
  refine Jst (σ1 := uFI σ a0 54 (0:Int32)) rfl rfl (fun H locs ls hH hS hl k => c_putI (F := 54) (ty := .int) (x := (0:Int32)) hx hb hts hown hK hH hS hg (hts _ q203) (fun _ h => h) rfl rfl (by decide +kernel) rfl rfl rfl dX2_look_2 k) (fun σ1 => ?_)
  refine Jrow (fun H locs ls hH hS hl k => lv_iconst (v := (1:Int32)) hx hb dX2_look_5 (by decide) (k ls hl)) ?_
  refine Jrow (fun H locs ls hH hS hl k => lv_istore_n (lv' := [(1, .int (1:Int32)), (0, .ref a0)]) hx hb dX2_look_6 rfl hl (by decide) rfl k) ?_
  refine Jsub [1, 0] rfl (Plp2 (fun (x2 : Int32) (σ3 : CS) X22 => J p l e (headSpec (ws_ yX2_look cX2_look 4 none) (rmC 1 23 σ σz)).room s m ([.ref a0] : List Value).toArray below meth c 4 E (cZ σ) (cS σ) (MQ below (cQ E none σz) ([.ref a0] : List Value).toArray s (cZ σz - cZ σ) (cS σz - cS σ) (EA E)) ((), σz) X22 σ3 7 [(0, .ref a0), (1, .int x2)] []) (fun _ _ => Jnone) (fun k4 hk4 x2 σ3 => ?_))
  refine Jrow (fun H locs ls hH hS hl k => lv_iload_n hx hb dX2_look_7 rfl (lv_at hl 1 rfl) (k ls hl)) ?_
  refine Jrow (fun H locs ls hH hS hl k => lv_iconst (v := (4:Int32)) hx hb dX2_look_8 (by decide) (k ls hl)) ?_
  refine Jite (fun hc => ?_) (fun hc => ?_)
  · refine Jrow (fun H locs ls hH hS hl k => lv_icmp_ge (tgt := 76) hx hb dX2_look_9 (by decide) (fun _ => (k ls hl)) (fun h => absurd hc h)) ?_
    clear hc
    refine Jrow (fun H locs ls hH hS hl k => lv_aload_n hx hb dX2_look_76 rfl (lv_at hl 0 rfl) (k ls hl)) ?_
    refine Jgd (fun hg => ?_)
    refine Jcl2 (fun _ σ5 hf => ?_)
    refine Jcall (v := none) (rest := []) (mX2_lead l E hf).1 ⟨rfl, rfl⟩ (fun H locs ls hH hS hl hR => ⟨_, va_runV (C := RX2) (As := []) ⟨hx, hb, hml, hown, hts⟩ (mX2_lead l E hf).2 (cwV 0 hts (lw_V q740 q742 qs19 q93 q743) rfl rfl rfl (by decide +kernel) ⟨Nat.le_of_ble_eq_true rfl, Nat.le_of_ble_eq_true rfl⟩) (c_preV (ci := 3) hk hH hS hg rfl) rfl rfl hl.1 rfl (lv_room (Nat.le_of_ble_eq_true rfl)) dX2_look_77 hR⟩) ?_
    clear hf
    exact Jvret hx hb hr hlocks dX2_look_80
  · refine Jrow (fun H locs ls hH hS hl k => lv_icmp_ge (tgt := 76) hx hb dX2_look_9 (by decide) (fun h => absurd h hc) (fun _ => (k ls hl))) ?_
    clear hc
    refine Jrow (fun H locs ls hH hS hl k => lv_aload_n hx hb dX2_look_12 rfl (lv_at hl 0 rfl) (k ls hl)) ?_
    refine Jgd (fun hg => ?_)
    refine Jcl (fun x7 hq => ?_)
    refine Jrow (fun H locs ls hH hS hl k => c_get (F := 49) (v := .ref x7) hx hb hts hown hK hH hg (hts _ q191) (fun _ h => h) (fvR rfl hq) dX2_look_13 (k ls hl)) ?_
    clear hq
    refine Jrow (fun H locs ls hH hS hl k => lv_iload_n hx hb dX2_look_16 rfl (lv_at hl 1 rfl) (k ls hl)) ?_
    refine Jgd (fun hk1 => ?_)
    refine Jgd (fun hg => ?_)
    refine Jrow (fun H locs ls hH hS hl k => c_iald hx hb hK hH hk1 hg dX2_look_17 (k ls hl)) ?_
    refine JbdI (fun x8 => ?_)
    refine Jrow (fun H locs ls hH hS hl k => lv_istore_n (lv' := [(2, .int x8), (0, .ref a0), (1, .int x2)]) hx hb dX2_look_18 rfl hl (by decide) rfl k) ?_
    refine Jrow (fun H locs ls hH hS hl k => lv_iconst (v := (0:Int32)) hx hb dX2_look_19 (by decide) (k ls hl)) ?_
    refine Jrow (fun H locs ls hH hS hl k => lv_istore_n (lv' := [(3, .int (0:Int32)), (2, .int x8), (0, .ref a0), (1, .int x2)]) hx hb dX2_look_20 rfl hl (by decide) rfl k) ?_
    refine Jsub [2, 3, 1, 0] rfl (Plp2 (fun (x9 : Int32) (x10 : Int32) X21 => J p l e (headSpec (ws_ yX2_look cX2_look 4 none) (rmC 1 23 σ σz)).room s m ([.ref a0] : List Value).toArray below meth c 4 E (cZ σ) (cS σ) (MQ below (cQ E none σz) ([.ref a0] : List Value).toArray s (cZ σz - cZ σ) (cS σz - cS σ) (EA E)) ((), σz) X21 σ3 21 [(0, .ref a0), (1, .int x2), (2, .int x9), (3, .int x10)] []) (fun _ _ => Jnone) (fun k11 hk11 x9 x10 => ?_))
    refine Jrow (fun H locs ls hH hS hl k => lv_iload_n hx hb dX2_look_21 rfl (lv_at hl 3 rfl) (k ls hl)) ?_
    refine Jrow (fun H locs ls hH hS hl k => lv_iload_n hx hb dX2_look_22 rfl (lv_at hl 1 rfl) (k ls hl)) ?_
    refine Jite (fun hc => ?_) (fun hc => ?_)
    · refine Jrow (fun H locs ls hH hS hl k => lv_icmp_ge (tgt := 46) hx hb dX2_look_23 (by decide) (fun _ => (k ls hl)) (fun h => absurd hc h)) ?_
      clear hc
      refine Jrow (fun H locs ls hH hS hl k => lv_aload_n hx hb dX2_look_46 rfl (lv_at hl 0 rfl) (k ls hl)) ?_
      refine Jrow (fun H locs ls hH hS hl k => lv_dup hx hb dX2_look_47 rfl (k ls hl)) ?_
      refine Jgd (fun hg => ?_)
      refine Jrow (fun H locs ls hH hS hl k => c_get (F := 54) (v := .int (cFI σ3 a0 54)) hx hb hts hown hK hH hg (hts _ q203) (fun _ h => h) rfl dX2_look_48 (k ls hl)) ?_
      refine Jrow (fun H locs ls hH hS hl k => lv_aload_n hx hb dX2_look_51 rfl (lv_at hl 0 rfl) (k ls hl)) ?_
      refine Jgd (fun hg => ?_)
      refine Jcl (fun x12 hq => ?_)
      refine Jrow (fun H locs ls hH hS hl k => c_get (F := 49) (v := .ref x12) hx hb hts hown hK hH hg (hts _ q191) (fun _ h => h) (fvR rfl hq) dX2_look_52 (k ls hl)) ?_
      clear hq
      refine Jrow (fun H locs ls hH hS hl k => lv_iload_n hx hb dX2_look_55 rfl (lv_at hl 1 rfl) (k ls hl)) ?_
      refine Jgd (fun hk1 => ?_)
      refine Jgd (fun hg => ?_)
      refine Jrow (fun H locs ls hH hS hl k => c_iald hx hb hK hH hk1 hg dX2_look_56 (k ls hl)) ?_
      refine Jrow (fun H locs ls hH hS hl k => lv_iload_n hx hb dX2_look_57 rfl (lv_at hl 2 rfl) (k ls hl)) ?_
      refine Jrow (fun H locs ls hH hS hl k => lv_isub hx hb dX2_look_58 (k ls hl)) ?_
      refine Jrow (fun H locs ls hH hS hl k => lv_iadd hx hb dX2_look_59 (k ls hl)) ?_
      refine Jgd (fun hg => ?_)
      refine Jst (σ1 := uFI σ3 a0 54 ((cFI σ3 a0 54) + ((cAI σ3 x12 x2.toNatClampNeg) - x9))) rfl rfl (fun H locs ls hH hS hl k => c_putI (F := 54) (ty := .int) (x := ((cFI σ3 a0 54) + ((cAI σ3 x12 x2.toNatClampNeg) - x9))) hx hb hts hown hK hH hS hg (hts _ q203) (fun _ h => h) rfl rfl (by decide +kernel) rfl rfl rfl dX2_look_60 k) (fun σ13 => ?_)
      refine Jrow (fun H locs ls hH hS hl k => lv_aload_n hx hb dX2_look_63 rfl (lv_at hl 0 rfl) (k ls hl)) ?_
      refine Jgd (fun hg => ?_)
      refine Jcl (fun x14 hq => ?_)
      refine Jrow (fun H locs ls hH hS hl k => c_get (F := 49) (v := .ref x14) hx hb hts hown hK hH hg (hts _ q191) (fun _ h => h) (fvR rfl hq) dX2_look_64 (k ls hl)) ?_
      clear hq
      refine Jrow (fun H locs ls hH hS hl k => lv_iload_n hx hb dX2_look_67 rfl (lv_at hl 1 rfl) (k ls hl)) ?_
      refine Jrow (fun H locs ls hH hS hl k => lv_iload_n hx hb dX2_look_68 rfl (lv_at hl 2 rfl) (k ls hl)) ?_
      refine Jgd (fun hk1 => ?_)
      refine Jgd (fun hg => ?_)
      refine Jst (σ1 := uAI σ13 x14 x2.toNatClampNeg x9) rfl rfl (fun H locs ls hH hS hl k => c_iast hx hb hK hH hS hk1 hg dX2_look_69 k) (fun σ15 => ?_)
      refine Jbd (fun x16 ex16 => ?_)
      refine Jrow (fun H locs ls hH hS hl k => lv_iinc (v := x16) (lv' := [(1, .int x16), (0, .ref a0), (2, .int x9), (3, .int x10)]) hx hb dX2_look_70 hl (k := 1) rfl (by rw [ex16]; rfl) (by decide) rfl k) ?_
      clear ex16
      refine Jrow (fun H locs ls hH hS hl k => lv_goto (tgt := 7) hx hb dX2_look_73 (by decide) (k ls hl)) ?_
      exact Jsub [1, 0] rfl (hk4 x16 σ15)
    · refine Jrow (fun H locs ls hH hS hl k => lv_icmp_ge (tgt := 46) hx hb dX2_look_23 (by decide) (fun h => absurd h hc) (fun _ => (k ls hl))) ?_
      clear hc
      refine Jrow (fun H locs ls hH hS hl k => lv_iload_n hx hb dX2_look_26 rfl (lv_at hl 2 rfl) (k ls hl)) ?_
      refine Jrow (fun H locs ls hH hS hl k => lv_aload_n hx hb dX2_look_27 rfl (lv_at hl 0 rfl) (k ls hl)) ?_
      refine Jgd (fun hg => ?_)
      refine Jcl (fun x17 hq => ?_)
      refine Jrow (fun H locs ls hH hS hl k => c_get (F := 50) (v := .ref x17) hx hb hts hown hK hH hg (hts _ q193) (fun _ h => h) (fvR rfl hq) dX2_look_28 (k ls hl)) ?_
      clear hq
      refine Jgd (fun hg => ?_)
      refine Jcl (fun x18 hq => ?_)
      refine Jrow (fun H locs ls hH hS hl k => c_getN (F := 63) (v := .ref x18) hx hb hts hown hK hH hg (cN hk.2.2.1 77 rfl) (fun _ h => h) (fvR rfl hq) dX2_look_31 (k ls hl)) ?_
      clear hq
      refine Jrow (fun H locs ls hH hS hl k => lv_iconst (v := (5:Int32)) hx hb dX2_look_34 (by decide) (k ls hl)) ?_
      refine Jgd (fun hk1 => ?_)
      refine Jgd (fun hg => ?_)
      refine Jrow (fun H locs ls hH hS hl k => c_iald hx hb hK hH hk1 hg dX2_look_35 (k ls hl)) ?_
      refine Jcl (fun x19 hf => ?_)
      refine JcallS (v := .int x19) (rest := []) hz0 ⟨rfl, rfl⟩ sQi_o (fun H locs ls hl hR => va_runS (As := [.int x9, .int (cAI σ3 x18 (5:Int32).toNatClampNeg)]) ⟨hx, hb, hml, hown, hts⟩ (mX2_share l hf) (va_cwS 2 hts (lw_S q681 q682 q93 q683) rfl rfl rfl (by decide +kernel) ⟨Nat.le_of_ble_eq_true rfl, Nat.le_of_ble_eq_true rfl⟩) s_pre rfl rfl hl.1 rfl (lv_room (Nat.le_of_ble_eq_true rfl)) dX2_look_36 hR) ?_
      clear hf
      refine Jrow (fun H locs ls hH hS hl k => lv_istore_n (lv' := [(2, .int x19), (0, .ref a0), (1, .int x2), (3, .int x10)]) hx hb dX2_look_39 rfl hl (by decide) rfl k) ?_
      refine Jbd (fun x20 ex20 => ?_)
      refine Jrow (fun H locs ls hH hS hl k => lv_iinc (v := x20) (lv' := [(3, .int x20), (2, .int x19), (0, .ref a0), (1, .int x2)]) hx hb dX2_look_40 hl (k := 3) rfl (by rw [ex20]; rfl) (by decide) rfl k) ?_
      clear ex20
      refine Jrow (fun H locs ls hH hS hl k => lv_goto (tgt := 21) hx hb dX2_look_43 (by decide) (k ls hl)) ?_
      exact Jsub [2, 3, 1, 0] rfl (hk11 x19 x20)

def fX2_ill (a0 : Nat) (σ : CS) : Option (Int32 × CS) :=
 gd (hf (cK σ a0) 49) (
 cl (cFR σ a0 49) (fun (x1 : Nat) =>
 gd (kd σ x1 101) (
 gd (ib (1:Int32) (cLN σ x1)) (
 gd (hf (cK σ a0) 49) (
 cl (cFR σ a0 49) (fun (x2 : Nat) =>
 gd (kd σ x2 101) (
 gd (ib (2:Int32) (cLN σ x2)) (
 gd (hf (cK σ a0) 49) (
 cl (cFR σ a0 49) (fun (x3 : Nat) =>
 gd (kd σ x3 101) (
 gd (ib (3:Int32) (cLN σ x3)) (
 some (((cAI σ x1 (1:Int32).toNatClampNeg) + (cAI σ x2 (2:Int32).toNatClampNeg)) + (cAI σ x3 (3:Int32).toNatClampNeg), σ)))))))))))))
theorem nX2_ill {a0 : Nat} {σ : CS} : Mn σ (fX2_ill a0 σ) := by
  unfold fX2_ill
  refine Mgd ?_
  refine Mcl (fun x1 => ?_)
  refine Mgd ?_
  refine Mgd ?_
  refine Mgd ?_
  refine Mcl (fun x2 => ?_)
  refine Mgd ?_
  refine Mgd ?_
  refine Mgd ?_
  refine Mcl (fun x3 => ?_)
  refine Mgd ?_
  refine Mgd ?_
  exact Mret
set_option maxHeartbeats 4000000 in
set_option maxRecDepth 100000 in
theorem mX2_ill (l : Launch) (E : CE) {a0 : Nat} {σ : CS} {r : Int32} {σz : CS} (hX : fX2_ill a0 σ = some (r, σz)) : MetC l yX2_ill (ws_ yX2_ill cX2_ill 1 (some .int)) 0 0 E σ [.ref a0] (some (.int r)) σz := by
  refine MetC.of hX (by decide) (Nat.le_of_ble_eq_true rfl) (nX2_ill _ hX) ?_
  intro p e s m below meth c hx hb hr hml hts hown hlocks hnm hk hz0
  have hK := hk.1
  show J p l e (headSpec (ws_ yX2_ill cX2_ill 1 (some .int)) (rmC 0 0 σ σz)).room s m ([.ref a0] : List Value).toArray below meth c 1 E (cZ σ) (cS σ) (MQ below (cQ E (some (.int r)) σz) ([.ref a0] : List Value).toArray s (cZ σz - cZ σ) (cS σz - cS σ) (EA E)) (r, σz) (fX2_ill a0 σ) σ 0 [(0, .ref a0)] []
  unfold fX2_ill
  refine Jrow (fun H locs ls hH hS hl k => lv_aload_n hx hb dX2_ill_0 rfl (lv_at hl 0 rfl) (k ls hl)) ?_
  refine Jgd (fun hg => ?_)
  refine Jcl (fun x1 hq => ?_)
  refine Jrow (fun H locs ls hH hS hl k => c_get (F := 49) (v := .ref x1) hx hb hts hown hK hH hg (hts _ q191) (fun _ h => h) (fvR rfl hq) dX2_ill_1 (k ls hl)) ?_
  clear hq
  refine Jrow (fun H locs ls hH hS hl k => lv_iconst (v := (1:Int32)) hx hb dX2_ill_4 (by decide) (k ls hl)) ?_
  refine Jgd (fun hk1 => ?_)
  refine Jgd (fun hg => ?_)
  refine Jrow (fun H locs ls hH hS hl k => c_iald hx hb hK hH hk1 hg dX2_ill_5 (k ls hl)) ?_
  refine Jrow (fun H locs ls hH hS hl k => lv_aload_n hx hb dX2_ill_6 rfl (lv_at hl 0 rfl) (k ls hl)) ?_
  refine Jgd (fun hg => ?_)
  refine Jcl (fun x2 hq => ?_)
  refine Jrow (fun H locs ls hH hS hl k => c_get (F := 49) (v := .ref x2) hx hb hts hown hK hH hg (hts _ q191) (fun _ h => h) (fvR rfl hq) dX2_ill_7 (k ls hl)) ?_
  clear hq
  refine Jrow (fun H locs ls hH hS hl k => lv_iconst (v := (2:Int32)) hx hb dX2_ill_10 (by decide) (k ls hl)) ?_
  refine Jgd (fun hk1 => ?_)
  refine Jgd (fun hg => ?_)
  refine Jrow (fun H locs ls hH hS hl k => c_iald hx hb hK hH hk1 hg dX2_ill_11 (k ls hl)) ?_
  refine Jrow (fun H locs ls hH hS hl k => lv_iadd hx hb dX2_ill_12 (k ls hl)) ?_
  refine Jrow (fun H locs ls hH hS hl k => lv_aload_n hx hb dX2_ill_13 rfl (lv_at hl 0 rfl) (k ls hl)) ?_
  refine Jgd (fun hg => ?_)
  refine Jcl (fun x3 hq => ?_)
  refine Jrow (fun H locs ls hH hS hl k => c_get (F := 49) (v := .ref x3) hx hb hts hown hK hH hg (hts _ q191) (fun _ h => h) (fvR rfl hq) dX2_ill_14 (k ls hl)) ?_
  clear hq
  refine Jrow (fun H locs ls hH hS hl k => lv_iconst (v := (3:Int32)) hx hb dX2_ill_17 (by decide) (k ls hl)) ?_
  refine Jgd (fun hk1 => ?_)
  refine Jgd (fun hg => ?_)
  refine Jrow (fun H locs ls hH hS hl k => c_iald hx hb hK hH hk1 hg dX2_ill_18 (k ls hl)) ?_
  refine Jrow (fun H locs ls hH hS hl k => lv_iadd hx hb dX2_ill_19 (k ls hl)) ?_
  exact Jiret hx hb hr hlocks dX2_ill_20

def fX2_harmIn (a0 : Nat) (p1 : Nat) (σ : CS) : Option (Int64 × CS) :=
 gd (hf (cK σ p1) 63) (
 cl (cFR σ p1 63) (fun (x1 : Nat) =>
 gd (kd σ x1 101) (
 gd (ib (3:Int32) (cLN σ x1)) (
 gd (hf (cK σ a0) 49) (
 cl (cFR σ a0 49) (fun (x2 : Nat) =>
 gd (kd σ x2 101) (
 gd (ib (1:Int32) (cLN σ x2)) (
 gd (hf (cK σ a0) 49) (
 cl (cFR σ a0 49) (fun (x3 : Nat) =>
 gd (kd σ x3 101) (
 gd (ib (2:Int32) (cLN σ x3)) (
 gd (hf (cK σ a0) 49) (
 cl (cFR σ a0 49) (fun (x4 : Nat) =>
 gd (kd σ x4 101) (
 gd (ib (3:Int32) (cLN σ x4)) (
 some ((((cAI σ x1 (3:Int32).toNatClampNeg).toInt64) * ((((cAI σ x2 (1:Int32).toNatClampNeg) + ((2:Int32) * (cAI σ x3 (2:Int32).toNatClampNeg))) + ((3:Int32) * (cAI σ x4 (3:Int32).toNatClampNeg))).toInt64)) / (1000:Int64), σ)))))))))))))))))
theorem nX2_harmIn {a0 : Nat} {p1 : Nat} {σ : CS} : Mn σ (fX2_harmIn a0 p1 σ) := by
  unfold fX2_harmIn
  refine Mgd ?_
  refine Mcl (fun x1 => ?_)
  refine Mgd ?_
  refine Mgd ?_
  refine Mgd ?_
  refine Mcl (fun x2 => ?_)
  refine Mgd ?_
  refine Mgd ?_
  refine Mgd ?_
  refine Mcl (fun x3 => ?_)
  refine Mgd ?_
  refine Mgd ?_
  refine Mgd ?_
  refine Mcl (fun x4 => ?_)
  refine Mgd ?_
  refine Mgd ?_
  exact Mret
set_option maxHeartbeats 4000000 in
set_option maxRecDepth 100000 in
theorem mX2_harmIn (l : Launch) (E : CE) {a0 : Nat} {p1 : Nat} {σ : CS} {r : Int64} {σz : CS} (hX : fX2_harmIn a0 p1 σ = some (r, σz)) : MetC l yX2_harmIn (ws_ yX2_harmIn cX2_harmIn 2 (some .long)) 0 0 E σ [.ref a0, .ref p1] (some (.long r)) σz := by
  refine MetC.of hX (by decide) (Nat.le_of_ble_eq_true rfl) (nX2_harmIn _ hX) ?_
  intro p e s m below meth c hx hb hr hml hts hown hlocks hnm hk hz0
  have hK := hk.1
  show J p l e (headSpec (ws_ yX2_harmIn cX2_harmIn 2 (some .long)) (rmC 0 0 σ σz)).room s m ([.ref a0, .ref p1] : List Value).toArray below meth c 2 E (cZ σ) (cS σ) (MQ below (cQ E (some (.long r)) σz) ([.ref a0, .ref p1] : List Value).toArray s (cZ σz - cZ σ) (cS σz - cS σ) (EA E)) (r, σz) (fX2_harmIn a0 p1 σ) σ 0 [(0, .ref a0), (1, .ref p1)] []
  unfold fX2_harmIn
  refine Jrow (fun H locs ls hH hS hl k => lv_aload_n hx hb dX2_harmIn_0 rfl (lv_at hl 1 rfl) (k ls hl)) ?_
  refine Jgd (fun hg => ?_)
  refine Jcl (fun x1 hq => ?_)
  refine Jrow (fun H locs ls hH hS hl k => c_getN (F := 63) (v := .ref x1) hx hb hts hown hK hH hg (cN hk.2.2.1 77 rfl) (fun _ h => h) (fvR rfl hq) dX2_harmIn_1 (k ls hl)) ?_
  clear hq
  refine Jrow (fun H locs ls hH hS hl k => lv_iconst (v := (3:Int32)) hx hb dX2_harmIn_4 (by decide) (k ls hl)) ?_
  refine Jgd (fun hk1 => ?_)
  refine Jgd (fun hg => ?_)
  refine Jrow (fun H locs ls hH hS hl k => c_iald hx hb hK hH hk1 hg dX2_harmIn_5 (k ls hl)) ?_
  refine Jrow (fun H locs ls hH hS hl k => lv_i2l hx hb dX2_harmIn_6 rfl (k ls hl)) ?_
  refine Jrow (fun H locs ls hH hS hl k => lv_aload_n hx hb dX2_harmIn_7 rfl (lv_at hl 0 rfl) (k ls hl)) ?_
  refine Jgd (fun hg => ?_)
  refine Jcl (fun x2 hq => ?_)
  refine Jrow (fun H locs ls hH hS hl k => c_get (F := 49) (v := .ref x2) hx hb hts hown hK hH hg (hts _ q191) (fun _ h => h) (fvR rfl hq) dX2_harmIn_8 (k ls hl)) ?_
  clear hq
  refine Jrow (fun H locs ls hH hS hl k => lv_iconst (v := (1:Int32)) hx hb dX2_harmIn_11 (by decide) (k ls hl)) ?_
  refine Jgd (fun hk1 => ?_)
  refine Jgd (fun hg => ?_)
  refine Jrow (fun H locs ls hH hS hl k => c_iald hx hb hK hH hk1 hg dX2_harmIn_12 (k ls hl)) ?_
  refine Jrow (fun H locs ls hH hS hl k => lv_iconst (v := (2:Int32)) hx hb dX2_harmIn_13 (by decide) (k ls hl)) ?_
  refine Jrow (fun H locs ls hH hS hl k => lv_aload_n hx hb dX2_harmIn_14 rfl (lv_at hl 0 rfl) (k ls hl)) ?_
  refine Jgd (fun hg => ?_)
  refine Jcl (fun x3 hq => ?_)
  refine Jrow (fun H locs ls hH hS hl k => c_get (F := 49) (v := .ref x3) hx hb hts hown hK hH hg (hts _ q191) (fun _ h => h) (fvR rfl hq) dX2_harmIn_15 (k ls hl)) ?_
  clear hq
  refine Jrow (fun H locs ls hH hS hl k => lv_iconst (v := (2:Int32)) hx hb dX2_harmIn_18 (by decide) (k ls hl)) ?_
  refine Jgd (fun hk1 => ?_)
  refine Jgd (fun hg => ?_)
  refine Jrow (fun H locs ls hH hS hl k => c_iald hx hb hK hH hk1 hg dX2_harmIn_19 (k ls hl)) ?_
  refine Jrow (fun H locs ls hH hS hl k => lv_imul hx hb dX2_harmIn_20 (k ls hl)) ?_
  refine Jrow (fun H locs ls hH hS hl k => lv_iadd hx hb dX2_harmIn_21 (k ls hl)) ?_
  refine Jrow (fun H locs ls hH hS hl k => lv_iconst (v := (3:Int32)) hx hb dX2_harmIn_22 (by decide) (k ls hl)) ?_
  refine Jrow (fun H locs ls hH hS hl k => lv_aload_n hx hb dX2_harmIn_23 rfl (lv_at hl 0 rfl) (k ls hl)) ?_
  refine Jgd (fun hg => ?_)
  refine Jcl (fun x4 hq => ?_)
  refine Jrow (fun H locs ls hH hS hl k => c_get (F := 49) (v := .ref x4) hx hb hts hown hK hH hg (hts _ q191) (fun _ h => h) (fvR rfl hq) dX2_harmIn_24 (k ls hl)) ?_
  clear hq
  refine Jrow (fun H locs ls hH hS hl k => lv_iconst (v := (3:Int32)) hx hb dX2_harmIn_27 (by decide) (k ls hl)) ?_
  refine Jgd (fun hk1 => ?_)
  refine Jgd (fun hg => ?_)
  refine Jrow (fun H locs ls hH hS hl k => c_iald hx hb hK hH hk1 hg dX2_harmIn_28 (k ls hl)) ?_
  refine Jrow (fun H locs ls hH hS hl k => lv_imul hx hb dX2_harmIn_29 (k ls hl)) ?_
  refine Jrow (fun H locs ls hH hS hl k => lv_iadd hx hb dX2_harmIn_30 (k ls hl)) ?_
  refine Jrow (fun H locs ls hH hS hl k => lv_i2l hx hb dX2_harmIn_31 rfl (k ls hl)) ?_
  refine Jrow (fun H locs ls hH hS hl k => lv_lmul hx hb dX2_harmIn_32 (k ls hl)) ?_
  refine Jrow (fun H locs ls hH hS hl k => lv_ldc2 (v := (1000:Int64)) hx hb hown (hts _ q684) dX2_harmIn_33 (k ls hl)) ?_
  refine Jrow (fun H locs ls hH hS hl k => lv_ldiv hx hb dX2_harmIn_36 (by decide) (k ls hl)) ?_
  exact Jlret hx hb hr hlocks dX2_harmIn_37

def fX2_harm (a0 : Nat) (σ : CS) : Option (Int64 × CS) :=
 gd (hf (cK σ a0) 50) (
 cl (cFR σ a0 50) (fun (x1 : Nat) =>
 gd (kd σ a0 4) (
 cl2 (fX2_harmIn a0 x1 σ) (fun (x3 : Int64) (σ2 : CS) =>
 some (x3, σ2)))))
theorem nX2_harm {a0 : Nat} {σ : CS} : Mn σ (fX2_harm a0 σ) := by
  unfold fX2_harm
  refine Mgd ?_
  refine Mcl (fun x1 => ?_)
  refine Mgd ?_
  refine Mcl2 (nX2_harmIn) (fun x3 σ2 => ?_)
  exact Mret
set_option maxHeartbeats 4000000 in
set_option maxRecDepth 100000 in
theorem mX2_harm (l : Launch) (E : CE) {a0 : Nat} {σ : CS} {r : Int64} {σz : CS} (hX : fX2_harm a0 σ = some (r, σz)) : MetC l yX2_harm (ws_ yX2_harm cX2_harm 1 (some .long)) 1 21 E σ [.ref a0] (some (.long r)) σz := by
  refine MetC.of hX (by decide) (Nat.le_of_ble_eq_true rfl) (nX2_harm _ hX) ?_
  intro p e s m below meth c hx hb hr hml hts hown hlocks hnm hk hz0
  have hK := hk.1
  show J p l e (headSpec (ws_ yX2_harm cX2_harm 1 (some .long)) (rmC 1 21 σ σz)).room s m ([.ref a0] : List Value).toArray below meth c 1 E (cZ σ) (cS σ) (MQ below (cQ E (some (.long r)) σz) ([.ref a0] : List Value).toArray s (cZ σz - cZ σ) (cS σz - cS σ) (EA E)) (r, σz) (fX2_harm a0 σ) σ 0 [(0, .ref a0)] []
  unfold fX2_harm
  refine Jrow (fun H locs ls hH hS hl k => lv_aload_n hx hb dX2_harm_0 rfl (lv_at hl 0 rfl) (k ls hl)) ?_
  refine Jrow (fun H locs ls hH hS hl k => lv_aload_n hx hb dX2_harm_1 rfl (lv_at hl 0 rfl) (k ls hl)) ?_
  refine Jgd (fun hg => ?_)
  refine Jcl (fun x1 hq => ?_)
  refine Jrow (fun H locs ls hH hS hl k => c_get (F := 50) (v := .ref x1) hx hb hts hown hK hH hg (hts _ q193) (fun _ h => h) (fvR rfl hq) dX2_harm_2 (k ls hl)) ?_
  clear hq
  refine Jgd (fun hg => ?_)
  refine Jcl2 (fun x3 σ2 hf => ?_)
  refine Jcall (v := (some (.long x3))) (rest := []) (mX2_harmIn l E hf).1 ⟨rfl, rfl⟩ (fun H locs ls hH hS hl hR => ⟨_, va_runV (C := RX2) (As := [.ref x1]) ⟨hx, hb, hml, hown, hts⟩ (mX2_harmIn l E hf).2 (cwV 1 hts (lw_V q762 q763 q764 q93 q765) rfl rfl rfl (by decide +kernel) ⟨Nat.le_of_ble_eq_true rfl, Nat.le_of_ble_eq_true rfl⟩) (c_preV (ci := 3) hk hH hS hg rfl) rfl rfl hl.1 rfl (lv_room (Nat.le_of_ble_eq_true rfl)) dX2_harm_5 hR⟩) ?_
  clear hf
  exact Jlret hx hb hr hlocks dX2_harm_8

def fX2_begin (a0 : Nat) (p1 : Nat) (p2 : Int32) (p3 : Int32) (p4 : Int32) (σ : CS) : Option (Unit × CS) :=
 gd (hf (cK σ a0) 50) (
 bd (uFR σ a0 50 (some p1)) (fun (σ1 : CS) =>
 gd (hf (cK σ1 a0) 51) (
 bd (uFI σ1 a0 51 p2) (fun (σ2 : CS) =>
 gd (hf (cK σ2 a0) 52) (
 bd (uFI σ2 a0 52 p3) (fun (σ3 : CS) =>
 gd (hf (cK σ3 a0) 53) (
 bd (uFI σ3 a0 53 (0:Int32)) (fun (σ4 : CS) =>
 lp (fun _ _ => none) (fun (k7 : Int32 → CS → Option (Unit × CS)) (x5 : Int32) (σ6 : CS) =>
 if (4:Int32) ≤ x5 then
 lp (fun _ _ => none) (fun (k10 : Int32 → CS → Option (Unit × CS)) (x8 : Int32) (σ9 : CS) =>
 if p2 ≤ x8 then
 some ((), σ9)
 else
 lp (fun _ _ => none) (fun (k13 : Int32 → CS → Option (Unit × CS)) (x11 : Int32) (σ12 : CS) =>
 if x11 < (0:Int32) then
 bd (x8 + (1:Int32)) (fun (x14 : Int32) =>
 k10 x14 σ12)
 else
 gd (kd σ12 a0 4) (
 cl2 (fX2_move a0 x11 (x11 + (1:Int32)) p4 σ12) (fun (_ : Unit) (σ15 : CS) =>
 bd (x11 + (-1:Int32)) (fun (x17 : Int32) =>
 k13 x17 σ15)))) NF (2:Int32) σ9) NF (0:Int32) σ6
 else
 gd (hf (cK σ6 a0) 49) (
 cl (cFR σ6 a0 49) (fun (x20 : Nat) =>
 jn (fun (x21 : Int32) => gd (kd σ6 x20 101) (
 gd (ib x5 (cLN σ6 x20)) (
 bd (uAI σ6 x20 x5.toNatClampNeg x21) (fun (σ23 : CS) =>
 bd (x5 + (1:Int32)) (fun (x24 : Int32) =>
 k7 x24 σ23))))) (fun (k22 : Int32 → Option (Unit × CS)) =>
 if x5 = (0:Int32) then
 k22 (1000000:Int32)
 else
 k22 (0:Int32))))) NF (0:Int32) σ4))))))))
theorem nX2_begin {a0 : Nat} {p1 : Nat} {p2 : Int32} {p3 : Int32} {p4 : Int32} {σ : CS} : Mn σ (fX2_begin a0 p1 p2 p3 p4 σ) := by
  unfold fX2_begin
  refine Mgd ?_
  refine Mst (Nat.le_refl _) (Nat.le_refl _) (fun σ1 => ?_)
  refine Mgd ?_
  refine Mst (Nat.le_refl _) (Nat.le_refl _) (fun σ2 => ?_)
  refine Mgd ?_
  refine Mst (Nat.le_refl _) (Nat.le_refl _) (fun σ3 => ?_)
  refine Mgd ?_
  refine Mst (Nat.le_refl _) (Nat.le_refl _) (fun σ4 => ?_)
  refine Plp2 (fun (x5 : Int32) (σ6 : CS) (X26 : Option (Unit × CS)) => Mn σ6 X26) (fun _ _ => Mnone) (fun k7 hk7 x5 σ6 => ?_)
  refine Mite ?_ ?_
  · refine Plp2 (fun (x8 : Int32) (σ9 : CS) (X19 : Option (Unit × CS)) => Mn σ9 X19) (fun _ _ => Mnone) (fun k10 hk10 x8 σ9 => ?_)
    refine Mite ?_ ?_
    · exact Mret
    · refine Plp2 (fun (x11 : Int32) (σ12 : CS) (X18 : Option (Unit × CS)) => Mn σ12 X18) (fun _ _ => Mnone) (fun k13 hk13 x11 σ12 => ?_)
      refine Mite ?_ ?_
      · refine Mbd (fun x14 => ?_)
        exact hk10 x14 σ12
      · refine Mgd ?_
        refine Mcl2 (nX2_move) (fun _ σ15 => ?_)
        refine Mbd (fun x17 => ?_)
        exact hk13 x17 σ15
  · refine Mgd ?_
    refine Mcl (fun x20 => ?_)
    refine Mjn1 (fun (x21 : Int32) (X25 : Option (Unit × CS)) => Mn σ6 X25) (fun x21 => ?_) (fun k22 hk22 => ?_)
    · refine Mgd ?_
      refine Mgd ?_
      refine Mst (Nat.le_refl _) (Nat.le_refl _) (fun σ23 => ?_)
      refine Mbd (fun x24 => ?_)
      exact hk7 x24 σ23
    · refine Mite ?_ ?_
      · exact hk22 (1000000:Int32)
      · exact hk22 (0:Int32)
set_option maxHeartbeats 4000000 in
set_option maxRecDepth 100000 in
theorem mX2_begin (l : Launch) (E : CE) {a0 : Nat} {p1 : Nat} {p2 : Int32} {p3 : Int32} {p4 : Int32} {σ : CS} {σz : CS} (hX : fX2_begin a0 p1 p2 p3 p4 σ = some ((), σz)) : MetC l yX2_begin (ws_ yX2_begin cX2_begin 7 none) 2 45 E σ [.ref a0, .ref p1, .int p2, .int p3, .int p4] none σz := by
  refine MetC.of hX (by decide) (Nat.le_of_ble_eq_true rfl) (nX2_begin _ hX) ?_
  intro p e s m below meth c hx hb hr hml hts hown hlocks hnm hk hz0
  have hK := hk.1
  show J p l e (headSpec (ws_ yX2_begin cX2_begin 7 none) (rmC 2 45 σ σz)).room s m ([.ref a0, .ref p1, .int p2, .int p3, .int p4] : List Value).toArray below meth c 7 E (cZ σ) (cS σ) (MQ below (cQ E none σz) ([.ref a0, .ref p1, .int p2, .int p3, .int p4] : List Value).toArray s (cZ σz - cZ σ) (cS σz - cS σ) (EA E)) ((), σz) (fX2_begin a0 p1 p2 p3 p4 σ) σ 0 [(0, .ref a0), (1, .ref p1), (2, .int p2), (3, .int p3), (4, .int p4)] []
  unfold fX2_begin
  refine Jrow (fun H locs ls hH hS hl k => lv_aload_n hx hb dX2_begin_0 rfl (lv_at hl 0 rfl) (k ls hl)) ?_
  refine Jrow (fun H locs ls hH hS hl k => lv_aload_n hx hb dX2_begin_1 rfl (lv_at hl 1 rfl) (k ls hl)) ?_
  refine Jgd (fun hg => ?_)
  refine Jst (σ1 := uFR σ a0 50 (some p1)) rfl rfl (fun H locs ls hH hS hl k => c_putR (F := 50) (ty := (.object "FortyDays$Port")) (x := (some p1)) hx hb hts hown hK hH hS hg (hts _ q193) (fun _ h => h) rfl rfl (by decide +kernel) rfl rfl rfl dX2_begin_2 k) (fun σ1 => ?_)
  refine Jrow (fun H locs ls hH hS hl k => lv_aload_n hx hb dX2_begin_5 rfl (lv_at hl 0 rfl) (k ls hl)) ?_
  refine Jrow (fun H locs ls hH hS hl k => lv_iload_n hx hb dX2_begin_6 rfl (lv_at hl 2 rfl) (k ls hl)) ?_
  refine Jgd (fun hg => ?_)
  refine Jst (σ1 := uFI σ1 a0 51 p2) rfl rfl (fun H locs ls hH hS hl k => c_putI (F := 51) (ty := .int) (x := p2) hx hb hts hown hK hH hS hg (hts _ q196) (fun _ h => h) rfl rfl (by decide +kernel) rfl rfl rfl dX2_begin_7 k) (fun σ2 => ?_)
  refine Jrow (fun H locs ls hH hS hl k => lv_aload_n hx hb dX2_begin_10 rfl (lv_at hl 0 rfl) (k ls hl)) ?_
  refine Jrow (fun H locs ls hH hS hl k => lv_iload_n hx hb dX2_begin_11 rfl (lv_at hl 3 rfl) (k ls hl)) ?_
  refine Jgd (fun hg => ?_)
  refine Jst (σ1 := uFI σ2 a0 52 p3) rfl rfl (fun H locs ls hH hS hl k => c_putI (F := 52) (ty := .int) (x := p3) hx hb hts hown hK hH hS hg (hts _ q197) (fun _ h => h) rfl rfl (by decide +kernel) rfl rfl rfl dX2_begin_12 k) (fun σ3 => ?_)
  refine Jrow (fun H locs ls hH hS hl k => lv_aload_n hx hb dX2_begin_15 rfl (lv_at hl 0 rfl) (k ls hl)) ?_
  refine Jrow (fun H locs ls hH hS hl k => lv_iconst (v := (0:Int32)) hx hb dX2_begin_16 (by decide) (k ls hl)) ?_
  refine Jgd (fun hg => ?_)
  refine Jst (σ1 := uFI σ3 a0 53 (0:Int32)) rfl rfl (fun H locs ls hH hS hl k => c_putI (F := 53) (ty := .int) (x := (0:Int32)) hx hb hts hown hK hH hS hg (hts _ q200) (fun _ h => h) rfl rfl (by decide +kernel) rfl rfl rfl dX2_begin_17 k) (fun σ4 => ?_)
  refine Jrow (fun H locs ls hH hS hl k => lv_iconst (v := (0:Int32)) hx hb dX2_begin_20 (by decide) (k ls hl)) ?_
  refine Jrow (fun H locs ls hH hS hl k => lv_istore (lv' := [(5, .int (0:Int32)), (0, .ref a0), (1, .ref p1), (2, .int p2), (3, .int p3), (4, .int p4)]) hx hb dX2_begin_21 hl (by decide) rfl k) ?_
  refine Jsub [1, 3, 5, 0] rfl (Plp2 (fun (x5 : Int32) (σ6 : CS) X26 => J p l e (headSpec (ws_ yX2_begin cX2_begin 7 none) (rmC 2 45 σ σz)).room s m ([.ref a0, .ref p1, .int p2, .int p3, .int p4] : List Value).toArray below meth c 7 E (cZ σ) (cS σ) (MQ below (cQ E none σz) ([.ref a0, .ref p1, .int p2, .int p3, .int p4] : List Value).toArray s (cZ σz - cZ σ) (cS σz - cS σ) (EA E)) ((), σz) X26 σ6 23 [(0, .ref a0), (2, .int p2), (4, .int p4), (5, .int x5)] []) (fun _ _ => Jnone) (fun k7 hk7 x5 σ6 => ?_))
  refine Jrow (fun H locs ls hH hS hl k => lv_iload hx hb dX2_begin_23 (lv_at hl 3 rfl) (k ls hl)) ?_
  refine Jrow (fun H locs ls hH hS hl k => lv_iconst (v := (4:Int32)) hx hb dX2_begin_25 (by decide) (k ls hl)) ?_
  refine Jite (fun hc => ?_) (fun hc => ?_)
  · refine Jrow (fun H locs ls hH hS hl k => lv_icmp_ge (tgt := 53) hx hb dX2_begin_26 (by decide) (fun _ => (k ls hl)) (fun h => absurd hc h)) ?_
    clear hc
    refine Jrow (fun H locs ls hH hS hl k => lv_iconst (v := (0:Int32)) hx hb dX2_begin_53 (by decide) (k ls hl)) ?_
    refine Jrow (fun H locs ls hH hS hl k => lv_istore (lv' := [(5, .int (0:Int32)), (0, .ref a0), (2, .int p2), (4, .int p4)]) hx hb dX2_begin_54 hl (by decide) rfl k) ?_
    refine Jsub [1, 2, 3, 0] rfl (Plp2 (fun (x8 : Int32) (σ9 : CS) X19 => J p l e (headSpec (ws_ yX2_begin cX2_begin 7 none) (rmC 2 45 σ σz)).room s m ([.ref a0, .ref p1, .int p2, .int p3, .int p4] : List Value).toArray below meth c 7 E (cZ σ) (cS σ) (MQ below (cQ E none σz) ([.ref a0, .ref p1, .int p2, .int p3, .int p4] : List Value).toArray s (cZ σz - cZ σ) (cS σz - cS σ) (EA E)) ((), σz) X19 σ9 56 [(0, .ref a0), (2, .int p2), (4, .int p4), (5, .int x8)] []) (fun _ _ => Jnone) (fun k10 hk10 x8 σ9 => ?_))
    refine Jrow (fun H locs ls hH hS hl k => lv_iload hx hb dX2_begin_56 (lv_at hl 3 rfl) (k ls hl)) ?_
    refine Jrow (fun H locs ls hH hS hl k => lv_iload_n hx hb dX2_begin_58 rfl (lv_at hl 1 rfl) (k ls hl)) ?_
    refine Jite (fun hc => ?_) (fun hc => ?_)
    · refine Jrow (fun H locs ls hH hS hl k => lv_icmp_ge (tgt := 94) hx hb dX2_begin_59 (by decide) (fun _ => (k ls hl)) (fun h => absurd hc h)) ?_
      clear hc
      exact Jvret hx hb hr hlocks dX2_begin_94
    · refine Jrow (fun H locs ls hH hS hl k => lv_icmp_ge (tgt := 94) hx hb dX2_begin_59 (by decide) (fun h => absurd h hc) (fun _ => (k ls hl))) ?_
      clear hc
      refine Jrow (fun H locs ls hH hS hl k => lv_iconst (v := (2:Int32)) hx hb dX2_begin_62 (by decide) (k ls hl)) ?_
      refine Jrow (fun H locs ls hH hS hl k => lv_istore (lv' := [(6, .int (2:Int32)), (0, .ref a0), (2, .int p2), (4, .int p4), (5, .int x8)]) hx hb dX2_begin_63 hl (by decide) rfl k) ?_
      refine Jsub [1, 2, 3, 4, 0] rfl (Plp2 (fun (x11 : Int32) (σ12 : CS) X18 => J p l e (headSpec (ws_ yX2_begin cX2_begin 7 none) (rmC 2 45 σ σz)).room s m ([.ref a0, .ref p1, .int p2, .int p3, .int p4] : List Value).toArray below meth c 7 E (cZ σ) (cS σ) (MQ below (cQ E none σz) ([.ref a0, .ref p1, .int p2, .int p3, .int p4] : List Value).toArray s (cZ σz - cZ σ) (cS σz - cS σ) (EA E)) ((), σz) X18 σ12 65 [(0, .ref a0), (2, .int p2), (4, .int p4), (5, .int x8), (6, .int x11)] []) (fun _ _ => Jnone) (fun k13 hk13 x11 σ12 => ?_))
      refine Jrow (fun H locs ls hH hS hl k => lv_iload hx hb dX2_begin_65 (lv_at hl 4 rfl) (k ls hl)) ?_
      refine Jite (fun hc => ?_) (fun hc => ?_)
      · refine Jrow (fun H locs ls hH hS hl k => lv_if_lt (tgt := 88) hx hb dX2_begin_67 (by decide) (fun _ => (k ls hl)) (fun h => absurd hc h)) ?_
        clear hc
        refine Jbd (fun x14 ex14 => ?_)
        refine Jrow (fun H locs ls hH hS hl k => lv_iinc (v := x14) (lv' := [(5, .int x14), (0, .ref a0), (2, .int p2), (4, .int p4), (6, .int x11)]) hx hb dX2_begin_88 hl (k := 3) rfl (by rw [ex14]; rfl) (by decide) rfl k) ?_
        clear ex14
        refine Jrow (fun H locs ls hH hS hl k => lv_goto (tgt := 56) hx hb dX2_begin_91 (by decide) (k ls hl)) ?_
        exact Jsub [1, 2, 3, 0] rfl (hk10 x14 σ12)
      · refine Jrow (fun H locs ls hH hS hl k => lv_if_lt (tgt := 88) hx hb dX2_begin_67 (by decide) (fun h => absurd h hc) (fun _ => (k ls hl))) ?_
        clear hc
        refine Jrow (fun H locs ls hH hS hl k => lv_aload_n hx hb dX2_begin_70 rfl (lv_at hl 0 rfl) (k ls hl)) ?_
        refine Jrow (fun H locs ls hH hS hl k => lv_iload hx hb dX2_begin_71 (lv_at hl 4 rfl) (k ls hl)) ?_
        refine Jrow (fun H locs ls hH hS hl k => lv_iload hx hb dX2_begin_73 (lv_at hl 4 rfl) (k ls hl)) ?_
        refine Jrow (fun H locs ls hH hS hl k => lv_iconst (v := (1:Int32)) hx hb dX2_begin_75 (by decide) (k ls hl)) ?_
        refine Jrow (fun H locs ls hH hS hl k => lv_iadd hx hb dX2_begin_76 (k ls hl)) ?_
        refine Jrow (fun H locs ls hH hS hl k => lv_iload hx hb dX2_begin_77 (lv_at hl 2 rfl) (k ls hl)) ?_
        refine Jgd (fun hg => ?_)
        refine Jcl2 (fun _ σ15 hf => ?_)
        refine Jcall (v := none) (rest := []) (mX2_move l E hf).1 ⟨rfl, rfl⟩ (fun H locs ls hH hS hl hR => ⟨_, va_runV (C := RX2) (As := [.int x11, .int (x11 + (1:Int32)), .int p4]) ⟨hx, hb, hml, hown, hts⟩ (mX2_move l E hf).2 (cwV 3 hts (lw_V q677 q679 qs17 q93 q680) rfl rfl rfl (by decide +kernel) ⟨Nat.le_of_ble_eq_true rfl, Nat.le_of_ble_eq_true rfl⟩) (c_preV (ci := 3) hk hH hS hg rfl) rfl rfl hl.1 rfl (lv_room (Nat.le_of_ble_eq_true rfl)) dX2_begin_79 hR⟩) ?_
        clear hf
        refine Jbd (fun x17 ex17 => ?_)
        refine Jrow (fun H locs ls hH hS hl k => lv_iinc (v := x17) (lv' := [(6, .int x17), (0, .ref a0), (2, .int p2), (4, .int p4), (5, .int x8)]) hx hb dX2_begin_82 hl (k := 4) rfl (by rw [ex17]; rfl) (by decide) rfl k) ?_
        clear ex17
        refine Jrow (fun H locs ls hH hS hl k => lv_goto (tgt := 65) hx hb dX2_begin_85 (by decide) (k ls hl)) ?_
        exact Jsub [1, 2, 3, 4, 0] rfl (hk13 x17 σ15)
  · refine Jrow (fun H locs ls hH hS hl k => lv_icmp_ge (tgt := 53) hx hb dX2_begin_26 (by decide) (fun h => absurd h hc) (fun _ => (k ls hl))) ?_
    clear hc
    refine Jrow (fun H locs ls hH hS hl k => lv_aload_n hx hb dX2_begin_29 rfl (lv_at hl 0 rfl) (k ls hl)) ?_
    refine Jgd (fun hg => ?_)
    refine Jcl (fun x20 hq => ?_)
    refine Jrow (fun H locs ls hH hS hl k => c_get (F := 49) (v := .ref x20) hx hb hts hown hK hH hg (hts _ q191) (fun _ h => h) (fvR rfl hq) dX2_begin_30 (k ls hl)) ?_
    clear hq
    refine Jrow (fun H locs ls hH hS hl k => lv_iload hx hb dX2_begin_33 (lv_at hl 3 rfl) (k ls hl)) ?_
    refine Jrow (fun H locs ls hH hS hl k => lv_iload hx hb dX2_begin_35 (lv_at hl 3 rfl) (k ls hl)) ?_
    refine Jjn1 (fun (x21 : Int32) X25 => J p l e (headSpec (ws_ yX2_begin cX2_begin 7 none) (rmC 2 45 σ σz)).room s m ([.ref a0, .ref p1, .int p2, .int p3, .int p4] : List Value).toArray below meth c 7 E (cZ σ) (cS σ) (MQ below (cQ E none σz) ([.ref a0, .ref p1, .int p2, .int p3, .int p4] : List Value).toArray s (cZ σz - cZ σ) (cS σz - cS σ) (EA E)) ((), σz) X25 σ6 46 [(0, .ref a0), (2, .int p2), (4, .int p4), (5, .int x5)] [.int x21, .int x5, .ref x20]) (fun x21 => ?_) (fun k22 hk22 => ?_)
    · refine Jgd (fun hk1 => ?_)
      refine Jgd (fun hg => ?_)
      refine Jst (σ1 := uAI σ6 x20 x5.toNatClampNeg x21) rfl rfl (fun H locs ls hH hS hl k => c_iast hx hb hK hH hS hk1 hg dX2_begin_46 k) (fun σ23 => ?_)
      refine Jbd (fun x24 ex24 => ?_)
      refine Jrow (fun H locs ls hH hS hl k => lv_iinc (v := x24) (lv' := [(5, .int x24), (0, .ref a0), (2, .int p2), (4, .int p4)]) hx hb dX2_begin_47 hl (k := 3) rfl (by rw [ex24]; rfl) (by decide) rfl k) ?_
      clear ex24
      refine Jrow (fun H locs ls hH hS hl k => lv_goto (tgt := 23) hx hb dX2_begin_50 (by decide) (k ls hl)) ?_
      exact Jsub [1, 2, 3, 0] rfl (hk7 x24 σ23)
    · refine Jite (fun hc => ?_) (fun hc => ?_)
      · refine Jrow (fun H locs ls hH hS hl k => lv_if_ne (tgt := 45) hx hb dX2_begin_37 (by decide) (fun h => absurd hc h) (fun _ => (k ls hl))) ?_
        clear hc
        refine Jrow (fun H locs ls hH hS hl k => lv_ldc (v := (1000000:Int32)) hx hb hown (hts _ q676) dX2_begin_40 (k ls hl)) ?_
        refine Jrow (fun H locs ls hH hS hl k => lv_goto (tgt := 46) hx hb dX2_begin_42 (by decide) (k ls hl)) ?_
        exact Jsub [0, 1, 2, 3] rfl (hk22 (1000000:Int32))
      · refine Jrow (fun H locs ls hH hS hl k => lv_if_ne (tgt := 45) hx hb dX2_begin_37 (by decide) (fun _ => (k ls hl)) (fun h => absurd h hc)) ?_
        clear hc
        refine Jrow (fun H locs ls hH hS hl k => lv_iconst (v := (0:Int32)) hx hb dX2_begin_45 (by decide) (k ls hl)) ?_
        exact Jsub [0, 1, 2, 3] rfl (hk22 (0:Int32))

def fX2_become (a0 : Nat) (p1 : Nat) (σ : CS) : Option (Unit × CS) :=
 gd (hf (cK σ p1) 49) (
 cl (cFR σ p1 49) (fun (x1 : Nat) =>
 gd (hf (cK σ a0) 49) (
 cl (cFR σ a0 49) (fun (x2 : Nat) =>
 gd (kd σ x1 101) (
 gd (kd σ x2 101) (
 gd (cpb σ x1 x2 (0:Int32) (0:Int32) (4:Int32)) (
 bd (cpI σ x1 x2 (0:Int32).toNatClampNeg (0:Int32).toNatClampNeg (4:Int32).toNatClampNeg) (fun (σ3 : CS) =>
 gd (hf (cK σ3 p1) 50) (
 cl (cFR σ3 p1 50) (fun (x4 : Nat) =>
 gd (hf (cK σ3 a0) 50) (
 bd (uFR σ3 a0 50 (some x4)) (fun (σ5 : CS) =>
 gd (hf (cK σ5 p1) 51) (
 gd (hf (cK σ5 a0) 51) (
 bd (uFI σ5 a0 51 (cFI σ5 p1 51)) (fun (σ6 : CS) =>
 gd (hf (cK σ6 p1) 52) (
 gd (hf (cK σ6 a0) 52) (
 bd (uFI σ6 a0 52 (cFI σ6 p1 52)) (fun (σ7 : CS) =>
 gd (hf (cK σ7 p1) 53) (
 gd (hf (cK σ7 a0) 53) (
 bd (uFI σ7 a0 53 (cFI σ7 p1 53)) (fun (σ8 : CS) =>
 some ((), σ8))))))))))))))))))))))
theorem nX2_become {a0 : Nat} {p1 : Nat} {σ : CS} : Mn σ (fX2_become a0 p1 σ) := by
  unfold fX2_become
  refine Mgd ?_
  refine Mcl (fun x1 => ?_)
  refine Mgd ?_
  refine Mcl (fun x2 => ?_)
  refine Mgd ?_
  refine Mgd ?_
  refine Mgd ?_
  refine Mst (Nat.le_refl _) (Nat.le_refl _) (fun σ3 => ?_)
  refine Mgd ?_
  refine Mcl (fun x4 => ?_)
  refine Mgd ?_
  refine Mst (Nat.le_refl _) (Nat.le_refl _) (fun σ5 => ?_)
  refine Mgd ?_
  refine Mgd ?_
  refine Mst (Nat.le_refl _) (Nat.le_refl _) (fun σ6 => ?_)
  refine Mgd ?_
  refine Mgd ?_
  refine Mst (Nat.le_refl _) (Nat.le_refl _) (fun σ7 => ?_)
  refine Mgd ?_
  refine Mgd ?_
  refine Mst (Nat.le_refl _) (Nat.le_refl _) (fun σ8 => ?_)
  exact Mret
set_option maxHeartbeats 4000000 in
set_option maxRecDepth 100000 in
theorem mX2_become (l : Launch) (E : CE) {a0 : Nat} {p1 : Nat} {σ : CS} {σz : CS} (hX : fX2_become a0 p1 σ = some ((), σz)) : MetC l yX2_become (ws_ yX2_become cX2_become 2 none) 1 60 E σ [.ref a0, .ref p1] none σz := by
  refine MetC.of hX (by decide) (Nat.le_of_ble_eq_true rfl) (nX2_become _ hX) ?_
  intro p e s m below meth c hx hb hr hml hts hown hlocks hnm hk hz0
  have hK := hk.1
  show J p l e (headSpec (ws_ yX2_become cX2_become 2 none) (rmC 1 60 σ σz)).room s m ([.ref a0, .ref p1] : List Value).toArray below meth c 2 E (cZ σ) (cS σ) (MQ below (cQ E none σz) ([.ref a0, .ref p1] : List Value).toArray s (cZ σz - cZ σ) (cS σz - cS σ) (EA E)) ((), σz) (fX2_become a0 p1 σ) σ 0 [(0, .ref a0), (1, .ref p1)] []
  unfold fX2_become
  refine Jrow (fun H locs ls hH hS hl k => lv_aload_n hx hb dX2_become_0 rfl (lv_at hl 1 rfl) (k ls hl)) ?_
  refine Jgd (fun hg => ?_)
  refine Jcl (fun x1 hq => ?_)
  refine Jrow (fun H locs ls hH hS hl k => c_get (F := 49) (v := .ref x1) hx hb hts hown hK hH hg (hts _ q191) (fun _ h => h) (fvR rfl hq) dX2_become_1 (k ls hl)) ?_
  clear hq
  refine Jrow (fun H locs ls hH hS hl k => lv_iconst (v := (0:Int32)) hx hb dX2_become_4 (by decide) (k ls hl)) ?_
  refine Jrow (fun H locs ls hH hS hl k => lv_aload_n hx hb dX2_become_5 rfl (lv_at hl 0 rfl) (k ls hl)) ?_
  refine Jgd (fun hg => ?_)
  refine Jcl (fun x2 hq => ?_)
  refine Jrow (fun H locs ls hH hS hl k => c_get (F := 49) (v := .ref x2) hx hb hts hown hK hH hg (hts _ q191) (fun _ h => h) (fvR rfl hq) dX2_become_6 (k ls hl)) ?_
  clear hq
  refine Jrow (fun H locs ls hH hS hl k => lv_iconst (v := (0:Int32)) hx hb dX2_become_9 (by decide) (k ls hl)) ?_
  refine Jrow (fun H locs ls hH hS hl k => lv_iconst (v := (4:Int32)) hx hb dX2_become_10 (by decide) (k ls hl)) ?_
  refine Jgd (fun hk0 => ?_)
  refine Jgd (fun hk1 => ?_)
  refine Jgd (fun hcp => ?_)
  refine Jst (σ1 := cpI σ x1 x2 (0:Int32).toNatClampNeg (0:Int32).toNatClampNeg (4:Int32).toNatClampNeg) rfl rfl (fun H locs ls hH hS hl k => c_copyI hx hb (hml.trans hl.1.symm) hown (hts _ q921) (hts _ q589) (hts _ q588) (hts _ q106) hK hH hS hcp (t := 0) (Or.inl rfl) rfl rfl (fun _ _ => rfl) hk0 hk1 (Nat.le_of_ble_eq_true rfl) (Nat.le_of_ble_eq_true rfl) dX2_become_11 k) (fun σ3 => ?_)
  refine Jrow (fun H locs ls hH hS hl k => lv_aload_n hx hb dX2_become_14 rfl (lv_at hl 0 rfl) (k ls hl)) ?_
  refine Jrow (fun H locs ls hH hS hl k => lv_aload_n hx hb dX2_become_15 rfl (lv_at hl 1 rfl) (k ls hl)) ?_
  refine Jgd (fun hg => ?_)
  refine Jcl (fun x4 hq => ?_)
  refine Jrow (fun H locs ls hH hS hl k => c_get (F := 50) (v := .ref x4) hx hb hts hown hK hH hg (hts _ q193) (fun _ h => h) (fvR rfl hq) dX2_become_16 (k ls hl)) ?_
  clear hq
  refine Jgd (fun hg => ?_)
  refine Jst (σ1 := uFR σ3 a0 50 (some x4)) rfl rfl (fun H locs ls hH hS hl k => c_putR (F := 50) (ty := (.object "FortyDays$Port")) (x := (some x4)) hx hb hts hown hK hH hS hg (hts _ q193) (fun _ h => h) rfl rfl (by decide +kernel) rfl rfl rfl dX2_become_19 k) (fun σ5 => ?_)
  refine Jrow (fun H locs ls hH hS hl k => lv_aload_n hx hb dX2_become_22 rfl (lv_at hl 0 rfl) (k ls hl)) ?_
  refine Jrow (fun H locs ls hH hS hl k => lv_aload_n hx hb dX2_become_23 rfl (lv_at hl 1 rfl) (k ls hl)) ?_
  refine Jgd (fun hg => ?_)
  refine Jrow (fun H locs ls hH hS hl k => c_get (F := 51) (v := .int (cFI σ5 p1 51)) hx hb hts hown hK hH hg (hts _ q196) (fun _ h => h) rfl dX2_become_24 (k ls hl)) ?_
  refine Jgd (fun hg => ?_)
  refine Jst (σ1 := uFI σ5 a0 51 (cFI σ5 p1 51)) rfl rfl (fun H locs ls hH hS hl k => c_putI (F := 51) (ty := .int) (x := (cFI σ5 p1 51)) hx hb hts hown hK hH hS hg (hts _ q196) (fun _ h => h) rfl rfl (by decide +kernel) rfl rfl rfl dX2_become_27 k) (fun σ6 => ?_)
  refine Jrow (fun H locs ls hH hS hl k => lv_aload_n hx hb dX2_become_30 rfl (lv_at hl 0 rfl) (k ls hl)) ?_
  refine Jrow (fun H locs ls hH hS hl k => lv_aload_n hx hb dX2_become_31 rfl (lv_at hl 1 rfl) (k ls hl)) ?_
  refine Jgd (fun hg => ?_)
  refine Jrow (fun H locs ls hH hS hl k => c_get (F := 52) (v := .int (cFI σ6 p1 52)) hx hb hts hown hK hH hg (hts _ q197) (fun _ h => h) rfl dX2_become_32 (k ls hl)) ?_
  refine Jgd (fun hg => ?_)
  refine Jst (σ1 := uFI σ6 a0 52 (cFI σ6 p1 52)) rfl rfl (fun H locs ls hH hS hl k => c_putI (F := 52) (ty := .int) (x := (cFI σ6 p1 52)) hx hb hts hown hK hH hS hg (hts _ q197) (fun _ h => h) rfl rfl (by decide +kernel) rfl rfl rfl dX2_become_35 k) (fun σ7 => ?_)
  refine Jrow (fun H locs ls hH hS hl k => lv_aload_n hx hb dX2_become_38 rfl (lv_at hl 0 rfl) (k ls hl)) ?_
  refine Jrow (fun H locs ls hH hS hl k => lv_aload_n hx hb dX2_become_39 rfl (lv_at hl 1 rfl) (k ls hl)) ?_
  refine Jgd (fun hg => ?_)
  refine Jrow (fun H locs ls hH hS hl k => c_get (F := 53) (v := .int (cFI σ7 p1 53)) hx hb hts hown hK hH hg (hts _ q200) (fun _ h => h) rfl dX2_become_40 (k ls hl)) ?_
  refine Jgd (fun hg => ?_)
  refine Jst (σ1 := uFI σ7 a0 53 (cFI σ7 p1 53)) rfl rfl (fun H locs ls hH hS hl k => c_putI (F := 53) (ty := .int) (x := (cFI σ7 p1 53)) hx hb hts hown hK hH hS hg (hts _ q200) (fun _ h => h) rfl rfl (by decide +kernel) rfl rfl rfl dX2_become_43 k) (fun σ8 => ?_)
  exact Jvret hx hb hr hlocks dX2_become_46

def fX2_init (a0 : Nat) (σ : CS) : Option (Unit × CS) :=
 gd (na (4:Int32)) (
 bd (nA σ 101 (4:Int32).toNatClampNeg) (fun (σ1 : CS) =>
 gd (hf (cK σ1 a0) 49) (
 bd (uFR σ1 a0 49 (some (cZ σ))) (fun (σ2 : CS) =>
 some ((), σ2)))))
theorem nX2_init {a0 : Nat} {σ : CS} : Mn σ (fX2_init a0 σ) := by
  unfold fX2_init
  refine Mgd ?_
  refine Mst (Nat.le_succ _) (Nat.le_add_right _ _) (fun σ1 => ?_)
  refine Mgd ?_
  refine Mst (Nat.le_refl _) (Nat.le_refl _) (fun σ2 => ?_)
  exact Mret
set_option maxHeartbeats 4000000 in
set_option maxRecDepth 100000 in
theorem mX2_init (l : Launch) (E : CE) {a0 : Nat} {σ : CS} {σz : CS} (hX : fX2_init a0 σ = some ((), σz)) : MetC l yX2_init (ws_ yX2_init cX2_init 1 none) 1 12 E σ [.ref a0] none σz := by
  refine MetC.of hX (by decide) (Nat.le_of_ble_eq_true rfl) (nX2_init _ hX) ?_
  intro p e s m below meth c hx hb hr hml hts hown hlocks hnm hk hz0
  have hK := hk.1
  show J p l e (headSpec (ws_ yX2_init cX2_init 1 none) (rmC 1 12 σ σz)).room s m ([.ref a0] : List Value).toArray below meth c 1 E (cZ σ) (cS σ) (MQ below (cQ E none σz) ([.ref a0] : List Value).toArray s (cZ σz - cZ σ) (cS σz - cS σ) (EA E)) ((), σz) (fX2_init a0 σ) σ 0 [(0, .ref a0)] []
  unfold fX2_init
  refine Jrow (fun H locs ls hH hS hl k => lv_aload_n hx hb dX2_init_0 rfl (lv_at hl 0 rfl) (k ls hl)) ?_
  refine Jrow (fun H locs ls hH hS hl k => W.objInit hx hb hown (hts _ q190) (hts _ q127) (hts _ q128) rfl (by rw [hml]; exact hl.1) rfl dX2_init_1 (Nat.le_of_ble_eq_true rfl) (Nat.le_of_ble_eq_true rfl) (W.eq (g2 := F0 m 4 ls []) rfl (k ls hl))) ?_
  refine Jrow (fun H locs ls hH hS hl k => lv_aload_n hx hb dX2_init_4 rfl (lv_at hl 0 rfl) (k ls hl)) ?_
  refine Jrow (fun H locs ls hH hS hl k => lv_iconst (v := (4:Int32)) hx hb dX2_init_5 (by decide) (k ls hl)) ?_
  refine Jgd (fun hg => ?_)
  refine Jnew (σ1 := nA σ 101 (4:Int32).toNatClampNeg) (n := (4:Int32).toNatClampNeg) rfl rfl ⟨rfl, rfl⟩ (fun H locs ls hH hS hl h1 h2 k => c_newa (t := 0) (ty := .int) hx hb hts hK hH hS hk.2.1 (by decide) rfl rfl (fun h => h) rfl (by decide) q219 hg h1 h2 dX2_init_6 k) (fun σ1 eσ1 => ?_)
  clear eσ1
  refine Jgd (fun hg => ?_)
  refine Jst (σ1 := uFR σ1 a0 49 (some (cZ σ))) rfl rfl (fun H locs ls hH hS hl k => c_putRF (F := 49) (ty := (.array .int)) (x := (some (cZ σ))) hx hb hts hown hK hH hS hg (hts _ q191) (fun _ h => h) rfl hnm rfl rfl (by decide +kernel) rfl rfl rfl dX2_init_8 k) (fun σ2 => ?_)
  exact Jvret hx hb hr hlocks dX2_init_11
