/-! printed by gen/comp.py -/
def fX0_held (a0 : Nat) (p1 : Int32) (p2 : Int64) (σ : CS) : Option (Int64 × CS) :=
 gd (hf (cK σ a0) 30) (
 cl (cFR σ a0 30) (fun (x1 : Nat) =>
 gd (kd σ x1 103) (
 gd (ib p1 (cLN σ x1)) (
 gd (hf (cK σ a0) 30) (
 cl (cFR σ a0 30) (fun (x2 : Nat) =>
 gd (kd σ x2 103) (
 gd (ib p1 (cLN σ x2)) (
 gd (hf (cK σ a0) 32) (
 cl (cFR σ a0 32) (fun (x3 : Nat) =>
 gd (kd σ x3 101) (
 gd (ib p1 (cLN σ x3)) (
 cl (fX0_joint p2 ((10:Int64) * (cAL σ x2 p1.toNatClampNeg)) (cAI σ x3 p1.toNatClampNeg)) (fun (x4 : Int64) =>
 some ((cAL σ x1 p1.toNatClampNeg) + x4, σ))))))))))))))
theorem nX0_held {a0 : Nat} {p1 : Int32} {p2 : Int64} {σ : CS} : Mn σ (fX0_held a0 p1 p2 σ) := by
  unfold fX0_held
  refine Mgd ?_
  refine Mcl (fun x1 => ?_)
  refine Mgd ?_
  refine Mgd ?_
  refine Mgd ?_
  refine Mcl (fun x2 => ?_)
  refine Mgd ?_
  refine Mgd ?_
  refine Mgd ?_
  refine Mcl (fun x3 => ?_)
  refine Mgd ?_
  refine Mgd ?_
  refine Mcl (fun x4 => ?_)
  exact Mret
set_option maxHeartbeats 4000000 in
set_option maxRecDepth 100000 in
theorem mX0_held (l : Launch) (E : CE) {a0 : Nat} {p1 : Int32} {p2 : Int64} {σ : CS} {r : Int64} {σz : CS} (hX : fX0_held a0 p1 p2 σ = some (r, σz)) : MetC l yX0_held (ws_ yX0_held cX0_held 4 (some .long)) 1 24 E σ [.ref a0, .int p1, .long p2] (some (.long r)) σz := by
  refine MetC.of hX (by decide) (Nat.le_of_ble_eq_true rfl) (nX0_held _ hX) ?_
  intro p e s m below meth c hx hb hr hml hts hown hlocks hnm hk hz0
  have hK := hk.1
  show J p l e (headSpec (ws_ yX0_held cX0_held 4 (some .long)) (rmC 1 24 σ σz)).room s m ([.ref a0, .int p1, .long p2] : List Value).toArray below meth c 4 E (cZ σ) (cS σ) (MQ below (cQ E (some (.long r)) σz) ([.ref a0, .int p1, .long p2] : List Value).toArray s (cZ σz - cZ σ) (cS σz - cS σ) (EA E)) (r, σz) (fX0_held a0 p1 p2 σ) σ 0 [(0, .ref a0), (1, .int p1), (2, .long p2)] []
  unfold fX0_held
  refine Jrow (fun H locs ls hH hS hl k => lv_aload_n hx hb dX0_held_0 rfl (lv_at hl 0 rfl) (k ls hl)) ?_
  refine Jgd (fun hg => ?_)
  refine Jcl (fun x1 hq => ?_)
  refine Jrow (fun H locs ls hH hS hl k => c_get (F := 30) (v := .ref x1) hx hb hts hown hK hH hg (hts _ q259) (fun _ h => h) (fvR rfl hq) dX0_held_1 (k ls hl)) ?_
  clear hq
  refine Jrow (fun H locs ls hH hS hl k => lv_iload_n hx hb dX0_held_4 rfl (lv_at hl 1 rfl) (k ls hl)) ?_
  refine Jgd (fun hk1 => ?_)
  refine Jgd (fun hg => ?_)
  refine Jrow (fun H locs ls hH hS hl k => c_lald hx hb hK hH hk1 hg dX0_held_5 (k ls hl)) ?_
  refine Jrow (fun H locs ls hH hS hl k => lv_lload_n hx hb dX0_held_6 rfl (lv_at hl 2 rfl) (k ls hl)) ?_
  refine Jrow (fun H locs ls hH hS hl k => lv_ldc2 (v := (10:Int64)) hx hb hown (hts _ q986) dX0_held_7 (k ls hl)) ?_
  refine Jrow (fun H locs ls hH hS hl k => lv_aload_n hx hb dX0_held_10 rfl (lv_at hl 0 rfl) (k ls hl)) ?_
  refine Jgd (fun hg => ?_)
  refine Jcl (fun x2 hq => ?_)
  refine Jrow (fun H locs ls hH hS hl k => c_get (F := 30) (v := .ref x2) hx hb hts hown hK hH hg (hts _ q259) (fun _ h => h) (fvR rfl hq) dX0_held_11 (k ls hl)) ?_
  clear hq
  refine Jrow (fun H locs ls hH hS hl k => lv_iload_n hx hb dX0_held_14 rfl (lv_at hl 1 rfl) (k ls hl)) ?_
  refine Jgd (fun hk1 => ?_)
  refine Jgd (fun hg => ?_)
  refine Jrow (fun H locs ls hH hS hl k => c_lald hx hb hK hH hk1 hg dX0_held_15 (k ls hl)) ?_
  refine Jrow (fun H locs ls hH hS hl k => lv_lmul hx hb dX0_held_16 (k ls hl)) ?_
  refine Jrow (fun H locs ls hH hS hl k => lv_aload_n hx hb dX0_held_17 rfl (lv_at hl 0 rfl) (k ls hl)) ?_
  refine Jgd (fun hg => ?_)
  refine Jcl (fun x3 hq => ?_)
  refine Jrow (fun H locs ls hH hS hl k => c_get (F := 32) (v := .ref x3) hx hb hts hown hK hH hg (hts _ q262) (fun _ h => h) (fvR rfl hq) dX0_held_18 (k ls hl)) ?_
  clear hq
  refine Jrow (fun H locs ls hH hS hl k => lv_iload_n hx hb dX0_held_21 rfl (lv_at hl 1 rfl) (k ls hl)) ?_
  refine Jgd (fun hk1 => ?_)
  refine Jgd (fun hg => ?_)
  refine Jrow (fun H locs ls hH hS hl k => c_iald hx hb hK hH hk1 hg dX0_held_22 (k ls hl)) ?_
  refine Jcl (fun x4 hf => ?_)
  refine JcallS (v := .long x4) (rest := [.long (cAL σ x1 p1.toNatClampNeg)]) hz0 ⟨rfl, rfl⟩ sQl_o (fun H locs ls hl hR => va_runS (As := [.long p2, .long ((10:Int64) * (cAL σ x2 p1.toNatClampNeg)), .int (cAI σ x3 p1.toNatClampNeg)]) ⟨hx, hb, hml, hown, hts⟩ (mX0_joint l hf) (va_cwS 3 hts (lw_S q987 q935 q88 q936) rfl rfl rfl (by decide +kernel) ⟨Nat.le_of_ble_eq_true rfl, Nat.le_of_ble_eq_true rfl⟩) s_pre rfl rfl hl.1 rfl (lv_room (Nat.le_of_ble_eq_true rfl)) dX0_held_23 hR) ?_
  clear hf
  refine Jrow (fun H locs ls hH hS hl k => lv_ladd hx hb dX0_held_26 (k ls hl)) ?_
  exact Jlret hx hb hr hlocks dX0_held_27

def fX0_fold (a0 : Nat) (p1 : Int32) (p2 : Int64) (σ : CS) : Option (Int64 × CS) :=
 bd (p1 - (1:Int32)) (fun (x1 : Int32) =>
 lp (fun _ _ _ => none) (fun (k5 : Int64 → Int32 → CS → Option (Int64 × CS)) (x2 : Int64) (x3 : Int32) (σ4 : CS) =>
 if x3 < (0:Int32) then
 some (x2, σ4)
 else
 gd (kd σ4 a0 2) (
 cl2 (fX0_held a0 x3 x2 σ4) (fun (x7 : Int64) (σ6 : CS) =>
 bd (x3 + (-1:Int32)) (fun (x8 : Int32) =>
 k5 x7 x8 σ6)))) NF p2 x1 σ)
theorem nX0_fold {a0 : Nat} {p1 : Int32} {p2 : Int64} {σ : CS} : Mn σ (fX0_fold a0 p1 p2 σ) := by
  unfold fX0_fold
  refine Mbd (fun x1 => ?_)
  refine Plp3 (fun (x2 : Int64) (x3 : Int32) (σ4 : CS) (X9 : Option (Int64 × CS)) => Mn σ4 X9) (fun _ _ _ => Mnone) (fun k5 hk5 x2 x3 σ4 => ?_)
  refine Mite ?_ ?_
  · exact Mret
  · refine Mgd ?_
    refine Mcl2 (nX0_held) (fun x7 σ6 => ?_)
    refine Mbd (fun x8 => ?_)
    exact hk5 x7 x8 σ6
set_option maxHeartbeats 4000000 in
set_option maxRecDepth 100000 in
theorem mX0_fold (l : Launch) (E : CE) {a0 : Nat} {p1 : Int32} {p2 : Int64} {σ : CS} {r : Int64} {σz : CS} (hX : fX0_fold a0 p1 p2 σ = some (r, σz)) : MetC l yX0_fold (ws_ yX0_fold cX0_fold 7 (some .long)) 2 47 E σ [.ref a0, .int p1, .long p2] (some (.long r)) σz := by
  refine MetC.of hX (by decide) (Nat.le_of_ble_eq_true rfl) (nX0_fold _ hX) ?_
  intro p e s m below meth c hx hb hr hml hts hown hlocks hnm hk hz0
  have hK := hk.1
  show J p l e (headSpec (ws_ yX0_fold cX0_fold 7 (some .long)) (rmC 2 47 σ σz)).room s m ([.ref a0, .int p1, .long p2] : List Value).toArray below meth c 7 E (cZ σ) (cS σ) (MQ below (cQ E (some (.long r)) σz) ([.ref a0, .int p1, .long p2] : List Value).toArray s (cZ σz - cZ σ) (cS σz - cS σ) (EA E)) (r, σz) (fX0_fold a0 p1 p2 σ) σ 0 [(0, .ref a0), (1, .int p1), (2, .long p2)] []
  unfold fX0_fold
  refine Jrow (fun H locs ls hH hS hl k => lv_lload_n hx hb dX0_fold_0 rfl (lv_at hl 2 rfl) (k ls hl)) ?_
  refine Jrow (fun H locs ls hH hS hl k => lv_lstore (lv' := [(4, .long p2), (0, .ref a0), (1, .int p1), (2, .long p2)]) hx hb dX0_fold_1 hl (by decide) rfl k) ?_
  refine Jrow (fun H locs ls hH hS hl k => lv_iload_n hx hb dX0_fold_3 rfl (lv_at hl 2 rfl) (k ls hl)) ?_
  refine Jrow (fun H locs ls hH hS hl k => lv_iconst (v := (1:Int32)) hx hb dX0_fold_4 (by decide) (k ls hl)) ?_
  refine Jrow (fun H locs ls hH hS hl k => lv_isub hx hb dX0_fold_5 (k ls hl)) ?_
  refine JbdI (fun x1 => ?_)
  refine Jrow (fun H locs ls hH hS hl k => lv_istore (lv' := [(6, .int x1), (4, .long p2), (0, .ref a0), (1, .int p1), (2, .long p2)]) hx hb dX0_fold_6 hl (by decide) rfl k) ?_
  refine Jsub [2, 1, 0] rfl (Plp3 (fun (x2 : Int64) (x3 : Int32) (σ4 : CS) X9 => J p l e (headSpec (ws_ yX0_fold cX0_fold 7 (some .long)) (rmC 2 47 σ σz)).room s m ([.ref a0, .int p1, .long p2] : List Value).toArray below meth c 7 E (cZ σ) (cS σ) (MQ below (cQ E (some (.long r)) σz) ([.ref a0, .int p1, .long p2] : List Value).toArray s (cZ σz - cZ σ) (cS σz - cS σ) (EA E)) (r, σz) X9 σ4 8 [(0, .ref a0), (4, .long x2), (6, .int x3)] []) (fun _ _ _ => Jnone) (fun k5 hk5 x2 x3 σ4 => ?_))
  refine Jrow (fun H locs ls hH hS hl k => lv_iload hx hb dX0_fold_8 (lv_at hl 2 rfl) (k ls hl)) ?_
  refine Jite (fun hc => ?_) (fun hc => ?_)
  · refine Jrow (fun H locs ls hH hS hl k => lv_if_lt (tgt := 29) hx hb dX0_fold_10 (by decide) (fun _ => (k ls hl)) (fun h => absurd hc h)) ?_
    clear hc
    refine Jrow (fun H locs ls hH hS hl k => lv_lload hx hb dX0_fold_29 (lv_at hl 1 rfl) (k ls hl)) ?_
    exact Jlret hx hb hr hlocks dX0_fold_31
  · refine Jrow (fun H locs ls hH hS hl k => lv_if_lt (tgt := 29) hx hb dX0_fold_10 (by decide) (fun h => absurd h hc) (fun _ => (k ls hl))) ?_
    clear hc
    refine Jrow (fun H locs ls hH hS hl k => lv_aload_n hx hb dX0_fold_13 rfl (lv_at hl 0 rfl) (k ls hl)) ?_
    refine Jrow (fun H locs ls hH hS hl k => lv_iload hx hb dX0_fold_14 (lv_at hl 2 rfl) (k ls hl)) ?_
    refine Jrow (fun H locs ls hH hS hl k => lv_lload hx hb dX0_fold_16 (lv_at hl 1 rfl) (k ls hl)) ?_
    refine Jgd (fun hg => ?_)
    refine Jcl2 (fun x7 σ6 hf => ?_)
    refine Jcall (v := (some (.long x7))) (rest := []) (mX0_held l E hf).1 ⟨rfl, rfl⟩ (fun H locs ls hH hS hl hR => ⟨_, va_runV (C := RX0) (As := [.int x3, .long x2]) ⟨hx, hb, hml, hown, hts⟩ (mX0_held l E hf).2 (cwV 2 hts (lw_V q998 q1000 qs27 q88 q1001) rfl rfl rfl (by decide +kernel) ⟨Nat.le_of_ble_eq_true rfl, Nat.le_of_ble_eq_true rfl⟩) (c_preV (ci := 1) hk hH hS hg rfl) rfl rfl hl.1 rfl (lv_room (Nat.le_of_ble_eq_true rfl)) dX0_fold_18 hR⟩) ?_
    clear hf
    refine Jrow (fun H locs ls hH hS hl k => lv_lstore (lv' := [(4, .long x7), (0, .ref a0), (6, .int x3)]) hx hb dX0_fold_21 hl (by decide) rfl k) ?_
    refine Jbd (fun x8 ex8 => ?_)
    refine Jrow (fun H locs ls hH hS hl k => lv_iinc (v := x8) (lv' := [(6, .int x8), (4, .long x7), (0, .ref a0)]) hx hb dX0_fold_23 hl (k := 2) rfl (by rw [ex8]; rfl) (by decide) rfl k) ?_
    clear ex8
    refine Jrow (fun H locs ls hH hS hl k => lv_goto (tgt := 8) hx hb dX0_fold_26 (by decide) (k ls hl)) ?_
    exact Jsub [2, 1, 0] rfl (hk5 x7 x8 σ6)

def fX0_bestFrom (a0 : Nat) (p1 : Int32) (p2 : Int32) (σ : CS) : Option (Int64 × CS) :=
 gd (hf (cK σ a0) 31) (
 cl (cFR σ a0 31) (fun (x1 : Nat) =>
 gd (kd σ x1 103) (
 gd (ib (p1 + p2) (cLN σ x1)) (
 bd (cAL σ x1 (p1 + p2).toNatClampNeg) (fun (x2 : Int64) =>
 bd ((p1 + p2) - (1:Int32)) (fun (x3 : Int32) =>
 lp (fun _ _ _ => none) (fun (k7 : Int64 → Int32 → CS → Option (Int64 × CS)) (x4 : Int64) (x5 : Int32) (σ6 : CS) =>
 if x5 < p1 then
 some (x4, σ6)
 else
 gd (hf (cK σ6 a0) 31) (
 cl (cFR σ6 a0 31) (fun (x8 : Nat) =>
 gd (kd σ6 x8 103) (
 gd (ib x5 (cLN σ6 x8)) (
 gd (kd σ6 a0 2) (
 cl2 (fX0_held a0 x5 x4 σ6) (fun (x10 : Int64) (σ9 : CS) =>
 bd (if x10 < (cAL σ6 x8 x5.toNatClampNeg) then x10 else (cAL σ6 x8 x5.toNatClampNeg)) (fun (x11 : Int64) =>
 bd (x5 + (-1:Int32)) (fun (x12 : Int32) =>
 k7 x11 x12 σ9))))))))) NF x2 x3 σ))))))
theorem nX0_bestFrom {a0 : Nat} {p1 : Int32} {p2 : Int32} {σ : CS} : Mn σ (fX0_bestFrom a0 p1 p2 σ) := by
  unfold fX0_bestFrom
  refine Mgd ?_
  refine Mcl (fun x1 => ?_)
  refine Mgd ?_
  refine Mgd ?_
  refine Mbd (fun x2 => ?_)
  refine Mbd (fun x3 => ?_)
  refine Plp3 (fun (x4 : Int64) (x5 : Int32) (σ6 : CS) (X13 : Option (Int64 × CS)) => Mn σ6 X13) (fun _ _ _ => Mnone) (fun k7 hk7 x4 x5 σ6 => ?_)
  refine Mite ?_ ?_
  · exact Mret
  · refine Mgd ?_
    refine Mcl (fun x8 => ?_)
    refine Mgd ?_
    refine Mgd ?_
    refine Mgd ?_
    refine Mcl2 (nX0_held) (fun x10 σ9 => ?_)
    refine Mbd (fun x11 => ?_)
    refine Mbd (fun x12 => ?_)
    exact hk7 x11 x12 σ9
set_option maxHeartbeats 4000000 in
set_option maxRecDepth 100000 in
theorem mX0_bestFrom (l : Launch) (E : CE) {a0 : Nat} {p1 : Int32} {p2 : Int32} {σ : CS} {r : Int64} {σz : CS} (hX : fX0_bestFrom a0 p1 p2 σ = some (r, σz)) : MetC l yX0_bestFrom (ws_ yX0_bestFrom cX0_bestFrom 6 (some .long)) 2 47 E σ [.ref a0, .int p1, .int p2] (some (.long r)) σz := by
  refine MetC.of hX (by decide) (Nat.le_of_ble_eq_true rfl) (nX0_bestFrom _ hX) ?_
  intro p e s m below meth c hx hb hr hml hts hown hlocks hnm hk hz0
  have hK := hk.1
  show J p l e (headSpec (ws_ yX0_bestFrom cX0_bestFrom 6 (some .long)) (rmC 2 47 σ σz)).room s m ([.ref a0, .int p1, .int p2] : List Value).toArray below meth c 6 E (cZ σ) (cS σ) (MQ below (cQ E (some (.long r)) σz) ([.ref a0, .int p1, .int p2] : List Value).toArray s (cZ σz - cZ σ) (cS σz - cS σ) (EA E)) (r, σz) (fX0_bestFrom a0 p1 p2 σ) σ 0 [(0, .ref a0), (1, .int p1), (2, .int p2)] []
  unfold fX0_bestFrom
  refine Jrow (fun H locs ls hH hS hl k => lv_aload_n hx hb dX0_bestFrom_0 rfl (lv_at hl 0 rfl) (k ls hl)) ?_
  refine Jgd (fun hg => ?_)
  refine Jcl (fun x1 hq => ?_)
  refine Jrow (fun H locs ls hH hS hl k => c_get (F := 31) (v := .ref x1) hx hb hts hown hK hH hg (hts _ q260) (fun _ h => h) (fvR rfl hq) dX0_bestFrom_1 (k ls hl)) ?_
  clear hq
  refine Jrow (fun H locs ls hH hS hl k => lv_iload_n hx hb dX0_bestFrom_4 rfl (lv_at hl 1 rfl) (k ls hl)) ?_
  refine Jrow (fun H locs ls hH hS hl k => lv_iload_n hx hb dX0_bestFrom_5 rfl (lv_at hl 2 rfl) (k ls hl)) ?_
  refine Jrow (fun H locs ls hH hS hl k => lv_iadd hx hb dX0_bestFrom_6 (k ls hl)) ?_
  refine Jgd (fun hk1 => ?_)
  refine Jgd (fun hg => ?_)
  refine Jrow (fun H locs ls hH hS hl k => c_lald hx hb hK hH hk1 hg dX0_bestFrom_7 (k ls hl)) ?_
  refine JbdL (fun x2 => ?_)
  refine Jrow (fun H locs ls hH hS hl k => lv_lstore_n (lv' := [(3, .long x2), (0, .ref a0), (1, .int p1), (2, .int p2)]) hx hb dX0_bestFrom_8 rfl hl (by decide) rfl k) ?_
  refine Jrow (fun H locs ls hH hS hl k => lv_iload_n hx hb dX0_bestFrom_9 rfl (lv_at hl 2 rfl) (k ls hl)) ?_
  refine Jrow (fun H locs ls hH hS hl k => lv_iload_n hx hb dX0_bestFrom_10 rfl (lv_at hl 3 rfl) (k ls hl)) ?_
  refine Jrow (fun H locs ls hH hS hl k => lv_iadd hx hb dX0_bestFrom_11 (k ls hl)) ?_
  refine Jrow (fun H locs ls hH hS hl k => lv_iconst (v := (1:Int32)) hx hb dX0_bestFrom_12 (by decide) (k ls hl)) ?_
  refine Jrow (fun H locs ls hH hS hl k => lv_isub hx hb dX0_bestFrom_13 (k ls hl)) ?_
  refine JbdI (fun x3 => ?_)
  refine Jrow (fun H locs ls hH hS hl k => lv_istore (lv' := [(5, .int x3), (3, .long x2), (0, .ref a0), (1, .int p1), (2, .int p2)]) hx hb dX0_bestFrom_14 hl (by decide) rfl k) ?_
  refine Jsub [2, 3, 1, 0] rfl (Plp3 (fun (x4 : Int64) (x5 : Int32) (σ6 : CS) X13 => J p l e (headSpec (ws_ yX0_bestFrom cX0_bestFrom 6 (some .long)) (rmC 2 47 σ σz)).room s m ([.ref a0, .int p1, .int p2] : List Value).toArray below meth c 6 E (cZ σ) (cS σ) (MQ below (cQ E (some (.long r)) σz) ([.ref a0, .int p1, .int p2] : List Value).toArray s (cZ σz - cZ σ) (cS σz - cS σ) (EA E)) (r, σz) X13 σ6 16 [(0, .ref a0), (1, .int p1), (3, .long x4), (5, .int x5)] []) (fun _ _ _ => Jnone) (fun k7 hk7 x4 x5 σ6 => ?_))
  refine Jrow (fun H locs ls hH hS hl k => lv_iload hx hb dX0_bestFrom_16 (lv_at hl 3 rfl) (k ls hl)) ?_
  refine Jrow (fun H locs ls hH hS hl k => lv_iload_n hx hb dX0_bestFrom_18 rfl (lv_at hl 1 rfl) (k ls hl)) ?_
  refine Jite (fun hc => ?_) (fun hc => ?_)
  · refine Jrow (fun H locs ls hH hS hl k => lv_icmp_lt (tgt := 46) hx hb dX0_bestFrom_19 (by decide) (fun _ => (k ls hl)) (fun h => absurd hc h)) ?_
    clear hc
    refine Jrow (fun H locs ls hH hS hl k => lv_lload_n hx hb dX0_bestFrom_46 rfl (lv_at hl 2 rfl) (k ls hl)) ?_
    exact Jlret hx hb hr hlocks dX0_bestFrom_47
  · refine Jrow (fun H locs ls hH hS hl k => lv_icmp_lt (tgt := 46) hx hb dX0_bestFrom_19 (by decide) (fun h => absurd h hc) (fun _ => (k ls hl))) ?_
    clear hc
    refine Jrow (fun H locs ls hH hS hl k => lv_aload_n hx hb dX0_bestFrom_22 rfl (lv_at hl 0 rfl) (k ls hl)) ?_
    refine Jgd (fun hg => ?_)
    refine Jcl (fun x8 hq => ?_)
    refine Jrow (fun H locs ls hH hS hl k => c_get (F := 31) (v := .ref x8) hx hb hts hown hK hH hg (hts _ q260) (fun _ h => h) (fvR rfl hq) dX0_bestFrom_23 (k ls hl)) ?_
    clear hq
    refine Jrow (fun H locs ls hH hS hl k => lv_iload hx hb dX0_bestFrom_26 (lv_at hl 3 rfl) (k ls hl)) ?_
    refine Jgd (fun hk1 => ?_)
    refine Jgd (fun hg => ?_)
    refine Jrow (fun H locs ls hH hS hl k => c_lald hx hb hK hH hk1 hg dX0_bestFrom_28 (k ls hl)) ?_
    refine Jrow (fun H locs ls hH hS hl k => lv_aload_n hx hb dX0_bestFrom_29 rfl (lv_at hl 0 rfl) (k ls hl)) ?_
    refine Jrow (fun H locs ls hH hS hl k => lv_iload hx hb dX0_bestFrom_30 (lv_at hl 3 rfl) (k ls hl)) ?_
    refine Jrow (fun H locs ls hH hS hl k => lv_lload_n hx hb dX0_bestFrom_32 rfl (lv_at hl 2 rfl) (k ls hl)) ?_
    refine Jgd (fun hg => ?_)
    refine Jcl2 (fun x10 σ9 hf => ?_)
    refine Jcall (v := (some (.long x10))) (rest := [.long (cAL σ6 x8 x5.toNatClampNeg)]) (mX0_held l E hf).1 ⟨rfl, rfl⟩ (fun H locs ls hH hS hl hR => ⟨_, va_runV (C := RX0) (As := [.int x5, .long x4]) ⟨hx, hb, hml, hown, hts⟩ (mX0_held l E hf).2 (cwV 2 hts (lw_V q998 q1000 qs27 q88 q1001) rfl rfl rfl (by decide +kernel) ⟨Nat.le_of_ble_eq_true rfl, Nat.le_of_ble_eq_true rfl⟩) (c_preV (ci := 1) hk hH hS hg rfl) rfl rfl hl.1 rfl (lv_room (Nat.le_of_ble_eq_true rfl)) dX0_bestFrom_33 hR⟩) ?_
    clear hf
    refine JrowB ⟨rfl, rfl⟩ (fun H locs ls hH hS hl h1 h2 k => va_mmin_long hx hb (hml.trans hl.1.symm) hown (hts _ q1010) (hts _ q940) (hts _ q104) (hts _ q941) (Nat.le_of_ble_eq_true rfl) (Nat.le_of_ble_eq_true rfl) h1 h2 dX0_bestFrom_36 (k ls hl)) ?_
    refine JbdL (fun x11 => ?_)
    refine Jrow (fun H locs ls hH hS hl k => lv_lstore_n (lv' := [(3, .long x11), (0, .ref a0), (1, .int p1), (5, .int x5)]) hx hb dX0_bestFrom_39 rfl hl (by decide) rfl k) ?_
    refine Jbd (fun x12 ex12 => ?_)
    refine Jrow (fun H locs ls hH hS hl k => lv_iinc (v := x12) (lv' := [(5, .int x12), (3, .long x11), (0, .ref a0), (1, .int p1)]) hx hb dX0_bestFrom_40 hl (k := 3) rfl (by rw [ex12]; rfl) (by decide) rfl k) ?_
    clear ex12
    refine Jrow (fun H locs ls hH hS hl k => lv_goto (tgt := 16) hx hb dX0_bestFrom_43 (by decide) (k ls hl)) ?_
    exact Jsub [2, 3, 1, 0] rfl (hk7 x11 x12 σ9)

def fX0_isBestIn (a0 : Nat) (p1 : Int32) (p2 : Int32) (σ : CS) : Option (Int32 × CS) :=
 jn (fun (x1 : Int32) (σ2 : CS) => gd (isb x1) (some (x1, σ2))) (fun (k3 : Int32 → CS → Option (Int32 × CS)) =>
 jn (fun (σ4 : CS) => k3 (1:Int32) σ4) (fun (k5 : CS → Option (Int32 × CS)) =>
 if p2 = (0:Int32) then
 k5 σ
 else
 gd (hf (cK σ a0) 31) (
 cl (cFR σ a0 31) (fun (x6 : Nat) =>
 gd (kd σ x6 103) (
 gd (ib p1 (cLN σ x6)) (
 gd (kd σ a0 2) (
 cl2 (fX0_bestFrom a0 (p1 + (1:Int32)) (p2 - (1:Int32)) σ) (fun (x8 : Int64) (σ7 : CS) =>
 gd (kd σ7 a0 2) (
 cl2 (fX0_held a0 p1 x8 σ7) (fun (x10 : Int64) (σ9 : CS) =>
 if (0:Int32) < (lg_cmp (cAL σ x6 p1.toNatClampNeg) x10) then
 k3 (0:Int32) σ9
 else
 k5 σ9))))))))))
theorem nX0_isBestIn {a0 : Nat} {p1 : Int32} {p2 : Int32} {σ : CS} : Mn σ (fX0_isBestIn a0 p1 p2 σ) := by
  unfold fX0_isBestIn
  refine Mjn2 (fun (x1 : Int32) (σ2 : CS) (X12 : Option (Int32 × CS)) => Mn σ2 X12) (fun x1 σ2 => ?_) (fun k3 hk3 => ?_)
  · refine Mgd ?_
    exact Mret
  · refine Mjn1 (fun (σ4 : CS) (X11 : Option (Int32 × CS)) => Mn σ4 X11) (fun σ4 => ?_) (fun k5 hk5 => ?_)
    · exact hk3 (1:Int32) σ4
    · refine Mite ?_ ?_
      · exact hk5 σ
      · refine Mgd ?_
        refine Mcl (fun x6 => ?_)
        refine Mgd ?_
        refine Mgd ?_
        refine Mgd ?_
        refine Mcl2 (nX0_bestFrom) (fun x8 σ7 => ?_)
        refine Mgd ?_
        refine Mcl2 (nX0_held) (fun x10 σ9 => ?_)
        refine Mite ?_ ?_
        · exact hk3 (0:Int32) σ9
        · exact hk5 σ9
set_option maxHeartbeats 4000000 in
set_option maxRecDepth 100000 in
theorem mX0_isBestIn (l : Launch) (E : CE) {a0 : Nat} {p1 : Int32} {p2 : Int32} {σ : CS} {r : Int32} {σz : CS} (hX : fX0_isBestIn a0 p1 p2 σ = some (r, σz)) : MetC l yX0_isBestIn (ws_ yX0_isBestIn cX0_isBestIn 3 (some .boolean)) 3 72 E σ [.ref a0, .int p1, .int p2] (some (.int r)) σz := by
  refine MetC.of hX (by decide) (Nat.le_of_ble_eq_true rfl) (nX0_isBestIn _ hX) ?_
  intro p e s m below meth c hx hb hr hml hts hown hlocks hnm hk hz0
  have hK := hk.1
  show J p l e (headSpec (ws_ yX0_isBestIn cX0_isBestIn 3 (some .boolean)) (rmC 3 72 σ σz)).room s m ([.ref a0, .int p1, .int p2] : List Value).toArray below meth c 3 E (cZ σ) (cS σ) (MQ below (cQ E (some (.int r)) σz) ([.ref a0, .int p1, .int p2] : List Value).toArray s (cZ σz - cZ σ) (cS σz - cS σ) (EA E)) (r, σz) (fX0_isBestIn a0 p1 p2 σ) σ 0 [(0, .ref a0), (1, .int p1), (2, .int p2)] []
  unfold fX0_isBestIn
  refine Jrow (fun H locs ls hH hS hl k => lv_iload_n hx hb dX0_isBestIn_0 rfl (lv_at hl 2 rfl) (k ls hl)) ?_
  refine Jjn2 (fun (x1 : Int32) (σ2 : CS) X12 => J p l e (headSpec (ws_ yX0_isBestIn cX0_isBestIn 3 (some .boolean)) (rmC 3 72 σ σz)).room s m ([.ref a0, .int p1, .int p2] : List Value).toArray below meth c 3 E (cZ σ) (cS σ) (MQ below (cQ E (some (.int r)) σz) ([.ref a0, .int p1, .int p2] : List Value).toArray s (cZ σz - cZ σ) (cS σz - cS σ) (EA E)) (r, σz) X12 σ2 34 [] [.int x1]) (fun x1 σ2 => ?_) (fun k3 hk3 => ?_)
  · refine Jgd (fun hg => ?_)
    exact Jzret hx hb hr hlocks (isb_n hg) dX0_isBestIn_34
  · refine Jjn1 (fun (σ4 : CS) X11 => J p l e (headSpec (ws_ yX0_isBestIn cX0_isBestIn 3 (some .boolean)) (rmC 3 72 σ σz)).room s m ([.ref a0, .int p1, .int p2] : List Value).toArray below meth c 3 E (cZ σ) (cS σ) (MQ below (cQ E (some (.int r)) σz) ([.ref a0, .int p1, .int p2] : List Value).toArray s (cZ σz - cZ σ) (cS σz - cS σ) (EA E)) (r, σz) X11 σ4 29 [] []) (fun σ4 => ?_) (fun k5 hk5 => ?_)
    · refine Jrow (fun H locs ls hH hS hl k => lv_iconst (v := (1:Int32)) hx hb dX0_isBestIn_29 (by decide) (k ls hl)) ?_
      refine Jrow (fun H locs ls hH hS hl k => lv_goto (tgt := 34) hx hb dX0_isBestIn_30 (by decide) (k ls hl)) ?_
      exact Jsub [] rfl (hk3 (1:Int32) σ4)
    · refine Jite (fun hc => ?_) (fun hc => ?_)
      · refine Jrow (fun H locs ls hH hS hl k => lv_if_eq (tgt := 29) hx hb dX0_isBestIn_1 (by decide) (fun _ => (k ls hl)) (fun h => absurd hc h)) ?_
        clear hc
        exact Jsub [] rfl (hk5 σ)
      · refine Jrow (fun H locs ls hH hS hl k => lv_if_eq (tgt := 29) hx hb dX0_isBestIn_1 (by decide) (fun h => absurd h hc) (fun _ => (k ls hl))) ?_
        clear hc
        refine Jrow (fun H locs ls hH hS hl k => lv_aload_n hx hb dX0_isBestIn_4 rfl (lv_at hl 0 rfl) (k ls hl)) ?_
        refine Jgd (fun hg => ?_)
        refine Jcl (fun x6 hq => ?_)
        refine Jrow (fun H locs ls hH hS hl k => c_get (F := 31) (v := .ref x6) hx hb hts hown hK hH hg (hts _ q260) (fun _ h => h) (fvR rfl hq) dX0_isBestIn_5 (k ls hl)) ?_
        clear hq
        refine Jrow (fun H locs ls hH hS hl k => lv_iload_n hx hb dX0_isBestIn_8 rfl (lv_at hl 1 rfl) (k ls hl)) ?_
        refine Jgd (fun hk1 => ?_)
        refine Jgd (fun hg => ?_)
        refine Jrow (fun H locs ls hH hS hl k => c_lald hx hb hK hH hk1 hg dX0_isBestIn_9 (k ls hl)) ?_
        refine Jrow (fun H locs ls hH hS hl k => lv_aload_n hx hb dX0_isBestIn_10 rfl (lv_at hl 0 rfl) (k ls hl)) ?_
        refine Jrow (fun H locs ls hH hS hl k => lv_iload_n hx hb dX0_isBestIn_11 rfl (lv_at hl 1 rfl) (k ls hl)) ?_
        refine Jrow (fun H locs ls hH hS hl k => lv_aload_n hx hb dX0_isBestIn_12 rfl (lv_at hl 0 rfl) (k ls hl)) ?_
        refine Jrow (fun H locs ls hH hS hl k => lv_iload_n hx hb dX0_isBestIn_13 rfl (lv_at hl 1 rfl) (k ls hl)) ?_
        refine Jrow (fun H locs ls hH hS hl k => lv_iconst (v := (1:Int32)) hx hb dX0_isBestIn_14 (by decide) (k ls hl)) ?_
        refine Jrow (fun H locs ls hH hS hl k => lv_iadd hx hb dX0_isBestIn_15 (k ls hl)) ?_
        refine Jrow (fun H locs ls hH hS hl k => lv_iload_n hx hb dX0_isBestIn_16 rfl (lv_at hl 2 rfl) (k ls hl)) ?_
        refine Jrow (fun H locs ls hH hS hl k => lv_iconst (v := (1:Int32)) hx hb dX0_isBestIn_17 (by decide) (k ls hl)) ?_
        refine Jrow (fun H locs ls hH hS hl k => lv_isub hx hb dX0_isBestIn_18 (k ls hl)) ?_
        refine Jgd (fun hg => ?_)
        refine Jcl2 (fun x8 σ7 hf => ?_)
        refine Jcall (v := (some (.long x8))) (rest := [.int p1, .ref a0, .long (cAL σ x6 p1.toNatClampNeg)]) (mX0_bestFrom l E hf).1 ⟨rfl, rfl⟩ (fun H locs ls hH hS hl hR => ⟨_, va_runV (C := RX0) (As := [.int (p1 + (1:Int32)), .int (p2 - (1:Int32))]) ⟨hx, hb, hml, hown, hts⟩ (mX0_bestFrom l E hf).2 (cwV 2 hts (lw_V q1006 q1008 qs28 q88 q1009) rfl rfl rfl (by decide +kernel) ⟨Nat.le_of_ble_eq_true rfl, Nat.le_of_ble_eq_true rfl⟩) (c_preV (ci := 1) hk hH hS hg rfl) rfl rfl hl.1 rfl (lv_room (Nat.le_of_ble_eq_true rfl)) dX0_isBestIn_19 hR⟩) ?_
        clear hf
        refine Jgd (fun hg => ?_)
        refine Jcl2 (fun x10 σ9 hf => ?_)
        refine Jcall (v := (some (.long x10))) (rest := [.long (cAL σ x6 p1.toNatClampNeg)]) (mX0_held l E hf).1 ⟨rfl, rfl⟩ (fun H locs ls hH hS hl hR => ⟨_, va_runV (C := RX0) (As := [.int p1, .long x8]) ⟨hx, hb, hml, hown, hts⟩ (mX0_held l E hf).2 (cwV 2 hts (lw_V q998 q1000 qs27 q88 q1001) rfl rfl rfl (by decide +kernel) ⟨Nat.le_of_ble_eq_true rfl, Nat.le_of_ble_eq_true rfl⟩) (c_preV (ci := 1) hk hH hS hg rfl) rfl rfl hl.1 rfl (lv_room (Nat.le_of_ble_eq_true rfl)) dX0_isBestIn_22 hR⟩) ?_
        clear hf
        refine Jrow (fun H locs ls hH hS hl k => W.lcmp hx hb dX0_isBestIn_25 (k ls hl)) ?_
        refine Jite (fun hc => ?_) (fun hc => ?_)
        · refine Jrow (fun H locs ls hH hS hl k => lv_if_gt (tgt := 33) hx hb dX0_isBestIn_26 (by decide) (fun _ => (k ls hl)) (fun h => absurd hc h)) ?_
          clear hc
          refine Jrow (fun H locs ls hH hS hl k => lv_iconst (v := (0:Int32)) hx hb dX0_isBestIn_33 (by decide) (k ls hl)) ?_
          exact Jsub [] rfl (hk3 (0:Int32) σ9)
        · refine Jrow (fun H locs ls hH hS hl k => lv_if_gt (tgt := 33) hx hb dX0_isBestIn_26 (by decide) (fun h => absurd h hc) (fun _ => (k ls hl))) ?_
          clear hc
          exact Jsub [] rfl (hk5 σ9)

def fX0_goForward (a0 : Nat) (p1 : Nat) (p2 : Int32) (σ : CS) : Option (Unit × CS) :=
 gd (hf (cK σ a0) 29) (
 cl (cFR σ a0 29) (fun (x1 : Nat) =>
 gd (kd σ x1 107) (
 gd (ib (0:Int32) (cLN σ x1)) (
 cl (cAR σ x1 (0:Int32).toNatClampNeg) (fun (x2 : Nat) =>
 gd (kd σ x2 4) (
 cl2 (fX2_become x2 p1 σ) (fun (_ : Unit) (σ3 : CS) =>
 lp (fun _ _ => none) (fun (k7 : Int32 → CS → Option (Unit × CS)) (x5 : Int32) (σ6 : CS) =>
 if (20:Int32) < x5 then
 some ((), σ6)
 else
 gd (hf (cK σ6 a0) 30) (
 cl (cFR σ6 a0 30) (fun (x8 : Nat) =>
 gd (hf (cK σ6 a0) 29) (
 cl (cFR σ6 a0 29) (fun (x9 : Nat) =>
 gd (kd σ6 x9 107) (
 gd (ib x5 (cLN σ6 x9)) (
 cl (cAR σ6 x9 x5.toNatClampNeg) (fun (x10 : Nat) =>
 gd (kd σ6 x10 4) (
 cl2 (fX2_cost x10 (p2 + x5) σ6) (fun (x12 : Int64) (σ11 : CS) =>
 gd (kd σ11 x8 103) (
 gd (ib x5 (cLN σ11 x8)) (
 bd (uAL σ11 x8 x5.toNatClampNeg x12) (fun (σ13 : CS) =>
 gd (hf (cK σ13 a0) 31) (
 cl (cFR σ13 a0 31) (fun (x14 : Nat) =>
 gd (hf (cK σ13 a0) 29) (
 cl (cFR σ13 a0 29) (fun (x15 : Nat) =>
 gd (kd σ13 x15 107) (
 gd (ib x5 (cLN σ13 x15)) (
 cl (cAR σ13 x15 x5.toNatClampNeg) (fun (x16 : Nat) =>
 gd (kd σ13 x16 4) (
 cl2 (fX2_harm x16 σ13) (fun (x18 : Int64) (σ17 : CS) =>
 gd (kd σ17 x14 103) (
 gd (ib x5 (cLN σ17 x14)) (
 bd (uAL σ17 x14 x5.toNatClampNeg x18) (fun (σ19 : CS) =>
 if x5 = (20:Int32) then
 some ((), σ19)
 else
 gd (hf (cK σ19 a0) 29) (
 cl (cFR σ19 a0 29) (fun (x20 : Nat) =>
 gd (kd σ19 x20 107) (
 gd (ib (x5 + (1:Int32)) (cLN σ19 x20)) (
 cl (cAR σ19 x20 (x5 + (1:Int32)).toNatClampNeg) (fun (x21 : Nat) =>
 gd (hf (cK σ19 a0) 29) (
 cl (cFR σ19 a0 29) (fun (x22 : Nat) =>
 gd (kd σ19 x22 107) (
 gd (ib x5 (cLN σ19 x22)) (
 cl (cAR σ19 x22 x5.toNatClampNeg) (fun (x23 : Nat) =>
 gd (kd σ19 x21 4) (
 cl2 (fX2_become x21 x23 σ19) (fun (_ : Unit) (σ24 : CS) =>
 gd (hf (cK σ24 a0) 29) (
 cl (cFR σ24 a0 29) (fun (x26 : Nat) =>
 gd (kd σ24 x26 107) (
 gd (ib (x5 + (1:Int32)) (cLN σ24 x26)) (
 cl (cAR σ24 x26 (x5 + (1:Int32)).toNatClampNeg) (fun (x27 : Nat) =>
 gd (kd σ24 x27 4) (
 cl2 (fX2_day x27 σ24) (fun (_ : Unit) (σ28 : CS) =>
 gd (hf (cK σ28 a0) 32) (
 cl (cFR σ28 a0 32) (fun (x30 : Nat) =>
 gd (hf (cK σ28 a0) 29) (
 cl (cFR σ28 a0 29) (fun (x31 : Nat) =>
 gd (kd σ28 x31 107) (
 gd (ib (x5 + (1:Int32)) (cLN σ28 x31)) (
 cl (cAR σ28 x31 (x5 + (1:Int32)).toNatClampNeg) (fun (x32 : Nat) =>
 gd (hf (cK σ28 x32) 54) (
 gd (kd σ28 x30 101) (
 gd (ib x5 (cLN σ28 x30)) (
 bd (uAI σ28 x30 x5.toNatClampNeg (cFI σ28 x32 54)) (fun (σ33 : CS) =>
 bd (x5 + (1:Int32)) (fun (x34 : Int32) =>
 k7 x34 σ33)))))))))))))))))))))))))))))))))))))))))))))))))))))))) NF (0:Int32) σ3)))))))
theorem nX0_goForward {a0 : Nat} {p1 : Nat} {p2 : Int32} {σ : CS} : Mn σ (fX0_goForward a0 p1 p2 σ) := by
  unfold fX0_goForward
  refine Mgd ?_
  refine Mcl (fun x1 => ?_)
  refine Mgd ?_
  refine Mgd ?_
  refine Mcl (fun x2 => ?_)
  refine Mgd ?_
  refine Mcl2 (nX2_become) (fun _ σ3 => ?_)
  refine Plp2 (fun (x5 : Int32) (σ6 : CS) (X35 : Option (Unit × CS)) => Mn σ6 X35) (fun _ _ => Mnone) (fun k7 hk7 x5 σ6 => ?_)
  refine Mite ?_ ?_
  · exact Mret
  · refine Mgd ?_
    refine Mcl (fun x8 => ?_)
    refine Mgd ?_
    refine Mcl (fun x9 => ?_)
    refine Mgd ?_
    refine Mgd ?_
    refine Mcl (fun x10 => ?_)
    refine Mgd ?_
    refine Mcl2 (nX2_cost) (fun x12 σ11 => ?_)
    refine Mgd ?_
    refine Mgd ?_
    refine Mst (Nat.le_refl _) (Nat.le_refl _) (fun σ13 => ?_)
    refine Mgd ?_
    refine Mcl (fun x14 => ?_)
    refine Mgd ?_
    refine Mcl (fun x15 => ?_)
    refine Mgd ?_
    refine Mgd ?_
    refine Mcl (fun x16 => ?_)
    refine Mgd ?_
    refine Mcl2 (nX2_harm) (fun x18 σ17 => ?_)
    refine Mgd ?_
    refine Mgd ?_
    refine Mst (Nat.le_refl _) (Nat.le_refl _) (fun σ19 => ?_)
    refine Mite ?_ ?_
    · exact Mret
    · refine Mgd ?_
      refine Mcl (fun x20 => ?_)
      refine Mgd ?_
      refine Mgd ?_
      refine Mcl (fun x21 => ?_)
      refine Mgd ?_
      refine Mcl (fun x22 => ?_)
      refine Mgd ?_
      refine Mgd ?_
      refine Mcl (fun x23 => ?_)
      refine Mgd ?_
      refine Mcl2 (nX2_become) (fun _ σ24 => ?_)
      refine Mgd ?_
      refine Mcl (fun x26 => ?_)
      refine Mgd ?_
      refine Mgd ?_
      refine Mcl (fun x27 => ?_)
      refine Mgd ?_
      refine Mcl2 (nX2_day) (fun _ σ28 => ?_)
      refine Mgd ?_
      refine Mcl (fun x30 => ?_)
      refine Mgd ?_
      refine Mcl (fun x31 => ?_)
      refine Mgd ?_
      refine Mgd ?_
      refine Mcl (fun x32 => ?_)
      refine Mgd ?_
      refine Mgd ?_
      refine Mgd ?_
      refine Mst (Nat.le_refl _) (Nat.le_refl _) (fun σ33 => ?_)
      refine Mbd (fun x34 => ?_)
      exact hk7 x34 σ33
set_option maxHeartbeats 4000000 in
set_option maxRecDepth 100000 in
theorem mX0_goForward (l : Launch) (E : CE) {a0 : Nat} {p1 : Nat} {p2 : Int32} {σ : CS} {σz : CS} (hX : fX0_goForward a0 p1 p2 σ = some ((), σz)) : MetC l yX0_goForward (ws_ yX0_goForward cX0_goForward 4 none) 103 4076 E σ [.ref a0, .ref p1, .int p2] none σz := by
  refine MetC.of hX (by decide) (Nat.le_of_ble_eq_true rfl) (nX0_goForward _ hX) ?_
  intro p e s m below meth c hx hb hr hml hts hown hlocks hnm hk hz0
  have hK := hk.1
  show J p l e (headSpec (ws_ yX0_goForward cX0_goForward 4 none) (rmC 103 4076 σ σz)).room s m ([.ref a0, .ref p1, .int p2] : List Value).toArray below meth c 4 E (cZ σ) (cS σ) (MQ below (cQ E none σz) ([.ref a0, .ref p1, .int p2] : List Value).toArray s (cZ σz - cZ σ) (cS σz - cS σ) (EA E)) ((), σz) (fX0_goForward a0 p1 p2 σ) σ 0 [(0, .ref a0), (1, .ref p1), (2, .int p2)] []
  unfold fX0_goForward
  refine Jrow (fun H locs ls hH hS hl k => lv_aload_n hx hb dX0_goForward_0 rfl (lv_at hl 0 rfl) (k ls hl)) ?_
  refine Jgd (fun hg => ?_)
  refine Jcl (fun x1 hq => ?_)
  refine Jrow (fun H locs ls hH hS hl k => c_get (F := 29) (v := .ref x1) hx hb hts hown hK hH hg (hts _ q258) (fun _ h => h) (fvR rfl hq) dX0_goForward_1 (k ls hl)) ?_
  clear hq
  refine Jrow (fun H locs ls hH hS hl k => lv_iconst (v := (0:Int32)) hx hb dX0_goForward_4 (by decide) (k ls hl)) ?_
  refine Jgd (fun hk1 => ?_)
  refine Jgd (fun hg => ?_)
  refine Jcl (fun x2 hq => ?_)
  refine Jrow (fun H locs ls hH hS hl k => c_aald (t := 6) (q := some x2) hx hb hK hH (by decide) (by decide) hk1 hg hq dX0_goForward_5 (k ls hl)) ?_
  clear hq
  refine Jrow (fun H locs ls hH hS hl k => lv_aload_n hx hb dX0_goForward_6 rfl (lv_at hl 1 rfl) (k ls hl)) ?_
  refine Jgd (fun hg => ?_)
  refine Jcl2 (fun _ σ3 hf => ?_)
  refine Jcall (v := none) (rest := []) (mX2_become l E hf).1 ⟨rfl, rfl⟩ (fun H locs ls hH hS hl hR => ⟨_, va_runV (C := RX2) (As := [.ref p1]) ⟨hx, hb, hml, hown, hts⟩ (mX2_become l E hf).2 (cwV 1 hts (lw_V q969 q918 q919 q93 q920) rfl rfl rfl (by decide +kernel) ⟨Nat.le_of_ble_eq_true rfl, Nat.le_of_ble_eq_true rfl⟩) (c_preV (ci := 3) hk hH hS hg rfl) rfl rfl hl.1 rfl (lv_room (Nat.le_of_ble_eq_true rfl)) dX0_goForward_7 hR⟩) ?_
  clear hf
  refine Jrow (fun H locs ls hH hS hl k => lv_iconst (v := (0:Int32)) hx hb dX0_goForward_10 (by decide) (k ls hl)) ?_
  refine Jrow (fun H locs ls hH hS hl k => lv_istore_n (lv' := [(3, .int (0:Int32)), (0, .ref a0), (1, .ref p1), (2, .int p2)]) hx hb dX0_goForward_11 rfl hl (by decide) rfl k) ?_
  refine Jsub [1, 3, 0] rfl (Plp2 (fun (x5 : Int32) (σ6 : CS) X35 => J p l e (headSpec (ws_ yX0_goForward cX0_goForward 4 none) (rmC 103 4076 σ σz)).room s m ([.ref a0, .ref p1, .int p2] : List Value).toArray below meth c 4 E (cZ σ) (cS σ) (MQ below (cQ E none σz) ([.ref a0, .ref p1, .int p2] : List Value).toArray s (cZ σz - cZ σ) (cS σz - cS σ) (EA E)) ((), σz) X35 σ6 12 [(0, .ref a0), (2, .int p2), (3, .int x5)] []) (fun _ _ => Jnone) (fun k7 hk7 x5 σ6 => ?_))
  refine Jrow (fun H locs ls hH hS hl k => lv_iload_n hx hb dX0_goForward_12 rfl (lv_at hl 2 rfl) (k ls hl)) ?_
  refine Jrow (fun H locs ls hH hS hl k => lv_bipush (v := (20:Int32)) hx hb dX0_goForward_13 (by decide) (k ls hl)) ?_
  refine Jite (fun hc => ?_) (fun hc => ?_)
  · refine Jrow (fun H locs ls hH hS hl k => lv_icmp_gt (tgt := 109) hx hb dX0_goForward_15 (by decide) (fun _ => (k ls hl)) (fun h => absurd hc h)) ?_
    clear hc
    exact Jvret hx hb hr hlocks dX0_goForward_109
  · refine Jrow (fun H locs ls hH hS hl k => lv_icmp_gt (tgt := 109) hx hb dX0_goForward_15 (by decide) (fun h => absurd h hc) (fun _ => (k ls hl))) ?_
    clear hc
    refine Jrow (fun H locs ls hH hS hl k => lv_aload_n hx hb dX0_goForward_18 rfl (lv_at hl 0 rfl) (k ls hl)) ?_
    refine Jgd (fun hg => ?_)
    refine Jcl (fun x8 hq => ?_)
    refine Jrow (fun H locs ls hH hS hl k => c_get (F := 30) (v := .ref x8) hx hb hts hown hK hH hg (hts _ q259) (fun _ h => h) (fvR rfl hq) dX0_goForward_19 (k ls hl)) ?_
    clear hq
    refine Jrow (fun H locs ls hH hS hl k => lv_iload_n hx hb dX0_goForward_22 rfl (lv_at hl 2 rfl) (k ls hl)) ?_
    refine Jrow (fun H locs ls hH hS hl k => lv_aload_n hx hb dX0_goForward_23 rfl (lv_at hl 0 rfl) (k ls hl)) ?_
    refine Jgd (fun hg => ?_)
    refine Jcl (fun x9 hq => ?_)
    refine Jrow (fun H locs ls hH hS hl k => c_get (F := 29) (v := .ref x9) hx hb hts hown hK hH hg (hts _ q258) (fun _ h => h) (fvR rfl hq) dX0_goForward_24 (k ls hl)) ?_
    clear hq
    refine Jrow (fun H locs ls hH hS hl k => lv_iload_n hx hb dX0_goForward_27 rfl (lv_at hl 2 rfl) (k ls hl)) ?_
    refine Jgd (fun hk1 => ?_)
    refine Jgd (fun hg => ?_)
    refine Jcl (fun x10 hq => ?_)
    refine Jrow (fun H locs ls hH hS hl k => c_aald (t := 6) (q := some x10) hx hb hK hH (by decide) (by decide) hk1 hg hq dX0_goForward_28 (k ls hl)) ?_
    clear hq
    refine Jrow (fun H locs ls hH hS hl k => lv_iload_n hx hb dX0_goForward_29 rfl (lv_at hl 1 rfl) (k ls hl)) ?_
    refine Jrow (fun H locs ls hH hS hl k => lv_iload_n hx hb dX0_goForward_30 rfl (lv_at hl 2 rfl) (k ls hl)) ?_
    refine Jrow (fun H locs ls hH hS hl k => lv_iadd hx hb dX0_goForward_31 (k ls hl)) ?_
    refine Jgd (fun hg => ?_)
    refine Jcl2 (fun x12 σ11 hf => ?_)
    refine Jcall (v := (some (.long x12))) (rest := [.int x5, .ref x8]) (mX2_cost l E hf).1 ⟨rfl, rfl⟩ (fun H locs ls hH hS hl hR => ⟨_, va_runV (C := RX2) (As := [.int (p2 + x5)]) ⟨hx, hb, hml, hown, hts⟩ (mX2_cost l E hf).2 (cwV 1 hts (lw_V q970 q923 q924 q93 q925) rfl rfl rfl (by decide +kernel) ⟨Nat.le_of_ble_eq_true rfl, Nat.le_of_ble_eq_true rfl⟩) (c_preV (ci := 3) hk hH hS hg rfl) rfl rfl hl.1 rfl (lv_room (Nat.le_of_ble_eq_true rfl)) dX0_goForward_32 hR⟩) ?_
    clear hf
    refine Jgd (fun hk1 => ?_)
    refine Jgd (fun hg => ?_)
    refine Jst (σ1 := uAL σ11 x8 x5.toNatClampNeg x12) rfl rfl (fun H locs ls hH hS hl k => c_last hx hb hK hH hS hk1 hg dX0_goForward_35 k) (fun σ13 => ?_)
    refine Jrow (fun H locs ls hH hS hl k => lv_aload_n hx hb dX0_goForward_36 rfl (lv_at hl 0 rfl) (k ls hl)) ?_
    refine Jgd (fun hg => ?_)
    refine Jcl (fun x14 hq => ?_)
    refine Jrow (fun H locs ls hH hS hl k => c_get (F := 31) (v := .ref x14) hx hb hts hown hK hH hg (hts _ q260) (fun _ h => h) (fvR rfl hq) dX0_goForward_37 (k ls hl)) ?_
    clear hq
    refine Jrow (fun H locs ls hH hS hl k => lv_iload_n hx hb dX0_goForward_40 rfl (lv_at hl 2 rfl) (k ls hl)) ?_
    refine Jrow (fun H locs ls hH hS hl k => lv_aload_n hx hb dX0_goForward_41 rfl (lv_at hl 0 rfl) (k ls hl)) ?_
    refine Jgd (fun hg => ?_)
    refine Jcl (fun x15 hq => ?_)
    refine Jrow (fun H locs ls hH hS hl k => c_get (F := 29) (v := .ref x15) hx hb hts hown hK hH hg (hts _ q258) (fun _ h => h) (fvR rfl hq) dX0_goForward_42 (k ls hl)) ?_
    clear hq
    refine Jrow (fun H locs ls hH hS hl k => lv_iload_n hx hb dX0_goForward_45 rfl (lv_at hl 2 rfl) (k ls hl)) ?_
    refine Jgd (fun hk1 => ?_)
    refine Jgd (fun hg => ?_)
    refine Jcl (fun x16 hq => ?_)
    refine Jrow (fun H locs ls hH hS hl k => c_aald (t := 6) (q := some x16) hx hb hK hH (by decide) (by decide) hk1 hg hq dX0_goForward_46 (k ls hl)) ?_
    clear hq
    refine Jgd (fun hg => ?_)
    refine Jcl2 (fun x18 σ17 hf => ?_)
    refine Jcall (v := (some (.long x18))) (rest := [.int x5, .ref x14]) (mX2_harm l E hf).1 ⟨rfl, rfl⟩ (fun H locs ls hH hS hl hR => ⟨_, va_runV (C := RX2) (As := []) ⟨hx, hb, hml, hown, hts⟩ (mX2_harm l E hf).2 (cwV 0 hts (lw_V q758 q759 q760 q93 q761) rfl rfl rfl (by decide +kernel) ⟨Nat.le_of_ble_eq_true rfl, Nat.le_of_ble_eq_true rfl⟩) (c_preV (ci := 3) hk hH hS hg rfl) rfl rfl hl.1 rfl (lv_room (Nat.le_of_ble_eq_true rfl)) dX0_goForward_47 hR⟩) ?_
    clear hf
    refine Jgd (fun hk1 => ?_)
    refine Jgd (fun hg => ?_)
    refine Jst (σ1 := uAL σ17 x14 x5.toNatClampNeg x18) rfl rfl (fun H locs ls hH hS hl k => c_last hx hb hK hH hS hk1 hg dX0_goForward_50 k) (fun σ19 => ?_)
    refine Jrow (fun H locs ls hH hS hl k => lv_iload_n hx hb dX0_goForward_51 rfl (lv_at hl 2 rfl) (k ls hl)) ?_
    refine Jrow (fun H locs ls hH hS hl k => lv_bipush (v := (20:Int32)) hx hb dX0_goForward_52 (by decide) (k ls hl)) ?_
    refine Jite (fun hc => ?_) (fun hc => ?_)
    · refine Jrow (fun H locs ls hH hS hl k => lv_icmp_ne (tgt := 58) hx hb dX0_goForward_54 (by decide) (fun h => absurd hc h) (fun _ => (k ls hl))) ?_
      clear hc
      exact Jvret hx hb hr hlocks dX0_goForward_57
    · refine Jrow (fun H locs ls hH hS hl k => lv_icmp_ne (tgt := 58) hx hb dX0_goForward_54 (by decide) (fun _ => (k ls hl)) (fun h => absurd h hc)) ?_
      clear hc
      refine Jrow (fun H locs ls hH hS hl k => lv_aload_n hx hb dX0_goForward_58 rfl (lv_at hl 0 rfl) (k ls hl)) ?_
      refine Jgd (fun hg => ?_)
      refine Jcl (fun x20 hq => ?_)
      refine Jrow (fun H locs ls hH hS hl k => c_get (F := 29) (v := .ref x20) hx hb hts hown hK hH hg (hts _ q258) (fun _ h => h) (fvR rfl hq) dX0_goForward_59 (k ls hl)) ?_
      clear hq
      refine Jrow (fun H locs ls hH hS hl k => lv_iload_n hx hb dX0_goForward_62 rfl (lv_at hl 2 rfl) (k ls hl)) ?_
      refine Jrow (fun H locs ls hH hS hl k => lv_iconst (v := (1:Int32)) hx hb dX0_goForward_63 (by decide) (k ls hl)) ?_
      refine Jrow (fun H locs ls hH hS hl k => lv_iadd hx hb dX0_goForward_64 (k ls hl)) ?_
      refine Jgd (fun hk1 => ?_)
      refine Jgd (fun hg => ?_)
      refine Jcl (fun x21 hq => ?_)
      refine Jrow (fun H locs ls hH hS hl k => c_aald (t := 6) (q := some x21) hx hb hK hH (by decide) (by decide) hk1 hg hq dX0_goForward_65 (k ls hl)) ?_
      clear hq
      refine Jrow (fun H locs ls hH hS hl k => lv_aload_n hx hb dX0_goForward_66 rfl (lv_at hl 0 rfl) (k ls hl)) ?_
      refine Jgd (fun hg => ?_)
      refine Jcl (fun x22 hq => ?_)
      refine Jrow (fun H locs ls hH hS hl k => c_get (F := 29) (v := .ref x22) hx hb hts hown hK hH hg (hts _ q258) (fun _ h => h) (fvR rfl hq) dX0_goForward_67 (k ls hl)) ?_
      clear hq
      refine Jrow (fun H locs ls hH hS hl k => lv_iload_n hx hb dX0_goForward_70 rfl (lv_at hl 2 rfl) (k ls hl)) ?_
      refine Jgd (fun hk1 => ?_)
      refine Jgd (fun hg => ?_)
      refine Jcl (fun x23 hq => ?_)
      refine Jrow (fun H locs ls hH hS hl k => c_aald (t := 6) (q := some x23) hx hb hK hH (by decide) (by decide) hk1 hg hq dX0_goForward_71 (k ls hl)) ?_
      clear hq
      refine Jgd (fun hg => ?_)
      refine Jcl2 (fun _ σ24 hf => ?_)
      refine Jcall (v := none) (rest := []) (mX2_become l E hf).1 ⟨rfl, rfl⟩ (fun H locs ls hH hS hl hR => ⟨_, va_runV (C := RX2) (As := [.ref x23]) ⟨hx, hb, hml, hown, hts⟩ (mX2_become l E hf).2 (cwV 1 hts (lw_V q969 q918 q919 q93 q920) rfl rfl rfl (by decide +kernel) ⟨Nat.le_of_ble_eq_true rfl, Nat.le_of_ble_eq_true rfl⟩) (c_preV (ci := 3) hk hH hS hg rfl) rfl rfl hl.1 rfl (lv_room (Nat.le_of_ble_eq_true rfl)) dX0_goForward_72 hR⟩) ?_
      clear hf
      refine Jrow (fun H locs ls hH hS hl k => lv_aload_n hx hb dX0_goForward_75 rfl (lv_at hl 0 rfl) (k ls hl)) ?_
      refine Jgd (fun hg => ?_)
      refine Jcl (fun x26 hq => ?_)
      refine Jrow (fun H locs ls hH hS hl k => c_get (F := 29) (v := .ref x26) hx hb hts hown hK hH hg (hts _ q258) (fun _ h => h) (fvR rfl hq) dX0_goForward_76 (k ls hl)) ?_
      clear hq
      refine Jrow (fun H locs ls hH hS hl k => lv_iload_n hx hb dX0_goForward_79 rfl (lv_at hl 2 rfl) (k ls hl)) ?_
      refine Jrow (fun H locs ls hH hS hl k => lv_iconst (v := (1:Int32)) hx hb dX0_goForward_80 (by decide) (k ls hl)) ?_
      refine Jrow (fun H locs ls hH hS hl k => lv_iadd hx hb dX0_goForward_81 (k ls hl)) ?_
      refine Jgd (fun hk1 => ?_)
      refine Jgd (fun hg => ?_)
      refine Jcl (fun x27 hq => ?_)
      refine Jrow (fun H locs ls hH hS hl k => c_aald (t := 6) (q := some x27) hx hb hK hH (by decide) (by decide) hk1 hg hq dX0_goForward_82 (k ls hl)) ?_
      clear hq
      refine Jgd (fun hg => ?_)
      refine Jcl2 (fun _ σ28 hf => ?_)
      refine Jcall (v := none) (rest := []) (mX2_day l E hf).1 ⟨rfl, rfl⟩ (fun H locs ls hH hS hl hR => ⟨_, va_runV (C := RX2) (As := []) ⟨hx, hb, hml, hown, hts⟩ (mX2_day l E hf).2 (cwV 0 hts (lw_V q728 q729 q730 q93 q731) rfl rfl rfl (by decide +kernel) ⟨Nat.le_of_ble_eq_true rfl, Nat.le_of_ble_eq_true rfl⟩) (c_preV (ci := 3) hk hH hS hg rfl) rfl rfl hl.1 rfl (lv_room (Nat.le_of_ble_eq_true rfl)) dX0_goForward_83 hR⟩) ?_
      clear hf
      refine Jrow (fun H locs ls hH hS hl k => lv_aload_n hx hb dX0_goForward_86 rfl (lv_at hl 0 rfl) (k ls hl)) ?_
      refine Jgd (fun hg => ?_)
      refine Jcl (fun x30 hq => ?_)
      refine Jrow (fun H locs ls hH hS hl k => c_get (F := 32) (v := .ref x30) hx hb hts hown hK hH hg (hts _ q262) (fun _ h => h) (fvR rfl hq) dX0_goForward_87 (k ls hl)) ?_
      clear hq
      refine Jrow (fun H locs ls hH hS hl k => lv_iload_n hx hb dX0_goForward_90 rfl (lv_at hl 2 rfl) (k ls hl)) ?_
      refine Jrow (fun H locs ls hH hS hl k => lv_aload_n hx hb dX0_goForward_91 rfl (lv_at hl 0 rfl) (k ls hl)) ?_
      refine Jgd (fun hg => ?_)
      refine Jcl (fun x31 hq => ?_)
      refine Jrow (fun H locs ls hH hS hl k => c_get (F := 29) (v := .ref x31) hx hb hts hown hK hH hg (hts _ q258) (fun _ h => h) (fvR rfl hq) dX0_goForward_92 (k ls hl)) ?_
      clear hq
      refine Jrow (fun H locs ls hH hS hl k => lv_iload_n hx hb dX0_goForward_95 rfl (lv_at hl 2 rfl) (k ls hl)) ?_
      refine Jrow (fun H locs ls hH hS hl k => lv_iconst (v := (1:Int32)) hx hb dX0_goForward_96 (by decide) (k ls hl)) ?_
      refine Jrow (fun H locs ls hH hS hl k => lv_iadd hx hb dX0_goForward_97 (k ls hl)) ?_
      refine Jgd (fun hk1 => ?_)
      refine Jgd (fun hg => ?_)
      refine Jcl (fun x32 hq => ?_)
      refine Jrow (fun H locs ls hH hS hl k => c_aald (t := 6) (q := some x32) hx hb hK hH (by decide) (by decide) hk1 hg hq dX0_goForward_98 (k ls hl)) ?_
      clear hq
      refine Jgd (fun hg => ?_)
      refine Jrow (fun H locs ls hH hS hl k => c_getN (F := 54) (v := .int (cFI σ28 x32 54)) hx hb hts hown hK hH hg (cN hk.2.2.1 14 rfl) (fun _ h => h) rfl dX0_goForward_99 (k ls hl)) ?_
      refine Jgd (fun hk1 => ?_)
      refine Jgd (fun hg => ?_)
      refine Jst (σ1 := uAI σ28 x30 x5.toNatClampNeg (cFI σ28 x32 54)) rfl rfl (fun H locs ls hH hS hl k => c_iast hx hb hK hH hS hk1 hg dX0_goForward_102 k) (fun σ33 => ?_)
      refine Jbd (fun x34 ex34 => ?_)
      refine Jrow (fun H locs ls hH hS hl k => lv_iinc (v := x34) (lv' := [(3, .int x34), (0, .ref a0), (2, .int p2)]) hx hb dX0_goForward_103 hl (k := 2) rfl (by rw [ex34]; rfl) (by decide) rfl k) ?_
      clear ex34
      refine Jrow (fun H locs ls hH hS hl k => lv_goto (tgt := 12) hx hb dX0_goForward_106 (by decide) (k ls hl)) ?_
      exact Jsub [1, 2, 0] rfl (hk7 x34 σ33)

def fX0_body (a0 : Nat) (p1 : Int32) (σ : CS) : Option (Unit × CS) :=
 gd (hf (cK σ a0) 35) (
 gd (hf (cK σ a0) 36) (
 cl (cFR σ a0 36) (fun (x1 : Nat) =>
 gd (kd σ x1 101) (
 jn (fun (σ2 : CS) => gd (hf (cK σ2 a0) 35) (
 gd (hf (cK σ2 a0) 35) (
 bd (uFI σ2 a0 35 ((cFI σ2 a0 35) + (1:Int32))) (fun (σ4 : CS) =>
 some ((), σ4))))) (fun (k3 : CS → Option (Unit × CS)) =>
 if (nI (cLN σ x1)) ≤ (cFI σ a0 35) then
 k3 σ
 else
 gd (hf (cK σ a0) 36) (
 cl (cFR σ a0 36) (fun (x5 : Nat) =>
 gd (hf (cK σ a0) 35) (
 gd (kd σ x5 101) (
 gd (ib (cFI σ a0 35) (cLN σ x5)) (
 bd (uAI σ x5 (cFI σ a0 35).toNatClampNeg p1) (fun (σ6 : CS) =>
 k3 σ6)))))))))))
theorem nX0_body {a0 : Nat} {p1 : Int32} {σ : CS} : Mn σ (fX0_body a0 p1 σ) := by
  unfold fX0_body
  refine Mgd ?_
  refine Mgd ?_
  refine Mcl (fun x1 => ?_)
  refine Mgd ?_
  refine Mjn1 (fun (σ2 : CS) (X7 : Option (Unit × CS)) => Mn σ2 X7) (fun σ2 => ?_) (fun k3 hk3 => ?_)
  · refine Mgd ?_
    refine Mgd ?_
    refine Mst (Nat.le_refl _) (Nat.le_refl _) (fun σ4 => ?_)
    exact Mret
  · refine Mite ?_ ?_
    · exact hk3 σ
    · refine Mgd ?_
      refine Mcl (fun x5 => ?_)
      refine Mgd ?_
      refine Mgd ?_
      refine Mgd ?_
      refine Mst (Nat.le_refl _) (Nat.le_refl _) (fun σ6 => ?_)
      exact hk3 σ6
set_option maxHeartbeats 4000000 in
set_option maxRecDepth 100000 in
theorem mX0_body (l : Launch) (E : CE) {a0 : Nat} {p1 : Int32} {σ : CS} {σz : CS} (hX : fX0_body a0 p1 σ = some ((), σz)) : MetC l yX0_body (ws_ yX0_body cX0_body 2 none) 0 0 E σ [.ref a0, .int p1] none σz := by
  refine MetC.of hX (by decide) (Nat.le_of_ble_eq_true rfl) (nX0_body _ hX) ?_
  intro p e s m below meth c hx hb hr hml hts hown hlocks hnm hk hz0
  have hK := hk.1
  show J p l e (headSpec (ws_ yX0_body cX0_body 2 none) (rmC 0 0 σ σz)).room s m ([.ref a0, .int p1] : List Value).toArray below meth c 2 E (cZ σ) (cS σ) (MQ below (cQ E none σz) ([.ref a0, .int p1] : List Value).toArray s (cZ σz - cZ σ) (cS σz - cS σ) (EA E)) ((), σz) (fX0_body a0 p1 σ) σ 0 [(0, .ref a0), (1, .int p1)] []
  unfold fX0_body
  refine Jrow (fun H locs ls hH hS hl k => lv_aload_n hx hb dX0_body_0 rfl (lv_at hl 0 rfl) (k ls hl)) ?_
  refine Jgd (fun hg => ?_)
  refine Jrow (fun H locs ls hH hS hl k => c_get (F := 35) (v := .int (cFI σ a0 35)) hx hb hts hown hK hH hg (hts _ q265) (fun _ h => h) rfl dX0_body_1 (k ls hl)) ?_
  refine Jrow (fun H locs ls hH hS hl k => lv_aload_n hx hb dX0_body_4 rfl (lv_at hl 0 rfl) (k ls hl)) ?_
  refine Jgd (fun hg => ?_)
  refine Jcl (fun x1 hq => ?_)
  refine Jrow (fun H locs ls hH hS hl k => c_get (F := 36) (v := .ref x1) hx hb hts hown hK hH hg (hts _ q266) (fun _ h => h) (fvR rfl hq) dX0_body_5 (k ls hl)) ?_
  clear hq
  refine Jgd (fun hk1 => ?_)
  refine Jrow (fun H locs ls hH hS hl k => c_alen (t := 0) hx hb hK hH (by decide) hk1 dX0_body_8 (k ls hl)) ?_
  refine Jjn1 (fun (σ2 : CS) X7 => J p l e (headSpec (ws_ yX0_body cX0_body 2 none) (rmC 0 0 σ σz)).room s m ([.ref a0, .int p1] : List Value).toArray below meth c 2 E (cZ σ) (cS σ) (MQ below (cQ E none σz) ([.ref a0, .int p1] : List Value).toArray s (cZ σz - cZ σ) (cS σz - cS σ) (EA E)) ((), σz) X7 σ2 22 [(0, .ref a0)] []) (fun σ2 => ?_) (fun k3 hk3 => ?_)
  · refine Jrow (fun H locs ls hH hS hl k => lv_aload_n hx hb dX0_body_22 rfl (lv_at hl 0 rfl) (k ls hl)) ?_
    refine Jrow (fun H locs ls hH hS hl k => lv_dup hx hb dX0_body_23 rfl (k ls hl)) ?_
    refine Jgd (fun hg => ?_)
    refine Jrow (fun H locs ls hH hS hl k => c_get (F := 35) (v := .int (cFI σ2 a0 35)) hx hb hts hown hK hH hg (hts _ q265) (fun _ h => h) rfl dX0_body_24 (k ls hl)) ?_
    refine Jrow (fun H locs ls hH hS hl k => lv_iconst (v := (1:Int32)) hx hb dX0_body_27 (by decide) (k ls hl)) ?_
    refine Jrow (fun H locs ls hH hS hl k => lv_iadd hx hb dX0_body_28 (k ls hl)) ?_
    refine Jgd (fun hg => ?_)
    refine Jst (σ1 := uFI σ2 a0 35 ((cFI σ2 a0 35) + (1:Int32))) rfl rfl (fun H locs ls hH hS hl k => c_putI (F := 35) (ty := .int) (x := ((cFI σ2 a0 35) + (1:Int32))) hx hb hts hown hK hH hS hg (hts _ q265) (fun _ h => h) rfl rfl (by decide +kernel) rfl rfl rfl dX0_body_29 k) (fun σ4 => ?_)
    exact Jvret hx hb hr hlocks dX0_body_32
  · refine Jite (fun hc => ?_) (fun hc => ?_)
    · refine Jrow (fun H locs ls hH hS hl k => lv_icmp_ge (tgt := 22) hx hb dX0_body_9 (by decide) (fun _ => (k ls hl)) (fun h => absurd hc h)) ?_
      clear hc
      exact Jsub [0] rfl (hk3 σ)
    · refine Jrow (fun H locs ls hH hS hl k => lv_icmp_ge (tgt := 22) hx hb dX0_body_9 (by decide) (fun h => absurd h hc) (fun _ => (k ls hl))) ?_
      clear hc
      refine Jrow (fun H locs ls hH hS hl k => lv_aload_n hx hb dX0_body_12 rfl (lv_at hl 0 rfl) (k ls hl)) ?_
      refine Jgd (fun hg => ?_)
      refine Jcl (fun x5 hq => ?_)
      refine Jrow (fun H locs ls hH hS hl k => c_get (F := 36) (v := .ref x5) hx hb hts hown hK hH hg (hts _ q266) (fun _ h => h) (fvR rfl hq) dX0_body_13 (k ls hl)) ?_
      clear hq
      refine Jrow (fun H locs ls hH hS hl k => lv_aload_n hx hb dX0_body_16 rfl (lv_at hl 0 rfl) (k ls hl)) ?_
      refine Jgd (fun hg => ?_)
      refine Jrow (fun H locs ls hH hS hl k => c_get (F := 35) (v := .int (cFI σ a0 35)) hx hb hts hown hK hH hg (hts _ q265) (fun _ h => h) rfl dX0_body_17 (k ls hl)) ?_
      refine Jrow (fun H locs ls hH hS hl k => lv_iload_n hx hb dX0_body_20 rfl (lv_at hl 1 rfl) (k ls hl)) ?_
      refine Jgd (fun hk1 => ?_)
      refine Jgd (fun hg => ?_)
      refine Jst (σ1 := uAI σ x5 (cFI σ a0 35).toNatClampNeg p1) rfl rfl (fun H locs ls hH hS hl k => c_iast hx hb hK hH hS hk1 hg dX0_body_21 k) (fun σ6 => ?_)
      exact Jsub [0] rfl (hk3 σ6)

def fX0_lookOn (a0 : Nat) (p1 : Int32) (σ : CS) : Option (Int64 × CS) :=
 gd (hf (cK σ a0) 33) (
 cl (cFR σ a0 33) (fun (x1 : Nat) =>
 gd (hf (cK σ a0) 29) (
 cl (cFR σ a0 29) (fun (x2 : Nat) =>
 gd (kd σ x2 107) (
 gd (ib p1 (cLN σ x2)) (
 cl (cAR σ x2 p1.toNatClampNeg) (fun (x3 : Nat) =>
 gd (kd σ x1 4) (
 cl2 (fX2_become x1 x3 σ) (fun (_ : Unit) (σ4 : CS) =>
 gd (hf (cK σ4 a0) 33) (
 cl (cFR σ4 a0 33) (fun (x6 : Nat) =>
 gd (kd σ4 x6 4) (
 cl2 (fX2_look x6 σ4) (fun (_ : Unit) (σ7 : CS) =>
 gd (hf (cK σ7 a0) 33) (
 cl (cFR σ7 a0 33) (fun (x9 : Nat) =>
 gd (hf (cK σ7 x9) 50) (
 cl (cFR σ7 x9 50) (fun (x10 : Nat) =>
 gd (hf (cK σ7 x10) 63) (
 cl (cFR σ7 x10 63) (fun (x11 : Nat) =>
 gd (kd σ7 x11 101) (
 gd (ib (4:Int32) (cLN σ7 x11)) (
 gd (hf (cK σ7 a0) 33) (
 cl (cFR σ7 a0 33) (fun (x12 : Nat) =>
 gd (kd σ7 x12 4) (
 cl2 (fX2_harm x12 σ7) (fun (x14 : Int64) (σ13 : CS) =>
 gd (hf (cK σ13 a0) 30) (
 cl (cFR σ13 a0 30) (fun (x15 : Nat) =>
 gd (kd σ13 x15 103) (
 gd (ib p1 (cLN σ13 x15)) (
 gd (hf (cK σ13 a0) 33) (
 cl (cFR σ13 a0 33) (fun (x16 : Nat) =>
 gd (hf (cK σ13 x16) 54) (
 cl (fX0_joint x14 ((10:Int64) * (cAL σ13 x15 p1.toNatClampNeg)) (cFI σ13 x16 54)) (fun (x17 : Int64) =>
 some ((((cAI σ7 x11 (4:Int32).toNatClampNeg).toInt64) * (1000:Int64)) + x17, σ13))))))))))))))))))))))))))))))))))
theorem nX0_lookOn {a0 : Nat} {p1 : Int32} {σ : CS} : Mn σ (fX0_lookOn a0 p1 σ) := by
  unfold fX0_lookOn
  refine Mgd ?_
  refine Mcl (fun x1 => ?_)
  refine Mgd ?_
  refine Mcl (fun x2 => ?_)
  refine Mgd ?_
  refine Mgd ?_
  refine Mcl (fun x3 => ?_)
  refine Mgd ?_
  refine Mcl2 (nX2_become) (fun _ σ4 => ?_)
  refine Mgd ?_
  refine Mcl (fun x6 => ?_)
  refine Mgd ?_
  refine Mcl2 (nX2_look) (fun _ σ7 => ?_)
  refine Mgd ?_
  refine Mcl (fun x9 => ?_)
  refine Mgd ?_
  refine Mcl (fun x10 => ?_)
  refine Mgd ?_
  refine Mcl (fun x11 => ?_)
  refine Mgd ?_
  refine Mgd ?_
  refine Mgd ?_
  refine Mcl (fun x12 => ?_)
  refine Mgd ?_
  refine Mcl2 (nX2_harm) (fun x14 σ13 => ?_)
  refine Mgd ?_
  refine Mcl (fun x15 => ?_)
  refine Mgd ?_
  refine Mgd ?_
  refine Mgd ?_
  refine Mcl (fun x16 => ?_)
  refine Mgd ?_
  refine Mcl (fun x17 => ?_)
  exact Mret
set_option maxHeartbeats 4000000 in
set_option maxRecDepth 100000 in
theorem mX0_lookOn (l : Launch) (E : CE) {a0 : Nat} {p1 : Int32} {σ : CS} {r : Int64} {σz : CS} (hX : fX0_lookOn a0 p1 σ = some (r, σz)) : MetC l yX0_lookOn (ws_ yX0_lookOn cX0_lookOn 2 (some .long)) 2 81 E σ [.ref a0, .int p1] (some (.long r)) σz := by
  refine MetC.of hX (by decide) (Nat.le_of_ble_eq_true rfl) (nX0_lookOn _ hX) ?_
  intro p e s m below meth c hx hb hr hml hts hown hlocks hnm hk hz0
  have hK := hk.1
  show J p l e (headSpec (ws_ yX0_lookOn cX0_lookOn 2 (some .long)) (rmC 2 81 σ σz)).room s m ([.ref a0, .int p1] : List Value).toArray below meth c 2 E (cZ σ) (cS σ) (MQ below (cQ E (some (.long r)) σz) ([.ref a0, .int p1] : List Value).toArray s (cZ σz - cZ σ) (cS σz - cS σ) (EA E)) (r, σz) (fX0_lookOn a0 p1 σ) σ 0 [(0, .ref a0), (1, .int p1)] []
  unfold fX0_lookOn
  refine Jrow (fun H locs ls hH hS hl k => lv_aload_n hx hb dX0_lookOn_0 rfl (lv_at hl 0 rfl) (k ls hl)) ?_
  refine Jgd (fun hg => ?_)
  refine Jcl (fun x1 hq => ?_)
  refine Jrow (fun H locs ls hH hS hl k => c_get (F := 33) (v := .ref x1) hx hb hts hown hK hH hg (hts _ q263) (fun _ h => h) (fvR rfl hq) dX0_lookOn_1 (k ls hl)) ?_
  clear hq
  refine Jrow (fun H locs ls hH hS hl k => lv_aload_n hx hb dX0_lookOn_4 rfl (lv_at hl 0 rfl) (k ls hl)) ?_
  refine Jgd (fun hg => ?_)
  refine Jcl (fun x2 hq => ?_)
  refine Jrow (fun H locs ls hH hS hl k => c_get (F := 29) (v := .ref x2) hx hb hts hown hK hH hg (hts _ q258) (fun _ h => h) (fvR rfl hq) dX0_lookOn_5 (k ls hl)) ?_
  clear hq
  refine Jrow (fun H locs ls hH hS hl k => lv_iload_n hx hb dX0_lookOn_8 rfl (lv_at hl 1 rfl) (k ls hl)) ?_
  refine Jgd (fun hk1 => ?_)
  refine Jgd (fun hg => ?_)
  refine Jcl (fun x3 hq => ?_)
  refine Jrow (fun H locs ls hH hS hl k => c_aald (t := 6) (q := some x3) hx hb hK hH (by decide) (by decide) hk1 hg hq dX0_lookOn_9 (k ls hl)) ?_
  clear hq
  refine Jgd (fun hg => ?_)
  refine Jcl2 (fun _ σ4 hf => ?_)
  refine Jcall (v := none) (rest := []) (mX2_become l E hf).1 ⟨rfl, rfl⟩ (fun H locs ls hH hS hl hR => ⟨_, va_runV (C := RX2) (As := [.ref x3]) ⟨hx, hb, hml, hown, hts⟩ (mX2_become l E hf).2 (cwV 1 hts (lw_V q969 q918 q919 q93 q920) rfl rfl rfl (by decide +kernel) ⟨Nat.le_of_ble_eq_true rfl, Nat.le_of_ble_eq_true rfl⟩) (c_preV (ci := 3) hk hH hS hg rfl) rfl rfl hl.1 rfl (lv_room (Nat.le_of_ble_eq_true rfl)) dX0_lookOn_10 hR⟩) ?_
  clear hf
  refine Jrow (fun H locs ls hH hS hl k => lv_aload_n hx hb dX0_lookOn_13 rfl (lv_at hl 0 rfl) (k ls hl)) ?_
  refine Jgd (fun hg => ?_)
  refine Jcl (fun x6 hq => ?_)
  refine Jrow (fun H locs ls hH hS hl k => c_get (F := 33) (v := .ref x6) hx hb hts hown hK hH hg (hts _ q263) (fun _ h => h) (fvR rfl hq) dX0_lookOn_14 (k ls hl)) ?_
  clear hq
  refine Jgd (fun hg => ?_)
  refine Jcl2 (fun _ σ7 hf => ?_)
  refine Jcall (v := none) (rest := []) (mX2_look l E hf).1 ⟨rfl, rfl⟩ (fun H locs ls hH hS hl hR => ⟨_, va_runV (C := RX2) (As := []) ⟨hx, hb, hml, hown, hts⟩ (mX2_look l E hf).2 (cwV 0 hts (lw_V q749 q750 q751 q93 q752) rfl rfl rfl (by decide +kernel) ⟨Nat.le_of_ble_eq_true rfl, Nat.le_of_ble_eq_true rfl⟩) (c_preV (ci := 3) hk hH hS hg rfl) rfl rfl hl.1 rfl (lv_room (Nat.le_of_ble_eq_true rfl)) dX0_lookOn_17 hR⟩) ?_
  clear hf
  refine Jrow (fun H locs ls hH hS hl k => lv_aload_n hx hb dX0_lookOn_20 rfl (lv_at hl 0 rfl) (k ls hl)) ?_
  refine Jgd (fun hg => ?_)
  refine Jcl (fun x9 hq => ?_)
  refine Jrow (fun H locs ls hH hS hl k => c_get (F := 33) (v := .ref x9) hx hb hts hown hK hH hg (hts _ q263) (fun _ h => h) (fvR rfl hq) dX0_lookOn_21 (k ls hl)) ?_
  clear hq
  refine Jgd (fun hg => ?_)
  refine Jcl (fun x10 hq => ?_)
  refine Jrow (fun H locs ls hH hS hl k => c_getN (F := 50) (v := .ref x10) hx hb hts hown hK hH hg (cN hk.2.2.1 11 rfl) (fun _ h => h) (fvR rfl hq) dX0_lookOn_24 (k ls hl)) ?_
  clear hq
  refine Jgd (fun hg => ?_)
  refine Jcl (fun x11 hq => ?_)
  refine Jrow (fun H locs ls hH hS hl k => c_getN (F := 63) (v := .ref x11) hx hb hts hown hK hH hg (cN hk.2.2.1 17 rfl) (fun _ h => h) (fvR rfl hq) dX0_lookOn_27 (k ls hl)) ?_
  clear hq
  refine Jrow (fun H locs ls hH hS hl k => lv_iconst (v := (4:Int32)) hx hb dX0_lookOn_30 (by decide) (k ls hl)) ?_
  refine Jgd (fun hk1 => ?_)
  refine Jgd (fun hg => ?_)
  refine Jrow (fun H locs ls hH hS hl k => c_iald hx hb hK hH hk1 hg dX0_lookOn_31 (k ls hl)) ?_
  refine Jrow (fun H locs ls hH hS hl k => lv_i2l hx hb dX0_lookOn_32 rfl (k ls hl)) ?_
  refine Jrow (fun H locs ls hH hS hl k => lv_ldc2 (v := (1000:Int64)) hx hb hown (hts _ q985) dX0_lookOn_33 (k ls hl)) ?_
  refine Jrow (fun H locs ls hH hS hl k => lv_lmul hx hb dX0_lookOn_36 (k ls hl)) ?_
  refine Jrow (fun H locs ls hH hS hl k => lv_aload_n hx hb dX0_lookOn_37 rfl (lv_at hl 0 rfl) (k ls hl)) ?_
  refine Jgd (fun hg => ?_)
  refine Jcl (fun x12 hq => ?_)
  refine Jrow (fun H locs ls hH hS hl k => c_get (F := 33) (v := .ref x12) hx hb hts hown hK hH hg (hts _ q263) (fun _ h => h) (fvR rfl hq) dX0_lookOn_38 (k ls hl)) ?_
  clear hq
  refine Jgd (fun hg => ?_)
  refine Jcl2 (fun x14 σ13 hf => ?_)
  refine Jcall (v := (some (.long x14))) (rest := [.long (((cAI σ7 x11 (4:Int32).toNatClampNeg).toInt64) * (1000:Int64))]) (mX2_harm l E hf).1 ⟨rfl, rfl⟩ (fun H locs ls hH hS hl hR => ⟨_, va_runV (C := RX2) (As := []) ⟨hx, hb, hml, hown, hts⟩ (mX2_harm l E hf).2 (cwV 0 hts (lw_V q758 q759 q760 q93 q761) rfl rfl rfl (by decide +kernel) ⟨Nat.le_of_ble_eq_true rfl, Nat.le_of_ble_eq_true rfl⟩) (c_preV (ci := 3) hk hH hS hg rfl) rfl rfl hl.1 rfl (lv_room (Nat.le_of_ble_eq_true rfl)) dX0_lookOn_41 hR⟩) ?_
  clear hf
  refine Jrow (fun H locs ls hH hS hl k => lv_ldc2 (v := (10:Int64)) hx hb hown (hts _ q986) dX0_lookOn_44 (k ls hl)) ?_
  refine Jrow (fun H locs ls hH hS hl k => lv_aload_n hx hb dX0_lookOn_47 rfl (lv_at hl 0 rfl) (k ls hl)) ?_
  refine Jgd (fun hg => ?_)
  refine Jcl (fun x15 hq => ?_)
  refine Jrow (fun H locs ls hH hS hl k => c_get (F := 30) (v := .ref x15) hx hb hts hown hK hH hg (hts _ q259) (fun _ h => h) (fvR rfl hq) dX0_lookOn_48 (k ls hl)) ?_
  clear hq
  refine Jrow (fun H locs ls hH hS hl k => lv_iload_n hx hb dX0_lookOn_51 rfl (lv_at hl 1 rfl) (k ls hl)) ?_
  refine Jgd (fun hk1 => ?_)
  refine Jgd (fun hg => ?_)
  refine Jrow (fun H locs ls hH hS hl k => c_lald hx hb hK hH hk1 hg dX0_lookOn_52 (k ls hl)) ?_
  refine Jrow (fun H locs ls hH hS hl k => lv_lmul hx hb dX0_lookOn_53 (k ls hl)) ?_
  refine Jrow (fun H locs ls hH hS hl k => lv_aload_n hx hb dX0_lookOn_54 rfl (lv_at hl 0 rfl) (k ls hl)) ?_
  refine Jgd (fun hg => ?_)
  refine Jcl (fun x16 hq => ?_)
  refine Jrow (fun H locs ls hH hS hl k => c_get (F := 33) (v := .ref x16) hx hb hts hown hK hH hg (hts _ q263) (fun _ h => h) (fvR rfl hq) dX0_lookOn_55 (k ls hl)) ?_
  clear hq
  refine Jgd (fun hg => ?_)
  refine Jrow (fun H locs ls hH hS hl k => c_getN (F := 54) (v := .int (cFI σ13 x16 54)) hx hb hts hown hK hH hg (cN hk.2.2.1 14 rfl) (fun _ h => h) rfl dX0_lookOn_58 (k ls hl)) ?_
  refine Jcl (fun x17 hf => ?_)
  refine JcallS (v := .long x17) (rest := [.long (((cAI σ7 x11 (4:Int32).toNatClampNeg).toInt64) * (1000:Int64))]) hz0 ⟨rfl, rfl⟩ sQl_o (fun H locs ls hl hR => va_runS (As := [.long x14, .long ((10:Int64) * (cAL σ13 x15 p1.toNatClampNeg)), .int (cFI σ13 x16 54)]) ⟨hx, hb, hml, hown, hts⟩ (mX0_joint l hf) (va_cwS 3 hts (lw_S q987 q935 q88 q936) rfl rfl rfl (by decide +kernel) ⟨Nat.le_of_ble_eq_true rfl, Nat.le_of_ble_eq_true rfl⟩) s_pre rfl rfl hl.1 rfl (lv_room (Nat.le_of_ble_eq_true rfl)) dX0_lookOn_61 hR) ?_
  clear hf
  refine Jrow (fun H locs ls hH hS hl k => lv_ladd hx hb dX0_lookOn_64 (k ls hl)) ?_
  exact Jlret hx hb hr hlocks dX0_lookOn_65

def fX0_plainNow (a0 : Nat) (σ : CS) : Option (Int32 × CS) :=
 lp (fun _ _ _ => none) (fun (k4 : Int32 → Int32 → CS → Option (Int32 × CS)) (x1 : Int32) (x2 : Int32) (σ3 : CS) =>
 if (20:Int32) < x2 then
 some (x1, σ3)
 else
 gd (hf (cK σ3 a0) 31) (
 cl (cFR σ3 a0 31) (fun (x5 : Nat) =>
 gd (kd σ3 x5 103) (
 gd (ib x2 (cLN σ3 x5)) (
 gd (kd σ3 a0 2) (
 cl2 (fX0_fold a0 x2 (cAL σ3 x5 x2.toNatClampNeg) σ3) (fun (x7 : Int64) (σ6 : CS) =>
 gd (hf (cK σ6 a0) 31) (
 cl (cFR σ6 a0 31) (fun (x8 : Nat) =>
 gd (kd σ6 x8 103) (
 gd (ib x1 (cLN σ6 x8)) (
 gd (kd σ6 a0 2) (
 cl2 (fX0_fold a0 x1 (cAL σ6 x8 x1.toNatClampNeg) σ6) (fun (x10 : Int64) (σ9 : CS) =>
 jn (fun (x11 : Int32) => bd (x2 + (1:Int32)) (fun (x13 : Int32) =>
 k4 x11 x13 σ9)) (fun (k12 : Int32 → Option (Int32 × CS)) =>
 if (0:Int32) ≤ (lg_cmp x7 x10) then
 k12 x1
 else
 k12 x2)))))))))))))) NF (0:Int32) (1:Int32) σ
theorem nX0_plainNow {a0 : Nat} {σ : CS} : Mn σ (fX0_plainNow a0 σ) := by
  unfold fX0_plainNow
  refine Plp3 (fun (x1 : Int32) (x2 : Int32) (σ3 : CS) (X15 : Option (Int32 × CS)) => Mn σ3 X15) (fun _ _ _ => Mnone) (fun k4 hk4 x1 x2 σ3 => ?_)
  refine Mite ?_ ?_
  · exact Mret
  · refine Mgd ?_
    refine Mcl (fun x5 => ?_)
    refine Mgd ?_
    refine Mgd ?_
    refine Mgd ?_
    refine Mcl2 (nX0_fold) (fun x7 σ6 => ?_)
    refine Mgd ?_
    refine Mcl (fun x8 => ?_)
    refine Mgd ?_
    refine Mgd ?_
    refine Mgd ?_
    refine Mcl2 (nX0_fold) (fun x10 σ9 => ?_)
    refine Mjn1 (fun (x11 : Int32) (X14 : Option (Int32 × CS)) => Mn σ9 X14) (fun x11 => ?_) (fun k12 hk12 => ?_)
    · refine Mbd (fun x13 => ?_)
      exact hk4 x11 x13 σ9
    · refine Mite ?_ ?_
      · exact hk12 x1
      · exact hk12 x2
set_option maxHeartbeats 4000000 in
set_option maxRecDepth 100000 in
theorem mX0_plainNow (l : Launch) (E : CE) {a0 : Nat} {σ : CS} {r : Int32} {σz : CS} (hX : fX0_plainNow a0 σ = some (r, σz)) : MetC l yX0_plainNow (ws_ yX0_plainNow cX0_plainNow 3 (some .int)) 3 73 E σ [.ref a0] (some (.int r)) σz := by
  refine MetC.of hX (by decide) (Nat.le_of_ble_eq_true rfl) (nX0_plainNow _ hX) ?_
  intro p e s m below meth c hx hb hr hml hts hown hlocks hnm hk hz0
  have hK := hk.1
  show J p l e (headSpec (ws_ yX0_plainNow cX0_plainNow 3 (some .int)) (rmC 3 73 σ σz)).room s m ([.ref a0] : List Value).toArray below meth c 3 E (cZ σ) (cS σ) (MQ below (cQ E (some (.int r)) σz) ([.ref a0] : List Value).toArray s (cZ σz - cZ σ) (cS σz - cS σ) (EA E)) (r, σz) (fX0_plainNow a0 σ) σ 0 [(0, .ref a0)] []
  unfold fX0_plainNow
  refine Jrow (fun H locs ls hH hS hl k => lv_iconst (v := (0:Int32)) hx hb dX0_plainNow_0 (by decide) (k ls hl)) ?_
  refine Jrow (fun H locs ls hH hS hl k => lv_istore_n (lv' := [(1, .int (0:Int32)), (0, .ref a0)]) hx hb dX0_plainNow_1 rfl hl (by decide) rfl k) ?_
  refine Jrow (fun H locs ls hH hS hl k => lv_iconst (v := (1:Int32)) hx hb dX0_plainNow_2 (by decide) (k ls hl)) ?_
  refine Jrow (fun H locs ls hH hS hl k => lv_istore_n (lv' := [(2, .int (1:Int32)), (1, .int (0:Int32)), (0, .ref a0)]) hx hb dX0_plainNow_3 rfl hl (by decide) rfl k) ?_
  refine Jsub [2, 1, 0] rfl (Plp3 (fun (x1 : Int32) (x2 : Int32) (σ3 : CS) X15 => J p l e (headSpec (ws_ yX0_plainNow cX0_plainNow 3 (some .int)) (rmC 3 73 σ σz)).room s m ([.ref a0] : List Value).toArray below meth c 3 E (cZ σ) (cS σ) (MQ below (cQ E (some (.int r)) σz) ([.ref a0] : List Value).toArray s (cZ σz - cZ σ) (cS σz - cS σ) (EA E)) (r, σz) X15 σ3 4 [(0, .ref a0), (1, .int x1), (2, .int x2)] []) (fun _ _ _ => Jnone) (fun k4 hk4 x1 x2 σ3 => ?_))
  refine Jrow (fun H locs ls hH hS hl k => lv_iload_n hx hb dX0_plainNow_4 rfl (lv_at hl 2 rfl) (k ls hl)) ?_
  refine Jrow (fun H locs ls hH hS hl k => lv_bipush (v := (20:Int32)) hx hb dX0_plainNow_5 (by decide) (k ls hl)) ?_
  refine Jite (fun hc => ?_) (fun hc => ?_)
  · refine Jrow (fun H locs ls hH hS hl k => lv_icmp_gt (tgt := 44) hx hb dX0_plainNow_7 (by decide) (fun _ => (k ls hl)) (fun h => absurd hc h)) ?_
    clear hc
    refine Jrow (fun H locs ls hH hS hl k => lv_iload_n hx hb dX0_plainNow_44 rfl (lv_at hl 1 rfl) (k ls hl)) ?_
    exact Jiret hx hb hr hlocks dX0_plainNow_45
  · refine Jrow (fun H locs ls hH hS hl k => lv_icmp_gt (tgt := 44) hx hb dX0_plainNow_7 (by decide) (fun h => absurd h hc) (fun _ => (k ls hl))) ?_
    clear hc
    refine Jrow (fun H locs ls hH hS hl k => lv_aload_n hx hb dX0_plainNow_10 rfl (lv_at hl 0 rfl) (k ls hl)) ?_
    refine Jrow (fun H locs ls hH hS hl k => lv_iload_n hx hb dX0_plainNow_11 rfl (lv_at hl 2 rfl) (k ls hl)) ?_
    refine Jrow (fun H locs ls hH hS hl k => lv_aload_n hx hb dX0_plainNow_12 rfl (lv_at hl 0 rfl) (k ls hl)) ?_
    refine Jgd (fun hg => ?_)
    refine Jcl (fun x5 hq => ?_)
    refine Jrow (fun H locs ls hH hS hl k => c_get (F := 31) (v := .ref x5) hx hb hts hown hK hH hg (hts _ q260) (fun _ h => h) (fvR rfl hq) dX0_plainNow_13 (k ls hl)) ?_
    clear hq
    refine Jrow (fun H locs ls hH hS hl k => lv_iload_n hx hb dX0_plainNow_16 rfl (lv_at hl 2 rfl) (k ls hl)) ?_
    refine Jgd (fun hk1 => ?_)
    refine Jgd (fun hg => ?_)
    refine Jrow (fun H locs ls hH hS hl k => c_lald hx hb hK hH hk1 hg dX0_plainNow_17 (k ls hl)) ?_
    refine Jgd (fun hg => ?_)
    refine Jcl2 (fun x7 σ6 hf => ?_)
    refine Jcall (v := (some (.long x7))) (rest := []) (mX0_fold l E hf).1 ⟨rfl, rfl⟩ (fun H locs ls hH hS hl hR => ⟨_, va_runV (C := RX0) (As := [.int x2, .long (cAL σ3 x5 x2.toNatClampNeg)]) ⟨hx, hb, hml, hown, hts⟩ (mX0_fold l E hf).2 (cwV 2 hts (lw_V q994 q996 qs26 q88 q997) rfl rfl rfl (by decide +kernel) ⟨Nat.le_of_ble_eq_true rfl, Nat.le_of_ble_eq_true rfl⟩) (c_preV (ci := 1) hk hH hS hg rfl) rfl rfl hl.1 rfl (lv_room (Nat.le_of_ble_eq_true rfl)) dX0_plainNow_18 hR⟩) ?_
    clear hf
    refine Jrow (fun H locs ls hH hS hl k => lv_aload_n hx hb dX0_plainNow_21 rfl (lv_at hl 0 rfl) (k ls hl)) ?_
    refine Jrow (fun H locs ls hH hS hl k => lv_iload_n hx hb dX0_plainNow_22 rfl (lv_at hl 1 rfl) (k ls hl)) ?_
    refine Jrow (fun H locs ls hH hS hl k => lv_aload_n hx hb dX0_plainNow_23 rfl (lv_at hl 0 rfl) (k ls hl)) ?_
    refine Jgd (fun hg => ?_)
    refine Jcl (fun x8 hq => ?_)
    refine Jrow (fun H locs ls hH hS hl k => c_get (F := 31) (v := .ref x8) hx hb hts hown hK hH hg (hts _ q260) (fun _ h => h) (fvR rfl hq) dX0_plainNow_24 (k ls hl)) ?_
    clear hq
    refine Jrow (fun H locs ls hH hS hl k => lv_iload_n hx hb dX0_plainNow_27 rfl (lv_at hl 1 rfl) (k ls hl)) ?_
    refine Jgd (fun hk1 => ?_)
    refine Jgd (fun hg => ?_)
    refine Jrow (fun H locs ls hH hS hl k => c_lald hx hb hK hH hk1 hg dX0_plainNow_28 (k ls hl)) ?_
    refine Jgd (fun hg => ?_)
    refine Jcl2 (fun x10 σ9 hf => ?_)
    refine Jcall (v := (some (.long x10))) (rest := [.long x7]) (mX0_fold l E hf).1 ⟨rfl, rfl⟩ (fun H locs ls hH hS hl hR => ⟨_, va_runV (C := RX0) (As := [.int x1, .long (cAL σ6 x8 x1.toNatClampNeg)]) ⟨hx, hb, hml, hown, hts⟩ (mX0_fold l E hf).2 (cwV 2 hts (lw_V q994 q996 qs26 q88 q997) rfl rfl rfl (by decide +kernel) ⟨Nat.le_of_ble_eq_true rfl, Nat.le_of_ble_eq_true rfl⟩) (c_preV (ci := 1) hk hH hS hg rfl) rfl rfl hl.1 rfl (lv_room (Nat.le_of_ble_eq_true rfl)) dX0_plainNow_29 hR⟩) ?_
    clear hf
    refine Jrow (fun H locs ls hH hS hl k => W.lcmp hx hb dX0_plainNow_32 (k ls hl)) ?_
    refine Jjn1 (fun (x11 : Int32) X14 => J p l e (headSpec (ws_ yX0_plainNow cX0_plainNow 3 (some .int)) (rmC 3 73 σ σz)).room s m ([.ref a0] : List Value).toArray below meth c 3 E (cZ σ) (cS σ) (MQ below (cQ E (some (.int r)) σz) ([.ref a0] : List Value).toArray s (cZ σz - cZ σ) (cS σz - cS σ) (EA E)) (r, σz) X14 σ9 38 [(0, .ref a0), (1, .int x11), (2, .int x2)] []) (fun x11 => ?_) (fun k12 hk12 => ?_)
    · refine Jbd (fun x13 ex13 => ?_)
      refine Jrow (fun H locs ls hH hS hl k => lv_iinc (v := x13) (lv' := [(2, .int x13), (0, .ref a0), (1, .int x11)]) hx hb dX0_plainNow_38 hl (k := 2) rfl (by rw [ex13]; rfl) (by decide) rfl k) ?_
      clear ex13
      refine Jrow (fun H locs ls hH hS hl k => lv_goto (tgt := 4) hx hb dX0_plainNow_41 (by decide) (k ls hl)) ?_
      exact Jsub [1, 2, 0] rfl (hk4 x11 x13 σ9)
    · refine Jite (fun hc => ?_) (fun hc => ?_)
      · refine Jrow (fun H locs ls hH hS hl k => lv_if_ge (tgt := 38) hx hb dX0_plainNow_33 (by decide) (fun _ => (k ls hl)) (fun h => absurd hc h)) ?_
        clear hc
        exact Jsub [0, 1, 2] rfl (hk12 x1)
      · refine Jrow (fun H locs ls hH hS hl k => lv_if_ge (tgt := 38) hx hb dX0_plainNow_33 (by decide) (fun h => absurd h hc) (fun _ => (k ls hl))) ?_
        clear hc
        refine Jrow (fun H locs ls hH hS hl k => lv_iload_n hx hb dX0_plainNow_36 rfl (lv_at hl 2 rfl) (k ls hl)) ?_
        refine Jrow (fun H locs ls hH hS hl k => lv_istore_n (lv' := [(1, .int x2), (0, .ref a0), (2, .int x2)]) hx hb dX0_plainNow_37 rfl hl (by decide) rfl k) ?_
        exact Jsub [1, 0, 2] rfl (hk12 x2)

def fX0_whenNow (a0 : Nat) (σ : CS) : Option (Int32 × CS) :=
 lp (fun _ _ _ => none) (fun (k4 : Int32 → Int32 → CS → Option (Int32 × CS)) (x1 : Int32) (x2 : Int32) (σ3 : CS) =>
 if (9:Int32) < x2 then
 some (x1, σ3)
 else
 gd (kd σ3 a0 2) (
 cl2 (fX0_lookOn a0 x2 σ3) (fun (x6 : Int64) (σ5 : CS) =>
 gd (kd σ5 a0 2) (
 cl2 (fX0_fold a0 x2 x6 σ5) (fun (x8 : Int64) (σ7 : CS) =>
 gd (kd σ7 a0 2) (
 cl2 (fX0_lookOn a0 x1 σ7) (fun (x10 : Int64) (σ9 : CS) =>
 gd (kd σ9 a0 2) (
 cl2 (fX0_fold a0 x1 x10 σ9) (fun (x12 : Int64) (σ11 : CS) =>
 jn (fun (x13 : Int32) => bd (x2 + (1:Int32)) (fun (x15 : Int32) =>
 k4 x13 x15 σ11)) (fun (k14 : Int32 → Option (Int32 × CS)) =>
 if (0:Int32) ≤ (lg_cmp x8 x12) then
 k14 x1
 else
 k14 x2)))))))))) NF (0:Int32) (1:Int32) σ
theorem nX0_whenNow {a0 : Nat} {σ : CS} : Mn σ (fX0_whenNow a0 σ) := by
  unfold fX0_whenNow
  refine Plp3 (fun (x1 : Int32) (x2 : Int32) (σ3 : CS) (X17 : Option (Int32 × CS)) => Mn σ3 X17) (fun _ _ _ => Mnone) (fun k4 hk4 x1 x2 σ3 => ?_)
  refine Mite ?_ ?_
  · exact Mret
  · refine Mgd ?_
    refine Mcl2 (nX0_lookOn) (fun x6 σ5 => ?_)
    refine Mgd ?_
    refine Mcl2 (nX0_fold) (fun x8 σ7 => ?_)
    refine Mgd ?_
    refine Mcl2 (nX0_lookOn) (fun x10 σ9 => ?_)
    refine Mgd ?_
    refine Mcl2 (nX0_fold) (fun x12 σ11 => ?_)
    refine Mjn1 (fun (x13 : Int32) (X16 : Option (Int32 × CS)) => Mn σ11 X16) (fun x13 => ?_) (fun k14 hk14 => ?_)
    · refine Mbd (fun x15 => ?_)
      exact hk4 x13 x15 σ11
    · refine Mite ?_ ?_
      · exact hk14 x1
      · exact hk14 x2
set_option maxHeartbeats 4000000 in
set_option maxRecDepth 100000 in
theorem mX0_whenNow (l : Launch) (E : CE) {a0 : Nat} {σ : CS} {r : Int32} {σz : CS} (hX : fX0_whenNow a0 σ = some (r, σz)) : MetC l yX0_whenNow (ws_ yX0_whenNow cX0_whenNow 3 (some .int)) 3 102 E σ [.ref a0] (some (.int r)) σz := by
  refine MetC.of hX (by decide) (Nat.le_of_ble_eq_true rfl) (nX0_whenNow _ hX) ?_
  intro p e s m below meth c hx hb hr hml hts hown hlocks hnm hk hz0
  have hK := hk.1
  show J p l e (headSpec (ws_ yX0_whenNow cX0_whenNow 3 (some .int)) (rmC 3 102 σ σz)).room s m ([.ref a0] : List Value).toArray below meth c 3 E (cZ σ) (cS σ) (MQ below (cQ E (some (.int r)) σz) ([.ref a0] : List Value).toArray s (cZ σz - cZ σ) (cS σz - cS σ) (EA E)) (r, σz) (fX0_whenNow a0 σ) σ 0 [(0, .ref a0)] []
  unfold fX0_whenNow
  refine Jrow (fun H locs ls hH hS hl k => lv_iconst (v := (0:Int32)) hx hb dX0_whenNow_0 (by decide) (k ls hl)) ?_
  refine Jrow (fun H locs ls hH hS hl k => lv_istore_n (lv' := [(1, .int (0:Int32)), (0, .ref a0)]) hx hb dX0_whenNow_1 rfl hl (by decide) rfl k) ?_
  refine Jrow (fun H locs ls hH hS hl k => lv_iconst (v := (1:Int32)) hx hb dX0_whenNow_2 (by decide) (k ls hl)) ?_
  refine Jrow (fun H locs ls hH hS hl k => lv_istore_n (lv' := [(2, .int (1:Int32)), (1, .int (0:Int32)), (0, .ref a0)]) hx hb dX0_whenNow_3 rfl hl (by decide) rfl k) ?_
  refine Jsub [2, 1, 0] rfl (Plp3 (fun (x1 : Int32) (x2 : Int32) (σ3 : CS) X17 => J p l e (headSpec (ws_ yX0_whenNow cX0_whenNow 3 (some .int)) (rmC 3 102 σ σz)).room s m ([.ref a0] : List Value).toArray below meth c 3 E (cZ σ) (cS σ) (MQ below (cQ E (some (.int r)) σz) ([.ref a0] : List Value).toArray s (cZ σz - cZ σ) (cS σz - cS σ) (EA E)) (r, σz) X17 σ3 4 [(0, .ref a0), (1, .int x1), (2, .int x2)] []) (fun _ _ _ => Jnone) (fun k4 hk4 x1 x2 σ3 => ?_))
  refine Jrow (fun H locs ls hH hS hl k => lv_iload_n hx hb dX0_whenNow_4 rfl (lv_at hl 2 rfl) (k ls hl)) ?_
  refine Jrow (fun H locs ls hH hS hl k => lv_bipush (v := (9:Int32)) hx hb dX0_whenNow_5 (by decide) (k ls hl)) ?_
  refine Jite (fun hc => ?_) (fun hc => ?_)
  · refine Jrow (fun H locs ls hH hS hl k => lv_icmp_gt (tgt := 42) hx hb dX0_whenNow_7 (by decide) (fun _ => (k ls hl)) (fun h => absurd hc h)) ?_
    clear hc
    refine Jrow (fun H locs ls hH hS hl k => lv_iload_n hx hb dX0_whenNow_42 rfl (lv_at hl 1 rfl) (k ls hl)) ?_
    exact Jiret hx hb hr hlocks dX0_whenNow_43
  · refine Jrow (fun H locs ls hH hS hl k => lv_icmp_gt (tgt := 42) hx hb dX0_whenNow_7 (by decide) (fun h => absurd h hc) (fun _ => (k ls hl))) ?_
    clear hc
    refine Jrow (fun H locs ls hH hS hl k => lv_aload_n hx hb dX0_whenNow_10 rfl (lv_at hl 0 rfl) (k ls hl)) ?_
    refine Jrow (fun H locs ls hH hS hl k => lv_iload_n hx hb dX0_whenNow_11 rfl (lv_at hl 2 rfl) (k ls hl)) ?_
    refine Jrow (fun H locs ls hH hS hl k => lv_aload_n hx hb dX0_whenNow_12 rfl (lv_at hl 0 rfl) (k ls hl)) ?_
    refine Jrow (fun H locs ls hH hS hl k => lv_iload_n hx hb dX0_whenNow_13 rfl (lv_at hl 2 rfl) (k ls hl)) ?_
    refine Jgd (fun hg => ?_)
    refine Jcl2 (fun x6 σ5 hf => ?_)
    refine Jcall (v := (some (.long x6))) (rest := [.int x2, .ref a0]) (mX0_lookOn l E hf).1 ⟨rfl, rfl⟩ (fun H locs ls hH hS hl hR => ⟨_, va_runV (C := RX0) (As := [.int x2]) ⟨hx, hb, hml, hown, hts⟩ (mX0_lookOn l E hf).2 (cwV 1 hts (lw_V q1027 q983 qs25 q88 q984) rfl rfl rfl (by decide +kernel) ⟨Nat.le_of_ble_eq_true rfl, Nat.le_of_ble_eq_true rfl⟩) (c_preV (ci := 1) hk hH hS hg rfl) rfl rfl hl.1 rfl (lv_room (Nat.le_of_ble_eq_true rfl)) dX0_whenNow_14 hR⟩) ?_
    clear hf
    refine Jgd (fun hg => ?_)
    refine Jcl2 (fun x8 σ7 hf => ?_)
    refine Jcall (v := (some (.long x8))) (rest := []) (mX0_fold l E hf).1 ⟨rfl, rfl⟩ (fun H locs ls hH hS hl hR => ⟨_, va_runV (C := RX0) (As := [.int x2, .long x6]) ⟨hx, hb, hml, hown, hts⟩ (mX0_fold l E hf).2 (cwV 2 hts (lw_V q994 q996 qs26 q88 q997) rfl rfl rfl (by decide +kernel) ⟨Nat.le_of_ble_eq_true rfl, Nat.le_of_ble_eq_true rfl⟩) (c_preV (ci := 1) hk hH hS hg rfl) rfl rfl hl.1 rfl (lv_room (Nat.le_of_ble_eq_true rfl)) dX0_whenNow_17 hR⟩) ?_
    clear hf
    refine Jrow (fun H locs ls hH hS hl k => lv_aload_n hx hb dX0_whenNow_20 rfl (lv_at hl 0 rfl) (k ls hl)) ?_
    refine Jrow (fun H locs ls hH hS hl k => lv_iload_n hx hb dX0_whenNow_21 rfl (lv_at hl 1 rfl) (k ls hl)) ?_
    refine Jrow (fun H locs ls hH hS hl k => lv_aload_n hx hb dX0_whenNow_22 rfl (lv_at hl 0 rfl) (k ls hl)) ?_
    refine Jrow (fun H locs ls hH hS hl k => lv_iload_n hx hb dX0_whenNow_23 rfl (lv_at hl 1 rfl) (k ls hl)) ?_
    refine Jgd (fun hg => ?_)
    refine Jcl2 (fun x10 σ9 hf => ?_)
    refine Jcall (v := (some (.long x10))) (rest := [.int x1, .ref a0, .long x8]) (mX0_lookOn l E hf).1 ⟨rfl, rfl⟩ (fun H locs ls hH hS hl hR => ⟨_, va_runV (C := RX0) (As := [.int x1]) ⟨hx, hb, hml, hown, hts⟩ (mX0_lookOn l E hf).2 (cwV 1 hts (lw_V q1027 q983 qs25 q88 q984) rfl rfl rfl (by decide +kernel) ⟨Nat.le_of_ble_eq_true rfl, Nat.le_of_ble_eq_true rfl⟩) (c_preV (ci := 1) hk hH hS hg rfl) rfl rfl hl.1 rfl (lv_room (Nat.le_of_ble_eq_true rfl)) dX0_whenNow_24 hR⟩) ?_
    clear hf
    refine Jgd (fun hg => ?_)
    refine Jcl2 (fun x12 σ11 hf => ?_)
    refine Jcall (v := (some (.long x12))) (rest := [.long x8]) (mX0_fold l E hf).1 ⟨rfl, rfl⟩ (fun H locs ls hH hS hl hR => ⟨_, va_runV (C := RX0) (As := [.int x1, .long x10]) ⟨hx, hb, hml, hown, hts⟩ (mX0_fold l E hf).2 (cwV 2 hts (lw_V q994 q996 qs26 q88 q997) rfl rfl rfl (by decide +kernel) ⟨Nat.le_of_ble_eq_true rfl, Nat.le_of_ble_eq_true rfl⟩) (c_preV (ci := 1) hk hH hS hg rfl) rfl rfl hl.1 rfl (lv_room (Nat.le_of_ble_eq_true rfl)) dX0_whenNow_27 hR⟩) ?_
    clear hf
    refine Jrow (fun H locs ls hH hS hl k => W.lcmp hx hb dX0_whenNow_30 (k ls hl)) ?_
    refine Jjn1 (fun (x13 : Int32) X16 => J p l e (headSpec (ws_ yX0_whenNow cX0_whenNow 3 (some .int)) (rmC 3 102 σ σz)).room s m ([.ref a0] : List Value).toArray below meth c 3 E (cZ σ) (cS σ) (MQ below (cQ E (some (.int r)) σz) ([.ref a0] : List Value).toArray s (cZ σz - cZ σ) (cS σz - cS σ) (EA E)) (r, σz) X16 σ11 36 [(0, .ref a0), (1, .int x13), (2, .int x2)] []) (fun x13 => ?_) (fun k14 hk14 => ?_)
    · refine Jbd (fun x15 ex15 => ?_)
      refine Jrow (fun H locs ls hH hS hl k => lv_iinc (v := x15) (lv' := [(2, .int x15), (0, .ref a0), (1, .int x13)]) hx hb dX0_whenNow_36 hl (k := 2) rfl (by rw [ex15]; rfl) (by decide) rfl k) ?_
      clear ex15
      refine Jrow (fun H locs ls hH hS hl k => lv_goto (tgt := 4) hx hb dX0_whenNow_39 (by decide) (k ls hl)) ?_
      exact Jsub [1, 2, 0] rfl (hk4 x13 x15 σ11)
    · refine Jite (fun hc => ?_) (fun hc => ?_)
      · refine Jrow (fun H locs ls hH hS hl k => lv_if_ge (tgt := 36) hx hb dX0_whenNow_31 (by decide) (fun _ => (k ls hl)) (fun h => absurd hc h)) ?_
        clear hc
        exact Jsub [0, 1, 2] rfl (hk14 x1)
      · refine Jrow (fun H locs ls hH hS hl k => lv_if_ge (tgt := 36) hx hb dX0_whenNow_31 (by decide) (fun h => absurd h hc) (fun _ => (k ls hl))) ?_
        clear hc
        refine Jrow (fun H locs ls hH hS hl k => lv_iload_n hx hb dX0_whenNow_34 rfl (lv_at hl 2 rfl) (k ls hl)) ?_
        refine Jrow (fun H locs ls hH hS hl k => lv_istore_n (lv' := [(1, .int x2), (0, .ref a0), (2, .int x2)]) hx hb dX0_whenNow_35 rfl hl (by decide) rfl k) ?_
        exact Jsub [1, 0, 2] rfl (hk14 x2)

def fX0_plain (a0 : Nat) (p1 : Int32) (p2 : Int32) (σ : CS) : Option (Int32 × CS) :=
 gd (kd σ a0 2) (
 cl2 (fX0_shipAt a0 p1 σ) (fun (x2 : Option Nat) (σ1 : CS) =>
 jn (some ((-1:Int32), σ1)) (fun (k3 : Option (Int32 × CS)) =>
 oc x2 (
 k3) (fun (x4 : Nat) =>
 cl (fX0_in p2 (0:Int32) (1:Int32)) (fun (x5 : Int32) =>
 if x5 = (0:Int32) then
 k3
 else
 gd (hf (cK σ1 x4) 83) (
 cl (cFR σ1 x4 83) (fun (x6 : Nat) =>
 gd (kd σ1 a0 2) (
 cl2 (fX0_goForward a0 x6 (0:Int32) σ1) (fun (_ : Unit) (σ7 : CS) =>
 jn (fun (x9 : Int32) (σ10 : CS) => some (x9, σ10)) (fun (k11 : Int32 → CS → Option (Int32 × CS)) =>
 if p2 = (0:Int32) then
 gd (kd σ7 a0 2) (
 cl2 (fX0_plainNow a0 σ7) (fun (x15 : Int32) (σ14 : CS) =>
 k11 x15 σ14))
 else
 gd (kd σ7 a0 2) (
 cl2 (fX0_whenNow a0 σ7) (fun (x13 : Int32) (σ12 : CS) =>
 k11 x13 σ12))))))))))))
theorem nX0_plain {a0 : Nat} {p1 : Int32} {p2 : Int32} {σ : CS} : Mn σ (fX0_plain a0 p1 p2 σ) := by
  unfold fX0_plain
  refine Mgd ?_
  refine Mcl2 (nX0_shipAt) (fun x2 σ1 => ?_)
  refine Mjn0 (fun  (X17 : Option (Int32 × CS)) => Mn σ1 X17) (?_) (fun k3 hk3 => ?_)
  · exact Mret
  · refine Moc ?_ (fun x4 => ?_)
    · exact hk3
    · refine Mcl (fun x5 => ?_)
      refine Mite ?_ ?_
      · exact hk3
      · refine Mgd ?_
        refine Mcl (fun x6 => ?_)
        refine Mgd ?_
        refine Mcl2 (nX0_goForward) (fun _ σ7 => ?_)
        refine Mjn2 (fun (x9 : Int32) (σ10 : CS) (X16 : Option (Int32 × CS)) => Mn σ10 X16) (fun x9 σ10 => ?_) (fun k11 hk11 => ?_)
        · exact Mret
        · refine Mite ?_ ?_
          · refine Mgd ?_
            refine Mcl2 (nX0_plainNow) (fun x15 σ14 => ?_)
            exact hk11 x15 σ14
          · refine Mgd ?_
            refine Mcl2 (nX0_whenNow) (fun x13 σ12 => ?_)
            exact hk11 x13 σ12
set_option maxHeartbeats 4000000 in
set_option maxRecDepth 100000 in
theorem mX0_plain (l : Launch) (E : CE) {a0 : Nat} {p1 : Int32} {p2 : Int32} {σ : CS} {r : Int32} {σz : CS} (hX : fX0_plain a0 p1 p2 σ = some (r, σz)) : MetC l yX0_plain (ws_ yX0_plain cX0_plain 4 (some .int)) 104 4099 E σ [.ref a0, .int p1, .int p2] (some (.int r)) σz := by
  refine MetC.of hX (by decide) (Nat.le_of_ble_eq_true rfl) (nX0_plain _ hX) ?_
  intro p e s m below meth c hx hb hr hml hts hown hlocks hnm hk hz0
  have hK := hk.1
  show J p l e (headSpec (ws_ yX0_plain cX0_plain 4 (some .int)) (rmC 104 4099 σ σz)).room s m ([.ref a0, .int p1, .int p2] : List Value).toArray below meth c 4 E (cZ σ) (cS σ) (MQ below (cQ E (some (.int r)) σz) ([.ref a0, .int p1, .int p2] : List Value).toArray s (cZ σz - cZ σ) (cS σz - cS σ) (EA E)) (r, σz) (fX0_plain a0 p1 p2 σ) σ 0 [(0, .ref a0), (1, .int p1), (2, .int p2)] []
  unfold fX0_plain
  refine Jrow (fun H locs ls hH hS hl k => lv_aload_n hx hb dX0_plain_0 rfl (lv_at hl 0 rfl) (k ls hl)) ?_
  refine Jrow (fun H locs ls hH hS hl k => lv_iload_n hx hb dX0_plain_1 rfl (lv_at hl 1 rfl) (k ls hl)) ?_
  refine Jgd (fun hg => ?_)
  refine Jcl2 (fun x2 σ1 hf => ?_)
  refine Jcall (v := (some (va_rf x2))) (rest := []) (mX0_shipAt l E hf).1 ⟨rfl, rfl⟩ (fun H locs ls hH hS hl hR => ⟨_, va_runV (C := RX0) (As := [.int p1]) ⟨hx, hb, hml, hown, hts⟩ (mX0_shipAt l E hf).2 (cwV 1 hts (lw_V q703 q705 qs18 q88 q706) rfl rfl rfl (by decide +kernel) ⟨Nat.le_of_ble_eq_true rfl, Nat.le_of_ble_eq_true rfl⟩) (c_preV (ci := 1) hk hH hS hg rfl) rfl rfl hl.1 rfl (lv_room (Nat.le_of_ble_eq_true rfl)) dX0_plain_2 hR⟩) ?_
  clear hf
  refine Jrow (fun H locs ls hH hS hl k => lv_astore_nF (lv' := [(3, va_rf x2), (0, .ref a0), (1, .int p1), (2, .int p2)]) hx hb dX0_plain_5 rfl hl (by decide) rfl k) ?_
  refine Jrow (fun H locs ls hH hS hl k => lv_aload_nF hx hb dX0_plain_6 rfl (lv_at hl 0 rfl) (k ls hl)) ?_
  refine Jjn0 (fun  X17 => J p l e (headSpec (ws_ yX0_plain cX0_plain 4 (some .int)) (rmC 104 4099 σ σz)).room s m ([.ref a0, .int p1, .int p2] : List Value).toArray below meth c 4 E (cZ σ) (cS σ) (MQ below (cQ E (some (.int r)) σz) ([.ref a0, .int p1, .int p2] : List Value).toArray s (cZ σz - cZ σ) (cS σz - cS σ) (EA E)) (r, σz) X17 σ1 19 [] []) (?_) (fun k3 hk3 => ?_)
  · refine Jrow (fun H locs ls hH hS hl k => lv_iconst (v := (-1:Int32)) hx hb dX0_plain_19 (by decide) (k ls hl)) ?_
    exact Jiret hx hb hr hlocks dX0_plain_20
  · rcases x2 with _ | x4
    · refine Joc0 ?_
      refine Jrow (fun H locs ls hH hS hl k => lv_ifnullN (tgt := 19) hx hb dX0_plain_7 (by decide) (k ls hl)) ?_
      exact Jsub [] rfl (hk3)
    · refine Joc1 ?_
      refine Jrow (fun H locs ls hH hS hl k => lv_ifnull hx hb dX0_plain_7 (k ls hl)) ?_
      refine Jrow (fun H locs ls hH hS hl k => lv_iload_n hx hb dX0_plain_10 rfl (lv_at hl 3 rfl) (k ls hl)) ?_
      refine Jrow (fun H locs ls hH hS hl k => lv_iconst (v := (0:Int32)) hx hb dX0_plain_11 (by decide) (k ls hl)) ?_
      refine Jrow (fun H locs ls hH hS hl k => lv_iconst (v := (1:Int32)) hx hb dX0_plain_12 (by decide) (k ls hl)) ?_
      refine Jcl (fun x5 hf => ?_)
      refine JcallS (v := .int x5) (rest := []) hz0 ⟨rfl, rfl⟩ sQi_o (fun H locs ls hl hR => va_runS (As := [.int p2, .int (0:Int32), .int (1:Int32)]) ⟨hx, hb, hml, hown, hts⟩ (mX0_in l hf) (va_cwS 3 hts (lw_S q319 q320 q88 q321) rfl rfl rfl (by decide +kernel) ⟨Nat.le_of_ble_eq_true rfl, Nat.le_of_ble_eq_true rfl⟩) s_pre rfl rfl hl.1 rfl (lv_room (Nat.le_of_ble_eq_true rfl)) dX0_plain_13 hR) ?_
      clear hf
      refine Jite (fun hc => ?_) (fun hc => ?_)
      · refine Jrow (fun H locs ls hH hS hl k => lv_if_ne (tgt := 21) hx hb dX0_plain_16 (by decide) (fun h => absurd hc h) (fun _ => (k ls hl))) ?_
        clear hc
        exact Jsub [] rfl (hk3)
      · refine Jrow (fun H locs ls hH hS hl k => lv_if_ne (tgt := 21) hx hb dX0_plain_16 (by decide) (fun _ => (k ls hl)) (fun h => absurd h hc)) ?_
        clear hc
        refine Jrow (fun H locs ls hH hS hl k => lv_aload_n hx hb dX0_plain_21 rfl (lv_at hl 1 rfl) (k ls hl)) ?_
        refine Jrow (fun H locs ls hH hS hl k => lv_aload_n hx hb dX0_plain_22 rfl (lv_at hl 0 rfl) (k ls hl)) ?_
        refine Jgd (fun hg => ?_)
        refine Jcl (fun x6 hq => ?_)
        refine Jrow (fun H locs ls hH hS hl k => c_getN (F := 83) (v := .ref x6) hx hb hts hown hK hH hg (cN hk.2.2.1 22 rfl) (fun _ h => h) (fvR rfl hq) dX0_plain_23 (k ls hl)) ?_
        clear hq
        refine Jrow (fun H locs ls hH hS hl k => lv_iconst (v := (0:Int32)) hx hb dX0_plain_26 (by decide) (k ls hl)) ?_
        refine Jgd (fun hg => ?_)
        refine Jcl2 (fun _ σ7 hf => ?_)
        refine Jcall (v := none) (rest := []) (mX0_goForward l E hf).1 ⟨rfl, rfl⟩ (fun H locs ls hH hS hl hR => ⟨_, va_runV (C := RX0) (As := [.ref x6, .int (0:Int32)]) ⟨hx, hb, hml, hown, hts⟩ (mX0_goForward l E hf).2 (cwV 2 hts (lw_V q965 q967 qs24 q88 q968) rfl rfl rfl (by decide +kernel) ⟨Nat.le_of_ble_eq_true rfl, Nat.le_of_ble_eq_true rfl⟩) (c_preV (ci := 1) hk hH hS hg rfl) rfl rfl hl.1 rfl (lv_room (Nat.le_of_ble_eq_true rfl)) dX0_plain_27 hR⟩) ?_
        clear hf
        refine Jrow (fun H locs ls hH hS hl k => lv_iload_n hx hb dX0_plain_30 rfl (lv_at hl 3 rfl) (k ls hl)) ?_
        refine Jjn2 (fun (x9 : Int32) (σ10 : CS) X16 => J p l e (headSpec (ws_ yX0_plain cX0_plain 4 (some .int)) (rmC 104 4099 σ σz)).room s m ([.ref a0, .int p1, .int p2] : List Value).toArray below meth c 4 E (cZ σ) (cS σ) (MQ below (cQ E (some (.int r)) σz) ([.ref a0, .int p1, .int p2] : List Value).toArray s (cZ σz - cZ σ) (cS σz - cS σ) (EA E)) (r, σz) X16 σ10 45 [] [.int x9]) (fun x9 σ10 => ?_) (fun k11 hk11 => ?_)
        · exact Jiret hx hb hr hlocks dX0_plain_45
        · refine Jite (fun hc => ?_) (fun hc => ?_)
          · refine Jrow (fun H locs ls hH hS hl k => lv_if_ne (tgt := 41) hx hb dX0_plain_31 (by decide) (fun h => absurd hc h) (fun _ => (k ls hl))) ?_
            clear hc
            refine Jrow (fun H locs ls hH hS hl k => lv_aload_n hx hb dX0_plain_34 rfl (lv_at hl 1 rfl) (k ls hl)) ?_
            refine Jgd (fun hg => ?_)
            refine Jcl2 (fun x15 σ14 hf => ?_)
            refine Jcall (v := (some (.int x15))) (rest := []) (mX0_plainNow l E hf).1 ⟨rfl, rfl⟩ (fun H locs ls hH hS hl hR => ⟨_, va_runV (C := RX0) (As := []) ⟨hx, hb, hml, hown, hts⟩ (mX0_plainNow l E hf).2 (cwV 0 hts (lw_V q1019 q1021 qs30 q88 q1022) rfl rfl rfl (by decide +kernel) ⟨Nat.le_of_ble_eq_true rfl, Nat.le_of_ble_eq_true rfl⟩) (c_preV (ci := 1) hk hH hS hg rfl) rfl rfl hl.1 rfl (lv_room (Nat.le_of_ble_eq_true rfl)) dX0_plain_35 hR⟩) ?_
            clear hf
            refine Jrow (fun H locs ls hH hS hl k => lv_goto (tgt := 45) hx hb dX0_plain_38 (by decide) (k ls hl)) ?_
            exact Jsub [] rfl (hk11 x15 σ14)
          · refine Jrow (fun H locs ls hH hS hl k => lv_if_ne (tgt := 41) hx hb dX0_plain_31 (by decide) (fun _ => (k ls hl)) (fun h => absurd h hc)) ?_
            clear hc
            refine Jrow (fun H locs ls hH hS hl k => lv_aload_n hx hb dX0_plain_41 rfl (lv_at hl 1 rfl) (k ls hl)) ?_
            refine Jgd (fun hg => ?_)
            refine Jcl2 (fun x13 σ12 hf => ?_)
            refine Jcall (v := (some (.int x13))) (rest := []) (mX0_whenNow l E hf).1 ⟨rfl, rfl⟩ (fun H locs ls hH hS hl hR => ⟨_, va_runV (C := RX0) (As := []) ⟨hx, hb, hml, hown, hts⟩ (mX0_whenNow l E hf).2 (cwV 0 hts (lw_V q1023 q1025 qs31 q88 q1026) rfl rfl rfl (by decide +kernel) ⟨Nat.le_of_ble_eq_true rfl, Nat.le_of_ble_eq_true rfl⟩) (c_preV (ci := 1) hk hH hS hg rfl) rfl rfl hl.1 rfl (lv_room (Nat.le_of_ble_eq_true rfl)) dX0_plain_42 hR⟩) ?_
            clear hf
            exact Jsub [] rfl (hk11 x13 σ12)

def fX0_best (a0 : Nat) (p1 : Int32) (p2 : Int32) (p3 : Int32) (p4 : Int32) (σ : CS) : Option (Int64 × CS) :=
 gd (kd σ a0 2) (
 cl2 (fX0_shipAt a0 p1 σ) (fun (x2 : Option Nat) (σ1 : CS) =>
 jn (some ((-9223372036854775808:Int64), σ1)) (fun (k3 : Option (Int64 × CS)) =>
 oc x2 (
 k3) (fun (x4 : Nat) =>
 cl (fX0_in p2 (0:Int32) (9:Int32)) (fun (x5 : Int32) =>
 if x5 = (0:Int32) then
 k3
 else
 cl (fX0_in p3 (0:Int32) (20:Int32)) (fun (x6 : Int32) =>
 if x6 = (0:Int32) then
 k3
 else
 cl (fX0_in p4 (0:Int32) (1:Int32)) (fun (x7 : Int32) =>
 if x7 = (0:Int32) then
 k3
 else
 gd (hf (cK σ1 x4) 83) (
 cl (cFR σ1 x4 83) (fun (x8 : Nat) =>
 gd (kd σ1 a0 2) (
 cl2 (fX0_goForward a0 x8 p3 σ1) (fun (_ : Unit) (σ9 : CS) =>
 jn (fun (x11 : Int64) (σ12 : CS) => some (x11, σ12)) (fun (k13 : Int64 → CS → Option (Int64 × CS)) =>
 if p4 = (0:Int32) then
 gd (kd σ9 a0 2) (
 cl2 (fX0_bestFrom a0 (0:Int32) p2 σ9) (fun (x17 : Int64) (σ16 : CS) =>
 k13 x17 σ16))
 else
 gd (kd σ9 a0 2) (
 cl2 (fX0_isBestIn a0 (0:Int32) p2 σ9) (fun (x15 : Int32) (σ14 : CS) =>
 if x15 = (0:Int32) then
 k13 (0:Int64) σ14
 else
 k13 (1:Int64) σ14))))))))))))))
theorem nX0_best {a0 : Nat} {p1 : Int32} {p2 : Int32} {p3 : Int32} {p4 : Int32} {σ : CS} : Mn σ (fX0_best a0 p1 p2 p3 p4 σ) := by
  unfold fX0_best
  refine Mgd ?_
  refine Mcl2 (nX0_shipAt) (fun x2 σ1 => ?_)
  refine Mjn0 (fun  (X19 : Option (Int64 × CS)) => Mn σ1 X19) (?_) (fun k3 hk3 => ?_)
  · exact Mret
  · refine Moc ?_ (fun x4 => ?_)
    · exact hk3
    · refine Mcl (fun x5 => ?_)
      refine Mite ?_ ?_
      · exact hk3
      · refine Mcl (fun x6 => ?_)
        refine Mite ?_ ?_
        · exact hk3
        · refine Mcl (fun x7 => ?_)
          refine Mite ?_ ?_
          · exact hk3
          · refine Mgd ?_
            refine Mcl (fun x8 => ?_)
            refine Mgd ?_
            refine Mcl2 (nX0_goForward) (fun _ σ9 => ?_)
            refine Mjn2 (fun (x11 : Int64) (σ12 : CS) (X18 : Option (Int64 × CS)) => Mn σ12 X18) (fun x11 σ12 => ?_) (fun k13 hk13 => ?_)
            · exact Mret
            · refine Mite ?_ ?_
              · refine Mgd ?_
                refine Mcl2 (nX0_bestFrom) (fun x17 σ16 => ?_)
                exact hk13 x17 σ16
              · refine Mgd ?_
                refine Mcl2 (nX0_isBestIn) (fun x15 σ14 => ?_)
                refine Mite ?_ ?_
                · exact hk13 (0:Int64) σ14
                · exact hk13 (1:Int64) σ14
set_option maxHeartbeats 4000000 in
set_option maxRecDepth 100000 in
theorem mX0_best (l : Launch) (E : CE) {a0 : Nat} {p1 : Int32} {p2 : Int32} {p3 : Int32} {p4 : Int32} {σ : CS} {r : Int64} {σz : CS} (hX : fX0_best a0 p1 p2 p3 p4 σ = some (r, σz)) : MetC l yX0_best (ws_ yX0_best cX0_best 6 (some .long)) 104 4099 E σ [.ref a0, .int p1, .int p2, .int p3, .int p4] (some (.long r)) σz := by
  refine MetC.of hX (by decide) (Nat.le_of_ble_eq_true rfl) (nX0_best _ hX) ?_
  intro p e s m below meth c hx hb hr hml hts hown hlocks hnm hk hz0
  have hK := hk.1
  show J p l e (headSpec (ws_ yX0_best cX0_best 6 (some .long)) (rmC 104 4099 σ σz)).room s m ([.ref a0, .int p1, .int p2, .int p3, .int p4] : List Value).toArray below meth c 6 E (cZ σ) (cS σ) (MQ below (cQ E (some (.long r)) σz) ([.ref a0, .int p1, .int p2, .int p3, .int p4] : List Value).toArray s (cZ σz - cZ σ) (cS σz - cS σ) (EA E)) (r, σz) (fX0_best a0 p1 p2 p3 p4 σ) σ 0 [(0, .ref a0), (1, .int p1), (2, .int p2), (3, .int p3), (4, .int p4)] []
  unfold fX0_best
  refine Jrow (fun H locs ls hH hS hl k => lv_aload_n hx hb dX0_best_0 rfl (lv_at hl 0 rfl) (k ls hl)) ?_
  refine Jrow (fun H locs ls hH hS hl k => lv_iload_n hx hb dX0_best_1 rfl (lv_at hl 1 rfl) (k ls hl)) ?_
  refine Jgd (fun hg => ?_)
  refine Jcl2 (fun x2 σ1 hf => ?_)
  refine Jcall (v := (some (va_rf x2))) (rest := []) (mX0_shipAt l E hf).1 ⟨rfl, rfl⟩ (fun H locs ls hH hS hl hR => ⟨_, va_runV (C := RX0) (As := [.int p1]) ⟨hx, hb, hml, hown, hts⟩ (mX0_shipAt l E hf).2 (cwV 1 hts (lw_V q703 q705 qs18 q88 q706) rfl rfl rfl (by decide +kernel) ⟨Nat.le_of_ble_eq_true rfl, Nat.le_of_ble_eq_true rfl⟩) (c_preV (ci := 1) hk hH hS hg rfl) rfl rfl hl.1 rfl (lv_room (Nat.le_of_ble_eq_true rfl)) dX0_best_2 hR⟩) ?_
  clear hf
  refine Jrow (fun H locs ls hH hS hl k => lv_astoreF (lv' := [(5, va_rf x2), (0, .ref a0), (1, .int p1), (2, .int p2), (3, .int p3), (4, .int p4)]) hx hb dX0_best_5 hl (by decide) rfl k) ?_
  refine Jrow (fun H locs ls hH hS hl k => lv_aloadF hx hb dX0_best_7 (lv_at hl 0 rfl) (k ls hl)) ?_
  refine Jjn0 (fun  X19 => J p l e (headSpec (ws_ yX0_best cX0_best 6 (some .long)) (rmC 104 4099 σ σz)).room s m ([.ref a0, .int p1, .int p2, .int p3, .int p4] : List Value).toArray below meth c 6 E (cZ σ) (cS σ) (MQ below (cQ E (some (.long r)) σz) ([.ref a0, .int p1, .int p2, .int p3, .int p4] : List Value).toArray s (cZ σz - cZ σ) (cS σz - cS σ) (EA E)) (r, σz) X19 σ1 42 [] []) (?_) (fun k3 hk3 => ?_)
  · refine Jrow (fun H locs ls hH hS hl k => lv_ldc2 (v := (-9223372036854775808:Int64)) hx hb hown (hts _ q757) dX0_best_42 (k ls hl)) ?_
    exact Jlret hx hb hr hlocks dX0_best_45
  · rcases x2 with _ | x4
    · refine Joc0 ?_
      refine Jrow (fun H locs ls hH hS hl k => lv_ifnullN (tgt := 42) hx hb dX0_best_9 (by decide) (k ls hl)) ?_
      exact Jsub [] rfl (hk3)
    · refine Joc1 ?_
      refine Jrow (fun H locs ls hH hS hl k => lv_ifnull hx hb dX0_best_9 (k ls hl)) ?_
      refine Jrow (fun H locs ls hH hS hl k => lv_iload_n hx hb dX0_best_12 rfl (lv_at hl 3 rfl) (k ls hl)) ?_
      refine Jrow (fun H locs ls hH hS hl k => lv_iconst (v := (0:Int32)) hx hb dX0_best_13 (by decide) (k ls hl)) ?_
      refine Jrow (fun H locs ls hH hS hl k => lv_bipush (v := (9:Int32)) hx hb dX0_best_14 (by decide) (k ls hl)) ?_
      refine Jcl (fun x5 hf => ?_)
      refine JcallS (v := .int x5) (rest := []) hz0 ⟨rfl, rfl⟩ sQi_o (fun H locs ls hl hR => va_runS (As := [.int p2, .int (0:Int32), .int (9:Int32)]) ⟨hx, hb, hml, hown, hts⟩ (mX0_in l hf) (va_cwS 3 hts (lw_S q319 q320 q88 q321) rfl rfl rfl (by decide +kernel) ⟨Nat.le_of_ble_eq_true rfl, Nat.le_of_ble_eq_true rfl⟩) s_pre rfl rfl hl.1 rfl (lv_room (Nat.le_of_ble_eq_true rfl)) dX0_best_16 hR) ?_
      clear hf
      refine Jite (fun hc => ?_) (fun hc => ?_)
      · refine Jrow (fun H locs ls hH hS hl k => lv_if_eq (tgt := 42) hx hb dX0_best_19 (by decide) (fun _ => (k ls hl)) (fun h => absurd hc h)) ?_
        clear hc
        exact Jsub [] rfl (hk3)
      · refine Jrow (fun H locs ls hH hS hl k => lv_if_eq (tgt := 42) hx hb dX0_best_19 (by decide) (fun h => absurd h hc) (fun _ => (k ls hl))) ?_
        clear hc
        refine Jrow (fun H locs ls hH hS hl k => lv_iload_n hx hb dX0_best_22 rfl (lv_at hl 4 rfl) (k ls hl)) ?_
        refine Jrow (fun H locs ls hH hS hl k => lv_iconst (v := (0:Int32)) hx hb dX0_best_23 (by decide) (k ls hl)) ?_
        refine Jrow (fun H locs ls hH hS hl k => lv_bipush (v := (20:Int32)) hx hb dX0_best_24 (by decide) (k ls hl)) ?_
        refine Jcl (fun x6 hf => ?_)
        refine JcallS (v := .int x6) (rest := []) hz0 ⟨rfl, rfl⟩ sQi_o (fun H locs ls hl hR => va_runS (As := [.int p3, .int (0:Int32), .int (20:Int32)]) ⟨hx, hb, hml, hown, hts⟩ (mX0_in l hf) (va_cwS 3 hts (lw_S q319 q320 q88 q321) rfl rfl rfl (by decide +kernel) ⟨Nat.le_of_ble_eq_true rfl, Nat.le_of_ble_eq_true rfl⟩) s_pre rfl rfl hl.1 rfl (lv_room (Nat.le_of_ble_eq_true rfl)) dX0_best_26 hR) ?_
        clear hf
        refine Jite (fun hc => ?_) (fun hc => ?_)
        · refine Jrow (fun H locs ls hH hS hl k => lv_if_eq (tgt := 42) hx hb dX0_best_29 (by decide) (fun _ => (k ls hl)) (fun h => absurd hc h)) ?_
          clear hc
          exact Jsub [] rfl (hk3)
        · refine Jrow (fun H locs ls hH hS hl k => lv_if_eq (tgt := 42) hx hb dX0_best_29 (by decide) (fun h => absurd h hc) (fun _ => (k ls hl))) ?_
          clear hc
          refine Jrow (fun H locs ls hH hS hl k => lv_iload hx hb dX0_best_32 (lv_at hl 5 rfl) (k ls hl)) ?_
          refine Jrow (fun H locs ls hH hS hl k => lv_iconst (v := (0:Int32)) hx hb dX0_best_34 (by decide) (k ls hl)) ?_
          refine Jrow (fun H locs ls hH hS hl k => lv_iconst (v := (1:Int32)) hx hb dX0_best_35 (by decide) (k ls hl)) ?_
          refine Jcl (fun x7 hf => ?_)
          refine JcallS (v := .int x7) (rest := []) hz0 ⟨rfl, rfl⟩ sQi_o (fun H locs ls hl hR => va_runS (As := [.int p4, .int (0:Int32), .int (1:Int32)]) ⟨hx, hb, hml, hown, hts⟩ (mX0_in l hf) (va_cwS 3 hts (lw_S q319 q320 q88 q321) rfl rfl rfl (by decide +kernel) ⟨Nat.le_of_ble_eq_true rfl, Nat.le_of_ble_eq_true rfl⟩) s_pre rfl rfl hl.1 rfl (lv_room (Nat.le_of_ble_eq_true rfl)) dX0_best_36 hR) ?_
          clear hf
          refine Jite (fun hc => ?_) (fun hc => ?_)
          · refine Jrow (fun H locs ls hH hS hl k => lv_if_ne (tgt := 46) hx hb dX0_best_39 (by decide) (fun h => absurd hc h) (fun _ => (k ls hl))) ?_
            clear hc
            exact Jsub [] rfl (hk3)
          · refine Jrow (fun H locs ls hH hS hl k => lv_if_ne (tgt := 46) hx hb dX0_best_39 (by decide) (fun _ => (k ls hl)) (fun h => absurd h hc)) ?_
            clear hc
            refine Jrow (fun H locs ls hH hS hl k => lv_aload_n hx hb dX0_best_46 rfl (lv_at hl 1 rfl) (k ls hl)) ?_
            refine Jrow (fun H locs ls hH hS hl k => lv_aload hx hb dX0_best_47 (lv_at hl 0 rfl) (k ls hl)) ?_
            refine Jgd (fun hg => ?_)
            refine Jcl (fun x8 hq => ?_)
            refine Jrow (fun H locs ls hH hS hl k => c_getN (F := 83) (v := .ref x8) hx hb hts hown hK hH hg (cN hk.2.2.1 22 rfl) (fun _ h => h) (fvR rfl hq) dX0_best_49 (k ls hl)) ?_
            clear hq
            refine Jrow (fun H locs ls hH hS hl k => lv_iload_n hx hb dX0_best_52 rfl (lv_at hl 4 rfl) (k ls hl)) ?_
            refine Jgd (fun hg => ?_)
            refine Jcl2 (fun _ σ9 hf => ?_)
            refine Jcall (v := none) (rest := []) (mX0_goForward l E hf).1 ⟨rfl, rfl⟩ (fun H locs ls hH hS hl hR => ⟨_, va_runV (C := RX0) (As := [.ref x8, .int p3]) ⟨hx, hb, hml, hown, hts⟩ (mX0_goForward l E hf).2 (cwV 2 hts (lw_V q965 q967 qs24 q88 q968) rfl rfl rfl (by decide +kernel) ⟨Nat.le_of_ble_eq_true rfl, Nat.le_of_ble_eq_true rfl⟩) (c_preV (ci := 1) hk hH hS hg rfl) rfl rfl hl.1 rfl (lv_room (Nat.le_of_ble_eq_true rfl)) dX0_best_53 hR⟩) ?_
            clear hf
            refine Jrow (fun H locs ls hH hS hl k => lv_iload hx hb dX0_best_56 (lv_at hl 5 rfl) (k ls hl)) ?_
            refine Jjn2 (fun (x11 : Int64) (σ12 : CS) X18 => J p l e (headSpec (ws_ yX0_best cX0_best 6 (some .long)) (rmC 104 4099 σ σz)).room s m ([.ref a0, .int p1, .int p2, .int p3, .int p4] : List Value).toArray below meth c 6 E (cZ σ) (cS σ) (MQ below (cQ E (some (.long r)) σz) ([.ref a0, .int p1, .int p2, .int p3, .int p4] : List Value).toArray s (cZ σz - cZ σ) (cS σz - cS σ) (EA E)) (r, σz) X18 σ12 84 [] [.long x11]) (fun x11 σ12 => ?_) (fun k13 hk13 => ?_)
            · exact Jlret hx hb hr hlocks dX0_best_84
            · refine Jite (fun hc => ?_) (fun hc => ?_)
              · refine Jrow (fun H locs ls hH hS hl k => lv_if_ne (tgt := 70) hx hb dX0_best_58 (by decide) (fun h => absurd hc h) (fun _ => (k ls hl))) ?_
                clear hc
                refine Jrow (fun H locs ls hH hS hl k => lv_aload_n hx hb dX0_best_61 rfl (lv_at hl 1 rfl) (k ls hl)) ?_
                refine Jrow (fun H locs ls hH hS hl k => lv_iconst (v := (0:Int32)) hx hb dX0_best_62 (by decide) (k ls hl)) ?_
                refine Jrow (fun H locs ls hH hS hl k => lv_iload_n hx hb dX0_best_63 rfl (lv_at hl 3 rfl) (k ls hl)) ?_
                refine Jgd (fun hg => ?_)
                refine Jcl2 (fun x17 σ16 hf => ?_)
                refine Jcall (v := (some (.long x17))) (rest := []) (mX0_bestFrom l E hf).1 ⟨rfl, rfl⟩ (fun H locs ls hH hS hl hR => ⟨_, va_runV (C := RX0) (As := [.int (0:Int32), .int p2]) ⟨hx, hb, hml, hown, hts⟩ (mX0_bestFrom l E hf).2 (cwV 2 hts (lw_V q1006 q1008 qs28 q88 q1009) rfl rfl rfl (by decide +kernel) ⟨Nat.le_of_ble_eq_true rfl, Nat.le_of_ble_eq_true rfl⟩) (c_preV (ci := 1) hk hH hS hg rfl) rfl rfl hl.1 rfl (lv_room (Nat.le_of_ble_eq_true rfl)) dX0_best_64 hR⟩) ?_
                clear hf
                refine Jrow (fun H locs ls hH hS hl k => lv_goto (tgt := 84) hx hb dX0_best_67 (by decide) (k ls hl)) ?_
                exact Jsub [] rfl (hk13 x17 σ16)
              · refine Jrow (fun H locs ls hH hS hl k => lv_if_ne (tgt := 70) hx hb dX0_best_58 (by decide) (fun _ => (k ls hl)) (fun h => absurd h hc)) ?_
                clear hc
                refine Jrow (fun H locs ls hH hS hl k => lv_aload_n hx hb dX0_best_70 rfl (lv_at hl 1 rfl) (k ls hl)) ?_
                refine Jrow (fun H locs ls hH hS hl k => lv_iconst (v := (0:Int32)) hx hb dX0_best_71 (by decide) (k ls hl)) ?_
                refine Jrow (fun H locs ls hH hS hl k => lv_iload_n hx hb dX0_best_72 rfl (lv_at hl 3 rfl) (k ls hl)) ?_
                refine Jgd (fun hg => ?_)
                refine Jcl2 (fun x15 σ14 hf => ?_)
                refine Jcall (v := (some (.int x15))) (rest := []) (mX0_isBestIn l E hf).1 ⟨rfl, rfl⟩ (fun H locs ls hH hS hl hR => ⟨_, va_runV (C := RX0) (As := [.int (0:Int32), .int p2]) ⟨hx, hb, hml, hown, hts⟩ (mX0_isBestIn l E hf).2 (cwV 2 hts (lw_V q1011 q1013 qs29 q88 q1014) rfl rfl rfl (by decide +kernel) ⟨Nat.le_of_ble_eq_true rfl, Nat.le_of_ble_eq_true rfl⟩) (c_preV (ci := 1) hk hH hS hg rfl) rfl rfl hl.1 rfl (lv_room (Nat.le_of_ble_eq_true rfl)) dX0_best_73 hR⟩) ?_
                clear hf
                refine Jite (fun hc => ?_) (fun hc => ?_)
                · refine Jrow (fun H locs ls hH hS hl k => lv_if_eq (tgt := 83) hx hb dX0_best_76 (by decide) (fun _ => (k ls hl)) (fun h => absurd hc h)) ?_
                  clear hc
                  refine Jrow (fun H locs ls hH hS hl k => lv_lconst (v := (0:Int64)) hx hb dX0_best_83 (by decide) (k ls hl)) ?_
                  exact Jsub [] rfl (hk13 (0:Int64) σ14)
                · refine Jrow (fun H locs ls hH hS hl k => lv_if_eq (tgt := 83) hx hb dX0_best_76 (by decide) (fun h => absurd h hc) (fun _ => (k ls hl))) ?_
                  clear hc
                  refine Jrow (fun H locs ls hH hS hl k => lv_lconst (v := (1:Int64)) hx hb dX0_best_79 (by decide) (k ls hl)) ?_
                  refine Jrow (fun H locs ls hH hS hl k => lv_goto (tgt := 84) hx hb dX0_best_80 (by decide) (k ls hl)) ?_
                  exact Jsub [] rfl (hk13 (1:Int64) σ14)

def fX0_loses (a0 : Nat) (p1 : Int32) (σ : CS) : Option (Int64 × CS) :=
 gd (kd σ a0 2) (
 cl2 (fX0_shipAt a0 p1 σ) (fun (x2 : Option Nat) (σ1 : CS) =>
 oc x2 (
 some ((-9223372036854775808:Int64), σ1)) (fun (x3 : Nat) =>
 gd (hf (cK σ1 x3) 83) (
 cl (cFR σ1 x3 83) (fun (x4 : Nat) =>
 gd (kd σ1 a0 2) (
 cl2 (fX0_goForward a0 x4 (0:Int32) σ1) (fun (_ : Unit) (σ5 : CS) =>
 gd (kd σ5 a0 2) (
 cl2 (fX0_plainNow a0 σ5) (fun (x8 : Int32) (σ7 : CS) =>
 gd (hf (cK σ7 a0) 31) (
 cl (cFR σ7 a0 31) (fun (x9 : Nat) =>
 gd (kd σ7 x9 103) (
 gd (ib x8 (cLN σ7 x9)) (
 gd (kd σ7 a0 2) (
 cl2 (fX0_fold a0 x8 (cAL σ7 x9 x8.toNatClampNeg) σ7) (fun (x11 : Int64) (σ10 : CS) =>
 gd (kd σ10 a0 2) (
 cl2 (fX0_bestFrom a0 (0:Int32) (9:Int32) σ10) (fun (x13 : Int64) (σ12 : CS) =>
 some (x11 - x13, σ12))))))))))))))))))
theorem nX0_loses {a0 : Nat} {p1 : Int32} {σ : CS} : Mn σ (fX0_loses a0 p1 σ) := by
  unfold fX0_loses
  refine Mgd ?_
  refine Mcl2 (nX0_shipAt) (fun x2 σ1 => ?_)
  refine Moc ?_ (fun x3 => ?_)
  · exact Mret
  · refine Mgd ?_
    refine Mcl (fun x4 => ?_)
    refine Mgd ?_
    refine Mcl2 (nX0_goForward) (fun _ σ5 => ?_)
    refine Mgd ?_
    refine Mcl2 (nX0_plainNow) (fun x8 σ7 => ?_)
    refine Mgd ?_
    refine Mcl (fun x9 => ?_)
    refine Mgd ?_
    refine Mgd ?_
    refine Mgd ?_
    refine Mcl2 (nX0_fold) (fun x11 σ10 => ?_)
    refine Mgd ?_
    refine Mcl2 (nX0_bestFrom) (fun x13 σ12 => ?_)
    exact Mret
set_option maxHeartbeats 4000000 in
set_option maxRecDepth 100000 in
theorem mX0_loses (l : Launch) (E : CE) {a0 : Nat} {p1 : Int32} {σ : CS} {r : Int64} {σz : CS} (hX : fX0_loses a0 p1 σ = some (r, σz)) : MetC l yX0_loses (ws_ yX0_loses cX0_loses 4 (some .long)) 104 4099 E σ [.ref a0, .int p1] (some (.long r)) σz := by
  refine MetC.of hX (by decide) (Nat.le_of_ble_eq_true rfl) (nX0_loses _ hX) ?_
  intro p e s m below meth c hx hb hr hml hts hown hlocks hnm hk hz0
  have hK := hk.1
  show J p l e (headSpec (ws_ yX0_loses cX0_loses 4 (some .long)) (rmC 104 4099 σ σz)).room s m ([.ref a0, .int p1] : List Value).toArray below meth c 4 E (cZ σ) (cS σ) (MQ below (cQ E (some (.long r)) σz) ([.ref a0, .int p1] : List Value).toArray s (cZ σz - cZ σ) (cS σz - cS σ) (EA E)) (r, σz) (fX0_loses a0 p1 σ) σ 0 [(0, .ref a0), (1, .int p1)] []
  unfold fX0_loses
  refine Jrow (fun H locs ls hH hS hl k => lv_aload_n hx hb dX0_loses_0 rfl (lv_at hl 0 rfl) (k ls hl)) ?_
  refine Jrow (fun H locs ls hH hS hl k => lv_iload_n hx hb dX0_loses_1 rfl (lv_at hl 1 rfl) (k ls hl)) ?_
  refine Jgd (fun hg => ?_)
  refine Jcl2 (fun x2 σ1 hf => ?_)
  refine Jcall (v := (some (va_rf x2))) (rest := []) (mX0_shipAt l E hf).1 ⟨rfl, rfl⟩ (fun H locs ls hH hS hl hR => ⟨_, va_runV (C := RX0) (As := [.int p1]) ⟨hx, hb, hml, hown, hts⟩ (mX0_shipAt l E hf).2 (cwV 1 hts (lw_V q703 q705 qs18 q88 q706) rfl rfl rfl (by decide +kernel) ⟨Nat.le_of_ble_eq_true rfl, Nat.le_of_ble_eq_true rfl⟩) (c_preV (ci := 1) hk hH hS hg rfl) rfl rfl hl.1 rfl (lv_room (Nat.le_of_ble_eq_true rfl)) dX0_loses_2 hR⟩) ?_
  clear hf
  refine Jrow (fun H locs ls hH hS hl k => lv_astore_nF (lv' := [(2, va_rf x2), (0, .ref a0), (1, .int p1)]) hx hb dX0_loses_5 rfl hl (by decide) rfl k) ?_
  refine Jrow (fun H locs ls hH hS hl k => lv_aload_nF hx hb dX0_loses_6 rfl (lv_at hl 0 rfl) (k ls hl)) ?_
  rcases x2 with _ | x3
  · refine Joc0 ?_
    refine Jrow (fun H locs ls hH hS hl k => lv_ifnonnullN hx hb dX0_loses_7 (k ls hl)) ?_
    refine Jrow (fun H locs ls hH hS hl k => lv_ldc2 (v := (-9223372036854775808:Int64)) hx hb hown (hts _ q757) dX0_loses_10 (k ls hl)) ?_
    exact Jlret hx hb hr hlocks dX0_loses_13
  · refine Joc1 ?_
    refine Jrow (fun H locs ls hH hS hl k => lv_ifnonnull (tgt := 14) hx hb dX0_loses_7 (by decide) (k ls hl)) ?_
    refine Jrow (fun H locs ls hH hS hl k => lv_aload_n hx hb dX0_loses_14 rfl (lv_at hl 1 rfl) (k ls hl)) ?_
    refine Jrow (fun H locs ls hH hS hl k => lv_aload_n hx hb dX0_loses_15 rfl (lv_at hl 0 rfl) (k ls hl)) ?_
    refine Jgd (fun hg => ?_)
    refine Jcl (fun x4 hq => ?_)
    refine Jrow (fun H locs ls hH hS hl k => c_getN (F := 83) (v := .ref x4) hx hb hts hown hK hH hg (cN hk.2.2.1 22 rfl) (fun _ h => h) (fvR rfl hq) dX0_loses_16 (k ls hl)) ?_
    clear hq
    refine Jrow (fun H locs ls hH hS hl k => lv_iconst (v := (0:Int32)) hx hb dX0_loses_19 (by decide) (k ls hl)) ?_
    refine Jgd (fun hg => ?_)
    refine Jcl2 (fun _ σ5 hf => ?_)
    refine Jcall (v := none) (rest := []) (mX0_goForward l E hf).1 ⟨rfl, rfl⟩ (fun H locs ls hH hS hl hR => ⟨_, va_runV (C := RX0) (As := [.ref x4, .int (0:Int32)]) ⟨hx, hb, hml, hown, hts⟩ (mX0_goForward l E hf).2 (cwV 2 hts (lw_V q965 q967 qs24 q88 q968) rfl rfl rfl (by decide +kernel) ⟨Nat.le_of_ble_eq_true rfl, Nat.le_of_ble_eq_true rfl⟩) (c_preV (ci := 1) hk hH hS hg rfl) rfl rfl hl.1 rfl (lv_room (Nat.le_of_ble_eq_true rfl)) dX0_loses_20 hR⟩) ?_
    clear hf
    refine Jrow (fun H locs ls hH hS hl k => lv_aload_n hx hb dX0_loses_23 rfl (lv_at hl 1 rfl) (k ls hl)) ?_
    refine Jgd (fun hg => ?_)
    refine Jcl2 (fun x8 σ7 hf => ?_)
    refine Jcall (v := (some (.int x8))) (rest := []) (mX0_plainNow l E hf).1 ⟨rfl, rfl⟩ (fun H locs ls hH hS hl hR => ⟨_, va_runV (C := RX0) (As := []) ⟨hx, hb, hml, hown, hts⟩ (mX0_plainNow l E hf).2 (cwV 0 hts (lw_V q1019 q1021 qs30 q88 q1022) rfl rfl rfl (by decide +kernel) ⟨Nat.le_of_ble_eq_true rfl, Nat.le_of_ble_eq_true rfl⟩) (c_preV (ci := 1) hk hH hS hg rfl) rfl rfl hl.1 rfl (lv_room (Nat.le_of_ble_eq_true rfl)) dX0_loses_24 hR⟩) ?_
    clear hf
    refine Jrow (fun H locs ls hH hS hl k => lv_istore_n (lv' := [(3, .int x8), (2, .ref x3), (0, .ref a0), (1, .int p1)]) hx hb dX0_loses_27 rfl hl (by decide) rfl k) ?_
    refine Jrow (fun H locs ls hH hS hl k => lv_aload_n hx hb dX0_loses_28 rfl (lv_at hl 2 rfl) (k ls hl)) ?_
    refine Jrow (fun H locs ls hH hS hl k => lv_iload_n hx hb dX0_loses_29 rfl (lv_at hl 0 rfl) (k ls hl)) ?_
    refine Jrow (fun H locs ls hH hS hl k => lv_aload_n hx hb dX0_loses_30 rfl (lv_at hl 2 rfl) (k ls hl)) ?_
    refine Jgd (fun hg => ?_)
    refine Jcl (fun x9 hq => ?_)
    refine Jrow (fun H locs ls hH hS hl k => c_get (F := 31) (v := .ref x9) hx hb hts hown hK hH hg (hts _ q260) (fun _ h => h) (fvR rfl hq) dX0_loses_31 (k ls hl)) ?_
    clear hq
    refine Jrow (fun H locs ls hH hS hl k => lv_iload_n hx hb dX0_loses_34 rfl (lv_at hl 0 rfl) (k ls hl)) ?_
    refine Jgd (fun hk1 => ?_)
    refine Jgd (fun hg => ?_)
    refine Jrow (fun H locs ls hH hS hl k => c_lald hx hb hK hH hk1 hg dX0_loses_35 (k ls hl)) ?_
    refine Jgd (fun hg => ?_)
    refine Jcl2 (fun x11 σ10 hf => ?_)
    refine Jcall (v := (some (.long x11))) (rest := []) (mX0_fold l E hf).1 ⟨rfl, rfl⟩ (fun H locs ls hH hS hl hR => ⟨_, va_runV (C := RX0) (As := [.int x8, .long (cAL σ7 x9 x8.toNatClampNeg)]) ⟨hx, hb, hml, hown, hts⟩ (mX0_fold l E hf).2 (cwV 2 hts (lw_V q994 q996 qs26 q88 q997) rfl rfl rfl (by decide +kernel) ⟨Nat.le_of_ble_eq_true rfl, Nat.le_of_ble_eq_true rfl⟩) (c_preV (ci := 1) hk hH hS hg rfl) rfl rfl hl.1 rfl (lv_room (Nat.le_of_ble_eq_true rfl)) dX0_loses_36 hR⟩) ?_
    clear hf
    refine Jrow (fun H locs ls hH hS hl k => lv_aload_n hx hb dX0_loses_39 rfl (lv_at hl 2 rfl) (k ls hl)) ?_
    refine Jrow (fun H locs ls hH hS hl k => lv_iconst (v := (0:Int32)) hx hb dX0_loses_40 (by decide) (k ls hl)) ?_
    refine Jrow (fun H locs ls hH hS hl k => lv_bipush (v := (9:Int32)) hx hb dX0_loses_41 (by decide) (k ls hl)) ?_
    refine Jgd (fun hg => ?_)
    refine Jcl2 (fun x13 σ12 hf => ?_)
    refine Jcall (v := (some (.long x13))) (rest := [.long x11]) (mX0_bestFrom l E hf).1 ⟨rfl, rfl⟩ (fun H locs ls hH hS hl hR => ⟨_, va_runV (C := RX0) (As := [.int (0:Int32), .int (9:Int32)]) ⟨hx, hb, hml, hown, hts⟩ (mX0_bestFrom l E hf).2 (cwV 2 hts (lw_V q1006 q1008 qs28 q88 q1009) rfl rfl rfl (by decide +kernel) ⟨Nat.le_of_ble_eq_true rfl, Nat.le_of_ble_eq_true rfl⟩) (c_preV (ci := 1) hk hH hS hg rfl) rfl rfl hl.1 rfl (lv_room (Nat.le_of_ble_eq_true rfl)) dX0_loses_43 hR⟩) ?_
    clear hf
    refine Jrow (fun H locs ls hH hS hl k => lv_lsub hx hb dX0_loses_46 (k ls hl)) ?_
    exact Jlret hx hb hr hlocks dX0_loses_47
