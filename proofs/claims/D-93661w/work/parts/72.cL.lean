/-! printed by gen/comp.py -/
def fX0_lets (a0 : Nat) (p1 : Int32) (p2 : Int32) (p3 : Int32) (σ : CS) : Option (Int32 × CS) :=
 gd (kd σ a0 2) (
 cl2 (fX0_ruleAt a0 p1 σ) (fun (x2 : Option Nat) (σ1 : CS) =>
 gd (kd σ1 a0 2) (
 cl2 (fX0_shipAt a0 p2 σ1) (fun (x4 : Option Nat) (σ3 : CS) =>
 jn (some ((-1:Int32), σ3)) (fun (k5 : Option (Int32 × CS)) =>
 oc x2 (
 k5) (fun (x6 : Nat) =>
 oc x4 (
 k5) (fun (x7 : Nat) =>
 cl (fX0_in p3 (0:Int32) (20:Int32)) (fun (x8 : Int32) =>
 if x8 = (0:Int32) then
 some ((-2:Int32), σ3)
 else
 gd (hf (cK σ3 x7) 83) (
 cl (cFR σ3 x7 83) (fun (x9 : Nat) =>
 gd (isX11 (cK σ3 x6)) (
 cl2 (vR_letsIn x6 x9 p3 σ3) (fun (x10 : Int32) (σ11 : CS) =>
 jn (fun (x12 : Int32) => some (x12, σ11)) (fun (k13 : Int32 → Option (Int32 × CS)) =>
 if x10 = (0:Int32) then
 k13 (0:Int32)
 else
 k13 (1:Int32))))))))))))))
theorem nX0_lets {a0 : Nat} {p1 : Int32} {p2 : Int32} {p3 : Int32} {σ : CS} : Mn σ (fX0_lets a0 p1 p2 p3 σ) := by
  unfold fX0_lets
  refine Mgd ?_
  refine Mcl2 (nX0_ruleAt) (fun x2 σ1 => ?_)
  refine Mgd ?_
  refine Mcl2 (nX0_shipAt) (fun x4 σ3 => ?_)
  refine Mjn0 (fun  (X15 : Option (Int32 × CS)) => Mn σ3 X15) (?_) (fun k5 hk5 => ?_)
  · exact Mret
  · refine Moc ?_ (fun x6 => ?_)
    · exact hk5
    · refine Moc ?_ (fun x7 => ?_)
      · exact hk5
      · refine Mcl (fun x8 => ?_)
        refine Mite ?_ ?_
        · exact Mret
        · refine Mgd ?_
          refine Mcl (fun x9 => ?_)
          refine Mgd ?_
          refine Mcl2 nvR_letsIn (fun x10 σ11 => ?_)
          refine Mjn1 (fun (x12 : Int32) (X14 : Option (Int32 × CS)) => Mn σ11 X14) (fun x12 => ?_) (fun k13 hk13 => ?_)
          · exact Mret
          · refine Mite ?_ ?_
            · exact hk13 (0:Int32)
            · exact hk13 (1:Int32)
set_option maxHeartbeats 4000000 in
set_option maxRecDepth 100000 in
theorem mX0_lets (l : Launch) (E : CE) {a0 : Nat} {p1 : Int32} {p2 : Int32} {p3 : Int32} {σ : CS} {r : Int32} {σz : CS} (hX : fX0_lets a0 p1 p2 p3 σ = some (r, σz)) : MetC l yX0_lets (ws_ yX0_lets cX0_lets 6 (some .int)) 105 4124 E σ [.ref a0, .int p1, .int p2, .int p3] (some (.int r)) σz := by
  refine MetC.of hX (by decide) (Nat.le_of_ble_eq_true rfl) (nX0_lets _ hX) ?_
  intro p e s m below meth c hx hb hr hml hts hown hlocks hnm hk hz0
  have hK := hk.1
  show J p l e (headSpec (ws_ yX0_lets cX0_lets 6 (some .int)) (rmC 105 4124 σ σz)).room s m ([.ref a0, .int p1, .int p2, .int p3] : List Value).toArray below meth c 6 E (cZ σ) (cS σ) (MQ below (cQ E (some (.int r)) σz) ([.ref a0, .int p1, .int p2, .int p3] : List Value).toArray s (cZ σz - cZ σ) (cS σz - cS σ) (EA E)) (r, σz) (fX0_lets a0 p1 p2 p3 σ) σ 0 [(0, .ref a0), (1, .int p1), (2, .int p2), (3, .int p3)] []
  unfold fX0_lets
  refine Jrow (fun H locs ls hH hS hl k => lv_aload_n hx hb dX0_lets_0 rfl (lv_at hl 0 rfl) (k ls hl)) ?_
  refine Jrow (fun H locs ls hH hS hl k => lv_iload_n hx hb dX0_lets_1 rfl (lv_at hl 1 rfl) (k ls hl)) ?_
  refine Jgd (fun hg => ?_)
  refine Jcl2 (fun x2 σ1 hf => ?_)
  refine Jcall (v := (some (va_rf x2))) (rest := []) (mX0_ruleAt l E hf).1 ⟨rfl, rfl⟩ (fun H locs ls hH hS hl hR => ⟨_, va_runV (C := RX0) (As := [.int p1]) ⟨hx, hb, hml, hown, hts⟩ (mX0_ruleAt l E hf).2 (cwV 1 hts (lw_V q898 q900 qs21 q88 q901) rfl rfl rfl (by decide +kernel) ⟨Nat.le_of_ble_eq_true rfl, Nat.le_of_ble_eq_true rfl⟩) (c_preV (ci := 1) hk hH hS hg rfl) rfl rfl hl.1 rfl (lv_room (Nat.le_of_ble_eq_true rfl)) dX0_lets_2 hR⟩) ?_
  clear hf
  refine Jrow (fun H locs ls hH hS hl k => lv_astoreF (lv' := [(4, va_rf x2), (0, .ref a0), (1, .int p1), (2, .int p2), (3, .int p3)]) hx hb dX0_lets_5 hl (by decide) rfl k) ?_
  refine Jrow (fun H locs ls hH hS hl k => lv_aload_n hx hb dX0_lets_7 rfl (lv_at hl 1 rfl) (k ls hl)) ?_
  refine Jrow (fun H locs ls hH hS hl k => lv_iload_n hx hb dX0_lets_8 rfl (lv_at hl 3 rfl) (k ls hl)) ?_
  refine Jgd (fun hg => ?_)
  refine Jcl2 (fun x4 σ3 hf => ?_)
  refine Jcall (v := (some (va_rf x4))) (rest := []) (mX0_shipAt l E hf).1 ⟨rfl, rfl⟩ (fun H locs ls hH hS hl hR => ⟨_, va_runV (C := RX0) (As := [.int p2]) ⟨hx, hb, hml, hown, hts⟩ (mX0_shipAt l E hf).2 (cwV 1 hts (lw_V q703 q705 qs18 q88 q706) rfl rfl rfl (by decide +kernel) ⟨Nat.le_of_ble_eq_true rfl, Nat.le_of_ble_eq_true rfl⟩) (c_preV (ci := 1) hk hH hS hg rfl) rfl rfl hl.1 rfl (lv_room (Nat.le_of_ble_eq_true rfl)) dX0_lets_9 hR⟩) ?_
  clear hf
  refine Jrow (fun H locs ls hH hS hl k => lv_astoreF (lv' := [(5, va_rf x4), (4, va_rf x2), (0, .ref a0), (1, .int p1), (2, .int p2), (3, .int p3)]) hx hb dX0_lets_12 hl (by decide) (by cases x2 <;> rfl) k) ?_
  refine Jrow (fun H locs ls hH hS hl k => lv_aloadF hx hb dX0_lets_14 (lv_at hl 1 rfl) (k ls hl)) ?_
  refine Jjn0 (fun  X15 => J p l e (headSpec (ws_ yX0_lets cX0_lets 6 (some .int)) (rmC 105 4124 σ σz)).room s m ([.ref a0, .int p1, .int p2, .int p3] : List Value).toArray below meth c 6 E (cZ σ) (cS σ) (MQ below (cQ E (some (.int r)) σz) ([.ref a0, .int p1, .int p2, .int p3] : List Value).toArray s (cZ σz - cZ σ) (cS σz - cS σ) (EA E)) (r, σz) X15 σ3 24 [] []) (?_) (fun k5 hk5 => ?_)
  · refine Jrow (fun H locs ls hH hS hl k => lv_iconst (v := (-1:Int32)) hx hb dX0_lets_24 (by decide) (k ls hl)) ?_
    exact Jiret hx hb hr hlocks dX0_lets_25
  · rcases x2 with _ | x6
    · refine Joc0 ?_
      refine Jrow (fun H locs ls hH hS hl k => lv_ifnullN (tgt := 24) hx hb dX0_lets_16 (by decide) (k ls hl)) ?_
      exact Jsub [] rfl (hk5)
    · refine Joc1 ?_
      refine Jrow (fun H locs ls hH hS hl k => lv_ifnull hx hb dX0_lets_16 (k ls hl)) ?_
      refine Jrow (fun H locs ls hH hS hl k => lv_aloadF hx hb dX0_lets_19 (lv_at hl 0 rfl) (k ls hl)) ?_
      rcases x4 with _ | x7
      · refine Joc0 ?_
        refine Jrow (fun H locs ls hH hS hl k => lv_ifnonnullN hx hb dX0_lets_21 (k ls hl)) ?_
        exact Jsub [] rfl (hk5)
      · refine Joc1 ?_
        refine Jrow (fun H locs ls hH hS hl k => lv_ifnonnull (tgt := 26) hx hb dX0_lets_21 (by decide) (k ls hl)) ?_
        refine Jrow (fun H locs ls hH hS hl k => lv_iload_n hx hb dX0_lets_26 rfl (lv_at hl 5 rfl) (k ls hl)) ?_
        refine Jrow (fun H locs ls hH hS hl k => lv_iconst (v := (0:Int32)) hx hb dX0_lets_27 (by decide) (k ls hl)) ?_
        refine Jrow (fun H locs ls hH hS hl k => lv_bipush (v := (20:Int32)) hx hb dX0_lets_28 (by decide) (k ls hl)) ?_
        refine Jcl (fun x8 hf => ?_)
        refine JcallS (v := .int x8) (rest := []) hz0 ⟨rfl, rfl⟩ sQi_o (fun H locs ls hl hR => va_runS (As := [.int p3, .int (0:Int32), .int (20:Int32)]) ⟨hx, hb, hml, hown, hts⟩ (mX0_in l hf) (va_cwS 3 hts (lw_S q319 q320 q88 q321) rfl rfl rfl (by decide +kernel) ⟨Nat.le_of_ble_eq_true rfl, Nat.le_of_ble_eq_true rfl⟩) s_pre rfl rfl hl.1 rfl (lv_room (Nat.le_of_ble_eq_true rfl)) dX0_lets_30 hR) ?_
        clear hf
        refine Jite (fun hc => ?_) (fun hc => ?_)
        · refine Jrow (fun H locs ls hH hS hl k => lv_if_ne (tgt := 39) hx hb dX0_lets_33 (by decide) (fun h => absurd hc h) (fun _ => (k ls hl))) ?_
          clear hc
          refine Jrow (fun H locs ls hH hS hl k => lv_bipush (v := (-2:Int32)) hx hb dX0_lets_36 (by decide) (k ls hl)) ?_
          exact Jiret hx hb hr hlocks dX0_lets_38
        · refine Jrow (fun H locs ls hH hS hl k => lv_if_ne (tgt := 39) hx hb dX0_lets_33 (by decide) (fun _ => (k ls hl)) (fun h => absurd h hc)) ?_
          clear hc
          refine Jrow (fun H locs ls hH hS hl k => lv_aload hx hb dX0_lets_39 (lv_at hl 1 rfl) (k ls hl)) ?_
          refine Jrow (fun H locs ls hH hS hl k => lv_aload hx hb dX0_lets_41 (lv_at hl 0 rfl) (k ls hl)) ?_
          refine Jgd (fun hg => ?_)
          refine Jcl (fun x9 hq => ?_)
          refine Jrow (fun H locs ls hH hS hl k => c_getN (F := 83) (v := .ref x9) hx hb hts hown hK hH hg (cN hk.2.2.1 22 rfl) (fun _ h => h) (fvR rfl hq) dX0_lets_43 (k ls hl)) ?_
          clear hq
          refine Jrow (fun H locs ls hH hS hl k => lv_iload_n hx hb dX0_lets_46 rfl (lv_at hl 5 rfl) (k ls hl)) ?_
          refine Jgd (fun hg0 => ?_)
          refine Jcl2 (fun x10 σ11 hf => ?_)
          refine Jcall (v := (some (.int x10))) (rest := []) (nvR_letsIn _ hf) ⟨rfl, rfl⟩ (fun H locs ls hH hS hl hR => ?_) ?_
          · rcases vR_letsIn_s l E hf with ⟨hg, hM⟩ | ⟨hg, hM⟩ | ⟨hg, hM⟩ | ⟨hg, hM⟩ | ⟨hg, hM⟩ | ⟨hg, hM⟩ | ⟨hg, hM⟩
            · exact ⟨_, va_runU (C := RX11) (As := [.ref x9, .int p3]) ⟨hx, hb, hml, hown, hts⟩ hM.2 (va_cwU (owner := "FortyDays$Rule") 2 hts (lw_app (by
                  intro w hw
                  simp only [List.mem_cons, List.not_mem_nil, or_false] at hw
                  rcases hw with e | e | e | e | e
                  · rw [e]; exact q906
                  · rw [e]; exact q909
                  · rw [e]; exact q908
                  · rw [e]; exact q907
                  · rw [e]; exact q113) (lw_meth q956)) rfl rfl rfl rfl (by decide +kernel) ⟨Nat.le_of_ble_eq_true rfl, Nat.le_of_ble_eq_true rfl⟩) (c_preV (ci := 11) hk hH hS hg rfl) rfl rfl hl.1 rfl (lv_room (Nat.le_of_ble_eq_true rfl)) dX0_lets_47 hR⟩
            · exact ⟨_, va_runU (C := RX12) (As := [.ref x9, .int p3]) ⟨hx, hb, hml, hown, hts⟩ hM.2 (va_cwO (owner := "FortyDays$Rule") 2 hts (lw_app (by
                  intro w hw
                  simp only [List.mem_cons, List.not_mem_nil, or_false] at hw
                  rcases hw with e | e | e | e | e | e
                  · rw [e]; exact q906
                  · rw [e]; exact q909
                  · rw [e]; exact q907
                  · rw [e]; exact q942
                  · rw [e]; exact q943
                  · rw [e]; exact q114) (lw_meth q944)) rfl rfl rfl q956 (by decide +kernel) ⟨Nat.le_of_ble_eq_true rfl, Nat.le_of_ble_eq_true rfl⟩) (c_preV (ci := 12) hk hH hS hg rfl) rfl rfl hl.1 rfl (lv_room (Nat.le_of_ble_eq_true rfl)) dX0_lets_47 hR⟩
            · exact ⟨_, va_runU (C := RX13) (As := [.ref x9, .int p3]) ⟨hx, hb, hml, hown, hts⟩ hM.2 (va_cwO (owner := "FortyDays$Rule") 2 hts (lw_app (by
                  intro w hw
                  simp only [List.mem_cons, List.not_mem_nil, or_false] at hw
                  rcases hw with e | e | e | e | e | e
                  · rw [e]; exact q906
                  · rw [e]; exact q909
                  · rw [e]; exact q907
                  · rw [e]; exact q945
                  · rw [e]; exact q946
                  · rw [e]; exact q115) (lw_meth q947)) rfl rfl rfl q956 (by decide +kernel) ⟨Nat.le_of_ble_eq_true rfl, Nat.le_of_ble_eq_true rfl⟩) (c_preV (ci := 13) hk hH hS hg rfl) rfl rfl hl.1 rfl (lv_room (Nat.le_of_ble_eq_true rfl)) dX0_lets_47 hR⟩
            · exact ⟨_, va_runU (C := RX14) (As := [.ref x9, .int p3]) ⟨hx, hb, hml, hown, hts⟩ hM.2 (va_cwO (owner := "FortyDays$Rule") 2 hts (lw_app (by
                  intro w hw
                  simp only [List.mem_cons, List.not_mem_nil, or_false] at hw
                  rcases hw with e | e | e | e | e | e
                  · rw [e]; exact q906
                  · rw [e]; exact q909
                  · rw [e]; exact q907
                  · rw [e]; exact q948
                  · rw [e]; exact q943
                  · rw [e]; exact q114) (lw_meth q944)) rfl rfl rfl q956 (by decide +kernel) ⟨Nat.le_of_ble_eq_true rfl, Nat.le_of_ble_eq_true rfl⟩) (c_preV (ci := 14) hk hH hS hg rfl) rfl rfl hl.1 rfl (lv_room (Nat.le_of_ble_eq_true rfl)) dX0_lets_47 hR⟩
            · exact ⟨_, va_runU (C := RX15) (As := [.ref x9, .int p3]) ⟨hx, hb, hml, hown, hts⟩ hM.2 (va_cwO (owner := "FortyDays$Rule") 2 hts (lw_app (by
                  intro w hw
                  simp only [List.mem_cons, List.not_mem_nil, or_false] at hw
                  rcases hw with e | e | e | e | e | e
                  · rw [e]; exact q906
                  · rw [e]; exact q909
                  · rw [e]; exact q907
                  · rw [e]; exact q949
                  · rw [e]; exact q950
                  · rw [e]; exact q117) (lw_meth q951)) rfl rfl rfl q956 (by decide +kernel) ⟨Nat.le_of_ble_eq_true rfl, Nat.le_of_ble_eq_true rfl⟩) (c_preV (ci := 15) hk hH hS hg rfl) rfl rfl hl.1 rfl (lv_room (Nat.le_of_ble_eq_true rfl)) dX0_lets_47 hR⟩
            · exact ⟨_, va_runU (C := RX16) (As := [.ref x9, .int p3]) ⟨hx, hb, hml, hown, hts⟩ hM.2 (va_cwO (owner := "FortyDays$Rule") 2 hts (lw_app (by
                  intro w hw
                  simp only [List.mem_cons, List.not_mem_nil, or_false] at hw
                  rcases hw with e | e | e | e | e | e
                  · rw [e]; exact q906
                  · rw [e]; exact q909
                  · rw [e]; exact q907
                  · rw [e]; exact q953
                  · rw [e]; exact q954
                  · rw [e]; exact q118) (lw_meth q955)) rfl rfl rfl q956 (by decide +kernel) ⟨Nat.le_of_ble_eq_true rfl, Nat.le_of_ble_eq_true rfl⟩) (c_preV (ci := 16) hk hH hS hg rfl) rfl rfl hl.1 rfl (lv_room (Nat.le_of_ble_eq_true rfl)) dX0_lets_47 hR⟩
            · exact ⟨_, va_runU (C := RX17) (As := [.ref x9, .int p3]) ⟨hx, hb, hml, hown, hts⟩ hM.2 (va_cwO (owner := "FortyDays$Rule") 2 hts (lw_app (by
                  intro w hw
                  simp only [List.mem_cons, List.not_mem_nil, or_false] at hw
                  rcases hw with e | e | e | e | e | e
                  · rw [e]; exact q906
                  · rw [e]; exact q909
                  · rw [e]; exact q907
                  · rw [e]; exact q910
                  · rw [e]; exact q911
                  · rw [e]; exact q119) (lw_meth q912)) rfl rfl rfl q956 (by decide +kernel) ⟨Nat.le_of_ble_eq_true rfl, Nat.le_of_ble_eq_true rfl⟩) (c_preV (ci := 17) hk hH hS hg rfl) rfl rfl hl.1 rfl (lv_room (Nat.le_of_ble_eq_true rfl)) dX0_lets_47 hR⟩
          clear hf
          refine Jjn1 (fun (x12 : Int32) X14 => J p l e (headSpec (ws_ yX0_lets cX0_lets 6 (some .int)) (rmC 105 4124 σ σz)).room s m ([.ref a0, .int p1, .int p2, .int p3] : List Value).toArray below meth c 6 E (cZ σ) (cS σ) (MQ below (cQ E (some (.int r)) σz) ([.ref a0, .int p1, .int p2, .int p3] : List Value).toArray s (cZ σz - cZ σ) (cS σz - cS σ) (EA E)) (r, σz) X14 σ11 58 [] [.int x12]) (fun x12 => ?_) (fun k13 hk13 => ?_)
          · exact Jiret hx hb hr hlocks dX0_lets_58
          · refine Jite (fun hc => ?_) (fun hc => ?_)
            · refine Jrow (fun H locs ls hH hS hl k => lv_if_eq (tgt := 57) hx hb dX0_lets_50 (by decide) (fun _ => (k ls hl)) (fun h => absurd hc h)) ?_
              clear hc
              refine Jrow (fun H locs ls hH hS hl k => lv_iconst (v := (0:Int32)) hx hb dX0_lets_57 (by decide) (k ls hl)) ?_
              exact Jsub [] rfl (hk13 (0:Int32))
            · refine Jrow (fun H locs ls hH hS hl k => lv_if_eq (tgt := 57) hx hb dX0_lets_50 (by decide) (fun h => absurd h hc) (fun _ => (k ls hl))) ?_
              clear hc
              refine Jrow (fun H locs ls hH hS hl k => lv_iconst (v := (1:Int32)) hx hb dX0_lets_53 (by decide) (k ls hl)) ?_
              refine Jrow (fun H locs ls hH hS hl k => lv_goto (tgt := 58) hx hb dX0_lets_54 (by decide) (k ls hl)) ?_
              exact Jsub [] rfl (hk13 (1:Int32))

def fX0_meanOf (a0 : Nat) (p1 : Nat) (p2 : Nat) (σ : CS) : Option (Int64 × CS) :=
 gd (kd σ a0 2) (
 cl2 (fX0_goForward a0 p2 (0:Int32) σ) (fun (_ : Unit) (σ1 : CS) =>
 lp (fun _ _ => none) (fun (k5 : Int32 → CS → Option (Int64 × CS)) (x3 : Int32) (σ4 : CS) =>
 jn (fun (σ6 : CS) => gd (isX11 (cK σ6 p1)) (
 cl2 (vR_letIn p1 x3 σ6) (fun (x8 : Int64) (σ9 : CS) =>
 gd (kd σ9 a0 2) (
 cl2 (fX0_fold a0 x3 x8 σ9) (fun (x11 : Int64) (σ10 : CS) =>
 some (x11, σ10)))))) (fun (k7 : CS → Option (Int64 × CS)) =>
 if (20:Int32) ≤ x3 then
 k7 σ4
 else
 gd (hf (cK σ4 a0) 29) (
 cl (cFR σ4 a0 29) (fun (x12 : Nat) =>
 gd (kd σ4 x12 107) (
 gd (ib x3 (cLN σ4 x12)) (
 cl (cAR σ4 x12 x3.toNatClampNeg) (fun (x13 : Nat) =>
 gd (isX11 (cK σ4 p1)) (
 cl2 (vR_letsIn p1 x13 x3 σ4) (fun (x14 : Int32) (σ15 : CS) =>
 if x14 = (0:Int32) then
 bd (x3 + (1:Int32)) (fun (x16 : Int32) =>
 k5 x16 σ15)
 else
 k7 σ15))))))))) NF (0:Int32) σ1))
theorem nX0_meanOf {a0 : Nat} {p1 : Nat} {p2 : Nat} {σ : CS} : Mn σ (fX0_meanOf a0 p1 p2 σ) := by
  unfold fX0_meanOf
  refine Mgd ?_
  refine Mcl2 (nX0_goForward) (fun _ σ1 => ?_)
  refine Plp2 (fun (x3 : Int32) (σ4 : CS) (X18 : Option (Int64 × CS)) => Mn σ4 X18) (fun _ _ => Mnone) (fun k5 hk5 x3 σ4 => ?_)
  refine Mjn1 (fun (σ6 : CS) (X17 : Option (Int64 × CS)) => Mn σ6 X17) (fun σ6 => ?_) (fun k7 hk7 => ?_)
  · refine Mgd ?_
    refine Mcl2 nvR_letIn (fun x8 σ9 => ?_)
    refine Mgd ?_
    refine Mcl2 (nX0_fold) (fun x11 σ10 => ?_)
    exact Mret
  · refine Mite ?_ ?_
    · exact hk7 σ4
    · refine Mgd ?_
      refine Mcl (fun x12 => ?_)
      refine Mgd ?_
      refine Mgd ?_
      refine Mcl (fun x13 => ?_)
      refine Mgd ?_
      refine Mcl2 nvR_letsIn (fun x14 σ15 => ?_)
      refine Mite ?_ ?_
      · refine Mbd (fun x16 => ?_)
        exact hk5 x16 σ15
      · exact hk7 σ15
set_option maxHeartbeats 4000000 in
set_option maxRecDepth 100000 in
theorem mX0_meanOf (l : Launch) (E : CE) {a0 : Nat} {p1 : Nat} {p2 : Nat} {σ : CS} {r : Int64} {σz : CS} (hX : fX0_meanOf a0 p1 p2 σ = some (r, σz)) : MetC l yX0_meanOf (ws_ yX0_meanOf cX0_meanOf 4 (some .long)) 105 4124 E σ [.ref a0, .ref p1, .ref p2] (some (.long r)) σz := by
  refine MetC.of hX (by decide) (Nat.le_of_ble_eq_true rfl) (nX0_meanOf _ hX) ?_
  intro p e s m below meth c hx hb hr hml hts hown hlocks hnm hk hz0
  have hK := hk.1
  show J p l e (headSpec (ws_ yX0_meanOf cX0_meanOf 4 (some .long)) (rmC 105 4124 σ σz)).room s m ([.ref a0, .ref p1, .ref p2] : List Value).toArray below meth c 4 E (cZ σ) (cS σ) (MQ below (cQ E (some (.long r)) σz) ([.ref a0, .ref p1, .ref p2] : List Value).toArray s (cZ σz - cZ σ) (cS σz - cS σ) (EA E)) (r, σz) (fX0_meanOf a0 p1 p2 σ) σ 0 [(0, .ref a0), (1, .ref p1), (2, .ref p2)] []
  unfold fX0_meanOf
  refine Jrow (fun H locs ls hH hS hl k => lv_aload_n hx hb dX0_meanOf_0 rfl (lv_at hl 0 rfl) (k ls hl)) ?_
  refine Jrow (fun H locs ls hH hS hl k => lv_aload_n hx hb dX0_meanOf_1 rfl (lv_at hl 2 rfl) (k ls hl)) ?_
  refine Jrow (fun H locs ls hH hS hl k => lv_iconst (v := (0:Int32)) hx hb dX0_meanOf_2 (by decide) (k ls hl)) ?_
  refine Jgd (fun hg => ?_)
  refine Jcl2 (fun _ σ1 hf => ?_)
  refine Jcall (v := none) (rest := []) (mX0_goForward l E hf).1 ⟨rfl, rfl⟩ (fun H locs ls hH hS hl hR => ⟨_, va_runV (C := RX0) (As := [.ref p2, .int (0:Int32)]) ⟨hx, hb, hml, hown, hts⟩ (mX0_goForward l E hf).2 (cwV 2 hts (lw_V q965 q967 qs24 q88 q968) rfl rfl rfl (by decide +kernel) ⟨Nat.le_of_ble_eq_true rfl, Nat.le_of_ble_eq_true rfl⟩) (c_preV (ci := 1) hk hH hS hg rfl) rfl rfl hl.1 rfl (lv_room (Nat.le_of_ble_eq_true rfl)) dX0_meanOf_3 hR⟩) ?_
  clear hf
  refine Jrow (fun H locs ls hH hS hl k => lv_iconst (v := (0:Int32)) hx hb dX0_meanOf_6 (by decide) (k ls hl)) ?_
  refine Jrow (fun H locs ls hH hS hl k => lv_istore_n (lv' := [(3, .int (0:Int32)), (0, .ref a0), (1, .ref p1), (2, .ref p2)]) hx hb dX0_meanOf_7 rfl hl (by decide) rfl k) ?_
  refine Jsub [1, 2, 0] rfl (Plp2 (fun (x3 : Int32) (σ4 : CS) X18 => J p l e (headSpec (ws_ yX0_meanOf cX0_meanOf 4 (some .long)) (rmC 105 4124 σ σz)).room s m ([.ref a0, .ref p1, .ref p2] : List Value).toArray below meth c 4 E (cZ σ) (cS σ) (MQ below (cQ E (some (.long r)) σz) ([.ref a0, .ref p1, .ref p2] : List Value).toArray s (cZ σz - cZ σ) (cS σz - cS σ) (EA E)) (r, σz) X18 σ4 8 [(0, .ref a0), (1, .ref p1), (3, .int x3)] []) (fun _ _ => Jnone) (fun k5 hk5 x3 σ4 => ?_))
  refine Jrow (fun H locs ls hH hS hl k => lv_iload_n hx hb dX0_meanOf_8 rfl (lv_at hl 2 rfl) (k ls hl)) ?_
  refine Jrow (fun H locs ls hH hS hl k => lv_bipush (v := (20:Int32)) hx hb dX0_meanOf_9 (by decide) (k ls hl)) ?_
  refine Jjn1 (fun (σ6 : CS) X17 => J p l e (headSpec (ws_ yX0_meanOf cX0_meanOf 4 (some .long)) (rmC 105 4124 σ σz)).room s m ([.ref a0, .ref p1, .ref p2] : List Value).toArray below meth c 4 E (cZ σ) (cS σ) (MQ below (cQ E (some (.long r)) σz) ([.ref a0, .ref p1, .ref p2] : List Value).toArray s (cZ σz - cZ σ) (cS σz - cS σ) (EA E)) (r, σz) X17 σ6 34 [(0, .ref a0), (1, .ref p1), (3, .int x3)] []) (fun σ6 => ?_) (fun k7 hk7 => ?_)
  · refine Jrow (fun H locs ls hH hS hl k => lv_aload_n hx hb dX0_meanOf_34 rfl (lv_at hl 0 rfl) (k ls hl)) ?_
    refine Jrow (fun H locs ls hH hS hl k => lv_iload_n hx hb dX0_meanOf_35 rfl (lv_at hl 2 rfl) (k ls hl)) ?_
    refine Jrow (fun H locs ls hH hS hl k => lv_aload_n hx hb dX0_meanOf_36 rfl (lv_at hl 1 rfl) (k ls hl)) ?_
    refine Jrow (fun H locs ls hH hS hl k => lv_iload_n hx hb dX0_meanOf_37 rfl (lv_at hl 2 rfl) (k ls hl)) ?_
    refine Jgd (fun hg0 => ?_)
    refine Jcl2 (fun x8 σ9 hf => ?_)
    refine Jcall (v := (some (.long x8))) (rest := [.int x3, .ref a0]) (nvR_letIn _ hf) ⟨rfl, rfl⟩ (fun H locs ls hH hS hl hR => ?_) ?_
    · rcases vR_letIn_s l E hf with ⟨hg, hM⟩ | ⟨hg, hM⟩ | ⟨hg, hM⟩ | ⟨hg, hM⟩ | ⟨hg, hM⟩ | ⟨hg, hM⟩ | ⟨hg, hM⟩
      · exact ⟨_, va_runU (C := RX11) (As := [.int x3]) ⟨hx, hb, hml, hown, hts⟩ hM.2 (va_cwU (owner := "FortyDays$Rule") 1 hts (lw_app (by
            intro w hw
            simp only [List.mem_cons, List.not_mem_nil, or_false] at hw
            rcases hw with e | e | e | e | e
            · rw [e]; exact q971
            · rw [e]; exact q974
            · rw [e]; exact q973
            · rw [e]; exact q972
            · rw [e]; exact q113) (lw_meth q993)) rfl rfl rfl rfl (by decide +kernel) ⟨Nat.le_of_ble_eq_true rfl, Nat.le_of_ble_eq_true rfl⟩) (c_preV (ci := 11) hk hH hS hg rfl) rfl rfl hl.1 rfl (lv_room (Nat.le_of_ble_eq_true rfl)) dX0_meanOf_38 hR⟩
      · exact ⟨_, va_runU (C := RX12) (As := [.int x3]) ⟨hx, hb, hml, hown, hts⟩ hM.2 (va_cwU (owner := "FortyDays$Rule") 1 hts (lw_app (by
            intro w hw
            simp only [List.mem_cons, List.not_mem_nil, or_false] at hw
            rcases hw with e | e | e | e | e
            · rw [e]; exact q971
            · rw [e]; exact q974
            · rw [e]; exact q976
            · rw [e]; exact q972
            · rw [e]; exact q113) (lw_meth q993)) rfl rfl rfl rfl (by decide +kernel) ⟨Nat.le_of_ble_eq_true rfl, Nat.le_of_ble_eq_true rfl⟩) (c_preV (ci := 12) hk hH hS hg rfl) rfl rfl hl.1 rfl (lv_room (Nat.le_of_ble_eq_true rfl)) dX0_meanOf_38 hR⟩
      · exact ⟨_, va_runU (C := RX13) (As := [.int x3]) ⟨hx, hb, hml, hown, hts⟩ hM.2 (va_cwU (owner := "FortyDays$Rule") 1 hts (lw_app (by
            intro w hw
            simp only [List.mem_cons, List.not_mem_nil, or_false] at hw
            rcases hw with e | e | e | e | e
            · rw [e]; exact q971
            · rw [e]; exact q974
            · rw [e]; exact q977
            · rw [e]; exact q972
            · rw [e]; exact q113) (lw_meth q993)) rfl rfl rfl rfl (by decide +kernel) ⟨Nat.le_of_ble_eq_true rfl, Nat.le_of_ble_eq_true rfl⟩) (c_preV (ci := 13) hk hH hS hg rfl) rfl rfl hl.1 rfl (lv_room (Nat.le_of_ble_eq_true rfl)) dX0_meanOf_38 hR⟩
      · exact ⟨_, va_runU (C := RX14) (As := [.int x3]) ⟨hx, hb, hml, hown, hts⟩ hM.2 (va_cwO (owner := "FortyDays$Rule") 1 hts (lw_app (by
            intro w hw
            simp only [List.mem_cons, List.not_mem_nil, or_false] at hw
            rcases hw with e | e | e | e | e | e
            · rw [e]; exact q971
            · rw [e]; exact q974
            · rw [e]; exact q972
            · rw [e]; exact q978
            · rw [e]; exact q979
            · rw [e]; exact q116) (lw_meth q980)) rfl rfl rfl q993 (by decide +kernel) ⟨Nat.le_of_ble_eq_true rfl, Nat.le_of_ble_eq_true rfl⟩) (c_preV (ci := 14) hk hH hS hg rfl) rfl rfl hl.1 rfl (lv_room (Nat.le_of_ble_eq_true rfl)) dX0_meanOf_38 hR⟩
      · exact ⟨_, va_runU (C := RX15) (As := [.int x3]) ⟨hx, hb, hml, hown, hts⟩ hM.2 (va_cwU (owner := "FortyDays$Rule") 1 hts (lw_app (by
            intro w hw
            simp only [List.mem_cons, List.not_mem_nil, or_false] at hw
            rcases hw with e | e | e | e | e
            · rw [e]; exact q971
            · rw [e]; exact q974
            · rw [e]; exact q991
            · rw [e]; exact q972
            · rw [e]; exact q113) (lw_meth q993)) rfl rfl rfl rfl (by decide +kernel) ⟨Nat.le_of_ble_eq_true rfl, Nat.le_of_ble_eq_true rfl⟩) (c_preV (ci := 15) hk hH hS hg rfl) rfl rfl hl.1 rfl (lv_room (Nat.le_of_ble_eq_true rfl)) dX0_meanOf_38 hR⟩
      · exact ⟨_, va_runU (C := RX16) (As := [.int x3]) ⟨hx, hb, hml, hown, hts⟩ hM.2 (va_cwU (owner := "FortyDays$Rule") 1 hts (lw_app (by
            intro w hw
            simp only [List.mem_cons, List.not_mem_nil, or_false] at hw
            rcases hw with e | e | e | e | e
            · rw [e]; exact q971
            · rw [e]; exact q974
            · rw [e]; exact q992
            · rw [e]; exact q972
            · rw [e]; exact q113) (lw_meth q993)) rfl rfl rfl rfl (by decide +kernel) ⟨Nat.le_of_ble_eq_true rfl, Nat.le_of_ble_eq_true rfl⟩) (c_preV (ci := 16) hk hH hS hg rfl) rfl rfl hl.1 rfl (lv_room (Nat.le_of_ble_eq_true rfl)) dX0_meanOf_38 hR⟩
      · exact ⟨_, va_runU (C := RX17) (As := [.int x3]) ⟨hx, hb, hml, hown, hts⟩ hM.2 (va_cwU (owner := "FortyDays$Rule") 1 hts (lw_app (by
            intro w hw
            simp only [List.mem_cons, List.not_mem_nil, or_false] at hw
            rcases hw with e | e | e | e | e
            · rw [e]; exact q971
            · rw [e]; exact q974
            · rw [e]; exact q975
            · rw [e]; exact q972
            · rw [e]; exact q113) (lw_meth q993)) rfl rfl rfl rfl (by decide +kernel) ⟨Nat.le_of_ble_eq_true rfl, Nat.le_of_ble_eq_true rfl⟩) (c_preV (ci := 17) hk hH hS hg rfl) rfl rfl hl.1 rfl (lv_room (Nat.le_of_ble_eq_true rfl)) dX0_meanOf_38 hR⟩
    clear hf
    refine Jgd (fun hg => ?_)
    refine Jcl2 (fun x11 σ10 hf => ?_)
    refine Jcall (v := (some (.long x11))) (rest := []) (mX0_fold l E hf).1 ⟨rfl, rfl⟩ (fun H locs ls hH hS hl hR => ⟨_, va_runV (C := RX0) (As := [.int x3, .long x8]) ⟨hx, hb, hml, hown, hts⟩ (mX0_fold l E hf).2 (cwV 2 hts (lw_V q994 q996 qs26 q88 q997) rfl rfl rfl (by decide +kernel) ⟨Nat.le_of_ble_eq_true rfl, Nat.le_of_ble_eq_true rfl⟩) (c_preV (ci := 1) hk hH hS hg rfl) rfl rfl hl.1 rfl (lv_room (Nat.le_of_ble_eq_true rfl)) dX0_meanOf_41 hR⟩) ?_
    clear hf
    exact Jlret hx hb hr hlocks dX0_meanOf_44
  · refine Jite (fun hc => ?_) (fun hc => ?_)
    · refine Jrow (fun H locs ls hH hS hl k => lv_icmp_ge (tgt := 34) hx hb dX0_meanOf_11 (by decide) (fun _ => (k ls hl)) (fun h => absurd hc h)) ?_
      clear hc
      exact Jsub [0, 1, 2] rfl (hk7 σ4)
    · refine Jrow (fun H locs ls hH hS hl k => lv_icmp_ge (tgt := 34) hx hb dX0_meanOf_11 (by decide) (fun h => absurd h hc) (fun _ => (k ls hl))) ?_
      clear hc
      refine Jrow (fun H locs ls hH hS hl k => lv_aload_n hx hb dX0_meanOf_14 rfl (lv_at hl 1 rfl) (k ls hl)) ?_
      refine Jrow (fun H locs ls hH hS hl k => lv_aload_n hx hb dX0_meanOf_15 rfl (lv_at hl 0 rfl) (k ls hl)) ?_
      refine Jgd (fun hg => ?_)
      refine Jcl (fun x12 hq => ?_)
      refine Jrow (fun H locs ls hH hS hl k => c_get (F := 29) (v := .ref x12) hx hb hts hown hK hH hg (hts _ q258) (fun _ h => h) (fvR rfl hq) dX0_meanOf_16 (k ls hl)) ?_
      clear hq
      refine Jrow (fun H locs ls hH hS hl k => lv_iload_n hx hb dX0_meanOf_19 rfl (lv_at hl 2 rfl) (k ls hl)) ?_
      refine Jgd (fun hk1 => ?_)
      refine Jgd (fun hg => ?_)
      refine Jcl (fun x13 hq => ?_)
      refine Jrow (fun H locs ls hH hS hl k => c_aald (t := 6) (q := some x13) hx hb hK hH (by decide) (by decide) hk1 hg hq dX0_meanOf_20 (k ls hl)) ?_
      clear hq
      refine Jrow (fun H locs ls hH hS hl k => lv_iload_n hx hb dX0_meanOf_21 rfl (lv_at hl 2 rfl) (k ls hl)) ?_
      refine Jgd (fun hg0 => ?_)
      refine Jcl2 (fun x14 σ15 hf => ?_)
      refine Jcall (v := (some (.int x14))) (rest := []) (nvR_letsIn _ hf) ⟨rfl, rfl⟩ (fun H locs ls hH hS hl hR => ?_) ?_
      · rcases vR_letsIn_s l E hf with ⟨hg, hM⟩ | ⟨hg, hM⟩ | ⟨hg, hM⟩ | ⟨hg, hM⟩ | ⟨hg, hM⟩ | ⟨hg, hM⟩ | ⟨hg, hM⟩
        · exact ⟨_, va_runU (C := RX11) (As := [.ref x13, .int x3]) ⟨hx, hb, hml, hown, hts⟩ hM.2 (va_cwU (owner := "FortyDays$Rule") 2 hts (lw_app (by
              intro w hw
              simp only [List.mem_cons, List.not_mem_nil, or_false] at hw
              rcases hw with e | e | e | e | e
              · rw [e]; exact q906
              · rw [e]; exact q909
              · rw [e]; exact q908
              · rw [e]; exact q907
              · rw [e]; exact q113) (lw_meth q956)) rfl rfl rfl rfl (by decide +kernel) ⟨Nat.le_of_ble_eq_true rfl, Nat.le_of_ble_eq_true rfl⟩) (c_preV (ci := 11) hk hH hS hg rfl) rfl rfl hl.1 rfl (lv_room (Nat.le_of_ble_eq_true rfl)) dX0_meanOf_22 hR⟩
        · exact ⟨_, va_runU (C := RX12) (As := [.ref x13, .int x3]) ⟨hx, hb, hml, hown, hts⟩ hM.2 (va_cwO (owner := "FortyDays$Rule") 2 hts (lw_app (by
              intro w hw
              simp only [List.mem_cons, List.not_mem_nil, or_false] at hw
              rcases hw with e | e | e | e | e | e
              · rw [e]; exact q906
              · rw [e]; exact q909
              · rw [e]; exact q907
              · rw [e]; exact q942
              · rw [e]; exact q943
              · rw [e]; exact q114) (lw_meth q944)) rfl rfl rfl q956 (by decide +kernel) ⟨Nat.le_of_ble_eq_true rfl, Nat.le_of_ble_eq_true rfl⟩) (c_preV (ci := 12) hk hH hS hg rfl) rfl rfl hl.1 rfl (lv_room (Nat.le_of_ble_eq_true rfl)) dX0_meanOf_22 hR⟩
        · exact ⟨_, va_runU (C := RX13) (As := [.ref x13, .int x3]) ⟨hx, hb, hml, hown, hts⟩ hM.2 (va_cwO (owner := "FortyDays$Rule") 2 hts (lw_app (by
              intro w hw
              simp only [List.mem_cons, List.not_mem_nil, or_false] at hw
              rcases hw with e | e | e | e | e | e
              · rw [e]; exact q906
              · rw [e]; exact q909
              · rw [e]; exact q907
              · rw [e]; exact q945
              · rw [e]; exact q946
              · rw [e]; exact q115) (lw_meth q947)) rfl rfl rfl q956 (by decide +kernel) ⟨Nat.le_of_ble_eq_true rfl, Nat.le_of_ble_eq_true rfl⟩) (c_preV (ci := 13) hk hH hS hg rfl) rfl rfl hl.1 rfl (lv_room (Nat.le_of_ble_eq_true rfl)) dX0_meanOf_22 hR⟩
        · exact ⟨_, va_runU (C := RX14) (As := [.ref x13, .int x3]) ⟨hx, hb, hml, hown, hts⟩ hM.2 (va_cwO (owner := "FortyDays$Rule") 2 hts (lw_app (by
              intro w hw
              simp only [List.mem_cons, List.not_mem_nil, or_false] at hw
              rcases hw with e | e | e | e | e | e
              · rw [e]; exact q906
              · rw [e]; exact q909
              · rw [e]; exact q907
              · rw [e]; exact q948
              · rw [e]; exact q943
              · rw [e]; exact q114) (lw_meth q944)) rfl rfl rfl q956 (by decide +kernel) ⟨Nat.le_of_ble_eq_true rfl, Nat.le_of_ble_eq_true rfl⟩) (c_preV (ci := 14) hk hH hS hg rfl) rfl rfl hl.1 rfl (lv_room (Nat.le_of_ble_eq_true rfl)) dX0_meanOf_22 hR⟩
        · exact ⟨_, va_runU (C := RX15) (As := [.ref x13, .int x3]) ⟨hx, hb, hml, hown, hts⟩ hM.2 (va_cwO (owner := "FortyDays$Rule") 2 hts (lw_app (by
              intro w hw
              simp only [List.mem_cons, List.not_mem_nil, or_false] at hw
              rcases hw with e | e | e | e | e | e
              · rw [e]; exact q906
              · rw [e]; exact q909
              · rw [e]; exact q907
              · rw [e]; exact q949
              · rw [e]; exact q950
              · rw [e]; exact q117) (lw_meth q951)) rfl rfl rfl q956 (by decide +kernel) ⟨Nat.le_of_ble_eq_true rfl, Nat.le_of_ble_eq_true rfl⟩) (c_preV (ci := 15) hk hH hS hg rfl) rfl rfl hl.1 rfl (lv_room (Nat.le_of_ble_eq_true rfl)) dX0_meanOf_22 hR⟩
        · exact ⟨_, va_runU (C := RX16) (As := [.ref x13, .int x3]) ⟨hx, hb, hml, hown, hts⟩ hM.2 (va_cwO (owner := "FortyDays$Rule") 2 hts (lw_app (by
              intro w hw
              simp only [List.mem_cons, List.not_mem_nil, or_false] at hw
              rcases hw with e | e | e | e | e | e
              · rw [e]; exact q906
              · rw [e]; exact q909
              · rw [e]; exact q907
              · rw [e]; exact q953
              · rw [e]; exact q954
              · rw [e]; exact q118) (lw_meth q955)) rfl rfl rfl q956 (by decide +kernel) ⟨Nat.le_of_ble_eq_true rfl, Nat.le_of_ble_eq_true rfl⟩) (c_preV (ci := 16) hk hH hS hg rfl) rfl rfl hl.1 rfl (lv_room (Nat.le_of_ble_eq_true rfl)) dX0_meanOf_22 hR⟩
        · exact ⟨_, va_runU (C := RX17) (As := [.ref x13, .int x3]) ⟨hx, hb, hml, hown, hts⟩ hM.2 (va_cwO (owner := "FortyDays$Rule") 2 hts (lw_app (by
              intro w hw
              simp only [List.mem_cons, List.not_mem_nil, or_false] at hw
              rcases hw with e | e | e | e | e | e
              · rw [e]; exact q906
              · rw [e]; exact q909
              · rw [e]; exact q907
              · rw [e]; exact q910
              · rw [e]; exact q911
              · rw [e]; exact q119) (lw_meth q912)) rfl rfl rfl q956 (by decide +kernel) ⟨Nat.le_of_ble_eq_true rfl, Nat.le_of_ble_eq_true rfl⟩) (c_preV (ci := 17) hk hH hS hg rfl) rfl rfl hl.1 rfl (lv_room (Nat.le_of_ble_eq_true rfl)) dX0_meanOf_22 hR⟩
      clear hf
      refine Jite (fun hc => ?_) (fun hc => ?_)
      · refine Jrow (fun H locs ls hH hS hl k => lv_if_ne (tgt := 34) hx hb dX0_meanOf_25 (by decide) (fun h => absurd hc h) (fun _ => (k ls hl))) ?_
        clear hc
        refine Jbd (fun x16 ex16 => ?_)
        refine Jrow (fun H locs ls hH hS hl k => lv_iinc (v := x16) (lv' := [(3, .int x16), (0, .ref a0), (1, .ref p1)]) hx hb dX0_meanOf_28 hl (k := 2) rfl (by rw [ex16]; rfl) (by decide) rfl k) ?_
        clear ex16
        refine Jrow (fun H locs ls hH hS hl k => lv_goto (tgt := 8) hx hb dX0_meanOf_31 (by decide) (k ls hl)) ?_
        exact Jsub [1, 2, 0] rfl (hk5 x16 σ15)
      · refine Jrow (fun H locs ls hH hS hl k => lv_if_ne (tgt := 34) hx hb dX0_meanOf_25 (by decide) (fun _ => (k ls hl)) (fun h => absurd h hc)) ?_
        clear hc
        exact Jsub [0, 1, 2] rfl (hk7 σ15)

def fX0_mean (a0 : Nat) (p1 : Int32) (p2 : Int32) (σ : CS) : Option (Int64 × CS) :=
 gd (kd σ a0 2) (
 cl2 (fX0_ruleAt a0 p1 σ) (fun (x2 : Option Nat) (σ1 : CS) =>
 gd (kd σ1 a0 2) (
 cl2 (fX0_shipAt a0 p2 σ1) (fun (x4 : Option Nat) (σ3 : CS) =>
 jn (fun (x5 : Int64) (σ6 : CS) => some (x5, σ6)) (fun (k7 : Int64 → CS → Option (Int64 × CS)) =>
 jn (k7 (-9223372036854775808:Int64) σ3) (fun (k8 : Option (Int64 × CS)) =>
 oc x2 (
 k8) (fun (x9 : Nat) =>
 oc x4 (
 k8) (fun (x10 : Nat) =>
 gd (hf (cK σ3 x10) 83) (
 cl (cFR σ3 x10 83) (fun (x11 : Nat) =>
 gd (kd σ3 a0 2) (
 cl2 (fX0_meanOf a0 x9 x11 σ3) (fun (x13 : Int64) (σ12 : CS) =>
 k7 x13 σ12))))))))))))
theorem nX0_mean {a0 : Nat} {p1 : Int32} {p2 : Int32} {σ : CS} : Mn σ (fX0_mean a0 p1 p2 σ) := by
  unfold fX0_mean
  refine Mgd ?_
  refine Mcl2 (nX0_ruleAt) (fun x2 σ1 => ?_)
  refine Mgd ?_
  refine Mcl2 (nX0_shipAt) (fun x4 σ3 => ?_)
  refine Mjn2 (fun (x5 : Int64) (σ6 : CS) (X15 : Option (Int64 × CS)) => Mn σ6 X15) (fun x5 σ6 => ?_) (fun k7 hk7 => ?_)
  · exact Mret
  · refine Mjn0 (fun  (X14 : Option (Int64 × CS)) => Mn σ3 X14) (?_) (fun k8 hk8 => ?_)
    · exact hk7 (-9223372036854775808:Int64) σ3
    · refine Moc ?_ (fun x9 => ?_)
      · exact hk8
      · refine Moc ?_ (fun x10 => ?_)
        · exact hk8
        · refine Mgd ?_
          refine Mcl (fun x11 => ?_)
          refine Mgd ?_
          refine Mcl2 (nX0_meanOf) (fun x13 σ12 => ?_)
          exact hk7 x13 σ12
set_option maxHeartbeats 4000000 in
set_option maxRecDepth 100000 in
theorem mX0_mean (l : Launch) (E : CE) {a0 : Nat} {p1 : Int32} {p2 : Int32} {σ : CS} {r : Int64} {σz : CS} (hX : fX0_mean a0 p1 p2 σ = some (r, σz)) : MetC l yX0_mean (ws_ yX0_mean cX0_mean 5 (some .long)) 106 4147 E σ [.ref a0, .int p1, .int p2] (some (.long r)) σz := by
  refine MetC.of hX (by decide) (Nat.le_of_ble_eq_true rfl) (nX0_mean _ hX) ?_
  intro p e s m below meth c hx hb hr hml hts hown hlocks hnm hk hz0
  have hK := hk.1
  show J p l e (headSpec (ws_ yX0_mean cX0_mean 5 (some .long)) (rmC 106 4147 σ σz)).room s m ([.ref a0, .int p1, .int p2] : List Value).toArray below meth c 5 E (cZ σ) (cS σ) (MQ below (cQ E (some (.long r)) σz) ([.ref a0, .int p1, .int p2] : List Value).toArray s (cZ σz - cZ σ) (cS σz - cS σ) (EA E)) (r, σz) (fX0_mean a0 p1 p2 σ) σ 0 [(0, .ref a0), (1, .int p1), (2, .int p2)] []
  unfold fX0_mean
  refine Jrow (fun H locs ls hH hS hl k => lv_aload_n hx hb dX0_mean_0 rfl (lv_at hl 0 rfl) (k ls hl)) ?_
  refine Jrow (fun H locs ls hH hS hl k => lv_iload_n hx hb dX0_mean_1 rfl (lv_at hl 1 rfl) (k ls hl)) ?_
  refine Jgd (fun hg => ?_)
  refine Jcl2 (fun x2 σ1 hf => ?_)
  refine Jcall (v := (some (va_rf x2))) (rest := []) (mX0_ruleAt l E hf).1 ⟨rfl, rfl⟩ (fun H locs ls hH hS hl hR => ⟨_, va_runV (C := RX0) (As := [.int p1]) ⟨hx, hb, hml, hown, hts⟩ (mX0_ruleAt l E hf).2 (cwV 1 hts (lw_V q898 q900 qs21 q88 q901) rfl rfl rfl (by decide +kernel) ⟨Nat.le_of_ble_eq_true rfl, Nat.le_of_ble_eq_true rfl⟩) (c_preV (ci := 1) hk hH hS hg rfl) rfl rfl hl.1 rfl (lv_room (Nat.le_of_ble_eq_true rfl)) dX0_mean_2 hR⟩) ?_
  clear hf
  refine Jrow (fun H locs ls hH hS hl k => lv_astore_nF (lv' := [(3, va_rf x2), (0, .ref a0), (1, .int p1), (2, .int p2)]) hx hb dX0_mean_5 rfl hl (by decide) rfl k) ?_
  refine Jrow (fun H locs ls hH hS hl k => lv_aload_n hx hb dX0_mean_6 rfl (lv_at hl 1 rfl) (k ls hl)) ?_
  refine Jrow (fun H locs ls hH hS hl k => lv_iload_n hx hb dX0_mean_7 rfl (lv_at hl 3 rfl) (k ls hl)) ?_
  refine Jgd (fun hg => ?_)
  refine Jcl2 (fun x4 σ3 hf => ?_)
  refine Jcall (v := (some (va_rf x4))) (rest := []) (mX0_shipAt l E hf).1 ⟨rfl, rfl⟩ (fun H locs ls hH hS hl hR => ⟨_, va_runV (C := RX0) (As := [.int p2]) ⟨hx, hb, hml, hown, hts⟩ (mX0_shipAt l E hf).2 (cwV 1 hts (lw_V q703 q705 qs18 q88 q706) rfl rfl rfl (by decide +kernel) ⟨Nat.le_of_ble_eq_true rfl, Nat.le_of_ble_eq_true rfl⟩) (c_preV (ci := 1) hk hH hS hg rfl) rfl rfl hl.1 rfl (lv_room (Nat.le_of_ble_eq_true rfl)) dX0_mean_8 hR⟩) ?_
  clear hf
  refine Jrow (fun H locs ls hH hS hl k => lv_astoreF (lv' := [(4, va_rf x4), (3, va_rf x2), (0, .ref a0), (1, .int p1), (2, .int p2)]) hx hb dX0_mean_11 hl (by decide) (by cases x2 <;> rfl) k) ?_
  refine Jrow (fun H locs ls hH hS hl k => lv_aload_nF hx hb dX0_mean_13 rfl (lv_at hl 1 rfl) (k ls hl)) ?_
  refine Jjn2 (fun (x5 : Int64) (σ6 : CS) X15 => J p l e (headSpec (ws_ yX0_mean cX0_mean 5 (some .long)) (rmC 106 4147 σ σz)).room s m ([.ref a0, .int p1, .int p2] : List Value).toArray below meth c 5 E (cZ σ) (cS σ) (MQ below (cQ E (some (.long r)) σz) ([.ref a0, .int p1, .int p2] : List Value).toArray s (cZ σz - cZ σ) (cS σz - cS σ) (EA E)) (r, σz) X15 σ6 38 [] [.long x5]) (fun x5 σ6 => ?_) (fun k7 hk7 => ?_)
  · exact Jlret hx hb hr hlocks dX0_mean_38
  · refine Jjn0 (fun  X14 => J p l e (headSpec (ws_ yX0_mean cX0_mean 5 (some .long)) (rmC 106 4147 σ σz)).room s m ([.ref a0, .int p1, .int p2] : List Value).toArray below meth c 5 E (cZ σ) (cS σ) (MQ below (cQ E (some (.long r)) σz) ([.ref a0, .int p1, .int p2] : List Value).toArray s (cZ σz - cZ σ) (cS σz - cS σ) (EA E)) (r, σz) X14 σ3 22 [] []) (?_) (fun k8 hk8 => ?_)
    · refine Jrow (fun H locs ls hH hS hl k => lv_ldc2 (v := (-9223372036854775808:Int64)) hx hb hown (hts _ q757) dX0_mean_22 (k ls hl)) ?_
      refine Jrow (fun H locs ls hH hS hl k => lv_goto (tgt := 38) hx hb dX0_mean_25 (by decide) (k ls hl)) ?_
      exact Jsub [] rfl (hk7 (-9223372036854775808:Int64) σ3)
    · rcases x2 with _ | x9
      · refine Joc0 ?_
        refine Jrow (fun H locs ls hH hS hl k => lv_ifnullN (tgt := 22) hx hb dX0_mean_14 (by decide) (k ls hl)) ?_
        exact Jsub [] rfl (hk8)
      · refine Joc1 ?_
        refine Jrow (fun H locs ls hH hS hl k => lv_ifnull hx hb dX0_mean_14 (k ls hl)) ?_
        refine Jrow (fun H locs ls hH hS hl k => lv_aloadF hx hb dX0_mean_17 (lv_at hl 0 rfl) (k ls hl)) ?_
        rcases x4 with _ | x10
        · refine Joc0 ?_
          refine Jrow (fun H locs ls hH hS hl k => lv_ifnonnullN hx hb dX0_mean_19 (k ls hl)) ?_
          exact Jsub [] rfl (hk8)
        · refine Joc1 ?_
          refine Jrow (fun H locs ls hH hS hl k => lv_ifnonnull (tgt := 28) hx hb dX0_mean_19 (by decide) (k ls hl)) ?_
          refine Jrow (fun H locs ls hH hS hl k => lv_aload_n hx hb dX0_mean_28 rfl (lv_at hl 2 rfl) (k ls hl)) ?_
          refine Jrow (fun H locs ls hH hS hl k => lv_aload_n hx hb dX0_mean_29 rfl (lv_at hl 1 rfl) (k ls hl)) ?_
          refine Jrow (fun H locs ls hH hS hl k => lv_aload hx hb dX0_mean_30 (lv_at hl 0 rfl) (k ls hl)) ?_
          refine Jgd (fun hg => ?_)
          refine Jcl (fun x11 hq => ?_)
          refine Jrow (fun H locs ls hH hS hl k => c_getN (F := 83) (v := .ref x11) hx hb hts hown hK hH hg (cN hk.2.2.1 22 rfl) (fun _ h => h) (fvR rfl hq) dX0_mean_32 (k ls hl)) ?_
          clear hq
          refine Jgd (fun hg => ?_)
          refine Jcl2 (fun x13 σ12 hf => ?_)
          refine Jcall (v := (some (.long x13))) (rest := []) (mX0_meanOf l E hf).1 ⟨rfl, rfl⟩ (fun H locs ls hH hS hl hR => ⟨_, va_runV (C := RX0) (As := [.ref x9, .ref x11]) ⟨hx, hb, hml, hown, hts⟩ (mX0_meanOf l E hf).2 (cwV 2 hts (lw_V q961 q963 qs23 q88 q964) rfl rfl rfl (by decide +kernel) ⟨Nat.le_of_ble_eq_true rfl, Nat.le_of_ble_eq_true rfl⟩) (c_preV (ci := 1) hk hH hS hg rfl) rfl rfl hl.1 rfl (lv_room (Nat.le_of_ble_eq_true rfl)) dX0_mean_35 hR⟩) ?_
          clear hf
          exact Jsub [] rfl (hk7 x13 σ12)

def fX0_findSaid (a0 : Nat) (p1 : Nat) (p2 : Nat) (σ : CS) : Option (Unit × CS) :=
 lp (fun _ _ => none) (fun (k3 : Int32 → CS → Option (Unit × CS)) (x1 : Int32) (σ2 : CS) =>
 if (4:Int32) ≤ x1 then
 some ((), σ2)
 else
 gd (hf (cK σ2 a0) 34) (
 cl (cFR σ2 a0 34) (fun (x4 : Nat) =>
 gd (hf (cK σ2 p2) 83) (
 cl (cFR σ2 p2 83) (fun (x5 : Nat) =>
 gd (hf (cK σ2 x5) 50) (
 cl (cFR σ2 x5 50) (fun (x6 : Nat) =>
 gd (hf (cK σ2 p2) 82) (
 gd (hf (cK σ2 p2) 83) (
 cl (cFR σ2 p2 83) (fun (x7 : Nat) =>
 gd (hf (cK σ2 x7) 50) (
 cl (cFR σ2 x7 50) (fun (x8 : Nat) =>
 gd (hf (cK σ2 x8) 62) (
 cl (cFR σ2 x8 62) (fun (x9 : Nat) =>
 gd (kd σ2 x9 101) (
 gd (ib x1 (cLN σ2 x9)) (
 gd (kd σ2 x4 4) (
 cl2 (fX2_begin x4 x6 (cFI σ2 p2 82) x1 (cAI σ2 x9 x1.toNatClampNeg) σ2) (fun (_ : Unit) (σ10 : CS) =>
 gd (hf (cK σ10 a0) 39) (
 cl (cFR σ10 a0 39) (fun (x12 : Nat) =>
 gd (hf (cK σ10 a0) 34) (
 cl (cFR σ10 a0 34) (fun (x13 : Nat) =>
 gd (kd σ10 a0 2) (
 cl2 (fX0_meanOf a0 p1 x13 σ10) (fun (x15 : Int64) (σ14 : CS) =>
 gd (kd σ14 x12 103) (
 gd (ib x1 (cLN σ14 x12)) (
 bd (uAL σ14 x12 x1.toNatClampNeg x15) (fun (σ16 : CS) =>
 bd (x1 + (1:Int32)) (fun (x17 : Int32) =>
 k3 x17 σ16)))))))))))))))))))))))))))) NF (0:Int32) σ
theorem nX0_findSaid {a0 : Nat} {p1 : Nat} {p2 : Nat} {σ : CS} : Mn σ (fX0_findSaid a0 p1 p2 σ) := by
  unfold fX0_findSaid
  refine Plp2 (fun (x1 : Int32) (σ2 : CS) (X18 : Option (Unit × CS)) => Mn σ2 X18) (fun _ _ => Mnone) (fun k3 hk3 x1 σ2 => ?_)
  refine Mite ?_ ?_
  · exact Mret
  · refine Mgd ?_
    refine Mcl (fun x4 => ?_)
    refine Mgd ?_
    refine Mcl (fun x5 => ?_)
    refine Mgd ?_
    refine Mcl (fun x6 => ?_)
    refine Mgd ?_
    refine Mgd ?_
    refine Mcl (fun x7 => ?_)
    refine Mgd ?_
    refine Mcl (fun x8 => ?_)
    refine Mgd ?_
    refine Mcl (fun x9 => ?_)
    refine Mgd ?_
    refine Mgd ?_
    refine Mgd ?_
    refine Mcl2 (nX2_begin) (fun _ σ10 => ?_)
    refine Mgd ?_
    refine Mcl (fun x12 => ?_)
    refine Mgd ?_
    refine Mcl (fun x13 => ?_)
    refine Mgd ?_
    refine Mcl2 (nX0_meanOf) (fun x15 σ14 => ?_)
    refine Mgd ?_
    refine Mgd ?_
    refine Mst (Nat.le_refl _) (Nat.le_refl _) (fun σ16 => ?_)
    refine Mbd (fun x17 => ?_)
    exact hk3 x17 σ16
set_option maxHeartbeats 4000000 in
set_option maxRecDepth 100000 in
theorem mX0_findSaid (l : Launch) (E : CE) {a0 : Nat} {p1 : Nat} {p2 : Nat} {σ : CS} {σz : CS} (hX : fX0_findSaid a0 p1 p2 σ = some ((), σz)) : MetC l yX0_findSaid (ws_ yX0_findSaid cX0_findSaid 4 none) 106 4147 E σ [.ref a0, .ref p1, .ref p2] none σz := by
  refine MetC.of hX (by decide) (Nat.le_of_ble_eq_true rfl) (nX0_findSaid _ hX) ?_
  intro p e s m below meth c hx hb hr hml hts hown hlocks hnm hk hz0
  have hK := hk.1
  show J p l e (headSpec (ws_ yX0_findSaid cX0_findSaid 4 none) (rmC 106 4147 σ σz)).room s m ([.ref a0, .ref p1, .ref p2] : List Value).toArray below meth c 4 E (cZ σ) (cS σ) (MQ below (cQ E none σz) ([.ref a0, .ref p1, .ref p2] : List Value).toArray s (cZ σz - cZ σ) (cS σz - cS σ) (EA E)) ((), σz) (fX0_findSaid a0 p1 p2 σ) σ 0 [(0, .ref a0), (1, .ref p1), (2, .ref p2)] []
  unfold fX0_findSaid
  refine Jrow (fun H locs ls hH hS hl k => lv_iconst (v := (0:Int32)) hx hb dX0_findSaid_0 (by decide) (k ls hl)) ?_
  refine Jrow (fun H locs ls hH hS hl k => lv_istore_n (lv' := [(3, .int (0:Int32)), (0, .ref a0), (1, .ref p1), (2, .ref p2)]) hx hb dX0_findSaid_1 rfl hl (by decide) rfl k) ?_
  refine Jsub [1, 2, 3, 0] rfl (Plp2 (fun (x1 : Int32) (σ2 : CS) X18 => J p l e (headSpec (ws_ yX0_findSaid cX0_findSaid 4 none) (rmC 106 4147 σ σz)).room s m ([.ref a0, .ref p1, .ref p2] : List Value).toArray below meth c 4 E (cZ σ) (cS σ) (MQ below (cQ E none σz) ([.ref a0, .ref p1, .ref p2] : List Value).toArray s (cZ σz - cZ σ) (cS σz - cS σ) (EA E)) ((), σz) X18 σ2 2 [(0, .ref a0), (1, .ref p1), (2, .ref p2), (3, .int x1)] []) (fun _ _ => Jnone) (fun k3 hk3 x1 σ2 => ?_))
  refine Jrow (fun H locs ls hH hS hl k => lv_iload_n hx hb dX0_findSaid_2 rfl (lv_at hl 3 rfl) (k ls hl)) ?_
  refine Jrow (fun H locs ls hH hS hl k => lv_iconst (v := (4:Int32)) hx hb dX0_findSaid_3 (by decide) (k ls hl)) ?_
  refine Jite (fun hc => ?_) (fun hc => ?_)
  · refine Jrow (fun H locs ls hH hS hl k => lv_icmp_ge (tgt := 59) hx hb dX0_findSaid_4 (by decide) (fun _ => (k ls hl)) (fun h => absurd hc h)) ?_
    clear hc
    exact Jvret hx hb hr hlocks dX0_findSaid_59
  · refine Jrow (fun H locs ls hH hS hl k => lv_icmp_ge (tgt := 59) hx hb dX0_findSaid_4 (by decide) (fun h => absurd h hc) (fun _ => (k ls hl))) ?_
    clear hc
    refine Jrow (fun H locs ls hH hS hl k => lv_aload_n hx hb dX0_findSaid_7 rfl (lv_at hl 0 rfl) (k ls hl)) ?_
    refine Jgd (fun hg => ?_)
    refine Jcl (fun x4 hq => ?_)
    refine Jrow (fun H locs ls hH hS hl k => c_get (F := 34) (v := .ref x4) hx hb hts hown hK hH hg (hts _ q264) (fun _ h => h) (fvR rfl hq) dX0_findSaid_8 (k ls hl)) ?_
    clear hq
    refine Jrow (fun H locs ls hH hS hl k => lv_aload_n hx hb dX0_findSaid_11 rfl (lv_at hl 2 rfl) (k ls hl)) ?_
    refine Jgd (fun hg => ?_)
    refine Jcl (fun x5 hq => ?_)
    refine Jrow (fun H locs ls hH hS hl k => c_getN (F := 83) (v := .ref x5) hx hb hts hown hK hH hg (cN hk.2.2.1 22 rfl) (fun _ h => h) (fvR rfl hq) dX0_findSaid_12 (k ls hl)) ?_
    clear hq
    refine Jgd (fun hg => ?_)
    refine Jcl (fun x6 hq => ?_)
    refine Jrow (fun H locs ls hH hS hl k => c_getN (F := 50) (v := .ref x6) hx hb hts hown hK hH hg (cN hk.2.2.1 11 rfl) (fun _ h => h) (fvR rfl hq) dX0_findSaid_15 (k ls hl)) ?_
    clear hq
    refine Jrow (fun H locs ls hH hS hl k => lv_aload_n hx hb dX0_findSaid_18 rfl (lv_at hl 2 rfl) (k ls hl)) ?_
    refine Jgd (fun hg => ?_)
    refine Jrow (fun H locs ls hH hS hl k => c_getN (F := 82) (v := .int (cFI σ2 p2 82)) hx hb hts hown hK hH hg (cN hk.2.2.1 21 rfl) (fun _ h => h) rfl dX0_findSaid_19 (k ls hl)) ?_
    refine Jrow (fun H locs ls hH hS hl k => lv_iload_n hx hb dX0_findSaid_22 rfl (lv_at hl 3 rfl) (k ls hl)) ?_
    refine Jrow (fun H locs ls hH hS hl k => lv_aload_n hx hb dX0_findSaid_23 rfl (lv_at hl 2 rfl) (k ls hl)) ?_
    refine Jgd (fun hg => ?_)
    refine Jcl (fun x7 hq => ?_)
    refine Jrow (fun H locs ls hH hS hl k => c_getN (F := 83) (v := .ref x7) hx hb hts hown hK hH hg (cN hk.2.2.1 22 rfl) (fun _ h => h) (fvR rfl hq) dX0_findSaid_24 (k ls hl)) ?_
    clear hq
    refine Jgd (fun hg => ?_)
    refine Jcl (fun x8 hq => ?_)
    refine Jrow (fun H locs ls hH hS hl k => c_getN (F := 50) (v := .ref x8) hx hb hts hown hK hH hg (cN hk.2.2.1 11 rfl) (fun _ h => h) (fvR rfl hq) dX0_findSaid_27 (k ls hl)) ?_
    clear hq
    refine Jgd (fun hg => ?_)
    refine Jcl (fun x9 hq => ?_)
    refine Jrow (fun H locs ls hH hS hl k => c_getN (F := 62) (v := .ref x9) hx hb hts hown hK hH hg (cN hk.2.2.1 16 rfl) (fun _ h => h) (fvR rfl hq) dX0_findSaid_30 (k ls hl)) ?_
    clear hq
    refine Jrow (fun H locs ls hH hS hl k => lv_iload_n hx hb dX0_findSaid_33 rfl (lv_at hl 3 rfl) (k ls hl)) ?_
    refine Jgd (fun hk1 => ?_)
    refine Jgd (fun hg => ?_)
    refine Jrow (fun H locs ls hH hS hl k => c_iald hx hb hK hH hk1 hg dX0_findSaid_34 (k ls hl)) ?_
    refine Jgd (fun hg => ?_)
    refine Jcl2 (fun _ σ10 hf => ?_)
    refine Jcall (v := none) (rest := []) (mX2_begin l E hf).1 ⟨rfl, rfl⟩ (fun H locs ls hH hS hl hR => ⟨_, va_runV (C := RX2) (As := [.ref x6, .int (cFI σ2 p2 82), .int x1, .int (cAI σ2 x9 x1.toNatClampNeg)]) ⟨hx, hb, hml, hown, hts⟩ (mX2_begin l E hf).2 (cwV 4 hts (lw_V q1048 q673 q674 q93 q675) rfl rfl rfl (by decide +kernel) ⟨Nat.le_of_ble_eq_true rfl, Nat.le_of_ble_eq_true rfl⟩) (c_preV (ci := 3) hk hH hS hg rfl) rfl rfl hl.1 rfl (lv_room (Nat.le_of_ble_eq_true rfl)) dX0_findSaid_35 hR⟩) ?_
    clear hf
    refine Jrow (fun H locs ls hH hS hl k => lv_aload_n hx hb dX0_findSaid_38 rfl (lv_at hl 0 rfl) (k ls hl)) ?_
    refine Jgd (fun hg => ?_)
    refine Jcl (fun x12 hq => ?_)
    refine Jrow (fun H locs ls hH hS hl k => c_get (F := 39) (v := .ref x12) hx hb hts hown hK hH hg (hts _ q272) (fun _ h => h) (fvR rfl hq) dX0_findSaid_39 (k ls hl)) ?_
    clear hq
    refine Jrow (fun H locs ls hH hS hl k => lv_iload_n hx hb dX0_findSaid_42 rfl (lv_at hl 3 rfl) (k ls hl)) ?_
    refine Jrow (fun H locs ls hH hS hl k => lv_aload_n hx hb dX0_findSaid_43 rfl (lv_at hl 0 rfl) (k ls hl)) ?_
    refine Jrow (fun H locs ls hH hS hl k => lv_aload_n hx hb dX0_findSaid_44 rfl (lv_at hl 1 rfl) (k ls hl)) ?_
    refine Jrow (fun H locs ls hH hS hl k => lv_aload_n hx hb dX0_findSaid_45 rfl (lv_at hl 0 rfl) (k ls hl)) ?_
    refine Jgd (fun hg => ?_)
    refine Jcl (fun x13 hq => ?_)
    refine Jrow (fun H locs ls hH hS hl k => c_get (F := 34) (v := .ref x13) hx hb hts hown hK hH hg (hts _ q264) (fun _ h => h) (fvR rfl hq) dX0_findSaid_46 (k ls hl)) ?_
    clear hq
    refine Jgd (fun hg => ?_)
    refine Jcl2 (fun x15 σ14 hf => ?_)
    refine Jcall (v := (some (.long x15))) (rest := [.int x1, .ref x12]) (mX0_meanOf l E hf).1 ⟨rfl, rfl⟩ (fun H locs ls hH hS hl hR => ⟨_, va_runV (C := RX0) (As := [.ref p1, .ref x13]) ⟨hx, hb, hml, hown, hts⟩ (mX0_meanOf l E hf).2 (cwV 2 hts (lw_V q961 q963 qs23 q88 q964) rfl rfl rfl (by decide +kernel) ⟨Nat.le_of_ble_eq_true rfl, Nat.le_of_ble_eq_true rfl⟩) (c_preV (ci := 1) hk hH hS hg rfl) rfl rfl hl.1 rfl (lv_room (Nat.le_of_ble_eq_true rfl)) dX0_findSaid_49 hR⟩) ?_
    clear hf
    refine Jgd (fun hk1 => ?_)
    refine Jgd (fun hg => ?_)
    refine Jst (σ1 := uAL σ14 x12 x1.toNatClampNeg x15) rfl rfl (fun H locs ls hH hS hl k => c_last hx hb hK hH hS hk1 hg dX0_findSaid_52 k) (fun σ16 => ?_)
    refine Jbd (fun x17 ex17 => ?_)
    refine Jrow (fun H locs ls hH hS hl k => lv_iinc (v := x17) (lv' := [(3, .int x17), (0, .ref a0), (1, .ref p1), (2, .ref p2)]) hx hb dX0_findSaid_53 hl (k := 3) rfl (by rw [ex17]; rfl) (by decide) rfl k) ?_
    clear ex17
    refine Jrow (fun H locs ls hH hS hl k => lv_goto (tgt := 2) hx hb dX0_findSaid_56 (by decide) (k ls hl)) ?_
    exact Jsub [1, 2, 3, 0] rfl (hk3 x17 σ16)

def fX0_lies (a0 : Nat) (p1 : Int32) (p2 : Int32) (σ : CS) : Option (Int32 × CS) :=
 gd (kd σ a0 2) (
 cl2 (fX0_ruleAt a0 p1 σ) (fun (x2 : Option Nat) (σ1 : CS) =>
 gd (kd σ1 a0 2) (
 cl2 (fX0_shipAt a0 p2 σ1) (fun (x4 : Option Nat) (σ3 : CS) =>
 jn (some ((-1:Int32), σ3)) (fun (k5 : Option (Int32 × CS)) =>
 oc x2 (
 k5) (fun (x6 : Nat) =>
 oc x4 (
 k5) (fun (x7 : Nat) =>
 gd (kd σ3 a0 2) (
 cl2 (fX0_findSaid a0 x6 x7 σ3) (fun (_ : Unit) (σ8 : CS) =>
 lp (fun _ _ => none) (fun (k12 : Int32 → Int32 → Option (Int32 × CS)) (x10 : Int32) (x11 : Int32) =>
 if (4:Int32) ≤ x11 then
 some (x10, σ8)
 else
 gd (hf (cK σ8 a0) 39) (
 cl (cFR σ8 a0 39) (fun (x13 : Nat) =>
 gd (kd σ8 x13 103) (
 gd (ib x11 (cLN σ8 x13)) (
 gd (hf (cK σ8 a0) 39) (
 cl (cFR σ8 a0 39) (fun (x14 : Nat) =>
 gd (kd σ8 x14 103) (
 gd (ib x10 (cLN σ8 x14)) (
 jn (fun (x15 : Int32) => bd (x11 + (1:Int32)) (fun (x17 : Int32) =>
 k12 x15 x17)) (fun (k16 : Int32 → Option (Int32 × CS)) =>
 if (0:Int32) ≤ (lg_cmp (cAL σ8 x13 x11.toNatClampNeg) (cAL σ8 x14 x10.toNatClampNeg)) then
 k16 x10
 else
 k16 x11)))))))))) NF (0:Int32) (1:Int32))))))))))
theorem nX0_lies {a0 : Nat} {p1 : Int32} {p2 : Int32} {σ : CS} : Mn σ (fX0_lies a0 p1 p2 σ) := by
  unfold fX0_lies
  refine Mgd ?_
  refine Mcl2 (nX0_ruleAt) (fun x2 σ1 => ?_)
  refine Mgd ?_
  refine Mcl2 (nX0_shipAt) (fun x4 σ3 => ?_)
  refine Mjn0 (fun  (X20 : Option (Int32 × CS)) => Mn σ3 X20) (?_) (fun k5 hk5 => ?_)
  · exact Mret
  · refine Moc ?_ (fun x6 => ?_)
    · exact hk5
    · refine Moc ?_ (fun x7 => ?_)
      · exact hk5
      · refine Mgd ?_
        refine Mcl2 (nX0_findSaid) (fun _ σ8 => ?_)
        refine Plp2 (fun (x10 : Int32) (x11 : Int32) (X19 : Option (Int32 × CS)) => Mn σ8 X19) (fun _ _ => Mnone) (fun k12 hk12 x10 x11 => ?_)
        refine Mite ?_ ?_
        · exact Mret
        · refine Mgd ?_
          refine Mcl (fun x13 => ?_)
          refine Mgd ?_
          refine Mgd ?_
          refine Mgd ?_
          refine Mcl (fun x14 => ?_)
          refine Mgd ?_
          refine Mgd ?_
          refine Mjn1 (fun (x15 : Int32) (X18 : Option (Int32 × CS)) => Mn σ8 X18) (fun x15 => ?_) (fun k16 hk16 => ?_)
          · refine Mbd (fun x17 => ?_)
            exact hk12 x15 x17
          · refine Mite ?_ ?_
            · exact hk16 x10
            · exact hk16 x11
set_option maxHeartbeats 4000000 in
set_option maxRecDepth 100000 in
theorem mX0_lies (l : Launch) (E : CE) {a0 : Nat} {p1 : Int32} {p2 : Int32} {σ : CS} {r : Int32} {σz : CS} (hX : fX0_lies a0 p1 p2 σ = some (r, σz)) : MetC l yX0_lies (ws_ yX0_lies cX0_lies 7 (some .int)) 107 4170 E σ [.ref a0, .int p1, .int p2] (some (.int r)) σz := by
  refine MetC.of hX (by decide) (Nat.le_of_ble_eq_true rfl) (nX0_lies _ hX) ?_
  intro p e s m below meth c hx hb hr hml hts hown hlocks hnm hk hz0
  have hK := hk.1
  show J p l e (headSpec (ws_ yX0_lies cX0_lies 7 (some .int)) (rmC 107 4170 σ σz)).room s m ([.ref a0, .int p1, .int p2] : List Value).toArray below meth c 7 E (cZ σ) (cS σ) (MQ below (cQ E (some (.int r)) σz) ([.ref a0, .int p1, .int p2] : List Value).toArray s (cZ σz - cZ σ) (cS σz - cS σ) (EA E)) (r, σz) (fX0_lies a0 p1 p2 σ) σ 0 [(0, .ref a0), (1, .int p1), (2, .int p2)] []
  unfold fX0_lies
  refine Jrow (fun H locs ls hH hS hl k => lv_aload_n hx hb dX0_lies_0 rfl (lv_at hl 0 rfl) (k ls hl)) ?_
  refine Jrow (fun H locs ls hH hS hl k => lv_iload_n hx hb dX0_lies_1 rfl (lv_at hl 1 rfl) (k ls hl)) ?_
  refine Jgd (fun hg => ?_)
  refine Jcl2 (fun x2 σ1 hf => ?_)
  refine Jcall (v := (some (va_rf x2))) (rest := []) (mX0_ruleAt l E hf).1 ⟨rfl, rfl⟩ (fun H locs ls hH hS hl hR => ⟨_, va_runV (C := RX0) (As := [.int p1]) ⟨hx, hb, hml, hown, hts⟩ (mX0_ruleAt l E hf).2 (cwV 1 hts (lw_V q898 q900 qs21 q88 q901) rfl rfl rfl (by decide +kernel) ⟨Nat.le_of_ble_eq_true rfl, Nat.le_of_ble_eq_true rfl⟩) (c_preV (ci := 1) hk hH hS hg rfl) rfl rfl hl.1 rfl (lv_room (Nat.le_of_ble_eq_true rfl)) dX0_lies_2 hR⟩) ?_
  clear hf
  refine Jrow (fun H locs ls hH hS hl k => lv_astore_nF (lv' := [(3, va_rf x2), (0, .ref a0), (1, .int p1), (2, .int p2)]) hx hb dX0_lies_5 rfl hl (by decide) rfl k) ?_
  refine Jrow (fun H locs ls hH hS hl k => lv_aload_n hx hb dX0_lies_6 rfl (lv_at hl 1 rfl) (k ls hl)) ?_
  refine Jrow (fun H locs ls hH hS hl k => lv_iload_n hx hb dX0_lies_7 rfl (lv_at hl 3 rfl) (k ls hl)) ?_
  refine Jgd (fun hg => ?_)
  refine Jcl2 (fun x4 σ3 hf => ?_)
  refine Jcall (v := (some (va_rf x4))) (rest := []) (mX0_shipAt l E hf).1 ⟨rfl, rfl⟩ (fun H locs ls hH hS hl hR => ⟨_, va_runV (C := RX0) (As := [.int p2]) ⟨hx, hb, hml, hown, hts⟩ (mX0_shipAt l E hf).2 (cwV 1 hts (lw_V q703 q705 qs18 q88 q706) rfl rfl rfl (by decide +kernel) ⟨Nat.le_of_ble_eq_true rfl, Nat.le_of_ble_eq_true rfl⟩) (c_preV (ci := 1) hk hH hS hg rfl) rfl rfl hl.1 rfl (lv_room (Nat.le_of_ble_eq_true rfl)) dX0_lies_8 hR⟩) ?_
  clear hf
  refine Jrow (fun H locs ls hH hS hl k => lv_astoreF (lv' := [(4, va_rf x4), (3, va_rf x2), (0, .ref a0), (1, .int p1), (2, .int p2)]) hx hb dX0_lies_11 hl (by decide) (by cases x2 <;> rfl) k) ?_
  refine Jrow (fun H locs ls hH hS hl k => lv_aload_nF hx hb dX0_lies_13 rfl (lv_at hl 1 rfl) (k ls hl)) ?_
  refine Jjn0 (fun  X20 => J p l e (headSpec (ws_ yX0_lies cX0_lies 7 (some .int)) (rmC 107 4170 σ σz)).room s m ([.ref a0, .int p1, .int p2] : List Value).toArray below meth c 7 E (cZ σ) (cS σ) (MQ below (cQ E (some (.int r)) σz) ([.ref a0, .int p1, .int p2] : List Value).toArray s (cZ σz - cZ σ) (cS σz - cS σ) (EA E)) (r, σz) X20 σ3 22 [] []) (?_) (fun k5 hk5 => ?_)
  · refine Jrow (fun H locs ls hH hS hl k => lv_iconst (v := (-1:Int32)) hx hb dX0_lies_22 (by decide) (k ls hl)) ?_
    exact Jiret hx hb hr hlocks dX0_lies_23
  · rcases x2 with _ | x6
    · refine Joc0 ?_
      refine Jrow (fun H locs ls hH hS hl k => lv_ifnullN (tgt := 22) hx hb dX0_lies_14 (by decide) (k ls hl)) ?_
      exact Jsub [] rfl (hk5)
    · refine Joc1 ?_
      refine Jrow (fun H locs ls hH hS hl k => lv_ifnull hx hb dX0_lies_14 (k ls hl)) ?_
      refine Jrow (fun H locs ls hH hS hl k => lv_aloadF hx hb dX0_lies_17 (lv_at hl 0 rfl) (k ls hl)) ?_
      rcases x4 with _ | x7
      · refine Joc0 ?_
        refine Jrow (fun H locs ls hH hS hl k => lv_ifnonnullN hx hb dX0_lies_19 (k ls hl)) ?_
        exact Jsub [] rfl (hk5)
      · refine Joc1 ?_
        refine Jrow (fun H locs ls hH hS hl k => lv_ifnonnull (tgt := 24) hx hb dX0_lies_19 (by decide) (k ls hl)) ?_
        refine Jrow (fun H locs ls hH hS hl k => lv_aload_n hx hb dX0_lies_24 rfl (lv_at hl 2 rfl) (k ls hl)) ?_
        refine Jrow (fun H locs ls hH hS hl k => lv_aload_n hx hb dX0_lies_25 rfl (lv_at hl 1 rfl) (k ls hl)) ?_
        refine Jrow (fun H locs ls hH hS hl k => lv_aload hx hb dX0_lies_26 (lv_at hl 0 rfl) (k ls hl)) ?_
        refine Jgd (fun hg => ?_)
        refine Jcl2 (fun _ σ8 hf => ?_)
        refine Jcall (v := none) (rest := []) (mX0_findSaid l E hf).1 ⟨rfl, rfl⟩ (fun H locs ls hH hS hl hR => ⟨_, va_runV (C := RX0) (As := [.ref x6, .ref x7]) ⟨hx, hb, hml, hown, hts⟩ (mX0_findSaid l E hf).2 (cwV 2 hts (lw_V q1044 q1046 qs32 q88 q1047) rfl rfl rfl (by decide +kernel) ⟨Nat.le_of_ble_eq_true rfl, Nat.le_of_ble_eq_true rfl⟩) (c_preV (ci := 1) hk hH hS hg rfl) rfl rfl hl.1 rfl (lv_room (Nat.le_of_ble_eq_true rfl)) dX0_lies_28 hR⟩) ?_
        clear hf
        refine Jrow (fun H locs ls hH hS hl k => lv_iconst (v := (0:Int32)) hx hb dX0_lies_31 (by decide) (k ls hl)) ?_
        refine Jrow (fun H locs ls hH hS hl k => lv_istore (lv' := [(5, .int (0:Int32)), (4, .ref x7), (3, .ref x6), (0, .ref a0), (1, .int p1), (2, .int p2)]) hx hb dX0_lies_32 hl (by decide) rfl k) ?_
        refine Jrow (fun H locs ls hH hS hl k => lv_iconst (v := (1:Int32)) hx hb dX0_lies_34 (by decide) (k ls hl)) ?_
        refine Jrow (fun H locs ls hH hS hl k => lv_istore (lv' := [(6, .int (1:Int32)), (5, .int (0:Int32)), (4, .ref x7), (3, .ref x6), (0, .ref a0), (1, .int p1), (2, .int p2)]) hx hb dX0_lies_35 hl (by decide) rfl k) ?_
        refine Jsub [4, 1, 0] rfl (Plp2 (fun (x10 : Int32) (x11 : Int32) X19 => J p l e (headSpec (ws_ yX0_lies cX0_lies 7 (some .int)) (rmC 107 4170 σ σz)).room s m ([.ref a0, .int p1, .int p2] : List Value).toArray below meth c 7 E (cZ σ) (cS σ) (MQ below (cQ E (some (.int r)) σz) ([.ref a0, .int p1, .int p2] : List Value).toArray s (cZ σz - cZ σ) (cS σz - cS σ) (EA E)) (r, σz) X19 σ8 37 [(0, .ref a0), (5, .int x10), (6, .int x11)] []) (fun _ _ => Jnone) (fun k12 hk12 x10 x11 => ?_))
        refine Jrow (fun H locs ls hH hS hl k => lv_iload hx hb dX0_lies_37 (lv_at hl 2 rfl) (k ls hl)) ?_
        refine Jrow (fun H locs ls hH hS hl k => lv_iconst (v := (4:Int32)) hx hb dX0_lies_39 (by decide) (k ls hl)) ?_
        refine Jite (fun hc => ?_) (fun hc => ?_)
        · refine Jrow (fun H locs ls hH hS hl k => lv_icmp_ge (tgt := 71) hx hb dX0_lies_40 (by decide) (fun _ => (k ls hl)) (fun h => absurd hc h)) ?_
          clear hc
          refine Jrow (fun H locs ls hH hS hl k => lv_iload hx hb dX0_lies_71 (lv_at hl 1 rfl) (k ls hl)) ?_
          exact Jiret hx hb hr hlocks dX0_lies_73
        · refine Jrow (fun H locs ls hH hS hl k => lv_icmp_ge (tgt := 71) hx hb dX0_lies_40 (by decide) (fun h => absurd h hc) (fun _ => (k ls hl))) ?_
          clear hc
          refine Jrow (fun H locs ls hH hS hl k => lv_aload_n hx hb dX0_lies_43 rfl (lv_at hl 0 rfl) (k ls hl)) ?_
          refine Jgd (fun hg => ?_)
          refine Jcl (fun x13 hq => ?_)
          refine Jrow (fun H locs ls hH hS hl k => c_get (F := 39) (v := .ref x13) hx hb hts hown hK hH hg (hts _ q272) (fun _ h => h) (fvR rfl hq) dX0_lies_44 (k ls hl)) ?_
          clear hq
          refine Jrow (fun H locs ls hH hS hl k => lv_iload hx hb dX0_lies_47 (lv_at hl 2 rfl) (k ls hl)) ?_
          refine Jgd (fun hk1 => ?_)
          refine Jgd (fun hg => ?_)
          refine Jrow (fun H locs ls hH hS hl k => c_lald hx hb hK hH hk1 hg dX0_lies_49 (k ls hl)) ?_
          refine Jrow (fun H locs ls hH hS hl k => lv_aload_n hx hb dX0_lies_50 rfl (lv_at hl 0 rfl) (k ls hl)) ?_
          refine Jgd (fun hg => ?_)
          refine Jcl (fun x14 hq => ?_)
          refine Jrow (fun H locs ls hH hS hl k => c_get (F := 39) (v := .ref x14) hx hb hts hown hK hH hg (hts _ q272) (fun _ h => h) (fvR rfl hq) dX0_lies_51 (k ls hl)) ?_
          clear hq
          refine Jrow (fun H locs ls hH hS hl k => lv_iload hx hb dX0_lies_54 (lv_at hl 1 rfl) (k ls hl)) ?_
          refine Jgd (fun hk1 => ?_)
          refine Jgd (fun hg => ?_)
          refine Jrow (fun H locs ls hH hS hl k => c_lald hx hb hK hH hk1 hg dX0_lies_56 (k ls hl)) ?_
          refine Jrow (fun H locs ls hH hS hl k => W.lcmp hx hb dX0_lies_57 (k ls hl)) ?_
          refine Jjn1 (fun (x15 : Int32) X18 => J p l e (headSpec (ws_ yX0_lies cX0_lies 7 (some .int)) (rmC 107 4170 σ σz)).room s m ([.ref a0, .int p1, .int p2] : List Value).toArray below meth c 7 E (cZ σ) (cS σ) (MQ below (cQ E (some (.int r)) σz) ([.ref a0, .int p1, .int p2] : List Value).toArray s (cZ σz - cZ σ) (cS σz - cS σ) (EA E)) (r, σz) X18 σ8 65 [(0, .ref a0), (5, .int x15), (6, .int x11)] []) (fun x15 => ?_) (fun k16 hk16 => ?_)
          · refine Jbd (fun x17 ex17 => ?_)
            refine Jrow (fun H locs ls hH hS hl k => lv_iinc (v := x17) (lv' := [(6, .int x17), (0, .ref a0), (5, .int x15)]) hx hb dX0_lies_65 hl (k := 2) rfl (by rw [ex17]; rfl) (by decide) rfl k) ?_
            clear ex17
            refine Jrow (fun H locs ls hH hS hl k => lv_goto (tgt := 37) hx hb dX0_lies_68 (by decide) (k ls hl)) ?_
            exact Jsub [1, 2, 0] rfl (hk12 x15 x17)
          · refine Jite (fun hc => ?_) (fun hc => ?_)
            · refine Jrow (fun H locs ls hH hS hl k => lv_if_ge (tgt := 65) hx hb dX0_lies_58 (by decide) (fun _ => (k ls hl)) (fun h => absurd hc h)) ?_
              clear hc
              exact Jsub [0, 1, 2] rfl (hk16 x10)
            · refine Jrow (fun H locs ls hH hS hl k => lv_if_ge (tgt := 65) hx hb dX0_lies_58 (by decide) (fun h => absurd h hc) (fun _ => (k ls hl))) ?_
              clear hc
              refine Jrow (fun H locs ls hH hS hl k => lv_iload hx hb dX0_lies_61 (lv_at hl 2 rfl) (k ls hl)) ?_
              refine Jrow (fun H locs ls hH hS hl k => lv_istore (lv' := [(5, .int x11), (0, .ref a0), (6, .int x11)]) hx hb dX0_lies_63 hl (by decide) rfl k) ?_
              exact Jsub [1, 0, 2] rfl (hk16 x11)

def fX0_fine (a0 : Nat) (p1 : Int32) (p2 : Int32) (σ : CS) : Option (Int32 × CS) :=
 gd (kd σ a0 2) (
 cl2 (fX0_ruleAt a0 p1 σ) (fun (x2 : Option Nat) (σ1 : CS) =>
 gd (kd σ1 a0 2) (
 cl2 (fX0_shipAt a0 p2 σ1) (fun (x4 : Option Nat) (σ3 : CS) =>
 jn (some ((-1:Int32), σ3)) (fun (k5 : Option (Int32 × CS)) =>
 oc x2 (
 k5) (fun (x6 : Nat) =>
 oc x4 (
 k5) (fun (x7 : Nat) =>
 gd (kd σ3 a0 2) (
 cl2 (fX0_findSaid a0 x6 x7 σ3) (fun (_ : Unit) (σ8 : CS) =>
 gd (hf (cK σ8 a0) 39) (
 cl (cFR σ8 a0 39) (fun (x10 : Nat) =>
 gd (hf (cK σ8 x7) 81) (
 gd (kd σ8 x10 103) (
 gd (ib (cFI σ8 x7 81) (cLN σ8 x10)) (
 bd (cAL σ8 x10 (cFI σ8 x7 81).toNatClampNeg) (fun (x11 : Int64) =>
 gd (hf (cK σ8 a0) 39) (
 cl (cFR σ8 a0 39) (fun (x12 : Nat) =>
 gd (kd σ8 x12 103) (
 bd (nI (cLN σ8 x12)) (fun (x13 : Int32) =>
 lp (fun _ _ => none) (fun (k16 : Int64 → Int32 → Option (Int32 × CS)) (x14 : Int64) (x15 : Int32) =>
 if x13 ≤ x15 then
 gd (hf (cK σ8 a0) 39) (
 cl (cFR σ8 a0 39) (fun (x17 : Nat) =>
 gd (hf (cK σ8 x7) 81) (
 gd (kd σ8 x17 103) (
 gd (ib (cFI σ8 x7 81) (cLN σ8 x17)) (
 bd ((((cAL σ8 x17 (cFI σ8 x7 81).toNatClampNeg) - x14) + (499:Int64)) / (500:Int64)) (fun (x18 : Int64) =>
 jn (fun (x19 : Int32) => some (x19, σ8)) (fun (k20 : Int32 → Option (Int32 × CS)) =>
 if (lg_cmp x18 (999:Int64)) ≤ (0:Int32) then
 k20 (x18.toInt32)
 else
 k20 (-5:Int32))))))))
 else
 gd (kd σ8 x12 103) (
 gd (ib x15 (cLN σ8 x12)) (
 bd (cAL σ8 x12 x15.toNatClampNeg) (fun (x22 : Int64) =>
 bd (if x22 < x14 then x22 else x14) (fun (x23 : Int64) =>
 bd (x15 + (1:Int32)) (fun (x24 : Int32) =>
 k16 x23 x24)))))) NF x11 (0:Int32))))))))))))))))))))
theorem nX0_fine {a0 : Nat} {p1 : Int32} {p2 : Int32} {σ : CS} : Mn σ (fX0_fine a0 p1 p2 σ) := by
  unfold fX0_fine
  refine Mgd ?_
  refine Mcl2 (nX0_ruleAt) (fun x2 σ1 => ?_)
  refine Mgd ?_
  refine Mcl2 (nX0_shipAt) (fun x4 σ3 => ?_)
  refine Mjn0 (fun  (X26 : Option (Int32 × CS)) => Mn σ3 X26) (?_) (fun k5 hk5 => ?_)
  · exact Mret
  · refine Moc ?_ (fun x6 => ?_)
    · exact hk5
    · refine Moc ?_ (fun x7 => ?_)
      · exact hk5
      · refine Mgd ?_
        refine Mcl2 (nX0_findSaid) (fun _ σ8 => ?_)
        refine Mgd ?_
        refine Mcl (fun x10 => ?_)
        refine Mgd ?_
        refine Mgd ?_
        refine Mgd ?_
        refine Mbd (fun x11 => ?_)
        refine Mgd ?_
        refine Mcl (fun x12 => ?_)
        refine Mgd ?_
        refine Mbd (fun x13 => ?_)
        refine Plp2 (fun (x14 : Int64) (x15 : Int32) (X25 : Option (Int32 × CS)) => Mn σ8 X25) (fun _ _ => Mnone) (fun k16 hk16 x14 x15 => ?_)
        refine Mite ?_ ?_
        · refine Mgd ?_
          refine Mcl (fun x17 => ?_)
          refine Mgd ?_
          refine Mgd ?_
          refine Mgd ?_
          refine Mbd (fun x18 => ?_)
          refine Mjn1 (fun (x19 : Int32) (X21 : Option (Int32 × CS)) => Mn σ8 X21) (fun x19 => ?_) (fun k20 hk20 => ?_)
          · exact Mret
          · refine Mite ?_ ?_
            · exact hk20 (x18.toInt32)
            · exact hk20 (-5:Int32)
        · refine Mgd ?_
          refine Mgd ?_
          refine Mbd (fun x22 => ?_)
          refine Mbd (fun x23 => ?_)
          refine Mbd (fun x24 => ?_)
          exact hk16 x23 x24
set_option maxHeartbeats 4000000 in
set_option maxRecDepth 100000 in
theorem mX0_fine (l : Launch) (E : CE) {a0 : Nat} {p1 : Int32} {p2 : Int32} {σ : CS} {r : Int32} {σz : CS} (hX : fX0_fine a0 p1 p2 σ = some (r, σz)) : MetC l yX0_fine (ws_ yX0_fine cX0_fine 12 (some .int)) 107 4170 E σ [.ref a0, .int p1, .int p2] (some (.int r)) σz := by
  refine MetC.of hX (by decide) (Nat.le_of_ble_eq_true rfl) (nX0_fine _ hX) ?_
  intro p e s m below meth c hx hb hr hml hts hown hlocks hnm hk hz0
  have hK := hk.1
  show J p l e (headSpec (ws_ yX0_fine cX0_fine 12 (some .int)) (rmC 107 4170 σ σz)).room s m ([.ref a0, .int p1, .int p2] : List Value).toArray below meth c 12 E (cZ σ) (cS σ) (MQ below (cQ E (some (.int r)) σz) ([.ref a0, .int p1, .int p2] : List Value).toArray s (cZ σz - cZ σ) (cS σz - cS σ) (EA E)) (r, σz) (fX0_fine a0 p1 p2 σ) σ 0 [(0, .ref a0), (1, .int p1), (2, .int p2)] []
  unfold fX0_fine
  refine Jrow (fun H locs ls hH hS hl k => lv_aload_n hx hb dX0_fine_0 rfl (lv_at hl 0 rfl) (k ls hl)) ?_
  refine Jrow (fun H locs ls hH hS hl k => lv_iload_n hx hb dX0_fine_1 rfl (lv_at hl 1 rfl) (k ls hl)) ?_
  refine Jgd (fun hg => ?_)
  refine Jcl2 (fun x2 σ1 hf => ?_)
  refine Jcall (v := (some (va_rf x2))) (rest := []) (mX0_ruleAt l E hf).1 ⟨rfl, rfl⟩ (fun H locs ls hH hS hl hR => ⟨_, va_runV (C := RX0) (As := [.int p1]) ⟨hx, hb, hml, hown, hts⟩ (mX0_ruleAt l E hf).2 (cwV 1 hts (lw_V q898 q900 qs21 q88 q901) rfl rfl rfl (by decide +kernel) ⟨Nat.le_of_ble_eq_true rfl, Nat.le_of_ble_eq_true rfl⟩) (c_preV (ci := 1) hk hH hS hg rfl) rfl rfl hl.1 rfl (lv_room (Nat.le_of_ble_eq_true rfl)) dX0_fine_2 hR⟩) ?_
  clear hf
  refine Jrow (fun H locs ls hH hS hl k => lv_astore_nF (lv' := [(3, va_rf x2), (0, .ref a0), (1, .int p1), (2, .int p2)]) hx hb dX0_fine_5 rfl hl (by decide) rfl k) ?_
  refine Jrow (fun H locs ls hH hS hl k => lv_aload_n hx hb dX0_fine_6 rfl (lv_at hl 1 rfl) (k ls hl)) ?_
  refine Jrow (fun H locs ls hH hS hl k => lv_iload_n hx hb dX0_fine_7 rfl (lv_at hl 3 rfl) (k ls hl)) ?_
  refine Jgd (fun hg => ?_)
  refine Jcl2 (fun x4 σ3 hf => ?_)
  refine Jcall (v := (some (va_rf x4))) (rest := []) (mX0_shipAt l E hf).1 ⟨rfl, rfl⟩ (fun H locs ls hH hS hl hR => ⟨_, va_runV (C := RX0) (As := [.int p2]) ⟨hx, hb, hml, hown, hts⟩ (mX0_shipAt l E hf).2 (cwV 1 hts (lw_V q703 q705 qs18 q88 q706) rfl rfl rfl (by decide +kernel) ⟨Nat.le_of_ble_eq_true rfl, Nat.le_of_ble_eq_true rfl⟩) (c_preV (ci := 1) hk hH hS hg rfl) rfl rfl hl.1 rfl (lv_room (Nat.le_of_ble_eq_true rfl)) dX0_fine_8 hR⟩) ?_
  clear hf
  refine Jrow (fun H locs ls hH hS hl k => lv_astoreF (lv' := [(4, va_rf x4), (3, va_rf x2), (0, .ref a0), (1, .int p1), (2, .int p2)]) hx hb dX0_fine_11 hl (by decide) (by cases x2 <;> rfl) k) ?_
  refine Jrow (fun H locs ls hH hS hl k => lv_aload_nF hx hb dX0_fine_13 rfl (lv_at hl 1 rfl) (k ls hl)) ?_
  refine Jjn0 (fun  X26 => J p l e (headSpec (ws_ yX0_fine cX0_fine 12 (some .int)) (rmC 107 4170 σ σz)).room s m ([.ref a0, .int p1, .int p2] : List Value).toArray below meth c 12 E (cZ σ) (cS σ) (MQ below (cQ E (some (.int r)) σz) ([.ref a0, .int p1, .int p2] : List Value).toArray s (cZ σz - cZ σ) (cS σz - cS σ) (EA E)) (r, σz) X26 σ3 22 [] []) (?_) (fun k5 hk5 => ?_)
  · refine Jrow (fun H locs ls hH hS hl k => lv_iconst (v := (-1:Int32)) hx hb dX0_fine_22 (by decide) (k ls hl)) ?_
    exact Jiret hx hb hr hlocks dX0_fine_23
  · rcases x2 with _ | x6
    · refine Joc0 ?_
      refine Jrow (fun H locs ls hH hS hl k => lv_ifnullN (tgt := 22) hx hb dX0_fine_14 (by decide) (k ls hl)) ?_
      exact Jsub [] rfl (hk5)
    · refine Joc1 ?_
      refine Jrow (fun H locs ls hH hS hl k => lv_ifnull hx hb dX0_fine_14 (k ls hl)) ?_
      refine Jrow (fun H locs ls hH hS hl k => lv_aloadF hx hb dX0_fine_17 (lv_at hl 0 rfl) (k ls hl)) ?_
      rcases x4 with _ | x7
      · refine Joc0 ?_
        refine Jrow (fun H locs ls hH hS hl k => lv_ifnonnullN hx hb dX0_fine_19 (k ls hl)) ?_
        exact Jsub [] rfl (hk5)
      · refine Joc1 ?_
        refine Jrow (fun H locs ls hH hS hl k => lv_ifnonnull (tgt := 24) hx hb dX0_fine_19 (by decide) (k ls hl)) ?_
        refine Jrow (fun H locs ls hH hS hl k => lv_aload_n hx hb dX0_fine_24 rfl (lv_at hl 2 rfl) (k ls hl)) ?_
        refine Jrow (fun H locs ls hH hS hl k => lv_aload_n hx hb dX0_fine_25 rfl (lv_at hl 1 rfl) (k ls hl)) ?_
        refine Jrow (fun H locs ls hH hS hl k => lv_aload hx hb dX0_fine_26 (lv_at hl 0 rfl) (k ls hl)) ?_
        refine Jgd (fun hg => ?_)
        refine Jcl2 (fun _ σ8 hf => ?_)
        refine Jcall (v := none) (rest := []) (mX0_findSaid l E hf).1 ⟨rfl, rfl⟩ (fun H locs ls hH hS hl hR => ⟨_, va_runV (C := RX0) (As := [.ref x6, .ref x7]) ⟨hx, hb, hml, hown, hts⟩ (mX0_findSaid l E hf).2 (cwV 2 hts (lw_V q1044 q1046 qs32 q88 q1047) rfl rfl rfl (by decide +kernel) ⟨Nat.le_of_ble_eq_true rfl, Nat.le_of_ble_eq_true rfl⟩) (c_preV (ci := 1) hk hH hS hg rfl) rfl rfl hl.1 rfl (lv_room (Nat.le_of_ble_eq_true rfl)) dX0_fine_28 hR⟩) ?_
        clear hf
        refine Jrow (fun H locs ls hH hS hl k => lv_aload_n hx hb dX0_fine_31 rfl (lv_at hl 2 rfl) (k ls hl)) ?_
        refine Jgd (fun hg => ?_)
        refine Jcl (fun x10 hq => ?_)
        refine Jrow (fun H locs ls hH hS hl k => c_get (F := 39) (v := .ref x10) hx hb hts hown hK hH hg (hts _ q272) (fun _ h => h) (fvR rfl hq) dX0_fine_32 (k ls hl)) ?_
        clear hq
        refine Jrow (fun H locs ls hH hS hl k => lv_aload hx hb dX0_fine_35 (lv_at hl 0 rfl) (k ls hl)) ?_
        refine Jgd (fun hg => ?_)
        refine Jrow (fun H locs ls hH hS hl k => c_getN (F := 81) (v := .int (cFI σ8 x7 81)) hx hb hts hown hK hH hg (cN hk.2.2.1 20 rfl) (fun _ h => h) rfl dX0_fine_37 (k ls hl)) ?_
        refine Jgd (fun hk1 => ?_)
        refine Jgd (fun hg => ?_)
        refine Jrow (fun H locs ls hH hS hl k => c_lald hx hb hK hH hk1 hg dX0_fine_40 (k ls hl)) ?_
        refine JbdL (fun x11 => ?_)
        refine Jrow (fun H locs ls hH hS hl k => lv_lstore (lv' := [(5, .long x11), (4, .ref x7), (3, .ref x6), (0, .ref a0), (1, .int p1), (2, .int p2)]) hx hb dX0_fine_41 hl (by decide) rfl k) ?_
        refine Jrow (fun H locs ls hH hS hl k => lv_aload_n hx hb dX0_fine_43 rfl (lv_at hl 3 rfl) (k ls hl)) ?_
        refine Jgd (fun hg => ?_)
        refine Jcl (fun x12 hq => ?_)
        refine Jrow (fun H locs ls hH hS hl k => c_get (F := 39) (v := .ref x12) hx hb hts hown hK hH hg (hts _ q272) (fun _ h => h) (fvR rfl hq) dX0_fine_44 (k ls hl)) ?_
        clear hq
        refine Jrow (fun H locs ls hH hS hl k => lv_astore (lv' := [(7, .ref x12), (5, .long x11), (4, .ref x7), (3, .ref x6), (0, .ref a0), (1, .int p1), (2, .int p2)]) hx hb dX0_fine_47 hl (by decide) rfl k) ?_
        refine Jrow (fun H locs ls hH hS hl k => lv_aload hx hb dX0_fine_49 (lv_at hl 0 rfl) (k ls hl)) ?_
        refine Jgd (fun hk1 => ?_)
        refine Jrow (fun H locs ls hH hS hl k => c_alen (t := 2) hx hb hK hH (by decide) hk1 dX0_fine_51 (k ls hl)) ?_
        refine JbdI (fun x13 => ?_)
        refine Jrow (fun H locs ls hH hS hl k => lv_istore (lv' := [(8, .int x13), (7, .ref x12), (5, .long x11), (4, .ref x7), (3, .ref x6), (0, .ref a0), (1, .int p1), (2, .int p2)]) hx hb dX0_fine_52 hl (by decide) rfl k) ?_
        refine Jrow (fun H locs ls hH hS hl k => lv_iconst (v := (0:Int32)) hx hb dX0_fine_54 (by decide) (k ls hl)) ?_
        refine Jrow (fun H locs ls hH hS hl k => lv_istore (lv' := [(9, .int (0:Int32)), (8, .int x13), (7, .ref x12), (5, .long x11), (4, .ref x7), (3, .ref x6), (0, .ref a0), (1, .int p1), (2, .int p2)]) hx hb dX0_fine_55 hl (by decide) rfl k) ?_
        refine Jsub [6, 4, 3, 2, 1, 0] rfl (Plp2 (fun (x14 : Int64) (x15 : Int32) X25 => J p l e (headSpec (ws_ yX0_fine cX0_fine 12 (some .int)) (rmC 107 4170 σ σz)).room s m ([.ref a0, .int p1, .int p2] : List Value).toArray below meth c 12 E (cZ σ) (cS σ) (MQ below (cQ E (some (.int r)) σz) ([.ref a0, .int p1, .int p2] : List Value).toArray s (cZ σz - cZ σ) (cS σz - cS σ) (EA E)) (r, σz) X25 σ8 57 [(0, .ref a0), (4, .ref x7), (5, .long x14), (7, .ref x12), (8, .int x13), (9, .int x15)] []) (fun _ _ => Jnone) (fun k16 hk16 x14 x15 => ?_))
        refine Jrow (fun H locs ls hH hS hl k => lv_iload hx hb dX0_fine_57 (lv_at hl 5 rfl) (k ls hl)) ?_
        refine Jrow (fun H locs ls hH hS hl k => lv_iload hx hb dX0_fine_59 (lv_at hl 4 rfl) (k ls hl)) ?_
        refine Jite (fun hc => ?_) (fun hc => ?_)
        · refine Jrow (fun H locs ls hH hS hl k => lv_icmp_ge (tgt := 86) hx hb dX0_fine_61 (by decide) (fun _ => (k ls hl)) (fun h => absurd hc h)) ?_
          clear hc
          refine Jrow (fun H locs ls hH hS hl k => lv_aload_n hx hb dX0_fine_86 rfl (lv_at hl 0 rfl) (k ls hl)) ?_
          refine Jgd (fun hg => ?_)
          refine Jcl (fun x17 hq => ?_)
          refine Jrow (fun H locs ls hH hS hl k => c_get (F := 39) (v := .ref x17) hx hb hts hown hK hH hg (hts _ q272) (fun _ h => h) (fvR rfl hq) dX0_fine_87 (k ls hl)) ?_
          clear hq
          refine Jrow (fun H locs ls hH hS hl k => lv_aload hx hb dX0_fine_90 (lv_at hl 1 rfl) (k ls hl)) ?_
          refine Jgd (fun hg => ?_)
          refine Jrow (fun H locs ls hH hS hl k => c_getN (F := 81) (v := .int (cFI σ8 x7 81)) hx hb hts hown hK hH hg (cN hk.2.2.1 20 rfl) (fun _ h => h) rfl dX0_fine_92 (k ls hl)) ?_
          refine Jgd (fun hk1 => ?_)
          refine Jgd (fun hg => ?_)
          refine Jrow (fun H locs ls hH hS hl k => c_lald hx hb hK hH hk1 hg dX0_fine_95 (k ls hl)) ?_
          refine Jrow (fun H locs ls hH hS hl k => lv_lload hx hb dX0_fine_96 (lv_at hl 2 rfl) (k ls hl)) ?_
          refine Jrow (fun H locs ls hH hS hl k => lv_lsub hx hb dX0_fine_98 (k ls hl)) ?_
          refine Jrow (fun H locs ls hH hS hl k => lv_ldc2 (v := (499:Int64)) hx hb hown (hts _ q1053) dX0_fine_99 (k ls hl)) ?_
          refine Jrow (fun H locs ls hH hS hl k => lv_ladd hx hb dX0_fine_102 (k ls hl)) ?_
          refine Jrow (fun H locs ls hH hS hl k => lv_ldc2 (v := (500:Int64)) hx hb hown (hts _ q1054) dX0_fine_103 (k ls hl)) ?_
          refine Jrow (fun H locs ls hH hS hl k => lv_ldiv hx hb dX0_fine_106 (by decide) (k ls hl)) ?_
          refine JbdL (fun x18 => ?_)
          refine Jrow (fun H locs ls hH hS hl k => lv_lstore (lv' := [(7, .long x18), (0, .ref a0), (4, .ref x7), (5, .long x14), (9, .int x15)]) hx hb dX0_fine_107 hl (by decide) rfl k) ?_
          refine Jrow (fun H locs ls hH hS hl k => lv_lload hx hb dX0_fine_109 (lv_at hl 0 rfl) (k ls hl)) ?_
          refine Jrow (fun H locs ls hH hS hl k => lv_ldc2 (v := (999:Int64)) hx hb hown (hts _ q1055) dX0_fine_111 (k ls hl)) ?_
          refine Jrow (fun H locs ls hH hS hl k => W.lcmp hx hb dX0_fine_114 (k ls hl)) ?_
          refine Jjn1 (fun (x19 : Int32) X21 => J p l e (headSpec (ws_ yX0_fine cX0_fine 12 (some .int)) (rmC 107 4170 σ σz)).room s m ([.ref a0, .int p1, .int p2] : List Value).toArray below meth c 12 E (cZ σ) (cS σ) (MQ below (cQ E (some (.int r)) σz) ([.ref a0, .int p1, .int p2] : List Value).toArray s (cZ σz - cZ σ) (cS σz - cS σ) (EA E)) (r, σz) X21 σ8 126 [] [.int x19]) (fun x19 => ?_) (fun k20 hk20 => ?_)
          · exact Jiret hx hb hr hlocks dX0_fine_126
          · refine Jite (fun hc => ?_) (fun hc => ?_)
            · refine Jrow (fun H locs ls hH hS hl k => lv_if_le (tgt := 123) hx hb dX0_fine_115 (by decide) (fun _ => (k ls hl)) (fun h => absurd hc h)) ?_
              clear hc
              refine Jrow (fun H locs ls hH hS hl k => lv_lload hx hb dX0_fine_123 (lv_at hl 0 rfl) (k ls hl)) ?_
              refine Jrow (fun H locs ls hH hS hl k => lv_l2i hx hb dX0_fine_125 rfl (k ls hl)) ?_
              exact Jsub [] rfl (hk20 (x18.toInt32))
            · refine Jrow (fun H locs ls hH hS hl k => lv_if_le (tgt := 123) hx hb dX0_fine_115 (by decide) (fun h => absurd h hc) (fun _ => (k ls hl))) ?_
              clear hc
              refine Jrow (fun H locs ls hH hS hl k => lv_bipush (v := (-5:Int32)) hx hb dX0_fine_118 (by decide) (k ls hl)) ?_
              refine Jrow (fun H locs ls hH hS hl k => lv_goto (tgt := 126) hx hb dX0_fine_120 (by decide) (k ls hl)) ?_
              exact Jsub [] rfl (hk20 (-5:Int32))
        · refine Jrow (fun H locs ls hH hS hl k => lv_icmp_ge (tgt := 86) hx hb dX0_fine_61 (by decide) (fun h => absurd h hc) (fun _ => (k ls hl))) ?_
          clear hc
          refine Jrow (fun H locs ls hH hS hl k => lv_aload hx hb dX0_fine_64 (lv_at hl 3 rfl) (k ls hl)) ?_
          refine Jrow (fun H locs ls hH hS hl k => lv_iload hx hb dX0_fine_66 (lv_at hl 5 rfl) (k ls hl)) ?_
          refine Jgd (fun hk1 => ?_)
          refine Jgd (fun hg => ?_)
          refine Jrow (fun H locs ls hH hS hl k => c_lald hx hb hK hH hk1 hg dX0_fine_68 (k ls hl)) ?_
          refine JbdL (fun x22 => ?_)
          refine Jrow (fun H locs ls hH hS hl k => lv_lstore (lv' := [(10, .long x22), (0, .ref a0), (4, .ref x7), (5, .long x14), (7, .ref x12), (8, .int x13), (9, .int x15)]) hx hb dX0_fine_69 hl (by decide) rfl k) ?_
          refine Jrow (fun H locs ls hH hS hl k => lv_lload hx hb dX0_fine_71 (lv_at hl 3 rfl) (k ls hl)) ?_
          refine Jrow (fun H locs ls hH hS hl k => lv_lload hx hb dX0_fine_73 (lv_at hl 0 rfl) (k ls hl)) ?_
          refine JrowB ⟨rfl, rfl⟩ (fun H locs ls hH hS hl h1 h2 k => va_mmin_long hx hb (hml.trans hl.1.symm) hown (hts _ q1010) (hts _ q940) (hts _ q104) (hts _ q941) (Nat.le_of_ble_eq_true rfl) (Nat.le_of_ble_eq_true rfl) h1 h2 dX0_fine_75 (k ls hl)) ?_
          refine JbdL (fun x23 => ?_)
          refine Jrow (fun H locs ls hH hS hl k => lv_lstore (lv' := [(5, .long x23), (10, .long x22), (0, .ref a0), (4, .ref x7), (7, .ref x12), (8, .int x13), (9, .int x15)]) hx hb dX0_fine_78 hl (by decide) rfl k) ?_
          refine Jbd (fun x24 ex24 => ?_)
          refine Jrow (fun H locs ls hH hS hl k => lv_iinc (v := x24) (lv' := [(9, .int x24), (5, .long x23), (10, .long x22), (0, .ref a0), (4, .ref x7), (7, .ref x12), (8, .int x13)]) hx hb dX0_fine_80 hl (k := 6) rfl (by rw [ex24]; rfl) (by decide) rfl k) ?_
          clear ex24
          refine Jrow (fun H locs ls hH hS hl k => lv_goto (tgt := 57) hx hb dX0_fine_83 (by decide) (k ls hl)) ?_
          exact Jsub [3, 4, 1, 5, 6, 0] rfl (hk16 x23 x24)

def fX0_runOf (a0 : Nat) (p1 : Nat) (p2 : Nat) (p3 : Int32) (σ : CS) : Option (Int32 × CS) :=
 gd (hf (cK σ p2) 83) (
 cl (cFR σ p2 83) (fun (x1 : Nat) =>
 gd (hf (cK σ x1) 50) (
 cl (cFR σ x1 50) (fun (x2 : Nat) =>
 lp (fun _ _ => none) (fun (k5 : Int32 → Int32 → Option (Int32 × CS)) (x3 : Int32) (x4 : Int32) =>
 gd (hf (cK σ p2) 82) (
 if (cFI σ p2 82) ≤ x4 then
 gd (hf (cK σ a0) 34) (
 cl (cFR σ a0 34) (fun (x6 : Nat) =>
 gd (hf (cK σ p2) 83) (
 cl (cFR σ p2 83) (fun (x7 : Nat) =>
 gd (kd σ x6 4) (
 cl2 (fX2_become x6 x7 σ) (fun (_ : Unit) (σ8 : CS) =>
 lp (fun _ _ _ => none) (fun (k13 : Int32 → Int32 → CS → Option (Int32 × CS)) (x10 : Int32) (x11 : Int32) (σ12 : CS) =>
 jn (fun (σ14 : CS) => some (((100:Int32) * x10) + x11, σ14)) (fun (k15 : CS → Option (Int32 × CS)) =>
 if (20:Int32) ≤ x11 then
 k15 σ12
 else
 gd (hf (cK σ12 a0) 34) (
 cl (cFR σ12 a0 34) (fun (x16 : Nat) =>
 gd (isX11 (cK σ12 p1)) (
 cl2 (vR_letsIn p1 x16 x11 σ12) (fun (x17 : Int32) (σ18 : CS) =>
 if x17 = (0:Int32) then
 bd (if x10 < (3:Int32) then x10 else (3:Int32)) (fun (x19 : Int32) =>
 gd (hf (cK σ18 x2) 63) (
 cl (cFR σ18 x2 63) (fun (x20 : Nat) =>
 gd (kd σ18 x20 101) (
 gd (ib (1:Int32) (cLN σ18 x20)) (
 if (x19 * (cAI σ18 x20 (1:Int32).toNatClampNeg)) ≤ ((((p3 * (13:Int32)) + (x11 * (29:Int32))) * (3:Int32)) - (((p3 * (13:Int32)) + (x11 * (29:Int32))) * (3:Int32)) / (1000:Int32) * (1000:Int32)) then
 gd (kd σ18 x2 6) (
 cl2 (fX5_give x2 σ18) (fun (x22 : Int32) (σ21 : CS) =>
 jn (fun (x23 : Int32) => gd (hf (cK σ21 a0) 34) (
 cl (cFR σ21 a0 34) (fun (x25 : Nat) =>
 gd (kd σ21 x25 4) (
 cl2 (fX2_day x25 σ21) (fun (_ : Unit) (σ26 : CS) =>
 bd (x11 + (1:Int32)) (fun (x28 : Int32) =>
 k13 x23 x28 σ26)))))) (fun (k24 : Int32 → Option (Int32 × CS)) =>
 if (x19 * x22) ≤ (((p3 * (7:Int32)) + (x11 * (11:Int32))) - ((p3 * (7:Int32)) + (x11 * (11:Int32))) / (1000:Int32) * (1000:Int32)) then
 k24 x10
 else
 gd (hf (cK σ21 p2) 82) (
 if (cFI σ21 p2 82) ≤ x10 then
 k24 x10
 else
 bd (x10 + (1:Int32)) (fun (x29 : Int32) =>
 k24 x29)))))
 else
 some (((10000:Int32) + ((100:Int32) * x10)) + x11, σ18))))))
 else
 k15 σ18)))))) NF x3 (0:Int32) σ8))))))
 else
 gd (hf (cK σ x2) 62) (
 cl (cFR σ x2 62) (fun (x33 : Nat) =>
 gd (hf (cK σ p2) 81) (
 gd (kd σ x33 101) (
 gd (ib (cFI σ p2 81) (cLN σ x33)) (
 jn (fun (x34 : Int32) => bd (x3 + x34) (fun (x36 : Int32) =>
 bd (x4 + (1:Int32)) (fun (x37 : Int32) =>
 k5 x36 x37))) (fun (k35 : Int32 → Option (Int32 × CS)) =>
 if (cAI σ x33 (cFI σ p2 81).toNatClampNeg) ≤ ((((p3 * (31:Int32)) + (x4 * (17:Int32))) * (7:Int32)) - (((p3 * (31:Int32)) + (x4 * (17:Int32))) * (7:Int32)) / (1000:Int32) * (1000:Int32)) then
 k35 (0:Int32)
 else
 k35 (1:Int32))))))))) NF (0:Int32) (0:Int32)))))
theorem nX0_runOf {a0 : Nat} {p1 : Nat} {p2 : Nat} {p3 : Int32} {σ : CS} : Mn σ (fX0_runOf a0 p1 p2 p3 σ) := by
  unfold fX0_runOf
  refine Mgd ?_
  refine Mcl (fun x1 => ?_)
  refine Mgd ?_
  refine Mcl (fun x2 => ?_)
  refine Plp2 (fun (x3 : Int32) (x4 : Int32) (X39 : Option (Int32 × CS)) => Mn σ X39) (fun _ _ => Mnone) (fun k5 hk5 x3 x4 => ?_)
  refine Mgd ?_
  refine Mite ?_ ?_
  · refine Mgd ?_
    refine Mcl (fun x6 => ?_)
    refine Mgd ?_
    refine Mcl (fun x7 => ?_)
    refine Mgd ?_
    refine Mcl2 (nX2_become) (fun _ σ8 => ?_)
    refine Plp3 (fun (x10 : Int32) (x11 : Int32) (σ12 : CS) (X32 : Option (Int32 × CS)) => Mn σ12 X32) (fun _ _ _ => Mnone) (fun k13 hk13 x10 x11 σ12 => ?_)
    refine Mjn1 (fun (σ14 : CS) (X31 : Option (Int32 × CS)) => Mn σ14 X31) (fun σ14 => ?_) (fun k15 hk15 => ?_)
    · exact Mret
    · refine Mite ?_ ?_
      · exact hk15 σ12
      · refine Mgd ?_
        refine Mcl (fun x16 => ?_)
        refine Mgd ?_
        refine Mcl2 nvR_letsIn (fun x17 σ18 => ?_)
        refine Mite ?_ ?_
        · refine Mbd (fun x19 => ?_)
          refine Mgd ?_
          refine Mcl (fun x20 => ?_)
          refine Mgd ?_
          refine Mgd ?_
          refine Mite ?_ ?_
          · refine Mgd ?_
            refine Mcl2 (nX5_give) (fun x22 σ21 => ?_)
            refine Mjn1 (fun (x23 : Int32) (X30 : Option (Int32 × CS)) => Mn σ21 X30) (fun x23 => ?_) (fun k24 hk24 => ?_)
            · refine Mgd ?_
              refine Mcl (fun x25 => ?_)
              refine Mgd ?_
              refine Mcl2 (nX2_day) (fun _ σ26 => ?_)
              refine Mbd (fun x28 => ?_)
              exact hk13 x23 x28 σ26
            · refine Mite ?_ ?_
              · exact hk24 x10
              · refine Mgd ?_
                refine Mite ?_ ?_
                · exact hk24 x10
                · refine Mbd (fun x29 => ?_)
                  exact hk24 x29
          · exact Mret
        · exact hk15 σ18
  · refine Mgd ?_
    refine Mcl (fun x33 => ?_)
    refine Mgd ?_
    refine Mgd ?_
    refine Mgd ?_
    refine Mjn1 (fun (x34 : Int32) (X38 : Option (Int32 × CS)) => Mn σ X38) (fun x34 => ?_) (fun k35 hk35 => ?_)
    · refine Mbd (fun x36 => ?_)
      refine Mbd (fun x37 => ?_)
      exact hk5 x36 x37
    · refine Mite ?_ ?_
      · exact hk35 (0:Int32)
      · exact hk35 (1:Int32)
set_option maxHeartbeats 4000000 in
set_option maxRecDepth 100000 in
theorem mX0_runOf (l : Launch) (E : CE) {a0 : Nat} {p1 : Nat} {p2 : Nat} {p3 : Int32} {σ : CS} {r : Int32} {σz : CS} (hX : fX0_runOf a0 p1 p2 p3 σ = some (r, σz)) : MetC l yX0_runOf (ws_ yX0_runOf cX0_runOf 8 (some .int)) 105 4124 E σ [.ref a0, .ref p1, .ref p2, .int p3] (some (.int r)) σz := by
  refine MetC.of hX (by decide) (Nat.le_of_ble_eq_true rfl) (nX0_runOf _ hX) ?_
  intro p e s m below meth c hx hb hr hml hts hown hlocks hnm hk hz0
  have hK := hk.1
  show J p l e (headSpec (ws_ yX0_runOf cX0_runOf 8 (some .int)) (rmC 105 4124 σ σz)).room s m ([.ref a0, .ref p1, .ref p2, .int p3] : List Value).toArray below meth c 8 E (cZ σ) (cS σ) (MQ below (cQ E (some (.int r)) σz) ([.ref a0, .ref p1, .ref p2, .int p3] : List Value).toArray s (cZ σz - cZ σ) (cS σz - cS σ) (EA E)) (r, σz) (fX0_runOf a0 p1 p2 p3 σ) σ 0 [(0, .ref a0), (1, .ref p1), (2, .ref p2), (3, .int p3)] []
  unfold fX0_runOf
  refine Jrow (fun H locs ls hH hS hl k => lv_aload_n hx hb dX0_runOf_0 rfl (lv_at hl 2 rfl) (k ls hl)) ?_
  refine Jgd (fun hg => ?_)
  refine Jcl (fun x1 hq => ?_)
  refine Jrow (fun H locs ls hH hS hl k => c_getN (F := 83) (v := .ref x1) hx hb hts hown hK hH hg (cN hk.2.2.1 22 rfl) (fun _ h => h) (fvR rfl hq) dX0_runOf_1 (k ls hl)) ?_
  clear hq
  refine Jgd (fun hg => ?_)
  refine Jcl (fun x2 hq => ?_)
  refine Jrow (fun H locs ls hH hS hl k => c_getN (F := 50) (v := .ref x2) hx hb hts hown hK hH hg (cN hk.2.2.1 11 rfl) (fun _ h => h) (fvR rfl hq) dX0_runOf_4 (k ls hl)) ?_
  clear hq
  refine Jrow (fun H locs ls hH hS hl k => lv_astore (lv' := [(4, .ref x2), (0, .ref a0), (1, .ref p1), (2, .ref p2), (3, .int p3)]) hx hb dX0_runOf_7 hl (by decide) rfl k) ?_
  refine Jrow (fun H locs ls hH hS hl k => lv_iconst (v := (0:Int32)) hx hb dX0_runOf_9 (by decide) (k ls hl)) ?_
  refine Jrow (fun H locs ls hH hS hl k => lv_istore (lv' := [(5, .int (0:Int32)), (4, .ref x2), (0, .ref a0), (1, .ref p1), (2, .ref p2), (3, .int p3)]) hx hb dX0_runOf_10 hl (by decide) rfl k) ?_
  refine Jrow (fun H locs ls hH hS hl k => lv_iconst (v := (0:Int32)) hx hb dX0_runOf_12 (by decide) (k ls hl)) ?_
  refine Jrow (fun H locs ls hH hS hl k => lv_istore (lv' := [(6, .int (0:Int32)), (5, .int (0:Int32)), (4, .ref x2), (0, .ref a0), (1, .ref p1), (2, .ref p2), (3, .int p3)]) hx hb dX0_runOf_13 hl (by decide) rfl k) ?_
  refine Jsub [3, 4, 5, 6, 2, 1, 0] rfl (Plp2 (fun (x3 : Int32) (x4 : Int32) X39 => J p l e (headSpec (ws_ yX0_runOf cX0_runOf 8 (some .int)) (rmC 105 4124 σ σz)).room s m ([.ref a0, .ref p1, .ref p2, .int p3] : List Value).toArray below meth c 8 E (cZ σ) (cS σ) (MQ below (cQ E (some (.int r)) σz) ([.ref a0, .ref p1, .ref p2, .int p3] : List Value).toArray s (cZ σz - cZ σ) (cS σz - cS σ) (EA E)) (r, σz) X39 σ 15 [(0, .ref a0), (1, .ref p1), (2, .ref p2), (3, .int p3), (4, .ref x2), (5, .int x3), (6, .int x4)] []) (fun _ _ => Jnone) (fun k5 hk5 x3 x4 => ?_))
  refine Jrow (fun H locs ls hH hS hl k => lv_iload hx hb dX0_runOf_15 (lv_at hl 6 rfl) (k ls hl)) ?_
  refine Jrow (fun H locs ls hH hS hl k => lv_aload_n hx hb dX0_runOf_17 rfl (lv_at hl 2 rfl) (k ls hl)) ?_
  refine Jgd (fun hg => ?_)
  refine Jrow (fun H locs ls hH hS hl k => c_getN (F := 82) (v := .int (cFI σ p2 82)) hx hb hts hown hK hH hg (cN hk.2.2.1 21 rfl) (fun _ h => h) rfl dX0_runOf_18 (k ls hl)) ?_
  refine Jite (fun hc => ?_) (fun hc => ?_)
  · refine Jrow (fun H locs ls hH hS hl k => lv_icmp_ge (tgt := 70) hx hb dX0_runOf_21 (by decide) (fun _ => (k ls hl)) (fun h => absurd hc h)) ?_
    clear hc
    refine Jrow (fun H locs ls hH hS hl k => lv_aload_n hx hb dX0_runOf_70 rfl (lv_at hl 0 rfl) (k ls hl)) ?_
    refine Jgd (fun hg => ?_)
    refine Jcl (fun x6 hq => ?_)
    refine Jrow (fun H locs ls hH hS hl k => c_get (F := 34) (v := .ref x6) hx hb hts hown hK hH hg (hts _ q264) (fun _ h => h) (fvR rfl hq) dX0_runOf_71 (k ls hl)) ?_
    clear hq
    refine Jrow (fun H locs ls hH hS hl k => lv_aload_n hx hb dX0_runOf_74 rfl (lv_at hl 2 rfl) (k ls hl)) ?_
    refine Jgd (fun hg => ?_)
    refine Jcl (fun x7 hq => ?_)
    refine Jrow (fun H locs ls hH hS hl k => c_getN (F := 83) (v := .ref x7) hx hb hts hown hK hH hg (cN hk.2.2.1 22 rfl) (fun _ h => h) (fvR rfl hq) dX0_runOf_75 (k ls hl)) ?_
    clear hq
    refine Jgd (fun hg => ?_)
    refine Jcl2 (fun _ σ8 hf => ?_)
    refine Jcall (v := none) (rest := []) (mX2_become l E hf).1 ⟨rfl, rfl⟩ (fun H locs ls hH hS hl hR => ⟨_, va_runV (C := RX2) (As := [.ref x7]) ⟨hx, hb, hml, hown, hts⟩ (mX2_become l E hf).2 (cwV 1 hts (lw_V q969 q918 q919 q93 q920) rfl rfl rfl (by decide +kernel) ⟨Nat.le_of_ble_eq_true rfl, Nat.le_of_ble_eq_true rfl⟩) (c_preV (ci := 3) hk hH hS hg rfl) rfl rfl hl.1 rfl (lv_room (Nat.le_of_ble_eq_true rfl)) dX0_runOf_78 hR⟩) ?_
    clear hf
    refine Jrow (fun H locs ls hH hS hl k => lv_iconst (v := (0:Int32)) hx hb dX0_runOf_81 (by decide) (k ls hl)) ?_
    refine Jrow (fun H locs ls hH hS hl k => lv_istore (lv' := [(6, .int (0:Int32)), (0, .ref a0), (1, .ref p1), (2, .ref p2), (3, .int p3), (4, .ref x2), (5, .int x3)]) hx hb dX0_runOf_82 hl (by decide) rfl k) ?_
    refine Jsub [1, 2, 3, 4, 5, 6, 0] rfl (Plp3 (fun (x10 : Int32) (x11 : Int32) (σ12 : CS) X32 => J p l e (headSpec (ws_ yX0_runOf cX0_runOf 8 (some .int)) (rmC 105 4124 σ σz)).room s m ([.ref a0, .ref p1, .ref p2, .int p3] : List Value).toArray below meth c 8 E (cZ σ) (cS σ) (MQ below (cQ E (some (.int r)) σz) ([.ref a0, .ref p1, .ref p2, .int p3] : List Value).toArray s (cZ σz - cZ σ) (cS σz - cS σ) (EA E)) (r, σz) X32 σ12 84 [(0, .ref a0), (1, .ref p1), (2, .ref p2), (3, .int p3), (4, .ref x2), (5, .int x10), (6, .int x11)] []) (fun _ _ _ => Jnone) (fun k13 hk13 x10 x11 σ12 => ?_))
    refine Jrow (fun H locs ls hH hS hl k => lv_iload hx hb dX0_runOf_84 (lv_at hl 6 rfl) (k ls hl)) ?_
    refine Jrow (fun H locs ls hH hS hl k => lv_bipush (v := (20:Int32)) hx hb dX0_runOf_86 (by decide) (k ls hl)) ?_
    refine Jjn1 (fun (σ14 : CS) X31 => J p l e (headSpec (ws_ yX0_runOf cX0_runOf 8 (some .int)) (rmC 105 4124 σ σz)).room s m ([.ref a0, .ref p1, .ref p2, .int p3] : List Value).toArray below meth c 8 E (cZ σ) (cS σ) (MQ below (cQ E (some (.int r)) σz) ([.ref a0, .ref p1, .ref p2, .int p3] : List Value).toArray s (cZ σz - cZ σ) (cS σz - cS σ) (EA E)) (r, σz) X31 σ14 204 [(5, .int x10), (6, .int x11)] []) (fun σ14 => ?_) (fun k15 hk15 => ?_)
    · refine Jrow (fun H locs ls hH hS hl k => lv_bipush (v := (100:Int32)) hx hb dX0_runOf_204 (by decide) (k ls hl)) ?_
      refine Jrow (fun H locs ls hH hS hl k => lv_iload hx hb dX0_runOf_206 (lv_at hl 0 rfl) (k ls hl)) ?_
      refine Jrow (fun H locs ls hH hS hl k => lv_imul hx hb dX0_runOf_208 (k ls hl)) ?_
      refine Jrow (fun H locs ls hH hS hl k => lv_iload hx hb dX0_runOf_209 (lv_at hl 1 rfl) (k ls hl)) ?_
      refine Jrow (fun H locs ls hH hS hl k => lv_iadd hx hb dX0_runOf_211 (k ls hl)) ?_
      exact Jiret hx hb hr hlocks dX0_runOf_212
    · refine Jite (fun hc => ?_) (fun hc => ?_)
      · refine Jrow (fun H locs ls hH hS hl k => lv_icmp_ge (tgt := 204) hx hb dX0_runOf_88 (by decide) (fun _ => (k ls hl)) (fun h => absurd hc h)) ?_
        clear hc
        exact Jsub [5, 6] rfl (hk15 σ12)
      · refine Jrow (fun H locs ls hH hS hl k => lv_icmp_ge (tgt := 204) hx hb dX0_runOf_88 (by decide) (fun h => absurd h hc) (fun _ => (k ls hl))) ?_
        clear hc
        refine Jrow (fun H locs ls hH hS hl k => lv_aload_n hx hb dX0_runOf_91 rfl (lv_at hl 1 rfl) (k ls hl)) ?_
        refine Jrow (fun H locs ls hH hS hl k => lv_aload_n hx hb dX0_runOf_92 rfl (lv_at hl 0 rfl) (k ls hl)) ?_
        refine Jgd (fun hg => ?_)
        refine Jcl (fun x16 hq => ?_)
        refine Jrow (fun H locs ls hH hS hl k => c_get (F := 34) (v := .ref x16) hx hb hts hown hK hH hg (hts _ q264) (fun _ h => h) (fvR rfl hq) dX0_runOf_93 (k ls hl)) ?_
        clear hq
        refine Jrow (fun H locs ls hH hS hl k => lv_iload hx hb dX0_runOf_96 (lv_at hl 6 rfl) (k ls hl)) ?_
        refine Jgd (fun hg0 => ?_)
        refine Jcl2 (fun x17 σ18 hf => ?_)
        refine Jcall (v := (some (.int x17))) (rest := []) (nvR_letsIn _ hf) ⟨rfl, rfl⟩ (fun H locs ls hH hS hl hR => ?_) ?_
        · rcases vR_letsIn_s l E hf with ⟨hg, hM⟩ | ⟨hg, hM⟩ | ⟨hg, hM⟩ | ⟨hg, hM⟩ | ⟨hg, hM⟩ | ⟨hg, hM⟩ | ⟨hg, hM⟩
          · exact ⟨_, va_runU (C := RX11) (As := [.ref x16, .int x11]) ⟨hx, hb, hml, hown, hts⟩ hM.2 (va_cwU (owner := "FortyDays$Rule") 2 hts (lw_app (by
                intro w hw
                simp only [List.mem_cons, List.not_mem_nil, or_false] at hw
                rcases hw with e | e | e | e | e
                · rw [e]; exact q906
                · rw [e]; exact q909
                · rw [e]; exact q908
                · rw [e]; exact q907
                · rw [e]; exact q113) (lw_meth q956)) rfl rfl rfl rfl (by decide +kernel) ⟨Nat.le_of_ble_eq_true rfl, Nat.le_of_ble_eq_true rfl⟩) (c_preV (ci := 11) hk hH hS hg rfl) rfl rfl hl.1 rfl (lv_room (Nat.le_of_ble_eq_true rfl)) dX0_runOf_98 hR⟩
          · exact ⟨_, va_runU (C := RX12) (As := [.ref x16, .int x11]) ⟨hx, hb, hml, hown, hts⟩ hM.2 (va_cwO (owner := "FortyDays$Rule") 2 hts (lw_app (by
                intro w hw
                simp only [List.mem_cons, List.not_mem_nil, or_false] at hw
                rcases hw with e | e | e | e | e | e
                · rw [e]; exact q906
                · rw [e]; exact q909
                · rw [e]; exact q907
                · rw [e]; exact q942
                · rw [e]; exact q943
                · rw [e]; exact q114) (lw_meth q944)) rfl rfl rfl q956 (by decide +kernel) ⟨Nat.le_of_ble_eq_true rfl, Nat.le_of_ble_eq_true rfl⟩) (c_preV (ci := 12) hk hH hS hg rfl) rfl rfl hl.1 rfl (lv_room (Nat.le_of_ble_eq_true rfl)) dX0_runOf_98 hR⟩
          · exact ⟨_, va_runU (C := RX13) (As := [.ref x16, .int x11]) ⟨hx, hb, hml, hown, hts⟩ hM.2 (va_cwO (owner := "FortyDays$Rule") 2 hts (lw_app (by
                intro w hw
                simp only [List.mem_cons, List.not_mem_nil, or_false] at hw
                rcases hw with e | e | e | e | e | e
                · rw [e]; exact q906
                · rw [e]; exact q909
                · rw [e]; exact q907
                · rw [e]; exact q945
                · rw [e]; exact q946
                · rw [e]; exact q115) (lw_meth q947)) rfl rfl rfl q956 (by decide +kernel) ⟨Nat.le_of_ble_eq_true rfl, Nat.le_of_ble_eq_true rfl⟩) (c_preV (ci := 13) hk hH hS hg rfl) rfl rfl hl.1 rfl (lv_room (Nat.le_of_ble_eq_true rfl)) dX0_runOf_98 hR⟩
          · exact ⟨_, va_runU (C := RX14) (As := [.ref x16, .int x11]) ⟨hx, hb, hml, hown, hts⟩ hM.2 (va_cwO (owner := "FortyDays$Rule") 2 hts (lw_app (by
                intro w hw
                simp only [List.mem_cons, List.not_mem_nil, or_false] at hw
                rcases hw with e | e | e | e | e | e
                · rw [e]; exact q906
                · rw [e]; exact q909
                · rw [e]; exact q907
                · rw [e]; exact q948
                · rw [e]; exact q943
                · rw [e]; exact q114) (lw_meth q944)) rfl rfl rfl q956 (by decide +kernel) ⟨Nat.le_of_ble_eq_true rfl, Nat.le_of_ble_eq_true rfl⟩) (c_preV (ci := 14) hk hH hS hg rfl) rfl rfl hl.1 rfl (lv_room (Nat.le_of_ble_eq_true rfl)) dX0_runOf_98 hR⟩
          · exact ⟨_, va_runU (C := RX15) (As := [.ref x16, .int x11]) ⟨hx, hb, hml, hown, hts⟩ hM.2 (va_cwO (owner := "FortyDays$Rule") 2 hts (lw_app (by
                intro w hw
                simp only [List.mem_cons, List.not_mem_nil, or_false] at hw
                rcases hw with e | e | e | e | e | e
                · rw [e]; exact q906
                · rw [e]; exact q909
                · rw [e]; exact q907
                · rw [e]; exact q949
                · rw [e]; exact q950
                · rw [e]; exact q117) (lw_meth q951)) rfl rfl rfl q956 (by decide +kernel) ⟨Nat.le_of_ble_eq_true rfl, Nat.le_of_ble_eq_true rfl⟩) (c_preV (ci := 15) hk hH hS hg rfl) rfl rfl hl.1 rfl (lv_room (Nat.le_of_ble_eq_true rfl)) dX0_runOf_98 hR⟩
          · exact ⟨_, va_runU (C := RX16) (As := [.ref x16, .int x11]) ⟨hx, hb, hml, hown, hts⟩ hM.2 (va_cwO (owner := "FortyDays$Rule") 2 hts (lw_app (by
                intro w hw
                simp only [List.mem_cons, List.not_mem_nil, or_false] at hw
                rcases hw with e | e | e | e | e | e
                · rw [e]; exact q906
                · rw [e]; exact q909
                · rw [e]; exact q907
                · rw [e]; exact q953
                · rw [e]; exact q954
                · rw [e]; exact q118) (lw_meth q955)) rfl rfl rfl q956 (by decide +kernel) ⟨Nat.le_of_ble_eq_true rfl, Nat.le_of_ble_eq_true rfl⟩) (c_preV (ci := 16) hk hH hS hg rfl) rfl rfl hl.1 rfl (lv_room (Nat.le_of_ble_eq_true rfl)) dX0_runOf_98 hR⟩
          · exact ⟨_, va_runU (C := RX17) (As := [.ref x16, .int x11]) ⟨hx, hb, hml, hown, hts⟩ hM.2 (va_cwO (owner := "FortyDays$Rule") 2 hts (lw_app (by
                intro w hw
                simp only [List.mem_cons, List.not_mem_nil, or_false] at hw
                rcases hw with e | e | e | e | e | e
                · rw [e]; exact q906
                · rw [e]; exact q909
                · rw [e]; exact q907
                · rw [e]; exact q910
                · rw [e]; exact q911
                · rw [e]; exact q119) (lw_meth q912)) rfl rfl rfl q956 (by decide +kernel) ⟨Nat.le_of_ble_eq_true rfl, Nat.le_of_ble_eq_true rfl⟩) (c_preV (ci := 17) hk hH hS hg rfl) rfl rfl hl.1 rfl (lv_room (Nat.le_of_ble_eq_true rfl)) dX0_runOf_98 hR⟩
        clear hf
        refine Jite (fun hc => ?_) (fun hc => ?_)
        · refine Jrow (fun H locs ls hH hS hl k => lv_if_ne (tgt := 204) hx hb dX0_runOf_101 (by decide) (fun h => absurd hc h) (fun _ => (k ls hl))) ?_
          clear hc
          refine Jrow (fun H locs ls hH hS hl k => lv_iconst (v := (3:Int32)) hx hb dX0_runOf_104 (by decide) (k ls hl)) ?_
          refine Jrow (fun H locs ls hH hS hl k => lv_iload hx hb dX0_runOf_105 (lv_at hl 5 rfl) (k ls hl)) ?_
          refine JrowB ⟨rfl, rfl⟩ (fun H locs ls hH hS hl h1 h2 k => va_mmin hx hb (hml.trans hl.1.symm) hown (hts _ q1094) (hts _ q585) (hts _ q104) (hts _ q586) (Nat.le_of_ble_eq_true rfl) (Nat.le_of_ble_eq_true rfl) h1 h2 dX0_runOf_107 (k ls hl)) ?_
          refine JbdI (fun x19 => ?_)
          refine Jrow (fun H locs ls hH hS hl k => lv_istore (lv' := [(7, .int x19), (0, .ref a0), (1, .ref p1), (2, .ref p2), (3, .int p3), (4, .ref x2), (5, .int x10), (6, .int x11)]) hx hb dX0_runOf_110 hl (by decide) rfl k) ?_
          refine Jrow (fun H locs ls hH hS hl k => lv_iload_n hx hb dX0_runOf_112 rfl (lv_at hl 4 rfl) (k ls hl)) ?_
          refine Jrow (fun H locs ls hH hS hl k => lv_bipush (v := (13:Int32)) hx hb dX0_runOf_113 (by decide) (k ls hl)) ?_
          refine Jrow (fun H locs ls hH hS hl k => lv_imul hx hb dX0_runOf_115 (k ls hl)) ?_
          refine Jrow (fun H locs ls hH hS hl k => lv_iload hx hb dX0_runOf_116 (lv_at hl 7 rfl) (k ls hl)) ?_
          refine Jrow (fun H locs ls hH hS hl k => lv_bipush (v := (29:Int32)) hx hb dX0_runOf_118 (by decide) (k ls hl)) ?_
          refine Jrow (fun H locs ls hH hS hl k => lv_imul hx hb dX0_runOf_120 (k ls hl)) ?_
          refine Jrow (fun H locs ls hH hS hl k => lv_iadd hx hb dX0_runOf_121 (k ls hl)) ?_
          refine Jrow (fun H locs ls hH hS hl k => lv_iconst (v := (3:Int32)) hx hb dX0_runOf_122 (by decide) (k ls hl)) ?_
          refine Jrow (fun H locs ls hH hS hl k => lv_imul hx hb dX0_runOf_123 (k ls hl)) ?_
          refine Jrow (fun H locs ls hH hS hl k => lv_sipush (v := (1000:Int32)) hx hb dX0_runOf_124 (by decide) (k ls hl)) ?_
          refine Jrow (fun H locs ls hH hS hl k => lv_irem hx hb dX0_runOf_127 (by decide) (k ls hl)) ?_
          refine Jrow (fun H locs ls hH hS hl k => lv_iload hx hb dX0_runOf_128 (lv_at hl 0 rfl) (k ls hl)) ?_
          refine Jrow (fun H locs ls hH hS hl k => lv_aload hx hb dX0_runOf_130 (lv_at hl 5 rfl) (k ls hl)) ?_
          refine Jgd (fun hg => ?_)
          refine Jcl (fun x20 hq => ?_)
          refine Jrow (fun H locs ls hH hS hl k => c_getN (F := 63) (v := .ref x20) hx hb hts hown hK hH hg (cN hk.2.2.1 17 rfl) (fun _ h => h) (fvR rfl hq) dX0_runOf_132 (k ls hl)) ?_
          clear hq
          refine Jrow (fun H locs ls hH hS hl k => lv_iconst (v := (1:Int32)) hx hb dX0_runOf_135 (by decide) (k ls hl)) ?_
          refine Jgd (fun hk1 => ?_)
          refine Jgd (fun hg => ?_)
          refine Jrow (fun H locs ls hH hS hl k => c_iald hx hb hK hH hk1 hg dX0_runOf_136 (k ls hl)) ?_
          refine Jrow (fun H locs ls hH hS hl k => lv_imul hx hb dX0_runOf_137 (k ls hl)) ?_
          refine Jite (fun hc => ?_) (fun hc => ?_)
          · refine Jrow (fun H locs ls hH hS hl k => lv_icmp_ge (tgt := 154) hx hb dX0_runOf_138 (by decide) (fun _ => (k ls hl)) (fun h => absurd hc h)) ?_
            clear hc
            refine Jrow (fun H locs ls hH hS hl k => lv_iload_n hx hb dX0_runOf_154 rfl (lv_at hl 4 rfl) (k ls hl)) ?_
            refine Jrow (fun H locs ls hH hS hl k => lv_bipush (v := (7:Int32)) hx hb dX0_runOf_155 (by decide) (k ls hl)) ?_
            refine Jrow (fun H locs ls hH hS hl k => lv_imul hx hb dX0_runOf_157 (k ls hl)) ?_
            refine Jrow (fun H locs ls hH hS hl k => lv_iload hx hb dX0_runOf_158 (lv_at hl 7 rfl) (k ls hl)) ?_
            refine Jrow (fun H locs ls hH hS hl k => lv_bipush (v := (11:Int32)) hx hb dX0_runOf_160 (by decide) (k ls hl)) ?_
            refine Jrow (fun H locs ls hH hS hl k => lv_imul hx hb dX0_runOf_162 (k ls hl)) ?_
            refine Jrow (fun H locs ls hH hS hl k => lv_iadd hx hb dX0_runOf_163 (k ls hl)) ?_
            refine Jrow (fun H locs ls hH hS hl k => lv_sipush (v := (1000:Int32)) hx hb dX0_runOf_164 (by decide) (k ls hl)) ?_
            refine Jrow (fun H locs ls hH hS hl k => lv_irem hx hb dX0_runOf_167 (by decide) (k ls hl)) ?_
            refine Jrow (fun H locs ls hH hS hl k => lv_iload hx hb dX0_runOf_168 (lv_at hl 0 rfl) (k ls hl)) ?_
            refine Jrow (fun H locs ls hH hS hl k => lv_aload hx hb dX0_runOf_170 (lv_at hl 5 rfl) (k ls hl)) ?_
            refine Jgd (fun hg => ?_)
            refine Jcl2 (fun x22 σ21 hf => ?_)
            refine Jcall (v := (some (.int x22))) (rest := [.int x19, .int (((p3 * (7:Int32)) + (x11 * (11:Int32))) - ((p3 * (7:Int32)) + (x11 * (11:Int32))) / (1000:Int32) * (1000:Int32))]) (mX5_give l E hf).1 ⟨rfl, rfl⟩ (fun H locs ls hH hS hl hR => ⟨_, va_runV (C := RX5) (As := []) ⟨hx, hb, hml, hown, hts⟩ (mX5_give l E hf).2 (cwV 0 hts (lw_V q1095 q733 q734 q96 q735) rfl rfl rfl (by decide +kernel) ⟨Nat.le_of_ble_eq_true rfl, Nat.le_of_ble_eq_true rfl⟩) (c_preV (ci := 5) hk hH hS hg rfl) rfl rfl hl.1 rfl (lv_room (Nat.le_of_ble_eq_true rfl)) dX0_runOf_172 hR⟩) ?_
            clear hf
            refine Jrow (fun H locs ls hH hS hl k => lv_imul hx hb dX0_runOf_175 (k ls hl)) ?_
            refine Jjn1 (fun (x23 : Int32) X30 => J p l e (headSpec (ws_ yX0_runOf cX0_runOf 8 (some .int)) (rmC 105 4124 σ σz)).room s m ([.ref a0, .ref p1, .ref p2, .int p3] : List Value).toArray below meth c 8 E (cZ σ) (cS σ) (MQ below (cQ E (some (.int r)) σz) ([.ref a0, .ref p1, .ref p2, .int p3] : List Value).toArray s (cZ σz - cZ σ) (cS σz - cS σ) (EA E)) (r, σz) X30 σ21 191 [(0, .ref a0), (1, .ref p1), (2, .ref p2), (3, .int p3), (4, .ref x2), (5, .int x23), (6, .int x11)] []) (fun x23 => ?_) (fun k24 hk24 => ?_)
            · refine Jrow (fun H locs ls hH hS hl k => lv_aload_n hx hb dX0_runOf_191 rfl (lv_at hl 0 rfl) (k ls hl)) ?_
              refine Jgd (fun hg => ?_)
              refine Jcl (fun x25 hq => ?_)
              refine Jrow (fun H locs ls hH hS hl k => c_get (F := 34) (v := .ref x25) hx hb hts hown hK hH hg (hts _ q264) (fun _ h => h) (fvR rfl hq) dX0_runOf_192 (k ls hl)) ?_
              clear hq
              refine Jgd (fun hg => ?_)
              refine Jcl2 (fun _ σ26 hf => ?_)
              refine Jcall (v := none) (rest := []) (mX2_day l E hf).1 ⟨rfl, rfl⟩ (fun H locs ls hH hS hl hR => ⟨_, va_runV (C := RX2) (As := []) ⟨hx, hb, hml, hown, hts⟩ (mX2_day l E hf).2 (cwV 0 hts (lw_V q728 q729 q730 q93 q731) rfl rfl rfl (by decide +kernel) ⟨Nat.le_of_ble_eq_true rfl, Nat.le_of_ble_eq_true rfl⟩) (c_preV (ci := 3) hk hH hS hg rfl) rfl rfl hl.1 rfl (lv_room (Nat.le_of_ble_eq_true rfl)) dX0_runOf_195 hR⟩) ?_
              clear hf
              refine Jbd (fun x28 ex28 => ?_)
              refine Jrow (fun H locs ls hH hS hl k => lv_iinc (v := x28) (lv' := [(6, .int x28), (0, .ref a0), (1, .ref p1), (2, .ref p2), (3, .int p3), (4, .ref x2), (5, .int x23)]) hx hb dX0_runOf_198 hl (k := 6) rfl (by rw [ex28]; rfl) (by decide) rfl k) ?_
              clear ex28
              refine Jrow (fun H locs ls hH hS hl k => lv_goto (tgt := 84) hx hb dX0_runOf_201 (by decide) (k ls hl)) ?_
              exact Jsub [1, 2, 3, 4, 5, 6, 0] rfl (hk13 x23 x28 σ26)
            · refine Jite (fun hc => ?_) (fun hc => ?_)
              · refine Jrow (fun H locs ls hH hS hl k => lv_icmp_ge (tgt := 191) hx hb dX0_runOf_176 (by decide) (fun _ => (k ls hl)) (fun h => absurd hc h)) ?_
                clear hc
                exact Jsub [1, 2, 3, 4, 5, 6, 7] rfl (hk24 x10)
              · refine Jrow (fun H locs ls hH hS hl k => lv_icmp_ge (tgt := 191) hx hb dX0_runOf_176 (by decide) (fun h => absurd h hc) (fun _ => (k ls hl))) ?_
                clear hc
                refine Jrow (fun H locs ls hH hS hl k => lv_iload hx hb dX0_runOf_179 (lv_at hl 6 rfl) (k ls hl)) ?_
                refine Jrow (fun H locs ls hH hS hl k => lv_aload_n hx hb dX0_runOf_181 rfl (lv_at hl 3 rfl) (k ls hl)) ?_
                refine Jgd (fun hg => ?_)
                refine Jrow (fun H locs ls hH hS hl k => c_getN (F := 82) (v := .int (cFI σ21 p2 82)) hx hb hts hown hK hH hg (cN hk.2.2.1 21 rfl) (fun _ h => h) rfl dX0_runOf_182 (k ls hl)) ?_
                refine Jite (fun hc => ?_) (fun hc => ?_)
                · refine Jrow (fun H locs ls hH hS hl k => lv_icmp_ge (tgt := 191) hx hb dX0_runOf_185 (by decide) (fun _ => (k ls hl)) (fun h => absurd hc h)) ?_
                  clear hc
                  exact Jsub [1, 2, 3, 4, 5, 6, 7] rfl (hk24 x10)
                · refine Jrow (fun H locs ls hH hS hl k => lv_icmp_ge (tgt := 191) hx hb dX0_runOf_185 (by decide) (fun h => absurd h hc) (fun _ => (k ls hl))) ?_
                  clear hc
                  refine Jbd (fun x29 ex29 => ?_)
                  refine Jrow (fun H locs ls hH hS hl k => lv_iinc (v := x29) (lv' := [(5, .int x29), (7, .int x19), (0, .ref a0), (1, .ref p1), (2, .ref p2), (3, .int p3), (4, .ref x2), (6, .int x11)]) hx hb dX0_runOf_188 hl (k := 6) rfl (by rw [ex29]; rfl) (by decide) rfl k) ?_
                  clear ex29
                  exact Jsub [2, 3, 4, 5, 6, 0, 7] rfl (hk24 x29)
          · refine Jrow (fun H locs ls hH hS hl k => lv_icmp_ge (tgt := 154) hx hb dX0_runOf_138 (by decide) (fun h => absurd h hc) (fun _ => (k ls hl))) ?_
            clear hc
            refine Jrow (fun H locs ls hH hS hl k => lv_sipush (v := (10000:Int32)) hx hb dX0_runOf_141 (by decide) (k ls hl)) ?_
            refine Jrow (fun H locs ls hH hS hl k => lv_bipush (v := (100:Int32)) hx hb dX0_runOf_144 (by decide) (k ls hl)) ?_
            refine Jrow (fun H locs ls hH hS hl k => lv_iload hx hb dX0_runOf_146 (lv_at hl 6 rfl) (k ls hl)) ?_
            refine Jrow (fun H locs ls hH hS hl k => lv_imul hx hb dX0_runOf_148 (k ls hl)) ?_
            refine Jrow (fun H locs ls hH hS hl k => lv_iadd hx hb dX0_runOf_149 (k ls hl)) ?_
            refine Jrow (fun H locs ls hH hS hl k => lv_iload hx hb dX0_runOf_150 (lv_at hl 7 rfl) (k ls hl)) ?_
            refine Jrow (fun H locs ls hH hS hl k => lv_iadd hx hb dX0_runOf_152 (k ls hl)) ?_
            exact Jiret hx hb hr hlocks dX0_runOf_153
        · refine Jrow (fun H locs ls hH hS hl k => lv_if_ne (tgt := 204) hx hb dX0_runOf_101 (by decide) (fun _ => (k ls hl)) (fun h => absurd h hc)) ?_
          clear hc
          exact Jsub [5, 6] rfl (hk15 σ18)
  · refine Jrow (fun H locs ls hH hS hl k => lv_icmp_ge (tgt := 70) hx hb dX0_runOf_21 (by decide) (fun h => absurd h hc) (fun _ => (k ls hl))) ?_
    clear hc
    refine Jrow (fun H locs ls hH hS hl k => lv_iload hx hb dX0_runOf_24 (lv_at hl 5 rfl) (k ls hl)) ?_
    refine Jrow (fun H locs ls hH hS hl k => lv_iload_n hx hb dX0_runOf_26 rfl (lv_at hl 3 rfl) (k ls hl)) ?_
    refine Jrow (fun H locs ls hH hS hl k => lv_bipush (v := (31:Int32)) hx hb dX0_runOf_27 (by decide) (k ls hl)) ?_
    refine Jrow (fun H locs ls hH hS hl k => lv_imul hx hb dX0_runOf_29 (k ls hl)) ?_
    refine Jrow (fun H locs ls hH hS hl k => lv_iload hx hb dX0_runOf_30 (lv_at hl 6 rfl) (k ls hl)) ?_
    refine Jrow (fun H locs ls hH hS hl k => lv_bipush (v := (17:Int32)) hx hb dX0_runOf_32 (by decide) (k ls hl)) ?_
    refine Jrow (fun H locs ls hH hS hl k => lv_imul hx hb dX0_runOf_34 (k ls hl)) ?_
    refine Jrow (fun H locs ls hH hS hl k => lv_iadd hx hb dX0_runOf_35 (k ls hl)) ?_
    refine Jrow (fun H locs ls hH hS hl k => lv_bipush (v := (7:Int32)) hx hb dX0_runOf_36 (by decide) (k ls hl)) ?_
    refine Jrow (fun H locs ls hH hS hl k => lv_imul hx hb dX0_runOf_38 (k ls hl)) ?_
    refine Jrow (fun H locs ls hH hS hl k => lv_sipush (v := (1000:Int32)) hx hb dX0_runOf_39 (by decide) (k ls hl)) ?_
    refine Jrow (fun H locs ls hH hS hl k => lv_irem hx hb dX0_runOf_42 (by decide) (k ls hl)) ?_
    refine Jrow (fun H locs ls hH hS hl k => lv_aload hx hb dX0_runOf_43 (lv_at hl 4 rfl) (k ls hl)) ?_
    refine Jgd (fun hg => ?_)
    refine Jcl (fun x33 hq => ?_)
    refine Jrow (fun H locs ls hH hS hl k => c_getN (F := 62) (v := .ref x33) hx hb hts hown hK hH hg (cN hk.2.2.1 16 rfl) (fun _ h => h) (fvR rfl hq) dX0_runOf_45 (k ls hl)) ?_
    clear hq
    refine Jrow (fun H locs ls hH hS hl k => lv_aload_n hx hb dX0_runOf_48 rfl (lv_at hl 2 rfl) (k ls hl)) ?_
    refine Jgd (fun hg => ?_)
    refine Jrow (fun H locs ls hH hS hl k => c_getN (F := 81) (v := .int (cFI σ p2 81)) hx hb hts hown hK hH hg (cN hk.2.2.1 20 rfl) (fun _ h => h) rfl dX0_runOf_49 (k ls hl)) ?_
    refine Jgd (fun hk1 => ?_)
    refine Jgd (fun hg => ?_)
    refine Jrow (fun H locs ls hH hS hl k => c_iald hx hb hK hH hk1 hg dX0_runOf_52 (k ls hl)) ?_
    refine Jjn1 (fun (x34 : Int32) X38 => J p l e (headSpec (ws_ yX0_runOf cX0_runOf 8 (some .int)) (rmC 105 4124 σ σz)).room s m ([.ref a0, .ref p1, .ref p2, .int p3] : List Value).toArray below meth c 8 E (cZ σ) (cS σ) (MQ below (cQ E (some (.int r)) σz) ([.ref a0, .ref p1, .ref p2, .int p3] : List Value).toArray s (cZ σz - cZ σ) (cS σz - cS σ) (EA E)) (r, σz) X38 σ 61 [(0, .ref a0), (1, .ref p1), (2, .ref p2), (3, .int p3), (4, .ref x2), (6, .int x4)] [.int x34, .int x3]) (fun x34 => ?_) (fun k35 hk35 => ?_)
    · refine Jrow (fun H locs ls hH hS hl k => lv_iadd hx hb dX0_runOf_61 (k ls hl)) ?_
      refine JbdI (fun x36 => ?_)
      refine Jrow (fun H locs ls hH hS hl k => lv_istore (lv' := [(5, .int x36), (0, .ref a0), (1, .ref p1), (2, .ref p2), (3, .int p3), (4, .ref x2), (6, .int x4)]) hx hb dX0_runOf_62 hl (by decide) rfl k) ?_
      refine Jbd (fun x37 ex37 => ?_)
      refine Jrow (fun H locs ls hH hS hl k => lv_iinc (v := x37) (lv' := [(6, .int x37), (5, .int x36), (0, .ref a0), (1, .ref p1), (2, .ref p2), (3, .int p3), (4, .ref x2)]) hx hb dX0_runOf_64 hl (k := 6) rfl (by rw [ex37]; rfl) (by decide) rfl k) ?_
      clear ex37
      refine Jrow (fun H locs ls hH hS hl k => lv_goto (tgt := 15) hx hb dX0_runOf_67 (by decide) (k ls hl)) ?_
      exact Jsub [2, 3, 4, 5, 6, 1, 0] rfl (hk5 x36 x37)
    · refine Jite (fun hc => ?_) (fun hc => ?_)
      · refine Jrow (fun H locs ls hH hS hl k => lv_icmp_ge (tgt := 60) hx hb dX0_runOf_53 (by decide) (fun _ => (k ls hl)) (fun h => absurd hc h)) ?_
        clear hc
        refine Jrow (fun H locs ls hH hS hl k => lv_iconst (v := (0:Int32)) hx hb dX0_runOf_60 (by decide) (k ls hl)) ?_
        exact Jsub [0, 1, 2, 3, 4, 6] rfl (hk35 (0:Int32))
      · refine Jrow (fun H locs ls hH hS hl k => lv_icmp_ge (tgt := 60) hx hb dX0_runOf_53 (by decide) (fun h => absurd h hc) (fun _ => (k ls hl))) ?_
        clear hc
        refine Jrow (fun H locs ls hH hS hl k => lv_iconst (v := (1:Int32)) hx hb dX0_runOf_56 (by decide) (k ls hl)) ?_
        refine Jrow (fun H locs ls hH hS hl k => lv_goto (tgt := 61) hx hb dX0_runOf_57 (by decide) (k ls hl)) ?_
        exact Jsub [0, 1, 2, 3, 4, 6] rfl (hk35 (1:Int32))

def fX0_run (a0 : Nat) (p1 : Int32) (p2 : Int32) (p3 : Int32) (σ : CS) : Option (Int32 × CS) :=
 gd (kd σ a0 2) (
 cl2 (fX0_ruleAt a0 p1 σ) (fun (x2 : Option Nat) (σ1 : CS) =>
 gd (kd σ1 a0 2) (
 cl2 (fX0_shipAt a0 p2 σ1) (fun (x4 : Option Nat) (σ3 : CS) =>
 jn (some ((-1:Int32), σ3)) (fun (k5 : Option (Int32 × CS)) =>
 oc x2 (
 k5) (fun (x6 : Nat) =>
 oc x4 (
 k5) (fun (x7 : Nat) =>
 cl (fX0_in p3 (0:Int32) (999:Int32)) (fun (x8 : Int32) =>
 jn (fun (x9 : Int32) (σ10 : CS) => some (x9, σ10)) (fun (k11 : Int32 → CS → Option (Int32 × CS)) =>
 if x8 = (0:Int32) then
 k11 (-2:Int32) σ3
 else
 gd (kd σ3 a0 2) (
 cl2 (fX0_runOf a0 x6 x7 p3 σ3) (fun (x13 : Int32) (σ12 : CS) =>
 k11 x13 σ12)))))))))))
theorem nX0_run {a0 : Nat} {p1 : Int32} {p2 : Int32} {p3 : Int32} {σ : CS} : Mn σ (fX0_run a0 p1 p2 p3 σ) := by
  unfold fX0_run
  refine Mgd ?_
  refine Mcl2 (nX0_ruleAt) (fun x2 σ1 => ?_)
  refine Mgd ?_
  refine Mcl2 (nX0_shipAt) (fun x4 σ3 => ?_)
  refine Mjn0 (fun  (X15 : Option (Int32 × CS)) => Mn σ3 X15) (?_) (fun k5 hk5 => ?_)
  · exact Mret
  · refine Moc ?_ (fun x6 => ?_)
    · exact hk5
    · refine Moc ?_ (fun x7 => ?_)
      · exact hk5
      · refine Mcl (fun x8 => ?_)
        refine Mjn2 (fun (x9 : Int32) (σ10 : CS) (X14 : Option (Int32 × CS)) => Mn σ10 X14) (fun x9 σ10 => ?_) (fun k11 hk11 => ?_)
        · exact Mret
        · refine Mite ?_ ?_
          · exact hk11 (-2:Int32) σ3
          · refine Mgd ?_
            refine Mcl2 (nX0_runOf) (fun x13 σ12 => ?_)
            exact hk11 x13 σ12
set_option maxHeartbeats 4000000 in
set_option maxRecDepth 100000 in
theorem mX0_run (l : Launch) (E : CE) {a0 : Nat} {p1 : Int32} {p2 : Int32} {p3 : Int32} {σ : CS} {r : Int32} {σz : CS} (hX : fX0_run a0 p1 p2 p3 σ = some (r, σz)) : MetC l yX0_run (ws_ yX0_run cX0_run 6 (some .int)) 106 4151 E σ [.ref a0, .int p1, .int p2, .int p3] (some (.int r)) σz := by
  refine MetC.of hX (by decide) (Nat.le_of_ble_eq_true rfl) (nX0_run _ hX) ?_
  intro p e s m below meth c hx hb hr hml hts hown hlocks hnm hk hz0
  have hK := hk.1
  show J p l e (headSpec (ws_ yX0_run cX0_run 6 (some .int)) (rmC 106 4151 σ σz)).room s m ([.ref a0, .int p1, .int p2, .int p3] : List Value).toArray below meth c 6 E (cZ σ) (cS σ) (MQ below (cQ E (some (.int r)) σz) ([.ref a0, .int p1, .int p2, .int p3] : List Value).toArray s (cZ σz - cZ σ) (cS σz - cS σ) (EA E)) (r, σz) (fX0_run a0 p1 p2 p3 σ) σ 0 [(0, .ref a0), (1, .int p1), (2, .int p2), (3, .int p3)] []
  unfold fX0_run
  refine Jrow (fun H locs ls hH hS hl k => lv_aload_n hx hb dX0_run_0 rfl (lv_at hl 0 rfl) (k ls hl)) ?_
  refine Jrow (fun H locs ls hH hS hl k => lv_iload_n hx hb dX0_run_1 rfl (lv_at hl 1 rfl) (k ls hl)) ?_
  refine Jgd (fun hg => ?_)
  refine Jcl2 (fun x2 σ1 hf => ?_)
  refine Jcall (v := (some (va_rf x2))) (rest := []) (mX0_ruleAt l E hf).1 ⟨rfl, rfl⟩ (fun H locs ls hH hS hl hR => ⟨_, va_runV (C := RX0) (As := [.int p1]) ⟨hx, hb, hml, hown, hts⟩ (mX0_ruleAt l E hf).2 (cwV 1 hts (lw_V q898 q900 qs21 q88 q901) rfl rfl rfl (by decide +kernel) ⟨Nat.le_of_ble_eq_true rfl, Nat.le_of_ble_eq_true rfl⟩) (c_preV (ci := 1) hk hH hS hg rfl) rfl rfl hl.1 rfl (lv_room (Nat.le_of_ble_eq_true rfl)) dX0_run_2 hR⟩) ?_
  clear hf
  refine Jrow (fun H locs ls hH hS hl k => lv_astoreF (lv' := [(4, va_rf x2), (0, .ref a0), (1, .int p1), (2, .int p2), (3, .int p3)]) hx hb dX0_run_5 hl (by decide) rfl k) ?_
  refine Jrow (fun H locs ls hH hS hl k => lv_aload_n hx hb dX0_run_7 rfl (lv_at hl 1 rfl) (k ls hl)) ?_
  refine Jrow (fun H locs ls hH hS hl k => lv_iload_n hx hb dX0_run_8 rfl (lv_at hl 3 rfl) (k ls hl)) ?_
  refine Jgd (fun hg => ?_)
  refine Jcl2 (fun x4 σ3 hf => ?_)
  refine Jcall (v := (some (va_rf x4))) (rest := []) (mX0_shipAt l E hf).1 ⟨rfl, rfl⟩ (fun H locs ls hH hS hl hR => ⟨_, va_runV (C := RX0) (As := [.int p2]) ⟨hx, hb, hml, hown, hts⟩ (mX0_shipAt l E hf).2 (cwV 1 hts (lw_V q703 q705 qs18 q88 q706) rfl rfl rfl (by decide +kernel) ⟨Nat.le_of_ble_eq_true rfl, Nat.le_of_ble_eq_true rfl⟩) (c_preV (ci := 1) hk hH hS hg rfl) rfl rfl hl.1 rfl (lv_room (Nat.le_of_ble_eq_true rfl)) dX0_run_9 hR⟩) ?_
  clear hf
  refine Jrow (fun H locs ls hH hS hl k => lv_astoreF (lv' := [(5, va_rf x4), (4, va_rf x2), (0, .ref a0), (1, .int p1), (2, .int p2), (3, .int p3)]) hx hb dX0_run_12 hl (by decide) (by cases x2 <;> rfl) k) ?_
  refine Jrow (fun H locs ls hH hS hl k => lv_aloadF hx hb dX0_run_14 (lv_at hl 1 rfl) (k ls hl)) ?_
  refine Jjn0 (fun  X15 => J p l e (headSpec (ws_ yX0_run cX0_run 6 (some .int)) (rmC 106 4151 σ σz)).room s m ([.ref a0, .int p1, .int p2, .int p3] : List Value).toArray below meth c 6 E (cZ σ) (cS σ) (MQ below (cQ E (some (.int r)) σz) ([.ref a0, .int p1, .int p2, .int p3] : List Value).toArray s (cZ σz - cZ σ) (cS σz - cS σ) (EA E)) (r, σz) X15 σ3 24 [] []) (?_) (fun k5 hk5 => ?_)
  · refine Jrow (fun H locs ls hH hS hl k => lv_iconst (v := (-1:Int32)) hx hb dX0_run_24 (by decide) (k ls hl)) ?_
    exact Jiret hx hb hr hlocks dX0_run_25
  · rcases x2 with _ | x6
    · refine Joc0 ?_
      refine Jrow (fun H locs ls hH hS hl k => lv_ifnullN (tgt := 24) hx hb dX0_run_16 (by decide) (k ls hl)) ?_
      exact Jsub [] rfl (hk5)
    · refine Joc1 ?_
      refine Jrow (fun H locs ls hH hS hl k => lv_ifnull hx hb dX0_run_16 (k ls hl)) ?_
      refine Jrow (fun H locs ls hH hS hl k => lv_aloadF hx hb dX0_run_19 (lv_at hl 0 rfl) (k ls hl)) ?_
      rcases x4 with _ | x7
      · refine Joc0 ?_
        refine Jrow (fun H locs ls hH hS hl k => lv_ifnonnullN hx hb dX0_run_21 (k ls hl)) ?_
        exact Jsub [] rfl (hk5)
      · refine Joc1 ?_
        refine Jrow (fun H locs ls hH hS hl k => lv_ifnonnull (tgt := 26) hx hb dX0_run_21 (by decide) (k ls hl)) ?_
        refine Jrow (fun H locs ls hH hS hl k => lv_iload_n hx hb dX0_run_26 rfl (lv_at hl 5 rfl) (k ls hl)) ?_
        refine Jrow (fun H locs ls hH hS hl k => lv_iconst (v := (0:Int32)) hx hb dX0_run_27 (by decide) (k ls hl)) ?_
        refine Jrow (fun H locs ls hH hS hl k => lv_sipush (v := (999:Int32)) hx hb dX0_run_28 (by decide) (k ls hl)) ?_
        refine Jcl (fun x8 hf => ?_)
        refine JcallS (v := .int x8) (rest := []) hz0 ⟨rfl, rfl⟩ sQi_o (fun H locs ls hl hR => va_runS (As := [.int p3, .int (0:Int32), .int (999:Int32)]) ⟨hx, hb, hml, hown, hts⟩ (mX0_in l hf) (va_cwS 3 hts (lw_S q319 q320 q88 q321) rfl rfl rfl (by decide +kernel) ⟨Nat.le_of_ble_eq_true rfl, Nat.le_of_ble_eq_true rfl⟩) s_pre rfl rfl hl.1 rfl (lv_room (Nat.le_of_ble_eq_true rfl)) dX0_run_31 hR) ?_
        clear hf
        refine Jjn2 (fun (x9 : Int32) (σ10 : CS) X14 => J p l e (headSpec (ws_ yX0_run cX0_run 6 (some .int)) (rmC 106 4151 σ σz)).room s m ([.ref a0, .int p1, .int p2, .int p3] : List Value).toArray below meth c 6 E (cZ σ) (cS σ) (MQ below (cQ E (some (.int r)) σz) ([.ref a0, .int p1, .int p2, .int p3] : List Value).toArray s (cZ σz - cZ σ) (cS σz - cS σ) (EA E)) (r, σz) X14 σ10 51 [] [.int x9]) (fun x9 σ10 => ?_) (fun k11 hk11 => ?_)
        · exact Jiret hx hb hr hlocks dX0_run_51
        · refine Jite (fun hc => ?_) (fun hc => ?_)
          · refine Jrow (fun H locs ls hH hS hl k => lv_if_eq (tgt := 49) hx hb dX0_run_34 (by decide) (fun _ => (k ls hl)) (fun h => absurd hc h)) ?_
            clear hc
            refine Jrow (fun H locs ls hH hS hl k => lv_bipush (v := (-2:Int32)) hx hb dX0_run_49 (by decide) (k ls hl)) ?_
            exact Jsub [] rfl (hk11 (-2:Int32) σ3)
          · refine Jrow (fun H locs ls hH hS hl k => lv_if_eq (tgt := 49) hx hb dX0_run_34 (by decide) (fun h => absurd h hc) (fun _ => (k ls hl))) ?_
            clear hc
            refine Jrow (fun H locs ls hH hS hl k => lv_aload_n hx hb dX0_run_37 rfl (lv_at hl 2 rfl) (k ls hl)) ?_
            refine Jrow (fun H locs ls hH hS hl k => lv_aload hx hb dX0_run_38 (lv_at hl 1 rfl) (k ls hl)) ?_
            refine Jrow (fun H locs ls hH hS hl k => lv_aload hx hb dX0_run_40 (lv_at hl 0 rfl) (k ls hl)) ?_
            refine Jrow (fun H locs ls hH hS hl k => lv_iload_n hx hb dX0_run_42 rfl (lv_at hl 5 rfl) (k ls hl)) ?_
            refine Jgd (fun hg => ?_)
            refine Jcl2 (fun x13 σ12 hf => ?_)
            refine Jcall (v := (some (.int x13))) (rest := []) (mX0_runOf l E hf).1 ⟨rfl, rfl⟩ (fun H locs ls hH hS hl hR => ⟨_, va_runV (C := RX0) (As := [.ref x6, .ref x7, .int p3]) ⟨hx, hb, hml, hown, hts⟩ (mX0_runOf l E hf).2 (cwV 3 hts (lw_V q1090 q1092 qs37 q88 q1093) rfl rfl rfl (by decide +kernel) ⟨Nat.le_of_ble_eq_true rfl, Nat.le_of_ble_eq_true rfl⟩) (c_preV (ci := 1) hk hH hS hg rfl) rfl rfl hl.1 rfl (lv_room (Nat.le_of_ble_eq_true rfl)) dX0_run_43 hR⟩) ?_
            clear hf
            refine Jrow (fun H locs ls hH hS hl k => lv_goto (tgt := 51) hx hb dX0_run_46 (by decide) (k ls hl)) ?_
            exact Jsub [] rfl (hk11 x13 σ12)

def fX0_act (a0 : Nat) (p1 : Int32) (p2 : Int32) (p3 : Int32) (σ : CS) : Option (Int32 × CS) :=
 gd (hf (cK σ a0) 35) (
 bd (uFI σ a0 35 (0:Int32)) (fun (σ1 : CS) =>
 gd (kd σ1 a0 2) (
 cl2 (fX0_ruleAt a0 p1 σ1) (fun (x3 : Option Nat) (σ2 : CS) =>
 jn (some ((0:Int32), σ2)) (fun (k4 : Option (Int32 × CS)) =>
 oc x3 (
 k4) (fun (x5 : Nat) =>
 cl (fX0_in p2 (0:Int32) (2:Int32)) (fun (x6 : Int32) =>
 if x6 = (0:Int32) then
 k4
 else
 jn (fun (x7 : Int32) (σ8 : CS) => some (x7, σ8)) (fun (k9 : Int32 → CS → Option (Int32 × CS)) =>
 if p2 = (0:Int32) then
 gd (isX11 (cK σ2 x5)) (
 cl2 (vR_holds x5 p3 σ2) (fun (x14 : Int32) (σ15 : CS) =>
 k9 x14 σ15))
 else
 if p2 = (1:Int32) then
 gd (isX11 (cK σ2 x5)) (
 cl2 (vR_lets x5 p3 σ2) (fun (x12 : Int32) (σ13 : CS) =>
 k9 x12 σ13))
 else
 gd (isX11 (cK σ2 x5)) (
 cl2 (vR_costs x5 p3 σ2) (fun (x10 : Int32) (σ11 : CS) =>
 k9 x10 σ11))))))))))
theorem nX0_act {a0 : Nat} {p1 : Int32} {p2 : Int32} {p3 : Int32} {σ : CS} : Mn σ (fX0_act a0 p1 p2 p3 σ) := by
  unfold fX0_act
  refine Mgd ?_
  refine Mst (Nat.le_refl _) (Nat.le_refl _) (fun σ1 => ?_)
  refine Mgd ?_
  refine Mcl2 (nX0_ruleAt) (fun x3 σ2 => ?_)
  refine Mjn0 (fun  (X17 : Option (Int32 × CS)) => Mn σ2 X17) (?_) (fun k4 hk4 => ?_)
  · exact Mret
  · refine Moc ?_ (fun x5 => ?_)
    · exact hk4
    · refine Mcl (fun x6 => ?_)
      refine Mite ?_ ?_
      · exact hk4
      · refine Mjn2 (fun (x7 : Int32) (σ8 : CS) (X16 : Option (Int32 × CS)) => Mn σ8 X16) (fun x7 σ8 => ?_) (fun k9 hk9 => ?_)
        · exact Mret
        · refine Mite ?_ ?_
          · refine Mgd ?_
            refine Mcl2 nvR_holds (fun x14 σ15 => ?_)
            exact hk9 x14 σ15
          · refine Mite ?_ ?_
            · refine Mgd ?_
              refine Mcl2 nvR_lets (fun x12 σ13 => ?_)
              exact hk9 x12 σ13
            · refine Mgd ?_
              refine Mcl2 nvR_costs (fun x10 σ11 => ?_)
              exact hk9 x10 σ11
set_option maxHeartbeats 4000000 in
set_option maxRecDepth 100000 in
theorem mX0_act (l : Launch) (E : CE) {a0 : Nat} {p1 : Int32} {p2 : Int32} {p3 : Int32} {σ : CS} {r : Int32} {σz : CS} (hX : fX0_act a0 p1 p2 p3 σ = some (r, σz)) : MetC l yX0_act (ws_ yX0_act cX0_act 5 (some .int)) 7 148 E σ [.ref a0, .int p1, .int p2, .int p3] (some (.int r)) σz := by
  refine MetC.of hX (by decide) (Nat.le_of_ble_eq_true rfl) (nX0_act _ hX) ?_
  intro p e s m below meth c hx hb hr hml hts hown hlocks hnm hk hz0
  have hK := hk.1
  show J p l e (headSpec (ws_ yX0_act cX0_act 5 (some .int)) (rmC 7 148 σ σz)).room s m ([.ref a0, .int p1, .int p2, .int p3] : List Value).toArray below meth c 5 E (cZ σ) (cS σ) (MQ below (cQ E (some (.int r)) σz) ([.ref a0, .int p1, .int p2, .int p3] : List Value).toArray s (cZ σz - cZ σ) (cS σz - cS σ) (EA E)) (r, σz) (fX0_act a0 p1 p2 p3 σ) σ 0 [(0, .ref a0), (1, .int p1), (2, .int p2), (3, .int p3)] []
  unfold fX0_act
  refine Jrow (fun H locs ls hH hS hl k => lv_aload_n hx hb dX0_act_0 rfl (lv_at hl 0 rfl) (k ls hl)) ?_
  refine Jrow (fun H locs ls hH hS hl k => lv_iconst (v := (0:Int32)) hx hb dX0_act_1 (by decide) (k ls hl)) ?_
  refine Jgd (fun hg => ?_)
  refine Jst (σ1 := uFI σ a0 35 (0:Int32)) rfl rfl (fun H locs ls hH hS hl k => c_putI (F := 35) (ty := .int) (x := (0:Int32)) hx hb hts hown hK hH hS hg (hts _ q265) (fun _ h => h) rfl rfl (by decide +kernel) rfl rfl rfl dX0_act_2 k) (fun σ1 => ?_)
  refine Jrow (fun H locs ls hH hS hl k => lv_aload_n hx hb dX0_act_5 rfl (lv_at hl 0 rfl) (k ls hl)) ?_
  refine Jrow (fun H locs ls hH hS hl k => lv_iload_n hx hb dX0_act_6 rfl (lv_at hl 1 rfl) (k ls hl)) ?_
  refine Jgd (fun hg => ?_)
  refine Jcl2 (fun x3 σ2 hf => ?_)
  refine Jcall (v := (some (va_rf x3))) (rest := []) (mX0_ruleAt l E hf).1 ⟨rfl, rfl⟩ (fun H locs ls hH hS hl hR => ⟨_, va_runV (C := RX0) (As := [.int p1]) ⟨hx, hb, hml, hown, hts⟩ (mX0_ruleAt l E hf).2 (cwV 1 hts (lw_V q898 q900 qs21 q88 q901) rfl rfl rfl (by decide +kernel) ⟨Nat.le_of_ble_eq_true rfl, Nat.le_of_ble_eq_true rfl⟩) (c_preV (ci := 1) hk hH hS hg rfl) rfl rfl hl.1 rfl (lv_room (Nat.le_of_ble_eq_true rfl)) dX0_act_7 hR⟩) ?_
  clear hf
  refine Jrow (fun H locs ls hH hS hl k => lv_astoreF (lv' := [(4, va_rf x3), (0, .ref a0), (1, .int p1), (2, .int p2), (3, .int p3)]) hx hb dX0_act_10 hl (by decide) rfl k) ?_
  refine Jrow (fun H locs ls hH hS hl k => lv_aloadF hx hb dX0_act_12 (lv_at hl 0 rfl) (k ls hl)) ?_
  refine Jjn0 (fun  X17 => J p l e (headSpec (ws_ yX0_act cX0_act 5 (some .int)) (rmC 7 148 σ σz)).room s m ([.ref a0, .int p1, .int p2, .int p3] : List Value).toArray below meth c 5 E (cZ σ) (cS σ) (MQ below (cQ E (some (.int r)) σz) ([.ref a0, .int p1, .int p2, .int p3] : List Value).toArray s (cZ σz - cZ σ) (cS σz - cS σ) (EA E)) (r, σz) X17 σ2 26 [] []) (?_) (fun k4 hk4 => ?_)
  · refine Jrow (fun H locs ls hH hS hl k => lv_iconst (v := (0:Int32)) hx hb dX0_act_26 (by decide) (k ls hl)) ?_
    exact Jiret hx hb hr hlocks dX0_act_27
  · rcases x3 with _ | x5
    · refine Joc0 ?_
      refine Jrow (fun H locs ls hH hS hl k => lv_ifnullN (tgt := 26) hx hb dX0_act_14 (by decide) (k ls hl)) ?_
      exact Jsub [] rfl (hk4)
    · refine Joc1 ?_
      refine Jrow (fun H locs ls hH hS hl k => lv_ifnull hx hb dX0_act_14 (k ls hl)) ?_
      refine Jrow (fun H locs ls hH hS hl k => lv_iload_n hx hb dX0_act_17 rfl (lv_at hl 3 rfl) (k ls hl)) ?_
      refine Jrow (fun H locs ls hH hS hl k => lv_iconst (v := (0:Int32)) hx hb dX0_act_18 (by decide) (k ls hl)) ?_
      refine Jrow (fun H locs ls hH hS hl k => lv_iconst (v := (2:Int32)) hx hb dX0_act_19 (by decide) (k ls hl)) ?_
      refine Jcl (fun x6 hf => ?_)
      refine JcallS (v := .int x6) (rest := []) hz0 ⟨rfl, rfl⟩ sQi_o (fun H locs ls hl hR => va_runS (As := [.int p2, .int (0:Int32), .int (2:Int32)]) ⟨hx, hb, hml, hown, hts⟩ (mX0_in l hf) (va_cwS 3 hts (lw_S q319 q320 q88 q321) rfl rfl rfl (by decide +kernel) ⟨Nat.le_of_ble_eq_true rfl, Nat.le_of_ble_eq_true rfl⟩) s_pre rfl rfl hl.1 rfl (lv_room (Nat.le_of_ble_eq_true rfl)) dX0_act_20 hR) ?_
      clear hf
      refine Jite (fun hc => ?_) (fun hc => ?_)
      · refine Jrow (fun H locs ls hH hS hl k => lv_if_ne (tgt := 28) hx hb dX0_act_23 (by decide) (fun h => absurd hc h) (fun _ => (k ls hl))) ?_
        clear hc
        exact Jsub [] rfl (hk4)
      · refine Jrow (fun H locs ls hH hS hl k => lv_if_ne (tgt := 28) hx hb dX0_act_23 (by decide) (fun _ => (k ls hl)) (fun h => absurd h hc)) ?_
        clear hc
        refine Jrow (fun H locs ls hH hS hl k => lv_iload_n hx hb dX0_act_28 rfl (lv_at hl 3 rfl) (k ls hl)) ?_
        refine Jjn2 (fun (x7 : Int32) (σ8 : CS) X16 => J p l e (headSpec (ws_ yX0_act cX0_act 5 (some .int)) (rmC 7 148 σ σz)).room s m ([.ref a0, .int p1, .int p2, .int p3] : List Value).toArray below meth c 5 E (cZ σ) (cS σ) (MQ below (cQ E (some (.int r)) σz) ([.ref a0, .int p1, .int p2, .int p3] : List Value).toArray s (cZ σz - cZ σ) (cS σz - cS σ) (EA E)) (r, σz) X16 σ8 61 [] [.int x7]) (fun x7 σ8 => ?_) (fun k9 hk9 => ?_)
        · exact Jiret hx hb hr hlocks dX0_act_61
        · refine Jite (fun hc => ?_) (fun hc => ?_)
          · refine Jrow (fun H locs ls hH hS hl k => lv_if_ne (tgt := 41) hx hb dX0_act_29 (by decide) (fun h => absurd hc h) (fun _ => (k ls hl))) ?_
            clear hc
            refine Jrow (fun H locs ls hH hS hl k => lv_aload hx hb dX0_act_32 (lv_at hl 0 rfl) (k ls hl)) ?_
            refine Jrow (fun H locs ls hH hS hl k => lv_iload_n hx hb dX0_act_34 rfl (lv_at hl 4 rfl) (k ls hl)) ?_
            refine Jgd (fun hg0 => ?_)
            refine Jcl2 (fun x14 σ15 hf => ?_)
            refine Jcall (v := (some (.int x14))) (rest := []) (nvR_holds _ hf) ⟨rfl, rfl⟩ (fun H locs ls hH hS hl hR => ?_) ?_
            · rcases vR_holds_s l E hf with ⟨hg, hM⟩ | ⟨hg, hM⟩ | ⟨hg, hM⟩ | ⟨hg, hM⟩ | ⟨hg, hM⟩ | ⟨hg, hM⟩ | ⟨hg, hM⟩
              · exact ⟨_, va_runU (C := RX11) (As := [.int p3]) ⟨hx, hb, hml, hown, hts⟩ hM.2 (va_cwU (owner := "FortyDays$Rule") 1 hts (lw_app (by
                    intro w hw
                    simp only [List.mem_cons, List.not_mem_nil, or_false] at hw
                    rcases hw with e | e | e | e | e
                    · rw [e]; exact q1100
                    · rw [e]; exact q1103
                    · rw [e]; exact q1102
                    · rw [e]; exact q1101
                    · rw [e]; exact q113) (lw_meth q1123)) rfl rfl rfl rfl (by decide +kernel) ⟨Nat.le_of_ble_eq_true rfl, Nat.le_of_ble_eq_true rfl⟩) (c_preV (ci := 11) hk hH hS hg rfl) rfl rfl hl.1 rfl (lv_room (Nat.le_of_ble_eq_true rfl)) dX0_act_35 hR⟩
              · exact ⟨_, va_runU (C := RX12) (As := [.int p3]) ⟨hx, hb, hml, hown, hts⟩ hM.2 (va_cwU (owner := "FortyDays$Rule") 1 hts (lw_app (by
                    intro w hw
                    simp only [List.mem_cons, List.not_mem_nil, or_false] at hw
                    rcases hw with e | e | e | e | e
                    · rw [e]; exact q1100
                    · rw [e]; exact q1103
                    · rw [e]; exact q1105
                    · rw [e]; exact q1101
                    · rw [e]; exact q113) (lw_meth q1123)) rfl rfl rfl rfl (by decide +kernel) ⟨Nat.le_of_ble_eq_true rfl, Nat.le_of_ble_eq_true rfl⟩) (c_preV (ci := 12) hk hH hS hg rfl) rfl rfl hl.1 rfl (lv_room (Nat.le_of_ble_eq_true rfl)) dX0_act_35 hR⟩
              · exact ⟨_, va_runU (C := RX13) (As := [.int p3]) ⟨hx, hb, hml, hown, hts⟩ hM.2 (va_cwO (owner := "FortyDays$Rule") 1 hts (lw_app (by
                    intro w hw
                    simp only [List.mem_cons, List.not_mem_nil, or_false] at hw
                    rcases hw with e | e | e | e | e | e
                    · rw [e]; exact q1100
                    · rw [e]; exact q1103
                    · rw [e]; exact q1101
                    · rw [e]; exact q1106
                    · rw [e]; exact q1107
                    · rw [e]; exact q115) (lw_meth q1108)) rfl rfl rfl q1123 (by decide +kernel) ⟨Nat.le_of_ble_eq_true rfl, Nat.le_of_ble_eq_true rfl⟩) (c_preV (ci := 13) hk hH hS hg rfl) rfl rfl hl.1 rfl (lv_room (Nat.le_of_ble_eq_true rfl)) dX0_act_35 hR⟩
              · exact ⟨_, va_runU (C := RX14) (As := [.int p3]) ⟨hx, hb, hml, hown, hts⟩ hM.2 (va_cwU (owner := "FortyDays$Rule") 1 hts (lw_app (by
                    intro w hw
                    simp only [List.mem_cons, List.not_mem_nil, or_false] at hw
                    rcases hw with e | e | e | e | e
                    · rw [e]; exact q1100
                    · rw [e]; exact q1103
                    · rw [e]; exact q1116
                    · rw [e]; exact q1101
                    · rw [e]; exact q113) (lw_meth q1123)) rfl rfl rfl rfl (by decide +kernel) ⟨Nat.le_of_ble_eq_true rfl, Nat.le_of_ble_eq_true rfl⟩) (c_preV (ci := 14) hk hH hS hg rfl) rfl rfl hl.1 rfl (lv_room (Nat.le_of_ble_eq_true rfl)) dX0_act_35 hR⟩
              · exact ⟨_, va_runU (C := RX15) (As := [.int p3]) ⟨hx, hb, hml, hown, hts⟩ hM.2 (va_cwU (owner := "FortyDays$Rule") 1 hts (lw_app (by
                    intro w hw
                    simp only [List.mem_cons, List.not_mem_nil, or_false] at hw
                    rcases hw with e | e | e | e | e
                    · rw [e]; exact q1100
                    · rw [e]; exact q1103
                    · rw [e]; exact q1117
                    · rw [e]; exact q1101
                    · rw [e]; exact q113) (lw_meth q1123)) rfl rfl rfl rfl (by decide +kernel) ⟨Nat.le_of_ble_eq_true rfl, Nat.le_of_ble_eq_true rfl⟩) (c_preV (ci := 15) hk hH hS hg rfl) rfl rfl hl.1 rfl (lv_room (Nat.le_of_ble_eq_true rfl)) dX0_act_35 hR⟩
              · exact ⟨_, va_runU (C := RX16) (As := [.int p3]) ⟨hx, hb, hml, hown, hts⟩ hM.2 (va_cwO (owner := "FortyDays$Rule") 1 hts (lw_app (by
                    intro w hw
                    simp only [List.mem_cons, List.not_mem_nil, or_false] at hw
                    rcases hw with e | e | e | e | e | e
                    · rw [e]; exact q1100
                    · rw [e]; exact q1103
                    · rw [e]; exact q1101
                    · rw [e]; exact q1118
                    · rw [e]; exact q1119
                    · rw [e]; exact q118) (lw_meth q1120)) rfl rfl rfl q1123 (by decide +kernel) ⟨Nat.le_of_ble_eq_true rfl, Nat.le_of_ble_eq_true rfl⟩) (c_preV (ci := 16) hk hH hS hg rfl) rfl rfl hl.1 rfl (lv_room (Nat.le_of_ble_eq_true rfl)) dX0_act_35 hR⟩
              · exact ⟨_, va_runU (C := RX17) (As := [.int p3]) ⟨hx, hb, hml, hown, hts⟩ hM.2 (va_cwU (owner := "FortyDays$Rule") 1 hts (lw_app (by
                    intro w hw
                    simp only [List.mem_cons, List.not_mem_nil, or_false] at hw
                    rcases hw with e | e | e | e | e
                    · rw [e]; exact q1100
                    · rw [e]; exact q1103
                    · rw [e]; exact q1104
                    · rw [e]; exact q1101
                    · rw [e]; exact q113) (lw_meth q1123)) rfl rfl rfl rfl (by decide +kernel) ⟨Nat.le_of_ble_eq_true rfl, Nat.le_of_ble_eq_true rfl⟩) (c_preV (ci := 17) hk hH hS hg rfl) rfl rfl hl.1 rfl (lv_room (Nat.le_of_ble_eq_true rfl)) dX0_act_35 hR⟩
            clear hf
            refine Jrow (fun H locs ls hH hS hl k => lv_goto (tgt := 61) hx hb dX0_act_38 (by decide) (k ls hl)) ?_
            exact Jsub [] rfl (hk9 x14 σ15)
          · refine Jrow (fun H locs ls hH hS hl k => lv_if_ne (tgt := 41) hx hb dX0_act_29 (by decide) (fun _ => (k ls hl)) (fun h => absurd h hc)) ?_
            clear hc
            refine Jrow (fun H locs ls hH hS hl k => lv_iload_n hx hb dX0_act_41 rfl (lv_at hl 3 rfl) (k ls hl)) ?_
            refine Jrow (fun H locs ls hH hS hl k => lv_iconst (v := (1:Int32)) hx hb dX0_act_42 (by decide) (k ls hl)) ?_
            refine Jite (fun hc => ?_) (fun hc => ?_)
            · refine Jrow (fun H locs ls hH hS hl k => lv_icmp_ne (tgt := 55) hx hb dX0_act_43 (by decide) (fun h => absurd hc h) (fun _ => (k ls hl))) ?_
              clear hc
              refine Jrow (fun H locs ls hH hS hl k => lv_aload hx hb dX0_act_46 (lv_at hl 0 rfl) (k ls hl)) ?_
              refine Jrow (fun H locs ls hH hS hl k => lv_iload_n hx hb dX0_act_48 rfl (lv_at hl 4 rfl) (k ls hl)) ?_
              refine Jgd (fun hg0 => ?_)
              refine Jcl2 (fun x12 σ13 hf => ?_)
              refine Jcall (v := (some (.int x12))) (rest := []) (nvR_lets _ hf) ⟨rfl, rfl⟩ (fun H locs ls hH hS hl hR => ?_) ?_
              · rcases vR_lets_s l E hf with ⟨hg, hM⟩ | ⟨hg, hM⟩ | ⟨hg, hM⟩ | ⟨hg, hM⟩ | ⟨hg, hM⟩ | ⟨hg, hM⟩ | ⟨hg, hM⟩
                · exact ⟨_, va_runU (C := RX11) (As := [.int p3]) ⟨hx, hb, hml, hown, hts⟩ hM.2 (va_cwU (owner := "FortyDays$Rule") 1 hts (lw_app (by
                      intro w hw
                      simp only [List.mem_cons, List.not_mem_nil, or_false] at hw
                      rcases hw with e | e | e | e | e
                      · rw [e]; exact q1125
                      · rw [e]; exact q1128
                      · rw [e]; exact q1127
                      · rw [e]; exact q1126
                      · rw [e]; exact q113) (lw_meth q1145)) rfl rfl rfl rfl (by decide +kernel) ⟨Nat.le_of_ble_eq_true rfl, Nat.le_of_ble_eq_true rfl⟩) (c_preV (ci := 11) hk hH hS hg rfl) rfl rfl hl.1 rfl (lv_room (Nat.le_of_ble_eq_true rfl)) dX0_act_49 hR⟩
                · exact ⟨_, va_runU (C := RX12) (As := [.int p3]) ⟨hx, hb, hml, hown, hts⟩ hM.2 (va_cwO (owner := "FortyDays$Rule") 1 hts (lw_app (by
                      intro w hw
                      simp only [List.mem_cons, List.not_mem_nil, or_false] at hw
                      rcases hw with e | e | e | e | e | e
                      · rw [e]; exact q1125
                      · rw [e]; exact q1128
                      · rw [e]; exact q1126
                      · rw [e]; exact q1136
                      · rw [e]; exact q1137
                      · rw [e]; exact q114) (lw_meth q1138)) rfl rfl rfl q1145 (by decide +kernel) ⟨Nat.le_of_ble_eq_true rfl, Nat.le_of_ble_eq_true rfl⟩) (c_preV (ci := 12) hk hH hS hg rfl) rfl rfl hl.1 rfl (lv_room (Nat.le_of_ble_eq_true rfl)) dX0_act_49 hR⟩
                · exact ⟨_, va_runU (C := RX13) (As := [.int p3]) ⟨hx, hb, hml, hown, hts⟩ hM.2 (va_cwO (owner := "FortyDays$Rule") 1 hts (lw_app (by
                      intro w hw
                      simp only [List.mem_cons, List.not_mem_nil, or_false] at hw
                      rcases hw with e | e | e | e | e | e
                      · rw [e]; exact q1125
                      · rw [e]; exact q1128
                      · rw [e]; exact q1126
                      · rw [e]; exact q1141
                      · rw [e]; exact q1137
                      · rw [e]; exact q114) (lw_meth q1138)) rfl rfl rfl q1145 (by decide +kernel) ⟨Nat.le_of_ble_eq_true rfl, Nat.le_of_ble_eq_true rfl⟩) (c_preV (ci := 13) hk hH hS hg rfl) rfl rfl hl.1 rfl (lv_room (Nat.le_of_ble_eq_true rfl)) dX0_act_49 hR⟩
                · exact ⟨_, va_runU (C := RX14) (As := [.int p3]) ⟨hx, hb, hml, hown, hts⟩ hM.2 (va_cwO (owner := "FortyDays$Rule") 1 hts (lw_app (by
                      intro w hw
                      simp only [List.mem_cons, List.not_mem_nil, or_false] at hw
                      rcases hw with e | e | e | e | e | e
                      · rw [e]; exact q1125
                      · rw [e]; exact q1128
                      · rw [e]; exact q1126
                      · rw [e]; exact q1142
                      · rw [e]; exact q1137
                      · rw [e]; exact q114) (lw_meth q1138)) rfl rfl rfl q1145 (by decide +kernel) ⟨Nat.le_of_ble_eq_true rfl, Nat.le_of_ble_eq_true rfl⟩) (c_preV (ci := 14) hk hH hS hg rfl) rfl rfl hl.1 rfl (lv_room (Nat.le_of_ble_eq_true rfl)) dX0_act_49 hR⟩
                · exact ⟨_, va_runU (C := RX15) (As := [.int p3]) ⟨hx, hb, hml, hown, hts⟩ hM.2 (va_cwU (owner := "FortyDays$Rule") 1 hts (lw_app (by
                      intro w hw
                      simp only [List.mem_cons, List.not_mem_nil, or_false] at hw
                      rcases hw with e | e | e | e | e
                      · rw [e]; exact q1125
                      · rw [e]; exact q1128
                      · rw [e]; exact q1143
                      · rw [e]; exact q1126
                      · rw [e]; exact q113) (lw_meth q1145)) rfl rfl rfl rfl (by decide +kernel) ⟨Nat.le_of_ble_eq_true rfl, Nat.le_of_ble_eq_true rfl⟩) (c_preV (ci := 15) hk hH hS hg rfl) rfl rfl hl.1 rfl (lv_room (Nat.le_of_ble_eq_true rfl)) dX0_act_49 hR⟩
                · exact ⟨_, va_runU (C := RX16) (As := [.int p3]) ⟨hx, hb, hml, hown, hts⟩ hM.2 (va_cwU (owner := "FortyDays$Rule") 1 hts (lw_app (by
                      intro w hw
                      simp only [List.mem_cons, List.not_mem_nil, or_false] at hw
                      rcases hw with e | e | e | e | e
                      · rw [e]; exact q1125
                      · rw [e]; exact q1128
                      · rw [e]; exact q1144
                      · rw [e]; exact q1126
                      · rw [e]; exact q113) (lw_meth q1145)) rfl rfl rfl rfl (by decide +kernel) ⟨Nat.le_of_ble_eq_true rfl, Nat.le_of_ble_eq_true rfl⟩) (c_preV (ci := 16) hk hH hS hg rfl) rfl rfl hl.1 rfl (lv_room (Nat.le_of_ble_eq_true rfl)) dX0_act_49 hR⟩
                · exact ⟨_, va_runU (C := RX17) (As := [.int p3]) ⟨hx, hb, hml, hown, hts⟩ hM.2 (va_cwO (owner := "FortyDays$Rule") 1 hts (lw_app (by
                      intro w hw
                      simp only [List.mem_cons, List.not_mem_nil, or_false] at hw
                      rcases hw with e | e | e | e | e | e
                      · rw [e]; exact q1125
                      · rw [e]; exact q1128
                      · rw [e]; exact q1126
                      · rw [e]; exact q1129
                      · rw [e]; exact q1130
                      · rw [e]; exact q119) (lw_meth q1131)) rfl rfl rfl q1145 (by decide +kernel) ⟨Nat.le_of_ble_eq_true rfl, Nat.le_of_ble_eq_true rfl⟩) (c_preV (ci := 17) hk hH hS hg rfl) rfl rfl hl.1 rfl (lv_room (Nat.le_of_ble_eq_true rfl)) dX0_act_49 hR⟩
              clear hf
              refine Jrow (fun H locs ls hH hS hl k => lv_goto (tgt := 61) hx hb dX0_act_52 (by decide) (k ls hl)) ?_
              exact Jsub [] rfl (hk9 x12 σ13)
            · refine Jrow (fun H locs ls hH hS hl k => lv_icmp_ne (tgt := 55) hx hb dX0_act_43 (by decide) (fun _ => (k ls hl)) (fun h => absurd h hc)) ?_
              clear hc
              refine Jrow (fun H locs ls hH hS hl k => lv_aload hx hb dX0_act_55 (lv_at hl 0 rfl) (k ls hl)) ?_
              refine Jrow (fun H locs ls hH hS hl k => lv_iload_n hx hb dX0_act_57 rfl (lv_at hl 4 rfl) (k ls hl)) ?_
              refine Jgd (fun hg0 => ?_)
              refine Jcl2 (fun x10 σ11 hf => ?_)
              refine Jcall (v := (some (.int x10))) (rest := []) (nvR_costs _ hf) ⟨rfl, rfl⟩ (fun H locs ls hH hS hl hR => ?_) ?_
              · rcases vR_costs_s l E hf with ⟨hg, hM⟩ | ⟨hg, hM⟩ | ⟨hg, hM⟩ | ⟨hg, hM⟩ | ⟨hg, hM⟩ | ⟨hg, hM⟩ | ⟨hg, hM⟩
                · exact ⟨_, va_runU (C := RX11) (As := [.int p3]) ⟨hx, hb, hml, hown, hts⟩ hM.2 (va_cwU (owner := "FortyDays$Rule") 1 hts (lw_app (by
                      intro w hw
                      simp only [List.mem_cons, List.not_mem_nil, or_false] at hw
                      rcases hw with e | e | e | e | e
                      · rw [e]; exact q1147
                      · rw [e]; exact q1150
                      · rw [e]; exact q1149
                      · rw [e]; exact q1148
                      · rw [e]; exact q113) (lw_meth q1171)) rfl rfl rfl rfl (by decide +kernel) ⟨Nat.le_of_ble_eq_true rfl, Nat.le_of_ble_eq_true rfl⟩) (c_preV (ci := 11) hk hH hS hg rfl) rfl rfl hl.1 rfl (lv_room (Nat.le_of_ble_eq_true rfl)) dX0_act_58 hR⟩
                · exact ⟨_, va_runU (C := RX12) (As := [.int p3]) ⟨hx, hb, hml, hown, hts⟩ hM.2 (va_cwU (owner := "FortyDays$Rule") 1 hts (lw_app (by
                      intro w hw
                      simp only [List.mem_cons, List.not_mem_nil, or_false] at hw
                      rcases hw with e | e | e | e | e
                      · rw [e]; exact q1147
                      · rw [e]; exact q1150
                      · rw [e]; exact q1160
                      · rw [e]; exact q1148
                      · rw [e]; exact q113) (lw_meth q1171)) rfl rfl rfl rfl (by decide +kernel) ⟨Nat.le_of_ble_eq_true rfl, Nat.le_of_ble_eq_true rfl⟩) (c_preV (ci := 12) hk hH hS hg rfl) rfl rfl hl.1 rfl (lv_room (Nat.le_of_ble_eq_true rfl)) dX0_act_58 hR⟩
                · exact ⟨_, va_runU (C := RX13) (As := [.int p3]) ⟨hx, hb, hml, hown, hts⟩ hM.2 (va_cwU (owner := "FortyDays$Rule") 1 hts (lw_app (by
                      intro w hw
                      simp only [List.mem_cons, List.not_mem_nil, or_false] at hw
                      rcases hw with e | e | e | e | e
                      · rw [e]; exact q1147
                      · rw [e]; exact q1150
                      · rw [e]; exact q1161
                      · rw [e]; exact q1148
                      · rw [e]; exact q113) (lw_meth q1171)) rfl rfl rfl rfl (by decide +kernel) ⟨Nat.le_of_ble_eq_true rfl, Nat.le_of_ble_eq_true rfl⟩) (c_preV (ci := 13) hk hH hS hg rfl) rfl rfl hl.1 rfl (lv_room (Nat.le_of_ble_eq_true rfl)) dX0_act_58 hR⟩
                · exact ⟨_, va_runU (C := RX14) (As := [.int p3]) ⟨hx, hb, hml, hown, hts⟩ hM.2 (va_cwO (owner := "FortyDays$Rule") 1 hts (lw_app (by
                      intro w hw
                      simp only [List.mem_cons, List.not_mem_nil, or_false] at hw
                      rcases hw with e | e | e | e | e | e
                      · rw [e]; exact q1147
                      · rw [e]; exact q1150
                      · rw [e]; exact q1148
                      · rw [e]; exact q1162
                      · rw [e]; exact q1163
                      · rw [e]; exact q116) (lw_meth q1164)) rfl rfl rfl q1171 (by decide +kernel) ⟨Nat.le_of_ble_eq_true rfl, Nat.le_of_ble_eq_true rfl⟩) (c_preV (ci := 14) hk hH hS hg rfl) rfl rfl hl.1 rfl (lv_room (Nat.le_of_ble_eq_true rfl)) dX0_act_58 hR⟩
                · exact ⟨_, va_runU (C := RX15) (As := [.int p3]) ⟨hx, hb, hml, hown, hts⟩ hM.2 (va_cwO (owner := "FortyDays$Rule") 1 hts (lw_app (by
                      intro w hw
                      simp only [List.mem_cons, List.not_mem_nil, or_false] at hw
                      rcases hw with e | e | e | e | e | e
                      · rw [e]; exact q1147
                      · rw [e]; exact q1150
                      · rw [e]; exact q1148
                      · rw [e]; exact q1169
                      · rw [e]; exact q1152
                      · rw [e]; exact q117) (lw_meth q1153)) rfl rfl rfl q1171 (by decide +kernel) ⟨Nat.le_of_ble_eq_true rfl, Nat.le_of_ble_eq_true rfl⟩) (c_preV (ci := 15) hk hH hS hg rfl) rfl rfl hl.1 rfl (lv_room (Nat.le_of_ble_eq_true rfl)) dX0_act_58 hR⟩
                · exact ⟨_, va_runU (C := RX16) (As := [.int p3]) ⟨hx, hb, hml, hown, hts⟩ hM.2 (va_cwU (owner := "FortyDays$Rule") 1 hts (lw_app (by
                      intro w hw
                      simp only [List.mem_cons, List.not_mem_nil, or_false] at hw
                      rcases hw with e | e | e | e | e
                      · rw [e]; exact q1147
                      · rw [e]; exact q1150
                      · rw [e]; exact q1170
                      · rw [e]; exact q1148
                      · rw [e]; exact q113) (lw_meth q1171)) rfl rfl rfl rfl (by decide +kernel) ⟨Nat.le_of_ble_eq_true rfl, Nat.le_of_ble_eq_true rfl⟩) (c_preV (ci := 16) hk hH hS hg rfl) rfl rfl hl.1 rfl (lv_room (Nat.le_of_ble_eq_true rfl)) dX0_act_58 hR⟩
                · exact ⟨_, va_runU (C := RX17) (As := [.int p3]) ⟨hx, hb, hml, hown, hts⟩ hM.2 (va_cwO (owner := "FortyDays$Rule") 1 hts (lw_app (by
                      intro w hw
                      simp only [List.mem_cons, List.not_mem_nil, or_false] at hw
                      rcases hw with e | e | e | e | e | e
                      · rw [e]; exact q1147
                      · rw [e]; exact q1150
                      · rw [e]; exact q1148
                      · rw [e]; exact q1151
                      · rw [e]; exact q1152
                      · rw [e]; exact q117) (lw_meth q1153)) rfl rfl rfl q1171 (by decide +kernel) ⟨Nat.le_of_ble_eq_true rfl, Nat.le_of_ble_eq_true rfl⟩) (c_preV (ci := 17) hk hH hS hg rfl) rfl rfl hl.1 rfl (lv_room (Nat.le_of_ble_eq_true rfl)) dX0_act_58 hR⟩
              clear hf
              exact Jsub [] rfl (hk9 x10 σ11)

def fX0_as (a0 : Nat) (p1 : Int32) (p2 : Int32) (σ : CS) : Option (Int32 × CS) :=
 gd (kd σ a0 2) (
 cl2 (fX0_ruleAt a0 p1 σ) (fun (x2 : Option Nat) (σ1 : CS) =>
 jn (some ((-1:Int32), σ1)) (fun (k3 : Option (Int32 × CS)) =>
 oc x2 (
 k3) (fun (x4 : Nat) =>
 cl (fX0_in p2 (0:Int32) (6:Int32)) (fun (x5 : Int32) =>
 if x5 = (0:Int32) then
 k3
 else
 gd (isX11 (cK σ1 x4)) (
 cl2 (vR_isUnder x4 p2 σ1) (fun (x6 : Int32) (σ7 : CS) =>
 jn (fun (x8 : Int32) => some (x8, σ7)) (fun (k9 : Int32 → Option (Int32 × CS)) =>
 if x6 = (0:Int32) then
 k9 (-6:Int32)
 else
 gd (hf (cK σ7 x4) 85) (
 k9 (cFI σ7 x4 85))))))))))
theorem nX0_as {a0 : Nat} {p1 : Int32} {p2 : Int32} {σ : CS} : Mn σ (fX0_as a0 p1 p2 σ) := by
  unfold fX0_as
  refine Mgd ?_
  refine Mcl2 (nX0_ruleAt) (fun x2 σ1 => ?_)
  refine Mjn0 (fun  (X11 : Option (Int32 × CS)) => Mn σ1 X11) (?_) (fun k3 hk3 => ?_)
  · exact Mret
  · refine Moc ?_ (fun x4 => ?_)
    · exact hk3
    · refine Mcl (fun x5 => ?_)
      refine Mite ?_ ?_
      · exact hk3
      · refine Mgd ?_
        refine Mcl2 nvR_isUnder (fun x6 σ7 => ?_)
        refine Mjn1 (fun (x8 : Int32) (X10 : Option (Int32 × CS)) => Mn σ7 X10) (fun x8 => ?_) (fun k9 hk9 => ?_)
        · exact Mret
        · refine Mite ?_ ?_
          · exact hk9 (-6:Int32)
          · refine Mgd ?_
            exact hk9 (cFI σ7 x4 85)
set_option maxHeartbeats 4000000 in
set_option maxRecDepth 100000 in
theorem mX0_as (l : Launch) (E : CE) {a0 : Nat} {p1 : Int32} {p2 : Int32} {σ : CS} {r : Int32} {σz : CS} (hX : fX0_as a0 p1 p2 σ = some (r, σz)) : MetC l yX0_as (ws_ yX0_as cX0_as 4 (some .int)) 4 85 E σ [.ref a0, .int p1, .int p2] (some (.int r)) σz := by
  refine MetC.of hX (by decide) (Nat.le_of_ble_eq_true rfl) (nX0_as _ hX) ?_
  intro p e s m below meth c hx hb hr hml hts hown hlocks hnm hk hz0
  have hK := hk.1
  show J p l e (headSpec (ws_ yX0_as cX0_as 4 (some .int)) (rmC 4 85 σ σz)).room s m ([.ref a0, .int p1, .int p2] : List Value).toArray below meth c 4 E (cZ σ) (cS σ) (MQ below (cQ E (some (.int r)) σz) ([.ref a0, .int p1, .int p2] : List Value).toArray s (cZ σz - cZ σ) (cS σz - cS σ) (EA E)) (r, σz) (fX0_as a0 p1 p2 σ) σ 0 [(0, .ref a0), (1, .int p1), (2, .int p2)] []
  unfold fX0_as
  refine Jrow (fun H locs ls hH hS hl k => lv_aload_n hx hb dX0_as_0 rfl (lv_at hl 0 rfl) (k ls hl)) ?_
  refine Jrow (fun H locs ls hH hS hl k => lv_iload_n hx hb dX0_as_1 rfl (lv_at hl 1 rfl) (k ls hl)) ?_
  refine Jgd (fun hg => ?_)
  refine Jcl2 (fun x2 σ1 hf => ?_)
  refine Jcall (v := (some (va_rf x2))) (rest := []) (mX0_ruleAt l E hf).1 ⟨rfl, rfl⟩ (fun H locs ls hH hS hl hR => ⟨_, va_runV (C := RX0) (As := [.int p1]) ⟨hx, hb, hml, hown, hts⟩ (mX0_ruleAt l E hf).2 (cwV 1 hts (lw_V q898 q900 qs21 q88 q901) rfl rfl rfl (by decide +kernel) ⟨Nat.le_of_ble_eq_true rfl, Nat.le_of_ble_eq_true rfl⟩) (c_preV (ci := 1) hk hH hS hg rfl) rfl rfl hl.1 rfl (lv_room (Nat.le_of_ble_eq_true rfl)) dX0_as_2 hR⟩) ?_
  clear hf
  refine Jrow (fun H locs ls hH hS hl k => lv_astore_nF (lv' := [(3, va_rf x2), (0, .ref a0), (1, .int p1), (2, .int p2)]) hx hb dX0_as_5 rfl hl (by decide) rfl k) ?_
  refine Jrow (fun H locs ls hH hS hl k => lv_aload_nF hx hb dX0_as_6 rfl (lv_at hl 0 rfl) (k ls hl)) ?_
  refine Jjn0 (fun  X11 => J p l e (headSpec (ws_ yX0_as cX0_as 4 (some .int)) (rmC 4 85 σ σz)).room s m ([.ref a0, .int p1, .int p2] : List Value).toArray below meth c 4 E (cZ σ) (cS σ) (MQ below (cQ E (some (.int r)) σz) ([.ref a0, .int p1, .int p2] : List Value).toArray s (cZ σz - cZ σ) (cS σz - cS σ) (EA E)) (r, σz) X11 σ1 20 [] []) (?_) (fun k3 hk3 => ?_)
  · refine Jrow (fun H locs ls hH hS hl k => lv_iconst (v := (-1:Int32)) hx hb dX0_as_20 (by decide) (k ls hl)) ?_
    exact Jiret hx hb hr hlocks dX0_as_21
  · rcases x2 with _ | x4
    · refine Joc0 ?_
      refine Jrow (fun H locs ls hH hS hl k => lv_ifnullN (tgt := 20) hx hb dX0_as_7 (by decide) (k ls hl)) ?_
      exact Jsub [] rfl (hk3)
    · refine Joc1 ?_
      refine Jrow (fun H locs ls hH hS hl k => lv_ifnull hx hb dX0_as_7 (k ls hl)) ?_
      refine Jrow (fun H locs ls hH hS hl k => lv_iload_n hx hb dX0_as_10 rfl (lv_at hl 3 rfl) (k ls hl)) ?_
      refine Jrow (fun H locs ls hH hS hl k => lv_iconst (v := (0:Int32)) hx hb dX0_as_11 (by decide) (k ls hl)) ?_
      refine Jrow (fun H locs ls hH hS hl k => lv_bipush (v := (6:Int32)) hx hb dX0_as_12 (by decide) (k ls hl)) ?_
      refine Jcl (fun x5 hf => ?_)
      refine JcallS (v := .int x5) (rest := []) hz0 ⟨rfl, rfl⟩ sQi_o (fun H locs ls hl hR => va_runS (As := [.int p2, .int (0:Int32), .int (6:Int32)]) ⟨hx, hb, hml, hown, hts⟩ (mX0_in l hf) (va_cwS 3 hts (lw_S q319 q320 q88 q321) rfl rfl rfl (by decide +kernel) ⟨Nat.le_of_ble_eq_true rfl, Nat.le_of_ble_eq_true rfl⟩) s_pre rfl rfl hl.1 rfl (lv_room (Nat.le_of_ble_eq_true rfl)) dX0_as_14 hR) ?_
      clear hf
      refine Jite (fun hc => ?_) (fun hc => ?_)
      · refine Jrow (fun H locs ls hH hS hl k => lv_if_ne (tgt := 22) hx hb dX0_as_17 (by decide) (fun h => absurd hc h) (fun _ => (k ls hl))) ?_
        clear hc
        exact Jsub [] rfl (hk3)
      · refine Jrow (fun H locs ls hH hS hl k => lv_if_ne (tgt := 22) hx hb dX0_as_17 (by decide) (fun _ => (k ls hl)) (fun h => absurd h hc)) ?_
        clear hc
        refine Jrow (fun H locs ls hH hS hl k => lv_aload_n hx hb dX0_as_22 rfl (lv_at hl 0 rfl) (k ls hl)) ?_
        refine Jrow (fun H locs ls hH hS hl k => lv_iload_n hx hb dX0_as_23 rfl (lv_at hl 3 rfl) (k ls hl)) ?_
        refine Jgd (fun hg0 => ?_)
        refine Jcl2 (fun x6 σ7 hf => ?_)
        refine Jcall (v := (some (.int x6))) (rest := []) (nvR_isUnder _ hf) ⟨rfl, rfl⟩ (fun H locs ls hH hS hl hR => ?_) ?_
        · rcases vR_isUnder_s l E hf with ⟨hg, hM⟩ | ⟨hg, hM⟩ | ⟨hg, hM⟩ | ⟨hg, hM⟩ | ⟨hg, hM⟩ | ⟨hg, hM⟩ | ⟨hg, hM⟩
          · exact ⟨_, va_runU (C := RX11) (As := [.int p2]) ⟨hx, hb, hml, hown, hts⟩ hM.2 (va_cwU (owner := "FortyDays$Rule") 1 hts (lw_app (by
                intro w hw
                simp only [List.mem_cons, List.not_mem_nil, or_false] at hw
                rcases hw with e | e | e | e | e
                · rw [e]; exact q1181
                · rw [e]; exact q1184
                · rw [e]; exact q1183
                · rw [e]; exact q1182
                · rw [e]; exact q113) (lw_meth q1209)) rfl rfl rfl rfl (by decide +kernel) ⟨Nat.le_of_ble_eq_true rfl, Nat.le_of_ble_eq_true rfl⟩) (c_preV (ci := 11) hk hH hS hg rfl) rfl rfl hl.1 rfl (lv_room (Nat.le_of_ble_eq_true rfl)) dX0_as_24 hR⟩
          · exact ⟨_, va_runU (C := RX12) (As := [.int p2]) ⟨hx, hb, hml, hown, hts⟩ hM.2 (va_cwO (owner := "FortyDays$Rule") 1 hts (lw_app (by
                intro w hw
                simp only [List.mem_cons, List.not_mem_nil, or_false] at hw
                rcases hw with e | e | e | e | e | e
                · rw [e]; exact q1181
                · rw [e]; exact q1184
                · rw [e]; exact q1182
                · rw [e]; exact q1192
                · rw [e]; exact q1193
                · rw [e]; exact q114) (lw_meth q1194)) rfl rfl rfl q1209 (by decide +kernel) ⟨Nat.le_of_ble_eq_true rfl, Nat.le_of_ble_eq_true rfl⟩) (c_preV (ci := 12) hk hH hS hg rfl) rfl rfl hl.1 rfl (lv_room (Nat.le_of_ble_eq_true rfl)) dX0_as_24 hR⟩
          · exact ⟨_, va_runU (C := RX13) (As := [.int p2]) ⟨hx, hb, hml, hown, hts⟩ hM.2 (va_cwO (owner := "FortyDays$Rule") 1 hts (lw_app (by
                intro w hw
                simp only [List.mem_cons, List.not_mem_nil, or_false] at hw
                rcases hw with e | e | e | e | e | e
                · rw [e]; exact q1181
                · rw [e]; exact q1184
                · rw [e]; exact q1182
                · rw [e]; exact q1196
                · rw [e]; exact q1197
                · rw [e]; exact q115) (lw_meth q1198)) rfl rfl rfl q1209 (by decide +kernel) ⟨Nat.le_of_ble_eq_true rfl, Nat.le_of_ble_eq_true rfl⟩) (c_preV (ci := 13) hk hH hS hg rfl) rfl rfl hl.1 rfl (lv_room (Nat.le_of_ble_eq_true rfl)) dX0_as_24 hR⟩
          · exact ⟨_, va_runU (C := RX14) (As := [.int p2]) ⟨hx, hb, hml, hown, hts⟩ hM.2 (va_cwO (owner := "FortyDays$Rule") 1 hts (lw_app (by
                intro w hw
                simp only [List.mem_cons, List.not_mem_nil, or_false] at hw
                rcases hw with e | e | e | e | e | e
                · rw [e]; exact q1181
                · rw [e]; exact q1184
                · rw [e]; exact q1182
                · rw [e]; exact q1200
                · rw [e]; exact q1201
                · rw [e]; exact q116) (lw_meth q1202)) rfl rfl rfl q1209 (by decide +kernel) ⟨Nat.le_of_ble_eq_true rfl, Nat.le_of_ble_eq_true rfl⟩) (c_preV (ci := 14) hk hH hS hg rfl) rfl rfl hl.1 rfl (lv_room (Nat.le_of_ble_eq_true rfl)) dX0_as_24 hR⟩
          · exact ⟨_, va_runU (C := RX15) (As := [.int p2]) ⟨hx, hb, hml, hown, hts⟩ hM.2 (va_cwO (owner := "FortyDays$Rule") 1 hts (lw_app (by
                intro w hw
                simp only [List.mem_cons, List.not_mem_nil, or_false] at hw
                rcases hw with e | e | e | e | e | e
                · rw [e]; exact q1181
                · rw [e]; exact q1184
                · rw [e]; exact q1182
                · rw [e]; exact q1204
                · rw [e]; exact q1189
                · rw [e]; exact q117) (lw_meth q1190)) rfl rfl rfl q1209 (by decide +kernel) ⟨Nat.le_of_ble_eq_true rfl, Nat.le_of_ble_eq_true rfl⟩) (c_preV (ci := 15) hk hH hS hg rfl) rfl rfl hl.1 rfl (lv_room (Nat.le_of_ble_eq_true rfl)) dX0_as_24 hR⟩
          · exact ⟨_, va_runU (C := RX16) (As := [.int p2]) ⟨hx, hb, hml, hown, hts⟩ hM.2 (va_cwO (owner := "FortyDays$Rule") 1 hts (lw_app (by
                intro w hw
                simp only [List.mem_cons, List.not_mem_nil, or_false] at hw
                rcases hw with e | e | e | e | e | e
                · rw [e]; exact q1181
                · rw [e]; exact q1184
                · rw [e]; exact q1182
                · rw [e]; exact q1205
                · rw [e]; exact q1206
                · rw [e]; exact q118) (lw_meth q1207)) rfl rfl rfl q1209 (by decide +kernel) ⟨Nat.le_of_ble_eq_true rfl, Nat.le_of_ble_eq_true rfl⟩) (c_preV (ci := 16) hk hH hS hg rfl) rfl rfl hl.1 rfl (lv_room (Nat.le_of_ble_eq_true rfl)) dX0_as_24 hR⟩
          · exact ⟨_, va_runU (C := RX17) (As := [.int p2]) ⟨hx, hb, hml, hown, hts⟩ hM.2 (va_cwO (owner := "FortyDays$Rule") 1 hts (lw_app (by
                intro w hw
                simp only [List.mem_cons, List.not_mem_nil, or_false] at hw
                rcases hw with e | e | e | e | e | e
                · rw [e]; exact q1181
                · rw [e]; exact q1184
                · rw [e]; exact q1182
                · rw [e]; exact q1185
                · rw [e]; exact q1186
                · rw [e]; exact q119) (lw_meth q1187)) rfl rfl rfl q1209 (by decide +kernel) ⟨Nat.le_of_ble_eq_true rfl, Nat.le_of_ble_eq_true rfl⟩) (c_preV (ci := 17) hk hH hS hg rfl) rfl rfl hl.1 rfl (lv_room (Nat.le_of_ble_eq_true rfl)) dX0_as_24 hR⟩
        clear hf
        refine Jjn1 (fun (x8 : Int32) X10 => J p l e (headSpec (ws_ yX0_as cX0_as 4 (some .int)) (rmC 4 85 σ σz)).room s m ([.ref a0, .int p1, .int p2] : List Value).toArray below meth c 4 E (cZ σ) (cS σ) (MQ below (cQ E (some (.int r)) σz) ([.ref a0, .int p1, .int p2] : List Value).toArray s (cZ σz - cZ σ) (cS σz - cS σ) (EA E)) (r, σz) X10 σ7 39 [] [.int x8]) (fun x8 => ?_) (fun k9 hk9 => ?_)
        · exact Jiret hx hb hr hlocks dX0_as_39
        · refine Jite (fun hc => ?_) (fun hc => ?_)
          · refine Jrow (fun H locs ls hH hS hl k => lv_if_eq (tgt := 37) hx hb dX0_as_27 (by decide) (fun _ => (k ls hl)) (fun h => absurd hc h)) ?_
            clear hc
            refine Jrow (fun H locs ls hH hS hl k => lv_bipush (v := (-6:Int32)) hx hb dX0_as_37 (by decide) (k ls hl)) ?_
            exact Jsub [] rfl (hk9 (-6:Int32))
          · refine Jrow (fun H locs ls hH hS hl k => lv_if_eq (tgt := 37) hx hb dX0_as_27 (by decide) (fun h => absurd h hc) (fun _ => (k ls hl))) ?_
            clear hc
            refine Jrow (fun H locs ls hH hS hl k => lv_aload_n hx hb dX0_as_30 rfl (lv_at hl 0 rfl) (k ls hl)) ?_
            refine Jgd (fun hg => ?_)
            refine Jrow (fun H locs ls hH hS hl k => c_get (F := 85) (v := .int (cFI σ7 x4 85)) hx hb hts hown hK hH hg (hts _ q795) (fun _ h => h) rfl dX0_as_31 (k ls hl)) ?_
            refine Jrow (fun H locs ls hH hS hl k => lv_goto (tgt := 39) hx hb dX0_as_34 (by decide) (k ls hl)) ?_
            exact Jsub [] rfl (hk9 (cFI σ7 x4 85))

def fX0_make (a0 : Nat) (p1 : Int32) (p2 : Int32) (σ : CS) : Option (Nat × CS) :=
 if p1 = (0:Int32) then
 bd (nO σ 12 3) (fun (σ1 : CS) =>
 cl2 (fX11_init (cZ σ) a0 p2 σ1) (fun (_ : Unit) (σ2 : CS) =>
 some (cZ σ, σ2)))
 else
 if p1 = (1:Int32) then
 bd (nO σ 13 4) (fun (σ4 : CS) =>
 cl2 (fX12_init (cZ σ) a0 p2 σ4) (fun (_ : Unit) (σ5 : CS) =>
 some (cZ σ, σ5)))
 else
 if p1 = (2:Int32) then
 bd (nO σ 14 5) (fun (σ7 : CS) =>
 cl2 (fX13_init (cZ σ) a0 p2 σ7) (fun (_ : Unit) (σ8 : CS) =>
 some (cZ σ, σ8)))
 else
 if p1 = (3:Int32) then
 bd (nO σ 15 5) (fun (σ10 : CS) =>
 cl2 (fX14_init (cZ σ) a0 p2 σ10) (fun (_ : Unit) (σ11 : CS) =>
 some (cZ σ, σ11)))
 else
 if p1 = (4:Int32) then
 bd (nO σ 16 4) (fun (σ13 : CS) =>
 cl2 (fX15_init (cZ σ) a0 p2 σ13) (fun (_ : Unit) (σ14 : CS) =>
 some (cZ σ, σ14)))
 else
 if p1 = (5:Int32) then
 bd (nO σ 17 6) (fun (σ16 : CS) =>
 cl2 (fX16_init (cZ σ) a0 p2 σ16) (fun (_ : Unit) (σ17 : CS) =>
 some (cZ σ, σ17)))
 else
 bd (nO σ 18 5) (fun (σ19 : CS) =>
 cl2 (fX17_init (cZ σ) a0 p2 σ19) (fun (_ : Unit) (σ20 : CS) =>
 some (cZ σ, σ20)))
theorem nX0_make {a0 : Nat} {p1 : Int32} {p2 : Int32} {σ : CS} : Mn σ (fX0_make a0 p1 p2 σ) := by
  unfold fX0_make
  refine Mite ?_ ?_
  · refine Mst (Nat.le_succ _) (Nat.le_add_right _ _) (fun σ1 => ?_)
    refine Mcl2 (nX11_init) (fun _ σ2 => ?_)
    exact Mret
  · refine Mite ?_ ?_
    · refine Mst (Nat.le_succ _) (Nat.le_add_right _ _) (fun σ4 => ?_)
      refine Mcl2 (nX12_init) (fun _ σ5 => ?_)
      exact Mret
    · refine Mite ?_ ?_
      · refine Mst (Nat.le_succ _) (Nat.le_add_right _ _) (fun σ7 => ?_)
        refine Mcl2 (nX13_init) (fun _ σ8 => ?_)
        exact Mret
      · refine Mite ?_ ?_
        · refine Mst (Nat.le_succ _) (Nat.le_add_right _ _) (fun σ10 => ?_)
          refine Mcl2 (nX14_init) (fun _ σ11 => ?_)
          exact Mret
        · refine Mite ?_ ?_
          · refine Mst (Nat.le_succ _) (Nat.le_add_right _ _) (fun σ13 => ?_)
            refine Mcl2 (nX15_init) (fun _ σ14 => ?_)
            exact Mret
          · refine Mite ?_ ?_
            · refine Mst (Nat.le_succ _) (Nat.le_add_right _ _) (fun σ16 => ?_)
              refine Mcl2 (nX16_init) (fun _ σ17 => ?_)
              exact Mret
            · refine Mst (Nat.le_succ _) (Nat.le_add_right _ _) (fun σ19 => ?_)
              refine Mcl2 (nX17_init) (fun _ σ20 => ?_)
              exact Mret
set_option maxHeartbeats 4000000 in
set_option maxRecDepth 100000 in
theorem mX0_make (l : Launch) (E : CE) {a0 : Nat} {p1 : Int32} {p2 : Int32} {σ : CS} {r : Nat} {σz : CS} (hX : fX0_make a0 p1 p2 σ = some (r, σz)) : MetC l yX0_make (ws_ yX0_make cX0_make 3 (some (.object "FortyDays$Rule"))) 4 86 E σ [.ref a0, .int p1, .int p2] (some (.ref r)) σz := by
  refine MetC.of hX (by decide) (Nat.le_of_ble_eq_true rfl) (nX0_make _ hX) ?_
  intro p e s m below meth c hx hb hr hml hts hown hlocks hnm hk hz0
  have hK := hk.1
  show J p l e (headSpec (ws_ yX0_make cX0_make 3 (some (.object "FortyDays$Rule"))) (rmC 4 86 σ σz)).room s m ([.ref a0, .int p1, .int p2] : List Value).toArray below meth c 3 E (cZ σ) (cS σ) (MQ below (cQ E (some (.ref r)) σz) ([.ref a0, .int p1, .int p2] : List Value).toArray s (cZ σz - cZ σ) (cS σz - cS σ) (EA E)) (r, σz) (fX0_make a0 p1 p2 σ) σ 0 [(0, .ref a0), (1, .int p1), (2, .int p2)] []
  unfold fX0_make
  refine Jrow (fun H locs ls hH hS hl k => lv_iload_n hx hb dX0_make_0 rfl (lv_at hl 1 rfl) (k ls hl)) ?_
  refine Jite (fun hc0 => ?_) (fun hc0 => ?_)
  · refine Jrow (fun H locs ls hH hS hl k => lv_tableIn (off := 39) (tgt := 40) hx hb dX0_make_1 (by rw [hc0]; decide) (by rw [hc0]; decide) (by rw [hc0]; decide) (by decide) (k ls hl)) ?_
    refine Jnew (σ1 := nO σ 12 3) (n := 3) rfl rfl ⟨rfl, rfl⟩ (fun H locs ls hH hS hl h1 h2 k => c_new (ci := 11) hx hb hts hown hK hH hS hk.2.1 in_X11 tyX11 tyX11_ok (by decide +kernel) (hts _ q774) (hts _ q775) (hts _ q113) rfl h1 h2 dX0_make_40 k) (fun σ1 eσ1 => ?_)
    clear eσ1
    refine Jrow (fun H locs ls hH hS hl k => lv_dup hx hb dX0_make_43 rfl (k ls hl)) ?_
    refine Jrow (fun H locs ls hH hS hl k => lv_aload_n hx hb dX0_make_44 rfl (lv_at hl 0 rfl) (k ls hl)) ?_
    refine Jrow (fun H locs ls hH hS hl k => lv_iload_n hx hb dX0_make_45 rfl (lv_at hl 2 rfl) (k ls hl)) ?_
    refine Jcl2 (fun _ σ2 hf => ?_)
    refine Jcall (v := none) (rest := [.ref (cZ σ)]) (mX11_init l E hf).1 ⟨rfl, rfl⟩ (fun H locs ls hH hS hl hR => ⟨_, va_runI (As := [.ref a0, .int p2]) ⟨hx, hb, hml, hown, hts⟩ (mX11_init l E hf).2 (cwI 2 hts (lw_meth q778) rfl rfl rfl (hts _ q113) (hts _ q776) (hts _ q777) rfl (by decide +kernel) ⟨Nat.le_of_ble_eq_true rfl, Nat.le_of_ble_eq_true rfl⟩) (c_preS hk hH hS) rfl rfl hl.1 rfl (lv_room (Nat.le_of_ble_eq_true rfl)) dX0_make_46 hR⟩) ?_
    clear hf
    exact Jaret hx hb hr (Or.inl ⟨_, rfl⟩) hlocks dX0_make_49
  · refine Jite (fun hc1 => ?_) (fun hc1 => ?_)
    · refine Jrow (fun H locs ls hH hS hl k => lv_tableIn (off := 49) (tgt := 50) hx hb dX0_make_1 (by rw [hc1]; decide) (by rw [hc1]; decide) (by rw [hc1]; decide) (by decide) (k ls hl)) ?_
      refine Jnew (σ1 := nO σ 13 4) (n := 4) rfl rfl ⟨rfl, rfl⟩ (fun H locs ls hH hS hl h1 h2 k => c_new (ci := 12) hx hb hts hown hK hH hS hk.2.1 in_X12 tyX12 tyX12_ok (by decide +kernel) (hts _ q804) (hts _ q805) (hts _ q114) rfl h1 h2 dX0_make_50 k) (fun σ4 eσ4 => ?_)
      clear eσ4
      refine Jrow (fun H locs ls hH hS hl k => lv_dup hx hb dX0_make_53 rfl (k ls hl)) ?_
      refine Jrow (fun H locs ls hH hS hl k => lv_aload_n hx hb dX0_make_54 rfl (lv_at hl 0 rfl) (k ls hl)) ?_
      refine Jrow (fun H locs ls hH hS hl k => lv_iload_n hx hb dX0_make_55 rfl (lv_at hl 2 rfl) (k ls hl)) ?_
      refine Jcl2 (fun _ σ5 hf => ?_)
      refine Jcall (v := none) (rest := [.ref (cZ σ)]) (mX12_init l E hf).1 ⟨rfl, rfl⟩ (fun H locs ls hH hS hl hR => ⟨_, va_runI (As := [.ref a0, .int p2]) ⟨hx, hb, hml, hown, hts⟩ (mX12_init l E hf).2 (cwI 2 hts (lw_meth q808) rfl rfl rfl (hts _ q114) (hts _ q806) (hts _ q807) rfl (by decide +kernel) ⟨Nat.le_of_ble_eq_true rfl, Nat.le_of_ble_eq_true rfl⟩) (c_preS hk hH hS) rfl rfl hl.1 rfl (lv_room (Nat.le_of_ble_eq_true rfl)) dX0_make_56 hR⟩) ?_
      clear hf
      exact Jaret hx hb hr (Or.inl ⟨_, rfl⟩) hlocks dX0_make_59
    · refine Jite (fun hc2 => ?_) (fun hc2 => ?_)
      · refine Jrow (fun H locs ls hH hS hl k => lv_tableIn (off := 59) (tgt := 60) hx hb dX0_make_1 (by rw [hc2]; decide) (by rw [hc2]; decide) (by rw [hc2]; decide) (by decide) (k ls hl)) ?_
        refine Jnew (σ1 := nO σ 14 5) (n := 5) rfl rfl ⟨rfl, rfl⟩ (fun H locs ls hH hS hl h1 h2 k => c_new (ci := 13) hx hb hts hown hK hH hS hk.2.1 in_X13 tyX13 tyX13_ok (by decide +kernel) (hts _ q817) (hts _ q818) (hts _ q115) rfl h1 h2 dX0_make_60 k) (fun σ7 eσ7 => ?_)
        clear eσ7
        refine Jrow (fun H locs ls hH hS hl k => lv_dup hx hb dX0_make_63 rfl (k ls hl)) ?_
        refine Jrow (fun H locs ls hH hS hl k => lv_aload_n hx hb dX0_make_64 rfl (lv_at hl 0 rfl) (k ls hl)) ?_
        refine Jrow (fun H locs ls hH hS hl k => lv_iload_n hx hb dX0_make_65 rfl (lv_at hl 2 rfl) (k ls hl)) ?_
        refine Jcl2 (fun _ σ8 hf => ?_)
        refine Jcall (v := none) (rest := [.ref (cZ σ)]) (mX13_init l E hf).1 ⟨rfl, rfl⟩ (fun H locs ls hH hS hl hR => ⟨_, va_runI (As := [.ref a0, .int p2]) ⟨hx, hb, hml, hown, hts⟩ (mX13_init l E hf).2 (cwI 2 hts (lw_meth q821) rfl rfl rfl (hts _ q115) (hts _ q819) (hts _ q820) rfl (by decide +kernel) ⟨Nat.le_of_ble_eq_true rfl, Nat.le_of_ble_eq_true rfl⟩) (c_preS hk hH hS) rfl rfl hl.1 rfl (lv_room (Nat.le_of_ble_eq_true rfl)) dX0_make_66 hR⟩) ?_
        clear hf
        exact Jaret hx hb hr (Or.inl ⟨_, rfl⟩) hlocks dX0_make_69
      · refine Jite (fun hc3 => ?_) (fun hc3 => ?_)
        · refine Jrow (fun H locs ls hH hS hl k => lv_tableIn (off := 69) (tgt := 70) hx hb dX0_make_1 (by rw [hc3]; decide) (by rw [hc3]; decide) (by rw [hc3]; decide) (by decide) (k ls hl)) ?_
          refine Jnew (σ1 := nO σ 15 5) (n := 5) rfl rfl ⟨rfl, rfl⟩ (fun H locs ls hH hS hl h1 h2 k => c_new (ci := 14) hx hb hts hown hK hH hS hk.2.1 in_X14 tyX14 tyX14_ok (by decide +kernel) (hts _ q831) (hts _ q832) (hts _ q116) rfl h1 h2 dX0_make_70 k) (fun σ10 eσ10 => ?_)
          clear eσ10
          refine Jrow (fun H locs ls hH hS hl k => lv_dup hx hb dX0_make_73 rfl (k ls hl)) ?_
          refine Jrow (fun H locs ls hH hS hl k => lv_aload_n hx hb dX0_make_74 rfl (lv_at hl 0 rfl) (k ls hl)) ?_
          refine Jrow (fun H locs ls hH hS hl k => lv_iload_n hx hb dX0_make_75 rfl (lv_at hl 2 rfl) (k ls hl)) ?_
          refine Jcl2 (fun _ σ11 hf => ?_)
          refine Jcall (v := none) (rest := [.ref (cZ σ)]) (mX14_init l E hf).1 ⟨rfl, rfl⟩ (fun H locs ls hH hS hl hR => ⟨_, va_runI (As := [.ref a0, .int p2]) ⟨hx, hb, hml, hown, hts⟩ (mX14_init l E hf).2 (cwI 2 hts (lw_meth q835) rfl rfl rfl (hts _ q116) (hts _ q833) (hts _ q834) rfl (by decide +kernel) ⟨Nat.le_of_ble_eq_true rfl, Nat.le_of_ble_eq_true rfl⟩) (c_preS hk hH hS) rfl rfl hl.1 rfl (lv_room (Nat.le_of_ble_eq_true rfl)) dX0_make_76 hR⟩) ?_
          clear hf
          exact Jaret hx hb hr (Or.inl ⟨_, rfl⟩) hlocks dX0_make_79
        · refine Jite (fun hc4 => ?_) (fun hc4 => ?_)
          · refine Jrow (fun H locs ls hH hS hl k => lv_tableIn (off := 79) (tgt := 80) hx hb dX0_make_1 (by rw [hc4]; decide) (by rw [hc4]; decide) (by rw [hc4]; decide) (by decide) (k ls hl)) ?_
            refine Jnew (σ1 := nO σ 16 4) (n := 4) rfl rfl ⟨rfl, rfl⟩ (fun H locs ls hH hS hl h1 h2 k => c_new (ci := 15) hx hb hts hown hK hH hS hk.2.1 in_X15 tyX15 tyX15_ok (by decide +kernel) (hts _ q845) (hts _ q846) (hts _ q117) rfl h1 h2 dX0_make_80 k) (fun σ13 eσ13 => ?_)
            clear eσ13
            refine Jrow (fun H locs ls hH hS hl k => lv_dup hx hb dX0_make_83 rfl (k ls hl)) ?_
            refine Jrow (fun H locs ls hH hS hl k => lv_aload_n hx hb dX0_make_84 rfl (lv_at hl 0 rfl) (k ls hl)) ?_
            refine Jrow (fun H locs ls hH hS hl k => lv_iload_n hx hb dX0_make_85 rfl (lv_at hl 2 rfl) (k ls hl)) ?_
            refine Jcl2 (fun _ σ14 hf => ?_)
            refine Jcall (v := none) (rest := [.ref (cZ σ)]) (mX15_init l E hf).1 ⟨rfl, rfl⟩ (fun H locs ls hH hS hl hR => ⟨_, va_runI (As := [.ref a0, .int p2]) ⟨hx, hb, hml, hown, hts⟩ (mX15_init l E hf).2 (cwI 2 hts (lw_meth q849) rfl rfl rfl (hts _ q117) (hts _ q847) (hts _ q848) rfl (by decide +kernel) ⟨Nat.le_of_ble_eq_true rfl, Nat.le_of_ble_eq_true rfl⟩) (c_preS hk hH hS) rfl rfl hl.1 rfl (lv_room (Nat.le_of_ble_eq_true rfl)) dX0_make_86 hR⟩) ?_
            clear hf
            exact Jaret hx hb hr (Or.inl ⟨_, rfl⟩) hlocks dX0_make_89
          · refine Jite (fun hc5 => ?_) (fun hc5 => ?_)
            · refine Jrow (fun H locs ls hH hS hl k => lv_tableIn (off := 89) (tgt := 90) hx hb dX0_make_1 (by rw [hc5]; decide) (by rw [hc5]; decide) (by rw [hc5]; decide) (by decide) (k ls hl)) ?_
              refine Jnew (σ1 := nO σ 17 6) (n := 6) rfl rfl ⟨rfl, rfl⟩ (fun H locs ls hH hS hl h1 h2 k => c_new (ci := 16) hx hb hts hown hK hH hS hk.2.1 in_X16 tyX16 tyX16_ok (by decide +kernel) (hts _ q858) (hts _ q859) (hts _ q118) rfl h1 h2 dX0_make_90 k) (fun σ16 eσ16 => ?_)
              clear eσ16
              refine Jrow (fun H locs ls hH hS hl k => lv_dup hx hb dX0_make_93 rfl (k ls hl)) ?_
              refine Jrow (fun H locs ls hH hS hl k => lv_aload_n hx hb dX0_make_94 rfl (lv_at hl 0 rfl) (k ls hl)) ?_
              refine Jrow (fun H locs ls hH hS hl k => lv_iload_n hx hb dX0_make_95 rfl (lv_at hl 2 rfl) (k ls hl)) ?_
              refine Jcl2 (fun _ σ17 hf => ?_)
              refine Jcall (v := none) (rest := [.ref (cZ σ)]) (mX16_init l E hf).1 ⟨rfl, rfl⟩ (fun H locs ls hH hS hl hR => ⟨_, va_runI (As := [.ref a0, .int p2]) ⟨hx, hb, hml, hown, hts⟩ (mX16_init l E hf).2 (cwI 2 hts (lw_meth q862) rfl rfl rfl (hts _ q118) (hts _ q860) (hts _ q861) rfl (by decide +kernel) ⟨Nat.le_of_ble_eq_true rfl, Nat.le_of_ble_eq_true rfl⟩) (c_preS hk hH hS) rfl rfl hl.1 rfl (lv_room (Nat.le_of_ble_eq_true rfl)) dX0_make_96 hR⟩) ?_
              clear hf
              exact Jaret hx hb hr (Or.inl ⟨_, rfl⟩) hlocks dX0_make_99
            · have hto : p1.toInt < 0 ∨ 5 < p1.toInt := by
                refine tb_out (fun v h1 h2 => ?_)
                have hv : v = 0 ∨ v = 1 ∨ v = 2 ∨ v = 3 ∨ v = 4 ∨ v = 5 := by omega
                rcases hv with rfl | rfl | rfl | rfl | rfl | rfl
                · exact lv_neT hc0 (by decide)
                · exact lv_neT hc1 (by decide)
                · exact lv_neT hc2 (by decide)
                · exact lv_neT hc3 (by decide)
                · exact lv_neT hc4 (by decide)
                · exact lv_neT hc5 (by decide)
              refine Jrow (fun H locs ls hH hS hl k => lv_tableOut (tgt := 100) hx hb dX0_make_1 hto (by decide) (k ls hl)) ?_
              refine Jnew (σ1 := nO σ 18 5) (n := 5) rfl rfl ⟨rfl, rfl⟩ (fun H locs ls hH hS hl h1 h2 k => c_new (ci := 17) hx hb hts hown hK hH hS hk.2.1 in_X17 tyX17 tyX17_ok (by decide +kernel) (hts _ q880) (hts _ q881) (hts _ q119) rfl h1 h2 dX0_make_100 k) (fun σ19 eσ19 => ?_)
              clear eσ19
              refine Jrow (fun H locs ls hH hS hl k => lv_dup hx hb dX0_make_103 rfl (k ls hl)) ?_
              refine Jrow (fun H locs ls hH hS hl k => lv_aload_n hx hb dX0_make_104 rfl (lv_at hl 0 rfl) (k ls hl)) ?_
              refine Jrow (fun H locs ls hH hS hl k => lv_iload_n hx hb dX0_make_105 rfl (lv_at hl 2 rfl) (k ls hl)) ?_
              refine Jcl2 (fun _ σ20 hf => ?_)
              refine Jcall (v := none) (rest := [.ref (cZ σ)]) (mX17_init l E hf).1 ⟨rfl, rfl⟩ (fun H locs ls hH hS hl hR => ⟨_, va_runI (As := [.ref a0, .int p2]) ⟨hx, hb, hml, hown, hts⟩ (mX17_init l E hf).2 (cwI 2 hts (lw_meth q884) rfl rfl rfl (hts _ q119) (hts _ q882) (hts _ q883) rfl (by decide +kernel) ⟨Nat.le_of_ble_eq_true rfl, Nat.le_of_ble_eq_true rfl⟩) (c_preS hk hH hS) rfl rfl hl.1 rfl (lv_room (Nat.le_of_ble_eq_true rfl)) dX0_make_106 hR⟩) ?_
              clear hf
              exact Jaret hx hb hr (Or.inl ⟨_, rfl⟩) hlocks dX0_make_109

def fX0_rule (T : Nat × Nat) (a0 : Nat) (p1 : Int32) (p2 : Int32) (σ : CS) : Option (Int32 × CS) :=
 cl (fX0_in p1 (0:Int32) (6:Int32)) (fun (x1 : Int32) =>
 if x1 = (0:Int32) then
 some ((-1:Int32), σ)
 else
 cl (fX0_in p2 (0:Int32) (99:Int32)) (fun (x2 : Int32) =>
 if x2 = (0:Int32) then
 some ((-2:Int32), σ)
 else
 gd (hf (cK σ a0) 38) (
 cl (cFR σ a0 38) (fun (x3 : Nat) =>
 gd (kd σ x3 20) (
 cl2 (fJ2_size x3 σ) (fun (x5 : Int32) (σ4 : CS) =>
 if x5 = (12:Int32) then
 some ((-4:Int32), σ4)
 else
 gd (hf (cK σ4 a0) 38) (
 cl (cFR σ4 a0 38) (fun (x6 : Nat) =>
 gd (kd σ4 a0 2) (
 cl2 (fX0_make a0 p1 p2 σ4) (fun (x8 : Nat) (σ7 : CS) =>
 gd (kd σ7 x6 20) (
 cl2 (fJ2_add T x6 x8 σ7) (fun (x10 : Int32) (σ9 : CS) =>
 gd (hf (cK σ9 a0) 38) (
 cl (cFR σ9 a0 38) (fun (x11 : Nat) =>
 gd (kd σ9 x11 20) (
 cl2 (fJ2_size x11 σ9) (fun (x13 : Int32) (σ12 : CS) =>
 some (x13 - (1:Int32), σ12)))))))))))))))))
theorem nX0_rule {T : Nat × Nat} {a0 : Nat} {p1 : Int32} {p2 : Int32} {σ : CS} : Mn σ (fX0_rule T a0 p1 p2 σ) := by
  unfold fX0_rule
  refine Mcl (fun x1 => ?_)
  refine Mite ?_ ?_
  · exact Mret
  · refine Mcl (fun x2 => ?_)
    refine Mite ?_ ?_
    · exact Mret
    · refine Mgd ?_
      refine Mcl (fun x3 => ?_)
      refine Mgd ?_
      refine Mcl2 (nJ2_size) (fun x5 σ4 => ?_)
      refine Mite ?_ ?_
      · exact Mret
      · refine Mgd ?_
        refine Mcl (fun x6 => ?_)
        refine Mgd ?_
        refine Mcl2 (nX0_make) (fun x8 σ7 => ?_)
        refine Mgd ?_
        refine Mcl2 (nJ2_add) (fun x10 σ9 => ?_)
        refine Mgd ?_
        refine Mcl (fun x11 => ?_)
        refine Mgd ?_
        refine Mcl2 (nJ2_size) (fun x13 σ12 => ?_)
        exact Mret
set_option maxHeartbeats 4000000 in
set_option maxRecDepth 100000 in
theorem mX0_rule (l : Launch) (E : CE) {a0 : Nat} {p1 : Int32} {p2 : Int32} {σ : CS} {r : Int32} {σz : CS} (hX : fX0_rule E.2.2.2 a0 p1 p2 σ = some (r, σz)) : MetC l yX0_rule (ws_ yX0_rule cX0_rule 3 (some .int)) 7 191 E σ [.ref a0, .int p1, .int p2] (some (.int r)) σz := by
  refine MetC.of hX (by decide) (Nat.le_of_ble_eq_true rfl) (nX0_rule _ hX) ?_
  intro p e s m below meth c hx hb hr hml hts hown hlocks hnm hk hz0
  have hK := hk.1
  show J p l e (headSpec (ws_ yX0_rule cX0_rule 3 (some .int)) (rmC 7 191 σ σz)).room s m ([.ref a0, .int p1, .int p2] : List Value).toArray below meth c 3 E (cZ σ) (cS σ) (MQ below (cQ E (some (.int r)) σz) ([.ref a0, .int p1, .int p2] : List Value).toArray s (cZ σz - cZ σ) (cS σz - cS σ) (EA E)) (r, σz) (fX0_rule E.2.2.2 a0 p1 p2 σ) σ 0 [(0, .ref a0), (1, .int p1), (2, .int p2)] []
  unfold fX0_rule
  refine Jrow (fun H locs ls hH hS hl k => lv_iload_n hx hb dX0_rule_0 rfl (lv_at hl 1 rfl) (k ls hl)) ?_
  refine Jrow (fun H locs ls hH hS hl k => lv_iconst (v := (0:Int32)) hx hb dX0_rule_1 (by decide) (k ls hl)) ?_
  refine Jrow (fun H locs ls hH hS hl k => lv_bipush (v := (6:Int32)) hx hb dX0_rule_2 (by decide) (k ls hl)) ?_
  refine Jcl (fun x1 hf => ?_)
  refine JcallS (v := .int x1) (rest := []) hz0 ⟨rfl, rfl⟩ sQi_o (fun H locs ls hl hR => va_runS (As := [.int p1, .int (0:Int32), .int (6:Int32)]) ⟨hx, hb, hml, hown, hts⟩ (mX0_in l hf) (va_cwS 3 hts (lw_S q319 q320 q88 q321) rfl rfl rfl (by decide +kernel) ⟨Nat.le_of_ble_eq_true rfl, Nat.le_of_ble_eq_true rfl⟩) s_pre rfl rfl hl.1 rfl (lv_room (Nat.le_of_ble_eq_true rfl)) dX0_rule_4 hR) ?_
  clear hf
  refine Jite (fun hc => ?_) (fun hc => ?_)
  · refine Jrow (fun H locs ls hH hS hl k => lv_if_ne (tgt := 12) hx hb dX0_rule_7 (by decide) (fun h => absurd hc h) (fun _ => (k ls hl))) ?_
    clear hc
    refine Jrow (fun H locs ls hH hS hl k => lv_iconst (v := (-1:Int32)) hx hb dX0_rule_10 (by decide) (k ls hl)) ?_
    exact Jiret hx hb hr hlocks dX0_rule_11
  · refine Jrow (fun H locs ls hH hS hl k => lv_if_ne (tgt := 12) hx hb dX0_rule_7 (by decide) (fun _ => (k ls hl)) (fun h => absurd h hc)) ?_
    clear hc
    refine Jrow (fun H locs ls hH hS hl k => lv_iload_n hx hb dX0_rule_12 rfl (lv_at hl 2 rfl) (k ls hl)) ?_
    refine Jrow (fun H locs ls hH hS hl k => lv_iconst (v := (0:Int32)) hx hb dX0_rule_13 (by decide) (k ls hl)) ?_
    refine Jrow (fun H locs ls hH hS hl k => lv_bipush (v := (99:Int32)) hx hb dX0_rule_14 (by decide) (k ls hl)) ?_
    refine Jcl (fun x2 hf => ?_)
    refine JcallS (v := .int x2) (rest := []) hz0 ⟨rfl, rfl⟩ sQi_o (fun H locs ls hl hR => va_runS (As := [.int p2, .int (0:Int32), .int (99:Int32)]) ⟨hx, hb, hml, hown, hts⟩ (mX0_in l hf) (va_cwS 3 hts (lw_S q319 q320 q88 q321) rfl rfl rfl (by decide +kernel) ⟨Nat.le_of_ble_eq_true rfl, Nat.le_of_ble_eq_true rfl⟩) s_pre rfl rfl hl.1 rfl (lv_room (Nat.le_of_ble_eq_true rfl)) dX0_rule_16 hR) ?_
    clear hf
    refine Jite (fun hc => ?_) (fun hc => ?_)
    · refine Jrow (fun H locs ls hH hS hl k => lv_if_ne (tgt := 25) hx hb dX0_rule_19 (by decide) (fun h => absurd hc h) (fun _ => (k ls hl))) ?_
      clear hc
      refine Jrow (fun H locs ls hH hS hl k => lv_bipush (v := (-2:Int32)) hx hb dX0_rule_22 (by decide) (k ls hl)) ?_
      exact Jiret hx hb hr hlocks dX0_rule_24
    · refine Jrow (fun H locs ls hH hS hl k => lv_if_ne (tgt := 25) hx hb dX0_rule_19 (by decide) (fun _ => (k ls hl)) (fun h => absurd h hc)) ?_
      clear hc
      refine Jrow (fun H locs ls hH hS hl k => lv_aload_n hx hb dX0_rule_25 rfl (lv_at hl 0 rfl) (k ls hl)) ?_
      refine Jgd (fun hg => ?_)
      refine Jcl (fun x3 hq => ?_)
      refine Jrow (fun H locs ls hH hS hl k => c_get (F := 38) (v := .ref x3) hx hb hts hown hK hH hg (hts _ q271) (fun _ h => h) (fvR rfl hq) dX0_rule_26 (k ls hl)) ?_
      clear hq
      refine Jgd (fun hg => ?_)
      refine Jcl2 (fun x5 σ4 hf => ?_)
      refine Jcall (v := (some (.int x5))) (rest := []) (mJ2_size l E hf).1 ⟨rfl, rfl⟩ (fun H locs ls hH hS hl hR => ⟨_, va_runV (C := RJ2) (As := []) ⟨hx, hb, hml, hown, hts⟩ (mJ2_size l E hf).2 (cwV 0 hts (lw_V q327 q328 q329 q91 q330) rfl rfl rfl (by decide +kernel) ⟨Nat.le_of_ble_eq_true rfl, Nat.le_of_ble_eq_true rfl⟩) (c_preV (ci := 19) hk hH hS hg rfl) rfl rfl hl.1 rfl (lv_room (Nat.le_of_ble_eq_true rfl)) dX0_rule_29 hR⟩) ?_
      clear hf
      refine Jrow (fun H locs ls hH hS hl k => lv_bipush (v := (12:Int32)) hx hb dX0_rule_32 (by decide) (k ls hl)) ?_
      refine Jite (fun hc => ?_) (fun hc => ?_)
      · refine Jrow (fun H locs ls hH hS hl k => lv_icmp_ne (tgt := 40) hx hb dX0_rule_34 (by decide) (fun h => absurd hc h) (fun _ => (k ls hl))) ?_
        clear hc
        refine Jrow (fun H locs ls hH hS hl k => lv_bipush (v := (-4:Int32)) hx hb dX0_rule_37 (by decide) (k ls hl)) ?_
        exact Jiret hx hb hr hlocks dX0_rule_39
      · refine Jrow (fun H locs ls hH hS hl k => lv_icmp_ne (tgt := 40) hx hb dX0_rule_34 (by decide) (fun _ => (k ls hl)) (fun h => absurd h hc)) ?_
        clear hc
        refine Jrow (fun H locs ls hH hS hl k => lv_aload_n hx hb dX0_rule_40 rfl (lv_at hl 0 rfl) (k ls hl)) ?_
        refine Jgd (fun hg => ?_)
        refine Jcl (fun x6 hq => ?_)
        refine Jrow (fun H locs ls hH hS hl k => c_get (F := 38) (v := .ref x6) hx hb hts hown hK hH hg (hts _ q271) (fun _ h => h) (fvR rfl hq) dX0_rule_41 (k ls hl)) ?_
        clear hq
        refine Jrow (fun H locs ls hH hS hl k => lv_aload_n hx hb dX0_rule_44 rfl (lv_at hl 0 rfl) (k ls hl)) ?_
        refine Jrow (fun H locs ls hH hS hl k => lv_iload_n hx hb dX0_rule_45 rfl (lv_at hl 1 rfl) (k ls hl)) ?_
        refine Jrow (fun H locs ls hH hS hl k => lv_iload_n hx hb dX0_rule_46 rfl (lv_at hl 2 rfl) (k ls hl)) ?_
        refine Jgd (fun hg => ?_)
        refine Jcl2 (fun x8 σ7 hf => ?_)
        refine Jcall (v := (some (.ref x8))) (rest := [.ref x6]) (mX0_make l E hf).1 ⟨rfl, rfl⟩ (fun H locs ls hH hS hl hR => ⟨_, va_runV (C := RX0) (As := [.int p1, .int p2]) ⟨hx, hb, hml, hown, hts⟩ (mX0_make l E hf).2 (cwV 2 hts (lw_V q770 q772 qs20 q88 q773) rfl rfl rfl (by decide +kernel) ⟨Nat.le_of_ble_eq_true rfl, Nat.le_of_ble_eq_true rfl⟩) (c_preV (ci := 1) hk hH hS hg rfl) rfl rfl hl.1 rfl (lv_room (Nat.le_of_ble_eq_true rfl)) dX0_rule_47 hR⟩) ?_
        clear hf
        refine Jgd (fun hg => ?_)
        refine Jcl2 (fun x10 σ9 hf => ?_)
        refine Jcall (v := (some (.int x10))) (rest := []) (mJ2_add l E hf).1 ⟨rfl, rfl⟩ (fun H locs ls hH hS hl hR => ⟨_, va_runV (C := RJ2) (As := [.ref x8]) ⟨hx, hb, hml, hown, hts⟩ (mJ2_add l E hf).2 (cwV 1 hts (lw_V q596 q526 q527 q91 q528) rfl rfl rfl (by decide +kernel) ⟨Nat.le_of_ble_eq_true rfl, Nat.le_of_ble_eq_true rfl⟩) (c_preV (ci := 19) hk hH hS hg rfl) rfl rfl hl.1 rfl (lv_room (Nat.le_of_ble_eq_true rfl)) dX0_rule_50 hR⟩) ?_
        clear hf
        refine Jrow (fun H locs ls hH hS hl k => lv_pop hx hb dX0_rule_53 rfl (k ls hl)) ?_
        refine Jrow (fun H locs ls hH hS hl k => lv_aload_n hx hb dX0_rule_54 rfl (lv_at hl 0 rfl) (k ls hl)) ?_
        refine Jgd (fun hg => ?_)
        refine Jcl (fun x11 hq => ?_)
        refine Jrow (fun H locs ls hH hS hl k => c_get (F := 38) (v := .ref x11) hx hb hts hown hK hH hg (hts _ q271) (fun _ h => h) (fvR rfl hq) dX0_rule_55 (k ls hl)) ?_
        clear hq
        refine Jgd (fun hg => ?_)
        refine Jcl2 (fun x13 σ12 hf => ?_)
        refine Jcall (v := (some (.int x13))) (rest := []) (mJ2_size l E hf).1 ⟨rfl, rfl⟩ (fun H locs ls hH hS hl hR => ⟨_, va_runV (C := RJ2) (As := []) ⟨hx, hb, hml, hown, hts⟩ (mJ2_size l E hf).2 (cwV 0 hts (lw_V q327 q328 q329 q91 q330) rfl rfl rfl (by decide +kernel) ⟨Nat.le_of_ble_eq_true rfl, Nat.le_of_ble_eq_true rfl⟩) (c_preV (ci := 19) hk hH hS hg rfl) rfl rfl hl.1 rfl (lv_room (Nat.le_of_ble_eq_true rfl)) dX0_rule_58 hR⟩) ?_
        clear hf
        refine Jrow (fun H locs ls hH hS hl k => lv_iconst (v := (1:Int32)) hx hb dX0_rule_61 (by decide) (k ls hl)) ?_
        refine Jrow (fun H locs ls hH hS hl k => lv_isub hx hb dX0_rule_62 (k ls hl)) ?_
        exact Jiret hx hb hr hlocks dX0_rule_63

def fX0_row (a0 : Nat) (p1 : Int32) (p2 : Int32) (σ : CS) : Option (Int32 × CS) :=
 gd (kd σ a0 2) (
 cl2 (fX0_ruleAt a0 p1 σ) (fun (x2 : Option Nat) (σ1 : CS) =>
 oc x2 (
 some ((-1:Int32), σ1)) (fun (x3 : Nat) =>
 cl (fX0_in p2 (0:Int32) (1:Int32)) (fun (x4 : Int32) =>
 if x4 = (0:Int32) then
 some ((-2:Int32), σ1)
 else
 gd (isX11 (cK σ1 x3)) (
 bd (cond (kd σ1 x3 17) 1 0) (fun (x5 : Int32) =>
 if x5 = (0:Int32) then
 some ((-3:Int32), σ1)
 else
 gd (kd σ1 x3 17) (
 gd (hf (cK σ1 x3) 92) (
 if (cFI σ1 x3 92) = (10:Int32) then
 some ((-4:Int32), σ1)
 else
 gd (hf (cK σ1 x3) 91) (
 cl (cFR σ1 x3 91) (fun (x6 : Nat) =>
 gd (hf (cK σ1 x3) 92) (
 gd (hf (cK σ1 x3) 92) (
 bd (uFI σ1 x3 92 ((cFI σ1 x3 92) + (1:Int32))) (fun (σ7 : CS) =>
 gd (kd σ7 x6 101) (
 gd (ib (cFI σ1 x3 92) (cLN σ7 x6)) (
 bd (uAI σ7 x6 (cFI σ1 x3 92).toNatClampNeg p2) (fun (σ8 : CS) =>
 gd (hf (cK σ8 x3) 92) (
 some (cFI σ8 x3 92, σ8))))))))))))))))))
theorem nX0_row {a0 : Nat} {p1 : Int32} {p2 : Int32} {σ : CS} : Mn σ (fX0_row a0 p1 p2 σ) := by
  unfold fX0_row
  refine Mgd ?_
  refine Mcl2 (nX0_ruleAt) (fun x2 σ1 => ?_)
  refine Moc ?_ (fun x3 => ?_)
  · exact Mret
  · refine Mcl (fun x4 => ?_)
    refine Mite ?_ ?_
    · exact Mret
    · refine Mgd ?_
      refine Mbd (fun x5 => ?_)
      refine Mite ?_ ?_
      · exact Mret
      · refine Mgd ?_
        refine Mgd ?_
        refine Mite ?_ ?_
        · exact Mret
        · refine Mgd ?_
          refine Mcl (fun x6 => ?_)
          refine Mgd ?_
          refine Mgd ?_
          refine Mst (Nat.le_refl _) (Nat.le_refl _) (fun σ7 => ?_)
          refine Mgd ?_
          refine Mgd ?_
          refine Mst (Nat.le_refl _) (Nat.le_refl _) (fun σ8 => ?_)
          refine Mgd ?_
          exact Mret
set_option maxHeartbeats 4000000 in
set_option maxRecDepth 100000 in
theorem mX0_row (l : Launch) (E : CE) {a0 : Nat} {p1 : Int32} {p2 : Int32} {σ : CS} {r : Int32} {σz : CS} (hX : fX0_row a0 p1 p2 σ = some (r, σz)) : MetC l yX0_row (ws_ yX0_row cX0_row 5 (some .int)) 4 85 E σ [.ref a0, .int p1, .int p2] (some (.int r)) σz := by
  refine MetC.of hX (by decide) (Nat.le_of_ble_eq_true rfl) (nX0_row _ hX) ?_
  intro p e s m below meth c hx hb hr hml hts hown hlocks hnm hk hz0
  have hK := hk.1
  show J p l e (headSpec (ws_ yX0_row cX0_row 5 (some .int)) (rmC 4 85 σ σz)).room s m ([.ref a0, .int p1, .int p2] : List Value).toArray below meth c 5 E (cZ σ) (cS σ) (MQ below (cQ E (some (.int r)) σz) ([.ref a0, .int p1, .int p2] : List Value).toArray s (cZ σz - cZ σ) (cS σz - cS σ) (EA E)) (r, σz) (fX0_row a0 p1 p2 σ) σ 0 [(0, .ref a0), (1, .int p1), (2, .int p2)] []
  unfold fX0_row
  refine Jrow (fun H locs ls hH hS hl k => lv_aload_n hx hb dX0_row_0 rfl (lv_at hl 0 rfl) (k ls hl)) ?_
  refine Jrow (fun H locs ls hH hS hl k => lv_iload_n hx hb dX0_row_1 rfl (lv_at hl 1 rfl) (k ls hl)) ?_
  refine Jgd (fun hg => ?_)
  refine Jcl2 (fun x2 σ1 hf => ?_)
  refine Jcall (v := (some (va_rf x2))) (rest := []) (mX0_ruleAt l E hf).1 ⟨rfl, rfl⟩ (fun H locs ls hH hS hl hR => ⟨_, va_runV (C := RX0) (As := [.int p1]) ⟨hx, hb, hml, hown, hts⟩ (mX0_ruleAt l E hf).2 (cwV 1 hts (lw_V q898 q900 qs21 q88 q901) rfl rfl rfl (by decide +kernel) ⟨Nat.le_of_ble_eq_true rfl, Nat.le_of_ble_eq_true rfl⟩) (c_preV (ci := 1) hk hH hS hg rfl) rfl rfl hl.1 rfl (lv_room (Nat.le_of_ble_eq_true rfl)) dX0_row_2 hR⟩) ?_
  clear hf
  refine Jrow (fun H locs ls hH hS hl k => lv_astore_nF (lv' := [(3, va_rf x2), (0, .ref a0), (1, .int p1), (2, .int p2)]) hx hb dX0_row_5 rfl hl (by decide) rfl k) ?_
  refine Jrow (fun H locs ls hH hS hl k => lv_aload_nF hx hb dX0_row_6 rfl (lv_at hl 0 rfl) (k ls hl)) ?_
  rcases x2 with _ | x3
  · refine Joc0 ?_
    refine Jrow (fun H locs ls hH hS hl k => lv_ifnonnullN hx hb dX0_row_7 (k ls hl)) ?_
    refine Jrow (fun H locs ls hH hS hl k => lv_iconst (v := (-1:Int32)) hx hb dX0_row_10 (by decide) (k ls hl)) ?_
    exact Jiret hx hb hr hlocks dX0_row_11
  · refine Joc1 ?_
    refine Jrow (fun H locs ls hH hS hl k => lv_ifnonnull (tgt := 12) hx hb dX0_row_7 (by decide) (k ls hl)) ?_
    refine Jrow (fun H locs ls hH hS hl k => lv_iload_n hx hb dX0_row_12 rfl (lv_at hl 3 rfl) (k ls hl)) ?_
    refine Jrow (fun H locs ls hH hS hl k => lv_iconst (v := (0:Int32)) hx hb dX0_row_13 (by decide) (k ls hl)) ?_
    refine Jrow (fun H locs ls hH hS hl k => lv_iconst (v := (1:Int32)) hx hb dX0_row_14 (by decide) (k ls hl)) ?_
    refine Jcl (fun x4 hf => ?_)
    refine JcallS (v := .int x4) (rest := []) hz0 ⟨rfl, rfl⟩ sQi_o (fun H locs ls hl hR => va_runS (As := [.int p2, .int (0:Int32), .int (1:Int32)]) ⟨hx, hb, hml, hown, hts⟩ (mX0_in l hf) (va_cwS 3 hts (lw_S q319 q320 q88 q321) rfl rfl rfl (by decide +kernel) ⟨Nat.le_of_ble_eq_true rfl, Nat.le_of_ble_eq_true rfl⟩) s_pre rfl rfl hl.1 rfl (lv_room (Nat.le_of_ble_eq_true rfl)) dX0_row_15 hR) ?_
    clear hf
    refine Jite (fun hc => ?_) (fun hc => ?_)
    · refine Jrow (fun H locs ls hH hS hl k => lv_if_ne (tgt := 24) hx hb dX0_row_18 (by decide) (fun h => absurd hc h) (fun _ => (k ls hl))) ?_
      clear hc
      refine Jrow (fun H locs ls hH hS hl k => lv_bipush (v := (-2:Int32)) hx hb dX0_row_21 (by decide) (k ls hl)) ?_
      exact Jiret hx hb hr hlocks dX0_row_23
    · refine Jrow (fun H locs ls hH hS hl k => lv_if_ne (tgt := 24) hx hb dX0_row_18 (by decide) (fun _ => (k ls hl)) (fun h => absurd h hc)) ?_
      clear hc
      refine Jrow (fun H locs ls hH hS hl k => lv_aload_n hx hb dX0_row_24 rfl (lv_at hl 0 rfl) (k ls hl)) ?_
      refine Jgd (fun hg => ?_)
      refine Jrow (fun H locs ls hH hS hl k => c_instX16 hx hb hown (hts _ q858) hk hH hg dX0_row_25 (k ls hl)) ?_
      refine JbdI (fun x5 => ?_)
      refine Jite (fun hc => ?_) (fun hc => ?_)
      · refine Jrow (fun H locs ls hH hS hl k => lv_if_ne (tgt := 34) hx hb dX0_row_28 (by decide) (fun h => absurd hc h) (fun _ => (k ls hl))) ?_
        clear hc
        refine Jrow (fun H locs ls hH hS hl k => lv_bipush (v := (-3:Int32)) hx hb dX0_row_31 (by decide) (k ls hl)) ?_
        exact Jiret hx hb hr hlocks dX0_row_33
      · refine Jrow (fun H locs ls hH hS hl k => lv_if_ne (tgt := 34) hx hb dX0_row_28 (by decide) (fun _ => (k ls hl)) (fun h => absurd h hc)) ?_
        clear hc
        refine Jrow (fun H locs ls hH hS hl k => lv_aload_n hx hb dX0_row_34 rfl (lv_at hl 0 rfl) (k ls hl)) ?_
        refine Jgd (fun hg => ?_)
        refine Jrow (fun H locs ls hH hS hl k => va_castE hx hb hown (hts _ q858) (c_recv hK hH (ci := 16) hg rfl) dX0_row_35 (k ls hl)) ?_
        refine Jrow (fun H locs ls hH hS hl k => lv_astore (lv' := [(4, .ref x3), (3, .ref x3), (0, .ref a0), (1, .int p1), (2, .int p2)]) hx hb dX0_row_38 hl (by decide) rfl k) ?_
        refine Jrow (fun H locs ls hH hS hl k => lv_aload hx hb dX0_row_40 (lv_at hl 0 rfl) (k ls hl)) ?_
        refine Jgd (fun hg => ?_)
        refine Jrow (fun H locs ls hH hS hl k => c_getN (F := 92) (v := .int (cFI σ1 x3 92)) hx hb hts hown hK hH hg (cN hk.2.2.1 24 rfl) (fun _ h => h) rfl dX0_row_42 (k ls hl)) ?_
        refine Jrow (fun H locs ls hH hS hl k => lv_bipush (v := (10:Int32)) hx hb dX0_row_45 (by decide) (k ls hl)) ?_
        refine Jite (fun hc => ?_) (fun hc => ?_)
        · refine Jrow (fun H locs ls hH hS hl k => lv_icmp_ne (tgt := 53) hx hb dX0_row_47 (by decide) (fun h => absurd hc h) (fun _ => (k ls hl))) ?_
          clear hc
          refine Jrow (fun H locs ls hH hS hl k => lv_bipush (v := (-4:Int32)) hx hb dX0_row_50 (by decide) (k ls hl)) ?_
          exact Jiret hx hb hr hlocks dX0_row_52
        · refine Jrow (fun H locs ls hH hS hl k => lv_icmp_ne (tgt := 53) hx hb dX0_row_47 (by decide) (fun _ => (k ls hl)) (fun h => absurd h hc)) ?_
          clear hc
          refine Jrow (fun H locs ls hH hS hl k => lv_aload hx hb dX0_row_53 (lv_at hl 0 rfl) (k ls hl)) ?_
          refine Jgd (fun hg => ?_)
          refine Jcl (fun x6 hq => ?_)
          refine Jrow (fun H locs ls hH hS hl k => c_getN (F := 91) (v := .ref x6) hx hb hts hown hK hH hg (cN hk.2.2.1 23 rfl) (fun _ h => h) (fvR rfl hq) dX0_row_55 (k ls hl)) ?_
          clear hq
          refine Jrow (fun H locs ls hH hS hl k => lv_aload hx hb dX0_row_58 (lv_at hl 0 rfl) (k ls hl)) ?_
          refine Jrow (fun H locs ls hH hS hl k => lv_dup hx hb dX0_row_60 rfl (k ls hl)) ?_
          refine Jgd (fun hg => ?_)
          refine Jrow (fun H locs ls hH hS hl k => c_getN (F := 92) (v := .int (cFI σ1 x3 92)) hx hb hts hown hK hH hg (cN hk.2.2.1 24 rfl) (fun _ h => h) rfl dX0_row_61 (k ls hl)) ?_
          refine Jrow (fun H locs ls hH hS hl k => lv_dup_x1 hx hb dX0_row_64 rfl rfl (k ls hl)) ?_
          refine Jrow (fun H locs ls hH hS hl k => lv_iconst (v := (1:Int32)) hx hb dX0_row_65 (by decide) (k ls hl)) ?_
          refine Jrow (fun H locs ls hH hS hl k => lv_iadd hx hb dX0_row_66 (k ls hl)) ?_
          refine Jgd (fun hg => ?_)
          refine Jst (σ1 := uFI σ1 x3 92 ((cFI σ1 x3 92) + (1:Int32))) rfl rfl (fun H locs ls hH hS hl k => c_putIN (F := 92) (ty := .int) (x := ((cFI σ1 x3 92) + (1:Int32))) hx hb hts hown hK hH hS hg (cN hk.2.2.1 24 rfl) (fun _ h => h) rfl rfl (by decide +kernel) rfl rfl rfl dX0_row_67 k) (fun σ7 => ?_)
          refine Jrow (fun H locs ls hH hS hl k => lv_iload_n hx hb dX0_row_70 rfl (lv_at hl 4 rfl) (k ls hl)) ?_
          refine Jgd (fun hk1 => ?_)
          refine Jgd (fun hg => ?_)
          refine Jst (σ1 := uAI σ7 x6 (cFI σ1 x3 92).toNatClampNeg p2) rfl rfl (fun H locs ls hH hS hl k => c_iast hx hb hK hH hS hk1 hg dX0_row_71 k) (fun σ8 => ?_)
          refine Jrow (fun H locs ls hH hS hl k => lv_aload hx hb dX0_row_72 (lv_at hl 0 rfl) (k ls hl)) ?_
          refine Jgd (fun hg => ?_)
          refine Jrow (fun H locs ls hH hS hl k => c_getN (F := 92) (v := .int (cFI σ8 x3 92)) hx hb hts hown hK hH hg (cN hk.2.2.1 24 rfl) (fun _ h => h) rfl dX0_row_74 (k ls hl)) ?_
          exact Jiret hx hb hr hlocks dX0_row_77

def fX0_judged (a0 : Nat) (p1 : Int32) (p2 : Int32) (σ : CS) : Option (Int32 × CS) :=
 gd (kd σ a0 2) (
 cl2 (fX0_ruleAt a0 p1 σ) (fun (x2 : Option Nat) (σ1 : CS) =>
 gd (kd σ1 a0 2) (
 cl2 (fX0_shipAt a0 p2 σ1) (fun (x4 : Option Nat) (σ3 : CS) =>
 jn (some ((-1:Int32), σ3)) (fun (k5 : Option (Int32 × CS)) =>
 oc x2 (
 k5) (fun (x6 : Nat) =>
 oc x4 (
 k5) (fun (x7 : Nat) =>
 gd (isX11 (cK σ3 x6)) (
 bd (cond (kd σ3 x6 17) 1 0) (fun (x8 : Int32) =>
 if x8 = (0:Int32) then
 some ((-3:Int32), σ3)
 else
 gd (hf (cK σ3 x7) 83) (
 cl (cFR σ3 x7 83) (fun (x9 : Nat) =>
 gd (kd σ3 a0 2) (
 cl2 (fX0_goForward a0 x9 (0:Int32) σ3) (fun (_ : Unit) (σ10 : CS) =>
 lp (fun _ _ => none) (fun (k14 : Int32 → CS → Option (Int32 × CS)) (x12 : Int32) (σ13 : CS) =>
 if (9:Int32) < x12 then
 some ((-5:Int32), σ13)
 else
 gd (hf (cK σ13 a0) 29) (
 cl (cFR σ13 a0 29) (fun (x15 : Nat) =>
 gd (kd σ13 x15 107) (
 gd (ib x12 (cLN σ13 x15)) (
 cl (cAR σ13 x15 x12.toNatClampNeg) (fun (x16 : Nat) =>
 gd (isX11 (cK σ13 x6)) (
 cl2 (vR_letsIn x6 x16 x12 σ13) (fun (x17 : Int32) (σ18 : CS) =>
 gd (kd σ18 a0 2) (
 cl2 (fX0_isBestIn a0 x12 ((9:Int32) - x12) σ18) (fun (x20 : Int32) (σ19 : CS) =>
 if x17 = x20 then
 if x17 = (0:Int32) then
 bd (x12 + (1:Int32)) (fun (x21 : Int32) =>
 k14 x21 σ19)
 else
 some ((-5:Int32), σ19)
 else
 some (x12, σ19))))))))))) NF (0:Int32) σ10)))))))))))))
theorem nX0_judged {a0 : Nat} {p1 : Int32} {p2 : Int32} {σ : CS} : Mn σ (fX0_judged a0 p1 p2 σ) := by
  unfold fX0_judged
  refine Mgd ?_
  refine Mcl2 (nX0_ruleAt) (fun x2 σ1 => ?_)
  refine Mgd ?_
  refine Mcl2 (nX0_shipAt) (fun x4 σ3 => ?_)
  refine Mjn0 (fun  (X23 : Option (Int32 × CS)) => Mn σ3 X23) (?_) (fun k5 hk5 => ?_)
  · exact Mret
  · refine Moc ?_ (fun x6 => ?_)
    · exact hk5
    · refine Moc ?_ (fun x7 => ?_)
      · exact hk5
      · refine Mgd ?_
        refine Mbd (fun x8 => ?_)
        refine Mite ?_ ?_
        · exact Mret
        · refine Mgd ?_
          refine Mcl (fun x9 => ?_)
          refine Mgd ?_
          refine Mcl2 (nX0_goForward) (fun _ σ10 => ?_)
          refine Plp2 (fun (x12 : Int32) (σ13 : CS) (X22 : Option (Int32 × CS)) => Mn σ13 X22) (fun _ _ => Mnone) (fun k14 hk14 x12 σ13 => ?_)
          refine Mite ?_ ?_
          · exact Mret
          · refine Mgd ?_
            refine Mcl (fun x15 => ?_)
            refine Mgd ?_
            refine Mgd ?_
            refine Mcl (fun x16 => ?_)
            refine Mgd ?_
            refine Mcl2 nvR_letsIn (fun x17 σ18 => ?_)
            refine Mgd ?_
            refine Mcl2 (nX0_isBestIn) (fun x20 σ19 => ?_)
            refine Mite ?_ ?_
            · refine Mite ?_ ?_
              · refine Mbd (fun x21 => ?_)
                exact hk14 x21 σ19
              · exact Mret
            · exact Mret
set_option maxHeartbeats 4000000 in
set_option maxRecDepth 100000 in
theorem mX0_judged (l : Launch) (E : CE) {a0 : Nat} {p1 : Int32} {p2 : Int32} {σ : CS} {r : Int32} {σz : CS} (hX : fX0_judged a0 p1 p2 σ = some (r, σz)) : MetC l yX0_judged (ws_ yX0_judged cX0_judged 8 (some .int)) 105 4124 E σ [.ref a0, .int p1, .int p2] (some (.int r)) σz := by
  refine MetC.of hX (by decide) (Nat.le_of_ble_eq_true rfl) (nX0_judged _ hX) ?_
  intro p e s m below meth c hx hb hr hml hts hown hlocks hnm hk hz0
  have hK := hk.1
  show J p l e (headSpec (ws_ yX0_judged cX0_judged 8 (some .int)) (rmC 105 4124 σ σz)).room s m ([.ref a0, .int p1, .int p2] : List Value).toArray below meth c 8 E (cZ σ) (cS σ) (MQ below (cQ E (some (.int r)) σz) ([.ref a0, .int p1, .int p2] : List Value).toArray s (cZ σz - cZ σ) (cS σz - cS σ) (EA E)) (r, σz) (fX0_judged a0 p1 p2 σ) σ 0 [(0, .ref a0), (1, .int p1), (2, .int p2)] []
  unfold fX0_judged
  refine Jrow (fun H locs ls hH hS hl k => lv_aload_n hx hb dX0_judged_0 rfl (lv_at hl 0 rfl) (k ls hl)) ?_
  refine Jrow (fun H locs ls hH hS hl k => lv_iload_n hx hb dX0_judged_1 rfl (lv_at hl 1 rfl) (k ls hl)) ?_
  refine Jgd (fun hg => ?_)
  refine Jcl2 (fun x2 σ1 hf => ?_)
  refine Jcall (v := (some (va_rf x2))) (rest := []) (mX0_ruleAt l E hf).1 ⟨rfl, rfl⟩ (fun H locs ls hH hS hl hR => ⟨_, va_runV (C := RX0) (As := [.int p1]) ⟨hx, hb, hml, hown, hts⟩ (mX0_ruleAt l E hf).2 (cwV 1 hts (lw_V q898 q900 qs21 q88 q901) rfl rfl rfl (by decide +kernel) ⟨Nat.le_of_ble_eq_true rfl, Nat.le_of_ble_eq_true rfl⟩) (c_preV (ci := 1) hk hH hS hg rfl) rfl rfl hl.1 rfl (lv_room (Nat.le_of_ble_eq_true rfl)) dX0_judged_2 hR⟩) ?_
  clear hf
  refine Jrow (fun H locs ls hH hS hl k => lv_astore_nF (lv' := [(3, va_rf x2), (0, .ref a0), (1, .int p1), (2, .int p2)]) hx hb dX0_judged_5 rfl hl (by decide) rfl k) ?_
  refine Jrow (fun H locs ls hH hS hl k => lv_aload_n hx hb dX0_judged_6 rfl (lv_at hl 1 rfl) (k ls hl)) ?_
  refine Jrow (fun H locs ls hH hS hl k => lv_iload_n hx hb dX0_judged_7 rfl (lv_at hl 3 rfl) (k ls hl)) ?_
  refine Jgd (fun hg => ?_)
  refine Jcl2 (fun x4 σ3 hf => ?_)
  refine Jcall (v := (some (va_rf x4))) (rest := []) (mX0_shipAt l E hf).1 ⟨rfl, rfl⟩ (fun H locs ls hH hS hl hR => ⟨_, va_runV (C := RX0) (As := [.int p2]) ⟨hx, hb, hml, hown, hts⟩ (mX0_shipAt l E hf).2 (cwV 1 hts (lw_V q703 q705 qs18 q88 q706) rfl rfl rfl (by decide +kernel) ⟨Nat.le_of_ble_eq_true rfl, Nat.le_of_ble_eq_true rfl⟩) (c_preV (ci := 1) hk hH hS hg rfl) rfl rfl hl.1 rfl (lv_room (Nat.le_of_ble_eq_true rfl)) dX0_judged_8 hR⟩) ?_
  clear hf
  refine Jrow (fun H locs ls hH hS hl k => lv_astoreF (lv' := [(4, va_rf x4), (3, va_rf x2), (0, .ref a0), (1, .int p1), (2, .int p2)]) hx hb dX0_judged_11 hl (by decide) (by cases x2 <;> rfl) k) ?_
  refine Jrow (fun H locs ls hH hS hl k => lv_aload_nF hx hb dX0_judged_13 rfl (lv_at hl 1 rfl) (k ls hl)) ?_
  refine Jjn0 (fun  X23 => J p l e (headSpec (ws_ yX0_judged cX0_judged 8 (some .int)) (rmC 105 4124 σ σz)).room s m ([.ref a0, .int p1, .int p2] : List Value).toArray below meth c 8 E (cZ σ) (cS σ) (MQ below (cQ E (some (.int r)) σz) ([.ref a0, .int p1, .int p2] : List Value).toArray s (cZ σz - cZ σ) (cS σz - cS σ) (EA E)) (r, σz) X23 σ3 22 [] []) (?_) (fun k5 hk5 => ?_)
  · refine Jrow (fun H locs ls hH hS hl k => lv_iconst (v := (-1:Int32)) hx hb dX0_judged_22 (by decide) (k ls hl)) ?_
    exact Jiret hx hb hr hlocks dX0_judged_23
  · rcases x2 with _ | x6
    · refine Joc0 ?_
      refine Jrow (fun H locs ls hH hS hl k => lv_ifnullN (tgt := 22) hx hb dX0_judged_14 (by decide) (k ls hl)) ?_
      exact Jsub [] rfl (hk5)
    · refine Joc1 ?_
      refine Jrow (fun H locs ls hH hS hl k => lv_ifnull hx hb dX0_judged_14 (k ls hl)) ?_
      refine Jrow (fun H locs ls hH hS hl k => lv_aloadF hx hb dX0_judged_17 (lv_at hl 0 rfl) (k ls hl)) ?_
      rcases x4 with _ | x7
      · refine Joc0 ?_
        refine Jrow (fun H locs ls hH hS hl k => lv_ifnonnullN hx hb dX0_judged_19 (k ls hl)) ?_
        exact Jsub [] rfl (hk5)
      · refine Joc1 ?_
        refine Jrow (fun H locs ls hH hS hl k => lv_ifnonnull (tgt := 24) hx hb dX0_judged_19 (by decide) (k ls hl)) ?_
        refine Jrow (fun H locs ls hH hS hl k => lv_aload_n hx hb dX0_judged_24 rfl (lv_at hl 1 rfl) (k ls hl)) ?_
        refine Jgd (fun hg => ?_)
        refine Jrow (fun H locs ls hH hS hl k => c_instX16 hx hb hown (hts _ q858) hk hH hg dX0_judged_25 (k ls hl)) ?_
        refine JbdI (fun x8 => ?_)
        refine Jite (fun hc => ?_) (fun hc => ?_)
        · refine Jrow (fun H locs ls hH hS hl k => lv_if_ne (tgt := 34) hx hb dX0_judged_28 (by decide) (fun h => absurd hc h) (fun _ => (k ls hl))) ?_
          clear hc
          refine Jrow (fun H locs ls hH hS hl k => lv_bipush (v := (-3:Int32)) hx hb dX0_judged_31 (by decide) (k ls hl)) ?_
          exact Jiret hx hb hr hlocks dX0_judged_33
        · refine Jrow (fun H locs ls hH hS hl k => lv_if_ne (tgt := 34) hx hb dX0_judged_28 (by decide) (fun _ => (k ls hl)) (fun h => absurd h hc)) ?_
          clear hc
          refine Jrow (fun H locs ls hH hS hl k => lv_aload_n hx hb dX0_judged_34 rfl (lv_at hl 2 rfl) (k ls hl)) ?_
          refine Jrow (fun H locs ls hH hS hl k => lv_aload hx hb dX0_judged_35 (lv_at hl 0 rfl) (k ls hl)) ?_
          refine Jgd (fun hg => ?_)
          refine Jcl (fun x9 hq => ?_)
          refine Jrow (fun H locs ls hH hS hl k => c_getN (F := 83) (v := .ref x9) hx hb hts hown hK hH hg (cN hk.2.2.1 22 rfl) (fun _ h => h) (fvR rfl hq) dX0_judged_37 (k ls hl)) ?_
          clear hq
          refine Jrow (fun H locs ls hH hS hl k => lv_iconst (v := (0:Int32)) hx hb dX0_judged_40 (by decide) (k ls hl)) ?_
          refine Jgd (fun hg => ?_)
          refine Jcl2 (fun _ σ10 hf => ?_)
          refine Jcall (v := none) (rest := []) (mX0_goForward l E hf).1 ⟨rfl, rfl⟩ (fun H locs ls hH hS hl hR => ⟨_, va_runV (C := RX0) (As := [.ref x9, .int (0:Int32)]) ⟨hx, hb, hml, hown, hts⟩ (mX0_goForward l E hf).2 (cwV 2 hts (lw_V q965 q967 qs24 q88 q968) rfl rfl rfl (by decide +kernel) ⟨Nat.le_of_ble_eq_true rfl, Nat.le_of_ble_eq_true rfl⟩) (c_preV (ci := 1) hk hH hS hg rfl) rfl rfl hl.1 rfl (lv_room (Nat.le_of_ble_eq_true rfl)) dX0_judged_41 hR⟩) ?_
          clear hf
          refine Jrow (fun H locs ls hH hS hl k => lv_iconst (v := (0:Int32)) hx hb dX0_judged_44 (by decide) (k ls hl)) ?_
          refine Jrow (fun H locs ls hH hS hl k => lv_istore (lv' := [(5, .int (0:Int32)), (4, .ref x7), (3, .ref x6), (0, .ref a0), (1, .int p1), (2, .int p2)]) hx hb dX0_judged_45 hl (by decide) rfl k) ?_
          refine Jsub [3, 2, 0] rfl (Plp2 (fun (x12 : Int32) (σ13 : CS) X22 => J p l e (headSpec (ws_ yX0_judged cX0_judged 8 (some .int)) (rmC 105 4124 σ σz)).room s m ([.ref a0, .int p1, .int p2] : List Value).toArray below meth c 8 E (cZ σ) (cS σ) (MQ below (cQ E (some (.int r)) σz) ([.ref a0, .int p1, .int p2] : List Value).toArray s (cZ σz - cZ σ) (cS σz - cS σ) (EA E)) (r, σz) X22 σ13 47 [(0, .ref a0), (3, .ref x6), (5, .int x12)] []) (fun _ _ => Jnone) (fun k14 hk14 x12 σ13 => ?_))
          refine Jrow (fun H locs ls hH hS hl k => lv_iload hx hb dX0_judged_47 (lv_at hl 2 rfl) (k ls hl)) ?_
          refine Jrow (fun H locs ls hH hS hl k => lv_bipush (v := (9:Int32)) hx hb dX0_judged_49 (by decide) (k ls hl)) ?_
          refine Jite (fun hc => ?_) (fun hc => ?_)
          · refine Jrow (fun H locs ls hH hS hl k => lv_icmp_gt (tgt := 106) hx hb dX0_judged_51 (by decide) (fun _ => (k ls hl)) (fun h => absurd hc h)) ?_
            clear hc
            refine Jrow (fun H locs ls hH hS hl k => lv_bipush (v := (-5:Int32)) hx hb dX0_judged_106 (by decide) (k ls hl)) ?_
            exact Jiret hx hb hr hlocks dX0_judged_108
          · refine Jrow (fun H locs ls hH hS hl k => lv_icmp_gt (tgt := 106) hx hb dX0_judged_51 (by decide) (fun h => absurd h hc) (fun _ => (k ls hl))) ?_
            clear hc
            refine Jrow (fun H locs ls hH hS hl k => lv_aload_n hx hb dX0_judged_54 rfl (lv_at hl 1 rfl) (k ls hl)) ?_
            refine Jrow (fun H locs ls hH hS hl k => lv_aload_n hx hb dX0_judged_55 rfl (lv_at hl 0 rfl) (k ls hl)) ?_
            refine Jgd (fun hg => ?_)
            refine Jcl (fun x15 hq => ?_)
            refine Jrow (fun H locs ls hH hS hl k => c_get (F := 29) (v := .ref x15) hx hb hts hown hK hH hg (hts _ q258) (fun _ h => h) (fvR rfl hq) dX0_judged_56 (k ls hl)) ?_
            clear hq
            refine Jrow (fun H locs ls hH hS hl k => lv_iload hx hb dX0_judged_59 (lv_at hl 2 rfl) (k ls hl)) ?_
            refine Jgd (fun hk1 => ?_)
            refine Jgd (fun hg => ?_)
            refine Jcl (fun x16 hq => ?_)
            refine Jrow (fun H locs ls hH hS hl k => c_aald (t := 6) (q := some x16) hx hb hK hH (by decide) (by decide) hk1 hg hq dX0_judged_61 (k ls hl)) ?_
            clear hq
            refine Jrow (fun H locs ls hH hS hl k => lv_iload hx hb dX0_judged_62 (lv_at hl 2 rfl) (k ls hl)) ?_
            refine Jgd (fun hg0 => ?_)
            refine Jcl2 (fun x17 σ18 hf => ?_)
            refine Jcall (v := (some (.int x17))) (rest := []) (nvR_letsIn _ hf) ⟨rfl, rfl⟩ (fun H locs ls hH hS hl hR => ?_) ?_
            · rcases vR_letsIn_s l E hf with ⟨hg, hM⟩ | ⟨hg, hM⟩ | ⟨hg, hM⟩ | ⟨hg, hM⟩ | ⟨hg, hM⟩ | ⟨hg, hM⟩ | ⟨hg, hM⟩
              · exact ⟨_, va_runU (C := RX11) (As := [.ref x16, .int x12]) ⟨hx, hb, hml, hown, hts⟩ hM.2 (va_cwU (owner := "FortyDays$Rule") 2 hts (lw_app (by
                    intro w hw
                    simp only [List.mem_cons, List.not_mem_nil, or_false] at hw
                    rcases hw with e | e | e | e | e
                    · rw [e]; exact q906
                    · rw [e]; exact q909
                    · rw [e]; exact q908
                    · rw [e]; exact q907
                    · rw [e]; exact q113) (lw_meth q956)) rfl rfl rfl rfl (by decide +kernel) ⟨Nat.le_of_ble_eq_true rfl, Nat.le_of_ble_eq_true rfl⟩) (c_preV (ci := 11) hk hH hS hg rfl) rfl rfl hl.1 rfl (lv_room (Nat.le_of_ble_eq_true rfl)) dX0_judged_64 hR⟩
              · exact ⟨_, va_runU (C := RX12) (As := [.ref x16, .int x12]) ⟨hx, hb, hml, hown, hts⟩ hM.2 (va_cwO (owner := "FortyDays$Rule") 2 hts (lw_app (by
                    intro w hw
                    simp only [List.mem_cons, List.not_mem_nil, or_false] at hw
                    rcases hw with e | e | e | e | e | e
                    · rw [e]; exact q906
                    · rw [e]; exact q909
                    · rw [e]; exact q907
                    · rw [e]; exact q942
                    · rw [e]; exact q943
                    · rw [e]; exact q114) (lw_meth q944)) rfl rfl rfl q956 (by decide +kernel) ⟨Nat.le_of_ble_eq_true rfl, Nat.le_of_ble_eq_true rfl⟩) (c_preV (ci := 12) hk hH hS hg rfl) rfl rfl hl.1 rfl (lv_room (Nat.le_of_ble_eq_true rfl)) dX0_judged_64 hR⟩
              · exact ⟨_, va_runU (C := RX13) (As := [.ref x16, .int x12]) ⟨hx, hb, hml, hown, hts⟩ hM.2 (va_cwO (owner := "FortyDays$Rule") 2 hts (lw_app (by
                    intro w hw
                    simp only [List.mem_cons, List.not_mem_nil, or_false] at hw
                    rcases hw with e | e | e | e | e | e
                    · rw [e]; exact q906
                    · rw [e]; exact q909
                    · rw [e]; exact q907
                    · rw [e]; exact q945
                    · rw [e]; exact q946
                    · rw [e]; exact q115) (lw_meth q947)) rfl rfl rfl q956 (by decide +kernel) ⟨Nat.le_of_ble_eq_true rfl, Nat.le_of_ble_eq_true rfl⟩) (c_preV (ci := 13) hk hH hS hg rfl) rfl rfl hl.1 rfl (lv_room (Nat.le_of_ble_eq_true rfl)) dX0_judged_64 hR⟩
              · exact ⟨_, va_runU (C := RX14) (As := [.ref x16, .int x12]) ⟨hx, hb, hml, hown, hts⟩ hM.2 (va_cwO (owner := "FortyDays$Rule") 2 hts (lw_app (by
                    intro w hw
                    simp only [List.mem_cons, List.not_mem_nil, or_false] at hw
                    rcases hw with e | e | e | e | e | e
                    · rw [e]; exact q906
                    · rw [e]; exact q909
                    · rw [e]; exact q907
                    · rw [e]; exact q948
                    · rw [e]; exact q943
                    · rw [e]; exact q114) (lw_meth q944)) rfl rfl rfl q956 (by decide +kernel) ⟨Nat.le_of_ble_eq_true rfl, Nat.le_of_ble_eq_true rfl⟩) (c_preV (ci := 14) hk hH hS hg rfl) rfl rfl hl.1 rfl (lv_room (Nat.le_of_ble_eq_true rfl)) dX0_judged_64 hR⟩
              · exact ⟨_, va_runU (C := RX15) (As := [.ref x16, .int x12]) ⟨hx, hb, hml, hown, hts⟩ hM.2 (va_cwO (owner := "FortyDays$Rule") 2 hts (lw_app (by
                    intro w hw
                    simp only [List.mem_cons, List.not_mem_nil, or_false] at hw
                    rcases hw with e | e | e | e | e | e
                    · rw [e]; exact q906
                    · rw [e]; exact q909
                    · rw [e]; exact q907
                    · rw [e]; exact q949
                    · rw [e]; exact q950
                    · rw [e]; exact q117) (lw_meth q951)) rfl rfl rfl q956 (by decide +kernel) ⟨Nat.le_of_ble_eq_true rfl, Nat.le_of_ble_eq_true rfl⟩) (c_preV (ci := 15) hk hH hS hg rfl) rfl rfl hl.1 rfl (lv_room (Nat.le_of_ble_eq_true rfl)) dX0_judged_64 hR⟩
              · exact ⟨_, va_runU (C := RX16) (As := [.ref x16, .int x12]) ⟨hx, hb, hml, hown, hts⟩ hM.2 (va_cwO (owner := "FortyDays$Rule") 2 hts (lw_app (by
                    intro w hw
                    simp only [List.mem_cons, List.not_mem_nil, or_false] at hw
                    rcases hw with e | e | e | e | e | e
                    · rw [e]; exact q906
                    · rw [e]; exact q909
                    · rw [e]; exact q907
                    · rw [e]; exact q953
                    · rw [e]; exact q954
                    · rw [e]; exact q118) (lw_meth q955)) rfl rfl rfl q956 (by decide +kernel) ⟨Nat.le_of_ble_eq_true rfl, Nat.le_of_ble_eq_true rfl⟩) (c_preV (ci := 16) hk hH hS hg rfl) rfl rfl hl.1 rfl (lv_room (Nat.le_of_ble_eq_true rfl)) dX0_judged_64 hR⟩
              · exact ⟨_, va_runU (C := RX17) (As := [.ref x16, .int x12]) ⟨hx, hb, hml, hown, hts⟩ hM.2 (va_cwO (owner := "FortyDays$Rule") 2 hts (lw_app (by
                    intro w hw
                    simp only [List.mem_cons, List.not_mem_nil, or_false] at hw
                    rcases hw with e | e | e | e | e | e
                    · rw [e]; exact q906
                    · rw [e]; exact q909
                    · rw [e]; exact q907
                    · rw [e]; exact q910
                    · rw [e]; exact q911
                    · rw [e]; exact q119) (lw_meth q912)) rfl rfl rfl q956 (by decide +kernel) ⟨Nat.le_of_ble_eq_true rfl, Nat.le_of_ble_eq_true rfl⟩) (c_preV (ci := 17) hk hH hS hg rfl) rfl rfl hl.1 rfl (lv_room (Nat.le_of_ble_eq_true rfl)) dX0_judged_64 hR⟩
            clear hf
            refine Jrow (fun H locs ls hH hS hl k => lv_istore (lv' := [(6, .int x17), (0, .ref a0), (3, .ref x6), (5, .int x12)]) hx hb dX0_judged_67 hl (by decide) rfl k) ?_
            refine Jrow (fun H locs ls hH hS hl k => lv_aload_n hx hb dX0_judged_69 rfl (lv_at hl 1 rfl) (k ls hl)) ?_
            refine Jrow (fun H locs ls hH hS hl k => lv_iload hx hb dX0_judged_70 (lv_at hl 3 rfl) (k ls hl)) ?_
            refine Jrow (fun H locs ls hH hS hl k => lv_bipush (v := (9:Int32)) hx hb dX0_judged_72 (by decide) (k ls hl)) ?_
            refine Jrow (fun H locs ls hH hS hl k => lv_iload hx hb dX0_judged_74 (lv_at hl 3 rfl) (k ls hl)) ?_
            refine Jrow (fun H locs ls hH hS hl k => lv_isub hx hb dX0_judged_76 (k ls hl)) ?_
            refine Jgd (fun hg => ?_)
            refine Jcl2 (fun x20 σ19 hf => ?_)
            refine Jcall (v := (some (.int x20))) (rest := []) (mX0_isBestIn l E hf).1 ⟨rfl, rfl⟩ (fun H locs ls hH hS hl hR => ⟨_, va_runV (C := RX0) (As := [.int x12, .int ((9:Int32) - x12)]) ⟨hx, hb, hml, hown, hts⟩ (mX0_isBestIn l E hf).2 (cwV 2 hts (lw_V q1011 q1013 qs29 q88 q1014) rfl rfl rfl (by decide +kernel) ⟨Nat.le_of_ble_eq_true rfl, Nat.le_of_ble_eq_true rfl⟩) (c_preV (ci := 1) hk hH hS hg rfl) rfl rfl hl.1 rfl (lv_room (Nat.le_of_ble_eq_true rfl)) dX0_judged_77 hR⟩) ?_
            clear hf
            refine Jrow (fun H locs ls hH hS hl k => lv_istore (lv' := [(7, .int x20), (6, .int x17), (0, .ref a0), (3, .ref x6), (5, .int x12)]) hx hb dX0_judged_80 hl (by decide) rfl k) ?_
            refine Jrow (fun H locs ls hH hS hl k => lv_iload hx hb dX0_judged_82 (lv_at hl 1 rfl) (k ls hl)) ?_
            refine Jrow (fun H locs ls hH hS hl k => lv_iload hx hb dX0_judged_84 (lv_at hl 0 rfl) (k ls hl)) ?_
            refine Jite (fun hc => ?_) (fun hc => ?_)
            · refine Jrow (fun H locs ls hH hS hl k => lv_icmp_eq (tgt := 92) hx hb dX0_judged_86 (by decide) (fun _ => (k ls hl)) (fun h => absurd hc h)) ?_
              clear hc
              refine Jrow (fun H locs ls hH hS hl k => lv_iload hx hb dX0_judged_92 (lv_at hl 1 rfl) (k ls hl)) ?_
              refine Jite (fun hc => ?_) (fun hc => ?_)
              · refine Jrow (fun H locs ls hH hS hl k => lv_if_eq (tgt := 100) hx hb dX0_judged_94 (by decide) (fun _ => (k ls hl)) (fun h => absurd hc h)) ?_
                clear hc
                refine Jbd (fun x21 ex21 => ?_)
                refine Jrow (fun H locs ls hH hS hl k => lv_iinc (v := x21) (lv' := [(5, .int x21), (7, .int x20), (6, .int x17), (0, .ref a0), (3, .ref x6)]) hx hb dX0_judged_100 hl (k := 4) rfl (by rw [ex21]; rfl) (by decide) rfl k) ?_
                clear ex21
                refine Jrow (fun H locs ls hH hS hl k => lv_goto (tgt := 47) hx hb dX0_judged_103 (by decide) (k ls hl)) ?_
                exact Jsub [3, 4, 0] rfl (hk14 x21 σ19)
              · refine Jrow (fun H locs ls hH hS hl k => lv_if_eq (tgt := 100) hx hb dX0_judged_94 (by decide) (fun h => absurd h hc) (fun _ => (k ls hl))) ?_
                clear hc
                refine Jrow (fun H locs ls hH hS hl k => lv_bipush (v := (-5:Int32)) hx hb dX0_judged_97 (by decide) (k ls hl)) ?_
                exact Jiret hx hb hr hlocks dX0_judged_99
            · refine Jrow (fun H locs ls hH hS hl k => lv_icmp_eq (tgt := 92) hx hb dX0_judged_86 (by decide) (fun h => absurd h hc) (fun _ => (k ls hl))) ?_
              clear hc
              refine Jrow (fun H locs ls hH hS hl k => lv_iload hx hb dX0_judged_89 (lv_at hl 4 rfl) (k ls hl)) ?_
              exact Jiret hx hb hr hlocks dX0_judged_91
