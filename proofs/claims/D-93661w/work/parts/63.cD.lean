/-! printed by gen/comp.py -/
def fX8_holds (a0 : Nat) (p1 : Int32) (p2 : Int32) (p3 : Int32) (σ : CS) : Option (Int32 × CS) :=
 gd (hf (cK σ a0) 75) (
 jn (fun (x1 : Int32) => gd (hf (cK σ a0) 76) (
 jn (fun (x3 : Int32) => gd (isb x3) (some (x3, σ))) (fun (k4 : Int32 → Option (Int32 × CS)) =>
 if (cFI σ a0 76) = (60:Int32) then
 gd (hf (cK σ a0) 77) (
 if (cFI σ a0 77) ≤ x1 then
 k4 (0:Int32)
 else
 k4 (1:Int32))
 else
 gd (hf (cK σ a0) 76) (
 if (cFI σ a0 76) = (61:Int32) then
 gd (hf (cK σ a0) 77) (
 if x1 = (cFI σ a0 77) then
 k4 (1:Int32)
 else
 k4 (0:Int32))
 else
 gd (hf (cK σ a0) 77) (
 if x1 ≤ (cFI σ a0 77) then
 k4 (0:Int32)
 else
 k4 (1:Int32)))))) (fun (k2 : Int32 → Option (Int32 × CS)) =>
 if (cFI σ a0 75) = (100:Int32) then
 k2 p1
 else
 gd (hf (cK σ a0) 75) (
 if (cFI σ a0 75) = (104:Int32) then
 k2 p2
 else
 k2 p3)))
theorem nX8_holds {a0 : Nat} {p1 : Int32} {p2 : Int32} {p3 : Int32} {σ : CS} : Mn σ (fX8_holds a0 p1 p2 p3 σ) := by
  unfold fX8_holds
  refine Mgd ?_
  refine Mjn1 (fun (x1 : Int32) (X6 : Option (Int32 × CS)) => Mn σ X6) (fun x1 => ?_) (fun k2 hk2 => ?_)
  · refine Mgd ?_
    refine Mjn1 (fun (x3 : Int32) (X5 : Option (Int32 × CS)) => Mn σ X5) (fun x3 => ?_) (fun k4 hk4 => ?_)
    · refine Mgd ?_
      exact Mret
    · refine Mite ?_ ?_
      · refine Mgd ?_
        refine Mite ?_ ?_
        · exact hk4 (0:Int32)
        · exact hk4 (1:Int32)
      · refine Mgd ?_
        refine Mite ?_ ?_
        · refine Mgd ?_
          refine Mite ?_ ?_
          · exact hk4 (1:Int32)
          · exact hk4 (0:Int32)
        · refine Mgd ?_
          refine Mite ?_ ?_
          · exact hk4 (0:Int32)
          · exact hk4 (1:Int32)
  · refine Mite ?_ ?_
    · exact hk2 p1
    · refine Mgd ?_
      refine Mite ?_ ?_
      · exact hk2 p2
      · exact hk2 p3
set_option maxHeartbeats 4000000 in
set_option maxRecDepth 100000 in
theorem mX8_holds (l : Launch) (E : CE) {fT nT : Nat} {a0 : Nat} {p1 : Int32} {p2 : Int32} {p3 : Int32} {σ : CS} {r : Int32} {σz : CS} (hX : fX8_holds a0 p1 p2 p3 σ = some (r, σz)) : MetC l yX8_holds (ws_ yX8_holds cX8_holds 5 (some .boolean)) fT nT E σ [.ref a0, .int p1, .int p2, .int p3] (some (.int r)) σz := by
  refine MetC.of hX (by decide) (Nat.le_of_ble_eq_true rfl) (nX8_holds _ hX) ?_
  intro p e s m below meth c hx hb hr hml hts hown hlocks hnm hk hz0
  have hK := hk.1
  show J p l e (headSpec (ws_ yX8_holds cX8_holds 5 (some .boolean)) (rmC fT nT σ σz)).room s m ([.ref a0, .int p1, .int p2, .int p3] : List Value).toArray below meth c 5 E (cZ σ) (cS σ) (MQ below (cQ E (some (.int r)) σz) ([.ref a0, .int p1, .int p2, .int p3] : List Value).toArray s (cZ σz - cZ σ) (cS σz - cS σ) (EA E)) (r, σz) (fX8_holds a0 p1 p2 p3 σ) σ 0 [(0, .ref a0), (1, .int p1), (2, .int p2), (3, .int p3)] []
  unfold fX8_holds
  refine Jrow (fun H locs ls hH hS hl k => lv_aload_n hx hb dX8_holds_0 rfl (lv_at hl 0 rfl) (k ls hl)) ?_
  refine Jgd (fun hg => ?_)
  refine Jrow (fun H locs ls hH hS hl k => c_get (F := 75) (v := .int (cFI σ a0 75)) hx hb hts hown hK hH hg (hts _ q499) (fun _ h => h) rfl dX8_holds_1 (k ls hl)) ?_
  refine Jrow (fun H locs ls hH hS hl k => lv_bipush (v := (100:Int32)) hx hb dX8_holds_4 (by decide) (k ls hl)) ?_
  refine Jjn1 (fun (x1 : Int32) X6 => J p l e (headSpec (ws_ yX8_holds cX8_holds 5 (some .boolean)) (rmC fT nT σ σz)).room s m ([.ref a0, .int p1, .int p2, .int p3] : List Value).toArray below meth c 5 E (cZ σ) (cS σ) (MQ below (cQ E (some (.int r)) σz) ([.ref a0, .int p1, .int p2, .int p3] : List Value).toArray s (cZ σz - cZ σ) (cS σz - cS σ) (EA E)) (r, σz) X6 σ 27 [(0, .ref a0)] [.int x1]) (fun x1 => ?_) (fun k2 hk2 => ?_)
  · refine Jrow (fun H locs ls hH hS hl k => lv_istore (lv' := [(4, .int x1), (0, .ref a0)]) hx hb dX8_holds_27 hl (by decide) rfl k) ?_
    refine Jrow (fun H locs ls hH hS hl k => lv_aload_n hx hb dX8_holds_29 rfl (lv_at hl 1 rfl) (k ls hl)) ?_
    refine Jgd (fun hg => ?_)
    refine Jrow (fun H locs ls hH hS hl k => c_get (F := 76) (v := .int (cFI σ a0 76)) hx hb hts hown hK hH hg (hts _ q500) (fun _ h => h) rfl dX8_holds_30 (k ls hl)) ?_
    refine Jrow (fun H locs ls hH hS hl k => lv_bipush (v := (60:Int32)) hx hb dX8_holds_33 (by decide) (k ls hl)) ?_
    refine Jjn1 (fun (x3 : Int32) X5 => J p l e (headSpec (ws_ yX8_holds cX8_holds 5 (some .boolean)) (rmC fT nT σ σz)).room s m ([.ref a0, .int p1, .int p2, .int p3] : List Value).toArray below meth c 5 E (cZ σ) (cS σ) (MQ below (cQ E (some (.int r)) σz) ([.ref a0, .int p1, .int p2, .int p3] : List Value).toArray s (cZ σz - cZ σ) (cS σz - cS σ) (EA E)) (r, σz) X5 σ 95 [] [.int x3]) (fun x3 => ?_) (fun k4 hk4 => ?_)
    · refine Jgd (fun hg => ?_)
      exact Jzret hx hb hr hlocks (isb_n hg) dX8_holds_95
    · refine Jite (fun hc => ?_) (fun hc => ?_)
      · refine Jrow (fun H locs ls hH hS hl k => lv_icmp_ne (tgt := 55) hx hb dX8_holds_35 (by decide) (fun h => absurd hc h) (fun _ => (k ls hl))) ?_
        clear hc
        refine Jrow (fun H locs ls hH hS hl k => lv_iload hx hb dX8_holds_38 (lv_at hl 0 rfl) (k ls hl)) ?_
        refine Jrow (fun H locs ls hH hS hl k => lv_aload_n hx hb dX8_holds_40 rfl (lv_at hl 1 rfl) (k ls hl)) ?_
        refine Jgd (fun hg => ?_)
        refine Jrow (fun H locs ls hH hS hl k => c_get (F := 77) (v := .int (cFI σ a0 77)) hx hb hts hown hK hH hg (hts _ q501) (fun _ h => h) rfl dX8_holds_41 (k ls hl)) ?_
        refine Jite (fun hc => ?_) (fun hc => ?_)
        · refine Jrow (fun H locs ls hH hS hl k => lv_icmp_ge (tgt := 51) hx hb dX8_holds_44 (by decide) (fun _ => (k ls hl)) (fun h => absurd hc h)) ?_
          clear hc
          refine Jrow (fun H locs ls hH hS hl k => lv_iconst (v := (0:Int32)) hx hb dX8_holds_51 (by decide) (k ls hl)) ?_
          refine Jrow (fun H locs ls hH hS hl k => lv_goto (tgt := 95) hx hb dX8_holds_52 (by decide) (k ls hl)) ?_
          exact Jsub [] rfl (hk4 (0:Int32))
        · refine Jrow (fun H locs ls hH hS hl k => lv_icmp_ge (tgt := 51) hx hb dX8_holds_44 (by decide) (fun h => absurd h hc) (fun _ => (k ls hl))) ?_
          clear hc
          refine Jrow (fun H locs ls hH hS hl k => lv_iconst (v := (1:Int32)) hx hb dX8_holds_47 (by decide) (k ls hl)) ?_
          refine Jrow (fun H locs ls hH hS hl k => lv_goto (tgt := 95) hx hb dX8_holds_48 (by decide) (k ls hl)) ?_
          exact Jsub [] rfl (hk4 (1:Int32))
      · refine Jrow (fun H locs ls hH hS hl k => lv_icmp_ne (tgt := 55) hx hb dX8_holds_35 (by decide) (fun _ => (k ls hl)) (fun h => absurd h hc)) ?_
        clear hc
        refine Jrow (fun H locs ls hH hS hl k => lv_aload_n hx hb dX8_holds_55 rfl (lv_at hl 1 rfl) (k ls hl)) ?_
        refine Jgd (fun hg => ?_)
        refine Jrow (fun H locs ls hH hS hl k => c_get (F := 76) (v := .int (cFI σ a0 76)) hx hb hts hown hK hH hg (hts _ q500) (fun _ h => h) rfl dX8_holds_56 (k ls hl)) ?_
        refine Jrow (fun H locs ls hH hS hl k => lv_bipush (v := (61:Int32)) hx hb dX8_holds_59 (by decide) (k ls hl)) ?_
        refine Jite (fun hc => ?_) (fun hc => ?_)
        · refine Jrow (fun H locs ls hH hS hl k => lv_icmp_ne (tgt := 81) hx hb dX8_holds_61 (by decide) (fun h => absurd hc h) (fun _ => (k ls hl))) ?_
          clear hc
          refine Jrow (fun H locs ls hH hS hl k => lv_iload hx hb dX8_holds_64 (lv_at hl 0 rfl) (k ls hl)) ?_
          refine Jrow (fun H locs ls hH hS hl k => lv_aload_n hx hb dX8_holds_66 rfl (lv_at hl 1 rfl) (k ls hl)) ?_
          refine Jgd (fun hg => ?_)
          refine Jrow (fun H locs ls hH hS hl k => c_get (F := 77) (v := .int (cFI σ a0 77)) hx hb hts hown hK hH hg (hts _ q501) (fun _ h => h) rfl dX8_holds_67 (k ls hl)) ?_
          refine Jite (fun hc => ?_) (fun hc => ?_)
          · refine Jrow (fun H locs ls hH hS hl k => lv_icmp_ne (tgt := 77) hx hb dX8_holds_70 (by decide) (fun h => absurd hc h) (fun _ => (k ls hl))) ?_
            clear hc
            refine Jrow (fun H locs ls hH hS hl k => lv_iconst (v := (1:Int32)) hx hb dX8_holds_73 (by decide) (k ls hl)) ?_
            refine Jrow (fun H locs ls hH hS hl k => lv_goto (tgt := 95) hx hb dX8_holds_74 (by decide) (k ls hl)) ?_
            exact Jsub [] rfl (hk4 (1:Int32))
          · refine Jrow (fun H locs ls hH hS hl k => lv_icmp_ne (tgt := 77) hx hb dX8_holds_70 (by decide) (fun _ => (k ls hl)) (fun h => absurd h hc)) ?_
            clear hc
            refine Jrow (fun H locs ls hH hS hl k => lv_iconst (v := (0:Int32)) hx hb dX8_holds_77 (by decide) (k ls hl)) ?_
            refine Jrow (fun H locs ls hH hS hl k => lv_goto (tgt := 95) hx hb dX8_holds_78 (by decide) (k ls hl)) ?_
            exact Jsub [] rfl (hk4 (0:Int32))
        · refine Jrow (fun H locs ls hH hS hl k => lv_icmp_ne (tgt := 81) hx hb dX8_holds_61 (by decide) (fun _ => (k ls hl)) (fun h => absurd h hc)) ?_
          clear hc
          refine Jrow (fun H locs ls hH hS hl k => lv_iload hx hb dX8_holds_81 (lv_at hl 0 rfl) (k ls hl)) ?_
          refine Jrow (fun H locs ls hH hS hl k => lv_aload_n hx hb dX8_holds_83 rfl (lv_at hl 1 rfl) (k ls hl)) ?_
          refine Jgd (fun hg => ?_)
          refine Jrow (fun H locs ls hH hS hl k => c_get (F := 77) (v := .int (cFI σ a0 77)) hx hb hts hown hK hH hg (hts _ q501) (fun _ h => h) rfl dX8_holds_84 (k ls hl)) ?_
          refine Jite (fun hc => ?_) (fun hc => ?_)
          · refine Jrow (fun H locs ls hH hS hl k => lv_icmp_le (tgt := 94) hx hb dX8_holds_87 (by decide) (fun _ => (k ls hl)) (fun h => absurd hc h)) ?_
            clear hc
            refine Jrow (fun H locs ls hH hS hl k => lv_iconst (v := (0:Int32)) hx hb dX8_holds_94 (by decide) (k ls hl)) ?_
            exact Jsub [] rfl (hk4 (0:Int32))
          · refine Jrow (fun H locs ls hH hS hl k => lv_icmp_le (tgt := 94) hx hb dX8_holds_87 (by decide) (fun h => absurd h hc) (fun _ => (k ls hl))) ?_
            clear hc
            refine Jrow (fun H locs ls hH hS hl k => lv_iconst (v := (1:Int32)) hx hb dX8_holds_90 (by decide) (k ls hl)) ?_
            refine Jrow (fun H locs ls hH hS hl k => lv_goto (tgt := 95) hx hb dX8_holds_91 (by decide) (k ls hl)) ?_
            exact Jsub [] rfl (hk4 (1:Int32))
  · refine Jite (fun hc => ?_) (fun hc => ?_)
    · refine Jrow (fun H locs ls hH hS hl k => lv_icmp_ne (tgt := 13) hx hb dX8_holds_6 (by decide) (fun h => absurd hc h) (fun _ => (k ls hl))) ?_
      clear hc
      refine Jrow (fun H locs ls hH hS hl k => lv_iload_n hx hb dX8_holds_9 rfl (lv_at hl 1 rfl) (k ls hl)) ?_
      refine Jrow (fun H locs ls hH hS hl k => lv_goto (tgt := 27) hx hb dX8_holds_10 (by decide) (k ls hl)) ?_
      exact Jsub [0] rfl (hk2 p1)
    · refine Jrow (fun H locs ls hH hS hl k => lv_icmp_ne (tgt := 13) hx hb dX8_holds_6 (by decide) (fun _ => (k ls hl)) (fun h => absurd h hc)) ?_
      clear hc
      refine Jrow (fun H locs ls hH hS hl k => lv_aload_n hx hb dX8_holds_13 rfl (lv_at hl 0 rfl) (k ls hl)) ?_
      refine Jgd (fun hg => ?_)
      refine Jrow (fun H locs ls hH hS hl k => c_get (F := 75) (v := .int (cFI σ a0 75)) hx hb hts hown hK hH hg (hts _ q499) (fun _ h => h) rfl dX8_holds_14 (k ls hl)) ?_
      refine Jrow (fun H locs ls hH hS hl k => lv_bipush (v := (104:Int32)) hx hb dX8_holds_17 (by decide) (k ls hl)) ?_
      refine Jite (fun hc => ?_) (fun hc => ?_)
      · refine Jrow (fun H locs ls hH hS hl k => lv_icmp_ne (tgt := 26) hx hb dX8_holds_19 (by decide) (fun h => absurd hc h) (fun _ => (k ls hl))) ?_
        clear hc
        refine Jrow (fun H locs ls hH hS hl k => lv_iload_n hx hb dX8_holds_22 rfl (lv_at hl 2 rfl) (k ls hl)) ?_
        refine Jrow (fun H locs ls hH hS hl k => lv_goto (tgt := 27) hx hb dX8_holds_23 (by decide) (k ls hl)) ?_
        exact Jsub [0] rfl (hk2 p2)
      · refine Jrow (fun H locs ls hH hS hl k => lv_icmp_ne (tgt := 26) hx hb dX8_holds_19 (by decide) (fun _ => (k ls hl)) (fun h => absurd h hc)) ?_
        clear hc
        refine Jrow (fun H locs ls hH hS hl k => lv_iload_n hx hb dX8_holds_26 rfl (lv_at hl 3 rfl) (k ls hl)) ?_
        exact Jsub [0] rfl (hk2 p3)

def fX7_holds (kt : KT) (a0 : Nat) (p1 : Int32) (p2 : Int32) (p3 : Int32) (σ : CS) : Option (Int32 × CS) :=
 gd (hf (cK σ a0) 74) (
 cl (cFR σ a0 74) (fun (x1 : Nat) =>
 cl2 (kt x1 p1 p2 p3 σ) (fun (x2 : Int32) (σ3 : CS) =>
 jn (fun (x4 : Int32) => gd (isb x4) (some (x4, σ3))) (fun (k5 : Int32 → Option (Int32 × CS)) =>
 if x2 = (0:Int32) then
 k5 (1:Int32)
 else
 k5 (0:Int32)))))
theorem nX7_holds {kt : KT} (hm : ∀ a d h p σ, Mn σ (kt a d h p σ)) {a0 : Nat} {p1 : Int32} {p2 : Int32} {p3 : Int32} {σ : CS} : Mn σ (fX7_holds kt a0 p1 p2 p3 σ) := by
  unfold fX7_holds
  refine Mgd ?_
  refine Mcl (fun x1 => ?_)
  refine Mcl2 (hm _ _ _ _ _) (fun x2 σ3 => ?_)
  refine Mjn1 (fun (x4 : Int32) (X6 : Option (Int32 × CS)) => Mn σ3 X6) (fun x4 => ?_) (fun k5 hk5 => ?_)
  · refine Mgd ?_
    exact Mret
  · refine Mite ?_ ?_
    · exact hk5 (1:Int32)
    · exact hk5 (0:Int32)
set_option maxHeartbeats 4000000 in
set_option maxRecDepth 100000 in
theorem mX7_holds (l : Launch) (E : CE) {fT nT : Nat} {kt : KT} (hv : VT l E fT nT kt) (hm : ∀ a d h p σ, Mn σ (kt a d h p σ)) {a0 : Nat} {p1 : Int32} {p2 : Int32} {p3 : Int32} {σ : CS} {r : Int32} {σz : CS} (hX : fX7_holds kt a0 p1 p2 p3 σ = some (r, σz)) : MetC l yX7_holds (ws_ yX7_holds cX7_holds 4 (some .boolean)) (fT + 1) (nT + 40) E σ [.ref a0, .int p1, .int p2, .int p3] (some (.int r)) σz := by
  refine MetC.of hX (by decide) (Nat.le_of_ble_eq_true rfl) (nX7_holds hm _ hX) ?_
  intro p e s m below meth c hx hb hr hml hts hown hlocks hnm hk hz0
  have hK := hk.1
  show J p l e (headSpec (ws_ yX7_holds cX7_holds 4 (some .boolean)) (rmC (fT + 1) (nT + 40) σ σz)).room s m ([.ref a0, .int p1, .int p2, .int p3] : List Value).toArray below meth c 4 E (cZ σ) (cS σ) (MQ below (cQ E (some (.int r)) σz) ([.ref a0, .int p1, .int p2, .int p3] : List Value).toArray s (cZ σz - cZ σ) (cS σz - cS σ) (EA E)) (r, σz) (fX7_holds kt a0 p1 p2 p3 σ) σ 0 [(0, .ref a0), (1, .int p1), (2, .int p2), (3, .int p3)] []
  unfold fX7_holds
  refine Jrow (fun H locs ls hH hS hl k => lv_aload_n hx hb dX7_holds_0 rfl (lv_at hl 0 rfl) (k ls hl)) ?_
  refine Jgd (fun hg => ?_)
  refine Jcl (fun x1 hq => ?_)
  refine Jrow (fun H locs ls hH hS hl k => c_get (F := 74) (v := .ref x1) hx hb hts hown hK hH hg (hts _ q489) (fun _ h => h) (fvR rfl hq) dX7_holds_1 (k ls hl)) ?_
  clear hq
  refine Jrow (fun H locs ls hH hS hl k => lv_iload_n hx hb dX7_holds_4 rfl (lv_at hl 1 rfl) (k ls hl)) ?_
  refine Jrow (fun H locs ls hH hS hl k => lv_iload_n hx hb dX7_holds_5 rfl (lv_at hl 2 rfl) (k ls hl)) ?_
  refine Jrow (fun H locs ls hH hS hl k => lv_iload_n hx hb dX7_holds_6 rfl (lv_at hl 3 rfl) (k ls hl)) ?_
  refine Jcl2 (fun x2 σ3 hf => ?_)
  refine JcallT ⟨hx, hb, hml, hown, hts⟩ hv hf (hm _ _ _ _ _) hk q651 (Nat.le_refl _) (by show 8 + (5 + 11) + nT ≤ nT + 40; omega) ⟨rfl, rfl⟩ (Nat.le_of_ble_eq_true rfl) dX7_holds_7 ?_
  clear hf
  refine Jjn1 (fun (x4 : Int32) X6 => J p l e (headSpec (ws_ yX7_holds cX7_holds 4 (some .boolean)) (rmC (fT + 1) (nT + 40) σ σz)).room s m ([.ref a0, .int p1, .int p2, .int p3] : List Value).toArray below meth c 4 E (cZ σ) (cS σ) (MQ below (cQ E (some (.int r)) σz) ([.ref a0, .int p1, .int p2, .int p3] : List Value).toArray s (cZ σz - cZ σ) (cS σz - cS σ) (EA E)) (r, σz) X6 σ3 20 [] [.int x4]) (fun x4 => ?_) (fun k5 hk5 => ?_)
  · refine Jgd (fun hg => ?_)
    exact Jzret hx hb hr hlocks (isb_n hg) dX7_holds_20
  · refine Jite (fun hc => ?_) (fun hc => ?_)
    · refine Jrow (fun H locs ls hH hS hl k => lv_if_ne (tgt := 19) hx hb dX7_holds_12 (by decide) (fun h => absurd hc h) (fun _ => (k ls hl))) ?_
      clear hc
      refine Jrow (fun H locs ls hH hS hl k => lv_iconst (v := (1:Int32)) hx hb dX7_holds_15 (by decide) (k ls hl)) ?_
      refine Jrow (fun H locs ls hH hS hl k => lv_goto (tgt := 20) hx hb dX7_holds_16 (by decide) (k ls hl)) ?_
      exact Jsub [] rfl (hk5 (1:Int32))
    · refine Jrow (fun H locs ls hH hS hl k => lv_if_ne (tgt := 19) hx hb dX7_holds_12 (by decide) (fun _ => (k ls hl)) (fun h => absurd h hc)) ?_
      clear hc
      refine Jrow (fun H locs ls hH hS hl k => lv_iconst (v := (0:Int32)) hx hb dX7_holds_19 (by decide) (k ls hl)) ?_
      exact Jsub [] rfl (hk5 (0:Int32))

def fX9_holds (kt : KT) (a0 : Nat) (p1 : Int32) (p2 : Int32) (p3 : Int32) (σ : CS) : Option (Int32 × CS) :=
 gd (hf (cK σ a0) 80) (
 jn (fun (x1 : Int32) (σ2 : CS) => gd (isb x1) (some (x1, σ2))) (fun (k3 : Int32 → CS → Option (Int32 × CS)) =>
 if (cFI σ a0 80) = (0:Int32) then
 gd (hf (cK σ a0) 78) (
 cl (cFR σ a0 78) (fun (x4 : Nat) =>
 cl2 (kt x4 p1 p2 p3 σ) (fun (x5 : Int32) (σ6 : CS) =>
 jn (fun (σ7 : CS) => k3 (1:Int32) σ7) (fun (k8 : CS → Option (Int32 × CS)) =>
 if x5 = (0:Int32) then
 gd (hf (cK σ6 a0) 79) (
 cl (cFR σ6 a0 79) (fun (x9 : Nat) =>
 cl2 (kt x9 p1 p2 p3 σ6) (fun (x10 : Int32) (σ11 : CS) =>
 if x10 = (0:Int32) then
 k3 (0:Int32) σ11
 else
 k8 σ11)))
 else
 k8 σ6))))
 else
 gd (hf (cK σ a0) 78) (
 cl (cFR σ a0 78) (fun (x13 : Nat) =>
 cl2 (kt x13 p1 p2 p3 σ) (fun (x14 : Int32) (σ15 : CS) =>
 jn (fun (σ16 : CS) => k3 (0:Int32) σ16) (fun (k17 : CS → Option (Int32 × CS)) =>
 if x14 = (0:Int32) then
 k17 σ15
 else
 gd (hf (cK σ15 a0) 79) (
 cl (cFR σ15 a0 79) (fun (x18 : Nat) =>
 cl2 (kt x18 p1 p2 p3 σ15) (fun (x19 : Int32) (σ20 : CS) =>
 if x19 = (0:Int32) then
 k17 σ20
 else
 k3 (1:Int32) σ20)))))))))
theorem nX9_holds {kt : KT} (hm : ∀ a d h p σ, Mn σ (kt a d h p σ)) {a0 : Nat} {p1 : Int32} {p2 : Int32} {p3 : Int32} {σ : CS} : Mn σ (fX9_holds kt a0 p1 p2 p3 σ) := by
  unfold fX9_holds
  refine Mgd ?_
  refine Mjn2 (fun (x1 : Int32) (σ2 : CS) (X22 : Option (Int32 × CS)) => Mn σ2 X22) (fun x1 σ2 => ?_) (fun k3 hk3 => ?_)
  · refine Mgd ?_
    exact Mret
  · refine Mite ?_ ?_
    · refine Mgd ?_
      refine Mcl (fun x4 => ?_)
      refine Mcl2 (hm _ _ _ _ _) (fun x5 σ6 => ?_)
      refine Mjn1 (fun (σ7 : CS) (X12 : Option (Int32 × CS)) => Mn σ7 X12) (fun σ7 => ?_) (fun k8 hk8 => ?_)
      · exact hk3 (1:Int32) σ7
      · refine Mite ?_ ?_
        · refine Mgd ?_
          refine Mcl (fun x9 => ?_)
          refine Mcl2 (hm _ _ _ _ _) (fun x10 σ11 => ?_)
          refine Mite ?_ ?_
          · exact hk3 (0:Int32) σ11
          · exact hk8 σ11
        · exact hk8 σ6
    · refine Mgd ?_
      refine Mcl (fun x13 => ?_)
      refine Mcl2 (hm _ _ _ _ _) (fun x14 σ15 => ?_)
      refine Mjn1 (fun (σ16 : CS) (X21 : Option (Int32 × CS)) => Mn σ16 X21) (fun σ16 => ?_) (fun k17 hk17 => ?_)
      · exact hk3 (0:Int32) σ16
      · refine Mite ?_ ?_
        · exact hk17 σ15
        · refine Mgd ?_
          refine Mcl (fun x18 => ?_)
          refine Mcl2 (hm _ _ _ _ _) (fun x19 σ20 => ?_)
          refine Mite ?_ ?_
          · exact hk17 σ20
          · exact hk3 (1:Int32) σ20
set_option maxHeartbeats 4000000 in
set_option maxRecDepth 100000 in
theorem mX9_holds (l : Launch) (E : CE) {fT nT : Nat} {kt : KT} (hv : VT l E fT nT kt) (hm : ∀ a d h p σ, Mn σ (kt a d h p σ)) {a0 : Nat} {p1 : Int32} {p2 : Int32} {p3 : Int32} {σ : CS} {r : Int32} {σz : CS} (hX : fX9_holds kt a0 p1 p2 p3 σ = some (r, σz)) : MetC l yX9_holds (ws_ yX9_holds cX9_holds 4 (some .boolean)) (fT + 1) (nT + 40) E σ [.ref a0, .int p1, .int p2, .int p3] (some (.int r)) σz := by
  refine MetC.of hX (by decide) (Nat.le_of_ble_eq_true rfl) (nX9_holds hm _ hX) ?_
  intro p e s m below meth c hx hb hr hml hts hown hlocks hnm hk hz0
  have hK := hk.1
  show J p l e (headSpec (ws_ yX9_holds cX9_holds 4 (some .boolean)) (rmC (fT + 1) (nT + 40) σ σz)).room s m ([.ref a0, .int p1, .int p2, .int p3] : List Value).toArray below meth c 4 E (cZ σ) (cS σ) (MQ below (cQ E (some (.int r)) σz) ([.ref a0, .int p1, .int p2, .int p3] : List Value).toArray s (cZ σz - cZ σ) (cS σz - cS σ) (EA E)) (r, σz) (fX9_holds kt a0 p1 p2 p3 σ) σ 0 [(0, .ref a0), (1, .int p1), (2, .int p2), (3, .int p3)] []
  unfold fX9_holds
  refine Jrow (fun H locs ls hH hS hl k => lv_aload_n hx hb dX9_holds_0 rfl (lv_at hl 0 rfl) (k ls hl)) ?_
  refine Jgd (fun hg => ?_)
  refine Jrow (fun H locs ls hH hS hl k => c_get (F := 80) (v := .int (cFI σ a0 80)) hx hb hts hown hK hH hg (hts _ q517) (fun _ h => h) rfl dX9_holds_1 (k ls hl)) ?_
  refine Jjn2 (fun (x1 : Int32) (σ2 : CS) X22 => J p l e (headSpec (ws_ yX9_holds cX9_holds 4 (some .boolean)) (rmC (fT + 1) (nT + 40) σ σz)).room s m ([.ref a0, .int p1, .int p2, .int p3] : List Value).toArray below meth c 4 E (cZ σ) (cS σ) (MQ below (cQ E (some (.int r)) σz) ([.ref a0, .int p1, .int p2, .int p3] : List Value).toArray s (cZ σz - cZ σ) (cS σz - cS σ) (EA E)) (r, σz) X22 σ2 80 [] [.int x1]) (fun x1 σ2 => ?_) (fun k3 hk3 => ?_)
  · refine Jgd (fun hg => ?_)
    exact Jzret hx hb hr hlocks (isb_n hg) dX9_holds_80
  · refine Jite (fun hc => ?_) (fun hc => ?_)
    · refine Jrow (fun H locs ls hH hS hl k => lv_if_eq (tgt := 45) hx hb dX9_holds_4 (by decide) (fun _ => (k ls hl)) (fun h => absurd hc h)) ?_
      clear hc
      refine Jrow (fun H locs ls hH hS hl k => lv_aload_n hx hb dX9_holds_45 rfl (lv_at hl 0 rfl) (k ls hl)) ?_
      refine Jgd (fun hg => ?_)
      refine Jcl (fun x4 hq => ?_)
      refine Jrow (fun H locs ls hH hS hl k => c_get (F := 78) (v := .ref x4) hx hb hts hown hK hH hg (hts _ q515) (fun _ h => h) (fvR rfl hq) dX9_holds_46 (k ls hl)) ?_
      clear hq
      refine Jrow (fun H locs ls hH hS hl k => lv_iload_n hx hb dX9_holds_49 rfl (lv_at hl 1 rfl) (k ls hl)) ?_
      refine Jrow (fun H locs ls hH hS hl k => lv_iload_n hx hb dX9_holds_50 rfl (lv_at hl 2 rfl) (k ls hl)) ?_
      refine Jrow (fun H locs ls hH hS hl k => lv_iload_n hx hb dX9_holds_51 rfl (lv_at hl 3 rfl) (k ls hl)) ?_
      refine Jcl2 (fun x5 σ6 hf => ?_)
      refine JcallT ⟨hx, hb, hml, hown, hts⟩ hv hf (hm _ _ _ _ _) hk q659 (Nat.le_refl _) (by show 8 + (5 + 11) + nT ≤ nT + 40; omega) ⟨rfl, rfl⟩ (Nat.le_of_ble_eq_true rfl) dX9_holds_52 ?_
      clear hf
      refine Jjn1 (fun (σ7 : CS) X12 => J p l e (headSpec (ws_ yX9_holds cX9_holds 4 (some .boolean)) (rmC (fT + 1) (nT + 40) σ σz)).room s m ([.ref a0, .int p1, .int p2, .int p3] : List Value).toArray below meth c 4 E (cZ σ) (cS σ) (MQ below (cQ E (some (.int r)) σz) ([.ref a0, .int p1, .int p2, .int p3] : List Value).toArray s (cZ σz - cZ σ) (cS σz - cS σ) (EA E)) (r, σz) X12 σ7 75 [] []) (fun σ7 => ?_) (fun k8 hk8 => ?_)
      · refine Jrow (fun H locs ls hH hS hl k => lv_iconst (v := (1:Int32)) hx hb dX9_holds_75 (by decide) (k ls hl)) ?_
        refine Jrow (fun H locs ls hH hS hl k => lv_goto (tgt := 80) hx hb dX9_holds_76 (by decide) (k ls hl)) ?_
        exact Jsub [] rfl (hk3 (1:Int32) σ7)
      · refine Jite (fun hc => ?_) (fun hc => ?_)
        · refine Jrow (fun H locs ls hH hS hl k => lv_if_ne (tgt := 75) hx hb dX9_holds_57 (by decide) (fun h => absurd hc h) (fun _ => (k ls hl))) ?_
          clear hc
          refine Jrow (fun H locs ls hH hS hl k => lv_aload_n hx hb dX9_holds_60 rfl (lv_at hl 0 rfl) (k ls hl)) ?_
          refine Jgd (fun hg => ?_)
          refine Jcl (fun x9 hq => ?_)
          refine Jrow (fun H locs ls hH hS hl k => c_get (F := 79) (v := .ref x9) hx hb hts hown hK hH hg (hts _ q516) (fun _ h => h) (fvR rfl hq) dX9_holds_61 (k ls hl)) ?_
          clear hq
          refine Jrow (fun H locs ls hH hS hl k => lv_iload_n hx hb dX9_holds_64 rfl (lv_at hl 1 rfl) (k ls hl)) ?_
          refine Jrow (fun H locs ls hH hS hl k => lv_iload_n hx hb dX9_holds_65 rfl (lv_at hl 2 rfl) (k ls hl)) ?_
          refine Jrow (fun H locs ls hH hS hl k => lv_iload_n hx hb dX9_holds_66 rfl (lv_at hl 3 rfl) (k ls hl)) ?_
          refine Jcl2 (fun x10 σ11 hf => ?_)
          refine JcallT ⟨hx, hb, hml, hown, hts⟩ hv hf (hm _ _ _ _ _) hk q659 (Nat.le_refl _) (by show 8 + (5 + 11) + nT ≤ nT + 40; omega) ⟨rfl, rfl⟩ (Nat.le_of_ble_eq_true rfl) dX9_holds_67 ?_
          clear hf
          refine Jite (fun hc => ?_) (fun hc => ?_)
          · refine Jrow (fun H locs ls hH hS hl k => lv_if_eq (tgt := 79) hx hb dX9_holds_72 (by decide) (fun _ => (k ls hl)) (fun h => absurd hc h)) ?_
            clear hc
            refine Jrow (fun H locs ls hH hS hl k => lv_iconst (v := (0:Int32)) hx hb dX9_holds_79 (by decide) (k ls hl)) ?_
            exact Jsub [] rfl (hk3 (0:Int32) σ11)
          · refine Jrow (fun H locs ls hH hS hl k => lv_if_eq (tgt := 79) hx hb dX9_holds_72 (by decide) (fun h => absurd h hc) (fun _ => (k ls hl))) ?_
            clear hc
            exact Jsub [] rfl (hk8 σ11)
        · refine Jrow (fun H locs ls hH hS hl k => lv_if_ne (tgt := 75) hx hb dX9_holds_57 (by decide) (fun _ => (k ls hl)) (fun h => absurd h hc)) ?_
          clear hc
          exact Jsub [] rfl (hk8 σ6)
    · refine Jrow (fun H locs ls hH hS hl k => lv_if_eq (tgt := 45) hx hb dX9_holds_4 (by decide) (fun h => absurd h hc) (fun _ => (k ls hl))) ?_
      clear hc
      refine Jrow (fun H locs ls hH hS hl k => lv_aload_n hx hb dX9_holds_7 rfl (lv_at hl 0 rfl) (k ls hl)) ?_
      refine Jgd (fun hg => ?_)
      refine Jcl (fun x13 hq => ?_)
      refine Jrow (fun H locs ls hH hS hl k => c_get (F := 78) (v := .ref x13) hx hb hts hown hK hH hg (hts _ q515) (fun _ h => h) (fvR rfl hq) dX9_holds_8 (k ls hl)) ?_
      clear hq
      refine Jrow (fun H locs ls hH hS hl k => lv_iload_n hx hb dX9_holds_11 rfl (lv_at hl 1 rfl) (k ls hl)) ?_
      refine Jrow (fun H locs ls hH hS hl k => lv_iload_n hx hb dX9_holds_12 rfl (lv_at hl 2 rfl) (k ls hl)) ?_
      refine Jrow (fun H locs ls hH hS hl k => lv_iload_n hx hb dX9_holds_13 rfl (lv_at hl 3 rfl) (k ls hl)) ?_
      refine Jcl2 (fun x14 σ15 hf => ?_)
      refine JcallT ⟨hx, hb, hml, hown, hts⟩ hv hf (hm _ _ _ _ _) hk q659 (Nat.le_refl _) (by show 8 + (5 + 11) + nT ≤ nT + 40; omega) ⟨rfl, rfl⟩ (Nat.le_of_ble_eq_true rfl) dX9_holds_14 ?_
      clear hf
      refine Jjn1 (fun (σ16 : CS) X21 => J p l e (headSpec (ws_ yX9_holds cX9_holds 4 (some .boolean)) (rmC (fT + 1) (nT + 40) σ σz)).room s m ([.ref a0, .int p1, .int p2, .int p3] : List Value).toArray below meth c 4 E (cZ σ) (cS σ) (MQ below (cQ E (some (.int r)) σz) ([.ref a0, .int p1, .int p2, .int p3] : List Value).toArray s (cZ σz - cZ σ) (cS σz - cS σ) (EA E)) (r, σz) X21 σ16 41 [] []) (fun σ16 => ?_) (fun k17 hk17 => ?_)
      · refine Jrow (fun H locs ls hH hS hl k => lv_iconst (v := (0:Int32)) hx hb dX9_holds_41 (by decide) (k ls hl)) ?_
        refine Jrow (fun H locs ls hH hS hl k => lv_goto (tgt := 80) hx hb dX9_holds_42 (by decide) (k ls hl)) ?_
        exact Jsub [] rfl (hk3 (0:Int32) σ16)
      · refine Jite (fun hc => ?_) (fun hc => ?_)
        · refine Jrow (fun H locs ls hH hS hl k => lv_if_eq (tgt := 41) hx hb dX9_holds_19 (by decide) (fun _ => (k ls hl)) (fun h => absurd hc h)) ?_
          clear hc
          exact Jsub [] rfl (hk17 σ15)
        · refine Jrow (fun H locs ls hH hS hl k => lv_if_eq (tgt := 41) hx hb dX9_holds_19 (by decide) (fun h => absurd h hc) (fun _ => (k ls hl))) ?_
          clear hc
          refine Jrow (fun H locs ls hH hS hl k => lv_aload_n hx hb dX9_holds_22 rfl (lv_at hl 0 rfl) (k ls hl)) ?_
          refine Jgd (fun hg => ?_)
          refine Jcl (fun x18 hq => ?_)
          refine Jrow (fun H locs ls hH hS hl k => c_get (F := 79) (v := .ref x18) hx hb hts hown hK hH hg (hts _ q516) (fun _ h => h) (fvR rfl hq) dX9_holds_23 (k ls hl)) ?_
          clear hq
          refine Jrow (fun H locs ls hH hS hl k => lv_iload_n hx hb dX9_holds_26 rfl (lv_at hl 1 rfl) (k ls hl)) ?_
          refine Jrow (fun H locs ls hH hS hl k => lv_iload_n hx hb dX9_holds_27 rfl (lv_at hl 2 rfl) (k ls hl)) ?_
          refine Jrow (fun H locs ls hH hS hl k => lv_iload_n hx hb dX9_holds_28 rfl (lv_at hl 3 rfl) (k ls hl)) ?_
          refine Jcl2 (fun x19 σ20 hf => ?_)
          refine JcallT ⟨hx, hb, hml, hown, hts⟩ hv hf (hm _ _ _ _ _) hk q659 (Nat.le_refl _) (by show 8 + (5 + 11) + nT ≤ nT + 40; omega) ⟨rfl, rfl⟩ (Nat.le_of_ble_eq_true rfl) dX9_holds_29 ?_
          clear hf
          refine Jite (fun hc => ?_) (fun hc => ?_)
          · refine Jrow (fun H locs ls hH hS hl k => lv_if_eq (tgt := 41) hx hb dX9_holds_34 (by decide) (fun _ => (k ls hl)) (fun h => absurd hc h)) ?_
            clear hc
            exact Jsub [] rfl (hk17 σ20)
          · refine Jrow (fun H locs ls hH hS hl k => lv_if_eq (tgt := 41) hx hb dX9_holds_34 (by decide) (fun h => absurd h hc) (fun _ => (k ls hl))) ?_
            clear hc
            refine Jrow (fun H locs ls hH hS hl k => lv_iconst (v := (1:Int32)) hx hb dX9_holds_37 (by decide) (k ls hl)) ?_
            refine Jrow (fun H locs ls hH hS hl k => lv_goto (tgt := 80) hx hb dX9_holds_38 (by decide) (k ls hl)) ?_
            exact Jsub [] rfl (hk3 (1:Int32) σ20)

def gT : Nat → KT
  | 0 => fun _ _ _ _ _ => none
  | n + 1 => fun a d h p σ => if kd σ a 8 = true then fX7_holds (gT n) a d h p σ else if kd σ a 9 = true then fX8_holds a d h p σ else if kd σ a 10 = true then fX9_holds (gT n) a d h p σ else none
theorem nT : ∀ (n : Nat) (a : Nat) (d h p : Int32) (σ : CS), Mn σ (gT n a d h p σ) := by
  intro n
  induction n with
  | zero => intro a d h p σ; exact Mnone
  | succ n ih => intro a d h p σ; exact Mite (nX7_holds ih) (Mite nX8_holds (Mite (nX9_holds ih) Mnone))
theorem vT (l : Launch) (E : CE) : ∀ n, VT l E n (40 * n) (gT n) := by
  intro n
  induction n with
  | zero => intro a d h p σ r σ1 hX; cases hX
  | succ n ih =>
    intro a d h p σ r σ1 hX
    by_cases h1 : kd σ a 8 = true
    · exact Or.inl ⟨h1, mX7_holds l E ih (nT n) (ipos h1 hX)⟩
    · replace hX := ineg h1 hX
      by_cases h2 : kd σ a 9 = true
      · exact Or.inr (Or.inl ⟨h2, mX8_holds l E (ipos h2 hX)⟩)
      · replace hX := ineg h2 hX
        by_cases h3 : kd σ a 10 = true
        · exact Or.inr (Or.inr ⟨h3, mX9_holds l E ih (nT n) (ipos h3 hX)⟩)
        · replace hX := ineg h3 hX
          cases hX
