/-! printed by gen/comp.py -/
def fX1_init (a0 : Nat) (p1 : Nat) (σ : CS) : Option (Unit × CS) :=
 gd (hf (cK σ a0) 48) (
 bd (uFR σ a0 48 (some p1)) (fun (σ1 : CS) =>
 gd (na (6:Int32)) (
 bd (nA σ1 109 (6:Int32).toNatClampNeg) (fun (σ2 : CS) =>
 gd (na (4:Int32)) (
 bd (nA σ2 105 (4:Int32).toNatClampNeg) (fun (σ3 : CS) =>
 gd (kd σ3 (cZ σ2) 105) (
 gd (ib (0:Int32) (cLN σ3 (cZ σ2))) (
 bd (uAI σ3 (cZ σ2) (0:Int32).toNatClampNeg (vp_nar .char (103:Int32))) (fun (σ4 : CS) =>
 gd (kd σ4 (cZ σ2) 105) (
 gd (ib (1:Int32) (cLN σ4 (cZ σ2))) (
 bd (uAI σ4 (cZ σ2) (1:Int32).toNatClampNeg (vp_nar .char (105:Int32))) (fun (σ5 : CS) =>
 gd (kd σ5 (cZ σ2) 105) (
 gd (ib (2:Int32) (cLN σ5 (cZ σ2))) (
 bd (uAI σ5 (cZ σ2) (2:Int32).toNatClampNeg (vp_nar .char (118:Int32))) (fun (σ6 : CS) =>
 gd (kd σ6 (cZ σ2) 105) (
 gd (ib (3:Int32) (cLN σ6 (cZ σ2))) (
 bd (uAI σ6 (cZ σ2) (3:Int32).toNatClampNeg (vp_nar .char (101:Int32))) (fun (σ7 : CS) =>
 gd (kd σ7 (cZ σ1) 109) (
 gd (ib (0:Int32) (cLN σ7 (cZ σ1))) (
 gd (kd σ7 (cZ σ2) 105) (
 bd (uAR σ7 (cZ σ1) (0:Int32).toNatClampNeg (some (cZ σ2))) (fun (σ8 : CS) =>
 gd (na (4:Int32)) (
 bd (nA σ8 105 (4:Int32).toNatClampNeg) (fun (σ9 : CS) =>
 gd (kd σ9 (cZ σ8) 105) (
 gd (ib (0:Int32) (cLN σ9 (cZ σ8))) (
 bd (uAI σ9 (cZ σ8) (0:Int32).toNatClampNeg (vp_nar .char (115:Int32))) (fun (σ10 : CS) =>
 gd (kd σ10 (cZ σ8) 105) (
 gd (ib (1:Int32) (cLN σ10 (cZ σ8))) (
 bd (uAI σ10 (cZ σ8) (1:Int32).toNatClampNeg (vp_nar .char (104:Int32))) (fun (σ11 : CS) =>
 gd (kd σ11 (cZ σ8) 105) (
 gd (ib (2:Int32) (cLN σ11 (cZ σ8))) (
 bd (uAI σ11 (cZ σ8) (2:Int32).toNatClampNeg (vp_nar .char (111:Int32))) (fun (σ12 : CS) =>
 gd (kd σ12 (cZ σ8) 105) (
 gd (ib (3:Int32) (cLN σ12 (cZ σ8))) (
 bd (uAI σ12 (cZ σ8) (3:Int32).toNatClampNeg (vp_nar .char (119:Int32))) (fun (σ13 : CS) =>
 gd (kd σ13 (cZ σ1) 109) (
 gd (ib (1:Int32) (cLN σ13 (cZ σ1))) (
 gd (kd σ13 (cZ σ8) 105) (
 bd (uAR σ13 (cZ σ1) (1:Int32).toNatClampNeg (some (cZ σ8))) (fun (σ14 : CS) =>
 gd (na (4:Int32)) (
 bd (nA σ14 105 (4:Int32).toNatClampNeg) (fun (σ15 : CS) =>
 gd (kd σ15 (cZ σ14) 105) (
 gd (ib (0:Int32) (cLN σ15 (cZ σ14))) (
 bd (uAI σ15 (cZ σ14) (0:Int32).toNatClampNeg (vp_nar .char (111:Int32))) (fun (σ16 : CS) =>
 gd (kd σ16 (cZ σ14) 105) (
 gd (ib (1:Int32) (cLN σ16 (cZ σ14))) (
 bd (uAI σ16 (cZ σ14) (1:Int32).toNatClampNeg (vp_nar .char (118:Int32))) (fun (σ17 : CS) =>
 gd (kd σ17 (cZ σ14) 105) (
 gd (ib (2:Int32) (cLN σ17 (cZ σ14))) (
 bd (uAI σ17 (cZ σ14) (2:Int32).toNatClampNeg (vp_nar .char (101:Int32))) (fun (σ18 : CS) =>
 gd (kd σ18 (cZ σ14) 105) (
 gd (ib (3:Int32) (cLN σ18 (cZ σ14))) (
 bd (uAI σ18 (cZ σ14) (3:Int32).toNatClampNeg (vp_nar .char (114:Int32))) (fun (σ19 : CS) =>
 gd (kd σ19 (cZ σ1) 109) (
 gd (ib (2:Int32) (cLN σ19 (cZ σ1))) (
 gd (kd σ19 (cZ σ14) 105) (
 bd (uAR σ19 (cZ σ1) (2:Int32).toNatClampNeg (some (cZ σ14))) (fun (σ20 : CS) =>
 gd (na (4:Int32)) (
 bd (nA σ20 105 (4:Int32).toNatClampNeg) (fun (σ21 : CS) =>
 gd (kd σ21 (cZ σ20) 105) (
 gd (ib (0:Int32) (cLN σ21 (cZ σ20))) (
 bd (uAI σ21 (cZ σ20) (0:Int32).toNatClampNeg (vp_nar .char (104:Int32))) (fun (σ22 : CS) =>
 gd (kd σ22 (cZ σ20) 105) (
 gd (ib (1:Int32) (cLN σ22 (cZ σ20))) (
 bd (uAI σ22 (cZ σ20) (1:Int32).toNatClampNeg (vp_nar .char (97:Int32))) (fun (σ23 : CS) =>
 gd (kd σ23 (cZ σ20) 105) (
 gd (ib (2:Int32) (cLN σ23 (cZ σ20))) (
 bd (uAI σ23 (cZ σ20) (2:Int32).toNatClampNeg (vp_nar .char (114:Int32))) (fun (σ24 : CS) =>
 gd (kd σ24 (cZ σ20) 105) (
 gd (ib (3:Int32) (cLN σ24 (cZ σ20))) (
 bd (uAI σ24 (cZ σ20) (3:Int32).toNatClampNeg (vp_nar .char (109:Int32))) (fun (σ25 : CS) =>
 gd (kd σ25 (cZ σ1) 109) (
 gd (ib (3:Int32) (cLN σ25 (cZ σ1))) (
 gd (kd σ25 (cZ σ20) 105) (
 bd (uAR σ25 (cZ σ1) (3:Int32).toNatClampNeg (some (cZ σ20))) (fun (σ26 : CS) =>
 gd (na (4:Int32)) (
 bd (nA σ26 105 (4:Int32).toNatClampNeg) (fun (σ27 : CS) =>
 gd (kd σ27 (cZ σ26) 105) (
 gd (ib (0:Int32) (cLN σ27 (cZ σ26))) (
 bd (uAI σ27 (cZ σ26) (0:Int32).toNatClampNeg (vp_nar .char (108:Int32))) (fun (σ28 : CS) =>
 gd (kd σ28 (cZ σ26) 105) (
 gd (ib (1:Int32) (cLN σ28 (cZ σ26))) (
 bd (uAI σ28 (cZ σ26) (1:Int32).toNatClampNeg (vp_nar .char (111:Int32))) (fun (σ29 : CS) =>
 gd (kd σ29 (cZ σ26) 105) (
 gd (ib (2:Int32) (cLN σ29 (cZ σ26))) (
 bd (uAI σ29 (cZ σ26) (2:Int32).toNatClampNeg (vp_nar .char (111:Int32))) (fun (σ30 : CS) =>
 gd (kd σ30 (cZ σ26) 105) (
 gd (ib (3:Int32) (cLN σ30 (cZ σ26))) (
 bd (uAI σ30 (cZ σ26) (3:Int32).toNatClampNeg (vp_nar .char (107:Int32))) (fun (σ31 : CS) =>
 gd (kd σ31 (cZ σ1) 109) (
 gd (ib (4:Int32) (cLN σ31 (cZ σ1))) (
 gd (kd σ31 (cZ σ26) 105) (
 bd (uAR σ31 (cZ σ1) (4:Int32).toNatClampNeg (some (cZ σ26))) (fun (σ32 : CS) =>
 gd (na (4:Int32)) (
 bd (nA σ32 105 (4:Int32).toNatClampNeg) (fun (σ33 : CS) =>
 gd (kd σ33 (cZ σ32) 105) (
 gd (ib (0:Int32) (cLN σ33 (cZ σ32))) (
 bd (uAI σ33 (cZ σ32) (0:Int32).toNatClampNeg (vp_nar .char (109:Int32))) (fun (σ34 : CS) =>
 gd (kd σ34 (cZ σ32) 105) (
 gd (ib (1:Int32) (cLN σ34 (cZ σ32))) (
 bd (uAI σ34 (cZ σ32) (1:Int32).toNatClampNeg (vp_nar .char (105:Int32))) (fun (σ35 : CS) =>
 gd (kd σ35 (cZ σ32) 105) (
 gd (ib (2:Int32) (cLN σ35 (cZ σ32))) (
 bd (uAI σ35 (cZ σ32) (2:Int32).toNatClampNeg (vp_nar .char (115:Int32))) (fun (σ36 : CS) =>
 gd (kd σ36 (cZ σ32) 105) (
 gd (ib (3:Int32) (cLN σ36 (cZ σ32))) (
 bd (uAI σ36 (cZ σ32) (3:Int32).toNatClampNeg (vp_nar .char (115:Int32))) (fun (σ37 : CS) =>
 gd (kd σ37 (cZ σ1) 109) (
 gd (ib (5:Int32) (cLN σ37 (cZ σ1))) (
 gd (kd σ37 (cZ σ32) 105) (
 bd (uAR σ37 (cZ σ1) (5:Int32).toNatClampNeg (some (cZ σ32))) (fun (σ38 : CS) =>
 gd (hf (cK σ38 a0) 43) (
 bd (uFR σ38 a0 43 (some (cZ σ1))) (fun (σ39 : CS) =>
 gd (na (4:Int32)) (
 bd (nA σ39 105 (4:Int32).toNatClampNeg) (fun (σ40 : CS) =>
 gd (kd σ40 (cZ σ39) 105) (
 gd (ib (0:Int32) (cLN σ40 (cZ σ39))) (
 bd (uAI σ40 (cZ σ39) (0:Int32).toNatClampNeg (vp_nar .char (104:Int32))) (fun (σ41 : CS) =>
 gd (kd σ41 (cZ σ39) 105) (
 gd (ib (1:Int32) (cLN σ41 (cZ σ39))) (
 bd (uAI σ41 (cZ σ39) (1:Int32).toNatClampNeg (vp_nar .char (97:Int32))) (fun (σ42 : CS) =>
 gd (kd σ42 (cZ σ39) 105) (
 gd (ib (2:Int32) (cLN σ42 (cZ σ39))) (
 bd (uAI σ42 (cZ σ39) (2:Int32).toNatClampNeg (vp_nar .char (118:Int32))) (fun (σ43 : CS) =>
 gd (kd σ43 (cZ σ39) 105) (
 gd (ib (3:Int32) (cLN σ43 (cZ σ39))) (
 bd (uAI σ43 (cZ σ39) (3:Int32).toNatClampNeg (vp_nar .char (101:Int32))) (fun (σ44 : CS) =>
 gd (hf (cK σ44 a0) 44) (
 bd (uFR σ44 a0 44 (some (cZ σ39))) (fun (σ45 : CS) =>
 gd (na (4:Int32)) (
 bd (nA σ45 105 (4:Int32).toNatClampNeg) (fun (σ46 : CS) =>
 gd (kd σ46 (cZ σ45) 105) (
 gd (ib (0:Int32) (cLN σ46 (cZ σ45))) (
 bd (uAI σ46 (cZ σ45) (0:Int32).toNatClampNeg (vp_nar .char (104:Int32))) (fun (σ47 : CS) =>
 gd (kd σ47 (cZ σ45) 105) (
 gd (ib (1:Int32) (cLN σ47 (cZ σ45))) (
 bd (uAI σ47 (cZ σ45) (1:Int32).toNatClampNeg (vp_nar .char (111:Int32))) (fun (σ48 : CS) =>
 gd (kd σ48 (cZ σ45) 105) (
 gd (ib (2:Int32) (cLN σ48 (cZ σ45))) (
 bd (uAI σ48 (cZ σ45) (2:Int32).toNatClampNeg (vp_nar .char (108:Int32))) (fun (σ49 : CS) =>
 gd (kd σ49 (cZ σ45) 105) (
 gd (ib (3:Int32) (cLN σ49 (cZ σ45))) (
 bd (uAI σ49 (cZ σ45) (3:Int32).toNatClampNeg (vp_nar .char (100:Int32))) (fun (σ50 : CS) =>
 gd (hf (cK σ50 a0) 45) (
 bd (uFR σ50 a0 45 (some (cZ σ45))) (fun (σ51 : CS) =>
 some ((), σ51)))))))))))))))))))))))))))))))))))))))))))))))))))))))))))))))))))))))))))))))))))))))))))))))))))))))))))))))))))))))))))))))))))))))))))))))))))
theorem nX1_init {a0 : Nat} {p1 : Nat} {σ : CS} : Mn σ (fX1_init a0 p1 σ) := by
  unfold fX1_init
  refine Mgd ?_
  refine Mst (Nat.le_refl _) (Nat.le_refl _) (fun σ1 => ?_)
  refine Mgd ?_
  refine Mst (Nat.le_succ _) (Nat.le_add_right _ _) (fun σ2 => ?_)
  refine Mgd ?_
  refine Mst (Nat.le_succ _) (Nat.le_add_right _ _) (fun σ3 => ?_)
  refine Mgd ?_
  refine Mgd ?_
  refine Mst (Nat.le_refl _) (Nat.le_refl _) (fun σ4 => ?_)
  refine Mgd ?_
  refine Mgd ?_
  refine Mst (Nat.le_refl _) (Nat.le_refl _) (fun σ5 => ?_)
  refine Mgd ?_
  refine Mgd ?_
  refine Mst (Nat.le_refl _) (Nat.le_refl _) (fun σ6 => ?_)
  refine Mgd ?_
  refine Mgd ?_
  refine Mst (Nat.le_refl _) (Nat.le_refl _) (fun σ7 => ?_)
  refine Mgd ?_
  refine Mgd ?_
  refine Mgd ?_
  refine Mst (Nat.le_refl _) (Nat.le_refl _) (fun σ8 => ?_)
  refine Mgd ?_
  refine Mst (Nat.le_succ _) (Nat.le_add_right _ _) (fun σ9 => ?_)
  refine Mgd ?_
  refine Mgd ?_
  refine Mst (Nat.le_refl _) (Nat.le_refl _) (fun σ10 => ?_)
  refine Mgd ?_
  refine Mgd ?_
  refine Mst (Nat.le_refl _) (Nat.le_refl _) (fun σ11 => ?_)
  refine Mgd ?_
  refine Mgd ?_
  refine Mst (Nat.le_refl _) (Nat.le_refl _) (fun σ12 => ?_)
  refine Mgd ?_
  refine Mgd ?_
  refine Mst (Nat.le_refl _) (Nat.le_refl _) (fun σ13 => ?_)
  refine Mgd ?_
  refine Mgd ?_
  refine Mgd ?_
  refine Mst (Nat.le_refl _) (Nat.le_refl _) (fun σ14 => ?_)
  refine Mgd ?_
  refine Mst (Nat.le_succ _) (Nat.le_add_right _ _) (fun σ15 => ?_)
  refine Mgd ?_
  refine Mgd ?_
  refine Mst (Nat.le_refl _) (Nat.le_refl _) (fun σ16 => ?_)
  refine Mgd ?_
  refine Mgd ?_
  refine Mst (Nat.le_refl _) (Nat.le_refl _) (fun σ17 => ?_)
  refine Mgd ?_
  refine Mgd ?_
  refine Mst (Nat.le_refl _) (Nat.le_refl _) (fun σ18 => ?_)
  refine Mgd ?_
  refine Mgd ?_
  refine Mst (Nat.le_refl _) (Nat.le_refl _) (fun σ19 => ?_)
  refine Mgd ?_
  refine Mgd ?_
  refine Mgd ?_
  refine Mst (Nat.le_refl _) (Nat.le_refl _) (fun σ20 => ?_)
  refine Mgd ?_
  refine Mst (Nat.le_succ _) (Nat.le_add_right _ _) (fun σ21 => ?_)
  refine Mgd ?_
  refine Mgd ?_
  refine Mst (Nat.le_refl _) (Nat.le_refl _) (fun σ22 => ?_)
  refine Mgd ?_
  refine Mgd ?_
  refine Mst (Nat.le_refl _) (Nat.le_refl _) (fun σ23 => ?_)
  refine Mgd ?_
  refine Mgd ?_
  refine Mst (Nat.le_refl _) (Nat.le_refl _) (fun σ24 => ?_)
  refine Mgd ?_
  refine Mgd ?_
  refine Mst (Nat.le_refl _) (Nat.le_refl _) (fun σ25 => ?_)
  refine Mgd ?_
  refine Mgd ?_
  refine Mgd ?_
  refine Mst (Nat.le_refl _) (Nat.le_refl _) (fun σ26 => ?_)
  refine Mgd ?_
  refine Mst (Nat.le_succ _) (Nat.le_add_right _ _) (fun σ27 => ?_)
  refine Mgd ?_
  refine Mgd ?_
  refine Mst (Nat.le_refl _) (Nat.le_refl _) (fun σ28 => ?_)
  refine Mgd ?_
  refine Mgd ?_
  refine Mst (Nat.le_refl _) (Nat.le_refl _) (fun σ29 => ?_)
  refine Mgd ?_
  refine Mgd ?_
  refine Mst (Nat.le_refl _) (Nat.le_refl _) (fun σ30 => ?_)
  refine Mgd ?_
  refine Mgd ?_
  refine Mst (Nat.le_refl _) (Nat.le_refl _) (fun σ31 => ?_)
  refine Mgd ?_
  refine Mgd ?_
  refine Mgd ?_
  refine Mst (Nat.le_refl _) (Nat.le_refl _) (fun σ32 => ?_)
  refine Mgd ?_
  refine Mst (Nat.le_succ _) (Nat.le_add_right _ _) (fun σ33 => ?_)
  refine Mgd ?_
  refine Mgd ?_
  refine Mst (Nat.le_refl _) (Nat.le_refl _) (fun σ34 => ?_)
  refine Mgd ?_
  refine Mgd ?_
  refine Mst (Nat.le_refl _) (Nat.le_refl _) (fun σ35 => ?_)
  refine Mgd ?_
  refine Mgd ?_
  refine Mst (Nat.le_refl _) (Nat.le_refl _) (fun σ36 => ?_)
  refine Mgd ?_
  refine Mgd ?_
  refine Mst (Nat.le_refl _) (Nat.le_refl _) (fun σ37 => ?_)
  refine Mgd ?_
  refine Mgd ?_
  refine Mgd ?_
  refine Mst (Nat.le_refl _) (Nat.le_refl _) (fun σ38 => ?_)
  refine Mgd ?_
  refine Mst (Nat.le_refl _) (Nat.le_refl _) (fun σ39 => ?_)
  refine Mgd ?_
  refine Mst (Nat.le_succ _) (Nat.le_add_right _ _) (fun σ40 => ?_)
  refine Mgd ?_
  refine Mgd ?_
  refine Mst (Nat.le_refl _) (Nat.le_refl _) (fun σ41 => ?_)
  refine Mgd ?_
  refine Mgd ?_
  refine Mst (Nat.le_refl _) (Nat.le_refl _) (fun σ42 => ?_)
  refine Mgd ?_
  refine Mgd ?_
  refine Mst (Nat.le_refl _) (Nat.le_refl _) (fun σ43 => ?_)
  refine Mgd ?_
  refine Mgd ?_
  refine Mst (Nat.le_refl _) (Nat.le_refl _) (fun σ44 => ?_)
  refine Mgd ?_
  refine Mst (Nat.le_refl _) (Nat.le_refl _) (fun σ45 => ?_)
  refine Mgd ?_
  refine Mst (Nat.le_succ _) (Nat.le_add_right _ _) (fun σ46 => ?_)
  refine Mgd ?_
  refine Mgd ?_
  refine Mst (Nat.le_refl _) (Nat.le_refl _) (fun σ47 => ?_)
  refine Mgd ?_
  refine Mgd ?_
  refine Mst (Nat.le_refl _) (Nat.le_refl _) (fun σ48 => ?_)
  refine Mgd ?_
  refine Mgd ?_
  refine Mst (Nat.le_refl _) (Nat.le_refl _) (fun σ49 => ?_)
  refine Mgd ?_
  refine Mgd ?_
  refine Mst (Nat.le_refl _) (Nat.le_refl _) (fun σ50 => ?_)
  refine Mgd ?_
  refine Mst (Nat.le_refl _) (Nat.le_refl _) (fun σ51 => ?_)
  exact Mret
set_option maxHeartbeats 4000000 in
set_option maxRecDepth 100000 in
theorem mX1_init (l : Launch) (E : CE) {a0 : Nat} {p1 : Nat} {σ : CS} {σz : CS} (hX : fX1_init a0 p1 σ = some ((), σz)) : MetC l yX1_init (ws_ yX1_init cX1_init 2 none) 1 12 E σ [.ref a0, .ref p1] none σz := by
  refine MetC.of hX (by decide) (Nat.le_of_ble_eq_true rfl) (nX1_init _ hX) ?_
  intro p e s m below meth c hx hb hr hml hts hown hlocks hnm hk hz0
  have hK := hk.1
  show J p l e (headSpec (ws_ yX1_init cX1_init 2 none) (rmC 1 12 σ σz)).room s m ([.ref a0, .ref p1] : List Value).toArray below meth c 2 E (cZ σ) (cS σ) (MQ below (cQ E none σz) ([.ref a0, .ref p1] : List Value).toArray s (cZ σz - cZ σ) (cS σz - cS σ) (EA E)) ((), σz) (fX1_init a0 p1 σ) σ 0 [(0, .ref a0), (1, .ref p1)] []
  unfold fX1_init
  refine Jrow (fun H locs ls hH hS hl k => lv_aload_n hx hb dX1_init_0 rfl (lv_at hl 0 rfl) (k ls hl)) ?_
  refine Jrow (fun H locs ls hH hS hl k => lv_aload_n hx hb dX1_init_1 rfl (lv_at hl 1 rfl) (k ls hl)) ?_
  refine Jgd (fun hg => ?_)
  refine Jst (σ1 := uFR σ a0 48 (some p1)) rfl rfl (fun H locs ls hH hS hl k => c_putRF (F := 48) (ty := (.object "FortyDays")) (x := (some p1)) hx hb hts hown hK hH hS hg (hts _ q169) (fun _ h => h) rfl hnm rfl rfl (by decide +kernel) rfl rfl rfl dX1_init_2 k) (fun σ1 => ?_)
  refine Jrow (fun H locs ls hH hS hl k => lv_aload_n hx hb dX1_init_5 rfl (lv_at hl 0 rfl) (k ls hl)) ?_
  refine Jrow (fun H locs ls hH hS hl k => W.objInit hx hb hown (hts _ q161) (hts _ q127) (hts _ q128) rfl (by rw [hml]; exact hl.1) rfl dX1_init_6 (Nat.le_of_ble_eq_true rfl) (Nat.le_of_ble_eq_true rfl) (W.eq (g2 := F0 m 9 ls []) rfl (k ls hl))) ?_
  refine Jrow (fun H locs ls hH hS hl k => lv_aload_n hx hb dX1_init_9 rfl (lv_at hl 0 rfl) (k ls hl)) ?_
  refine Jrow (fun H locs ls hH hS hl k => lv_bipush (v := (6:Int32)) hx hb dX1_init_10 (by decide) (k ls hl)) ?_
  refine Jgd (fun hg => ?_)
  refine Jnew (σ1 := nA σ1 109 (6:Int32).toNatClampNeg) (n := (6:Int32).toNatClampNeg) rfl rfl ⟨rfl, rfl⟩ (fun H locs ls hH hS hl h1 h2 k => c_newqA (t := 8) (ty := .char) hx hb hown (by decide +kernel) (hts _ q162) (by exact hk.2.2.2.2.2.2.2.2.1.2.1) hK hH hS hk.2.1 (by decide) (by decide) rfl hg h1 h2 dX1_init_12 k) (fun σ2 eσ2 => ?_)
  clear eσ2
  refine Jrow (fun H locs ls hH hS hl k => lv_dup hx hb dX1_init_15 rfl (k ls hl)) ?_
  refine Jrow (fun H locs ls hH hS hl k => lv_iconst (v := (0:Int32)) hx hb dX1_init_16 (by decide) (k ls hl)) ?_
  refine Jrow (fun H locs ls hH hS hl k => lv_iconst (v := (4:Int32)) hx hb dX1_init_17 (by decide) (k ls hl)) ?_
  refine Jgd (fun hg => ?_)
  refine Jnew (σ1 := nA σ2 105 (4:Int32).toNatClampNeg) (n := (4:Int32).toNatClampNeg) rfl rfl ⟨rfl, rfl⟩ (fun H locs ls hH hS hl h1 h2 k => c_newa (t := 4) (ty := .char) hx hb hts hK hH hS hk.2.1 (by decide) rfl rfl (fun h => h) rfl (by decide) q183 hg h1 h2 dX1_init_18 k) (fun σ3 eσ3 => ?_)
  clear eσ3
  refine Jrow (fun H locs ls hH hS hl k => lv_dup hx hb dX1_init_20 rfl (k ls hl)) ?_
  refine Jrow (fun H locs ls hH hS hl k => lv_iconst (v := (0:Int32)) hx hb dX1_init_21 (by decide) (k ls hl)) ?_
  refine Jrow (fun H locs ls hH hS hl k => lv_bipush (v := (103:Int32)) hx hb dX1_init_22 (by decide) (k ls hl)) ?_
  refine Jgd (fun hk1 => ?_)
  refine Jgd (fun hg => ?_)
  refine Jst (σ1 := uAI σ3 (cZ σ2) (0:Int32).toNatClampNeg (vp_nar .char (103:Int32))) rfl rfl (fun H locs ls hH hS hl k => c_cast hx hb hK hH hS hk1 hg dX1_init_24 k) (fun σ4 => ?_)
  refine Jrow (fun H locs ls hH hS hl k => lv_dup hx hb dX1_init_25 rfl (k ls hl)) ?_
  refine Jrow (fun H locs ls hH hS hl k => lv_iconst (v := (1:Int32)) hx hb dX1_init_26 (by decide) (k ls hl)) ?_
  refine Jrow (fun H locs ls hH hS hl k => lv_bipush (v := (105:Int32)) hx hb dX1_init_27 (by decide) (k ls hl)) ?_
  refine Jgd (fun hk1 => ?_)
  refine Jgd (fun hg => ?_)
  refine Jst (σ1 := uAI σ4 (cZ σ2) (1:Int32).toNatClampNeg (vp_nar .char (105:Int32))) rfl rfl (fun H locs ls hH hS hl k => c_cast hx hb hK hH hS hk1 hg dX1_init_29 k) (fun σ5 => ?_)
  refine Jrow (fun H locs ls hH hS hl k => lv_dup hx hb dX1_init_30 rfl (k ls hl)) ?_
  refine Jrow (fun H locs ls hH hS hl k => lv_iconst (v := (2:Int32)) hx hb dX1_init_31 (by decide) (k ls hl)) ?_
  refine Jrow (fun H locs ls hH hS hl k => lv_bipush (v := (118:Int32)) hx hb dX1_init_32 (by decide) (k ls hl)) ?_
  refine Jgd (fun hk1 => ?_)
  refine Jgd (fun hg => ?_)
  refine Jst (σ1 := uAI σ5 (cZ σ2) (2:Int32).toNatClampNeg (vp_nar .char (118:Int32))) rfl rfl (fun H locs ls hH hS hl k => c_cast hx hb hK hH hS hk1 hg dX1_init_34 k) (fun σ6 => ?_)
  refine Jrow (fun H locs ls hH hS hl k => lv_dup hx hb dX1_init_35 rfl (k ls hl)) ?_
  refine Jrow (fun H locs ls hH hS hl k => lv_iconst (v := (3:Int32)) hx hb dX1_init_36 (by decide) (k ls hl)) ?_
  refine Jrow (fun H locs ls hH hS hl k => lv_bipush (v := (101:Int32)) hx hb dX1_init_37 (by decide) (k ls hl)) ?_
  refine Jgd (fun hk1 => ?_)
  refine Jgd (fun hg => ?_)
  refine Jst (σ1 := uAI σ6 (cZ σ2) (3:Int32).toNatClampNeg (vp_nar .char (101:Int32))) rfl rfl (fun H locs ls hH hS hl k => c_cast hx hb hK hH hS hk1 hg dX1_init_39 k) (fun σ7 => ?_)
  refine Jgd (fun hk1 => ?_)
  refine Jgd (fun hg => ?_)
  refine Jgd (fun hg3 => ?_)
  refine Jst (σ1 := uAR σ7 (cZ σ1) (0:Int32).toNatClampNeg (some (cZ σ2))) rfl rfl (fun H locs ls hH hS hl k => c_aastC hx hb (by exact hk.2.2.2.2.2.2.2.2.1.2.1) hK hH hS hk1 hg3 hg dX1_init_40 k) (fun σ8 => ?_)
  refine Jrow (fun H locs ls hH hS hl k => lv_dup hx hb dX1_init_41 rfl (k ls hl)) ?_
  refine Jrow (fun H locs ls hH hS hl k => lv_iconst (v := (1:Int32)) hx hb dX1_init_42 (by decide) (k ls hl)) ?_
  refine Jrow (fun H locs ls hH hS hl k => lv_iconst (v := (4:Int32)) hx hb dX1_init_43 (by decide) (k ls hl)) ?_
  refine Jgd (fun hg => ?_)
  refine Jnew (σ1 := nA σ8 105 (4:Int32).toNatClampNeg) (n := (4:Int32).toNatClampNeg) rfl rfl ⟨rfl, rfl⟩ (fun H locs ls hH hS hl h1 h2 k => c_newa (t := 4) (ty := .char) hx hb hts hK hH hS hk.2.1 (by decide) rfl rfl (fun h => h) rfl (by decide) q183 hg h1 h2 dX1_init_44 k) (fun σ9 eσ9 => ?_)
  clear eσ9
  refine Jrow (fun H locs ls hH hS hl k => lv_dup hx hb dX1_init_46 rfl (k ls hl)) ?_
  refine Jrow (fun H locs ls hH hS hl k => lv_iconst (v := (0:Int32)) hx hb dX1_init_47 (by decide) (k ls hl)) ?_
  refine Jrow (fun H locs ls hH hS hl k => lv_bipush (v := (115:Int32)) hx hb dX1_init_48 (by decide) (k ls hl)) ?_
  refine Jgd (fun hk1 => ?_)
  refine Jgd (fun hg => ?_)
  refine Jst (σ1 := uAI σ9 (cZ σ8) (0:Int32).toNatClampNeg (vp_nar .char (115:Int32))) rfl rfl (fun H locs ls hH hS hl k => c_cast hx hb hK hH hS hk1 hg dX1_init_50 k) (fun σ10 => ?_)
  refine Jrow (fun H locs ls hH hS hl k => lv_dup hx hb dX1_init_51 rfl (k ls hl)) ?_
  refine Jrow (fun H locs ls hH hS hl k => lv_iconst (v := (1:Int32)) hx hb dX1_init_52 (by decide) (k ls hl)) ?_
  refine Jrow (fun H locs ls hH hS hl k => lv_bipush (v := (104:Int32)) hx hb dX1_init_53 (by decide) (k ls hl)) ?_
  refine Jgd (fun hk1 => ?_)
  refine Jgd (fun hg => ?_)
  refine Jst (σ1 := uAI σ10 (cZ σ8) (1:Int32).toNatClampNeg (vp_nar .char (104:Int32))) rfl rfl (fun H locs ls hH hS hl k => c_cast hx hb hK hH hS hk1 hg dX1_init_55 k) (fun σ11 => ?_)
  refine Jrow (fun H locs ls hH hS hl k => lv_dup hx hb dX1_init_56 rfl (k ls hl)) ?_
  refine Jrow (fun H locs ls hH hS hl k => lv_iconst (v := (2:Int32)) hx hb dX1_init_57 (by decide) (k ls hl)) ?_
  refine Jrow (fun H locs ls hH hS hl k => lv_bipush (v := (111:Int32)) hx hb dX1_init_58 (by decide) (k ls hl)) ?_
  refine Jgd (fun hk1 => ?_)
  refine Jgd (fun hg => ?_)
  refine Jst (σ1 := uAI σ11 (cZ σ8) (2:Int32).toNatClampNeg (vp_nar .char (111:Int32))) rfl rfl (fun H locs ls hH hS hl k => c_cast hx hb hK hH hS hk1 hg dX1_init_60 k) (fun σ12 => ?_)
  refine Jrow (fun H locs ls hH hS hl k => lv_dup hx hb dX1_init_61 rfl (k ls hl)) ?_
  refine Jrow (fun H locs ls hH hS hl k => lv_iconst (v := (3:Int32)) hx hb dX1_init_62 (by decide) (k ls hl)) ?_
  refine Jrow (fun H locs ls hH hS hl k => lv_bipush (v := (119:Int32)) hx hb dX1_init_63 (by decide) (k ls hl)) ?_
  refine Jgd (fun hk1 => ?_)
  refine Jgd (fun hg => ?_)
  refine Jst (σ1 := uAI σ12 (cZ σ8) (3:Int32).toNatClampNeg (vp_nar .char (119:Int32))) rfl rfl (fun H locs ls hH hS hl k => c_cast hx hb hK hH hS hk1 hg dX1_init_65 k) (fun σ13 => ?_)
  refine Jgd (fun hk1 => ?_)
  refine Jgd (fun hg => ?_)
  refine Jgd (fun hg3 => ?_)
  refine Jst (σ1 := uAR σ13 (cZ σ1) (1:Int32).toNatClampNeg (some (cZ σ8))) rfl rfl (fun H locs ls hH hS hl k => c_aastC hx hb (by exact hk.2.2.2.2.2.2.2.2.1.2.1) hK hH hS hk1 hg3 hg dX1_init_66 k) (fun σ14 => ?_)
  refine Jrow (fun H locs ls hH hS hl k => lv_dup hx hb dX1_init_67 rfl (k ls hl)) ?_
  refine Jrow (fun H locs ls hH hS hl k => lv_iconst (v := (2:Int32)) hx hb dX1_init_68 (by decide) (k ls hl)) ?_
  refine Jrow (fun H locs ls hH hS hl k => lv_iconst (v := (4:Int32)) hx hb dX1_init_69 (by decide) (k ls hl)) ?_
  refine Jgd (fun hg => ?_)
  refine Jnew (σ1 := nA σ14 105 (4:Int32).toNatClampNeg) (n := (4:Int32).toNatClampNeg) rfl rfl ⟨rfl, rfl⟩ (fun H locs ls hH hS hl h1 h2 k => c_newa (t := 4) (ty := .char) hx hb hts hK hH hS hk.2.1 (by decide) rfl rfl (fun h => h) rfl (by decide) q183 hg h1 h2 dX1_init_70 k) (fun σ15 eσ15 => ?_)
  clear eσ15
  refine Jrow (fun H locs ls hH hS hl k => lv_dup hx hb dX1_init_72 rfl (k ls hl)) ?_
  refine Jrow (fun H locs ls hH hS hl k => lv_iconst (v := (0:Int32)) hx hb dX1_init_73 (by decide) (k ls hl)) ?_
  refine Jrow (fun H locs ls hH hS hl k => lv_bipush (v := (111:Int32)) hx hb dX1_init_74 (by decide) (k ls hl)) ?_
  refine Jgd (fun hk1 => ?_)
  refine Jgd (fun hg => ?_)
  refine Jst (σ1 := uAI σ15 (cZ σ14) (0:Int32).toNatClampNeg (vp_nar .char (111:Int32))) rfl rfl (fun H locs ls hH hS hl k => c_cast hx hb hK hH hS hk1 hg dX1_init_76 k) (fun σ16 => ?_)
  refine Jrow (fun H locs ls hH hS hl k => lv_dup hx hb dX1_init_77 rfl (k ls hl)) ?_
  refine Jrow (fun H locs ls hH hS hl k => lv_iconst (v := (1:Int32)) hx hb dX1_init_78 (by decide) (k ls hl)) ?_
  refine Jrow (fun H locs ls hH hS hl k => lv_bipush (v := (118:Int32)) hx hb dX1_init_79 (by decide) (k ls hl)) ?_
  refine Jgd (fun hk1 => ?_)
  refine Jgd (fun hg => ?_)
  refine Jst (σ1 := uAI σ16 (cZ σ14) (1:Int32).toNatClampNeg (vp_nar .char (118:Int32))) rfl rfl (fun H locs ls hH hS hl k => c_cast hx hb hK hH hS hk1 hg dX1_init_81 k) (fun σ17 => ?_)
  refine Jrow (fun H locs ls hH hS hl k => lv_dup hx hb dX1_init_82 rfl (k ls hl)) ?_
  refine Jrow (fun H locs ls hH hS hl k => lv_iconst (v := (2:Int32)) hx hb dX1_init_83 (by decide) (k ls hl)) ?_
  refine Jrow (fun H locs ls hH hS hl k => lv_bipush (v := (101:Int32)) hx hb dX1_init_84 (by decide) (k ls hl)) ?_
  refine Jgd (fun hk1 => ?_)
  refine Jgd (fun hg => ?_)
  refine Jst (σ1 := uAI σ17 (cZ σ14) (2:Int32).toNatClampNeg (vp_nar .char (101:Int32))) rfl rfl (fun H locs ls hH hS hl k => c_cast hx hb hK hH hS hk1 hg dX1_init_86 k) (fun σ18 => ?_)
  refine Jrow (fun H locs ls hH hS hl k => lv_dup hx hb dX1_init_87 rfl (k ls hl)) ?_
  refine Jrow (fun H locs ls hH hS hl k => lv_iconst (v := (3:Int32)) hx hb dX1_init_88 (by decide) (k ls hl)) ?_
  refine Jrow (fun H locs ls hH hS hl k => lv_bipush (v := (114:Int32)) hx hb dX1_init_89 (by decide) (k ls hl)) ?_
  refine Jgd (fun hk1 => ?_)
  refine Jgd (fun hg => ?_)
  refine Jst (σ1 := uAI σ18 (cZ σ14) (3:Int32).toNatClampNeg (vp_nar .char (114:Int32))) rfl rfl (fun H locs ls hH hS hl k => c_cast hx hb hK hH hS hk1 hg dX1_init_91 k) (fun σ19 => ?_)
  refine Jgd (fun hk1 => ?_)
  refine Jgd (fun hg => ?_)
  refine Jgd (fun hg3 => ?_)
  refine Jst (σ1 := uAR σ19 (cZ σ1) (2:Int32).toNatClampNeg (some (cZ σ14))) rfl rfl (fun H locs ls hH hS hl k => c_aastC hx hb (by exact hk.2.2.2.2.2.2.2.2.1.2.1) hK hH hS hk1 hg3 hg dX1_init_92 k) (fun σ20 => ?_)
  refine Jrow (fun H locs ls hH hS hl k => lv_dup hx hb dX1_init_93 rfl (k ls hl)) ?_
  refine Jrow (fun H locs ls hH hS hl k => lv_iconst (v := (3:Int32)) hx hb dX1_init_94 (by decide) (k ls hl)) ?_
  refine Jrow (fun H locs ls hH hS hl k => lv_iconst (v := (4:Int32)) hx hb dX1_init_95 (by decide) (k ls hl)) ?_
  refine Jgd (fun hg => ?_)
  refine Jnew (σ1 := nA σ20 105 (4:Int32).toNatClampNeg) (n := (4:Int32).toNatClampNeg) rfl rfl ⟨rfl, rfl⟩ (fun H locs ls hH hS hl h1 h2 k => c_newa (t := 4) (ty := .char) hx hb hts hK hH hS hk.2.1 (by decide) rfl rfl (fun h => h) rfl (by decide) q183 hg h1 h2 dX1_init_96 k) (fun σ21 eσ21 => ?_)
  clear eσ21
  refine Jrow (fun H locs ls hH hS hl k => lv_dup hx hb dX1_init_98 rfl (k ls hl)) ?_
  refine Jrow (fun H locs ls hH hS hl k => lv_iconst (v := (0:Int32)) hx hb dX1_init_99 (by decide) (k ls hl)) ?_
  refine Jrow (fun H locs ls hH hS hl k => lv_bipush (v := (104:Int32)) hx hb dX1_init_100 (by decide) (k ls hl)) ?_
  refine Jgd (fun hk1 => ?_)
  refine Jgd (fun hg => ?_)
  refine Jst (σ1 := uAI σ21 (cZ σ20) (0:Int32).toNatClampNeg (vp_nar .char (104:Int32))) rfl rfl (fun H locs ls hH hS hl k => c_cast hx hb hK hH hS hk1 hg dX1_init_102 k) (fun σ22 => ?_)
  refine Jrow (fun H locs ls hH hS hl k => lv_dup hx hb dX1_init_103 rfl (k ls hl)) ?_
  refine Jrow (fun H locs ls hH hS hl k => lv_iconst (v := (1:Int32)) hx hb dX1_init_104 (by decide) (k ls hl)) ?_
  refine Jrow (fun H locs ls hH hS hl k => lv_bipush (v := (97:Int32)) hx hb dX1_init_105 (by decide) (k ls hl)) ?_
  refine Jgd (fun hk1 => ?_)
  refine Jgd (fun hg => ?_)
  refine Jst (σ1 := uAI σ22 (cZ σ20) (1:Int32).toNatClampNeg (vp_nar .char (97:Int32))) rfl rfl (fun H locs ls hH hS hl k => c_cast hx hb hK hH hS hk1 hg dX1_init_107 k) (fun σ23 => ?_)
  refine Jrow (fun H locs ls hH hS hl k => lv_dup hx hb dX1_init_108 rfl (k ls hl)) ?_
  refine Jrow (fun H locs ls hH hS hl k => lv_iconst (v := (2:Int32)) hx hb dX1_init_109 (by decide) (k ls hl)) ?_
  refine Jrow (fun H locs ls hH hS hl k => lv_bipush (v := (114:Int32)) hx hb dX1_init_110 (by decide) (k ls hl)) ?_
  refine Jgd (fun hk1 => ?_)
  refine Jgd (fun hg => ?_)
  refine Jst (σ1 := uAI σ23 (cZ σ20) (2:Int32).toNatClampNeg (vp_nar .char (114:Int32))) rfl rfl (fun H locs ls hH hS hl k => c_cast hx hb hK hH hS hk1 hg dX1_init_112 k) (fun σ24 => ?_)
  refine Jrow (fun H locs ls hH hS hl k => lv_dup hx hb dX1_init_113 rfl (k ls hl)) ?_
  refine Jrow (fun H locs ls hH hS hl k => lv_iconst (v := (3:Int32)) hx hb dX1_init_114 (by decide) (k ls hl)) ?_
  refine Jrow (fun H locs ls hH hS hl k => lv_bipush (v := (109:Int32)) hx hb dX1_init_115 (by decide) (k ls hl)) ?_
  refine Jgd (fun hk1 => ?_)
  refine Jgd (fun hg => ?_)
  refine Jst (σ1 := uAI σ24 (cZ σ20) (3:Int32).toNatClampNeg (vp_nar .char (109:Int32))) rfl rfl (fun H locs ls hH hS hl k => c_cast hx hb hK hH hS hk1 hg dX1_init_117 k) (fun σ25 => ?_)
  refine Jgd (fun hk1 => ?_)
  refine Jgd (fun hg => ?_)
  refine Jgd (fun hg3 => ?_)
  refine Jst (σ1 := uAR σ25 (cZ σ1) (3:Int32).toNatClampNeg (some (cZ σ20))) rfl rfl (fun H locs ls hH hS hl k => c_aastC hx hb (by exact hk.2.2.2.2.2.2.2.2.1.2.1) hK hH hS hk1 hg3 hg dX1_init_118 k) (fun σ26 => ?_)
  refine Jrow (fun H locs ls hH hS hl k => lv_dup hx hb dX1_init_119 rfl (k ls hl)) ?_
  refine Jrow (fun H locs ls hH hS hl k => lv_iconst (v := (4:Int32)) hx hb dX1_init_120 (by decide) (k ls hl)) ?_
  refine Jrow (fun H locs ls hH hS hl k => lv_iconst (v := (4:Int32)) hx hb dX1_init_121 (by decide) (k ls hl)) ?_
  refine Jgd (fun hg => ?_)
  refine Jnew (σ1 := nA σ26 105 (4:Int32).toNatClampNeg) (n := (4:Int32).toNatClampNeg) rfl rfl ⟨rfl, rfl⟩ (fun H locs ls hH hS hl h1 h2 k => c_newa (t := 4) (ty := .char) hx hb hts hK hH hS hk.2.1 (by decide) rfl rfl (fun h => h) rfl (by decide) q183 hg h1 h2 dX1_init_122 k) (fun σ27 eσ27 => ?_)
  clear eσ27
  refine Jrow (fun H locs ls hH hS hl k => lv_dup hx hb dX1_init_124 rfl (k ls hl)) ?_
  refine Jrow (fun H locs ls hH hS hl k => lv_iconst (v := (0:Int32)) hx hb dX1_init_125 (by decide) (k ls hl)) ?_
  refine Jrow (fun H locs ls hH hS hl k => lv_bipush (v := (108:Int32)) hx hb dX1_init_126 (by decide) (k ls hl)) ?_
  refine Jgd (fun hk1 => ?_)
  refine Jgd (fun hg => ?_)
  refine Jst (σ1 := uAI σ27 (cZ σ26) (0:Int32).toNatClampNeg (vp_nar .char (108:Int32))) rfl rfl (fun H locs ls hH hS hl k => c_cast hx hb hK hH hS hk1 hg dX1_init_128 k) (fun σ28 => ?_)
  refine Jrow (fun H locs ls hH hS hl k => lv_dup hx hb dX1_init_129 rfl (k ls hl)) ?_
  refine Jrow (fun H locs ls hH hS hl k => lv_iconst (v := (1:Int32)) hx hb dX1_init_130 (by decide) (k ls hl)) ?_
  refine Jrow (fun H locs ls hH hS hl k => lv_bipush (v := (111:Int32)) hx hb dX1_init_131 (by decide) (k ls hl)) ?_
  refine Jgd (fun hk1 => ?_)
  refine Jgd (fun hg => ?_)
  refine Jst (σ1 := uAI σ28 (cZ σ26) (1:Int32).toNatClampNeg (vp_nar .char (111:Int32))) rfl rfl (fun H locs ls hH hS hl k => c_cast hx hb hK hH hS hk1 hg dX1_init_133 k) (fun σ29 => ?_)
  refine Jrow (fun H locs ls hH hS hl k => lv_dup hx hb dX1_init_134 rfl (k ls hl)) ?_
  refine Jrow (fun H locs ls hH hS hl k => lv_iconst (v := (2:Int32)) hx hb dX1_init_135 (by decide) (k ls hl)) ?_
  refine Jrow (fun H locs ls hH hS hl k => lv_bipush (v := (111:Int32)) hx hb dX1_init_136 (by decide) (k ls hl)) ?_
  refine Jgd (fun hk1 => ?_)
  refine Jgd (fun hg => ?_)
  refine Jst (σ1 := uAI σ29 (cZ σ26) (2:Int32).toNatClampNeg (vp_nar .char (111:Int32))) rfl rfl (fun H locs ls hH hS hl k => c_cast hx hb hK hH hS hk1 hg dX1_init_138 k) (fun σ30 => ?_)
  refine Jrow (fun H locs ls hH hS hl k => lv_dup hx hb dX1_init_139 rfl (k ls hl)) ?_
  refine Jrow (fun H locs ls hH hS hl k => lv_iconst (v := (3:Int32)) hx hb dX1_init_140 (by decide) (k ls hl)) ?_
  refine Jrow (fun H locs ls hH hS hl k => lv_bipush (v := (107:Int32)) hx hb dX1_init_141 (by decide) (k ls hl)) ?_
  refine Jgd (fun hk1 => ?_)
  refine Jgd (fun hg => ?_)
  refine Jst (σ1 := uAI σ30 (cZ σ26) (3:Int32).toNatClampNeg (vp_nar .char (107:Int32))) rfl rfl (fun H locs ls hH hS hl k => c_cast hx hb hK hH hS hk1 hg dX1_init_143 k) (fun σ31 => ?_)
  refine Jgd (fun hk1 => ?_)
  refine Jgd (fun hg => ?_)
  refine Jgd (fun hg3 => ?_)
  refine Jst (σ1 := uAR σ31 (cZ σ1) (4:Int32).toNatClampNeg (some (cZ σ26))) rfl rfl (fun H locs ls hH hS hl k => c_aastC hx hb (by exact hk.2.2.2.2.2.2.2.2.1.2.1) hK hH hS hk1 hg3 hg dX1_init_144 k) (fun σ32 => ?_)
  refine Jrow (fun H locs ls hH hS hl k => lv_dup hx hb dX1_init_145 rfl (k ls hl)) ?_
  refine Jrow (fun H locs ls hH hS hl k => lv_iconst (v := (5:Int32)) hx hb dX1_init_146 (by decide) (k ls hl)) ?_
  refine Jrow (fun H locs ls hH hS hl k => lv_iconst (v := (4:Int32)) hx hb dX1_init_147 (by decide) (k ls hl)) ?_
  refine Jgd (fun hg => ?_)
  refine Jnew (σ1 := nA σ32 105 (4:Int32).toNatClampNeg) (n := (4:Int32).toNatClampNeg) rfl rfl ⟨rfl, rfl⟩ (fun H locs ls hH hS hl h1 h2 k => c_newa (t := 4) (ty := .char) hx hb hts hK hH hS hk.2.1 (by decide) rfl rfl (fun h => h) rfl (by decide) q183 hg h1 h2 dX1_init_148 k) (fun σ33 eσ33 => ?_)
  clear eσ33
  refine Jrow (fun H locs ls hH hS hl k => lv_dup hx hb dX1_init_150 rfl (k ls hl)) ?_
  refine Jrow (fun H locs ls hH hS hl k => lv_iconst (v := (0:Int32)) hx hb dX1_init_151 (by decide) (k ls hl)) ?_
  refine Jrow (fun H locs ls hH hS hl k => lv_bipush (v := (109:Int32)) hx hb dX1_init_152 (by decide) (k ls hl)) ?_
  refine Jgd (fun hk1 => ?_)
  refine Jgd (fun hg => ?_)
  refine Jst (σ1 := uAI σ33 (cZ σ32) (0:Int32).toNatClampNeg (vp_nar .char (109:Int32))) rfl rfl (fun H locs ls hH hS hl k => c_cast hx hb hK hH hS hk1 hg dX1_init_154 k) (fun σ34 => ?_)
  refine Jrow (fun H locs ls hH hS hl k => lv_dup hx hb dX1_init_155 rfl (k ls hl)) ?_
  refine Jrow (fun H locs ls hH hS hl k => lv_iconst (v := (1:Int32)) hx hb dX1_init_156 (by decide) (k ls hl)) ?_
  refine Jrow (fun H locs ls hH hS hl k => lv_bipush (v := (105:Int32)) hx hb dX1_init_157 (by decide) (k ls hl)) ?_
  refine Jgd (fun hk1 => ?_)
  refine Jgd (fun hg => ?_)
  refine Jst (σ1 := uAI σ34 (cZ σ32) (1:Int32).toNatClampNeg (vp_nar .char (105:Int32))) rfl rfl (fun H locs ls hH hS hl k => c_cast hx hb hK hH hS hk1 hg dX1_init_159 k) (fun σ35 => ?_)
  refine Jrow (fun H locs ls hH hS hl k => lv_dup hx hb dX1_init_160 rfl (k ls hl)) ?_
  refine Jrow (fun H locs ls hH hS hl k => lv_iconst (v := (2:Int32)) hx hb dX1_init_161 (by decide) (k ls hl)) ?_
  refine Jrow (fun H locs ls hH hS hl k => lv_bipush (v := (115:Int32)) hx hb dX1_init_162 (by decide) (k ls hl)) ?_
  refine Jgd (fun hk1 => ?_)
  refine Jgd (fun hg => ?_)
  refine Jst (σ1 := uAI σ35 (cZ σ32) (2:Int32).toNatClampNeg (vp_nar .char (115:Int32))) rfl rfl (fun H locs ls hH hS hl k => c_cast hx hb hK hH hS hk1 hg dX1_init_164 k) (fun σ36 => ?_)
  refine Jrow (fun H locs ls hH hS hl k => lv_dup hx hb dX1_init_165 rfl (k ls hl)) ?_
  refine Jrow (fun H locs ls hH hS hl k => lv_iconst (v := (3:Int32)) hx hb dX1_init_166 (by decide) (k ls hl)) ?_
  refine Jrow (fun H locs ls hH hS hl k => lv_bipush (v := (115:Int32)) hx hb dX1_init_167 (by decide) (k ls hl)) ?_
  refine Jgd (fun hk1 => ?_)
  refine Jgd (fun hg => ?_)
  refine Jst (σ1 := uAI σ36 (cZ σ32) (3:Int32).toNatClampNeg (vp_nar .char (115:Int32))) rfl rfl (fun H locs ls hH hS hl k => c_cast hx hb hK hH hS hk1 hg dX1_init_169 k) (fun σ37 => ?_)
  refine Jgd (fun hk1 => ?_)
  refine Jgd (fun hg => ?_)
  refine Jgd (fun hg3 => ?_)
  refine Jst (σ1 := uAR σ37 (cZ σ1) (5:Int32).toNatClampNeg (some (cZ σ32))) rfl rfl (fun H locs ls hH hS hl k => c_aastC hx hb (by exact hk.2.2.2.2.2.2.2.2.1.2.1) hK hH hS hk1 hg3 hg dX1_init_170 k) (fun σ38 => ?_)
  refine Jgd (fun hg => ?_)
  refine Jst (σ1 := uFR σ38 a0 43 (some (cZ σ1))) rfl rfl (fun H locs ls hH hS hl k => c_putRF (F := 43) (ty := (.array (.array .char))) (x := (some (cZ σ1))) hx hb hts hown hK hH hS hg (hts _ q164) (fun _ h => h) rfl hnm rfl rfl (by decide +kernel) rfl rfl rfl dX1_init_171 k) (fun σ39 => ?_)
  refine Jrow (fun H locs ls hH hS hl k => lv_aload_n hx hb dX1_init_174 rfl (lv_at hl 0 rfl) (k ls hl)) ?_
  refine Jrow (fun H locs ls hH hS hl k => lv_iconst (v := (4:Int32)) hx hb dX1_init_175 (by decide) (k ls hl)) ?_
  refine Jgd (fun hg => ?_)
  refine Jnew (σ1 := nA σ39 105 (4:Int32).toNatClampNeg) (n := (4:Int32).toNatClampNeg) rfl rfl ⟨rfl, rfl⟩ (fun H locs ls hH hS hl h1 h2 k => c_newa (t := 4) (ty := .char) hx hb hts hK hH hS hk.2.1 (by decide) rfl rfl (fun h => h) rfl (by decide) q183 hg h1 h2 dX1_init_176 k) (fun σ40 eσ40 => ?_)
  clear eσ40
  refine Jrow (fun H locs ls hH hS hl k => lv_dup hx hb dX1_init_178 rfl (k ls hl)) ?_
  refine Jrow (fun H locs ls hH hS hl k => lv_iconst (v := (0:Int32)) hx hb dX1_init_179 (by decide) (k ls hl)) ?_
  refine Jrow (fun H locs ls hH hS hl k => lv_bipush (v := (104:Int32)) hx hb dX1_init_180 (by decide) (k ls hl)) ?_
  refine Jgd (fun hk1 => ?_)
  refine Jgd (fun hg => ?_)
  refine Jst (σ1 := uAI σ40 (cZ σ39) (0:Int32).toNatClampNeg (vp_nar .char (104:Int32))) rfl rfl (fun H locs ls hH hS hl k => c_cast hx hb hK hH hS hk1 hg dX1_init_182 k) (fun σ41 => ?_)
  refine Jrow (fun H locs ls hH hS hl k => lv_dup hx hb dX1_init_183 rfl (k ls hl)) ?_
  refine Jrow (fun H locs ls hH hS hl k => lv_iconst (v := (1:Int32)) hx hb dX1_init_184 (by decide) (k ls hl)) ?_
  refine Jrow (fun H locs ls hH hS hl k => lv_bipush (v := (97:Int32)) hx hb dX1_init_185 (by decide) (k ls hl)) ?_
  refine Jgd (fun hk1 => ?_)
  refine Jgd (fun hg => ?_)
  refine Jst (σ1 := uAI σ41 (cZ σ39) (1:Int32).toNatClampNeg (vp_nar .char (97:Int32))) rfl rfl (fun H locs ls hH hS hl k => c_cast hx hb hK hH hS hk1 hg dX1_init_187 k) (fun σ42 => ?_)
  refine Jrow (fun H locs ls hH hS hl k => lv_dup hx hb dX1_init_188 rfl (k ls hl)) ?_
  refine Jrow (fun H locs ls hH hS hl k => lv_iconst (v := (2:Int32)) hx hb dX1_init_189 (by decide) (k ls hl)) ?_
  refine Jrow (fun H locs ls hH hS hl k => lv_bipush (v := (118:Int32)) hx hb dX1_init_190 (by decide) (k ls hl)) ?_
  refine Jgd (fun hk1 => ?_)
  refine Jgd (fun hg => ?_)
  refine Jst (σ1 := uAI σ42 (cZ σ39) (2:Int32).toNatClampNeg (vp_nar .char (118:Int32))) rfl rfl (fun H locs ls hH hS hl k => c_cast hx hb hK hH hS hk1 hg dX1_init_192 k) (fun σ43 => ?_)
  refine Jrow (fun H locs ls hH hS hl k => lv_dup hx hb dX1_init_193 rfl (k ls hl)) ?_
  refine Jrow (fun H locs ls hH hS hl k => lv_iconst (v := (3:Int32)) hx hb dX1_init_194 (by decide) (k ls hl)) ?_
  refine Jrow (fun H locs ls hH hS hl k => lv_bipush (v := (101:Int32)) hx hb dX1_init_195 (by decide) (k ls hl)) ?_
  refine Jgd (fun hk1 => ?_)
  refine Jgd (fun hg => ?_)
  refine Jst (σ1 := uAI σ43 (cZ σ39) (3:Int32).toNatClampNeg (vp_nar .char (101:Int32))) rfl rfl (fun H locs ls hH hS hl k => c_cast hx hb hK hH hS hk1 hg dX1_init_197 k) (fun σ44 => ?_)
  refine Jgd (fun hg => ?_)
  refine Jst (σ1 := uFR σ44 a0 44 (some (cZ σ39))) rfl rfl (fun H locs ls hH hS hl k => c_putRF (F := 44) (ty := (.array .char)) (x := (some (cZ σ39))) hx hb hts hown hK hH hS hg (hts _ q165) (fun _ h => h) rfl hnm rfl rfl (by decide +kernel) rfl rfl rfl dX1_init_198 k) (fun σ45 => ?_)
  refine Jrow (fun H locs ls hH hS hl k => lv_aload_n hx hb dX1_init_201 rfl (lv_at hl 0 rfl) (k ls hl)) ?_
  refine Jrow (fun H locs ls hH hS hl k => lv_iconst (v := (4:Int32)) hx hb dX1_init_202 (by decide) (k ls hl)) ?_
  refine Jgd (fun hg => ?_)
  refine Jnew (σ1 := nA σ45 105 (4:Int32).toNatClampNeg) (n := (4:Int32).toNatClampNeg) rfl rfl ⟨rfl, rfl⟩ (fun H locs ls hH hS hl h1 h2 k => c_newa (t := 4) (ty := .char) hx hb hts hK hH hS hk.2.1 (by decide) rfl rfl (fun h => h) rfl (by decide) q183 hg h1 h2 dX1_init_203 k) (fun σ46 eσ46 => ?_)
  clear eσ46
  refine Jrow (fun H locs ls hH hS hl k => lv_dup hx hb dX1_init_205 rfl (k ls hl)) ?_
  refine Jrow (fun H locs ls hH hS hl k => lv_iconst (v := (0:Int32)) hx hb dX1_init_206 (by decide) (k ls hl)) ?_
  refine Jrow (fun H locs ls hH hS hl k => lv_bipush (v := (104:Int32)) hx hb dX1_init_207 (by decide) (k ls hl)) ?_
  refine Jgd (fun hk1 => ?_)
  refine Jgd (fun hg => ?_)
  refine Jst (σ1 := uAI σ46 (cZ σ45) (0:Int32).toNatClampNeg (vp_nar .char (104:Int32))) rfl rfl (fun H locs ls hH hS hl k => c_cast hx hb hK hH hS hk1 hg dX1_init_209 k) (fun σ47 => ?_)
  refine Jrow (fun H locs ls hH hS hl k => lv_dup hx hb dX1_init_210 rfl (k ls hl)) ?_
  refine Jrow (fun H locs ls hH hS hl k => lv_iconst (v := (1:Int32)) hx hb dX1_init_211 (by decide) (k ls hl)) ?_
  refine Jrow (fun H locs ls hH hS hl k => lv_bipush (v := (111:Int32)) hx hb dX1_init_212 (by decide) (k ls hl)) ?_
  refine Jgd (fun hk1 => ?_)
  refine Jgd (fun hg => ?_)
  refine Jst (σ1 := uAI σ47 (cZ σ45) (1:Int32).toNatClampNeg (vp_nar .char (111:Int32))) rfl rfl (fun H locs ls hH hS hl k => c_cast hx hb hK hH hS hk1 hg dX1_init_214 k) (fun σ48 => ?_)
  refine Jrow (fun H locs ls hH hS hl k => lv_dup hx hb dX1_init_215 rfl (k ls hl)) ?_
  refine Jrow (fun H locs ls hH hS hl k => lv_iconst (v := (2:Int32)) hx hb dX1_init_216 (by decide) (k ls hl)) ?_
  refine Jrow (fun H locs ls hH hS hl k => lv_bipush (v := (108:Int32)) hx hb dX1_init_217 (by decide) (k ls hl)) ?_
  refine Jgd (fun hk1 => ?_)
  refine Jgd (fun hg => ?_)
  refine Jst (σ1 := uAI σ48 (cZ σ45) (2:Int32).toNatClampNeg (vp_nar .char (108:Int32))) rfl rfl (fun H locs ls hH hS hl k => c_cast hx hb hK hH hS hk1 hg dX1_init_219 k) (fun σ49 => ?_)
  refine Jrow (fun H locs ls hH hS hl k => lv_dup hx hb dX1_init_220 rfl (k ls hl)) ?_
  refine Jrow (fun H locs ls hH hS hl k => lv_iconst (v := (3:Int32)) hx hb dX1_init_221 (by decide) (k ls hl)) ?_
  refine Jrow (fun H locs ls hH hS hl k => lv_bipush (v := (100:Int32)) hx hb dX1_init_222 (by decide) (k ls hl)) ?_
  refine Jgd (fun hk1 => ?_)
  refine Jgd (fun hg => ?_)
  refine Jst (σ1 := uAI σ49 (cZ σ45) (3:Int32).toNatClampNeg (vp_nar .char (100:Int32))) rfl rfl (fun H locs ls hH hS hl k => c_cast hx hb hK hH hS hk1 hg dX1_init_224 k) (fun σ50 => ?_)
  refine Jgd (fun hg => ?_)
  refine Jst (σ1 := uFR σ50 a0 45 (some (cZ σ45))) rfl rfl (fun H locs ls hH hS hl k => c_putRF (F := 45) (ty := (.array .char)) (x := (some (cZ σ45))) hx hb hts hown hK hH hS hg (hts _ q166) (fun _ h => h) rfl hnm rfl rfl (by decide +kernel) rfl rfl rfl dX1_init_225 k) (fun σ51 => ?_)
  exact Jvret hx hb hr hlocks dX1_init_228
