/-! printed by gen/start.py: the law's entry -/
theorem l_arr {args : Array Value} {s : State} {ty : FieldType} (h : (Cond.arrayClass ty).before args s = true) : ∃ cA, ArrOfT s cA ty ∧ s.vm.findClass ("[" ++ ty.toString) = some cA := by
  obtain ⟨c, k, comp, h1, h2, h3⟩ := Cond.arrayClass_spec h
  exact ⟨c, fun n z => ⟨fun k9 h9 => (by cases h9), k, h2, comp, h3⟩, h1⟩
theorem l_arrO {args : Array Value} {s : State} {C : String} (h : (Cond.arrayOver (.object C)).before args s = true) : ∃ cA, ArrOfT s cA (.object C) ∧ va_RA s cA (.object C) := by
  obtain ⟨comp, c, k, h1, -, h3, h4, h5⟩ := Cond.arrayOver_spec h
  exact ⟨c, fun n z => ⟨fun k9 h9 => (by cases h9), k, h3, comp, h4⟩, k, comp, h3, h4, h1, h5⟩
theorem l_arrA {args : Array Value} {s : State} {t : FieldType} (h : (Cond.arrayOver (.array t)).before args s = true) : ∃ cA, ArrOfT s cA (.array t) ∧ va_RA s cA (.array t) := by
  obtain ⟨comp, c, k, h1, -, h3, h4, h5⟩ := arrayOverA_spec h
  exact ⟨c, fun n z => ⟨fun k9 h9 => (by cases h9), k, h3, comp, h4⟩, h5⟩
set_option maxHeartbeats 4000000 in
theorem l_K {args : Array Value} {s : State} (hts : ∀ w ∈ lw_tbl, w.before args s = true) (hall : ∀ w ∈ lw_all, w.before args s = true) : ∃ (D : va_G) (dA : Nat → ClassId), va_K D vCl (vTy dA) s := by
  obtain ⟨c0, i0, h0⟩ := u_known (C := RX4) (T := TX4) (N := 24) hall in_X4 (hall _ q1286)
  obtain ⟨c1, i1, h1⟩ := u_known (C := RX0) (T := TX0) (N := 19) hall in_X0 (hall _ q122)
  obtain ⟨c2, i2, h2⟩ := u_known (C := RX1) (T := TX1) (N := 6) hall in_X1 (hall _ q157)
  obtain ⟨c3, i3, h3⟩ := u_known (C := RX2) (T := TX2) (N := 6) hall in_X2 (hall _ q186)
  obtain ⟨c4, i4, h4⟩ := u_known (C := RX3) (T := TX3) (N := 5) hall in_X3 (hall _ q221)
  obtain ⟨c5, i5, h5⟩ := u_known (C := RX5) (T := TX5) (N := 7) hall in_X5 (hall _ q336)
  obtain ⟨c6, i6, h6⟩ := u_known (C := RX6) (T := TX6) (N := 7) hall in_X6 (hall _ q401)
  obtain ⟨c7, i7, h7⟩ := u_known (C := RX7) (T := TX7) (N := 1) hall in_X7 (hall _ q484)
  obtain ⟨c8, i8, h8⟩ := u_known (C := RX8) (T := TX8) (N := 3) hall in_X8 (hall _ q494)
  obtain ⟨c9, i9, h9⟩ := u_known (C := RX9) (T := TX9) (N := 3) hall in_X9 (hall _ q510)
  obtain ⟨c10, i10, h10⟩ := u_known (C := RX10) (T := TX10) (N := 3) hall in_X10 (hall _ q665)
  obtain ⟨c11, i11, h11⟩ := u_known (C := RX11) (T := TX11) (N := 3) hall in_X11 (hall _ q775)
  obtain ⟨c12, i12, h12⟩ := u_known (C := RX12) (T := TX12) (N := 4) hall in_X12 (hall _ q805)
  obtain ⟨c13, i13, h13⟩ := u_known (C := RX13) (T := TX13) (N := 5) hall in_X13 (hall _ q818)
  obtain ⟨c14, i14, h14⟩ := u_known (C := RX14) (T := TX14) (N := 5) hall in_X14 (hall _ q832)
  obtain ⟨c15, i15, h15⟩ := u_known (C := RX15) (T := TX15) (N := 4) hall in_X15 (hall _ q846)
  obtain ⟨c16, i16, h16⟩ := u_known (C := RX16) (T := TX16) (N := 6) hall in_X16 (hall _ q859)
  obtain ⟨c17, i17, h17⟩ := u_known (C := RX17) (T := TX17) (N := 5) hall in_X17 (hall _ q881)
  obtain ⟨c18, i18, h18⟩ := u_known (C := RX18) (T := TX18) (N := 8) hall in_X18 (hall _ q1215)
  obtain ⟨c19, i19, h19⟩ := u_known (C := RJ2) (T := TJ2) (N := 3) hall in_J2 (hall _ q130)
  obtain ⟨a0, r0, g0⟩ := l_arr (ty := .int) (hall _ q219)
  obtain ⟨a1, r1, g1⟩ := l_arr (ty := .boolean) (hall _ q1363)
  obtain ⟨a2, r2, g2⟩ := l_arr (ty := .long) (hall _ q218)
  obtain ⟨a3, r3, g3⟩ := l_arr (ty := .byte) (hall _ q155)
  obtain ⟨a4, r4, g4⟩ := l_arr (ty := .char) (hall _ q183)
  obtain ⟨a5, r5, g5⟩ := l_arrO (C := "java/lang/Object") (hts _ q582)
  obtain ⟨a6, r6, g6⟩ := l_arrO (C := "FortyDays$Thought") (hts _ q185)
  obtain ⟨a7, r7, g7⟩ := l_arrA (t := .long) (hts _ q245)
  obtain ⟨a8, r8, g8⟩ := l_arrA (t := .char) (hts _ q163)
  refine ⟨(fun k => if k = 0 then c0 else if k = 1 then c1 else if k = 2 then c2 else if k = 3 then c3 else if k = 4 then c4 else if k = 5 then c5 else if k = 6 then c6 else if k = 7 then c7 else if k = 8 then c8 else if k = 9 then c9 else if k = 10 then c10 else if k = 11 then c11 else if k = 12 then c12 else if k = 13 then c13 else if k = 14 then c14 else if k = 15 then c15 else if k = 16 then c16 else if k = 17 then c17 else if k = 18 then c18 else c19, fun k => if k = 0 then i0 else if k = 1 then i1 else if k = 2 then i2 else if k = 3 then i3 else if k = 4 then i4 else if k = 5 then i5 else if k = 6 then i6 else if k = 7 then i7 else if k = 8 then i8 else if k = 9 then i9 else if k = 10 then i10 else if k = 11 then i11 else if k = 12 then i12 else if k = 13 then i13 else if k = 14 then i14 else if k = 15 then i15 else if k = 16 then i16 else if k = 17 then i17 else if k = 18 then i18 else i19), fun k => if k = 0 then a0 else if k = 1 then a1 else if k = 2 then a2 else if k = 3 then a3 else if k = 4 then a4 else if k = 5 then a5 else if k = 6 then a6 else if k = 7 then a7 else a8, ⟨?_, ?_⟩⟩
  · intro k q hq
    have hk : k < 20 := (List.getElem?_eq_some_iff.mp hq).1
    rcases (show k = 0 ∨ k = 1 ∨ k = 2 ∨ k = 3 ∨ k = 4 ∨ k = 5 ∨ k = 6 ∨ k = 7 ∨ k = 8 ∨ k = 9 ∨ k = 10 ∨ k = 11 ∨ k = 12 ∨ k = 13 ∨ k = 14 ∨ k = 15 ∨ k = 16 ∨ k = 17 ∨ k = 18 ∨ k = 19 by omega) with e | e | e | e | e | e | e | e | e | e | e | e | e | e | e | e | e | e | e | e
    · subst e; cases hq; exact h0
    · subst e; cases hq; exact h1
    · subst e; cases hq; exact h2
    · subst e; cases hq; exact h3
    · subst e; cases hq; exact h4
    · subst e; cases hq; exact h5
    · subst e; cases hq; exact h6
    · subst e; cases hq; exact h7
    · subst e; cases hq; exact h8
    · subst e; cases hq; exact h9
    · subst e; cases hq; exact h10
    · subst e; cases hq; exact h11
    · subst e; cases hq; exact h12
    · subst e; cases hq; exact h13
    · subst e; cases hq; exact h14
    · subst e; cases hq; exact h15
    · subst e; cases hq; exact h16
    · subst e; cases hq; exact h17
    · subst e; cases hq; exact h18
    · subst e; cases hq; exact h19
  · intro k q hq
    have hk : k < 9 := (List.getElem?_eq_some_iff.mp hq).1
    rcases (show k = 0 ∨ k = 1 ∨ k = 2 ∨ k = 3 ∨ k = 4 ∨ k = 5 ∨ k = 6 ∨ k = 7 ∨ k = 8 by omega) with e | e | e | e | e | e | e | e | e
    · subst e; cases hq; exact ⟨r0, g0⟩
    · subst e; cases hq; exact ⟨r1, g1⟩
    · subst e; cases hq; exact ⟨r2, g2⟩
    · subst e; cases hq; exact ⟨r3, g3⟩
    · subst e; cases hq; exact ⟨r4, g4⟩
    · subst e; cases hq; exact ⟨r5, g5⟩
    · subst e; cases hq; exact ⟨r6, g6⟩
    · subst e; cases hq; exact ⟨r7, g7⟩
    · subst e; cases hq; exact ⟨r8, g8⟩
theorem l_Nw {args : Array Value} {s : State} (hts : ∀ w ∈ lw_tbl, w.before args s = true) : ∀ w ∈ cNw, va_Nw w s := fun w hw => va_Nw.of (cNw_on w hw) (hts w (cNw_tbl w hw))
theorem l_fw {args : Array Value} {s : State} (hts : ∀ w ∈ lw_tbl, w.before args s = true) (hs : ∀ w ∈ flatC (Cond.and given_1 narrow_1), w.before args s = true) : fw s :=
  ⟨va_Fw.of (hts (.declares xT) (by decide +kernel)) (hts (.interfaceMethod xT.cls xT.cls xT.name xT.desc) (by decide +kernel)) (hts (.publicMethod yX7_holds) (by decide +kernel)) (hts (.unhidden RX7 xT.name xT.desc) (by decide +kernel)) (hts (.castable RX7 xT.cls) (by decide +kernel)),
   va_Fw.of (hts (.declares xT) (by decide +kernel)) (hts (.interfaceMethod xT.cls xT.cls xT.name xT.desc) (by decide +kernel)) (hts (.publicMethod yX8_holds) (by decide +kernel)) (hts (.unhidden RX8 xT.name xT.desc) (by decide +kernel)) (hts (.castable RX8 xT.cls) (by decide +kernel)),
   va_Fw.of (hts (.declares xT) (by decide +kernel)) (hts (.interfaceMethod xT.cls xT.cls xT.name xT.desc) (by decide +kernel)) (hts (.publicMethod yX9_holds) (by decide +kernel)) (hts (.unhidden RX9 xT.name xT.desc) (by decide +kernel)) (hts (.castable RX9 xT.cls) (by decide +kernel)),
   va_Nc.of (hs (.not (.castable RX11 RX16)) (by decide +kernel)), va_Nc.of (hs (.not (.castable RX12 RX16)) (by decide +kernel)), va_Nc.of (hs (.not (.castable RX13 RX16)) (by decide +kernel)), va_Nc.of (hs (.not (.castable RX14 RX16)) (by decide +kernel)), va_Nc.of (hs (.not (.castable RX15 RX16)) (by decide +kernel)), va_Nc.of (hs (.not (.castable RX17 RX16)) (by decide +kernel))⟩
set_option maxHeartbeats 4000000 in
theorem l_kc {args : Array Value} {s : State} (hts : ∀ w ∈ lw_tbl, w.before args s = true) (hall : ∀ w ∈ lw_all, w.before args s = true) (hs : ∀ w ∈ flatC (Cond.and given_1 narrow_1), w.before args s = true) : ∃ (D : va_G) (dA : Nat → ClassId) (T : Nat × Nat), kc (lE0 D dA T s.heap.size) s ∧ T.1 < s.heap.size ∧ cE0 dA (s.heap[T.1]?) := by
  obtain ⟨D, dA, hK⟩ := l_K hts hall
  obtain ⟨mi, hmi⟩ := va_Mi.of (hs (.isRef (.mirror "[Ljava/lang/Object;")) (by decide +kernel))
  have hA : ∀ a : Nat, a < s.heap.size → ¬ s.heap.size ≤ a := fun a h => Nat.not_le.mpr h
  have hlen := va_eqt (hs (.eq (.length (.static "java/util/ArrayList" "DEFAULTCAPACITY_EMPTY_ELEMENTDATA" "[Ljava/lang/Object;")) (.int 0)) (by decide +kernel))
  obtain ⟨t, ht, cell, g1, g2, g3, -, g5, -, -⟩ := va_Tof (N := 0) (f := fun _ => .null) (A := fun q => s.heap.size ≤ q) (ty := .object "java/lang/Object") (by decide) (hs (.arrayOf (.static "java/util/ArrayList" "DEFAULTCAPACITY_EMPTY_ELEMENTDATA" "[Ljava/lang/Object;") (.object "java/lang/Object")) (by decide +kernel)) hlen (fun j hj => absurd hj (Nat.not_lt_zero _)) hA
  obtain ⟨a2, c2, cell2, k2, e1, e2, e3, -, e5, e6, -⟩ := Cond.exactly_spec (hs (.exactly (.static "java/util/ArrayList" "DEFAULTCAPACITY_EMPTY_ELEMENTDATA" "[Ljava/lang/Object;") "[Ljava/lang/Object;") (by decide +kernel))
  cases ht.symm.trans e1
  cases g1.symm.trans e3
  have n5 : s.vm.findClass "[Ljava/lang/Object;" = some (dA 5) := va_nmO (C := "java/lang/Object") (hK.2 5 _ rfl).2 (by decide +kernel)
  refine ⟨D, dA, (t, mi), ⟨hK, fun q h => h, l_Nw hts, ?_, ?_, ?_, hmi, va_AO.of (hts _ q582), ⟨va_AO.of (hts _ q185), (hts _ q163), (hts _ q245)⟩, l_fw hts hs⟩, (Array.getElem?_eq_some_iff.mp g1).1, cell, g1, ?_, e5, g3, g5⟩
  · exact va_Zref (hts _ q142) (hall _ q91) ht hA
  · exact va_Zqof (hts _ q425) (hall _ q97) (hs (.isRef (.static "java/lang/Throwable" "UNASSIGNED_STACK" "[Ljava/lang/StackTraceElement;")) (by decide +kernel)) hA
  · exact va_Zqof (hts _ q427) (hall _ q97) (hs (.isRef (.static "java/lang/Throwable" "SUPPRESSED_SENTINEL" "Ljava/util/List;")) (by decide +kernel)) hA
  · exact e6.trans (Option.some.inj (e2.symm.trans n5))
set_option maxHeartbeats 4000000 in
theorem l_MT {args : Array Value} {s : State} (hts : ∀ w ∈ lw_tbl, w.before args s = true) (hall : ∀ w ∈ lw_all, w.before args s = true) (hs : ∀ w ∈ flatC (Cond.and given_1 narrow_1), w.before args s = true) : ∃ Tq : Tk, MJ Tq (fun q => s.heap.size ≤ q) s s.heap ∧ ∀ i, i < 9 → vk_R RX4 (kIx.getD i 0) (kTx.getD i "") (Tq.1 i) s := by
  have hA : ∀ a : Nat, a < s.heap.size → ¬ s.heap.size ≤ a := fun a h => Nat.not_le.mpr h
  have x1 : ∀ i : Nat, i < 9 → (Cond.exactly (.string "FortyDaysModel" (kIx.getD i 0)) "java/lang/String").before args s = true := by
    intro i hi
    rcases (show i = 0 ∨ i = 1 ∨ i = 2 ∨ i = 3 ∨ i = 4 ∨ i = 5 ∨ i = 6 ∨ i = 7 ∨ i = 8 by omega) with e | e | e | e | e | e | e | e | e
    · subst e; exact hs (.exactly (.string "FortyDaysModel" 108) "java/lang/String") (by decide +kernel)
    · subst e; exact hs (.exactly (.string "FortyDaysModel" 113) "java/lang/String") (by decide +kernel)
    · subst e; exact hs (.exactly (.string "FortyDaysModel" 100) "java/lang/String") (by decide +kernel)
    · subst e; exact hs (.exactly (.string "FortyDaysModel" 102) "java/lang/String") (by decide +kernel)
    · subst e; exact hs (.exactly (.string "FortyDaysModel" 121) "java/lang/String") (by decide +kernel)
    · subst e; exact hs (.exactly (.string "FortyDaysModel" 123) "java/lang/String") (by decide +kernel)
    · subst e; exact hs (.exactly (.string "FortyDaysModel" 125) "java/lang/String") (by decide +kernel)
    · subst e; exact hs (.exactly (.string "FortyDaysModel" 127) "java/lang/String") (by decide +kernel)
    · subst e; exact hs (.exactly (.string "FortyDaysModel" 129) "java/lang/String") (by decide +kernel)
  have x2 : ∀ i : Nat, i < 9 → (Cond.eq (.field (.string "FortyDaysModel" (kIx.getD i 0)) "java/lang/String" "coder" "B") (.int 0)).before args s = true := by
    intro i hi
    rcases (show i = 0 ∨ i = 1 ∨ i = 2 ∨ i = 3 ∨ i = 4 ∨ i = 5 ∨ i = 6 ∨ i = 7 ∨ i = 8 by omega) with e | e | e | e | e | e | e | e | e
    · subst e; exact hs (.eq (.field (.string "FortyDaysModel" 108) "java/lang/String" "coder" "B") (.int 0)) (by decide +kernel)
    · subst e; exact hs (.eq (.field (.string "FortyDaysModel" 113) "java/lang/String" "coder" "B") (.int 0)) (by decide +kernel)
    · subst e; exact hs (.eq (.field (.string "FortyDaysModel" 100) "java/lang/String" "coder" "B") (.int 0)) (by decide +kernel)
    · subst e; exact hs (.eq (.field (.string "FortyDaysModel" 102) "java/lang/String" "coder" "B") (.int 0)) (by decide +kernel)
    · subst e; exact hs (.eq (.field (.string "FortyDaysModel" 121) "java/lang/String" "coder" "B") (.int 0)) (by decide +kernel)
    · subst e; exact hs (.eq (.field (.string "FortyDaysModel" 123) "java/lang/String" "coder" "B") (.int 0)) (by decide +kernel)
    · subst e; exact hs (.eq (.field (.string "FortyDaysModel" 125) "java/lang/String" "coder" "B") (.int 0)) (by decide +kernel)
    · subst e; exact hs (.eq (.field (.string "FortyDaysModel" 127) "java/lang/String" "coder" "B") (.int 0)) (by decide +kernel)
    · subst e; exact hs (.eq (.field (.string "FortyDaysModel" 129) "java/lang/String" "coder" "B") (.int 0)) (by decide +kernel)
  have x3 : ∀ i : Nat, i < 9 → (Cond.arrayOf (.field (.string "FortyDaysModel" (kIx.getD i 0)) "java/lang/String" "value" "[B") .byte).before args s = true := by
    intro i hi
    rcases (show i = 0 ∨ i = 1 ∨ i = 2 ∨ i = 3 ∨ i = 4 ∨ i = 5 ∨ i = 6 ∨ i = 7 ∨ i = 8 by omega) with e | e | e | e | e | e | e | e | e
    · subst e; exact hs (.arrayOf (.field (.string "FortyDaysModel" 108) "java/lang/String" "value" "[B") .byte) (by decide +kernel)
    · subst e; exact hs (.arrayOf (.field (.string "FortyDaysModel" 113) "java/lang/String" "value" "[B") .byte) (by decide +kernel)
    · subst e; exact hs (.arrayOf (.field (.string "FortyDaysModel" 100) "java/lang/String" "value" "[B") .byte) (by decide +kernel)
    · subst e; exact hs (.arrayOf (.field (.string "FortyDaysModel" 102) "java/lang/String" "value" "[B") .byte) (by decide +kernel)
    · subst e; exact hs (.arrayOf (.field (.string "FortyDaysModel" 121) "java/lang/String" "value" "[B") .byte) (by decide +kernel)
    · subst e; exact hs (.arrayOf (.field (.string "FortyDaysModel" 123) "java/lang/String" "value" "[B") .byte) (by decide +kernel)
    · subst e; exact hs (.arrayOf (.field (.string "FortyDaysModel" 125) "java/lang/String" "value" "[B") .byte) (by decide +kernel)
    · subst e; exact hs (.arrayOf (.field (.string "FortyDaysModel" 127) "java/lang/String" "value" "[B") .byte) (by decide +kernel)
    · subst e; exact hs (.arrayOf (.field (.string "FortyDaysModel" 129) "java/lang/String" "value" "[B") .byte) (by decide +kernel)
  have x4 : ∀ i : Nat, i < 9 → (Cond.eq (.length (.field (.string "FortyDaysModel" (kIx.getD i 0)) "java/lang/String" "value" "[B")) (.int (Int32.ofNat (kLen.getD i 0)))).before args s = true := by
    intro i hi
    rcases (show i = 0 ∨ i = 1 ∨ i = 2 ∨ i = 3 ∨ i = 4 ∨ i = 5 ∨ i = 6 ∨ i = 7 ∨ i = 8 by omega) with e | e | e | e | e | e | e | e | e
    · subst e; exact hs (.eq (.length (.field (.string "FortyDaysModel" 108) "java/lang/String" "value" "[B")) (.int 3)) (by decide +kernel)
    · subst e; exact hs (.eq (.length (.field (.string "FortyDaysModel" 113) "java/lang/String" "value" "[B")) (.int 3)) (by decide +kernel)
    · subst e; exact hs (.eq (.length (.field (.string "FortyDaysModel" 100) "java/lang/String" "value" "[B")) (.int 3)) (by decide +kernel)
    · subst e; exact hs (.eq (.length (.field (.string "FortyDaysModel" 102) "java/lang/String" "value" "[B")) (.int 1)) (by decide +kernel)
    · subst e; exact hs (.eq (.length (.field (.string "FortyDaysModel" 121) "java/lang/String" "value" "[B")) (.int 5)) (by decide +kernel)
    · subst e; exact hs (.eq (.length (.field (.string "FortyDaysModel" 123) "java/lang/String" "value" "[B")) (.int 5)) (by decide +kernel)
    · subst e; exact hs (.eq (.length (.field (.string "FortyDaysModel" 125) "java/lang/String" "value" "[B")) (.int 5)) (by decide +kernel)
    · subst e; exact hs (.eq (.length (.field (.string "FortyDaysModel" 127) "java/lang/String" "value" "[B")) (.int 5)) (by decide +kernel)
    · subst e; exact hs (.eq (.length (.field (.string "FortyDaysModel" 129) "java/lang/String" "value" "[B")) (.int 5)) (by decide +kernel)
  have x5 : ∀ i : Nat, i < 9 → ∀ j : Nat, j < kLen.getD i 0 → (Cond.eq (.elem (.field (.string "FortyDaysModel" (kIx.getD i 0)) "java/lang/String" "value" "[B") (.int (Int32.ofNat j))) (.int ((kByt.getD i []).getD j 0))).before args s = true := by
    intro i hi j hj
    rcases (show i = 0 ∨ i = 1 ∨ i = 2 ∨ i = 3 ∨ i = 4 ∨ i = 5 ∨ i = 6 ∨ i = 7 ∨ i = 8 by omega) with e | e | e | e | e | e | e | e | e
    · subst e
      have hj9 : j < 3 := hj
      rcases (show j = 0 ∨ j = 1 ∨ j = 2 by omega) with e2 | e2 | e2
      · subst e2; exact hs (.eq (.elem (.field (.string "FortyDaysModel" 108) "java/lang/String" "value" "[B") (.int 0)) (.int 108)) (by decide +kernel)
      · subst e2; exact hs (.eq (.elem (.field (.string "FortyDaysModel" 108) "java/lang/String" "value" "[B") (.int 1)) (.int 100)) (by decide +kernel)
      · subst e2; exact hs (.eq (.elem (.field (.string "FortyDaysModel" 108) "java/lang/String" "value" "[B") (.int 2)) (.int 32)) (by decide +kernel)
    · subst e
      have hj9 : j < 3 := hj
      rcases (show j = 0 ∨ j = 1 ∨ j = 2 by omega) with e2 | e2 | e2
      · subst e2; exact hs (.eq (.elem (.field (.string "FortyDaysModel" 113) "java/lang/String" "value" "[B") (.int 0)) (.int 114)) (by decide +kernel)
      · subst e2; exact hs (.eq (.elem (.field (.string "FortyDaysModel" 113) "java/lang/String" "value" "[B") (.int 1)) (.int 109)) (by decide +kernel)
      · subst e2; exact hs (.eq (.elem (.field (.string "FortyDaysModel" 113) "java/lang/String" "value" "[B") (.int 2)) (.int 32)) (by decide +kernel)
    · subst e
      have hj9 : j < 3 := hj
      rcases (show j = 0 ∨ j = 1 ∨ j = 2 by omega) with e2 | e2 | e2
      · subst e2; exact hs (.eq (.elem (.field (.string "FortyDaysModel" 100) "java/lang/String" "value" "[B") (.int 0)) (.int 118)) (by decide +kernel)
      · subst e2; exact hs (.eq (.elem (.field (.string "FortyDaysModel" 100) "java/lang/String" "value" "[B") (.int 1)) (.int 101)) (by decide +kernel)
      · subst e2; exact hs (.eq (.elem (.field (.string "FortyDaysModel" 100) "java/lang/String" "value" "[B") (.int 2)) (.int 32)) (by decide +kernel)
    · subst e
      have hj9 : j < 1 := hj
      have e2 : j = 0 := by omega
      subst e2; exact hs (.eq (.elem (.field (.string "FortyDaysModel" 102) "java/lang/String" "value" "[B") (.int 0)) (.int 32)) (by decide +kernel)
    · subst e
      have hj9 : j < 5 := hj
      rcases (show j = 0 ∨ j = 1 ∨ j = 2 ∨ j = 3 ∨ j = 4 by omega) with e2 | e2 | e2 | e2 | e2
      · subst e2; exact hs (.eq (.elem (.field (.string "FortyDaysModel" 121) "java/lang/String" "value" "[B") (.int 0)) (.int 103)) (by decide +kernel)
      · subst e2; exact hs (.eq (.elem (.field (.string "FortyDaysModel" 121) "java/lang/String" "value" "[B") (.int 1)) (.int 105)) (by decide +kernel)
      · subst e2; exact hs (.eq (.elem (.field (.string "FortyDaysModel" 121) "java/lang/String" "value" "[B") (.int 2)) (.int 118)) (by decide +kernel)
      · subst e2; exact hs (.eq (.elem (.field (.string "FortyDaysModel" 121) "java/lang/String" "value" "[B") (.int 3)) (.int 101)) (by decide +kernel)
      · subst e2; exact hs (.eq (.elem (.field (.string "FortyDaysModel" 121) "java/lang/String" "value" "[B") (.int 4)) (.int 32)) (by decide +kernel)
    · subst e
      have hj9 : j < 5 := hj
      rcases (show j = 0 ∨ j = 1 ∨ j = 2 ∨ j = 3 ∨ j = 4 by omega) with e2 | e2 | e2 | e2 | e2
      · subst e2; exact hs (.eq (.elem (.field (.string "FortyDaysModel" 123) "java/lang/String" "value" "[B") (.int 0)) (.int 115)) (by decide +kernel)
      · subst e2; exact hs (.eq (.elem (.field (.string "FortyDaysModel" 123) "java/lang/String" "value" "[B") (.int 1)) (.int 104)) (by decide +kernel)
      · subst e2; exact hs (.eq (.elem (.field (.string "FortyDaysModel" 123) "java/lang/String" "value" "[B") (.int 2)) (.int 111)) (by decide +kernel)
      · subst e2; exact hs (.eq (.elem (.field (.string "FortyDaysModel" 123) "java/lang/String" "value" "[B") (.int 3)) (.int 119)) (by decide +kernel)
      · subst e2; exact hs (.eq (.elem (.field (.string "FortyDaysModel" 123) "java/lang/String" "value" "[B") (.int 4)) (.int 32)) (by decide +kernel)
    · subst e
      have hj9 : j < 5 := hj
      rcases (show j = 0 ∨ j = 1 ∨ j = 2 ∨ j = 3 ∨ j = 4 by omega) with e2 | e2 | e2 | e2 | e2
      · subst e2; exact hs (.eq (.elem (.field (.string "FortyDaysModel" 125) "java/lang/String" "value" "[B") (.int 0)) (.int 111)) (by decide +kernel)
      · subst e2; exact hs (.eq (.elem (.field (.string "FortyDaysModel" 125) "java/lang/String" "value" "[B") (.int 1)) (.int 118)) (by decide +kernel)
      · subst e2; exact hs (.eq (.elem (.field (.string "FortyDaysModel" 125) "java/lang/String" "value" "[B") (.int 2)) (.int 101)) (by decide +kernel)
      · subst e2; exact hs (.eq (.elem (.field (.string "FortyDaysModel" 125) "java/lang/String" "value" "[B") (.int 3)) (.int 114)) (by decide +kernel)
      · subst e2; exact hs (.eq (.elem (.field (.string "FortyDaysModel" 125) "java/lang/String" "value" "[B") (.int 4)) (.int 32)) (by decide +kernel)
    · subst e
      have hj9 : j < 5 := hj
      rcases (show j = 0 ∨ j = 1 ∨ j = 2 ∨ j = 3 ∨ j = 4 by omega) with e2 | e2 | e2 | e2 | e2
      · subst e2; exact hs (.eq (.elem (.field (.string "FortyDaysModel" 127) "java/lang/String" "value" "[B") (.int 0)) (.int 108)) (by decide +kernel)
      · subst e2; exact hs (.eq (.elem (.field (.string "FortyDaysModel" 127) "java/lang/String" "value" "[B") (.int 1)) (.int 111)) (by decide +kernel)
      · subst e2; exact hs (.eq (.elem (.field (.string "FortyDaysModel" 127) "java/lang/String" "value" "[B") (.int 2)) (.int 111)) (by decide +kernel)
      · subst e2; exact hs (.eq (.elem (.field (.string "FortyDaysModel" 127) "java/lang/String" "value" "[B") (.int 3)) (.int 107)) (by decide +kernel)
      · subst e2; exact hs (.eq (.elem (.field (.string "FortyDaysModel" 127) "java/lang/String" "value" "[B") (.int 4)) (.int 32)) (by decide +kernel)
    · subst e
      have hj9 : j < 5 := hj
      rcases (show j = 0 ∨ j = 1 ∨ j = 2 ∨ j = 3 ∨ j = 4 by omega) with e2 | e2 | e2 | e2 | e2
      · subst e2; exact hs (.eq (.elem (.field (.string "FortyDaysModel" 129) "java/lang/String" "value" "[B") (.int 0)) (.int 109)) (by decide +kernel)
      · subst e2; exact hs (.eq (.elem (.field (.string "FortyDaysModel" 129) "java/lang/String" "value" "[B") (.int 1)) (.int 105)) (by decide +kernel)
      · subst e2; exact hs (.eq (.elem (.field (.string "FortyDaysModel" 129) "java/lang/String" "value" "[B") (.int 2)) (.int 115)) (by decide +kernel)
      · subst e2; exact hs (.eq (.elem (.field (.string "FortyDaysModel" 129) "java/lang/String" "value" "[B") (.int 3)) (.int 115)) (by decide +kernel)
      · subst e2; exact hs (.eq (.elem (.field (.string "FortyDaysModel" 129) "java/lang/String" "value" "[B") (.int 4)) (.int 32)) (by decide +kernel)
  have x6 : ∀ i j : Nat, i < 9 → j < 9 → i ≠ j → (Cond.not (Cond.eq (.string "FortyDaysModel" (kIx.getD i 0)) (.string "FortyDaysModel" (kIx.getD j 0)))).before args s = true ∨ (Cond.not (Cond.eq (.string "FortyDaysModel" (kIx.getD j 0)) (.string "FortyDaysModel" (kIx.getD i 0)))).before args s = true := by
    intro i j hi hj hij
    rcases (show i = 0 ∨ i = 1 ∨ i = 2 ∨ i = 3 ∨ i = 4 ∨ i = 5 ∨ i = 6 ∨ i = 7 ∨ i = 8 by omega) with e | e | e | e | e | e | e | e | e
    · subst e
      rcases (show j = 0 ∨ j = 1 ∨ j = 2 ∨ j = 3 ∨ j = 4 ∨ j = 5 ∨ j = 6 ∨ j = 7 ∨ j = 8 by omega) with e2 | e2 | e2 | e2 | e2 | e2 | e2 | e2 | e2
      · exact absurd e2.symm hij
      · subst e2; exact Or.inl (hs (.not (.eq (.string "FortyDaysModel" 108) (.string "FortyDaysModel" 113))) (by decide +kernel))
      · subst e2; exact Or.inl (hs (.not (.eq (.string "FortyDaysModel" 108) (.string "FortyDaysModel" 100))) (by decide +kernel))
      · subst e2; exact Or.inl (hs (.not (.eq (.string "FortyDaysModel" 108) (.string "FortyDaysModel" 102))) (by decide +kernel))
      · subst e2; exact Or.inl (hs (.not (.eq (.string "FortyDaysModel" 108) (.string "FortyDaysModel" 121))) (by decide +kernel))
      · subst e2; exact Or.inl (hs (.not (.eq (.string "FortyDaysModel" 108) (.string "FortyDaysModel" 123))) (by decide +kernel))
      · subst e2; exact Or.inl (hs (.not (.eq (.string "FortyDaysModel" 108) (.string "FortyDaysModel" 125))) (by decide +kernel))
      · subst e2; exact Or.inl (hs (.not (.eq (.string "FortyDaysModel" 108) (.string "FortyDaysModel" 127))) (by decide +kernel))
      · subst e2; exact Or.inl (hs (.not (.eq (.string "FortyDaysModel" 108) (.string "FortyDaysModel" 129))) (by decide +kernel))
    · subst e
      rcases (show j = 0 ∨ j = 1 ∨ j = 2 ∨ j = 3 ∨ j = 4 ∨ j = 5 ∨ j = 6 ∨ j = 7 ∨ j = 8 by omega) with e2 | e2 | e2 | e2 | e2 | e2 | e2 | e2 | e2
      · subst e2; exact Or.inr (hs (.not (.eq (.string "FortyDaysModel" 108) (.string "FortyDaysModel" 113))) (by decide +kernel))
      · exact absurd e2.symm hij
      · subst e2; exact Or.inl (hs (.not (.eq (.string "FortyDaysModel" 113) (.string "FortyDaysModel" 100))) (by decide +kernel))
      · subst e2; exact Or.inl (hs (.not (.eq (.string "FortyDaysModel" 113) (.string "FortyDaysModel" 102))) (by decide +kernel))
      · subst e2; exact Or.inl (hs (.not (.eq (.string "FortyDaysModel" 113) (.string "FortyDaysModel" 121))) (by decide +kernel))
      · subst e2; exact Or.inl (hs (.not (.eq (.string "FortyDaysModel" 113) (.string "FortyDaysModel" 123))) (by decide +kernel))
      · subst e2; exact Or.inl (hs (.not (.eq (.string "FortyDaysModel" 113) (.string "FortyDaysModel" 125))) (by decide +kernel))
      · subst e2; exact Or.inl (hs (.not (.eq (.string "FortyDaysModel" 113) (.string "FortyDaysModel" 127))) (by decide +kernel))
      · subst e2; exact Or.inl (hs (.not (.eq (.string "FortyDaysModel" 113) (.string "FortyDaysModel" 129))) (by decide +kernel))
    · subst e
      rcases (show j = 0 ∨ j = 1 ∨ j = 2 ∨ j = 3 ∨ j = 4 ∨ j = 5 ∨ j = 6 ∨ j = 7 ∨ j = 8 by omega) with e2 | e2 | e2 | e2 | e2 | e2 | e2 | e2 | e2
      · subst e2; exact Or.inr (hs (.not (.eq (.string "FortyDaysModel" 108) (.string "FortyDaysModel" 100))) (by decide +kernel))
      · subst e2; exact Or.inr (hs (.not (.eq (.string "FortyDaysModel" 113) (.string "FortyDaysModel" 100))) (by decide +kernel))
      · exact absurd e2.symm hij
      · subst e2; exact Or.inl (hs (.not (.eq (.string "FortyDaysModel" 100) (.string "FortyDaysModel" 102))) (by decide +kernel))
      · subst e2; exact Or.inl (hs (.not (.eq (.string "FortyDaysModel" 100) (.string "FortyDaysModel" 121))) (by decide +kernel))
      · subst e2; exact Or.inl (hs (.not (.eq (.string "FortyDaysModel" 100) (.string "FortyDaysModel" 123))) (by decide +kernel))
      · subst e2; exact Or.inl (hs (.not (.eq (.string "FortyDaysModel" 100) (.string "FortyDaysModel" 125))) (by decide +kernel))
      · subst e2; exact Or.inl (hs (.not (.eq (.string "FortyDaysModel" 100) (.string "FortyDaysModel" 127))) (by decide +kernel))
      · subst e2; exact Or.inl (hs (.not (.eq (.string "FortyDaysModel" 100) (.string "FortyDaysModel" 129))) (by decide +kernel))
    · subst e
      rcases (show j = 0 ∨ j = 1 ∨ j = 2 ∨ j = 3 ∨ j = 4 ∨ j = 5 ∨ j = 6 ∨ j = 7 ∨ j = 8 by omega) with e2 | e2 | e2 | e2 | e2 | e2 | e2 | e2 | e2
      · subst e2; exact Or.inr (hs (.not (.eq (.string "FortyDaysModel" 108) (.string "FortyDaysModel" 102))) (by decide +kernel))
      · subst e2; exact Or.inr (hs (.not (.eq (.string "FortyDaysModel" 113) (.string "FortyDaysModel" 102))) (by decide +kernel))
      · subst e2; exact Or.inr (hs (.not (.eq (.string "FortyDaysModel" 100) (.string "FortyDaysModel" 102))) (by decide +kernel))
      · exact absurd e2.symm hij
      · subst e2; exact Or.inl (hs (.not (.eq (.string "FortyDaysModel" 102) (.string "FortyDaysModel" 121))) (by decide +kernel))
      · subst e2; exact Or.inl (hs (.not (.eq (.string "FortyDaysModel" 102) (.string "FortyDaysModel" 123))) (by decide +kernel))
      · subst e2; exact Or.inl (hs (.not (.eq (.string "FortyDaysModel" 102) (.string "FortyDaysModel" 125))) (by decide +kernel))
      · subst e2; exact Or.inl (hs (.not (.eq (.string "FortyDaysModel" 102) (.string "FortyDaysModel" 127))) (by decide +kernel))
      · subst e2; exact Or.inl (hs (.not (.eq (.string "FortyDaysModel" 102) (.string "FortyDaysModel" 129))) (by decide +kernel))
    · subst e
      rcases (show j = 0 ∨ j = 1 ∨ j = 2 ∨ j = 3 ∨ j = 4 ∨ j = 5 ∨ j = 6 ∨ j = 7 ∨ j = 8 by omega) with e2 | e2 | e2 | e2 | e2 | e2 | e2 | e2 | e2
      · subst e2; exact Or.inr (hs (.not (.eq (.string "FortyDaysModel" 108) (.string "FortyDaysModel" 121))) (by decide +kernel))
      · subst e2; exact Or.inr (hs (.not (.eq (.string "FortyDaysModel" 113) (.string "FortyDaysModel" 121))) (by decide +kernel))
      · subst e2; exact Or.inr (hs (.not (.eq (.string "FortyDaysModel" 100) (.string "FortyDaysModel" 121))) (by decide +kernel))
      · subst e2; exact Or.inr (hs (.not (.eq (.string "FortyDaysModel" 102) (.string "FortyDaysModel" 121))) (by decide +kernel))
      · exact absurd e2.symm hij
      · subst e2; exact Or.inl (hs (.not (.eq (.string "FortyDaysModel" 121) (.string "FortyDaysModel" 123))) (by decide +kernel))
      · subst e2; exact Or.inl (hs (.not (.eq (.string "FortyDaysModel" 121) (.string "FortyDaysModel" 125))) (by decide +kernel))
      · subst e2; exact Or.inl (hs (.not (.eq (.string "FortyDaysModel" 121) (.string "FortyDaysModel" 127))) (by decide +kernel))
      · subst e2; exact Or.inl (hs (.not (.eq (.string "FortyDaysModel" 121) (.string "FortyDaysModel" 129))) (by decide +kernel))
    · subst e
      rcases (show j = 0 ∨ j = 1 ∨ j = 2 ∨ j = 3 ∨ j = 4 ∨ j = 5 ∨ j = 6 ∨ j = 7 ∨ j = 8 by omega) with e2 | e2 | e2 | e2 | e2 | e2 | e2 | e2 | e2
      · subst e2; exact Or.inr (hs (.not (.eq (.string "FortyDaysModel" 108) (.string "FortyDaysModel" 123))) (by decide +kernel))
      · subst e2; exact Or.inr (hs (.not (.eq (.string "FortyDaysModel" 113) (.string "FortyDaysModel" 123))) (by decide +kernel))
      · subst e2; exact Or.inr (hs (.not (.eq (.string "FortyDaysModel" 100) (.string "FortyDaysModel" 123))) (by decide +kernel))
      · subst e2; exact Or.inr (hs (.not (.eq (.string "FortyDaysModel" 102) (.string "FortyDaysModel" 123))) (by decide +kernel))
      · subst e2; exact Or.inr (hs (.not (.eq (.string "FortyDaysModel" 121) (.string "FortyDaysModel" 123))) (by decide +kernel))
      · exact absurd e2.symm hij
      · subst e2; exact Or.inl (hs (.not (.eq (.string "FortyDaysModel" 123) (.string "FortyDaysModel" 125))) (by decide +kernel))
      · subst e2; exact Or.inl (hs (.not (.eq (.string "FortyDaysModel" 123) (.string "FortyDaysModel" 127))) (by decide +kernel))
      · subst e2; exact Or.inl (hs (.not (.eq (.string "FortyDaysModel" 123) (.string "FortyDaysModel" 129))) (by decide +kernel))
    · subst e
      rcases (show j = 0 ∨ j = 1 ∨ j = 2 ∨ j = 3 ∨ j = 4 ∨ j = 5 ∨ j = 6 ∨ j = 7 ∨ j = 8 by omega) with e2 | e2 | e2 | e2 | e2 | e2 | e2 | e2 | e2
      · subst e2; exact Or.inr (hs (.not (.eq (.string "FortyDaysModel" 108) (.string "FortyDaysModel" 125))) (by decide +kernel))
      · subst e2; exact Or.inr (hs (.not (.eq (.string "FortyDaysModel" 113) (.string "FortyDaysModel" 125))) (by decide +kernel))
      · subst e2; exact Or.inr (hs (.not (.eq (.string "FortyDaysModel" 100) (.string "FortyDaysModel" 125))) (by decide +kernel))
      · subst e2; exact Or.inr (hs (.not (.eq (.string "FortyDaysModel" 102) (.string "FortyDaysModel" 125))) (by decide +kernel))
      · subst e2; exact Or.inr (hs (.not (.eq (.string "FortyDaysModel" 121) (.string "FortyDaysModel" 125))) (by decide +kernel))
      · subst e2; exact Or.inr (hs (.not (.eq (.string "FortyDaysModel" 123) (.string "FortyDaysModel" 125))) (by decide +kernel))
      · exact absurd e2.symm hij
      · subst e2; exact Or.inl (hs (.not (.eq (.string "FortyDaysModel" 125) (.string "FortyDaysModel" 127))) (by decide +kernel))
      · subst e2; exact Or.inl (hs (.not (.eq (.string "FortyDaysModel" 125) (.string "FortyDaysModel" 129))) (by decide +kernel))
    · subst e
      rcases (show j = 0 ∨ j = 1 ∨ j = 2 ∨ j = 3 ∨ j = 4 ∨ j = 5 ∨ j = 6 ∨ j = 7 ∨ j = 8 by omega) with e2 | e2 | e2 | e2 | e2 | e2 | e2 | e2 | e2
      · subst e2; exact Or.inr (hs (.not (.eq (.string "FortyDaysModel" 108) (.string "FortyDaysModel" 127))) (by decide +kernel))
      · subst e2; exact Or.inr (hs (.not (.eq (.string "FortyDaysModel" 113) (.string "FortyDaysModel" 127))) (by decide +kernel))
      · subst e2; exact Or.inr (hs (.not (.eq (.string "FortyDaysModel" 100) (.string "FortyDaysModel" 127))) (by decide +kernel))
      · subst e2; exact Or.inr (hs (.not (.eq (.string "FortyDaysModel" 102) (.string "FortyDaysModel" 127))) (by decide +kernel))
      · subst e2; exact Or.inr (hs (.not (.eq (.string "FortyDaysModel" 121) (.string "FortyDaysModel" 127))) (by decide +kernel))
      · subst e2; exact Or.inr (hs (.not (.eq (.string "FortyDaysModel" 123) (.string "FortyDaysModel" 127))) (by decide +kernel))
      · subst e2; exact Or.inr (hs (.not (.eq (.string "FortyDaysModel" 125) (.string "FortyDaysModel" 127))) (by decide +kernel))
      · exact absurd e2.symm hij
      · subst e2; exact Or.inl (hs (.not (.eq (.string "FortyDaysModel" 127) (.string "FortyDaysModel" 129))) (by decide +kernel))
    · subst e
      rcases (show j = 0 ∨ j = 1 ∨ j = 2 ∨ j = 3 ∨ j = 4 ∨ j = 5 ∨ j = 6 ∨ j = 7 ∨ j = 8 by omega) with e2 | e2 | e2 | e2 | e2 | e2 | e2 | e2 | e2
      · subst e2; exact Or.inr (hs (.not (.eq (.string "FortyDaysModel" 108) (.string "FortyDaysModel" 129))) (by decide +kernel))
      · subst e2; exact Or.inr (hs (.not (.eq (.string "FortyDaysModel" 113) (.string "FortyDaysModel" 129))) (by decide +kernel))
      · subst e2; exact Or.inr (hs (.not (.eq (.string "FortyDaysModel" 100) (.string "FortyDaysModel" 129))) (by decide +kernel))
      · subst e2; exact Or.inr (hs (.not (.eq (.string "FortyDaysModel" 102) (.string "FortyDaysModel" 129))) (by decide +kernel))
      · subst e2; exact Or.inr (hs (.not (.eq (.string "FortyDaysModel" 121) (.string "FortyDaysModel" 129))) (by decide +kernel))
      · subst e2; exact Or.inr (hs (.not (.eq (.string "FortyDaysModel" 123) (.string "FortyDaysModel" 129))) (by decide +kernel))
      · subst e2; exact Or.inr (hs (.not (.eq (.string "FortyDaysModel" 125) (.string "FortyDaysModel" 129))) (by decide +kernel))
      · subst e2; exact Or.inr (hs (.not (.eq (.string "FortyDaysModel" 127) (.string "FortyDaysModel" 129))) (by decide +kernel))
      · exact absurd e2.symm hij
  obtain ⟨adK, adV, h1, h2⟩ := vk_Sof (args := args) (s := s) (N := 9) (tm := fun i => .string "FortyDaysModel" (kIx.getD i 0)) (len := kLen) (byt := kByt) (A := fun q => s.heap.size ≤ q) k_len x1 x2 x3 x4 x5 x6 hA
  refine ⟨(adK, adV), ⟨h1, va_Zof (hts _ q1410) (hall _ q107) (va_eqt (hs (.eq (.static "java/lang/String" "COMPACT_STRINGS" "Z") (.int 1)) (by decide +kernel))) hA, va_Zqof (hts _ q1426) (hall _ q109) (hs (.isRef (.static "jdk/internal/util/Preconditions" "SIOOBE_FORMATTER" "Ljava/util/function/BiFunction;")) (by decide +kernel)) hA⟩, fun i hi => ?_⟩
  have h2i := h2 i hi
  rcases (show i = 0 ∨ i = 1 ∨ i = 2 ∨ i = 3 ∨ i = 4 ∨ i = 5 ∨ i = 6 ∨ i = 7 ∨ i = 8 by omega) with e | e | e | e | e | e | e | e | e
  · subst e; exact vk_R.of (hts _ q1396) h2i
  · subst e; exact vk_R.of (hts _ q1467) h2i
  · subst e; exact vk_R.of (hts _ q1476) h2i
  · subst e; exact vk_R.of (hts _ q1477) h2i
  · subst e; exact vk_R.of (hts _ q1478) h2i
  · subst e; exact vk_R.of (hts _ q1479) h2i
  · subst e; exact vk_R.of (hts _ q1480) h2i
  · subst e; exact vk_R.of (hts _ q1481) h2i
  · subst e; exact vk_R.of (hts _ q1482) h2i
