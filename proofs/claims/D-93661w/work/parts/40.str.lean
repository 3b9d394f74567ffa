/-! String's members on the nine constants of FortyDaysModel (printed by gen/hand.py) -/
def kLen : List Nat := [3, 3, 3, 1, 5, 5, 5, 5, 5]
def kByt : List (List Int32) := [[108, 100, 32], [114, 109, 32], [118, 101, 32], [32], [103, 105, 118, 101, 32], [115, 104, 111, 119, 32], [111, 118, 101, 114, 32], [108, 111, 111, 107, 32], [109, 105, 115, 115, 32]]
def kIx : List Nat := [108, 113, 100, 102, 121, 123, 125, 127, 129]
def kTx : List String := ["ld ", "rm ", "ve ", " ", "give ", "show ", "over ", "look ", "miss "]
abbrev Tk : Type := (Nat → Nat) × (Nat → Nat)
/-- what String's members read: the nine constants, two statics; nothing of it is among A -/
def MJ (T : Tk) (A : Nat → Prop) (U : State) (H : Heap) : Prop := vk_S 9 kLen kByt T.1 T.2 A U H ∧ va_Z "java/lang/String" "COMPACT_STRINGS" "Z" (.int 1) A U H ∧ va_Zq "jdk/internal/util/Preconditions" "SIOOBE_FORMATTER" "Ljava/util/function/BiFunction;" A U H
theorem MJ.moved {T : Tk} {A : Nat → Prop} {u U : State} {H : Heap} (hvm : u.vm.Alike U.vm) (h : MJ T A u H) : MJ T A U H := ⟨vk_S.moved hvm h.1, va_Z.moved hvm h.2.1, va_Zq.moved hvm h.2.2⟩
theorem MJ.kept {T : Tk} {A : Nat → Prop} {U : State} {H H1 : Heap} (h : MJ T A U H) (hq : ∀ a : Nat, a < H.size → ¬ A a → H1[a]? = H[a]?) : MJ T A U H1 := ⟨h.1.kept hq, h.2.1.kept hq, h.2.2.kept hq⟩
theorem MJ.narrow {T : Tk} {A B : Nat → Prop} {U : State} {H : Heap} (h : MJ T A U H) (hAB : ∀ q, B q → A q) : MJ T B U H := ⟨h.1.narrow hAB, h.2.1.narrow hAB, h.2.2.narrow hAB⟩
theorem MJ.call {T : Tk} {A : Nat → Prop} {s U : State} {H : Heap} {locs : List Loc} (h : MJ T A s s.heap) (hS : va_S A s.heap H locs) (hU : U.heap = H) (hW : s.WarmedH U.vm) : MJ T A U U.heap := by
  rw [hU]
  exact MJ.moved hW.alike (h.kept hS.2.1)
def jQi (r : Int32) : Array Value → State → Outcome → State → Prop := sQi r
theorem noA_e {P : Prop} {q : Nat} (h : noA q) : P := False.elim h
/-- the chars of the constants are plain -/
theorem k_ok : ∀ i, i < 9 → ∀ j, j < kLen.getD i 0 → ((((kByt.getD i []).getD j 0) &&& 255).toUInt32 % 65536).toInt32 = (kByt.getD i []).getD j 0 := by decide +kernel
theorem k_len : ∀ i, i < 9 → kLen.getD i 0 < 2 ^ 31 := by decide +kernel
theorem k_shr : ∀ i, i < 9 → Int32.ofNat (kLen.getD i 0) >>> ((0 : Int32) &&& 31) = nI (kLen.getD i 0) := by decide +kernel
theorem W.cret {p : Program} {l : Launch} {e : Env} {R : Room} {s : State} {m : MethodId} {args : Array Value} {below : List Frame} {meth : Method} {c : Code} {H : Heap} {locs : List Loc} {cells slots : Nat} {Qc : Array Value → State → Outcome → State → Prop} {free : Addr → Prop} {v w : Int32} {pc : Nat} {ls : Array Slot} (hvw : v = w) (k : W p l e R s m args below meth c H locs cells slots (MQ below Qc args s cells slots free) (F0 m pc ls [.int w])) : W p l e R s m args below meth c H locs cells slots (MQ below Qc args s cells slots free) (F0 m pc ls [.int v]) := by rw [hvw]; exact k

set_option maxHeartbeats 4000000 in
set_option maxRecDepth 100000 in
theorem mJ8_coder (l : Launch) (T : Tk) (i : Nat) (hi : i < 9) : Met l yJ8_coder (ws_ yJ8_coder cJ8_coder 1 (some .byte)) { frames := 0, cells := 0, slots := 0, locals := 0 } (va_Pc [.ref (T.1 i)] (fun U => MJ T noA U U.heap)) (sQi 0) 0 0 noA := by
  refine Met.ofW (cc := cJ8_coder) (maxL := 1) (ret := (some .byte)) (by decide) rfl ?_
  intro p e s m args below meth c s₁ B hml hv
  obtain ⟨rfl, hv⟩ := hv
  have hx := B.exec
  have hb := B.bytes
  have hr := B.returns
  have hts := atoms_spec (ws := (ws_ yJ8_coder cJ8_coder 1 (some .byte))) B.pre
  have hts : ∀ w ∈ lw_all, w.before _ s = true := fun w h => hts w (List.mem_cons_of_mem _ h)
  have hown : s.vm.findClass RJ8 = some m.cls := findClass_of_methodNamed B.named
  have hlocks := B.notSynchronized
  have hl := lv_entry ([.ref (T.1 i)]) (n := 1) (Nat.le_of_ble_eq_true rfl)
  rw [lg_entry_eq]
  generalize (lg_sl ([.ref (T.1 i)]) ++ List.replicate (1 - (lg_sl ([.ref (T.1 i)])).length) Slot.unset).toArray = ls at hl ⊢
  have hS : va_S noA s.heap s.heap [] := va_S.rf
  have hl : lv_has ls 1 [(0, .ref (T.1 i))] := hl
  refine va_gets hx hb hv.2.1 hS hown (hts _ q1409) (fun _ h => h) dJ8_coder_0 ?_
  refine lv_if_eq (tgt := 13) hx hb dJ8_coder_3 (by decide) (fun hc => absurd hc (by decide)) (fun hc => ?_)
  refine lv_aload_n hx hb dJ8_coder_6 rfl (lv_at hl 0 rfl) ?_
  refine vk_getf hx hb (hv.1.1 i hi).2.1 hS hown (hts _ q1799) (fun _ h => h) dJ8_coder_7 ?_
  refine lv_goto (tgt := 14) hx hb dJ8_coder_10 (by decide) ?_
  exact W.zret hx hb hr rfl (fun t ht hW => ⟨⟨_, (), rfl, rfl, trivial⟩, hS.F ht⟩) hS.2.2 dJ8_coder_14
set_option maxHeartbeats 4000000 in
set_option maxRecDepth 100000 in
theorem mJ8_length (l : Launch) (T : Tk) (i : Nat) (hi : i < 9) : Met l yJ8_length (ws_ yJ8_length cJ8_length 1 (some .int)) { frames := 1, cells := 0, slots := 0, locals := 20 } (va_Pc [.ref (T.1 i)] (fun U => MJ T noA U U.heap)) (sQi (nI (kLen.getD i 0))) 0 0 noA := by
  refine Met.ofW (cc := cJ8_length) (maxL := 1) (ret := (some .int)) (by decide) rfl ?_
  intro p e s m args below meth c s₁ B hml hv
  obtain ⟨rfl, hv⟩ := hv
  have hx := B.exec
  have hb := B.bytes
  have hr := B.returns
  have hts := atoms_spec (ws := (ws_ yJ8_length cJ8_length 1 (some .int))) B.pre
  have hts : ∀ w ∈ lw_all, w.before _ s = true := fun w h => hts w (List.mem_cons_of_mem _ h)
  have hown : s.vm.findClass RJ8 = some m.cls := findClass_of_methodNamed B.named
  have hlocks := B.notSynchronized
  have hl := lv_entry ([.ref (T.1 i)]) (n := 1) (Nat.le_of_ble_eq_true rfl)
  rw [lg_entry_eq]
  generalize (lg_sl ([.ref (T.1 i)]) ++ List.replicate (1 - (lg_sl ([.ref (T.1 i)])).length) Slot.unset).toArray = ls at hl ⊢
  have hS : va_S noA s.heap s.heap [] := va_S.rf
  have hl : lv_has ls 1 [(0, .ref (T.1 i))] := hl
  refine lv_aload_n hx hb dJ8_length_0 rfl (lv_at hl 0 rfl) ?_
  refine vk_getf hx hb (hv.1.1 i hi).2.2.1 hS hown (hts _ q1798) (fun _ h => h) dJ8_length_1 ?_
  refine va_tlen hx hb (hv.1.1 i hi).2.2.2 hS rfl dJ8_length_4 ?_
  refine lv_aload_n hx hb dJ8_length_5 rfl (lv_at hl 0 rfl) ?_
  refine va_calli (va_runV (C := RJ8) (As := []) (rest := [.int (Int32.ofNat (kLen.getD i 0))]) ⟨hx, hb, hml, hown, hts⟩ (mJ8_coder l T i hi) (cwV 0 hts (lw_V q1405 q1406 q1407 q107 q1408) rfl rfl rfl (by decide +kernel) ⟨Nat.le_of_ble_eq_true rfl, Nat.le_of_ble_eq_true rfl⟩) ⟨fun a U g mk q => ⟨q.1, MJ.moved (u := U) (U := U.calling g mk a) (Vm.Alike.refl U.vm) q.2⟩, vk_recv hv.1 hi hS, fun U hU hW => ⟨rfl, hv.call hS hU hW⟩⟩ rfl rfl hl.1 rfl (lv_room (Nat.le_of_ble_eq_true rfl)) dJ8_length_6 ⟨Nat.zero_le _, Nat.zero_le _⟩) hS (fun q _ h => h) (fun q h => h) (fun r u t H1 locs ht hvm hw hB hz hk hS => ?_)
  subst hw
  refine lv_ishr hx hb dJ8_length_9 ?_
  refine W.cret (k_shr i hi) ?_
  exact W.iret hx hb hr (fun t ht hW => ⟨⟨_, (), rfl, rfl, trivial⟩, hS.F ht⟩) hS.2.2 dJ8_length_10
set_option maxHeartbeats 4000000 in
set_option maxRecDepth 100000 in
theorem mJ8_isLatin1 (l : Launch) (T : Tk) (i : Nat) (hi : i < 9) : Met l yJ8_isLatin1 (ws_ yJ8_isLatin1 cJ8_isLatin1 1 (some .boolean)) { frames := 0, cells := 0, slots := 0, locals := 0 } (va_Pc [.ref (T.1 i)] (fun U => MJ T noA U U.heap)) (sQi 1) 0 0 noA := by
  refine Met.ofW (cc := cJ8_isLatin1) (maxL := 1) (ret := (some .boolean)) (by decide) rfl ?_
  intro p e s m args below meth c s₁ B hml hv
  obtain ⟨rfl, hv⟩ := hv
  have hx := B.exec
  have hb := B.bytes
  have hr := B.returns
  have hts := atoms_spec (ws := (ws_ yJ8_isLatin1 cJ8_isLatin1 1 (some .boolean))) B.pre
  have hts : ∀ w ∈ lw_all, w.before _ s = true := fun w h => hts w (List.mem_cons_of_mem _ h)
  have hown : s.vm.findClass RJ8 = some m.cls := findClass_of_methodNamed B.named
  have hlocks := B.notSynchronized
  have hl := lv_entry ([.ref (T.1 i)]) (n := 1) (Nat.le_of_ble_eq_true rfl)
  rw [lg_entry_eq]
  generalize (lg_sl ([.ref (T.1 i)]) ++ List.replicate (1 - (lg_sl ([.ref (T.1 i)])).length) Slot.unset).toArray = ls at hl ⊢
  have hS : va_S noA s.heap s.heap [] := va_S.rf
  have hl : lv_has ls 1 [(0, .ref (T.1 i))] := hl
  refine va_gets hx hb hv.2.1 hS hown (hts _ q1409) (fun _ h => h) dJ8_isLatin1_0 ?_
  refine lv_if_eq (tgt := 17) hx hb dJ8_isLatin1_3 (by decide) (fun hc => absurd hc (by decide)) (fun hc => ?_)
  refine lv_aload_n hx hb dJ8_isLatin1_6 rfl (lv_at hl 0 rfl) ?_
  refine vk_getf hx hb (hv.1.1 i hi).2.1 hS hown (hts _ q1799) (fun _ h => h) dJ8_isLatin1_7 ?_
  refine lv_if_ne (tgt := 17) hx hb dJ8_isLatin1_10 (by decide) (fun hc => absurd rfl hc) (fun hc => ?_)
  refine lv_iconst (v := 1) hx hb dJ8_isLatin1_13 (by decide) ?_
  refine lv_goto (tgt := 18) hx hb dJ8_isLatin1_14 (by decide) ?_
  exact W.zret hx hb hr rfl (fun t ht hW => ⟨⟨_, (), rfl, rfl, trivial⟩, hS.F ht⟩) hS.2.2 dJ8_isLatin1_18
set_option maxHeartbeats 4000000 in
set_option maxRecDepth 100000 in
theorem mJ10_checkIndexN (l : Launch) (i n : Int32) (h0 : ¬ i < 0) (h1 : i < n) : Met l yJ10_checkIndex (ws_ yJ10_checkIndex cJ10_checkIndex 3 (some .int)) { frames := 0, cells := 0, slots := 0, locals := 0 } (va_Pc [.int i, .int n, .null] (fun U => True)) (sQi i) 0 0 noA := by
  refine Met.ofW (cc := cJ10_checkIndex) (maxL := 3) (ret := (some .int)) (by decide) rfl ?_
  intro p e s m args below meth c s₁ B hml hv
  obtain ⟨rfl, hv⟩ := hv
  have hx := B.exec
  have hb := B.bytes
  have hr := B.returns
  have hts := atoms_spec (ws := (ws_ yJ10_checkIndex cJ10_checkIndex 3 (some .int))) B.pre
  have hts : ∀ w ∈ lw_all, w.before _ s = true := fun w h => hts w (List.mem_cons_of_mem _ h)
  have hown : s.vm.findClass RJ10 = some m.cls := findClass_of_methodNamed B.named
  have hlocks := B.notSynchronized
  have hl := lv_entry ([.int i, .int n, .null]) (n := 3) (Nat.le_of_ble_eq_true rfl)
  rw [lg_entry_eq]
  generalize (lg_sl ([.int i, .int n, .null]) ++ List.replicate (3 - (lg_sl ([.int i, .int n, .null])).length) Slot.unset).toArray = ls at hl ⊢
  have hS : va_S noA s.heap s.heap [] := va_S.rf
  have hl : lv_has ls 3 [(0, .int i), (1, .int n), (2, .null)] := hl
  refine lv_iload_n hx hb dJ10_checkIndex_0 rfl (lv_at hl 0 rfl) ?_
  refine lv_if_lt (tgt := 9) hx hb dJ10_checkIndex_1 (by decide) (fun hc => absurd hc h0) (fun hc => ?_)
  refine lv_iload_n hx hb dJ10_checkIndex_4 rfl (lv_at hl 0 rfl) ?_
  refine lv_iload_n hx hb dJ10_checkIndex_5 rfl (lv_at hl 1 rfl) ?_
  refine lv_icmp_lt (tgt := 16) hx hb dJ10_checkIndex_6 (by decide) (fun hc => ?_) (fun hc => absurd h1 hc)
  refine lv_iload_n hx hb dJ10_checkIndex_16 rfl (lv_at hl 0 rfl) ?_
  exact W.iret hx hb hr (fun t ht hW => ⟨⟨_, (), rfl, rfl, trivial⟩, hS.F ht⟩) hS.2.2 dJ10_checkIndex_17
set_option maxHeartbeats 4000000 in
set_option maxRecDepth 100000 in
theorem mJ10_checkIndexR (l : Launch) (a : Nat) (i n : Int32) (h0 : ¬ i < 0) (h1 : i < n) : Met l yJ10_checkIndex (ws_ yJ10_checkIndex cJ10_checkIndex 3 (some .int)) { frames := 0, cells := 0, slots := 0, locals := 0 } (va_Pc [.int i, .int n, .ref a] (fun U => True)) (sQi i) 0 0 noA := by
  refine Met.ofW (cc := cJ10_checkIndex) (maxL := 3) (ret := (some .int)) (by decide) rfl ?_
  intro p e s m args below meth c s₁ B hml hv
  obtain ⟨rfl, hv⟩ := hv
  have hx := B.exec
  have hb := B.bytes
  have hr := B.returns
  have hts := atoms_spec (ws := (ws_ yJ10_checkIndex cJ10_checkIndex 3 (some .int))) B.pre
  have hts : ∀ w ∈ lw_all, w.before _ s = true := fun w h => hts w (List.mem_cons_of_mem _ h)
  have hown : s.vm.findClass RJ10 = some m.cls := findClass_of_methodNamed B.named
  have hlocks := B.notSynchronized
  have hl := lv_entry ([.int i, .int n, .ref a]) (n := 3) (Nat.le_of_ble_eq_true rfl)
  rw [lg_entry_eq]
  generalize (lg_sl ([.int i, .int n, .ref a]) ++ List.replicate (3 - (lg_sl ([.int i, .int n, .ref a])).length) Slot.unset).toArray = ls at hl ⊢
  have hS : va_S noA s.heap s.heap [] := va_S.rf
  have hl : lv_has ls 3 [(0, .int i), (1, .int n), (2, .ref a)] := hl
  refine lv_iload_n hx hb dJ10_checkIndex_0 rfl (lv_at hl 0 rfl) ?_
  refine lv_if_lt (tgt := 9) hx hb dJ10_checkIndex_1 (by decide) (fun hc => absurd hc h0) (fun hc => ?_)
  refine lv_iload_n hx hb dJ10_checkIndex_4 rfl (lv_at hl 0 rfl) ?_
  refine lv_iload_n hx hb dJ10_checkIndex_5 rfl (lv_at hl 1 rfl) ?_
  refine lv_icmp_lt (tgt := 16) hx hb dJ10_checkIndex_6 (by decide) (fun hc => ?_) (fun hc => absurd h1 hc)
  refine lv_iload_n hx hb dJ10_checkIndex_16 rfl (lv_at hl 0 rfl) ?_
  exact W.iret hx hb hr (fun t ht hW => ⟨⟨_, (), rfl, rfl, trivial⟩, hS.F ht⟩) hS.2.2 dJ10_checkIndex_17
set_option maxHeartbeats 4000000 in
set_option maxRecDepth 100000 in
theorem mJ8_checkIndex (l : Launch) (T : Tk) (i n : Int32) (h0 : ¬ i < 0) (h1 : i < n) : Met l yJ8_checkIndex (ws_ yJ8_checkIndex cJ8_checkIndex 2 none) { frames := 1, cells := 0, slots := 0, locals := 22 } (va_Pc [.int i, .int n] (fun U => MJ T noA U U.heap)) (va_Qv (fun (_ : Unit) => True) (fun _ _ => True) noA) 0 0 noA := by
  refine Met.ofW (cc := cJ8_checkIndex) (maxL := 2) (ret := none) (by decide) rfl ?_
  intro p e s m args below meth c s₁ B hml hv
  obtain ⟨rfl, hv⟩ := hv
  have hx := B.exec
  have hb := B.bytes
  have hr := B.returns
  have hts := atoms_spec (ws := (ws_ yJ8_checkIndex cJ8_checkIndex 2 none)) B.pre
  have hts : ∀ w ∈ lw_all, w.before _ s = true := fun w h => hts w (List.mem_cons_of_mem _ h)
  have hown : s.vm.findClass RJ8 = some m.cls := findClass_of_methodNamed B.named
  have hlocks := B.notSynchronized
  have hl := lv_entry ([.int i, .int n]) (n := 2) (Nat.le_of_ble_eq_true rfl)
  rw [lg_entry_eq]
  generalize (lg_sl ([.int i, .int n]) ++ List.replicate (2 - (lg_sl ([.int i, .int n])).length) Slot.unset).toArray = ls at hl ⊢
  have hS : va_S noA s.heap s.heap [] := va_S.rf
  have hl : lv_has ls 2 [(0, .int i), (1, .int n)] := hl
  refine lv_iload_n hx hb dJ8_checkIndex_0 rfl (lv_at hl 0 rfl) ?_
  refine lv_iload_n hx hb dJ8_checkIndex_1 rfl (lv_at hl 1 rfl) ?_
  rcases hv.2.2 with hz | ⟨a, hz⟩
  · refine va_gets hx hb hz hS hown (hts _ q1425) (fun _ h => h) dJ8_checkIndex_2 ?_
    refine va_calli (va_runS (As := [.int i, .int n, .null]) (rest := []) ⟨hx, hb, hml, hown, hts⟩ (mJ10_checkIndexN l i n h0 h1) (va_cwS 3 hts (lw_S q1427 q613 q109 q614) rfl rfl rfl (by decide +kernel) ⟨Nat.le_of_ble_eq_true rfl, Nat.le_of_ble_eq_true rfl⟩) ⟨fun a U g mk q => q, fun U hU hW => ⟨rfl, trivial⟩⟩ rfl rfl hl.1 rfl (lv_room (Nat.le_of_ble_eq_true rfl)) dJ8_checkIndex_5 ⟨Nat.zero_le _, Nat.zero_le _⟩) hS (fun q _ h => h) (fun q h => h) (fun r u t H1 locs ht hvm hw hB hz hk hS => ?_)
    refine lv_pop hx hb dJ8_checkIndex_8 rfl ?_
    exact W.vret hx hb hr (fun t ht hW => ⟨⟨(), rfl, trivial, trivial⟩, hS.F ht⟩) hS.2.2 dJ8_checkIndex_9
  · refine va_gets hx hb hz hS hown (hts _ q1425) (fun _ h => h) dJ8_checkIndex_2 ?_
    refine va_calli (va_runS (As := [.int i, .int n, .ref a]) (rest := []) ⟨hx, hb, hml, hown, hts⟩ (mJ10_checkIndexR l a i n h0 h1) (va_cwS 3 hts (lw_S q1427 q613 q109 q614) rfl rfl rfl (by decide +kernel) ⟨Nat.le_of_ble_eq_true rfl, Nat.le_of_ble_eq_true rfl⟩) ⟨fun a U g mk q => q, fun U hU hW => ⟨rfl, trivial⟩⟩ rfl rfl hl.1 rfl (lv_room (Nat.le_of_ble_eq_true rfl)) dJ8_checkIndex_5 ⟨Nat.zero_le _, Nat.zero_le _⟩) hS (fun q _ h => h) (fun q h => h) (fun r u t H1 locs ht hvm hw hB hz hk hS => ?_)
    refine lv_pop hx hb dJ8_checkIndex_8 rfl ?_
    exact W.vret hx hb hr (fun t ht hW => ⟨⟨(), rfl, trivial, trivial⟩, hS.F ht⟩) hS.2.2 dJ8_checkIndex_9
set_option maxHeartbeats 4000000 in
set_option maxRecDepth 100000 in
theorem mJ9_charAt (l : Launch) (T : Tk) (i : Nat) (hi : i < 9) (k : Nat) (hk : k < kLen.getD i 0) : Met l yJ9_charAt (ws_ yJ9_charAt cJ9_charAt 2 (some .char)) { frames := 2, cells := 0, slots := 0, locals := 43 } (va_Pc [.ref (T.2 i), .int (nI k)] (fun U => MJ T noA U U.heap)) (sQi ((kByt.getD i []).getD k 0)) 0 0 noA := by
  refine Met.ofW (cc := cJ9_charAt) (maxL := 2) (ret := (some .char)) (by decide) rfl ?_
  intro p e s m args below meth c s₁ B hml hv
  obtain ⟨rfl, hv⟩ := hv
  have hx := B.exec
  have hb := B.bytes
  have hr := B.returns
  have hts := atoms_spec (ws := (ws_ yJ9_charAt cJ9_charAt 2 (some .char))) B.pre
  have hts : ∀ w ∈ lw_all, w.before _ s = true := fun w h => hts w (List.mem_cons_of_mem _ h)
  have hown : s.vm.findClass RJ9 = some m.cls := findClass_of_methodNamed B.named
  have hlocks := B.notSynchronized
  have hl := lv_entry ([.ref (T.2 i), .int (nI k)]) (n := 2) (Nat.le_of_ble_eq_true rfl)
  rw [lg_entry_eq]
  generalize (lg_sl ([.ref (T.2 i), .int (nI k)]) ++ List.replicate (2 - (lg_sl ([.ref (T.2 i), .int (nI k)])).length) Slot.unset).toArray = ls at hl ⊢
  have hS : va_S noA s.heap s.heap [] := va_S.rf
  have hl : lv_has ls 2 [(0, .ref (T.2 i)), (1, .int (nI k))] := hl
  have hkl := k_len i hi
  refine lv_iload_n hx hb dJ9_charAt_0 rfl (lv_at hl 1 rfl) ?_
  refine lv_aload_n hx hb dJ9_charAt_1 rfl (lv_at hl 0 rfl) ?_
  refine va_tlen hx hb (hv.1.1 i hi).2.2.2 hS rfl dJ9_charAt_2 ?_
  refine va_callv (va_runS (As := [.int (nI k), .int (Int32.ofNat (kLen.getD i 0))]) (rest := []) ⟨hx, hb, hml, hown, hts⟩ (mJ8_checkIndex l T (nI k) (Int32.ofNat (kLen.getD i 0)) (nI_pos (by omega)) (nI_lt hk hkl)) (va_cwS 2 hts (lw_S q1422 q1423 q107 q1424) rfl rfl rfl (by decide +kernel) ⟨Nat.le_of_ble_eq_true rfl, Nat.le_of_ble_eq_true rfl⟩) ⟨fun a U g mk q => ⟨q.1, MJ.moved (u := U) (U := U.calling g mk a) (Vm.Alike.refl U.vm) q.2⟩, fun U hU hW => ⟨rfl, hv.call hS hU hW⟩⟩ rfl rfl hl.1 rfl (lv_room (Nat.le_of_ble_eq_true rfl)) dJ9_charAt_3 ⟨Nat.zero_le _, Nat.zero_le _⟩) hS (fun q _ h => h) (fun q h => h) (fun u t H1 locs ht hvm hw hB hz hk1 hS => ?_)
  refine lv_aload_n hx hb dJ9_charAt_6 rfl (lv_at hl 0 rfl) ?_
  refine lv_iload_n hx hb dJ9_charAt_7 rfl (lv_at hl 1 rfl) ?_
  refine va_tb (v := .int ((kByt.getD i []).getD k 0)) hx hb (hv.1.1 i hi).2.2.2 hS (vp_in_nI hk hkl) (by rw [nI_clamp (by omega)]) dJ9_charAt_8 ?_
  refine lv_sipush (v := 255) hx hb dJ9_charAt_9 (by decide) ?_
  refine lv_iand hx hb dJ9_charAt_12 ?_
  refine lv_i2c hx hb dJ9_charAt_13 rfl ?_
  refine W.cret (k_ok i hi k hk) ?_
  exact W.zret hx hb hr (by rw [← k_ok i hi k hk]; exact pk_nc _) (fun t ht hW => ⟨⟨_, (), rfl, rfl, trivial⟩, hS.F ht⟩) hS.2.2 dJ9_charAt_14
set_option maxHeartbeats 4000000 in
set_option maxRecDepth 100000 in
theorem mJ8_charAt (l : Launch) (T : Tk) (i : Nat) (hi : i < 9) (k : Nat) (hk : k < kLen.getD i 0) : Met l yJ8_charAt (ws_ yJ8_charAt cJ8_charAt 2 (some .char)) { frames := 3, cells := 0, slots := 0, locals := 64 } (va_Pc [.ref (T.1 i), .int (nI k)] (fun U => MJ T noA U U.heap)) (sQi ((kByt.getD i []).getD k 0)) 0 0 noA := by
  refine Met.ofW (cc := cJ8_charAt) (maxL := 2) (ret := (some .char)) (by decide) rfl ?_
  intro p e s m args below meth c s₁ B hml hv
  obtain ⟨rfl, hv⟩ := hv
  have hx := B.exec
  have hb := B.bytes
  have hr := B.returns
  have hts := atoms_spec (ws := (ws_ yJ8_charAt cJ8_charAt 2 (some .char))) B.pre
  have hts : ∀ w ∈ lw_all, w.before _ s = true := fun w h => hts w (List.mem_cons_of_mem _ h)
  have hown : s.vm.findClass RJ8 = some m.cls := findClass_of_methodNamed B.named
  have hlocks := B.notSynchronized
  have hl := lv_entry ([.ref (T.1 i), .int (nI k)]) (n := 2) (Nat.le_of_ble_eq_true rfl)
  rw [lg_entry_eq]
  generalize (lg_sl ([.ref (T.1 i), .int (nI k)]) ++ List.replicate (2 - (lg_sl ([.ref (T.1 i), .int (nI k)])).length) Slot.unset).toArray = ls at hl ⊢
  have hS : va_S noA s.heap s.heap [] := va_S.rf
  have hl : lv_has ls 2 [(0, .ref (T.1 i)), (1, .int (nI k))] := hl
  refine lv_aload_n hx hb dJ8_charAt_0 rfl (lv_at hl 0 rfl) ?_
  refine va_calli (va_runV (C := RJ8) (As := []) (rest := []) ⟨hx, hb, hml, hown, hts⟩ (mJ8_isLatin1 l T i hi) (cwV 0 hts (lw_V q1415 q1416 q1417 q107 q1418) rfl rfl rfl (by decide +kernel) ⟨Nat.le_of_ble_eq_true rfl, Nat.le_of_ble_eq_true rfl⟩) ⟨fun a U g mk q => ⟨q.1, MJ.moved (u := U) (U := U.calling g mk a) (Vm.Alike.refl U.vm) q.2⟩, vk_recv hv.1 hi hS, fun U hU hW => ⟨rfl, hv.call hS hU hW⟩⟩ rfl rfl hl.1 rfl (lv_room (Nat.le_of_ble_eq_true rfl)) dJ8_charAt_1 ⟨Nat.zero_le _, Nat.zero_le _⟩) hS (fun q _ h => h) (fun q h => h) (fun r u t H1 locs ht hvm hw hB hz hk1 hS => ?_)
  subst hw
  refine lv_if_eq (tgt := 16) hx hb dJ8_charAt_4 (by decide) (fun hc => absurd hc (by decide)) (fun hc => ?_)
  refine lv_aload_n hx hb dJ8_charAt_7 rfl (lv_at hl 0 rfl) ?_
  refine vk_getf hx hb (hv.1.1 i hi).2.2.1 hS hown (hts _ q1798) (fun _ h => h) dJ8_charAt_8 ?_
  refine lv_iload_n hx hb dJ8_charAt_11 rfl (lv_at hl 1 rfl) ?_
  refine va_calli (va_runS (As := [.ref (T.2 i), .int (nI k)]) (rest := []) ⟨hx, hb, hml, hown, hts⟩ (mJ9_charAt l T i hi k hk) (va_cwS 2 hts (lw_S q1419 q1420 q108 q1421) rfl rfl rfl (by decide +kernel) ⟨Nat.le_of_ble_eq_true rfl, Nat.le_of_ble_eq_true rfl⟩) ⟨fun a U g mk q => ⟨q.1, MJ.moved (u := U) (U := U.calling g mk a) (Vm.Alike.refl U.vm) q.2⟩, fun U hU hW => ⟨rfl, hv.call hS hU hW⟩⟩ rfl rfl hl.1 rfl (lv_room (Nat.le_of_ble_eq_true rfl)) dJ8_charAt_12 ⟨Nat.zero_le _, Nat.zero_le _⟩) hS (fun q _ h => h) (fun q h => h) (fun r u t H1 locs ht hvm hw hB hz hk1 hS => ?_)
  subst hw
  exact W.zret hx hb hr (by rw [← k_ok i hi k hk]; exact pk_nc _) (fun t ht hW => ⟨⟨_, (), rfl, rfl, trivial⟩, hS.F ht⟩) hS.2.2 dJ8_charAt_15
set_option maxHeartbeats 4000000 in
set_option maxRecDepth 100000 in
theorem mJ12_checkIndex0 (l : Launch) (i n : Int32) (h0 : ¬ i < 0) (h1 : i < n) : Met l yJ12_checkIndex (ws_ yJ12_checkIndex cJ12_checkIndex 2 (some .int)) { frames := 1, cells := 0, slots := 0, locals := 22 } (va_Pc [.int i, .int n] (fun U => True)) (sQi i) 0 0 noA := by
  refine Met.ofW (cc := cJ12_checkIndex) (maxL := 2) (ret := (some .int)) (by decide) rfl ?_
  intro p e s m args below meth c s₁ B hml hv
  obtain ⟨rfl, hv⟩ := hv
  have hx := B.exec
  have hb := B.bytes
  have hr := B.returns
  have hts := atoms_spec (ws := (ws_ yJ12_checkIndex cJ12_checkIndex 2 (some .int))) B.pre
  have hts : ∀ w ∈ lw_all, w.before _ s = true := fun w h => hts w (List.mem_cons_of_mem _ h)
  have hown : s.vm.findClass RJ12 = some m.cls := findClass_of_methodNamed B.named
  have hlocks := B.notSynchronized
  have hl := lv_entry ([.int i, .int n]) (n := 2) (Nat.le_of_ble_eq_true rfl)
  rw [lg_entry_eq]
  generalize (lg_sl ([.int i, .int n]) ++ List.replicate (2 - (lg_sl ([.int i, .int n])).length) Slot.unset).toArray = ls at hl ⊢
  have hS : va_S noA s.heap s.heap [] := va_S.rf
  have hl : lv_has ls 2 [(0, .int i), (1, .int n)] := hl
  refine lv_iload_n hx hb dJ12_checkIndex_0 rfl (lv_at hl 0 rfl) ?_
  refine lv_iload_n hx hb dJ12_checkIndex_1 rfl (lv_at hl 1 rfl) ?_
  refine lv_null hx hb dJ12_checkIndex_2 ?_
  refine va_calli (va_runS (As := [.int i, .int n, .null]) (rest := []) ⟨hx, hb, hml, hown, hts⟩ (mJ10_checkIndexN l i n h0 h1) (va_cwS 3 hts (lw_S q612 q613 q109 q614) rfl rfl rfl (by decide +kernel) ⟨Nat.le_of_ble_eq_true rfl, Nat.le_of_ble_eq_true rfl⟩) ⟨fun a U g mk q => q, fun U hU hW => ⟨rfl, trivial⟩⟩ rfl rfl hl.1 rfl (lv_room (Nat.le_of_ble_eq_true rfl)) dJ12_checkIndex_3 ⟨Nat.zero_le _, Nat.zero_le _⟩) hS (fun q _ h => h) (fun q h => h) (fun r u t H1 locs ht hvm hw hB hz hk hS => ?_)
  subst hw
  exact W.iret hx hb hr (fun t ht hW => ⟨⟨_, (), rfl, rfl, trivial⟩, hS.F ht⟩) hS.2.2 dJ12_checkIndex_6
def fJ12_checkIndex (p1 p2 : Int32) : Option Int32 := gd (!(decide (p1 < 0)) && decide (p1 < p2)) (some p1)
theorem mJ12_checkIndex (l : Launch) {p1 p2 r : Int32} (hX : fJ12_checkIndex p1 p2 = some r) : Met l yJ12_checkIndex (ws_ yJ12_checkIndex cJ12_checkIndex 2 (some .int)) { frames := 1, cells := 0, slots := 0, locals := 22 } (sPc [.int p1, .int p2]) (sQi r) 0 0 noA := by
  obtain ⟨h, h2⟩ := gd_inv hX
  cases h2
  rw [Bool.and_eq_true, Bool.not_eq_true', decide_eq_false_iff_not, decide_eq_true_iff] at h
  exact mJ12_checkIndex0 l _ _ h.1 h.2
