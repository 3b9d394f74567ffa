/-! Test: the three kinds, casts, calls through the interface (printed by gen) -/
def isT (c : Nat) : Bool := Nat.beq c 8 || (Nat.beq c 9 || Nat.beq c 10)
theorem isT_s {σ : CS} {a : Nat} (h : isT (cK σ a) = true) : kd σ a 8 = true ∨ kd σ a 9 = true ∨ kd σ a 10 = true := by
  unfold isT at h
  rw [Bool.or_eq_true, Bool.or_eq_true] at h
  exact h
def isX11 (c : Nat) : Bool := Nat.beq c 12 || (Nat.beq c 13 || (Nat.beq c 14 || (Nat.beq c 15 || (Nat.beq c 16 || (Nat.beq c 17 || Nat.beq c 18)))))
theorem isX11_s {σ : CS} {a : Nat} (h : isX11 (cK σ a) = true) : kd σ a 12 = true ∨ kd σ a 13 = true ∨ kd σ a 14 = true ∨ kd σ a 15 = true ∨ kd σ a 16 = true ∨ kd σ a 17 = true ∨ kd σ a 18 = true := by
  unfold isX11 at h
  simp only [Bool.or_eq_true] at h
  exact h
section CT
variable {p : Program} {l : Launch} {e : Env} {R : Room} {s : State} {m : MethodId} {args : Array Value} {below : List Frame} {meth : Method} {c : Code} {H : Heap} {locs : List Loc} {cells slots : Nat} {Q : State → Prop}
variable {cc : ByteArray} {pc nL : Nat} {ls : Array Slot} {rest st0 : List Value} {E : CE} {σ σ1 : CS}
theorem c_castT (hx : p.tables.exec = Jvm.exec) (hb : c.code = cc) {own : String} {index a : Nat} (hown : s.vm.findClass own = some m.cls) (hlink : (Cond.classLink own index "FortyDays$Test").before args s = true) (hk : kc E s) (hH : hc E σ H) (hg : isT (cK σ a) = true) (hdg : decode cc pc = .ok (.checkcast index, 3))
    (k : W p l e R s m args below meth c H locs cells slots Q (F0 m (pc + 3) ls (.ref a :: rest))) : W p l e R s m args below meth c H locs cells slots Q (F0 m pc ls (.ref a :: rest)) := by
  rcases isT_s hg with h | h | h
  · exact va_castY hx hb hown hlink (C := RX7) (cN hk.2.2.1 87 rfl) (c_recv hk.1 hH (ci := 7) h rfl) hdg k
  · exact va_castY hx hb hown hlink (C := RX8) (cN hk.2.2.1 89 rfl) (c_recv hk.1 hH (ci := 8) h rfl) hdg k
  · exact va_castY hx hb hown hlink (C := RX9) (cN hk.2.2.1 91 rfl) (c_recv hk.1 hH (ci := 9) h rfl) hdg k
theorem c_castX11 (hx : p.tables.exec = Jvm.exec) (hb : c.code = cc) {own : String} {index a : Nat} (hown : s.vm.findClass own = some m.cls) (hlink : (Cond.classLink own index "FortyDays$Rule").before args s = true) (hk : kc E s) (hH : hc E σ H) (hg : isX11 (cK σ a) = true) (hdg : decode cc pc = .ok (.checkcast index, 3))
    (k : W p l e R s m args below meth c H locs cells slots Q (F0 m (pc + 3) ls (.ref a :: rest))) : W p l e R s m args below meth c H locs cells slots Q (F0 m pc ls (.ref a :: rest)) := by
  rcases isX11_s hg with h | h | h | h | h | h | h
  · exact va_castE hx hb hown hlink (c_recv hk.1 hH (ci := 11) h rfl) hdg k
  · exact va_castY hx hb hown hlink (C := RX12) (cN hk.2.2.1 48 rfl) (c_recv hk.1 hH (ci := 12) h rfl) hdg k
  · exact va_castY hx hb hown hlink (C := RX13) (cN hk.2.2.1 52 rfl) (c_recv hk.1 hH (ci := 13) h rfl) hdg k
  · exact va_castY hx hb hown hlink (C := RX14) (cN hk.2.2.1 56 rfl) (c_recv hk.1 hH (ci := 14) h rfl) hdg k
  · exact va_castY hx hb hown hlink (C := RX15) (cN hk.2.2.1 59 rfl) (c_recv hk.1 hH (ci := 15) h rfl) hdg k
  · exact va_castY hx hb hown hlink (C := RX16) (cN hk.2.2.1 62 rfl) (c_recv hk.1 hH (ci := 16) h rfl) hdg k
  · exact va_castY hx hb hown hlink (C := RX17) (cN hk.2.2.1 66 rfl) (c_recv hk.1 hH (ci := 17) h rfl) hdg k
theorem c_instX16 (hx : p.tables.exec = Jvm.exec) (hb : c.code = cc) {own : String} {index a : Nat} (hown : s.vm.findClass own = some m.cls) (hlink : (Cond.classLink own index RX16).before args s = true) (hk : kc E s) (hH : hc E σ H) (hg : isX11 (cK σ a) = true) (hdg : decode cc pc = .ok (.instanceof index, 3))
    (k : W p l e R s m args below meth c H locs cells slots Q (F0 m (pc + 3) ls (.int (cond (kd σ a 17) 1 0) :: rest))) : W p l e R s m args below meth c H locs cells slots Q (F0 m pc ls (.ref a :: rest)) := by
  have hn := hk.2.2.2.2.2.2.2.2.2.2.2.2
  have ne : ∀ {i : Nat}, kd σ a i = true → i ≠ 17 → kd σ a 17 = false := fun {i} h1 h2 => by
    cases h3 : kd σ a 17 with
    | false => rfl
    | true => exact absurd ((kd_eq h1).symm.trans (kd_eq h3)) h2
  rcases isX11_s hg with h | h | h | h | h | h | h
  · rw [ne h (by decide)] at k; exact va_instNo hx hb hown hlink hn.1 (c_recv hk.1 hH (ci := 11) h rfl) hdg k
  · rw [ne h (by decide)] at k; exact va_instNo hx hb hown hlink hn.2.1 (c_recv hk.1 hH (ci := 12) h rfl) hdg k
  · rw [ne h (by decide)] at k; exact va_instNo hx hb hown hlink hn.2.2.1 (c_recv hk.1 hH (ci := 13) h rfl) hdg k
  · rw [ne h (by decide)] at k; exact va_instNo hx hb hown hlink hn.2.2.2.1 (c_recv hk.1 hH (ci := 14) h rfl) hdg k
  · rw [ne h (by decide)] at k; exact va_instNo hx hb hown hlink hn.2.2.2.2.1 (c_recv hk.1 hH (ci := 15) h rfl) hdg k
  · rw [h] at k; exact va_instE hx hb hown hlink (c_recv hk.1 hH (ci := 16) h rfl) hdg k
  · rw [ne h (by decide)] at k; exact va_instNo hx hb hown hlink hn.2.2.2.2.2 (c_recv hk.1 hH (ci := 17) h rfl) hdg k
end CT
abbrev KT : Type := Nat → Int32 → Int32 → Int32 → CS → Option (Int32 × CS)
/-- what a program kt for Test.holds owes -/
def VT (l : Launch) (E : CE) (f n : Nat) (kt : KT) : Prop := ∀ {a : Nat} {d h p : Int32} {σ : CS} {r : Int32} {σ1 : CS}, kt a d h p σ = some (r, σ1) →
  (kd σ a 8 = true ∧ MetC l yX7_holds (ws_ yX7_holds cX7_holds 4 (some .boolean)) f n E σ [.ref a, .int d, .int h, .int p] (some (.int r)) σ1) ∨ (kd σ a 9 = true ∧ MetC l yX8_holds (ws_ yX8_holds cX8_holds 5 (some .boolean)) f n E σ [.ref a, .int d, .int h, .int p] (some (.int r)) σ1) ∨ (kd σ a 10 = true ∧ MetC l yX9_holds (ws_ yX9_holds cX9_holds 4 (some .boolean)) f n E σ [.ref a, .int d, .int h, .int p] (some (.int r)) σ1)
section CT2
variable {p : Program} {l : Launch} {e : Env} {R : Room} {s : State} {m : MethodId} {args : Array Value} {below : List Frame} {meth : Method} {c : Code} {nL : Nat} {E : CE} {z0 s0 : Nat} {Q : State → Prop} {ρ : Type} {z : ρ × CS} {X : Option (ρ × CS)} {σ : CS} {pc : Nat} {L : List (Nat × Value)} {rest : List Value} {cc : ByteArray}
/-- the call of Test.holds -/
theorem JcallT {f n : Nat} {kt : KT} {a : Nat} {d h pp : Int32} {r : Int32} {σ1 : CS} {index count : Nat} {own : String} (S : CallFix p m c cc nL s args lw_all own) (hv : VT l E f n kt) (hf : kt a d h pp σ = some (r, σ1)) (hm : Mn σ (kt a d h pp σ)) (hk : kc E s) (hlink : Cond.methodLink own index xT ∈ lw_all) (hRf : f + 1 ≤ R.frames) (hRl : 8 + (5 + 11) + n ≤ R.locals) (hR : R.cells = cZ z.2 - z0 ∧ R.slots = cS z.2 - s0) (hW : (rest.map fun v => v.category).sum ≤ 8) (hdg : decode cc pc = .ok (.invokeinterface index count, 5))
    (k : J p l e R s m args below meth c nL E z0 s0 Q z X σ1 (pc + 5) L (.int r :: rest)) : J p l e R s m args below meth c nL E z0 s0 Q z X σ pc L (.int pp :: .int h :: .int d :: .ref a :: rest) := by
  obtain ⟨hx, hb, hml, hown, hts⟩ := S
  refine JcallF (v := some (.int r)) (rest := rest) (hm _ hf) hR (fun H locs ls hH hS hl hR => ?_) k
  rcases hv hf with ⟨hg, hM⟩ | ⟨hg, hM⟩ | ⟨hg, hM⟩
  · exact ⟨_, va_runF (C := RX7) (As := [.int d, .int h, .int pp]) (hk.1.1 7 _ rfl).2 ⟨hx, hb, hml, hown, hts⟩ hM.2 (va_cwF 3 hts (lw_app (by
      intro w hw
      simp only [List.mem_cons, List.not_mem_nil, or_false] at hw
      rcases hw with e | e | e | e
      · rw [e]; exact hlink
      · rw [e]; exact q645
      · rw [e]; exact q647
      · rw [e]; exact q100) (lw_meth q649)) rfl rfl rfl hk.2.2.2.2.2.2.2.2.2.1 (by decide +kernel) ⟨hRf, Nat.le_trans (by show 8 + (4 + 11) + n ≤ _; omega) hRl⟩) (c_preV (ci := 7) hk hH hS hg rfl) rfl rfl hl.1 rfl (lv_room hW) hdg hR⟩
  · exact ⟨_, va_runF (C := RX8) (As := [.int d, .int h, .int pp]) (hk.1.1 8 _ rfl).2 ⟨hx, hb, hml, hown, hts⟩ hM.2 (va_cwF 3 hts (lw_app (by
      intro w hw
      simp only [List.mem_cons, List.not_mem_nil, or_false] at hw
      rcases hw with e | e | e | e
      · rw [e]; exact hlink
      · rw [e]; exact q639
      · rw [e]; exact q641
      · rw [e]; exact q101) (lw_meth q643)) rfl rfl rfl hk.2.2.2.2.2.2.2.2.2.2.1 (by decide +kernel) ⟨hRf, Nat.le_trans (by show 8 + (5 + 11) + n ≤ _; omega) hRl⟩) (c_preV (ci := 8) hk hH hS hg rfl) rfl rfl hl.1 rfl (lv_room hW) hdg hR⟩
  · exact ⟨_, va_runF (C := RX9) (As := [.int d, .int h, .int pp]) (hk.1.1 9 _ rfl).2 ⟨hx, hb, hml, hown, hts⟩ hM.2 (va_cwF 3 hts (lw_app (by
      intro w hw
      simp only [List.mem_cons, List.not_mem_nil, or_false] at hw
      rcases hw with e | e | e | e
      · rw [e]; exact hlink
      · rw [e]; exact q653
      · rw [e]; exact q655
      · rw [e]; exact q102) (lw_meth q657)) rfl rfl rfl hk.2.2.2.2.2.2.2.2.2.2.2.1 (by decide +kernel) ⟨hRf, Nat.le_trans (by show 8 + (4 + 11) + n ≤ _; omega) hRl⟩) (c_preV (ci := 9) hk hH hS hg rfl) rfl rfl hl.1 rfl (lv_room hW) hdg hR⟩
end CT2
