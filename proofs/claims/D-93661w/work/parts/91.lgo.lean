/-! from the law's entry to its loop -/
def cse (z : Nat) : CS := (fun _ => 0, fun _ _ => 0, fun _ _ => none, fun _ => 0, fun _ _ => 0, fun _ _ => 0, fun _ _ => none, z, 0)
theorem zk_nA {σ : CS} {c n a : Nat} (h : a ≠ cZ σ) : cK (nA σ c n) a = cK σ a := if_neg h
theorem zk_uFR {σ : CS} {a F b : Nat} {v : Option Nat} : cK (uFR σ a F v) b = cK σ b := rfl
def stp (σ : CS) (a F c n : Nat) : CS := uFR (nA σ c n) a F (some (cZ σ))
theorem stp_k {σ : CS} {a F c n : Nat} (h : a ≠ cZ σ) : cK (stp σ a F c n) a = cK σ a := if_neg h
def z4 (z : Nat) : CS := stp (stp (stp (stp (stp (stp (stp (stp (nO (cse z) 1 24) z 1 101 1160) z 2 101 1160) z 9 102 64) z 10 101 8) z 16 103 12) z 17 103 20) z 18 103 20) z 19 101 20
theorem cK_nO (σ : CS) (c n : Nat) : cK (nO σ c n) (cZ σ) = c := if_pos rfl
theorem gstep {ρ : Type} {σ : CS} {a F c : Nat} {m : Int32} {K : CS → Option ρ} (hk : cK σ a = 1) (hz : a ≠ cZ σ) (hn : na m = true) (hF : hf 1 F = true) : gd (na m) (bd (nA σ c m.toNatClampNeg) (fun σ1 => gd (hf (cK σ1 a) F) (bd (uFR σ1 a F (some (cZ σ))) K))) = K (stp σ a F c m.toNatClampNeg) := by
  have h1 : cK (nA σ c m.toNatClampNeg) a = 1 := (zk_nA hz).trans hk
  simp only [gd, bd, hn, h1, hF]
  rfl
theorem init4 (z : Nat) : fX4_init z (nO (cse z) 1 24) = some ((), z4 z) := by
  have h0 : cK (nO (cse z) 1 24) z = 1 := cK_nO (cse z) 1 24
  unfold fX4_init
  rw [gstep h0 (by show z ≠ z + 1; omega) (by decide) (by decide)]
  have h1 := (stp_k (σ := nO (cse z) 1 24) (a := z) (F := 1) (c := 101) (n := (1160:Int32).toNatClampNeg) (by show z ≠ z + 1; omega)).trans h0
  rw [gstep h1 (by show z ≠ z + 1 + 1; omega) (by decide) (by decide)]
  have h2 := (stp_k (a := z) (F := 2) (c := 101) (n := (1160:Int32).toNatClampNeg) (by show z ≠ z + 1 + 1; omega)).trans h1
  rw [gstep h2 (by show z ≠ z + 1 + 1 + 1; omega) (by decide) (by decide)]
  have h3 := (stp_k (a := z) (F := 9) (c := 102) (n := (64:Int32).toNatClampNeg) (by show z ≠ z + 1 + 1 + 1; omega)).trans h2
  rw [gstep h3 (by show z ≠ z + 1 + 1 + 1 + 1; omega) (by decide) (by decide)]
  have h4 := (stp_k (a := z) (F := 10) (c := 101) (n := (8:Int32).toNatClampNeg) (by show z ≠ z + 1 + 1 + 1 + 1; omega)).trans h3
  rw [gstep h4 (by show z ≠ z + 1 + 1 + 1 + 1 + 1; omega) (by decide) (by decide)]
  have h5 := (stp_k (a := z) (F := 16) (c := 103) (n := (12:Int32).toNatClampNeg) (by show z ≠ z + 1 + 1 + 1 + 1 + 1; omega)).trans h4
  rw [gstep h5 (by show z ≠ z + 1 + 1 + 1 + 1 + 1 + 1; omega) (by decide) (by decide)]
  have h6 := (stp_k (a := z) (F := 17) (c := 103) (n := (20:Int32).toNatClampNeg) (by show z ≠ z + 1 + 1 + 1 + 1 + 1 + 1; omega)).trans h5
  rw [gstep h6 (by show z ≠ z + 1 + 1 + 1 + 1 + 1 + 1 + 1; omega) (by decide) (by decide)]
  have h7 := (stp_k (a := z) (F := 18) (c := 103) (n := (20:Int32).toNatClampNeg) (by show z ≠ z + 1 + 1 + 1 + 1 + 1 + 1 + 1; omega)).trans h6
  rw [gstep h7 (by show z ≠ z + 1 + 1 + 1 + 1 + 1 + 1 + 1 + 1; omega) (by decide) (by decide)]
  rfl
theorem z4_z (z : Nat) : cZ (z4 z) = z + 9 := rfl
theorem z4_fr (z : Nat) : cFR (z4 z) z 1 = some (z + 1) ∧ cFR (z4 z) z 2 = some (z + 2) ∧ cFR (z4 z) z 9 = some (z + 3) ∧ cFR (z4 z) z 10 = some (z + 4) ∧ cFR (z4 z) z 16 = some (z + 5) ∧ cFR (z4 z) z 17 = some (z + 6) ∧ cFR (z4 z) z 18 = some (z + 7) ∧ cFR (z4 z) z 19 = some (z + 8) := by
  simp [z4, stp, cFR, uFR, nA, up2, cZ, nO, cse]
theorem z4_fi (z F : Nat) : cFI (z4 z) z F = 0 := by
  simp [z4, stp, cFI, uFR, nA, up1, cZ, nO, cse]
theorem z4_k (z : Nat) : cK (z4 z) z = 1 ∧ cK (z4 z) (z+1) = 101 ∧ cK (z4 z) (z+2) = 101 ∧ cK (z4 z) (z+3) = 102 ∧ cK (z4 z) (z+4) = 101 ∧ cK (z4 z) (z+5) = 103 ∧ cK (z4 z) (z+6) = 103 ∧ cK (z4 z) (z+7) = 103 ∧ cK (z4 z) (z+8) = 101 := by
  refine ⟨?_, ?_⟩
  · simp only [z4, stp, cK, uFR, nA, up1, cZ, nO, cse]
    repeat (first | rfl | (rw [if_neg (by omega)]))
  · simp [z4, stp, cK, uFR, nA, up1, cZ, nO, cse]
theorem z4_l (z : Nat) : cLN (z4 z) (z+1) = 1160 ∧ cLN (z4 z) (z+2) = 1160 ∧ cLN (z4 z) (z+3) = 64 ∧ cLN (z4 z) (z+4) = 8 ∧ cLN (z4 z) (z+5) = 12 ∧ cLN (z4 z) (z+6) = 20 ∧ cLN (z4 z) (z+7) = 20 ∧ cLN (z4 z) (z+8) = 20 := by
  simp [z4, stp, cLN, uFR, nA, up1, cZ, nO, cse]
theorem z4_ai (z a i : Nat) : cAI (z4 z) a i = 0 := by
  simp only [z4, stp, cAI, uFR, nA, up1, cZ, nO, cse]
  repeat (first | rfl | split)
theorem z4_al (z a i : Nat) : cAL (z4 z) a i = 0 := by
  simp only [z4, stp, cAL, uFR, nA, up1, cZ, nO, cse]
  repeat (first | rfl | split)
theorem z4_old (z a : Nat) (h : cK (z4 z) a ≠ 0) : z ≤ a := by
  refine Nat.le_of_not_lt fun h1 => h ?_
  simp only [z4, stp, cK, uFR, nA, up1, cZ, nO, cse]
  repeat (first | rfl | (rw [if_neg (by omega)]))

def cs0 (z t0 : Nat) : CS := (fun a => if a = t0 then 106 else 0, fun _ _ => 0, fun _ _ => none, fun _ => 0, fun _ _ => 0, fun _ _ => 0, fun _ _ => none, z, 0)
def mm0 : MS := (fun _ => 0, fun _ _ => 0, fun _ _ => 0)
/-- what the plain law owes -/
def PL : Prop := ∀ (z t0 mi : Nat), t0 < z → ∃ (Rel : CS → MS → Prop) (σ1 : CS), LI (t0, mi) z Rel ∧ fX0_init (t0, mi) z (nO (cs0 z t0) 2 19) = some ((), σ1) ∧ Rel σ1 mm0 ∧ cZ σ1 ≤ z + 1500 ∧ cS σ1 ≤ 15000
section LST
variable {p : Program} {l : Launch} {e : Env} {R : Room} {s : State} {m : MethodId} {args : Array Value} {below : List Frame} {meth : Method} {c : Code} {H : Heap} {locs : List Loc} {cells slots : Nat} {Q : State → Prop}
variable {D : va_G} {dA : Nat → ClassId} {T : Nat × Nat} {A A1 : Nat → Prop} {σ σ1 : CS} {pc : Nat} {ls : Array Slot} {rest st : List Value} {a : Array Value}
theorem HC_cs0 {t0 : Nat} (hl : t0 < s.heap.size) (he : cE0 dA (s.heap[t0]?)) : HC D dA A (cs0 s.heap.size t0) s.heap := by
  refine ⟨rfl, fun a ha => ?_, fun a => ?_⟩
  · have e : a = t0 := by
      by_cases h : a = t0
      · exact h
      · exact absurd (show cK (cs0 s.heap.size t0) a = 0 from if_neg h) ha
    subst e
    exact ⟨Or.inr ⟨if_pos rfl, rfl⟩, hl⟩
  · by_cases h : a = t0
    · subst h
      have hk : cK (cs0 s.heap.size a) a = 106 := if_pos rfl
      refine ⟨fun ci C T N e hc => ?_, fun t ht e => ?_⟩
      · have : ci < 20 := (List.getElem?_eq_some_iff.mp hc).1
        rw [hk] at e
        omega
      · rw [hk] at e
        exact Or.inl ⟨⟨by omega, rfl⟩, he⟩
    · have h0 : cK (cs0 s.heap.size t0) a = 0 := if_neg h
      exact ⟨fun ci C T N e _ => absurd (h0.symm.trans e) (by omega), fun t _ e => absurd (h0.symm.trans e) (by omega)⟩
/-- a call with the contract over CS, seen from the law -/
theorem Lcall0 {E : CE} {v : Option Value} (hS : va_S (fun q => s.heap.size ≤ q) s.heap H locs) (hE : ∀ q, EA E q → s.heap.size ≤ q)
    (hrun : va_Run p l e R s m args below meth c H locs cells slots (cZ σ1 - cZ σ) (cS σ1 - cS σ) (F0 m pc ls st) rest (cQ E v σ1 a) (EA E))
    (k : ∀ (H1 : Heap) (locs1 : List Loc), hc E σ1 H1 → H.size ≤ H1.size → (∀ q : Nat, q < H.size → ¬ EA E q → H1[q]? = H[q]?) → va_S (fun q => s.heap.size ≤ q) s.heap H1 locs1 → W p l e R s m args below meth c H1 locs1 (cells + (cZ σ1 - cZ σ)) (slots + (cS σ1 - cS σ)) Q (F0 m (pc + 3) ls (v.toList ++ rest))) : W p l e R s m args below meth c H locs cells slots Q (F0 m pc ls st) := by
  intro T' hT XX
  obtain ⟨v', st₀, t, T1, Lc, h0, X', hL, e1, e2, ⟨⟨hv, hb⟩, hz1, hk1⟩, stp⟩ := hrun T' hT XX
  cases hv
  rw [h0] at hz1 hk1
  have hS1 : va_S (fun q => s.heap.size ≤ q) s.heap T1.heap (locs ++ Lc) := ⟨Nat.le_trans hS.1 (by rw [e1]; exact hz1), fun q h1 h2 => by
      rw [e1, hk1 q (Nat.lt_of_lt_of_le h1 hS.1) (fun h => h2 (hE q h))]; exact hS.2.1 q h1 h2, fun q hq => by
      rcases List.mem_append.mp hq with h | h
      · exact hS.2.2 q h
      · exact hE _ (hL q h)⟩
  obtain ⟨t2, a1, b1⟩ := k T1.heap (locs ++ Lc) (by rw [e1]; exact hb) (by rw [e1]; exact hz1) (fun q h1 h2 => by rw [e1]; exact hk1 q h1 h2) hS1 T1 rfl X'
  exact ⟨t2, stp t2 a1, b1⟩
/-- the new object alone -/
theorem HC_alone (hH : HC D dA A (nO σ 1 24) H) (hA1 : A1 (cZ σ)) : HC D dA A1 (nO (cse (cZ σ)) 1 24) H := by
  refine ⟨hH.1, fun a ha => ?_, fun a => ?_⟩
  · have e : a = cZ σ := by
      by_cases h : a = cZ σ
      · exact h
      · exact absurd (show cK (nO (cse (cZ σ)) 1 24) a = 0 from if_neg h) ha
    subst e
    exact ⟨Or.inl hA1, Nat.lt_succ_self _⟩
  · by_cases h : a = cZ σ
    · subst h
      refine ⟨fun ci C T N e hc => ?_, fun t ht e => ?_⟩
      · have hk : cK (nO (cse (cZ σ)) 1 24) (cZ σ) = 1 := if_pos rfl
        have h1 : cK (nO σ 1 24) (cZ σ) = ci + 1 := (show cK (nO σ 1 24) (cZ σ) = 1 from if_pos rfl).trans (hk.symm.trans e)
        refine ((hH.2.2 (cZ σ)).1 ci C T N h1 hc).to (fun k _ => ?_)
        have f1 : cFI (nO σ 1 24) (cZ σ) = fun _ => 0 := up1_s
        have f2 : cFI (nO (cse (cZ σ)) 1 24) (cZ σ) = fun _ => 0 := up1_s
        have f3 : cFR (nO σ 1 24) (cZ σ) = fun _ => none := up1_s
        have f4 : cFR (nO (cse (cZ σ)) 1 24) (cZ σ) = fun _ => none := up1_s
        unfold fv
        rw [f1, f2, f3, f4]
      · have hk : cK (nO (cse (cZ σ)) 1 24) (cZ σ) = 1 := if_pos rfl
        rw [hk] at e
        omega
    · have h0 : cK (nO (cse (cZ σ)) 1 24) a = 0 := if_neg h
      exact ⟨fun ci C T N e _ => absurd (h0.symm.trans e) (by omega), fun t _ e => absurd (h0.symm.trans e) (by omega)⟩
theorem HM_z4 {z : Nat} (hH : HC D dA A (z4 z) H) : HM D dA (adz z) mm0 H := by
  obtain ⟨k0, k1, k2, k3, k4, k5, k6, k7, k8⟩ := z4_k z
  obtain ⟨l1, l2, l3, l4, l5, l6, l7, l8⟩ := z4_l z
  obtain ⟨r1, r2, r9, r10, r16, r17, r18, r19⟩ := z4_fr z
  have hai : ∀ a, cAI (z4 z) a = fun _ => 0 := fun a => funext fun i => z4_ai z a i
  have hal : ∀ a, cAL (z4 z) a = fun _ => 0 := fun a => funext fun i => z4_al z a i
  have a1 := hH.arr (t := 0) k1 (by decide)
  have a2 := hH.arr (t := 0) k2 (by decide)
  have a3 := hH.arr (t := 1) k3 (by decide)
  have a4 := hH.arr (t := 0) k4 (by decide)
  have a5 := hH.arr (t := 2) k5 (by decide)
  have a6 := hH.arr (t := 2) k6 (by decide)
  have a7 := hH.arr (t := 2) k7 (by decide)
  have a8 := hH.arr (t := 0) k8 (by decide)
  have a0 := hH.obj (ci := 0) k0 rfl
  have c1 : ∀ a t, t = 0 ∨ t = 1 → cCon (z4 z) a t = .inl (fun _ => 0) := fun a t ht => by
    rcases ht with e | e <;> subst e <;> show Sum.inl (cAI (z4 z) a) = _ <;> rw [hai]
  have c2 : ∀ a, cCon (z4 z) a 2 = .inr (.inl (fun _ => 0)) := fun a => by
    show Sum.inr (Sum.inl (cAL (z4 z) a)) = _
    rw [hal]
  rw [l1, c1 _ _ (by decide)] at a1
  rw [l2, c1 _ _ (by decide)] at a2
  rw [l3, c1 _ _ (by decide)] at a3
  rw [l4, c1 _ _ (by decide)] at a4
  rw [l5, c2] at a5
  rw [l6, c2] at a6
  rw [l7, c2] at a7
  rw [l8, c1 _ _ (by decide)] at a8
  refine ⟨fun k q hq => ?_, fun i j p q hp hq he => ?_, fun k q hq => ?_⟩
  · have hk9 : k < 9 := (List.getElem?_eq_some_iff.mp hq).1
    rcases (show k = 0 ∨ k = 1 ∨ k = 2 ∨ k = 3 ∨ k = 4 ∨ k = 5 ∨ k = 6 ∨ k = 7 ∨ k = 8 by omega) with e9 | e9 | e9 | e9 | e9 | e9 | e9 | e9 | e9
    · subst e9; cases hq
      refine ⟨_, rfl, a0.to (fun j hj => ?_)⟩
      have hj : j < 24 := hj
      rcases (show j = 0 ∨ j = 1 ∨ j = 2 ∨ j = 3 ∨ j = 4 ∨ j = 5 ∨ j = 6 ∨ j = 7 ∨ j = 8 ∨ j = 9 ∨ j = 10 ∨ j = 11 ∨ j = 12 ∨ j = 13 ∨ j = 14 ∨ j = 15 ∨ j = 16 ∨ j = 17 ∨ j = 18 ∨ j = 19 ∨ j = 20 ∨ j = 21 ∨ j = 22 ∨ j = 23 by omega) with e8 | e8 | e8 | e8 | e8 | e8 | e8 | e8 | e8 | e8 | e8 | e8 | e8 | e8 | e8 | e8 | e8 | e8 | e8 | e8 | e8 | e8 | e8 | e8
      · subst e8; show Value.int (cFI (z4 z) z 0) = .int 0; rw [z4_fi]
      · subst e8; show va_rf (cFR (z4 z) z 1) = .ref (adz z 1); rw [r1]; rfl
      · subst e8; show va_rf (cFR (z4 z) z 2) = .ref (adz z 2); rw [r2]; rfl
      · subst e8; show Value.int (cFI (z4 z) z 3) = .int 0; rw [z4_fi]
      · subst e8; show Value.int (cFI (z4 z) z 4) = .int 0; rw [z4_fi]
      · subst e8; show Value.int (cFI (z4 z) z 5) = .int 0; rw [z4_fi]
      · subst e8; show Value.int (cFI (z4 z) z 6) = .int 0; rw [z4_fi]
      · subst e8; show Value.int (cFI (z4 z) z 7) = .int 0; rw [z4_fi]
      · subst e8; show Value.int (cFI (z4 z) z 8) = .int 0; rw [z4_fi]
      · subst e8; show va_rf (cFR (z4 z) z 9) = .ref (adz z 9); rw [r9]; rfl
      · subst e8; show va_rf (cFR (z4 z) z 10) = .ref (adz z 10); rw [r10]; rfl
      · subst e8; show Value.int (cFI (z4 z) z 11) = .int 0; rw [z4_fi]
      · subst e8; show Value.int (cFI (z4 z) z 12) = .int 0; rw [z4_fi]
      · subst e8; show Value.int (cFI (z4 z) z 13) = .int 0; rw [z4_fi]
      · subst e8; show Value.int (cFI (z4 z) z 14) = .int 0; rw [z4_fi]
      · subst e8; show Value.int (cFI (z4 z) z 15) = .int 0; rw [z4_fi]
      · subst e8; show va_rf (cFR (z4 z) z 16) = .ref (adz z 16); rw [r16]; rfl
      · subst e8; show va_rf (cFR (z4 z) z 17) = .ref (adz z 17); rw [r17]; rfl
      · subst e8; show va_rf (cFR (z4 z) z 18) = .ref (adz z 18); rw [r18]; rfl
      · subst e8; show va_rf (cFR (z4 z) z 19) = .ref (adz z 19); rw [r19]; rfl
      · subst e8; show Value.int (cFI (z4 z) z 20) = .int 0; rw [z4_fi]
      · subst e8; show Value.int (cFI (z4 z) z 21) = .int 0; rw [z4_fi]
      · subst e8; show Value.int (cFI (z4 z) z 22) = .int 0; rw [z4_fi]
      · subst e8; show Value.int (cFI (z4 z) z 23) = .int 0; rw [z4_fi]
    · subst e9; cases hq; exact a1
    · subst e9; cases hq; exact a2
    · subst e9; cases hq; exact a3
    · subst e9; cases hq; exact a4
    · subst e9; cases hq; exact a5
    · subst e9; cases hq; exact a6
    · subst e9; cases hq; exact a7
    · subst e9; cases hq; exact a8
  · have hp1 : i < 9 ∧ p.1 = z + i := by
      have hk9 : i < 9 := (List.getElem?_eq_some_iff.mp hp).1
      refine ⟨hk9, ?_⟩
      rcases (show i = 0 ∨ i = 1 ∨ i = 2 ∨ i = 3 ∨ i = 4 ∨ i = 5 ∨ i = 6 ∨ i = 7 ∨ i = 8 by omega) with e9 | e9 | e9 | e9 | e9 | e9 | e9 | e9 | e9
      · subst e9; cases hp; rfl
      · subst e9; cases hp; rfl
      · subst e9; cases hp; rfl
      · subst e9; cases hp; rfl
      · subst e9; cases hp; rfl
      · subst e9; cases hp; rfl
      · subst e9; cases hp; rfl
      · subst e9; cases hp; rfl
      · subst e9; cases hp; rfl
    have hq1 : j < 9 ∧ q.1 = z + j := by
      have hk9 : j < 9 := (List.getElem?_eq_some_iff.mp hq).1
      refine ⟨hk9, ?_⟩
      rcases (show j = 0 ∨ j = 1 ∨ j = 2 ∨ j = 3 ∨ j = 4 ∨ j = 5 ∨ j = 6 ∨ j = 7 ∨ j = 8 by omega) with e9 | e9 | e9 | e9 | e9 | e9 | e9 | e9 | e9
      · subst e9; cases hq; rfl
      · subst e9; cases hq; rfl
      · subst e9; cases hq; rfl
      · subst e9; cases hq; rfl
      · subst e9; cases hq; rfl
      · subst e9; cases hq; rfl
      · subst e9; cases hq; rfl
      · subst e9; cases hq; rfl
      · subst e9; cases hq; rfl
    omega
  · have hk9 : k < 9 := (List.getElem?_eq_some_iff.mp hq).1
    rcases (show k = 0 ∨ k = 1 ∨ k = 2 ∨ k = 3 ∨ k = 4 ∨ k = 5 ∨ k = 6 ∨ k = 7 ∨ k = 8 by omega) with e9 | e9 | e9 | e9 | e9 | e9 | e9 | e9 | e9
    · subst e9; cases hq; exact ⟨0, by decide, rfl⟩
    · subst e9; cases hq; exact ⟨1, by decide, rfl⟩
    · subst e9; cases hq; exact ⟨2, by decide, rfl⟩
    · subst e9; cases hq; exact ⟨9, by decide, rfl⟩
    · subst e9; cases hq; exact ⟨10, by decide, rfl⟩
    · subst e9; cases hq; exact ⟨16, by decide, rfl⟩
    · subst e9; cases hq; exact ⟨17, by decide, rfl⟩
    · subst e9; cases hq; exact ⟨18, by decide, rfl⟩
    · subst e9; cases hq; exact ⟨19, by decide, rfl⟩
theorem HC_forget (hH : HC D dA A (nO σ 1 24) H) (h0 : ∀ a, cK σ a ≠ 0 → a < cZ σ) : HC D dA A (bz σ (cZ σ + 1)) H := by
  refine ⟨hH.1, fun a ha => ?_, fun a => ?_⟩
  · have hlt : a < cZ σ := h0 a ha
    have hk : cK (nO σ 1 24) a = cK σ a := if_neg (Nat.ne_of_lt hlt)
    have h := hH.2.1 a (by rw [hk]; exact ha)
    rw [hk] at h
    exact h
  · by_cases e0 : cK σ a = 0
    · have e1 : cK (bz σ (cZ σ + 1)) a = 0 := e0
      exact ⟨fun ci C T N e _ => absurd (e1.symm.trans e) (by omega), fun t _ e => absurd (e1.symm.trans e) (by omega)⟩
    · have hne : a ≠ cZ σ := Nat.ne_of_lt (h0 a e0)
      refine (hH.2.2 a).kept rfl (show cK σ a = cK (nO σ 1 24) a from (if_neg hne).symm) (fun F => ?_) rfl (fun t => rfl)
      have f1 : cFI (nO σ 1 24) a = cFI σ a := up1_n hne
      have f3 : cFR (nO σ 1 24) a = cFR σ a := up1_n hne
      unfold fv
      rw [f1, f3]
      rfl
set_option maxHeartbeats 4000000 in
set_option maxRecDepth 100000 in
theorem whole_of (hPL : PL) {b L : Nat} {xs : Nat → Int32} (hL : L ≤ 320) (C0 : lw_At p s m meth c b L xs) : W p l e room_1 s m #[Value.ref b] below meth c s.heap [] 0 0 (lw_Z below #[Value.ref b] s) (entryFrame m ([Value.ref b] : List Value).toArray 4) := by
  obtain ⟨hx, hb, hr, hml, hown, hts, hX, hbl, hlocks, hgv⟩ := id C0
  have hall : ∀ w ∈ lw_all, w.before #[Value.ref b] s = true := fun w h => hts w (lw_all_tbl h)
  have hs := flat_of_before _ hgv
  obtain ⟨D, dA, T, hk, ht0, he0⟩ := l_kc hts hall hs
  obtain ⟨Tq, hMJ, hRk⟩ := l_MT hts hall hs
  obtain ⟨Rel, σ1, I, hf, hR1, hz1, hs1⟩ := hPL s.heap.size T.1 T.2 ht0
  have hK := hk.1
  have hA : ∀ q : Nat, s.heap.size ≤ q → (fun q : Nat => s.heap.size ≤ q) q := fun _ h => h
  have hS : va_S (fun q : Nat => s.heap.size ≤ q) s.heap s.heap [] := va_S.rf
  have hH : HC D dA (fun q : Nat => s.heap.size ≤ q) (cs0 s.heap.size T.1) s.heap := HC_cs0 ht0 he0
  have hl := lv_entry ([.ref b]) (n := 4) (Nat.le_of_ble_eq_true rfl)
  rw [lg_entry_eq]
  generalize (lg_sl ([.ref b]) ++ List.replicate (4 - (lg_sl ([.ref b])).length) Slot.unset).toArray = ls at hl ⊢
  have hl : lv_has ls 4 [(0, .ref b)] := hl
  refine c_new (ci := 1) hx hb hall hown hK hH hS hA in_X0 tyX0 tyX0_ok (by decide +kernel) (hall _ q121) (hall _ q122) (hall _ q88) rfl (Nat.le_of_ble_eq_true rfl) (Nat.le_of_ble_eq_true rfl) dL_law_0 (fun H locs hH hS => ?_)
  refine lv_dup hx hb dL_law_3 rfl ?_
  have hm1 := (mX0_init l (lE0 D dA T s.heap.size) hf).1
  have hc0 : cZ (nO (cs0 s.heap.size T.1) 2 19) = s.heap.size + 1 := rfl
  have hc1 : cS (nO (cs0 s.heap.size T.1) 2 19) = 0 + 19 := rfl
  refine Lcall0 (E := lE0 D dA T s.heap.size) (v := none) (rest := [.ref s.heap.size]) hS (fun _ h => h) (va_runI (As := []) ⟨hx, hb, hml, hown, hall⟩ (mX0_init l (lE0 D dA T s.heap.size) hf).2 (cwI 0 hall (lw_meth q125) rfl rfl rfl (hall _ q88) (hall _ q123) (hall _ q124) rfl (by decide +kernel) ⟨Nat.le_of_ble_eq_true rfl, Nat.le_of_ble_eq_true rfl⟩) (c_preS hk hH hS) rfl rfl hl.1 rfl (lv_room (Nat.le_of_ble_eq_true rfl)) dL_law_4 ⟨by show 0 + 1 + _ ≤ 601024; omega, by show 0 + 19 + _ ≤ 7293034; omega⟩) (fun H1 locs1 hH1 hz2 hk2 hS => ?_)
  refine lv_astore_n (lv' := [(1, .ref s.heap.size), (0, .ref b)]) hx hb dL_law_7 rfl hl (by decide) rfl (fun ls hl => ?_)
  have hH1' : HC D dA (fun q : Nat => s.heap.size ≤ q) σ1 H1 := hH1
  refine c_new (ci := 0) hx hb hall hown hK hH1' hS hA in_X4 tyX4 tyX4_ok (by decide +kernel) (hall _ q1285) (hall _ q1286) (hall _ q95) rfl (by show _ + 1 ≤ 601024; omega) (by show _ + 24 ≤ 7293034; omega) dL_law_8 (fun H2 locs2 hH2 hS => ?_)
  refine lv_dup hx hb dL_law_11 rfl ?_
  have hzs : s.heap.size + 1 ≤ cZ σ1 := hm1.1
  have hZ2 : H2.size = cZ σ1 + 1 := hH2.1
  have hH3 : HC D dA (fun q => cZ σ1 ≤ q) (nO (cse (cZ σ1)) 1 24) H2 := HC_alone hH2 (Nat.le_refl _)
  have hpre : PreS s H2 (cPc (lE0 D dA T (cZ σ1)) (nO (cse (cZ σ1)) 1 24) [.ref (cZ σ1)]) [.ref (cZ σ1)] := by
    refine ⟨fun a U g mk q => by obtain ⟨q0, q1, q2⟩ := q; exact ⟨q0, q1, q2.blind⟩, fun U hU hW => ⟨rfl, by rw [hU]; exact hH3, ?_⟩⟩
    refine kc.sub (E := lE0 D dA T (cZ σ1)) (hk.call hS hU hW) rfl rfl rfl (fun q hq => ?_) (fun q hq => ?_)
    · have hq : cZ σ1 ≤ q := hq
      show s.heap.size ≤ q
      omega
    · rw [hU, hZ2] at hq
      show cZ σ1 ≤ q
      omega
  have hc2 : cZ (nO (cse (cZ σ1)) 1 24) = cZ σ1 + 1 := rfl
  have hc3 : cS (nO (cse (cZ σ1)) 1 24) = 0 + 24 := rfl
  have hc4 : cZ (z4 (cZ σ1)) = cZ σ1 + 9 := rfl
  have hc5 : cS (z4 (cZ σ1)) = 2488 := rfl
  refine Lcall0 (E := lE0 D dA T (cZ σ1)) (v := none) (rest := [.ref (cZ σ1)]) hS (fun q h => by have h : cZ σ1 ≤ q := h; omega) (va_runI (As := []) ⟨hx, hb, hml, hown, hall⟩ (mX4_init l (lE0 D dA T (cZ σ1)) (init4 (cZ σ1))).2 (cwI 0 hall (lw_meth q1289) rfl rfl rfl (hall _ q95) (hall _ q1287) (hall _ q1288) rfl (by decide +kernel) ⟨Nat.le_of_ble_eq_true rfl, Nat.le_of_ble_eq_true rfl⟩) hpre rfl rfl hl.1 rfl (lv_room (Nat.le_of_ble_eq_true rfl)) dL_law_12 ⟨by show _ + 1 + _ ≤ 601024; omega, by show _ + 24 + _ ≤ 7293034; omega⟩) (fun H3 locs3 hH4 hz3 hk3 hS => ?_)
  refine lv_astore_n (lv' := [(2, .ref (cZ σ1)), (1, .ref s.heap.size), (0, .ref b)]) hx hb dL_law_15 rfl hl (by decide) rfl (fun ls hl => ?_)
  refine lv_iconst (v := (0:Int32)) hx hb dL_law_16 (by decide) ?_
  refine lv_istore_n (lv' := [(3, .int 0), (2, .ref (cZ σ1)), (1, .ref s.heap.size), (0, .ref b)]) hx hb dL_law_17 rfl hl (by decide) rfl (fun ls hl => ?_)
  have hZ3 : H3.size = cZ σ1 + 9 := hH4.1
  have hold : ∀ a, cK σ1 a ≠ 0 → a < cZ σ1 := fun a ha => (hH1'.2.1 a ha).2
  have hg : HC D dA (fun q : Nat => s.heap.size ≤ q) (bz σ1 H3.size) H3 := (HC_forget hH2 hold).grown (by omega) (fun a ha => hk3 a (by have := hold a ha; omega) (fun h => by have h : cZ σ1 ≤ a := h; have := hold a ha; omega))
  have hLW : LWP D dA T s.heap.size (cZ σ1) (bz σ1 H3.size) mm0 H3 := by
    refine ⟨⟨hg.1, fun a ha => ⟨?_, (hg.2.1 a ha).2⟩, hg.2.2⟩, HM_z4 hH4, by omega, by omega⟩
    rcases (hg.2.1 a ha).1 with h | h
    · refine Or.inl ⟨h, fun hAM => ?_⟩
      have := adz_in hAM
      have := hold a ha
      omega
    · exact Or.inr h
  have hMT : ∀ (U : State) (H : Heap), s.heap.size ≤ H.size → (∀ q : Nat, q < s.heap.size → H[q]? = s.heap[q]?) → U.heap = H → s.WarmedH U.vm → MT Tq (adz (cZ σ1)) U := by
    intro U H h1 h2 h3 h4
    refine ⟨?_, fun i hi => (hRk i hi).warm h4⟩
    rw [h3]
    refine MJ.narrow (A := fun q => s.heap.size ≤ q) (MJ.moved h4.alike (hMJ.kept (fun a g1 _ => h2 a g1))) (fun q hq => ?_)
    have := adz_in hq
    show s.heap.size ≤ q
    omega
  refine W.widen (k := 2000 + 9000 * 0) (n := 20000 + 100000 * 0) (by omega) (by omega) ?_
  exact law_loop C0 hk hMT I hL (L + 1) 0 (by omega) (by omega) hLW (I.bump hR1 (by omega)) hS (lv_sub hl [3, 2, 1, 0] rfl)
end LST
