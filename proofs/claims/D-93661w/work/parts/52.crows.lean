/-! the component's abstract heap: kinds, fields and array places by address; rows at the machine -/
abbrev CS : Type := (Nat → Nat) × (Nat → Nat → Int32) × (Nat → Nat → Option Nat) × (Nat → Nat) × (Nat → Nat → Int32) × (Nat → Nat → Int64) × (Nat → Nat → Option Nat) × Nat × Nat
/-- kind of the cell at a: 0 none, 1 + number of its class in vCl, 101 + number of its element type in vTy -/
def cK (σ : CS) : Nat → Nat := σ.1
def cFI (σ : CS) : Nat → Nat → Int32 := σ.2.1
def cFR (σ : CS) : Nat → Nat → Option Nat := σ.2.2.1
def cLN (σ : CS) : Nat → Nat := σ.2.2.2.1
def cAI (σ : CS) : Nat → Nat → Int32 := σ.2.2.2.2.1
def cAL (σ : CS) : Nat → Nat → Int64 := σ.2.2.2.2.2.1
def cAR (σ : CS) : Nat → Nat → Option Nat := σ.2.2.2.2.2.2.1
/-- the heap's size; the slots made so far -/
def cZ (σ : CS) : Nat := σ.2.2.2.2.2.2.2.1
def cS (σ : CS) : Nat := σ.2.2.2.2.2.2.2.2
def up1 {α : Type} (f : Nat → α) (a : Nat) (v : α) : Nat → α := fun b => if b = a then v else f b
def up2 {α : Type} (f : Nat → Nat → α) (a i : Nat) (v : α) : Nat → Nat → α := fun b j => if b = a ∧ j = i then v else f b j
def uFI (σ : CS) (a F : Nat) (v : Int32) : CS := (σ.1, up2 σ.2.1 a F v, σ.2.2)
def uFR (σ : CS) (a F : Nat) (v : Option Nat) : CS := (σ.1, σ.2.1, up2 σ.2.2.1 a F v, σ.2.2.2)
def uAI (σ : CS) (a i : Nat) (v : Int32) : CS := (σ.1, σ.2.1, σ.2.2.1, σ.2.2.2.1, up2 σ.2.2.2.2.1 a i v, σ.2.2.2.2.2)
def uAL (σ : CS) (a i : Nat) (v : Int64) : CS := (σ.1, σ.2.1, σ.2.2.1, σ.2.2.2.1, σ.2.2.2.2.1, up2 σ.2.2.2.2.2.1 a i v, σ.2.2.2.2.2.2)
def uAR (σ : CS) (a i : Nat) (v : Option Nat) : CS := (σ.1, σ.2.1, σ.2.2.1, σ.2.2.2.1, σ.2.2.2.2.1, σ.2.2.2.2.2.1, up2 σ.2.2.2.2.2.2.1 a i v, σ.2.2.2.2.2.2.2)
/-- a new object of kind c with n fields; a new array of kind c and length n -/
def nO (σ : CS) (c n : Nat) : CS := (up1 σ.1 (cZ σ) c, up1 σ.2.1 (cZ σ) (fun _ => 0), up1 σ.2.2.1 (cZ σ) (fun _ => none), σ.2.2.2.1, σ.2.2.2.2.1, σ.2.2.2.2.2.1, σ.2.2.2.2.2.2.1, cZ σ + 1, cS σ + n)
def nA (σ : CS) (c n : Nat) : CS := (up1 σ.1 (cZ σ) c, σ.2.1, σ.2.2.1, up1 σ.2.2.2.1 (cZ σ) n, up1 σ.2.2.2.2.1 (cZ σ) (fun _ => 0), up1 σ.2.2.2.2.2.1 (cZ σ) (fun _ => 0), up1 σ.2.2.2.2.2.2.1 (cZ σ) (fun _ => none), cZ σ + 1, cS σ + n)
def fv (σ : CS) (a F : Nat) : Value := cond (fRef F) (va_rf (cFR σ a F)) (.int (cFI σ a F))
def cCon (σ : CS) (a t : Nat) : (Nat → Int32) ⊕ (Nat → Int64) ⊕ (Nat → UInt32) ⊕ (Nat → UInt64) ⊕ (Nat → Option Nat) := if t = 2 then .inr (.inl (cAL σ a)) else if 5 ≤ t then .inr (.inr (.inr (.inr (cAR σ a)))) else .inl (cAI σ a)
/-- the shared empty array: of its cell the tables tell less -/
def cE0 (dA : Nat → ClassId) (o : Option Cell) : Prop := ∃ cell : Cell, o = some cell ∧ cell.cls = dA 5 ∧ cell.vm.isStatics = false ∧ cell.vm ≠ .unknown ∧ cell.slots.size.toInt32 = 0
def cAt (D : va_G) (dA : Nat → ClassId) (σ : CS) (a : Nat) (H : Heap) : Prop := (∀ (ci : Nat) (C : String) (T : u_T) (N : Nat), cK σ a = ci + 1 → vCl[ci]? = some (C, T, N) → t_OB a (D.1 ci) N (D.2 ci) H (fun k => fv σ a (fid ci k))) ∧ ∀ t, t < 9 → cK σ a = 101 + t → ((t = 5 ∧ cLN σ a = 0) ∧ cE0 dA (H[a]?)) ∨ H[a]? = some (vp_cell (dA t) (cLN σ a, cCon σ a t))
def HC (D : va_G) (dA : Nat → ClassId) (A : Nat → Prop) (σ : CS) (H : Heap) : Prop := H.size = cZ σ ∧ (∀ a, cK σ a ≠ 0 → (A a ∨ (cK σ a = 106 ∧ cLN σ a = 0)) ∧ a < cZ σ) ∧ ∀ a, cAt D dA σ a H
theorem cAt.kept {D : va_G} {dA : Nat → ClassId} {σ σ1 : CS} {a : Nat} {H H1 : Heap} (h : cAt D dA σ a H) (hq : H1[a]? = H[a]?) (h0 : cK σ1 a = cK σ a) (h1 : ∀ F, fv σ1 a F = fv σ a F) (h2 : cLN σ1 a = cLN σ a) (h3 : ∀ t, cCon σ1 a t = cCon σ a t) : cAt D dA σ1 a H1 := by
  refine ⟨fun ci C T N e hc => ?_, fun t ht e => ?_⟩
  · exact ((h.1 ci C T N (h0 ▸ e) hc).kept hq).to (fun k _ => (h1 _).symm)
  · rw [hq, h2, h3]
    exact h.2 t ht (h0 ▸ e)
theorem HC.kept {D : va_G} {dA : Nat → ClassId} {A : Nat → Prop} {σ : CS} {H H1 : Heap} (h : HC D dA A σ H) (hz : H1.size = H.size) (hq : ∀ q : Nat, q < H.size → H1[q]? = H[q]?) : HC D dA A σ H1 := by
  refine ⟨hz.trans h.1, h.2.1, fun a => ?_⟩
  by_cases ha : a < H.size
  · exact (h.2.2 a).kept (hq a ha) rfl (fun _ => rfl) rfl (fun _ => rfl)
  · have h0 : cK σ a = 0 := by
      by_cases e : cK σ a = 0
      · exact e
      · exact absurd (h.2.1 a e).2 (by rw [← h.1]; exact ha)
    exact ⟨fun ci C T N e _ => absurd (h0.symm.trans e) (by omega), fun t _ e => absurd (h0.symm.trans e) (by omega)⟩
theorem HC.to {D : va_G} {dA : Nat → ClassId} {A : Nat → Prop} {σ : CS} {H : Heap} {t : State} (h : HC D dA A σ H) (ht : t.heap = H) : HC D dA A σ t.heap := by rw [ht]; exact h
/-- one cell has changed -/
theorem HC.upd {D : va_G} {dA : Nat → ClassId} {A : Nat → Prop} {σ σ1 : CS} {H H1 : Heap} {a : Nat} (h : HC D dA A σ H) (hz : H1.size = H.size) (oq : ∀ q : Nat, q ≠ a → H1[q]? = H[q]?) (hk : cK σ1 = cK σ) (hln : cLN σ1 = cLN σ) (hzz : cZ σ1 = cZ σ) (hb : ∀ b, b ≠ a → (∀ F, fv σ1 b F = fv σ b F) ∧ ∀ t, cCon σ1 b t = cCon σ b t) (ha : cAt D dA σ1 a H1) : HC D dA A σ1 H1 := by
  refine ⟨by rw [hz, hzz]; exact h.1, fun b hb0 => by rw [hzz, hk, hln]; rw [hk] at hb0; exact h.2.1 b hb0, fun b => ?_⟩
  by_cases e : b = a
  · rw [e]; exact ha
  · exact (h.2.2 b).kept (oq b e) (by rw [hk]) (hb b e).1 (by rw [hln]) (hb b e).2
/-- a cell is new -/
theorem HC.new {D : va_G} {dA : Nat → ClassId} {A : Nat → Prop} {σ σ1 : CS} {H H1 : Heap} {c : Nat} (h : HC D dA A σ H) (hA : A H.size) (hz : H1.size = H.size + 1) (oq : ∀ q : Nat, q < H.size → H1[q]? = H[q]?) (hk : cK σ1 = up1 (cK σ) (cZ σ) c) (hzz : cZ σ1 = cZ σ + 1) (hb : ∀ b, b ≠ cZ σ → (∀ F, fv σ1 b F = fv σ b F) ∧ cLN σ1 b = cLN σ b ∧ ∀ t, cCon σ1 b t = cCon σ b t) (ha : cAt D dA σ1 H.size H1) : HC D dA A σ1 H1 := by
  refine ⟨by rw [hz, hzz, h.1], fun b hb0 => ?_, fun b => ?_⟩
  · rw [hk] at hb0
    unfold up1 at hb0
    by_cases e : b = cZ σ
    · subst e
      rw [hzz]
      exact ⟨Or.inl (by rw [← h.1]; exact hA), Nat.lt_succ_self _⟩
    · rw [if_neg e] at hb0
      have := h.2.1 b hb0
      have hkb : cK σ1 b = cK σ b := by rw [hk]; exact if_neg e
      exact ⟨by rw [hkb, (hb b e).2.1]; exact this.1, by rw [hzz]; omega⟩
  · by_cases e : b = cZ σ
    · rw [e, ← h.1]; exact ha
    · have hkb : cK σ1 b = cK σ b := by rw [hk]; exact if_neg e
      by_cases hl : b < H.size
      · exact (h.2.2 b).kept (oq b hl) hkb (hb b e).1 (hb b e).2.1 (hb b e).2.2
      · have h0 : cK σ1 b = 0 := by
          rw [hkb]
          by_cases e0 : cK σ b = 0
          · exact e0
          · exact absurd (h.2.1 b e0).2 (by rw [← h.1]; exact hl)
        exact ⟨fun ci C T N e _ => absurd (h0.symm.trans e) (by omega), fun t _ e => absurd (h0.symm.trans e) (by omega)⟩
theorem HC.obj {D : va_G} {dA : Nat → ClassId} {A : Nat → Prop} {σ : CS} {H : Heap} (h : HC D dA A σ H) {a ci : Nat} {C : String} {T : u_T} {N : Nat} (hk : cK σ a = ci + 1) (hc : vCl[ci]? = some (C, T, N)) : t_OB a (D.1 ci) N (D.2 ci) H (fun k => fv σ a (fid ci k)) := (h.2.2 a).1 ci C T N hk hc
theorem HC.arr {D : va_G} {dA : Nat → ClassId} {A : Nat → Prop} {σ : CS} {H : Heap} (h : HC D dA A σ H) {a t : Nat} (hk : cK σ a = 101 + t) (ht : t < 9) (h5 : t ≠ 5 ∨ 0 < cLN σ a := by exact Or.inl (by decide)) : H[a]? = some (vp_cell (dA t) (cLN σ a, cCon σ a t)) := by
  rcases (h.2.2 a).2 t ht hk with q | q
  · rcases h5 with h5 | h5
    · exact absurd q.1.1 h5
    · exact absurd q.1.2 (by omega)
  · exact q
/-- the array at a, as the kit's one-cell world -/
theorem HC.one {D : va_G} {dA : Nat → ClassId} {A : Nat → Prop} {σ : CS} {H : Heap} (h : HC D dA A σ H) {a t : Nat} (hk : cK σ a = 101 + t) (ht : t < 9) (h5 : t ≠ 5 ∨ 0 < cLN σ a := by exact Or.inl (by decide)) : va_P D vCl [(a, .inl (dA t, cLN σ a, cCon σ a t))] H := by
  intro k q hq
  have hz : k < 1 := (List.getElem?_eq_some_iff.mp hq).1
  rw [show k = 0 by omega] at hq
  cases hq
  exact h.arr hk ht h5
theorem HC.wr {D : va_G} {dA : Nat → ClassId} {A : Nat → Prop} {σ : CS} {H : Heap} (h : HC D dA A σ H) {a t : Nat} {i : Int32} (hk : cK σ a = 101 + t) (hi : vp_in i (cLN σ a)) : A a := by
  rcases (h.2.1 a (by rw [hk]; omega)).1 with q | q
  · exact q
  · exact absurd (Or.inr (by rw [q.2]; exact Nat.zero_le _)) hi
def kd (σ : CS) (a c : Nat) : Bool := Nat.beq (cK σ a) c
theorem kd_eq {σ : CS} {a c : Nat} (h : kd σ a c = true) : cK σ a = c := Nat.eq_of_beq_eq_true h
section CR
variable {p : Program} {l : Launch} {e : Env} {R : Room} {s : State} {m : MethodId} {args : Array Value} {below : List Frame} {meth : Method} {c : Code} {H : Heap} {locs : List Loc} {cells slots : Nat} {Q : State → Prop}
variable {cc : ByteArray} {pc nL : Nat} {ls : Array Slot} {rest st0 : List Value} {D : va_G} {dA : Nat → ClassId} {A : Nat → Prop} {σ σ1 : CS}
theorem c_get (hx : p.tables.exec = Jvm.exec) (hb : c.code = cc) (hts : ∀ w ∈ lw_all, w.before args s = true) {own ref : String} (hown : s.vm.findClass own = some m.cls) (hK : va_K D vCl (vTy dA) s) (hH : HC D dA A σ H) {a F index : Nat} (hg : hf (cK σ a) F = true) (hlink : (Cond.fieldLink own index ref (fd F).2.1 (fd F).2.2.1).before args s = true) (hsame : ∀ x, s.fieldFound? (fd F).1 (fd F).2.1 (fd F).2.2.1 = some x → s.fieldFound? ref (fd F).2.1 (fd F).2.2.1 = some x) {v : Value} (hv : fv σ a F = v) (hdg : decode cc pc = .ok (.getfield index, 3))
    (kk : W p l e R s m args below meth c H locs cells slots Q (F0 m (pc + 3) ls (v :: rest))) : W p l e R s m args below meth c H locs cells slots Q (F0 m pc ls (.ref a :: rest)) := by
  obtain ⟨ci, C, T, N, k, e1, hc, hk, e2, eT, hin, -⟩ := hf_spec hg
  obtain ⟨cell, q1, q2, q3, q4⟩ := hH.obj e1 hc
  obtain ⟨hS, hfc, kC, hkC, hkind⟩ := hK.1 ci _ hc
  obtain ⟨cf, kf, fi, f, hi, hsl⟩ := hS k hk
  have hst := (u_facts hfc hkC (u_lays hts hin hk) hi).1
  simp only [eT] at hi
  refine W.getf hx hb hown hlink (hsame _ hi) hst q1 (by rw [q3]; exact fun h => by cases h) (v := v) ?_ rfl rfl hdg kk
  rw [hsl, q4 k hk]
  show some (fv σ a (fid ci k)) = some v
  rw [e2, hv]
theorem c_getN (hx : p.tables.exec = Jvm.exec) (hb : c.code = cc) (hts : ∀ w ∈ lw_all, w.before args s = true) {own ref host : String} (hown : s.vm.findClass own = some m.cls) (hK : va_K D vCl (vTy dA) s) (hH : HC D dA A σ H) {a F index : Nat} (hg : hf (cK σ a) F = true) (hlink : va_Nw (Cond.fieldLinkNest own index ref (fd F).2.1 (fd F).2.2.1 host) s) (hsame : ∀ x, s.fieldFound? (fd F).1 (fd F).2.1 (fd F).2.2.1 = some x → s.fieldFound? ref (fd F).2.1 (fd F).2.2.1 = some x) {v : Value} (hv : fv σ a F = v) (hdg : decode cc pc = .ok (.getfield index, 3))
    (kk : W p l e R s m args below meth c H locs cells slots Q (F0 m (pc + 3) ls (v :: rest))) : W p l e R s m args below meth c H locs cells slots Q (F0 m pc ls (.ref a :: rest)) := by
  obtain ⟨ci, C, T, N, k, e1, hc, hk, e2, eT, hin, -⟩ := hf_spec hg
  obtain ⟨cell, q1, q2, q3, q4⟩ := hH.obj e1 hc
  obtain ⟨hS, hfc, kC, hkC, hkind⟩ := hK.1 ci _ hc
  obtain ⟨cf, kf, fi, f, hi, hsl⟩ := hS k hk
  have hst := (u_facts hfc hkC (u_lays hts hin hk) hi).1
  simp only [eT] at hi
  refine va_Wgetf hx hb hown (va_Nw.use rfl hlink) (hsame _ hi) hst q1 (by rw [q3]; exact fun h => by cases h) (v := v) ?_ rfl rfl hdg kk
  rw [hsl, q4 k hk]
  show some (fv σ a (fid ci k)) = some v
  rw [e2, hv]
/-- the world behind a store to a field -/
theorem HC.put {a F ci : Nat} {C : String} {T : u_T} {N k : Nat} {v : Value} {H1 : Heap} {cell : Cell} (hH : HC D dA A σ H) (e1 : cK σ a = ci + 1) (hc : vCl[ci]? = some (C, T, N)) (hk : k < N) (e2 : fid ci k = F) (hinj : ∀ a, a < N → ∀ b, b < N → fid ci a = fid ci b → a = b) (hap : ∀ x y, x < N → y < N → x ≠ y → (D.2 ci) x ≠ (D.2 ci) y) (q2 : cell.cls = D.1 ci) (q3 : cell.vm = .none) (q4 : ∀ k, k < N → cell.slots[D.2 ci k]? = some (fv σ a (fid ci k)))
    (g1 : H1[a]? = some (cell.setSlot (D.2 ci k) v)) (g2 : H1.size = H.size) (g3 : ∀ q : Nat, q ≠ a → H1[q]? = H[q]?) (hk1 : cK σ1 = cK σ) (hz1 : cZ σ1 = cZ σ) (ho : ∀ b, b ≠ a → (∀ F, fv σ1 b F = fv σ b F)) (hl : cLN σ1 = cLN σ) (hcn : ∀ b t, cCon σ1 b t = cCon σ b t) (hn : fv σ1 a F = v) (hn2 : ∀ G, G ≠ F → fv σ1 a G = fv σ a G) : HC D dA A σ1 H1 := by
  refine hH.upd g2 g3 hk1 hl hz1 (fun b hb => ⟨ho b hb, hcn b⟩) ⟨fun ci' C' T' N' e' hc' => ?_, fun t ht e' => ?_⟩
  · rw [hk1] at e'
    have ec : ci' = ci := by omega
    subst ec
    cases hc.symm.trans hc'
    refine t_OB.to (V := updV (fun k => fv σ a (fid ci' k)) k v) ⟨_, g1, q2, q3, t_set q4 hap hk v⟩ (fun j hj => ?_)
    by_cases ej : j = k
    · subst ej
      simp only [updV, if_true]
      rw [e2, hn]
    · simp only [updV, if_neg ej]
      exact (hn2 _ (fun z => ej (hinj j hj k hk (z.trans e2.symm)))).symm
  · rw [hk1, e1] at e'
    have : ci < 20 := (List.getElem?_eq_some_iff.mp hc).1
    omega
theorem up2_s {α : Type} {f : Nat → Nat → α} {a i : Nat} {v : α} : up2 f a i v a i = v := by simp [up2]
theorem up2_n {α : Type} {f : Nat → Nat → α} {a i b j : Nat} {v : α} (h : ¬ (b = a ∧ j = i)) : up2 f a i v b j = f b j := by simp [up2, h]
theorem fv_uFI {a F b G : Nat} {x : Int32} : fv (uFI σ a F x) b G = if b = a ∧ G = F ∧ fRef G = false then .int x else fv σ b G := by
  unfold fv
  show cond (fRef G) (va_rf (cFR σ b G)) (.int (up2 (cFI σ) a F x b G)) = _
  cases fRef G with
  | true => simp
  | false =>
    by_cases h : b = a ∧ G = F
    · simp [up2, h]
    · have h' : ¬ (b = a ∧ G = F ∧ True) := fun z => h ⟨z.1, z.2.1⟩
      simp [up2, h]
theorem fv_uFR {a F b G : Nat} {x : Option Nat} : fv (uFR σ a F x) b G = if b = a ∧ G = F ∧ fRef G = true then va_rf x else fv σ b G := by
  unfold fv
  show cond (fRef G) (va_rf (up2 (cFR σ) a F x b G)) (.int (cFI σ b G)) = _
  cases fRef G with
  | false => simp
  | true =>
    by_cases h : b = a ∧ G = F
    · simp [up2, h]
    · simp [up2, h]
/-- a store to a field, not final (or final, in a constructor; or a nest mate's): what is common -/
theorem c_put0 (hts : ∀ w ∈ lw_all, w.before args s = true) (hK : va_K D vCl (vTy dA) s) (hH : HC D dA A σ H) (hS : va_S A s.heap H locs) {a F : Nat} (hg : hf (cK σ a) F = true) {v : Value} (hk1 : cK σ1 = cK σ) (hz1 : cZ σ1 = cZ σ) (ho : ∀ b, b ≠ a → (∀ F, fv σ1 b F = fv σ b F)) (hl : cLN σ1 = cLN σ) (hcn : ∀ b t, cCon σ1 b t = cCon σ b t) (hn : fv σ1 a F = v) (hn2 : ∀ G, G ≠ F → fv σ1 a G = fv σ a G) :
    ∃ (ci : Nat) (C : String) (T : u_T) (N k : Nat) (cell : Cell) (cf : ClassId) (kf : Class) (fi : Nat) (f : Field) (kC : Class), T k = fd F ∧ s.fieldFound? (fd F).1 (fd F).2.1 (fd F).2.2.1 = some (cf, kf, fi, f) ∧ f.isStatic = false ∧ s.vm.findClass C = some (D.1 ci) ∧ s.vm.classes[D.1 ci]? = some kC ∧ kC.kind = .ordinary ∧ (u_lay C T k).before args s = true ∧ H[a]? = some cell ∧ cell.cls = D.1 ci ∧ cell.vm = .none ∧ f.slot < cell.slots.size ∧
      ∀ H1 : Heap, H1[a]? = some (cell.setSlot f.slot v) → H1.size = H.size → (∀ q, q ≠ a → H1[q]? = H[q]?) → HC D dA A σ1 H1 ∧ va_S A s.heap H1 (locs ++ [⟨a, f.slot⟩]) := by
  obtain ⟨ci, C, T, N, k, e1, hc, hk, e2, eT, hin, hty, hnm, hinj⟩ := hf_spec hg
  obtain ⟨cell, q1, q2, q3, q4⟩ := hH.obj e1 hc
  have hKn := hK.1 ci _ hc
  have hap := c_apart hts hin hty hnm hKn
  obtain ⟨hSl, hfc, kC, hkC, hkind⟩ := hKn
  obtain ⟨cf, kf, fi, f, hi, hsl⟩ := hSl k hk
  have hst := (u_facts hfc hkC (u_lays hts hin hk) hi).1
  have hAa : A a := by
    have : ci < 20 := (List.getElem?_eq_some_iff.mp hc).1
    rcases (hH.2.1 a (by rw [e1]; omega)).1 with h | h
    · exact h
    · exact absurd h.1 (by rw [e1]; omega)
  refine ⟨ci, C, T, N, k, cell, cf, kf, fi, f, kC, eT, by rw [← eT]; exact hi, hst, hfc, hkC, hkind, hts _ (hin _ (u_in_lay hk)), q1, q2, q3, by rw [hsl]; exact k2_hasslot (q4 k hk), fun H1 g1 g2 g3 => ⟨?_, hS.put g2 g3 hAa⟩⟩
  rw [hsl] at g1
  exact hH.put e1 hc hk e2 hinj hap q2 q3 q4 g1 g2 g3 hk1 hz1 ho hl hcn hn hn2
end CR
