/-! field numbers (printed by gen/ctab.py) -/
def fTab : List (String × String × String × Bool) := [("FortyDaysModel", "thrown", "I", false), ("FortyDaysModel", "s", "[I", true), ("FortyDaysModel", "image", "[I", true), ("FortyDaysModel", "hasImage", "Z", false), ("FortyDaysModel", "act", "I", false), ("FortyDaysModel", "spot", "I", false), ("FortyDaysModel", "size", "I", false), ("FortyDaysModel", "isWrong", "Z", false), ("FortyDaysModel", "open", "I", false), ("FortyDaysModel", "truths", "[Z", true), ("FortyDaysModel", "q", "[I", true), ("FortyDaysModel", "text", "I", false), ("FortyDaysModel", "hands", "I", false), ("FortyDaysModel", "says", "I", false), ("FortyDaysModel", "giveMore", "I", false), ("FortyDaysModel", "isLet", "Z", false), ("FortyDaysModel", "harms", "[J", true), ("FortyDaysModel", "means", "[J", true), ("FortyDaysModel", "halves", "[J", true), ("FortyDaysModel", "bodies", "[I", true), ("FortyDaysModel", "ran", "I", false), ("FortyDaysModel", "kindNow", "I", false), ("FortyDaysModel", "who", "I", false), ("FortyDaysModel", "tellsV", "I", false), ("FortyDays", "tape", "[B", true), ("FortyDays", "taped", "I", false), ("FortyDays", "ports", "Ljava/util/ArrayList;", true), ("FortyDays", "reader", "LFortyDays$Reader;", true), ("FortyDays", "ships", "Ljava/util/ArrayList;", true), ("FortyDays", "on", "[LFortyDays$Thought;", true), ("FortyDays", "costs", "[J", true), ("FortyDays", "harms", "[J", true), ("FortyDays", "shown", "[I", true), ("FortyDays", "looked", "LFortyDays$Thought;", true), ("FortyDays", "first", "LFortyDays$Thought;", true), ("FortyDays", "ran", "I", false), ("FortyDays", "bodies", "[I", true), ("FortyDays", "beside", "LFortyDays$Beside;", true), ("FortyDays", "rules", "Ljava/util/ArrayList;", true), ("FortyDays", "said", "[J", true), ("FortyDays", "with", "[[J", true), ("FortyDays", "without", "[[J", true), ("FortyDays", "image", "LFortyDays$Image;", false), ("FortyDays$Reader", "words", "[[C", true), ("FortyDays$Reader", "have", "[C", true), ("FortyDays$Reader", "hold", "[C", true), ("FortyDays$Reader", "at", "I", false), ("FortyDays$Reader", "open", "I", false), ("FortyDays$Reader", "this$0", "LFortyDays;", true), ("FortyDays$Thought", "at", "[I", true), ("FortyDays$Thought", "port", "LFortyDays$Port;", false), ("FortyDays$Thought", "hands", "I", false), ("FortyDays$Thought", "says", "I", false), ("FortyDays$Thought", "days", "I", false), ("FortyDays$Thought", "gone", "I", false), ("FortyDays$Beside", "on", "[LFortyDays$Thought;", true), ("FortyDays$Beside", "costs", "[J", true), ("FortyDays$Beside", "harms", "[J", true), ("FortyDays$Beside", "shown", "[I", true), ("FortyDays$Beside", "this$0", "LFortyDays;", true), ("FortyDays$Port", "number", "I", true), ("FortyDays$Port", "clauses", "I", false), ("FortyDays$Port", "have", "[I", true), ("FortyDays$Port", "last", "[I", true), ("FortyDays$Port", "numbers", "[I", true), ("FortyDays$Port", "holds", "Ljava/util/ArrayList;", true), ("FortyDays$Port", "more", "I", false), ("java/lang/Throwable", "cause", "Ljava/lang/Throwable;", false), ("java/lang/Throwable", "stackTrace", "[Ljava/lang/StackTraceElement;", false), ("java/lang/Throwable", "suppressedExceptions", "Ljava/util/List;", false), ("java/lang/Throwable", "detailMessage", "Ljava/lang/String;", false), ("java/lang/Throwable", "backtrace", "Ljava/lang/Object;", false), ("java/lang/Throwable", "depth", "I", false), ("FortyDays$Wrong", "place", "I", true), ("FortyDays$Not", "of", "LFortyDays$Test;", true), ("FortyDays$Fact", "letter", "I", true), ("FortyDays$Fact", "op", "I", true), ("FortyDays$Fact", "number", "I", true), ("FortyDays$Two", "first", "LFortyDays$Test;", true), ("FortyDays$Two", "second", "LFortyDays$Test;", true), ("FortyDays$Two", "both", "Z", true), ("FortyDays$Ship", "place", "I", true), ("FortyDays$Ship", "hands", "I", true), ("FortyDays$Ship", "thought", "LFortyDays$Thought;", true), ("FortyDays$Rule", "number", "I", true), ("FortyDays$Rule", "v", "I", true), ("FortyDays$Rule", "this$0", "LFortyDays;", true), ("FortyDays$Days", "this$0", "LFortyDays;", true), ("FortyDays$From", "this$0", "LFortyDays;", true), ("FortyDays$Looked", "this$0", "LFortyDays;", true), ("FortyDays$Think", "this$0", "LFortyDays;", true), ("FortyDays$Told", "row", "[I", true), ("FortyDays$Told", "many", "I", false), ("FortyDays$Told", "this$0", "LFortyDays;", true), ("FortyDays$Best", "this$0", "LFortyDays;", true), ("FortyDays$Image", "portsWere", "I", true), ("FortyDays$Image", "shipsWere", "I", true), ("FortyDays$Image", "rulesWere", "I", true), ("FortyDays$Image", "tapedWas", "I", true), ("FortyDays$Image", "tapeWas", "[B", true), ("FortyDays$Image", "thoughts", "[LFortyDays$Thought;", true), ("FortyDays$Image", "manyWere", "[I", true), ("FortyDays$Image", "this$0", "LFortyDays;", true), ("java/util/AbstractList", "modCount", "I", false), ("java/util/ArrayList", "elementData", "[Ljava/lang/Object;", false), ("java/util/ArrayList", "size", "I", false)]
def fidL : List (List Nat) := [[0, 1, 2, 3, 4, 5, 6, 7, 8, 9, 10, 11, 12, 13, 14, 15, 16, 17, 18, 19, 20, 21, 22, 23], [24, 25, 26, 27, 28, 29, 30, 31, 32, 33, 34, 35, 36, 37, 38, 39, 40, 41, 42], [43, 44, 45, 46, 47, 48], [49, 50, 51, 52, 53, 54], [55, 56, 57, 58, 59], [60, 61, 62, 63, 64, 65, 66], [67, 68, 69, 70, 71, 72, 73], [74], [75, 76, 77], [78, 79, 80], [81, 82, 83], [84, 85, 86], [84, 85, 86, 87], [84, 85, 86, 87, 88], [84, 85, 86, 87, 89], [84, 85, 86, 90], [84, 85, 86, 91, 92, 93], [84, 85, 86, 90, 94], [95, 96, 97, 98, 99, 100, 101, 102], [103, 104, 105]]
def fd (F : Nat) : String × String × String × Bool := fTab.getD F ("", "", "", false)
def fid (ci k : Nat) : Nat := (fidL.getD ci []).getD k 0
def fRefL : List Bool := [false, true, true, false, false, false, false, false, false, true, true, false, false, false, false, false, true, true, true, true, false, false, false, false, true, false, true, true, true, true, true, true, true, true, true, false, true, true, true, true, true, true, true, true, true, true, false, false, true, true, true, false, false, false, false, true, true, true, true, true, false, false, true, true, true, true, false, true, true, true, true, true, false, false, true, false, false, false, true, true, false, false, false, true, false, false, true, true, true, true, true, true, false, true, true, false, false, false, false, true, true, true, true, false, true, false]
def fRef (F : Nat) : Bool := fRefL.getD F false
def hf (c F : Nat) : Bool := (fidL.getD (c - 1) []).contains F && Nat.ble 1 c
/-- what the tables say of field F in an object of kind c -/
def FS (c F : Nat) : Prop := ∃ (ci : Nat) (C : String) (T : u_T) (N k : Nat), c = ci + 1 ∧ vCl[ci]? = some (C, T, N) ∧ k < N ∧ fid ci k = F ∧ T k = fd F ∧ (∀ w ∈ u_ws C T N, w ∈ lw_all) ∧ (∃ ty : Nat → FieldType, ∀ k, k < N → parseFieldDescriptor (T k).2.2.1 = some (ty k)) ∧ (∀ a, a < N → ∀ b, b < N → a ≠ b → (T a).2.1 ≠ (T b).2.1 ∨ ((T a).1 ≠ (T b).1 ∧ (T a).2.2.2 = true ∧ (T b).2.2.2 = true)) ∧ (∀ a, a < N → ∀ b, b < N → fid ci a = fid ci b → a = b)
set_option maxRecDepth 100000 in
theorem fs_X4 : ∀ k, k < 24 → FS 1 (fid 0 k) := by
  have h : ∀ k, k < 24 → TX4 k = fd (fid 0 k) := by decide +kernel
  have h2 : ∀ a, a < 24 → ∀ b, b < 24 → fid 0 a = fid 0 b → a = b := by decide +kernel
  have h3 : ∀ a, a < 24 → ∀ b, b < 24 → a ≠ b → (TX4 a).2.1 ≠ (TX4 b).2.1 ∨ ((TX4 a).1 ≠ (TX4 b).1 ∧ (TX4 a).2.2.2 = true ∧ (TX4 b).2.2.2 = true) := by decide +kernel
  exact fun k hk => ⟨0, RX4, TX4, 24, k, rfl, rfl, hk, rfl, h k hk, in_X4, ⟨tyX4, tyX4_ok⟩, h3, h2⟩
set_option maxRecDepth 100000 in
theorem fs_X0 : ∀ k, k < 19 → FS 2 (fid 1 k) := by
  have h : ∀ k, k < 19 → TX0 k = fd (fid 1 k) := by decide +kernel
  have h2 : ∀ a, a < 19 → ∀ b, b < 19 → fid 1 a = fid 1 b → a = b := by decide +kernel
  have h3 : ∀ a, a < 19 → ∀ b, b < 19 → a ≠ b → (TX0 a).2.1 ≠ (TX0 b).2.1 ∨ ((TX0 a).1 ≠ (TX0 b).1 ∧ (TX0 a).2.2.2 = true ∧ (TX0 b).2.2.2 = true) := by decide +kernel
  exact fun k hk => ⟨1, RX0, TX0, 19, k, rfl, rfl, hk, rfl, h k hk, in_X0, ⟨tyX0, tyX0_ok⟩, h3, h2⟩
set_option maxRecDepth 100000 in
theorem fs_X1 : ∀ k, k < 6 → FS 3 (fid 2 k) := by
  have h : ∀ k, k < 6 → TX1 k = fd (fid 2 k) := by decide +kernel
  have h2 : ∀ a, a < 6 → ∀ b, b < 6 → fid 2 a = fid 2 b → a = b := by decide +kernel
  have h3 : ∀ a, a < 6 → ∀ b, b < 6 → a ≠ b → (TX1 a).2.1 ≠ (TX1 b).2.1 ∨ ((TX1 a).1 ≠ (TX1 b).1 ∧ (TX1 a).2.2.2 = true ∧ (TX1 b).2.2.2 = true) := by decide +kernel
  exact fun k hk => ⟨2, RX1, TX1, 6, k, rfl, rfl, hk, rfl, h k hk, in_X1, ⟨tyX1, tyX1_ok⟩, h3, h2⟩
set_option maxRecDepth 100000 in
theorem fs_X2 : ∀ k, k < 6 → FS 4 (fid 3 k) := by
  have h : ∀ k, k < 6 → TX2 k = fd (fid 3 k) := by decide +kernel
  have h2 : ∀ a, a < 6 → ∀ b, b < 6 → fid 3 a = fid 3 b → a = b := by decide +kernel
  have h3 : ∀ a, a < 6 → ∀ b, b < 6 → a ≠ b → (TX2 a).2.1 ≠ (TX2 b).2.1 ∨ ((TX2 a).1 ≠ (TX2 b).1 ∧ (TX2 a).2.2.2 = true ∧ (TX2 b).2.2.2 = true) := by decide +kernel
  exact fun k hk => ⟨3, RX2, TX2, 6, k, rfl, rfl, hk, rfl, h k hk, in_X2, ⟨tyX2, tyX2_ok⟩, h3, h2⟩
set_option maxRecDepth 100000 in
theorem fs_X3 : ∀ k, k < 5 → FS 5 (fid 4 k) := by
  have h : ∀ k, k < 5 → TX3 k = fd (fid 4 k) := by decide +kernel
  have h2 : ∀ a, a < 5 → ∀ b, b < 5 → fid 4 a = fid 4 b → a = b := by decide +kernel
  have h3 : ∀ a, a < 5 → ∀ b, b < 5 → a ≠ b → (TX3 a).2.1 ≠ (TX3 b).2.1 ∨ ((TX3 a).1 ≠ (TX3 b).1 ∧ (TX3 a).2.2.2 = true ∧ (TX3 b).2.2.2 = true) := by decide +kernel
  exact fun k hk => ⟨4, RX3, TX3, 5, k, rfl, rfl, hk, rfl, h k hk, in_X3, ⟨tyX3, tyX3_ok⟩, h3, h2⟩
set_option maxRecDepth 100000 in
theorem fs_X5 : ∀ k, k < 7 → FS 6 (fid 5 k) := by
  have h : ∀ k, k < 7 → TX5 k = fd (fid 5 k) := by decide +kernel
  have h2 : ∀ a, a < 7 → ∀ b, b < 7 → fid 5 a = fid 5 b → a = b := by decide +kernel
  have h3 : ∀ a, a < 7 → ∀ b, b < 7 → a ≠ b → (TX5 a).2.1 ≠ (TX5 b).2.1 ∨ ((TX5 a).1 ≠ (TX5 b).1 ∧ (TX5 a).2.2.2 = true ∧ (TX5 b).2.2.2 = true) := by decide +kernel
  exact fun k hk => ⟨5, RX5, TX5, 7, k, rfl, rfl, hk, rfl, h k hk, in_X5, ⟨tyX5, tyX5_ok⟩, h3, h2⟩
set_option maxRecDepth 100000 in
theorem fs_X6 : ∀ k, k < 7 → FS 7 (fid 6 k) := by
  have h : ∀ k, k < 7 → TX6 k = fd (fid 6 k) := by decide +kernel
  have h2 : ∀ a, a < 7 → ∀ b, b < 7 → fid 6 a = fid 6 b → a = b := by decide +kernel
  have h3 : ∀ a, a < 7 → ∀ b, b < 7 → a ≠ b → (TX6 a).2.1 ≠ (TX6 b).2.1 ∨ ((TX6 a).1 ≠ (TX6 b).1 ∧ (TX6 a).2.2.2 = true ∧ (TX6 b).2.2.2 = true) := by decide +kernel
  exact fun k hk => ⟨6, RX6, TX6, 7, k, rfl, rfl, hk, rfl, h k hk, in_X6, ⟨tyX6, tyX6_ok⟩, h3, h2⟩
set_option maxRecDepth 100000 in
theorem fs_X7 : ∀ k, k < 1 → FS 8 (fid 7 k) := by
  have h : ∀ k, k < 1 → TX7 k = fd (fid 7 k) := by decide +kernel
  have h2 : ∀ a, a < 1 → ∀ b, b < 1 → fid 7 a = fid 7 b → a = b := by decide +kernel
  have h3 : ∀ a, a < 1 → ∀ b, b < 1 → a ≠ b → (TX7 a).2.1 ≠ (TX7 b).2.1 ∨ ((TX7 a).1 ≠ (TX7 b).1 ∧ (TX7 a).2.2.2 = true ∧ (TX7 b).2.2.2 = true) := by decide +kernel
  exact fun k hk => ⟨7, RX7, TX7, 1, k, rfl, rfl, hk, rfl, h k hk, in_X7, ⟨tyX7, tyX7_ok⟩, h3, h2⟩
set_option maxRecDepth 100000 in
theorem fs_X8 : ∀ k, k < 3 → FS 9 (fid 8 k) := by
  have h : ∀ k, k < 3 → TX8 k = fd (fid 8 k) := by decide +kernel
  have h2 : ∀ a, a < 3 → ∀ b, b < 3 → fid 8 a = fid 8 b → a = b := by decide +kernel
  have h3 : ∀ a, a < 3 → ∀ b, b < 3 → a ≠ b → (TX8 a).2.1 ≠ (TX8 b).2.1 ∨ ((TX8 a).1 ≠ (TX8 b).1 ∧ (TX8 a).2.2.2 = true ∧ (TX8 b).2.2.2 = true) := by decide +kernel
  exact fun k hk => ⟨8, RX8, TX8, 3, k, rfl, rfl, hk, rfl, h k hk, in_X8, ⟨tyX8, tyX8_ok⟩, h3, h2⟩
set_option maxRecDepth 100000 in
theorem fs_X9 : ∀ k, k < 3 → FS 10 (fid 9 k) := by
  have h : ∀ k, k < 3 → TX9 k = fd (fid 9 k) := by decide +kernel
  have h2 : ∀ a, a < 3 → ∀ b, b < 3 → fid 9 a = fid 9 b → a = b := by decide +kernel
  have h3 : ∀ a, a < 3 → ∀ b, b < 3 → a ≠ b → (TX9 a).2.1 ≠ (TX9 b).2.1 ∨ ((TX9 a).1 ≠ (TX9 b).1 ∧ (TX9 a).2.2.2 = true ∧ (TX9 b).2.2.2 = true) := by decide +kernel
  exact fun k hk => ⟨9, RX9, TX9, 3, k, rfl, rfl, hk, rfl, h k hk, in_X9, ⟨tyX9, tyX9_ok⟩, h3, h2⟩
set_option maxRecDepth 100000 in
theorem fs_X10 : ∀ k, k < 3 → FS 11 (fid 10 k) := by
  have h : ∀ k, k < 3 → TX10 k = fd (fid 10 k) := by decide +kernel
  have h2 : ∀ a, a < 3 → ∀ b, b < 3 → fid 10 a = fid 10 b → a = b := by decide +kernel
  have h3 : ∀ a, a < 3 → ∀ b, b < 3 → a ≠ b → (TX10 a).2.1 ≠ (TX10 b).2.1 ∨ ((TX10 a).1 ≠ (TX10 b).1 ∧ (TX10 a).2.2.2 = true ∧ (TX10 b).2.2.2 = true) := by decide +kernel
  exact fun k hk => ⟨10, RX10, TX10, 3, k, rfl, rfl, hk, rfl, h k hk, in_X10, ⟨tyX10, tyX10_ok⟩, h3, h2⟩
set_option maxRecDepth 100000 in
theorem fs_X11 : ∀ k, k < 3 → FS 12 (fid 11 k) := by
  have h : ∀ k, k < 3 → TX11 k = fd (fid 11 k) := by decide +kernel
  have h2 : ∀ a, a < 3 → ∀ b, b < 3 → fid 11 a = fid 11 b → a = b := by decide +kernel
  have h3 : ∀ a, a < 3 → ∀ b, b < 3 → a ≠ b → (TX11 a).2.1 ≠ (TX11 b).2.1 ∨ ((TX11 a).1 ≠ (TX11 b).1 ∧ (TX11 a).2.2.2 = true ∧ (TX11 b).2.2.2 = true) := by decide +kernel
  exact fun k hk => ⟨11, RX11, TX11, 3, k, rfl, rfl, hk, rfl, h k hk, in_X11, ⟨tyX11, tyX11_ok⟩, h3, h2⟩
set_option maxRecDepth 100000 in
theorem fs_X12 : ∀ k, k < 4 → FS 13 (fid 12 k) := by
  have h : ∀ k, k < 4 → TX12 k = fd (fid 12 k) := by decide +kernel
  have h2 : ∀ a, a < 4 → ∀ b, b < 4 → fid 12 a = fid 12 b → a = b := by decide +kernel
  have h3 : ∀ a, a < 4 → ∀ b, b < 4 → a ≠ b → (TX12 a).2.1 ≠ (TX12 b).2.1 ∨ ((TX12 a).1 ≠ (TX12 b).1 ∧ (TX12 a).2.2.2 = true ∧ (TX12 b).2.2.2 = true) := by decide +kernel
  exact fun k hk => ⟨12, RX12, TX12, 4, k, rfl, rfl, hk, rfl, h k hk, in_X12, ⟨tyX12, tyX12_ok⟩, h3, h2⟩
set_option maxRecDepth 100000 in
theorem fs_X13 : ∀ k, k < 5 → FS 14 (fid 13 k) := by
  have h : ∀ k, k < 5 → TX13 k = fd (fid 13 k) := by decide +kernel
  have h2 : ∀ a, a < 5 → ∀ b, b < 5 → fid 13 a = fid 13 b → a = b := by decide +kernel
  have h3 : ∀ a, a < 5 → ∀ b, b < 5 → a ≠ b → (TX13 a).2.1 ≠ (TX13 b).2.1 ∨ ((TX13 a).1 ≠ (TX13 b).1 ∧ (TX13 a).2.2.2 = true ∧ (TX13 b).2.2.2 = true) := by decide +kernel
  exact fun k hk => ⟨13, RX13, TX13, 5, k, rfl, rfl, hk, rfl, h k hk, in_X13, ⟨tyX13, tyX13_ok⟩, h3, h2⟩
set_option maxRecDepth 100000 in
theorem fs_X14 : ∀ k, k < 5 → FS 15 (fid 14 k) := by
  have h : ∀ k, k < 5 → TX14 k = fd (fid 14 k) := by decide +kernel
  have h2 : ∀ a, a < 5 → ∀ b, b < 5 → fid 14 a = fid 14 b → a = b := by decide +kernel
  have h3 : ∀ a, a < 5 → ∀ b, b < 5 → a ≠ b → (TX14 a).2.1 ≠ (TX14 b).2.1 ∨ ((TX14 a).1 ≠ (TX14 b).1 ∧ (TX14 a).2.2.2 = true ∧ (TX14 b).2.2.2 = true) := by decide +kernel
  exact fun k hk => ⟨14, RX14, TX14, 5, k, rfl, rfl, hk, rfl, h k hk, in_X14, ⟨tyX14, tyX14_ok⟩, h3, h2⟩
set_option maxRecDepth 100000 in
theorem fs_X15 : ∀ k, k < 4 → FS 16 (fid 15 k) := by
  have h : ∀ k, k < 4 → TX15 k = fd (fid 15 k) := by decide +kernel
  have h2 : ∀ a, a < 4 → ∀ b, b < 4 → fid 15 a = fid 15 b → a = b := by decide +kernel
  have h3 : ∀ a, a < 4 → ∀ b, b < 4 → a ≠ b → (TX15 a).2.1 ≠ (TX15 b).2.1 ∨ ((TX15 a).1 ≠ (TX15 b).1 ∧ (TX15 a).2.2.2 = true ∧ (TX15 b).2.2.2 = true) := by decide +kernel
  exact fun k hk => ⟨15, RX15, TX15, 4, k, rfl, rfl, hk, rfl, h k hk, in_X15, ⟨tyX15, tyX15_ok⟩, h3, h2⟩
set_option maxRecDepth 100000 in
theorem fs_X16 : ∀ k, k < 6 → FS 17 (fid 16 k) := by
  have h : ∀ k, k < 6 → TX16 k = fd (fid 16 k) := by decide +kernel
  have h2 : ∀ a, a < 6 → ∀ b, b < 6 → fid 16 a = fid 16 b → a = b := by decide +kernel
  have h3 : ∀ a, a < 6 → ∀ b, b < 6 → a ≠ b → (TX16 a).2.1 ≠ (TX16 b).2.1 ∨ ((TX16 a).1 ≠ (TX16 b).1 ∧ (TX16 a).2.2.2 = true ∧ (TX16 b).2.2.2 = true) := by decide +kernel
  exact fun k hk => ⟨16, RX16, TX16, 6, k, rfl, rfl, hk, rfl, h k hk, in_X16, ⟨tyX16, tyX16_ok⟩, h3, h2⟩
set_option maxRecDepth 100000 in
theorem fs_X17 : ∀ k, k < 5 → FS 18 (fid 17 k) := by
  have h : ∀ k, k < 5 → TX17 k = fd (fid 17 k) := by decide +kernel
  have h2 : ∀ a, a < 5 → ∀ b, b < 5 → fid 17 a = fid 17 b → a = b := by decide +kernel
  have h3 : ∀ a, a < 5 → ∀ b, b < 5 → a ≠ b → (TX17 a).2.1 ≠ (TX17 b).2.1 ∨ ((TX17 a).1 ≠ (TX17 b).1 ∧ (TX17 a).2.2.2 = true ∧ (TX17 b).2.2.2 = true) := by decide +kernel
  exact fun k hk => ⟨17, RX17, TX17, 5, k, rfl, rfl, hk, rfl, h k hk, in_X17, ⟨tyX17, tyX17_ok⟩, h3, h2⟩
set_option maxRecDepth 100000 in
theorem fs_X18 : ∀ k, k < 8 → FS 19 (fid 18 k) := by
  have h : ∀ k, k < 8 → TX18 k = fd (fid 18 k) := by decide +kernel
  have h2 : ∀ a, a < 8 → ∀ b, b < 8 → fid 18 a = fid 18 b → a = b := by decide +kernel
  have h3 : ∀ a, a < 8 → ∀ b, b < 8 → a ≠ b → (TX18 a).2.1 ≠ (TX18 b).2.1 ∨ ((TX18 a).1 ≠ (TX18 b).1 ∧ (TX18 a).2.2.2 = true ∧ (TX18 b).2.2.2 = true) := by decide +kernel
  exact fun k hk => ⟨18, RX18, TX18, 8, k, rfl, rfl, hk, rfl, h k hk, in_X18, ⟨tyX18, tyX18_ok⟩, h3, h2⟩
set_option maxRecDepth 100000 in
theorem fs_J2 : ∀ k, k < 3 → FS 20 (fid 19 k) := by
  have h : ∀ k, k < 3 → TJ2 k = fd (fid 19 k) := by decide +kernel
  have h2 : ∀ a, a < 3 → ∀ b, b < 3 → fid 19 a = fid 19 b → a = b := by decide +kernel
  have h3 : ∀ a, a < 3 → ∀ b, b < 3 → a ≠ b → (TJ2 a).2.1 ≠ (TJ2 b).2.1 ∨ ((TJ2 a).1 ≠ (TJ2 b).1 ∧ (TJ2 a).2.2.2 = true ∧ (TJ2 b).2.2.2 = true) := by decide +kernel
  exact fun k hk => ⟨19, RJ2, TJ2, 3, k, rfl, rfl, hk, rfl, h k hk, in_J2, ⟨tyJ2, tyJ2_ok⟩, h3, h2⟩
set_option maxRecDepth 100000 in
theorem hf_k : ∀ c, c < 21 → ∀ F, hf c F = true → ∃ k, k < (fidL.getD (c - 1) []).length ∧ fid (c - 1) k = F ∧ 1 ≤ c := by
  intro c hc F h
  unfold hf at h
  rw [Bool.and_eq_true, List.contains_iff_mem] at h
  obtain ⟨k, hk, e⟩ := List.getElem_of_mem h.1
  exact ⟨k, hk, by unfold fid; rw [List.getD_eq_getElem?_getD, List.getElem?_eq_getElem hk, e]; rfl, Nat.le_of_ble_eq_true h.2⟩
theorem hf_spec {c F : Nat} (h : hf c F = true) : FS c F := by
  have hc : c < 21 := by
    rcases Nat.lt_or_ge c 21 with q | q
    · exact q
    · unfold hf at h
      rw [List.getD_eq_getElem?_getD, List.getElem?_eq_none (show fidL.length ≤ c - 1 from Nat.le_trans (show fidL.length ≤ 20 by decide) (by omega))] at h
      cases h
  obtain ⟨k, hk, e, h1⟩ := hf_k c hc F h
  rw [← e]
  match c, hc, h1, hk with
  | 1, _, _, hk => exact fs_X4 k hk
  | 2, _, _, hk => exact fs_X0 k hk
  | 3, _, _, hk => exact fs_X1 k hk
  | 4, _, _, hk => exact fs_X2 k hk
  | 5, _, _, hk => exact fs_X3 k hk
  | 6, _, _, hk => exact fs_X5 k hk
  | 7, _, _, hk => exact fs_X6 k hk
  | 8, _, _, hk => exact fs_X7 k hk
  | 9, _, _, hk => exact fs_X8 k hk
  | 10, _, _, hk => exact fs_X9 k hk
  | 11, _, _, hk => exact fs_X10 k hk
  | 12, _, _, hk => exact fs_X11 k hk
  | 13, _, _, hk => exact fs_X12 k hk
  | 14, _, _, hk => exact fs_X13 k hk
  | 15, _, _, hk => exact fs_X14 k hk
  | 16, _, _, hk => exact fs_X15 k hk
  | 17, _, _, hk => exact fs_X16 k hk
  | 18, _, _, hk => exact fs_X17 k hk
  | 19, _, _, hk => exact fs_X18 k hk
  | 20, _, _, hk => exact fs_J2 k hk
  | 0, _, h1, _ => exact absurd h1 (by decide)
