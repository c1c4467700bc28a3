/-! OWN KIT: what holds all through (CX), a contract's start, calls -/
set_option maxRecDepth 100000
abbrev vwCl : List vw_C := [(RX0, TX0, 12), (RX1, TX1, 16), (RX2, TX2, 4), (RX3, TX3, 6), (RX4, TX4, 4), (RX5, TX5, 22), (RX6, TX6, 7)]
/-- classes and places (D), array classes, the addresses of KIN's and DAMPERS' objects, of the two static arrays -/
abbrev GG : Type := va_G × (Nat → ClassId) × (Nat → Nat) × (Nat → Nat) × (Nat → Nat) × (Nat → Nat) × (Nat → Nat)
abbrev gA (g : GG) : Nat → ClassId := g.2.1
abbrev gk (g : GG) : Nat → Nat := g.2.2.1
abbrev gm (g : GG) : Nat → Nat := g.2.2.2.1
abbrev gs (g : GG) : Nat → Nat := g.2.2.2.2.1
abbrev gq (g : GG) : Nat → Nat := g.2.2.2.2.2.1
abbrev gv (g : GG) : Nat → Nat := g.2.2.2.2.2.2
def sTxt : Nat → String := fun i => match i with
  | 0 => "lane"
  | 1 => "one"
  | 2 => "aunt"
  | 3 => "away"
  | _ => "counts"
def sIdx : Nat → Nat := fun i => match i with
  | 0 => 84
  | 1 => 94
  | 2 => 103
  | 3 => 112
  | _ => 123
abbrev sLen : List Nat := [4, 3, 4, 4, 6]
abbrev sByt : List (List Int32) := [[108, 97, 110, 101], [111, 110, 101], [97, 117, 110, 116], [97, 119, 97, 121], [99, 111, 117, 110, 116, 115]]
abbrev sL (k : Nat) : Nat := sLen.getD k 0
abbrev sB (k j : Nat) : Int32 := (sByt.getD k []).getD j 0
abbrev gT (g : GG) : List (ClassId × FieldType) := [(gA g 0, .int), (gA g 1, .byte), (gA g 2, .boolean), (gA g 3, .object "LaneCymbals$One"), (gA g 4, .object "LaneCymbals$Aunt"), (gA g 5, .object "LaneCymbals$State"), (gA g 6, .object "LaneCymbals$Lane")]
def oneC : Nat → String := fun k => match k with
  | 0 => RX7
  | 1 => RX11
  | 2 => RX9
  | 3 => RX10
  | 4 => RX12
  | _ => RX8
def auntC : Nat → String := fun k => match k with
  | 0 => RX13
  | 1 => RX16
  | 2 => RX18
  | 3 => RX15
  | 4 => RX14
  | _ => RX17
def nestF : List (String × Nat × String × String × String × String) := [
  ("LaneCymbals$Lane", 84, "LaneCymbals$State", "swings", "[I", "LaneCymbals"),
  ("LaneCymbals", 164, "LaneCymbals$State", "swings", "[I", "LaneCymbals"),
  ("LaneCymbals$Lane", 69, "LaneCymbals$State", "there", "I", "LaneCymbals"),
  ("LaneCymbals$Reader", 118, "LaneCymbals$State", "there", "I", "LaneCymbals"),
  ("LaneCymbals", 173, "LaneCymbals$State", "there", "I", "LaneCymbals"),
  ("LaneCymbals$Lane", 72, "LaneCymbals$State", "noise", "I", "LaneCymbals"),
  ("LaneCymbals", 158, "LaneCymbals$State", "noise", "I", "LaneCymbals"),
  ("LaneCymbals$Lane", 75, "LaneCymbals$State", "count", "I", "LaneCymbals"),
  ("LaneCymbals", 151, "LaneCymbals$State", "count", "I", "LaneCymbals"),
  ("LaneCymbals", 102, "LaneCymbals$Lane", "wide", "I", "LaneCymbals"),
  ("LaneCymbals", 184, "LaneCymbals$Lane", "people", "[LLaneCymbals$One;", "LaneCymbals"),
  ("LaneCymbals$Weddings", 45, "LaneCymbals$Lane", "houses", "[I", "LaneCymbals"),
  ("LaneCymbals", 193, "LaneCymbals$Lane", "houses", "[I", "LaneCymbals"),
  ("LaneCymbals$Weddings", 34, "LaneCymbals$Lane", "many", "I", "LaneCymbals"),
  ("LaneCymbals$Reader", 96, "LaneCymbals$Lane", "many", "I", "LaneCymbals"),
  ("LaneCymbals", 87, "LaneCymbals$Lane", "many", "I", "LaneCymbals"),
  ("LaneCymbals", 196, "LaneCymbals$Lane", "aunts", "[LLaneCymbals$Aunt;", "LaneCymbals"),
  ("LaneCymbals", 203, "LaneCymbals$Lane", "sides", "[I", "LaneCymbals"),
  ("LaneCymbals$Reader", 105, "LaneCymbals$Lane", "dampers", "I", "LaneCymbals"),
  ("LaneCymbals", 91, "LaneCymbals$Lane", "dampers", "I", "LaneCymbals"),
  ("LaneCymbals", 251, "LaneCymbals$Lane", "heard", "[I", "LaneCymbals"),
  ("LaneCymbals", 248, "LaneCymbals$Lane", "hears", "I", "LaneCymbals"),
  ("LaneCymbals", 276, "LaneCymbals$Lane", "notes", "[I", "LaneCymbals"),
  ("LaneCymbals", 273, "LaneCymbals$Lane", "noted", "I", "LaneCymbals"),
  ("LaneCymbals", 282, "LaneCymbals$Lane", "marks", "[I", "LaneCymbals"),
  ("LaneCymbals", 279, "LaneCymbals$Lane", "marked", "I", "LaneCymbals"),
  ("LaneCymbals$Weddings", 52, "LaneCymbals$Lane", "now", "LLaneCymbals$State;", "LaneCymbals"),
  ("LaneCymbals$Reader", 114, "LaneCymbals$Lane", "now", "LLaneCymbals$State;", "LaneCymbals"),
  ("LaneCymbals", 148, "LaneCymbals$Lane", "now", "LLaneCymbals$State;", "LaneCymbals"),
  ("LaneCymbals", 176, "LaneCymbals$Lane", "was", "[LLaneCymbals$State;", "LaneCymbals"),
  ("LaneCymbals", 105, "LaneCymbals$Lane", "undos", "I", "LaneCymbals"),
  ("LaneCymbals", 245, "LaneCymbals$Weddings", "found", "[I", "LaneCymbals"),
  ("LaneCymbals", 242, "LaneCymbals$Weddings", "most", "I", "LaneCymbals"),
  ("LaneCymbals$Weddings", 30, "LaneCymbals", "lane", "LLaneCymbals$Lane;", "LaneCymbals"),
  ("LaneCymbals$Reader", 68, "LaneCymbals", "aside", "LLaneCymbals$Lane;", "LaneCymbals"),
  ("LaneCymbals$Reader", 22, "LaneCymbals", "text", "[B", "LaneCymbals"),
  ("LaneCymbals$Reader", 19, "LaneCymbals", "typed", "I", "LaneCymbals"),
  ("LaneCymbals$Lane", 81, "LaneCymbals", "KIN", "[LLaneCymbals$One;", "LaneCymbals"),
  ("LaneCymbals$Lane", 87, "LaneCymbals", "DAMPERS", "[LLaneCymbals$Aunt;", "LaneCymbals"),
  ("LaneCymbals", 142, "LaneCymbals$Fault", "place", "I", "LaneCymbals")]
def nestM : List (String × Nat × MethodName × String) := [
  ("LaneCymbals", 9, ⟨"LaneCymbals$Lane", "<init>", "()V"⟩, "LaneCymbals"),
  ("LaneCymbals$Lane", 41, ⟨"LaneCymbals$State", "<init>", "()V"⟩, "LaneCymbals"),
  ("LaneCymbals", 25, ⟨"LaneCymbals$State", "<init>", "()V"⟩, "LaneCymbals"),
  ("LaneCymbals", 44, ⟨"LaneCymbals$Reader", "<init>", "(LLaneCymbals;)V"⟩, "LaneCymbals"),
  ("LaneCymbals", 53, ⟨"LaneCymbals$Weddings", "<init>", "(LLaneCymbals;)V"⟩, "LaneCymbals"),
  ("LaneCymbals$Reader", 57, ⟨"LaneCymbals", "in", "(JJJ)Z"⟩, "LaneCymbals")]
/-- what holds all through a run: classes, links to nest mates, the static arrays and their objects -/
def CXa (g : GG) (A : Nat → Prop) (U : State) (H : Heap) : Prop :=
  va_K g.1 vwCl (gT g) U ∧
  (∀ q ∈ nestF, va_Nw (.fieldLinkNest q.1 q.2.1 q.2.2.1 q.2.2.2.1 q.2.2.2.2.1 q.2.2.2.2.2) U) ∧
  (∀ q ∈ nestM, va_Nw (.methodLinkNest q.1 q.2.1 q.2.2.1 q.2.2.2) U) ∧
  (va_AO "LaneCymbals$One" U ∧ va_AO "LaneCymbals$Aunt" U ∧ va_AO "LaneCymbals$State" U ∧ va_AO "LaneCymbals$Lane" U) ∧
  (va_Z "LaneCymbals" "KIN" "[LLaneCymbals$One;" (.ref (gs g 0)) A U H ∧ va_T (.object "LaneCymbals$One") (gs g 0) 6 (fun k => .ref (gk g k)) A U H ∧ (∀ k, k < 6 → va_O (oneC k) (gk g k) A U H)) ∧
  (va_Z "LaneCymbals" "DAMPERS" "[LLaneCymbals$Aunt;" (.ref (gs g 1)) A U H ∧ va_T (.object "LaneCymbals$Aunt") (gs g 1) 6 (fun k => .ref (gm g k)) A U H ∧ (∀ k, k < 6 → va_O (auntC k) (gm g k) A U H)) ∧
  ((∀ k, k < 6 → k ≠ 0 → va_Nw (.castable (oneC k) "LaneCymbals$One") U) ∧ (∀ k, k < 6 → k ≠ 0 → va_Nw (.castable (auntC k) "LaneCymbals$Aunt") U))
theorem CXa.kept {g : GG} {A : Nat → Prop} {U : State} {H H1 : Heap} (h : CXa g A U H) (hq : ∀ a : Nat, a < H.size → ¬ A a → H1[a]? = H[a]?) : CXa g A U H1 := by
  obtain ⟨h1, h2, h3, h4, ⟨a1, a2, a3⟩, ⟨b1, b2, b3⟩, h7⟩ := h
  exact ⟨h1, h2, h3, h4, ⟨a1.kept hq, a2.kept hq, fun k hk => (a3 k hk).kept hq⟩, ⟨b1.kept hq, b2.kept hq, fun k hk => (b3 k hk).kept hq⟩, h7⟩
theorem CXa.narrow {g : GG} {A B : Nat → Prop} {U : State} {H : Heap} (h : CXa g A U H) (hq : ∀ q, B q → A q) : CXa g B U H := by
  obtain ⟨h1, h2, h3, h4, ⟨a1, a2, a3⟩, ⟨b1, b2, b3⟩, h7⟩ := h
  exact ⟨h1, h2, h3, h4, ⟨a1.narrow hq, a2.narrow hq, fun k hk => (a3 k hk).narrow hq⟩, ⟨b1.narrow hq, b2.narrow hq, fun k hk => (b3 k hk).narrow hq⟩, h7⟩
theorem CXa.warm {g : GG} {A : Nat → Prop} {s U : State} {H : Heap} (hW : s.WarmedH U.vm) (h : CXa g A s H) : CXa g A U H := by
  obtain ⟨h1, h2, h3, ⟨c1, c2, c3, c4⟩, ⟨a1, a2, a3⟩, ⟨b1, b2, b3⟩, ⟨d1, d2⟩⟩ := h
  exact ⟨va_K.moved hW.alike h1, fun q hq => va_Nw.warmF hW (h2 q hq), fun q hq => va_Nw.warmM hW (h3 q hq), ⟨c1.moved hW.alike, c2.moved hW.alike, c3.moved hW.alike, c4.moved hW.alike⟩,
    ⟨va_Z.moved hW.alike a1, va_T.moved hW.alike a2, fun k hk => va_O.moved hW.alike (a3 k hk)⟩, ⟨va_Z.moved hW.alike b1, va_T.moved hW.alike b2, fun k hk => va_O.moved hW.alike (b3 k hk)⟩,
    ⟨fun k hk h0 => va_Nw.warmC hW (d1 k hk h0), fun k hk h0 => va_Nw.warmC hW (d2 k hk h0)⟩⟩
theorem CXa.same {g : GG} {A : Nat → Prop} {u U : State} {H : Heap} (hv : u.vm = U.vm) (h : CXa g A u H) : CXa g A U H := by
  have hvm : u.vm.Alike U.vm := hv ▸ Vm.Alike.refl u.vm
  obtain ⟨h1, h2, h3, ⟨c1, c2, c3, c4⟩, ⟨a1, a2, a3⟩, ⟨b1, b2, b3⟩, ⟨d1, d2⟩⟩ := h
  exact ⟨va_K.moved hvm h1, fun q hq => va_Nw.same rfl hv (h2 q hq), fun q hq => va_Nw.same rfl hv (h3 q hq), ⟨c1.moved hvm, c2.moved hvm, c3.moved hvm, c4.moved hvm⟩,
    ⟨va_Z.moved hvm a1, va_T.moved hvm a2, fun k hk => va_O.moved hvm (a3 k hk)⟩, ⟨va_Z.moved hvm b1, va_T.moved hvm b2, fun k hk => va_O.moved hvm (b3 k hk)⟩,
    ⟨fun k hk h0 => va_Nw.same rfl hv (d1 k hk h0), fun k hk h0 => va_Nw.same rfl hv (d2 k hk h0)⟩⟩
/-- the String constants, String's own static, what a new Throwable reads -/
def CXb (g : GG) (A : Nat → Prop) (U : State) (H : Heap) : Prop :=
  vk_S 5 sLen sByt (gq g) (gv g) A U H ∧ (∀ i, i < 5 → vk_R "LaneCymbals$Reader" (sIdx i) (sTxt i) (gq g i) U) ∧
  va_Z "java/lang/String" "COMPACT_STRINGS" "Z" (.int 1) A U H ∧
  (va_Zq "jdk/internal/util/Preconditions" "SIOOBE_FORMATTER" "Ljava/util/function/BiFunction;" A U H ∧ va_Zq "java/lang/Throwable" "UNASSIGNED_STACK" "[Ljava/lang/StackTraceElement;" A U H ∧ va_Zq "java/lang/Throwable" "SUPPRESSED_SENTINEL" "Ljava/util/List;" A U H) ∧
  va_Nw (.castable "LaneCymbals$Fault" "LaneCymbals$Fault") U
theorem CXb.kept {g : GG} {A : Nat → Prop} {U : State} {H H1 : Heap} (h : CXb g A U H) (hq : ∀ a : Nat, a < H.size → ¬ A a → H1[a]? = H[a]?) : CXb g A U H1 := by
  obtain ⟨h1, h2, h3, ⟨a1, a2, a3⟩, h5⟩ := h
  exact ⟨h1.kept hq, h2, h3.kept hq, ⟨a1.kept hq, a2.kept hq, a3.kept hq⟩, h5⟩
theorem CXb.narrow {g : GG} {A B : Nat → Prop} {U : State} {H : Heap} (h : CXb g A U H) (hq : ∀ q, B q → A q) : CXb g B U H := by
  obtain ⟨h1, h2, h3, ⟨a1, a2, a3⟩, h5⟩ := h
  exact ⟨h1.narrow hq, h2, h3.narrow hq, ⟨a1.narrow hq, a2.narrow hq, a3.narrow hq⟩, h5⟩
theorem CXb.warm {g : GG} {A : Nat → Prop} {s U : State} {H : Heap} (hW : s.WarmedH U.vm) (h : CXb g A s H) : CXb g A U H := by
  obtain ⟨h1, h2, h3, ⟨a1, a2, a3⟩, h5⟩ := h
  exact ⟨vk_S.moved hW.alike h1, fun i hi => vk_R.warm hW (h2 i hi), va_Z.moved hW.alike h3, ⟨va_Zq.moved hW.alike a1, va_Zq.moved hW.alike a2, va_Zq.moved hW.alike a3⟩, va_Nw.warmC hW h5⟩
theorem CXb.same {g : GG} {A : Nat → Prop} {u U : State} {H : Heap} (hv : u.vm = U.vm) (h : CXb g A u H) : CXb g A U H := by
  have hvm : u.vm.Alike U.vm := hv ▸ Vm.Alike.refl u.vm
  obtain ⟨h1, h2, h3, ⟨a1, a2, a3⟩, h5⟩ := h
  exact ⟨vk_S.moved hvm h1, fun i hi => vk_R.same hv.symm (h2 i hi), va_Z.moved hvm h3, ⟨va_Zq.moved hvm a1, va_Zq.moved hvm a2, va_Zq.moved hvm a3⟩, va_Nw.same rfl hv h5⟩
def CX (g : GG) (A : Nat → Prop) (U : State) (H : Heap) : Prop := CXa g A U H ∧ CXb g A U H
theorem CX.kept {g : GG} {A : Nat → Prop} {U : State} {H H1 : Heap} (h : CX g A U H) (hq : ∀ a : Nat, a < H.size → ¬ A a → H1[a]? = H[a]?) : CX g A U H1 := ⟨h.1.kept hq, h.2.kept hq⟩
theorem CX.narrow {g : GG} {A B : Nat → Prop} {U : State} {H : Heap} (h : CX g A U H) (hq : ∀ q, B q → A q) : CX g B U H := ⟨h.1.narrow hq, h.2.narrow hq⟩
theorem CX.warm {g : GG} {A : Nat → Prop} {s U : State} {H : Heap} (hW : s.WarmedH U.vm) (h : CX g A s H) : CX g A U H := ⟨h.1.warm hW, h.2.warm hW⟩
theorem CX.same {g : GG} {A : Nat → Prop} {u U : State} {H : Heap} (hv : u.vm = U.vm) (h : CX g A u H) : CX g A U H := ⟨h.1.same hv, h.2.same hv⟩
theorem CX.to {g : GG} {A B : Nat → Prop} {s U : State} {H : Heap} {locs : List Loc} (h : CX g A s s.heap) (hS : va_S A s.heap H locs) (hU : U.heap = H) (hW : s.WarmedH U.vm) (hB : ∀ q, B q → A q) : CX g B U U.heap := by
  rw [hU]
  exact ((h.kept hS.2.1).narrow hB).warm hW
theorem CX.K {g : GG} {A : Nat → Prop} {U : State} {H : Heap} (h : CX g A U H) : va_K g.1 vwCl (gT g) U := h.1.1
theorem CX.nf {g : GG} {A : Nat → Prop} {U : State} {H : Heap} (h : CX g A U H) (i : Nat) {a : String} {k : Nat} {b c d e : String} (hi : nestF[i]? = some (a, k, b, c, d, e)) {args : Array Value} : (Cond.fieldLinkNest a k b c d e).before args U = true := va_Nw.use rfl (h.1.2.1 _ (List.mem_of_getElem? hi))
theorem CX.nm {g : GG} {A : Nat → Prop} {U : State} {H : Heap} (h : CX g A U H) (i : Nat) {a : String} {k : Nat} {y : MethodName} {e : String} (hi : nestM[i]? = some (a, k, y, e)) : va_Nw (.methodLinkNest a k y e) U := h.1.2.2.1 _ (List.mem_of_getElem? hi)
theorem CX.one {g : GG} {A : Nat → Prop} {U : State} {H : Heap} (h : CX g A U H) {k : Nat} (hk : k < 6) : va_O (oneC k) (gk g k) A U H := h.1.2.2.2.2.1.2.2 k hk
theorem CX.aunt {g : GG} {A : Nat → Prop} {U : State} {H : Heap} (h : CX g A U H) {k : Nat} (hk : k < 6) : va_O (auntC k) (gm g k) A U H := h.1.2.2.2.2.2.1.2.2 k hk
theorem CX.aoOne {g : GG} {A : Nat → Prop} {U : State} {H : Heap} (h : CX g A U H) : va_AO "LaneCymbals$One" U := h.1.2.2.2.1.1
theorem CX.aoAunt {g : GG} {A : Nat → Prop} {U : State} {H : Heap} (h : CX g A U H) : va_AO "LaneCymbals$Aunt" U := h.1.2.2.2.1.2.1
theorem CX.aoState {g : GG} {A : Nat → Prop} {U : State} {H : Heap} (h : CX g A U H) : va_AO "LaneCymbals$State" U := h.1.2.2.2.1.2.2.1
theorem CX.aoLane {g : GG} {A : Nat → Prop} {U : State} {H : Heap} (h : CX g A U H) : va_AO "LaneCymbals$Lane" U := h.1.2.2.2.1.2.2.2
theorem CX.kinZ {g : GG} {A : Nat → Prop} {U : State} {H : Heap} (h : CX g A U H) : va_Z "LaneCymbals" "KIN" "[LLaneCymbals$One;" (.ref (gs g 0)) A U H := h.1.2.2.2.2.1.1
theorem CX.kinT {g : GG} {A : Nat → Prop} {U : State} {H : Heap} (h : CX g A U H) : va_T (.object "LaneCymbals$One") (gs g 0) 6 (fun k => .ref (gk g k)) A U H := h.1.2.2.2.2.1.2.1
theorem CX.damZ {g : GG} {A : Nat → Prop} {U : State} {H : Heap} (h : CX g A U H) : va_Z "LaneCymbals" "DAMPERS" "[LLaneCymbals$Aunt;" (.ref (gs g 1)) A U H := h.1.2.2.2.2.2.1.1
theorem CX.damT {g : GG} {A : Nat → Prop} {U : State} {H : Heap} (h : CX g A U H) : va_T (.object "LaneCymbals$Aunt") (gs g 1) 6 (fun k => .ref (gm g k)) A U H := h.1.2.2.2.2.2.1.2.1
theorem CX.sC {g : GG} {A : Nat → Prop} {U : State} {H : Heap} (h : CX g A U H) {i : Nat} (hi : i < 5) : va_OF "java/lang/String" "coder" "B" (.int 0) (gq g i) A U H := (h.2.1.1 i hi).2.1
theorem CX.sV {g : GG} {A : Nat → Prop} {U : State} {H : Heap} (h : CX g A U H) {i : Nat} (hi : i < 5) : va_OF "java/lang/String" "value" "[B" (.ref (gv g i)) (gq g i) A U H := (h.2.1.1 i hi).2.2.1
theorem CX.sT {g : GG} {A : Nat → Prop} {U : State} {H : Heap} (h : CX g A U H) {i : Nat} (hi : i < 5) : va_T .byte (gv g i) (sL i) (fun j => .int (sB i j)) A U H := (h.2.1.1 i hi).2.2.2
theorem CX.strS {g : GG} {A : Nat → Prop} {U : State} {H : Heap} (h : CX g A U H) : vk_S 5 sLen sByt (gq g) (gv g) A U H := h.2.1
theorem CX.sR {g : GG} {A : Nat → Prop} {U : State} {H : Heap} (h : CX g A U H) {i : Nat} (hi : i < 5) : vk_R "LaneCymbals$Reader" (sIdx i) (sTxt i) (gq g i) U := h.2.2.1 i hi
theorem CX.compact {g : GG} {A : Nat → Prop} {U : State} {H : Heap} (h : CX g A U H) : va_Z "java/lang/String" "COMPACT_STRINGS" "Z" (.int 1) A U H := h.2.2.2.1
theorem CX.fmt {g : GG} {A : Nat → Prop} {U : State} {H : Heap} (h : CX g A U H) : va_Z "jdk/internal/util/Preconditions" "SIOOBE_FORMATTER" "Ljava/util/function/BiFunction;" .null A U H ∨ ∃ t : Nat, va_Z "jdk/internal/util/Preconditions" "SIOOBE_FORMATTER" "Ljava/util/function/BiFunction;" (.ref t) A U H := h.2.2.2.2.1.1
theorem CX.zU {g : GG} {A : Nat → Prop} {U : State} {H : Heap} (h : CX g A U H) : ∃ r : Option Nat, va_Z "java/lang/Throwable" "UNASSIGNED_STACK" "[Ljava/lang/StackTraceElement;" (va_rf r) A U H := by
  rcases h.2.2.2.2.1.2.1 with h | ⟨t, h⟩
  · exact ⟨none, h⟩
  · exact ⟨some t, h⟩
theorem CX.zN {g : GG} {A : Nat → Prop} {U : State} {H : Heap} (h : CX g A U H) : ∃ r : Option Nat, va_Z "java/lang/Throwable" "SUPPRESSED_SENTINEL" "Ljava/util/List;" (va_rf r) A U H := by
  rcases h.2.2.2.2.1.2.2 with h | ⟨t, h⟩
  · exact ⟨none, h⟩
  · exact ⟨some t, h⟩
theorem CX.cast {g : GG} {A : Nat → Prop} {U : State} {H : Heap} (h : CX g A U H) {args : Array Value} : (Cond.castable "LaneCymbals$Fault" "LaneCymbals$Fault").before args U = true := va_Nw.use rfl h.2.2.2.2.2
theorem any_of {E X : String} {t : Nat} {A : Nat → Prop} {s : State} {H : Heap} {locs : List Loc} (hO : va_O X t A s s.heap) (hS : va_S A s.heap H locs) (hca : X = E ∨ va_Nw (.castable X E) s) : va_Any E s H t := by
  obtain ⟨cell, h1, h2, h3⟩ := va_Orecv hO hS
  obtain ⟨kC, hkC, -⟩ := Vm.findClass_spec h3
  refine ⟨cell, h1, h2, ⟨kC, hkC⟩, fun comp h => ?_⟩
  rcases hca with rfl | hca
  · cases h.symm.trans h3
    exact va_asg _ _
  · exact vb_asgC hca comp _ h h3
theorem CX.anyOne {g : GG} {A : Nat → Prop} {s : State} {H : Heap} {locs : List Loc} (h : CX g A s s.heap) (hS : va_S A s.heap H locs) {k : Nat} (hk : k < 6) : va_Any "LaneCymbals$One" s H (gk g k) := by
  refine any_of (h.one hk) hS ?_
  by_cases h0 : k = 0
  · subst h0; exact Or.inl rfl
  · exact Or.inr (h.1.2.2.2.2.2.2.1 k hk h0)
theorem CX.anyAunt {g : GG} {A : Nat → Prop} {s : State} {H : Heap} {locs : List Loc} (h : CX g A s s.heap) (hS : va_S A s.heap H locs) {k : Nat} (hk : k < 6) : va_Any "LaneCymbals$Aunt" s H (gm g k) := by
  refine any_of (h.aunt hk) hS ?_
  by_cases h0 : k = 0
  · subst h0; exact Or.inl rfl
  · exact Or.inr (h.1.2.2.2.2.2.2.2 k hk h0)
/-- all places hold nothing, or a number under six -/
def okk (pk : Nat → Option Nat) (n : Nat) : Bool := (List.range n).all (fun i => match pk i with | none => true | some k => decide (k < 6))
theorem okk_at {pk : Nat → Option Nat} {n i k : Nat} (h : okk pk n = true) (hi : i < n) (hk : pk i = some k) : k < 6 := by
  have h1 := List.all_eq_true.mp h i (List.mem_range.mpr hi)
  rw [hk] at h1
  exact of_decide_eq_true h1
/-- array class of a kind: one alone -/
theorem CX.arr {D : va_G} {cl : List vw_C} {T T1 : List (ClassId × FieldType)} {U : State} (h : va_K D cl T U) (h1 : va_K D cl T1 U) {i j : Nat} {a b : ClassId} {ty : FieldType} (ha : T[i]? = some (a, ty)) (hb : T1[j]? = some (b, ty)) : a = b := by
  have r1 := (h.2 i _ ha).2
  have r2 := (h1.2 j _ hb).2
  cases ty with
  | object C =>
    obtain ⟨-, -, -, -, -, e1⟩ := r1
    obtain ⟨-, -, -, -, -, e2⟩ := r2
    exact Option.some.inj (e1.symm.trans e2)
  | _ => exact Option.some.inj (r1.symm.trans r2)
/-- references to static objects, by their numbers -/
def rk (kin : Nat → Nat) (pk : Nat → Option Nat) : Nat → Option Nat := fun j => (pk j).map kin
theorem rk_none (kin : Nat → Nat) : (fun _ => none : Nat → Option Nat) = rk kin (fun _ => none) := rfl
theorem rk_some {kin : Nat → Nat} {pk : Nat → Option Nat} {i k : Nat} (h : pk i = some k) : va_rf (rk kin pk i) = .ref (kin k) := by unfold rk; rw [h]; rfl
theorem rk_up (kin : Nat → Nat) (pk : Nat → Option Nat) (i k : Nat) : va_up (rk kin pk) i (some (kin k)) = rk kin (va_up pk i (some k)) := by
  funext j
  unfold va_up rk
  split <;> simp_all
theorem rk_cpy (kin : Nat → Nat) (f g : Nat → Option Nat) (a b n : Nat) : va_cpy (rk kin f) (rk kin g) a b n = rk kin (va_cpy f g a b n) := by
  funext j
  by_cases h : b ≤ j ∧ j < b + n
  · simp [va_cpy, rk, h]
  · simp [va_cpy, rk, h]
theorem CX.allOne {g : GG} {A : Nat → Prop} {s : State} {H : Heap} {locs : List Loc} (h : CX g A s s.heap) (hS : va_S A s.heap H locs) {pk : Nat → Option Nat} {n : Nat} (hk : okk pk n = true) : ∀ i : Nat, i < n → ∀ y : Nat, rk (gk g) pk i = some y → va_Any "LaneCymbals$One" s H y := by
  intro i hi y hy
  unfold rk at hy
  cases hp : pk i with
  | none => rw [hp] at hy; cases hy
  | some k =>
    rw [hp] at hy
    cases hy
    exact h.anyOne hS (okk_at hk hi hp)
theorem CX.allAunt {g : GG} {A : Nat → Prop} {s : State} {H : Heap} {locs : List Loc} (h : CX g A s s.heap) (hS : va_S A s.heap H locs) {pk : Nat → Option Nat} {n : Nat} (hk : okk pk n = true) : ∀ i : Nat, i < n → ∀ y : Nat, rk (gm g) pk i = some y → va_Any "LaneCymbals$Aunt" s H y := by
  intro i hi y hy
  unfold rk at hy
  cases hp : pk i with
  | none => rw [hp] at hy; cases hy
  | some k =>
    rw [hp] at hy
    cases hy
    exact h.anyAunt hS (okk_at hk hi hp)
/-- eight states -/
def rw8 (wa : Nat → Nat) : Nat → Option Nat := fun j => if j < 8 then some (wa j) else none
theorem rw8_at {wa : Nat → Nat} {j : Nat} (h : j < 8) : va_rf (rw8 wa j) = .ref (wa j) := by unfold rw8; rw [if_pos h]; rfl
def pk8 (a0 a1 a2 a3 a4 a5 a6 a7 : Nat) : Nat → Nat := fun j => match j with | 0 => a0 | 1 => a1 | 2 => a2 | 3 => a3 | 4 => a4 | 5 => a5 | 6 => a6 | _ => a7
theorem rw8_fill (a0 a1 a2 a3 a4 a5 a6 a7 : Nat) : va_up (va_up (va_up (va_up (va_up (va_up (va_up (va_up (fun _ => none) 0 (some a0)) 1 (some a1)) 2 (some a2)) 3 (some a3)) 4 (some a4)) 5 (some a5)) 6 (some a6)) 7 (some a7) = rw8 (pk8 a0 a1 a2 a3 a4 a5 a6 a7) := by
  funext j
  unfold va_up rw8
  match j with
  | 0 => rfl
  | 1 => rfl
  | 2 => rfl
  | 3 => rfl
  | 4 => rfl
  | 5 => rfl
  | 6 => rfl
  | 7 => rfl
  | n + 8 => simp
/-- starts and ends -/
def cPw (g : GG) (Wd : va_W) (sz : Nat) : State → Prop := fun U => U.heap.size = sz ∧ va_P g.1 vwCl Wd U.heap ∧ va_D (fun _ => True) Wd ∧ CX g (va_A Wd sz) U U.heap
def cPr (g : GG) (Wd : va_W) : State → Prop := fun U => va_P g.1 vwCl Wd U.heap ∧ CX g (fun _ => False) U U.heap
abbrev qI (g : GG) (r : Int32) (Wd W' : va_W) (sz : Nat) : Array Value → State → Outcome → State → Prop := va_Qi (fun (v : Int32) (_ : Unit) => v = r) (fun _ t => va_P g.1 vwCl W' t.heap ∧ va_D (va_A Wd sz) W') (va_A Wd sz)
abbrev qL (g : GG) (r : Int64) (Wd W' : va_W) (sz : Nat) : Array Value → State → Outcome → State → Prop := va_Ql (fun (v : Int64) (_ : Unit) => v = r) (fun _ t => va_P g.1 vwCl W' t.heap ∧ va_D (va_A Wd sz) W') (va_A Wd sz)
abbrev qV (g : GG) (Wd W' : va_W) (sz : Nat) : Array Value → State → Outcome → State → Prop := va_Qv (fun (_ : Unit) => True) (fun _ t => va_P g.1 vwCl W' t.heap ∧ va_D (va_A Wd sz) W') (va_A Wd sz)
/-- the addresses of what is new: single ones, and rows of eight -/
abbrev UV : Type := (Nat → Nat) × (Nat → Nat → Nat)
abbrev qN (g : GG) (Wd : va_W) (W' : UV → va_W) (sz : Nat) : Array Value → State → Outcome → State → Prop := va_Qv (fun (_ : UV) => True) (fun u t => va_P g.1 vwCl (W' u) t.heap ∧ va_D (va_A Wd sz) (W' u)) (va_A Wd sz)
abbrev qM (g : GG) (r : Int32) (Wd : va_W) (W' : UV → va_W) (sz : Nat) : Array Value → State → Outcome → State → Prop := va_Qi (fun (v : Int32) (_ : UV) => v = r) (fun u t => va_P g.1 vwCl (W' u) t.heap ∧ va_D (va_A Wd sz) (W' u)) (va_A Wd sz)
theorem blindw (g : GG) (Wd : va_W) (sz : Nat) (av : List Value) : FrameBlind (va_Pc av (cPw g Wd sz)) := by
  intro a U f mk q
  obtain ⟨q0, q1, q2, q3, q4⟩ := q
  exact ⟨q0, q1, q2, q3, CX.same (u := U) (U := U.calling f mk a) rfl q4⟩
theorem blindr (g : GG) (Wd : va_W) (av : List Value) : FrameBlind (va_Pc av (cPr g Wd)) := by
  intro a U f mk q
  obtain ⟨q0, q1, q2⟩ := q
  exact ⟨q0, q1, CX.same (u := U) (U := U.calling f mk a) rfl q2⟩
def ckN : List Nat → Bool
  | [] => true
  | a :: l => !(l.any (fun b => Nat.beq a b)) && ckN l
theorem ckN_nd : ∀ l : List Nat, ckN l = true → va_nd l = true
  | [], _ => rfl
  | a :: l, h => by
    simp only [ckN, Bool.and_eq_true, Bool.not_eq_true', List.any_eq_false] at h
    simp only [va_nd, Bool.and_eq_true, decide_eq_true_eq]
    refine ⟨fun hm => h.1 a hm ?_, ckN_nd l h.2⟩
    exact Nat.beq_refl a
def ckD (isC isR : List Nat) : Bool := isR.all (fun i => !(isC.any (fun b => Nat.beq i b)))
theorem ckD_dis {isC isR : List Nat} (h : ckD isC isR = true) : ∀ i ∈ isR, i ∉ isC := by
  intro i hi hc
  have h1 := List.all_eq_true.mp h i hi
  simp only [Bool.not_eq_true', List.any_eq_false] at h1
  exact h1 i hc (Nat.beq_refl i)
theorem ckR_map {α : Type} {Wd : List α} : ∀ (isR : List Nat), isR.all (fun i => Nat.blt i Wd.length) = true → isR.map (fun i => Wd[i]?) = (isR.filterMap (fun i => Wd[i]?)).map some
  | [], _ => rfl
  | a :: l, h => by
    simp only [List.all_cons, Bool.and_eq_true] at h
    have ha : a < Wd.length := Nat.le_of_ble_eq_true h.1
    have e : Wd[a]? = some Wd[a] := List.getElem?_eq_getElem ha
    rw [List.map_cons, List.filterMap_cons, e, ckR_map l h.2]
    rfl
theorem ck_fm {α : Type} {f : Nat → Option α} : ∀ (perm : List Nat) (w : List α), perm.map f = w.map some → perm.filterMap f = w
  | [], [], _ => rfl
  | [], _ :: _, h => by simp at h
  | _ :: _, [], h => by simp at h
  | a :: l, b :: w, h => by
    rw [List.map_cons, List.map_cons] at h
    injection h with h1 h2
    rw [List.filterMap_cons, h1, ck_fm l w h2]
theorem kc_join {g : GG} {A : Nat → Prop} {Wd Wc Wc' Wn : va_W} {H H1 : Heap} (hP : va_P g.1 vwCl Wd H) (hD : va_D A Wd) (isC isR perm : List Nat) (hC : isC.map (fun i => Wd[i]?) = Wc.map some) (hR : isR.all (fun i => Nat.blt i Wd.length) = true) (hn : (ckN isR && ckD isC isR) = true) (hp : ckN perm = true) (hk : ∀ q : Nat, q < H.size → ¬ va_A Wc H.size q → H1[q]? = H[q]?) (hF : ∀ q, va_A Wc H.size q → A q) (hP1 : va_P g.1 vwCl Wc' H1) (hD1 : va_D (va_A Wc H.size) Wc') (hw : perm.map (fun i => (isR.filterMap (fun i => Wd[i]?) ++ Wc')[i]?) = Wn.map some) : va_P g.1 vwCl Wn H1 ∧ va_D A Wn := by
  simp only [Bool.and_eq_true] at hn
  obtain ⟨hP2, hD2⟩ := va_join hP hD isC isR hC (ckR_map isR hR) (ckN_nd _ hn.1) (ckD_dis hn.2) hk hF hP1 hD1
  exact ⟨hP2.sub perm (ck_fm _ _ hw), hD2.sub perm (ckN_nd _ hp) hw⟩
theorem lw_SU {own : String} {idx : Nat} {y : MethodName} {b : ByteArray} {L : Nat} {r : Option FieldType} (h1 : Cond.methodLink own idx y ∈ lw_all) (h2 : Cond.sameMethod y.cls y.cls y.name y.desc ∈ lw_all) (h3 : Cond.superclass own y.cls ∈ lw_all) (h4 : Cond.instanceMethod y ∈ lw_all) (h5 : Cond.initialized y.cls ∈ lw_all) (h6 : Cond.code y b L r ∈ lw_all) : GoodIn lw_all (va_wsSU own idx y (ws_ y b L r)) := by
  refine lw_app ?_ (lw_meth h6)
  intro w hw
  simp only [List.mem_cons, List.not_mem_nil, or_false] at hw
  rcases hw with e | e | e | e | e
  · rw [e]; exact h1
  · rw [e]; exact h2
  · rw [e]; exact h3
  · rw [e]; exact h4
  · rw [e]; exact h5
theorem lw_O {own : String} {idx : Nat} {C owner : String} {x y : MethodName} {b : ByteArray} {L : Nat} {r : Option FieldType} (h1 : Cond.methodLink own idx x ∈ lw_all) (h2 : Cond.sameMethod x.cls owner x.name x.desc ∈ lw_all) (h3 : Cond.instanceMethod ⟨owner, x.name, x.desc⟩ ∈ lw_all) (h4 : Cond.selects C x y ∈ lw_all) (h5 : Cond.instanceMethod y ∈ lw_all) (h6 : Cond.initialized y.cls ∈ lw_all) (h7 : Cond.code y b L r ∈ lw_all) : GoodIn lw_all (va_wsO own idx C owner x y (ws_ y b L r)) := by
  refine lw_app ?_ (lw_meth h7)
  intro w hw
  simp only [List.mem_cons, List.not_mem_nil, or_false] at hw
  rcases hw with e | e | e | e | e | e
  · rw [e]; exact h1
  · rw [e]; exact h2
  · rw [e]; exact h3
  · rw [e]; exact h4
  · rw [e]; exact h5
  · rw [e]; exact h6
section KROWS
variable {p : Program} {l : Launch} {e : Env} {R : Room} {s : State} {m : MethodId} {args : Array Value} {below : List Frame} {meth : Method} {c : Code} {H : Heap} {locs : List Loc} {cells slots : Nat} {Q : State → Prop}
variable {pc : Nat} {ls : Array Slot} {rest st0 : List Value} {g : GG} {A : Nat → Prop} {Wd Wc Wc' Wr : va_W} {As : List Value} {C : String} {b : Nat} {mc ms : Nat} {a : Array Value} {free : Addr → Prop}
theorem preVw (hcx : CX g A s s.heap) (hS : va_S A s.heap H locs) (hP : va_P g.1 vwCl Wc H) (hD : va_D A Wc) (hF : ∀ q, va_A Wc H.size q → A q) (hr : ∃ cell : Cell, H[b]? = some cell ∧ cell.vm.isStatics = false ∧ s.vm.findClass C = some cell.cls) : PreV s H C b (va_Pc (.ref b :: As) (cPw g Wc H.size)) As :=
  ⟨blindw g Wc H.size _, hr, fun U hU hW => ⟨rfl, by rw [hU], by rw [hU]; exact hP, hD.weaken (fun _ _ _ _ => trivial), hcx.to hS hU hW hF⟩⟩
theorem preSw (hcx : CX g A s s.heap) (hS : va_S A s.heap H locs) (hP : va_P g.1 vwCl Wc H) (hD : va_D A Wc) (hF : ∀ q, va_A Wc H.size q → A q) : PreS s H (va_Pc As (cPw g Wc H.size)) As :=
  ⟨blindw g Wc H.size _, fun U hU hW => ⟨rfl, by rw [hU], by rw [hU]; exact hP, hD.weaken (fun _ _ _ _ => trivial), hcx.to hS hU hW hF⟩⟩
theorem preVr (hcx : CX g A s s.heap) (hS : va_S A s.heap H locs) (hP : va_P g.1 vwCl Wc H) (hr : ∃ cell : Cell, H[b]? = some cell ∧ cell.vm.isStatics = false ∧ s.vm.findClass C = some cell.cls) : PreV s H C b (va_Pc (.ref b :: As) (cPr g Wc)) As :=
  ⟨blindr g Wc _, hr, fun U hU hW => ⟨rfl, by rw [hU]; exact hP, hcx.to hS hU hW (fun _ h => h.elim)⟩⟩
theorem preSr (hcx : CX g A s s.heap) (hS : va_S A s.heap H locs) (hP : va_P g.1 vwCl Wc H) : PreS s H (va_Pc As (cPr g Wc)) As :=
  ⟨blindr g Wc _, fun U hU hW => ⟨rfl, by rw [hU]; exact hP, hcx.to hS hU hW (fun _ h => h.elim)⟩⟩
/-- no cells at all -/
theorem preS0 (hcx : CX g A s s.heap) (hS : va_S A s.heap H locs) : PreS s H (va_Pc As (cPr g [])) As := preSr hcx hS (fun k q h => by simp at h)
theorem kc_i {r0 : Int32} {Wn : va_W} (hr : va_Run p l e R s m args below meth c H locs cells slots mc ms (F0 m pc ls st0) rest (qI g r0 Wc Wc' H.size a) free) (hS : va_S A s.heap H locs) (hP : va_P g.1 vwCl Wd H) (hD : va_D A Wd) (isC isR perm : List Nat) (hC : isC.map (fun i => Wd[i]?) = Wc.map some) (hR : isR.all (fun i => Nat.blt i Wd.length) = true) (hn : (ckN isR && ckD isC isR) = true) (hp : ckN perm = true) (hF : ∀ q, va_A Wc H.size q → A q) (hf : ∀ q, free q → A q) (hw : perm.map (fun i => (isR.filterMap (fun i => Wd[i]?) ++ Wc')[i]?) = Wn.map some)
    (kk : ∀ (H1 : Heap) (locs1 : List Loc), va_P g.1 vwCl Wn H1 → va_D A Wn → va_S A s.heap H1 locs1 → W p l e R s m args below meth c H1 locs1 (cells + mc) (slots + ms) Q (F0 m (pc + 3) ls (.int r0 :: rest))) : W p l e R s m args below meth c H locs cells slots Q (F0 m pc ls st0) := by
  refine va_calli hr hS (fun q _ h => hF q h) hf (fun r u t H1 locs1 ht hvm hpost hB hz hk hS1 => ?_)
  obtain ⟨hP1, hD1⟩ := hB
  rw [ht] at hP1
  subst hpost
  obtain ⟨hP2, hD2⟩ := kc_join hP hD isC isR perm hC hR hn hp hk hF hP1 hD1 hw
  exact kk H1 locs1 hP2 hD2 hS1
theorem kc0_i {r0 : Int32} {Wn : va_W} (hr : va_Run p l e R s m args below meth c H locs cells slots 0 0 (F0 m pc ls st0) rest (qI g r0 Wc Wc' H.size a) free) (hS : va_S A s.heap H locs) (hP : va_P g.1 vwCl Wd H) (hD : va_D A Wd) (isC isR perm : List Nat) (hC : isC.map (fun i => Wd[i]?) = Wc.map some) (hR : isR.all (fun i => Nat.blt i Wd.length) = true) (hn : (ckN isR && ckD isC isR) = true) (hp : ckN perm = true) (hF : ∀ q, va_A Wc H.size q → A q) (hf : ∀ q, free q → A q) (hw : perm.map (fun i => (isR.filterMap (fun i => Wd[i]?) ++ Wc')[i]?) = Wn.map some)
    (kk : ∀ (H1 : Heap) (locs1 : List Loc), va_P g.1 vwCl Wn H1 → va_D A Wn → va_S A s.heap H1 locs1 → W p l e R s m args below meth c H1 locs1 cells slots Q (F0 m (pc + 3) ls (.int r0 :: rest))) : W p l e R s m args below meth c H locs cells slots Q (F0 m pc ls st0) := by
  refine va_calli hr hS (fun q _ h => hF q h) hf (fun r u t H1 locs1 ht hvm hpost hB hz hk hS1 => ?_)
  obtain ⟨hP1, hD1⟩ := hB
  rw [ht] at hP1
  subst hpost
  obtain ⟨hP2, hD2⟩ := kc_join hP hD isC isR perm hC hR hn hp hk hF hP1 hD1 hw
  exact kk H1 locs1 hP2 hD2 hS1
theorem kc_l {r0 : Int64} {Wn : va_W} (hr : va_Run p l e R s m args below meth c H locs cells slots mc ms (F0 m pc ls st0) rest (qL g r0 Wc Wc' H.size a) free) (hS : va_S A s.heap H locs) (hP : va_P g.1 vwCl Wd H) (hD : va_D A Wd) (isC isR perm : List Nat) (hC : isC.map (fun i => Wd[i]?) = Wc.map some) (hR : isR.all (fun i => Nat.blt i Wd.length) = true) (hn : (ckN isR && ckD isC isR) = true) (hp : ckN perm = true) (hF : ∀ q, va_A Wc H.size q → A q) (hf : ∀ q, free q → A q) (hw : perm.map (fun i => (isR.filterMap (fun i => Wd[i]?) ++ Wc')[i]?) = Wn.map some)
    (kk : ∀ (H1 : Heap) (locs1 : List Loc), va_P g.1 vwCl Wn H1 → va_D A Wn → va_S A s.heap H1 locs1 → W p l e R s m args below meth c H1 locs1 (cells + mc) (slots + ms) Q (F0 m (pc + 3) ls (.long r0 :: rest))) : W p l e R s m args below meth c H locs cells slots Q (F0 m pc ls st0) := by
  refine va_calll hr hS (fun q _ h => hF q h) hf (fun r u t H1 locs1 ht hvm hpost hB hz hk hS1 => ?_)
  obtain ⟨hP1, hD1⟩ := hB
  rw [ht] at hP1
  subst hpost
  obtain ⟨hP2, hD2⟩ := kc_join hP hD isC isR perm hC hR hn hp hk hF hP1 hD1 hw
  exact kk H1 locs1 hP2 hD2 hS1
theorem kc0_l {r0 : Int64} {Wn : va_W} (hr : va_Run p l e R s m args below meth c H locs cells slots 0 0 (F0 m pc ls st0) rest (qL g r0 Wc Wc' H.size a) free) (hS : va_S A s.heap H locs) (hP : va_P g.1 vwCl Wd H) (hD : va_D A Wd) (isC isR perm : List Nat) (hC : isC.map (fun i => Wd[i]?) = Wc.map some) (hR : isR.all (fun i => Nat.blt i Wd.length) = true) (hn : (ckN isR && ckD isC isR) = true) (hp : ckN perm = true) (hF : ∀ q, va_A Wc H.size q → A q) (hf : ∀ q, free q → A q) (hw : perm.map (fun i => (isR.filterMap (fun i => Wd[i]?) ++ Wc')[i]?) = Wn.map some)
    (kk : ∀ (H1 : Heap) (locs1 : List Loc), va_P g.1 vwCl Wn H1 → va_D A Wn → va_S A s.heap H1 locs1 → W p l e R s m args below meth c H1 locs1 cells slots Q (F0 m (pc + 3) ls (.long r0 :: rest))) : W p l e R s m args below meth c H locs cells slots Q (F0 m pc ls st0) := by
  refine va_calll hr hS (fun q _ h => hF q h) hf (fun r u t H1 locs1 ht hvm hpost hB hz hk hS1 => ?_)
  obtain ⟨hP1, hD1⟩ := hB
  rw [ht] at hP1
  subst hpost
  obtain ⟨hP2, hD2⟩ := kc_join hP hD isC isR perm hC hR hn hp hk hF hP1 hD1 hw
  exact kk H1 locs1 hP2 hD2 hS1
theorem kc_v {Wn : va_W} (hr : va_Run p l e R s m args below meth c H locs cells slots mc ms (F0 m pc ls st0) rest (qV g Wc Wc' H.size a) free) (hS : va_S A s.heap H locs) (hP : va_P g.1 vwCl Wd H) (hD : va_D A Wd) (isC isR perm : List Nat) (hC : isC.map (fun i => Wd[i]?) = Wc.map some) (hR : isR.all (fun i => Nat.blt i Wd.length) = true) (hn : (ckN isR && ckD isC isR) = true) (hp : ckN perm = true) (hF : ∀ q, va_A Wc H.size q → A q) (hf : ∀ q, free q → A q) (hw : perm.map (fun i => (isR.filterMap (fun i => Wd[i]?) ++ Wc')[i]?) = Wn.map some)
    (kk : ∀ (H1 : Heap) (locs1 : List Loc), va_P g.1 vwCl Wn H1 → va_D A Wn → va_S A s.heap H1 locs1 → W p l e R s m args below meth c H1 locs1 (cells + mc) (slots + ms) Q (F0 m (pc + 3) ls rest)) : W p l e R s m args below meth c H locs cells slots Q (F0 m pc ls st0) := by
  refine va_callv hr hS (fun q _ h => hF q h) hf (fun u t H1 locs1 ht hvm hpost hB hz hk hS1 => ?_)
  obtain ⟨hP1, hD1⟩ := hB
  rw [ht] at hP1
  obtain ⟨hP2, hD2⟩ := kc_join hP hD isC isR perm hC hR hn hp hk hF hP1 hD1 hw
  exact kk H1 locs1 hP2 hD2 hS1
theorem kc0_v {Wn : va_W} (hr : va_Run p l e R s m args below meth c H locs cells slots 0 0 (F0 m pc ls st0) rest (qV g Wc Wc' H.size a) free) (hS : va_S A s.heap H locs) (hP : va_P g.1 vwCl Wd H) (hD : va_D A Wd) (isC isR perm : List Nat) (hC : isC.map (fun i => Wd[i]?) = Wc.map some) (hR : isR.all (fun i => Nat.blt i Wd.length) = true) (hn : (ckN isR && ckD isC isR) = true) (hp : ckN perm = true) (hF : ∀ q, va_A Wc H.size q → A q) (hf : ∀ q, free q → A q) (hw : perm.map (fun i => (isR.filterMap (fun i => Wd[i]?) ++ Wc')[i]?) = Wn.map some)
    (kk : ∀ (H1 : Heap) (locs1 : List Loc), va_P g.1 vwCl Wn H1 → va_D A Wn → va_S A s.heap H1 locs1 → W p l e R s m args below meth c H1 locs1 cells slots Q (F0 m (pc + 3) ls rest)) : W p l e R s m args below meth c H locs cells slots Q (F0 m pc ls st0) := by
  refine va_callv hr hS (fun q _ h => hF q h) hf (fun u t H1 locs1 ht hvm hpost hB hz hk hS1 => ?_)
  obtain ⟨hP1, hD1⟩ := hB
  rw [ht] at hP1
  obtain ⟨hP2, hD2⟩ := kc_join hP hD isC isR perm hC hR hn hp hk hF hP1 hD1 hw
  exact kk H1 locs1 hP2 hD2 hS1
theorem kc_n {W1 : UV → va_W} (hr : va_Run p l e R s m args below meth c H locs cells slots mc ms (F0 m pc ls st0) rest (qN g Wc W1 H.size a) free) (hS : va_S A s.heap H locs) (hP : va_P g.1 vwCl Wd H) (hD : va_D A Wd) (isC isR : List Nat) (hC : isC.map (fun i => Wd[i]?) = Wc.map some) (hR : isR.all (fun i => Nat.blt i Wd.length) = true) (hn : (ckN isR && ckD isC isR) = true) (hF : ∀ q, va_A Wc H.size q → A q) (hf : ∀ q, free q → A q)
    (kk : ∀ (u : UV) (H1 : Heap) (locs1 : List Loc), va_P g.1 vwCl (isR.filterMap (fun i => Wd[i]?) ++ W1 u) H1 → va_D A (isR.filterMap (fun i => Wd[i]?) ++ W1 u) → va_S A s.heap H1 locs1 → W p l e R s m args below meth c H1 locs1 (cells + mc) (slots + ms) Q (F0 m (pc + 3) ls rest)) : W p l e R s m args below meth c H locs cells slots Q (F0 m pc ls st0) := by
  refine va_callv hr hS (fun q _ h => hF q h) hf (fun u t H1 locs1 ht hvm hpost hB hz hk hS1 => ?_)
  obtain ⟨hP1, hD1⟩ := hB
  rw [ht] at hP1
  simp only [Bool.and_eq_true] at hn
  obtain ⟨hP2, hD2⟩ := va_join hP hD isC isR hC (ckR_map isR hR) (ckN_nd _ hn.1) (ckD_dis hn.2) hk hF hP1 hD1
  exact kk u H1 locs1 hP2 hD2 hS1
/-- calls that leave the heap as it is -/
theorem ks_i {r0 : Int32} (hr : va_Run p l e R s m args below meth c H locs cells slots 0 0 (F0 m pc ls st0) rest (vp_Si (fun v => v = r0) a) (fun _ => False)) (kk : W p l e R s m args below meth c H locs cells slots Q (F0 m (pc + 3) ls (.int r0 :: rest))) : W p l e R s m args below meth c H locs cells slots Q (F0 m pc ls st0) :=
  vp_callSi hr.run (fun r h => by rw [h]; exact kk)
theorem ks_l {r0 : Int64} (hr : va_Run p l e R s m args below meth c H locs cells slots 0 0 (F0 m pc ls st0) rest (vp_Sl (fun v => v = r0) a) (fun _ => False)) (kk : W p l e R s m args below meth c H locs cells slots Q (F0 m (pc + 3) ls (.long r0 :: rest))) : W p l e R s m args below meth c H locs cells slots Q (F0 m pc ls st0) :=
  vp_callSl hr.run (fun r h => by rw [h]; exact kk)
theorem ks_v (hr : va_Run p l e R s m args below meth c H locs cells slots 0 0 (F0 m pc ls st0) rest (va_Sv (fun _ => True) a) (fun _ => False)) (kk : W p l e R s m args below meth c H locs cells slots Q (F0 m (pc + 3) ls rest)) : W p l e R s m args below meth c H locs cells slots Q (F0 m pc ls st0) :=
  va_csv hr.run (fun _ => kk)
theorem lv_eqi {x y : Int32} (h : y = x) (k : W p l e R s m args below meth c H locs cells slots Q (F0 m pc ls (.int y :: rest))) : W p l e R s m args below meth c H locs cells slots Q (F0 m pc ls (.int x :: rest)) := h ▸ k
theorem lv_eql {x y : Int64} (h : y = x) (k : W p l e R s m args below meth c H locs cells slots Q (F0 m pc ls (.long y :: rest))) : W p l e R s m args below meth c H locs cells slots Q (F0 m pc ls (.long x :: rest)) := h ▸ k
theorem lv_eqv {x y : Value} (h : x = y) (k : W p l e R s m args below meth c H locs cells slots Q (F0 m pc ls (y :: rest))) : W p l e R s m args below meth c H locs cells slots Q (F0 m pc ls (x :: rest)) := h ▸ k
/-- the rest of a walk, proved once, for a place that several ways lead to -/
theorem lv_once {pc' : Nat} {st' : List Value} (k : W p l e R s m args below meth c H locs cells slots Q (F0 m pc' ls st')) (h : W p l e R s m args below meth c H locs cells slots Q (F0 m pc' ls st') → W p l e R s m args below meth c H locs cells slots Q (F0 m pc ls rest)) : W p l e R s m args below meth c H locs cells slots Q (F0 m pc ls rest) := h k
theorem lv_enter {av : List Value} {n : Nat} (h : (lg_sl av).length ≤ n) (k : ∀ ls : Array Slot, lv_has ls n (lv_args 0 av) → W p l e R s m av.toArray below meth c H locs cells slots Q (F0 m 0 ls [])) : W p l e R s m av.toArray below meth c H locs cells slots Q (entryFrame m av.toArray n) := by
  have hl := lv_entry av h
  rw [lg_entry_eq]
  exact k _ hl
end KROWS
theorem met_wi {l : Launch} {y : MethodName} {cc : ByteArray} {maxL : Nat} {ret : FieldType} {rm : Room} {mc ms sz : Nat} {g : GG} {Wd W' : va_W} {r : Int32} {av : List Value} (hy : plainName y.cls = true) (hlen : (lg_sl av).length ≤ maxL)
    (body : ∀ (p : Program) (e : Env) (s : State) (m : MethodId) (args : Array Value) (below : List Frame) (meth : Method) (c : Code) (A : Nat → Prop) (Q : State → Prop), p.tables.exec = Jvm.exec → c.code = cc → c.maxLocals = maxL → s.vm.findClass y.cls = some m.cls → (∀ w ∈ lw_all, w.before args s = true) → CX g A s s.heap → (∀ q : Nat, s.heap.size ≤ q → A q) →
      (∀ (pc : Nat) (H : Heap) (locs : List Loc) (ls : Array Slot), decode cc pc = .ok (.ireturn, 1) → (ret = .int ∨ narrow ret (.int r) = .int r) → va_P g.1 vwCl W' H → va_D A W' → va_S A s.heap H locs → W p l e rm s m args below meth c H locs mc ms Q (F0 m pc ls [.int r])) →
      ∀ (H : Heap) (locs : List Loc), va_P g.1 vwCl Wd H → va_D A Wd → va_S A s.heap H locs → ∀ ls : Array Slot, lv_has ls maxL (lv_args 0 av) → W p l e rm s m args below meth c H locs 0 0 Q (F0 m 0 ls [])) :
    Met l y (ws_ y cc maxL (some ret)) rm (va_Pc av (cPw g Wd sz)) (qI g r Wd W' sz) mc ms (va_A Wd sz) := by
  refine Met.ofW (cc := cc) (maxL := maxL) (ret := some ret) hy rfl ?_
  intro p e s m args below meth c s₁ B hml hv
  obtain ⟨rfl, hsz, hP, hD0, hcx⟩ := hv
  have hts := atoms_spec (ws := ws_ y cc maxL (some ret)) B.pre
  subst hsz
  refine lv_enter hlen (fun ls hl => ?_)
  have hret := B.returns
  have hlocks := B.notSynchronized
  refine body p e s m _ below meth c (va_A Wd s.heap.size) _ B.exec B.bytes hml (findClass_of_methodNamed B.named) (fun w h => hts w (List.mem_cons_of_mem _ h)) hcx (fun q h => Or.inr h) ?_ _ _ hP hD0.self va_S.rf ls hl
  intro pc H locs ls hdg hn hP9 hD9 hS
  rcases hn with hi | hn
  · subst hi
    exact W.iret (v := r) B.exec B.bytes hret (fun t ht hW => ⟨⟨r, (), rfl, rfl, by rw [ht]; exact hP9, hD9⟩, hS.F ht⟩) hS.2.2 hdg hlocks
  · exact W.zret (v := r) B.exec B.bytes hret hn (fun t ht hW => ⟨⟨r, (), rfl, rfl, by rw [ht]; exact hP9, hD9⟩, hS.F ht⟩) hS.2.2 hdg hlocks
theorem met_mi {l : Launch} {y : MethodName} {cc : ByteArray} {maxL : Nat} {ret : FieldType} {rm : Room} {mc ms sz : Nat} {g : GG} {Wd : va_W} {W' : UV → va_W} {r : Int32} {av : List Value} (hy : plainName y.cls = true) (hlen : (lg_sl av).length ≤ maxL)
    (body : ∀ (p : Program) (e : Env) (s : State) (m : MethodId) (args : Array Value) (below : List Frame) (meth : Method) (c : Code) (A : Nat → Prop) (Q : State → Prop), p.tables.exec = Jvm.exec → c.code = cc → c.maxLocals = maxL → s.vm.findClass y.cls = some m.cls → (∀ w ∈ lw_all, w.before args s = true) → CX g A s s.heap → (∀ q : Nat, s.heap.size ≤ q → A q) →
      (∀ (u : UV) (pc : Nat) (H : Heap) (locs : List Loc) (ls : Array Slot), decode cc pc = .ok (.ireturn, 1) → (ret = .int ∨ narrow ret (.int r) = .int r) → va_P g.1 vwCl (W' u) H → va_D A (W' u) → va_S A s.heap H locs → W p l e rm s m args below meth c H locs mc ms Q (F0 m pc ls [.int r])) →
      ∀ (H : Heap) (locs : List Loc), va_P g.1 vwCl Wd H → va_D A Wd → va_S A s.heap H locs → ∀ ls : Array Slot, lv_has ls maxL (lv_args 0 av) → W p l e rm s m args below meth c H locs 0 0 Q (F0 m 0 ls [])) :
    Met l y (ws_ y cc maxL (some ret)) rm (va_Pc av (cPw g Wd sz)) (qM g r Wd W' sz) mc ms (va_A Wd sz) := by
  refine Met.ofW (cc := cc) (maxL := maxL) (ret := some ret) hy rfl ?_
  intro p e s m args below meth c s₁ B hml hv
  obtain ⟨rfl, hsz, hP, hD0, hcx⟩ := hv
  have hts := atoms_spec (ws := ws_ y cc maxL (some ret)) B.pre
  subst hsz
  refine lv_enter hlen (fun ls hl => ?_)
  have hret := B.returns
  have hlocks := B.notSynchronized
  refine body p e s m _ below meth c (va_A Wd s.heap.size) _ B.exec B.bytes hml (findClass_of_methodNamed B.named) (fun w h => hts w (List.mem_cons_of_mem _ h)) hcx (fun q h => Or.inr h) ?_ _ _ hP hD0.self va_S.rf ls hl
  intro u pc H locs ls hdg hn hP9 hD9 hS
  rcases hn with hi | hn
  · subst hi
    exact W.iret (v := r) B.exec B.bytes hret (fun t ht hW => ⟨⟨r, u, rfl, rfl, by rw [ht]; exact hP9, hD9⟩, hS.F ht⟩) hS.2.2 hdg hlocks
  · exact W.zret (v := r) B.exec B.bytes hret hn (fun t ht hW => ⟨⟨r, u, rfl, rfl, by rw [ht]; exact hP9, hD9⟩, hS.F ht⟩) hS.2.2 hdg hlocks
theorem met_wl {l : Launch} {y : MethodName} {cc : ByteArray} {maxL : Nat} {rm : Room} {mc ms sz : Nat} {g : GG} {Wd W' : va_W} {r : Int64} {av : List Value} (hy : plainName y.cls = true) (hlen : (lg_sl av).length ≤ maxL)
    (body : ∀ (p : Program) (e : Env) (s : State) (m : MethodId) (args : Array Value) (below : List Frame) (meth : Method) (c : Code) (A : Nat → Prop) (Q : State → Prop), p.tables.exec = Jvm.exec → c.code = cc → c.maxLocals = maxL → s.vm.findClass y.cls = some m.cls → (∀ w ∈ lw_all, w.before args s = true) → CX g A s s.heap → (∀ q : Nat, s.heap.size ≤ q → A q) →
      (∀ (pc : Nat) (H : Heap) (locs : List Loc) (ls : Array Slot), decode cc pc = .ok (.lreturn, 1) → va_P g.1 vwCl W' H → va_D A W' → va_S A s.heap H locs → W p l e rm s m args below meth c H locs mc ms Q (F0 m pc ls [.long r])) →
      ∀ (H : Heap) (locs : List Loc), va_P g.1 vwCl Wd H → va_D A Wd → va_S A s.heap H locs → ∀ ls : Array Slot, lv_has ls maxL (lv_args 0 av) → W p l e rm s m args below meth c H locs 0 0 Q (F0 m 0 ls [])) :
    Met l y (ws_ y cc maxL (some .long)) rm (va_Pc av (cPw g Wd sz)) (qL g r Wd W' sz) mc ms (va_A Wd sz) := by
  refine Met.ofW (cc := cc) (maxL := maxL) (ret := some .long) hy rfl ?_
  intro p e s m args below meth c s₁ B hml hv
  obtain ⟨rfl, hsz, hP, hD0, hcx⟩ := hv
  have hts := atoms_spec (ws := ws_ y cc maxL (some .long)) B.pre
  subst hsz
  refine lv_enter hlen (fun ls hl => ?_)
  have hret := B.returns
  have hlocks := B.notSynchronized
  refine body p e s m _ below meth c (va_A Wd s.heap.size) _ B.exec B.bytes hml (findClass_of_methodNamed B.named) (fun w h => hts w (List.mem_cons_of_mem _ h)) hcx (fun q h => Or.inr h) ?_ _ _ hP hD0.self va_S.rf ls hl
  intro pc H locs ls hdg hP9 hD9 hS
  exact W.lret (v := r) B.exec B.bytes hret (fun t ht hW => ⟨⟨r, (), rfl, rfl, by rw [ht]; exact hP9, hD9⟩, hS.F ht⟩) hS.2.2 hdg hlocks
theorem met_wv {l : Launch} {y : MethodName} {cc : ByteArray} {maxL : Nat} {rm : Room} {mc ms sz : Nat} {g : GG} {Wd W' : va_W} {av : List Value} (hy : plainName y.cls = true) (hlen : (lg_sl av).length ≤ maxL)
    (body : ∀ (p : Program) (e : Env) (s : State) (m : MethodId) (args : Array Value) (below : List Frame) (meth : Method) (c : Code) (A : Nat → Prop) (Q : State → Prop), p.tables.exec = Jvm.exec → c.code = cc → c.maxLocals = maxL → s.vm.findClass y.cls = some m.cls → (∀ w ∈ lw_all, w.before args s = true) → CX g A s s.heap → (∀ q : Nat, s.heap.size ≤ q → A q) →
      (∀ (pc : Nat) (H : Heap) (locs : List Loc) (ls : Array Slot), decode cc pc = .ok (.return_, 1) → va_P g.1 vwCl W' H → va_D A W' → va_S A s.heap H locs → W p l e rm s m args below meth c H locs mc ms Q (F0 m pc ls [])) → (meth.name = y.name) →
      ∀ (H : Heap) (locs : List Loc), va_P g.1 vwCl Wd H → va_D A Wd → va_S A s.heap H locs → ∀ ls : Array Slot, lv_has ls maxL (lv_args 0 av) → W p l e rm s m args below meth c H locs 0 0 Q (F0 m 0 ls [])) :
    Met l y (ws_ y cc maxL none) rm (va_Pc av (cPw g Wd sz)) (qV g Wd W' sz) mc ms (va_A Wd sz) := by
  refine Met.ofW (cc := cc) (maxL := maxL) (ret := none) hy rfl ?_
  intro p e s m args below meth c s₁ B hml hv
  obtain ⟨rfl, hsz, hP, hD0, hcx⟩ := hv
  have hts := atoms_spec (ws := ws_ y cc maxL none) B.pre
  subst hsz
  refine lv_enter hlen (fun ls hl => ?_)
  have hret := B.returns
  have hlocks := B.notSynchronized
  refine body p e s m _ below meth c (va_A Wd s.heap.size) _ B.exec B.bytes hml (findClass_of_methodNamed B.named) (fun w h => hts w (List.mem_cons_of_mem _ h)) hcx (fun q h => Or.inr h) ?_ (name_of_methodNamed B.named B.method).1 _ _ hP hD0.self va_S.rf ls hl
  intro pc H locs ls hdg hP9 hD9 hS
  exact W.vret B.exec B.bytes hret (fun t ht hW => ⟨⟨(), rfl, trivial, by rw [ht]; exact hP9, hD9⟩, hS.F ht⟩) hS.2.2 hdg hlocks
theorem met_wn {l : Launch} {y : MethodName} {cc : ByteArray} {maxL : Nat} {rm : Room} {mc ms sz : Nat} {g : GG} {Wd : va_W} {W' : UV → va_W} {av : List Value} (hy : plainName y.cls = true) (hlen : (lg_sl av).length ≤ maxL)
    (body : ∀ (p : Program) (e : Env) (s : State) (m : MethodId) (args : Array Value) (below : List Frame) (meth : Method) (c : Code) (A : Nat → Prop) (Q : State → Prop), p.tables.exec = Jvm.exec → c.code = cc → c.maxLocals = maxL → s.vm.findClass y.cls = some m.cls → (∀ w ∈ lw_all, w.before args s = true) → CX g A s s.heap → (∀ q : Nat, s.heap.size ≤ q → A q) →
      (∀ (u : UV) (pc : Nat) (H : Heap) (locs : List Loc) (ls : Array Slot), decode cc pc = .ok (.return_, 1) → va_P g.1 vwCl (W' u) H → va_D A (W' u) → va_S A s.heap H locs → W p l e rm s m args below meth c H locs mc ms Q (F0 m pc ls [])) → (meth.name = y.name) →
      ∀ (H : Heap) (locs : List Loc), va_P g.1 vwCl Wd H → va_D A Wd → va_S A s.heap H locs → ∀ ls : Array Slot, lv_has ls maxL (lv_args 0 av) → W p l e rm s m args below meth c H locs 0 0 Q (F0 m 0 ls [])) :
    Met l y (ws_ y cc maxL none) rm (va_Pc av (cPw g Wd sz)) (qN g Wd W' sz) mc ms (va_A Wd sz) := by
  refine Met.ofW (cc := cc) (maxL := maxL) (ret := none) hy rfl ?_
  intro p e s m args below meth c s₁ B hml hv
  obtain ⟨rfl, hsz, hP, hD0, hcx⟩ := hv
  have hts := atoms_spec (ws := ws_ y cc maxL none) B.pre
  subst hsz
  refine lv_enter hlen (fun ls hl => ?_)
  have hret := B.returns
  have hlocks := B.notSynchronized
  refine body p e s m _ below meth c (va_A Wd s.heap.size) _ B.exec B.bytes hml (findClass_of_methodNamed B.named) (fun w h => hts w (List.mem_cons_of_mem _ h)) hcx (fun q h => Or.inr h) ?_ (name_of_methodNamed B.named B.method).1 _ _ hP hD0.self va_S.rf ls hl
  intro u pc H locs ls hdg hP9 hD9 hS
  exact W.vret B.exec B.bytes hret (fun t ht hW => ⟨⟨u, rfl, trivial, by rw [ht]; exact hP9, hD9⟩, hS.F ht⟩) hS.2.2 hdg hlocks
/-- a method that leaves the heap as it is -/
theorem met_ri {l : Launch} {y : MethodName} {cc : ByteArray} {maxL : Nat} {ret : FieldType} {rm : Room} {g : GG} {Wd : va_W} {r : Int32} {av : List Value} (hy : plainName y.cls = true) (hlen : (lg_sl av).length ≤ maxL)
    (body : ∀ (p : Program) (e : Env) (s : State) (m : MethodId) (args : Array Value) (below : List Frame) (meth : Method) (c : Code) (Q : State → Prop), p.tables.exec = Jvm.exec → c.code = cc → c.maxLocals = maxL → s.vm.findClass y.cls = some m.cls → (∀ w ∈ lw_all, w.before args s = true) → CX g (fun _ => False) s s.heap → va_P g.1 vwCl Wd s.heap → va_S (fun _ => False) s.heap s.heap [] →
      (∀ (pc : Nat) (ls : Array Slot), decode cc pc = .ok (.ireturn, 1) → (ret = .int ∨ narrow ret (.int r) = .int r) → W p l e rm s m args below meth c s.heap [] 0 0 Q (F0 m pc ls [.int r])) →
      ∀ ls : Array Slot, lv_has ls maxL (lv_args 0 av) → W p l e rm s m args below meth c s.heap [] 0 0 Q (F0 m 0 ls [])) :
    Met l y (ws_ y cc maxL (some ret)) rm (va_Pc av (cPr g Wd)) (vp_Si (fun v => v = r)) 0 0 (fun _ => False) := by
  refine Met.ofW (cc := cc) (maxL := maxL) (ret := some ret) hy rfl ?_
  intro p e s m args below meth c s₁ B hml hv
  obtain ⟨rfl, hP, hcx⟩ := hv
  have hts := atoms_spec (ws := ws_ y cc maxL (some ret)) B.pre
  refine lv_enter hlen (fun ls hl => ?_)
  have hret := B.returns
  have hlocks := B.notSynchronized
  refine body p e s m _ below meth c _ B.exec B.bytes hml (findClass_of_methodNamed B.named) (fun w h => hts w (List.mem_cons_of_mem _ h)) hcx hP va_S.rf ?_ ls hl
  intro pc ls hdg hn
  rcases hn with hi | hn
  · subst hi
    exact W.iret (v := r) B.exec B.bytes hret (fun t ht hW => ⟨r, rfl, rfl, ht⟩) (fun q h => by cases h) hdg hlocks
  · exact W.zret (v := r) B.exec B.bytes hret hn (fun t ht hW => ⟨r, rfl, rfl, ht⟩) (fun q h => by cases h) hdg hlocks
theorem met_rl {l : Launch} {y : MethodName} {cc : ByteArray} {maxL : Nat} {rm : Room} {g : GG} {Wd : va_W} {r : Int64} {av : List Value} (hy : plainName y.cls = true) (hlen : (lg_sl av).length ≤ maxL)
    (body : ∀ (p : Program) (e : Env) (s : State) (m : MethodId) (args : Array Value) (below : List Frame) (meth : Method) (c : Code) (Q : State → Prop), p.tables.exec = Jvm.exec → c.code = cc → c.maxLocals = maxL → s.vm.findClass y.cls = some m.cls → (∀ w ∈ lw_all, w.before args s = true) → CX g (fun _ => False) s s.heap → va_P g.1 vwCl Wd s.heap → va_S (fun _ => False) s.heap s.heap [] →
      (∀ (pc : Nat) (ls : Array Slot), decode cc pc = .ok (.lreturn, 1) → W p l e rm s m args below meth c s.heap [] 0 0 Q (F0 m pc ls [.long r])) →
      ∀ ls : Array Slot, lv_has ls maxL (lv_args 0 av) → W p l e rm s m args below meth c s.heap [] 0 0 Q (F0 m 0 ls [])) :
    Met l y (ws_ y cc maxL (some .long)) rm (va_Pc av (cPr g Wd)) (vp_Sl (fun v => v = r)) 0 0 (fun _ => False) := by
  refine Met.ofW (cc := cc) (maxL := maxL) (ret := some .long) hy rfl ?_
  intro p e s m args below meth c s₁ B hml hv
  obtain ⟨rfl, hP, hcx⟩ := hv
  have hts := atoms_spec (ws := ws_ y cc maxL (some .long)) B.pre
  refine lv_enter hlen (fun ls hl => ?_)
  have hret := B.returns
  have hlocks := B.notSynchronized
  refine body p e s m _ below meth c _ B.exec B.bytes hml (findClass_of_methodNamed B.named) (fun w h => hts w (List.mem_cons_of_mem _ h)) hcx hP va_S.rf ?_ ls hl
  intro pc ls hdg
  exact W.lret (v := r) B.exec B.bytes hret (fun t ht hW => ⟨r, rfl, rfl, ht⟩) (fun q h => by cases h) hdg hlocks
theorem met_rv {l : Launch} {y : MethodName} {cc : ByteArray} {maxL : Nat} {rm : Room} {g : GG} {Wd : va_W} {av : List Value} (hy : plainName y.cls = true) (hlen : (lg_sl av).length ≤ maxL)
    (body : ∀ (p : Program) (e : Env) (s : State) (m : MethodId) (args : Array Value) (below : List Frame) (meth : Method) (c : Code) (Q : State → Prop), p.tables.exec = Jvm.exec → c.code = cc → c.maxLocals = maxL → s.vm.findClass y.cls = some m.cls → (∀ w ∈ lw_all, w.before args s = true) → CX g (fun _ => False) s s.heap → va_P g.1 vwCl Wd s.heap → va_S (fun _ => False) s.heap s.heap [] →
      (∀ (pc : Nat) (ls : Array Slot), decode cc pc = .ok (.return_, 1) → W p l e rm s m args below meth c s.heap [] 0 0 Q (F0 m pc ls [])) →
      ∀ ls : Array Slot, lv_has ls maxL (lv_args 0 av) → W p l e rm s m args below meth c s.heap [] 0 0 Q (F0 m 0 ls [])) :
    Met l y (ws_ y cc maxL none) rm (va_Pc av (cPr g Wd)) (va_Sv (fun _ => True)) 0 0 (fun _ => False) := by
  refine Met.ofW (cc := cc) (maxL := maxL) (ret := none) hy rfl ?_
  intro p e s m args below meth c s₁ B hml hv
  obtain ⟨rfl, hP, hcx⟩ := hv
  have hts := atoms_spec (ws := ws_ y cc maxL none) B.pre
  refine lv_enter hlen (fun ls hl => ?_)
  have hret := B.returns
  have hlocks := B.notSynchronized
  refine body p e s m _ below meth c _ B.exec B.bytes hml (findClass_of_methodNamed B.named) (fun w h => hts w (List.mem_cons_of_mem _ h)) hcx hP va_S.rf ?_ ls hl
  intro pc ls hdg
  exact W.vret B.exec B.bytes hret (fun t ht hW => ⟨rfl, trivial, ht⟩) (fun q h => by cases h) hdg hlocks
section KROWS2
variable {p : Program} {l : Launch} {e : Env} {R : Room} {s : State} {m : MethodId} {args : Array Value} {below : List Frame} {meth : Method} {c : Code} {H : Heap} {locs : List Loc} {cells slots : Nat} {Q : State → Prop} {cc : ByteArray} {pc : Nat} {ls : Array Slot} {rest : List Value}
/-- a superclass's method on an object that is only known to be of a class -/
theorem run_SU {y : MethodName} {bytes : ByteArray} {maxL nL mc ms n index : Nat} {ret : Option FieldType} {ws : List Cond} {rm : Room} {Pc : Array Value → State → Prop} {Qc : Array Value → State → Outcome → State → Prop} {free : Addr → Prop} {Ts : List Cond} {own C : String} {b : Addr} {As : List Value} {g : JFrame}
    (S : CallFix p m c cc nL s args Ts own) (hM : Met l y ws rm Pc Qc mc ms free) (cw : va_CS R s args own index y bytes maxL ret ws rm mc ms n) (hp : PreV s H C b Pc As)
    (hg : g.method = m) (hn : As.length = n) (hsize : g.locals.size = nL) (hstack : g.stack = As.reverse ++ .ref b :: rest) (hW : 2 * g.monitorRoom + (rest.map fun v => v.category).sum ≤ 8) (hdg : decode cc g.pc = .ok (.invokespecial index, 3)) (hf : cells + mc ≤ R.cells ∧ slots + ms ≤ R.slots) :
    va_Run p l e R s m args below meth c H locs cells slots mc ms g rest (Qc (Value.ref b :: As).toArray) (free) := by
  obtain ⟨⟨hrc, hrs, hfr, hlo, hws, hcw⟩, hl1, hl2, hl3, hl4, hini, hcode, hno, hlen⟩ := cw
  have hK : Back l R p e below s args y 3 8 (PreOf R mc ms Pc) (PostOf Qc mc ms free) := back_of (bytes := bytes) (maxL := maxL) (ret := ret) hM hp.1 hrc hrs hfr hlo hws hcw (fun a' U hW => word_at hW (Or.inl (by first | rfl | simp [Cond.onTables, Cond.keeps, Cond.steady])) hini)
  obtain ⟨hx, hb, hml, ho, -⟩ := S
  obtain ⟨-, ⟨cellB, hcB, hoB, hclB⟩, hPc⟩ := hp
  obtain ⟨kB, hkB, -⟩ := Vm.findClass_spec hclB
  intro T hT X
  obtain ⟨v, vm₁, ⟨U', l2, c2, s2⟩, hW₁, X', ⟨g', mk, t, L, e1, e2, hq, h1, hL, h2, h3⟩, st⟩ := va_callSU X hx (bytes := bytes) (maxL := maxL) (ret := ret) ho hl1 hl2 hl3 hl4 hcode hno hK (by rw [hT]; exact hcB) hoB hkB hg (hsize.trans hml.symm) (argsL := As) (rest := rest) (fun sig h => hn.trans (hlen sig h)) hstack hW (by rw [hb]; exact hdg)
    (fun vm₁ hW₁ => ⟨hf.1, hf.2, hPc (T.setVm vm₁) hT hW₁⟩)
  dsimp only [Pt.U, Pt.locs, Pt.cells, Pt.slots] at X' e1 e2 h1 h2 h3 st
  subst h1; subst h2; subst h3
  exact ⟨v, (T.setVm vm₁).calling g' mk (Value.ref b :: As).toArray, t, U', L, hT, X', hL, e1, e2, hq, st⟩
theorem va_ialdL {cc : ByteArray} {pc : Nat} {ls : Array Slot} {rest : List Value} {D : va_G} {cl : List vw_C} {a : Nat} {tys : List (ClassId × FieldType)} {ws : va_W} (hexec : p.tables.exec = Jvm.exec) (hb : c.code = cc) (hK : va_K D cl tys s) (hP : va_P D cl ws H) (q0 t0 : Nat) {cA : ClassId} {n : Nat} {f : Nat → Int32} (ha : ws[q0]? = some (a, .inl (cA, n, .inl f))) (ht : tys[t0]? = some (cA, .int)) {i : Int32} {k : Nat} (hi : i.toNatClampNeg = k ∧ ¬ i < 0) (hk : k < n) (hdg : decode cc pc = .ok (.iaload, 1))
    (kk : W p l e R s m args below meth c H locs cells slots Q (F0 m (pc + 1) ls (.int (f k) :: rest))) : W p l e R s m args below meth c H locs cells slots Q (F0 m pc ls (.int i :: .ref a :: rest)) := by
  obtain ⟨h1, h2⟩ := hi
  subst h1
  exact va_iald hexec hb hK hP q0 t0 ha ht (fun q => q.elim h2 (fun q => absurd hk (Nat.not_lt.mpr q))) hdg kk
theorem va_baldL {cc : ByteArray} {pc : Nat} {ls : Array Slot} {rest : List Value} {D : va_G} {cl : List vw_C} {a : Nat} {tys : List (ClassId × FieldType)} {ws : va_W} (hexec : p.tables.exec = Jvm.exec) (hb : c.code = cc) (hK : va_K D cl tys s) (hP : va_P D cl ws H) (q0 t0 : Nat) {cA : ClassId} {n : Nat} {f : Nat → Int32} (ha : ws[q0]? = some (a, .inl (cA, n, .inl f))) (ht : tys[t0]? = some (cA, .byte)) {i : Int32} {k : Nat} (hi : i.toNatClampNeg = k ∧ ¬ i < 0) (hk : k < n) (hdg : decode cc pc = .ok (.baload, 1))
    (kk : W p l e R s m args below meth c H locs cells slots Q (F0 m (pc + 1) ls (.int (f k) :: rest))) : W p l e R s m args below meth c H locs cells slots Q (F0 m pc ls (.int i :: .ref a :: rest)) := by
  obtain ⟨h1, h2⟩ := hi
  subst h1
  exact va_bald hexec hb hK hP q0 t0 ha ht (fun q => q.elim h2 (fun q => absurd hk (Nat.not_lt.mpr q))) hdg kk
theorem va_zaldL {cc : ByteArray} {pc : Nat} {ls : Array Slot} {rest : List Value} {D : va_G} {cl : List vw_C} {a : Nat} {tys : List (ClassId × FieldType)} {ws : va_W} (hexec : p.tables.exec = Jvm.exec) (hb : c.code = cc) (hK : va_K D cl tys s) (hP : va_P D cl ws H) (q0 t0 : Nat) {cA : ClassId} {n : Nat} {f : Nat → Int32} (ha : ws[q0]? = some (a, .inl (cA, n, .inl f))) (ht : tys[t0]? = some (cA, .boolean)) {i : Int32} {k : Nat} (hi : i.toNatClampNeg = k ∧ ¬ i < 0) (hk : k < n) (hdg : decode cc pc = .ok (.baload, 1))
    (kk : W p l e R s m args below meth c H locs cells slots Q (F0 m (pc + 1) ls (.int (f k) :: rest))) : W p l e R s m args below meth c H locs cells slots Q (F0 m pc ls (.int i :: .ref a :: rest)) := by
  obtain ⟨h1, h2⟩ := hi
  subst h1
  exact va_zald hexec hb hK hP q0 t0 ha ht (fun q => q.elim h2 (fun q => absurd hk (Nat.not_lt.mpr q))) hdg kk
theorem va_iastL {cc : ByteArray} {pc : Nat} {ls : Array Slot} {rest : List Value} {D : va_G} {cl : List vw_C} {a : Nat} {tys : List (ClassId × FieldType)} {ws : va_W} {A : Nat → Prop} {H0 : Heap} (hexec : p.tables.exec = Jvm.exec) (hb : c.code = cc) (hK : va_K D cl tys s) (hP : va_P D cl ws H) (hD : va_D A ws) (hS : va_S A H0 H locs) (q0 t0 : Nat) {cA : ClassId} {n : Nat} {f : Nat → Int32} (ha : ws[q0]? = some (a, .inl (cA, n, .inl f))) (ht : tys[t0]? = some (cA, .int)) {i x : Int32} {k : Nat} (hi : i.toNatClampNeg = k ∧ ¬ i < 0) (hk : k < n) (hdg : decode cc pc = .ok (.iastore, 1))
    (kk : ∀ (H1 : Heap) (locs1 : List Loc), va_P D cl (ws.set q0 (a, .inl (cA, n, .inl (upd f k x)))) H1 → va_D A (ws.set q0 (a, .inl (cA, n, .inl (upd f k x)))) → va_S A H0 H1 locs1 → W p l e R s m args below meth c H1 locs1 cells slots Q (F0 m (pc + 1) ls rest)) : W p l e R s m args below meth c H locs cells slots Q (F0 m pc ls (.int x :: .int i :: .ref a :: rest)) := by
  obtain ⟨h1, h2⟩ := hi
  subst h1
  exact va_iast hexec hb hK hP hD hS q0 t0 ha ht (fun q => q.elim h2 (fun q => absurd hk (Nat.not_lt.mpr q))) hdg kk
theorem va_bastL {cc : ByteArray} {pc : Nat} {ls : Array Slot} {rest : List Value} {D : va_G} {cl : List vw_C} {a : Nat} {tys : List (ClassId × FieldType)} {ws : va_W} {A : Nat → Prop} {H0 : Heap} (hexec : p.tables.exec = Jvm.exec) (hb : c.code = cc) (hK : va_K D cl tys s) (hP : va_P D cl ws H) (hD : va_D A ws) (hS : va_S A H0 H locs) (q0 t0 : Nat) {cA : ClassId} {n : Nat} {f : Nat → Int32} (ha : ws[q0]? = some (a, .inl (cA, n, .inl f))) (ht : tys[t0]? = some (cA, .byte)) {i x : Int32} {k : Nat} (hi : i.toNatClampNeg = k ∧ ¬ i < 0) (hk : k < n) (hdg : decode cc pc = .ok (.bastore, 1))
    (kk : ∀ (H1 : Heap) (locs1 : List Loc), va_P D cl (ws.set q0 (a, .inl (cA, n, .inl (upd f k (vp_nar .byte x))))) H1 → va_D A (ws.set q0 (a, .inl (cA, n, .inl (upd f k (vp_nar .byte x))))) → va_S A H0 H1 locs1 → W p l e R s m args below meth c H1 locs1 cells slots Q (F0 m (pc + 1) ls rest)) : W p l e R s m args below meth c H locs cells slots Q (F0 m pc ls (.int x :: .int i :: .ref a :: rest)) := by
  obtain ⟨h1, h2⟩ := hi
  subst h1
  exact va_bast hexec hb hK hP hD hS q0 t0 ha ht (fun q => q.elim h2 (fun q => absurd hk (Nat.not_lt.mpr q))) hdg kk
theorem va_zastL {cc : ByteArray} {pc : Nat} {ls : Array Slot} {rest : List Value} {D : va_G} {cl : List vw_C} {a : Nat} {tys : List (ClassId × FieldType)} {ws : va_W} {A : Nat → Prop} {H0 : Heap} (hexec : p.tables.exec = Jvm.exec) (hb : c.code = cc) (hK : va_K D cl tys s) (hP : va_P D cl ws H) (hD : va_D A ws) (hS : va_S A H0 H locs) (q0 t0 : Nat) {cA : ClassId} {n : Nat} {f : Nat → Int32} (ha : ws[q0]? = some (a, .inl (cA, n, .inl f))) (ht : tys[t0]? = some (cA, .boolean)) {i x : Int32} {k : Nat} (hi : i.toNatClampNeg = k ∧ ¬ i < 0) (hk : k < n) (hdg : decode cc pc = .ok (.bastore, 1))
    (kk : ∀ (H1 : Heap) (locs1 : List Loc), va_P D cl (ws.set q0 (a, .inl (cA, n, .inl (upd f k (vp_nar .boolean x))))) H1 → va_D A (ws.set q0 (a, .inl (cA, n, .inl (upd f k (vp_nar .boolean x))))) → va_S A H0 H1 locs1 → W p l e R s m args below meth c H1 locs1 cells slots Q (F0 m (pc + 1) ls rest)) : W p l e R s m args below meth c H locs cells slots Q (F0 m pc ls (.int x :: .int i :: .ref a :: rest)) := by
  obtain ⟨h1, h2⟩ := hi
  subst h1
  exact va_zast hexec hb hK hP hD hS q0 t0 ha ht (fun q => q.elim h2 (fun q => absurd hk (Nat.not_lt.mpr q))) hdg kk
theorem vp_lit {i : Int32} {k n : Nat} (hi : i.toNatClampNeg = k ∧ ¬ i < 0) (hk : k < n) : vp_in i n := fun q => q.elim hi.2 (fun q => absurd hk (Nat.not_lt.mpr (hi.1 ▸ q)))
theorem va_copyiJ {cc : ByteArray} {pc : Nat} {ls : Array Slot} {rest : List Value} {D : va_G} {cl : List vw_C} {a : Nat} {tys : List (ClassId × FieldType)} {ws : va_W} {A : Nat → Prop} {H0 : Heap} (hexec : p.tables.exec = Jvm.exec) (hb : c.code = cc) (hml : c.maxLocals = ls.size) {own : String} {index : Nat} (hown : s.vm.findClass own = some m.cls) (hlink : (Cond.methodLink own index arraycopyName).before args s = true) (hnat : (Cond.native arraycopyName).before args s = true) (hstat : (Cond.static arraycopyName).before args s = true) (hini : (Cond.initialized "java/lang/System").before args s = true)
    (hK : va_K D cl tys s) (hP : va_P D cl ws H) (hD : va_D A ws) (hS : va_S A H0 H locs) (q0 q1 t0 t1 : Nat) {a0 : Nat} {c0 c1 : ClassId} {n0 n1 : Nat} {f g : Nat → Int32} {ty : FieldType} (ha0 : ws[q0]? = some (a0, .inl (c0, n0, .inl f))) (ha1 : ws[q1]? = some (a, .inl (c1, n1, .inl g))) (ht0 : tys[t0]? = some (c0, ty)) (ht1 : tys[t1]? = some (c1, ty))
    {sp dp n : Int32} {sp' dp' n' : Nat} (h1 : sp.toNatClampNeg = sp' ∧ ¬ sp < 0) (h2 : dp.toNatClampNeg = dp' ∧ ¬ dp < 0) (h3 : n.toNatClampNeg = n' ∧ ¬ n < 0) (h4 : sp' + n' ≤ n0) (h5 : dp' + n' ≤ n1) (hprim : refKind ty = false) (hfit : ∀ i, i < n' → fits ty (.int (f (sp' + i))) = true)
    (hframes : 1 ≤ R.frames) (hlocals : (rest.map fun v => v.category).sum + (nativeFrameWords "java/lang/System" "arraycopy" 5 + 11) ≤ R.locals) (hdg : decode cc pc = .ok (.invokestatic index, 3))
    (kk : ∀ (H1 : Heap) (locs1 : List Loc), va_P D cl (ws.set q1 (a, .inl (c1, n1, .inl (va_cpy f g sp' dp' n')))) H1 → va_D A (ws.set q1 (a, .inl (c1, n1, .inl (va_cpy f g sp' dp' n')))) → va_S A H0 H1 locs1 → W p l e R s m args below meth c H1 locs1 cells slots Q (F0 m (pc + 3) ls rest)) : W p l e R s m args below meth c H locs cells slots Q (F0 m pc ls (.int n :: .int dp :: .ref a :: .int sp :: .ref a0 :: rest)) := by
  obtain ⟨e1, h1⟩ := h1
  obtain ⟨e2, h2⟩ := h2
  obtain ⟨e3, h3⟩ := h3
  subst e1; subst e2; subst e3
  exact va_copyi hexec hb hml hown hlink hnat hstat hini hK hP hD hS q0 q1 t0 t1 ha0 ha1 ht0 ht1 hprim h1 h2 h3 h4 h5 hfit hframes hlocals hdg kk
theorem va_copyMJ {cc : ByteArray} {pc : Nat} {ls : Array Slot} {rest : List Value} {D : va_G} {cl : List vw_C} {a : Nat} {tys : List (ClassId × FieldType)} {ws : va_W} {A : Nat → Prop} {H0 : Heap} (hexec : p.tables.exec = Jvm.exec) (hb : c.code = cc) (hml : c.maxLocals = ls.size) {own : String} {index : Nat} (hown : s.vm.findClass own = some m.cls) (hlink : (Cond.methodLink own index arraycopyName).before args s = true) (hnat : (Cond.native arraycopyName).before args s = true) (hstat : (Cond.static arraycopyName).before args s = true) (hini : (Cond.initialized "java/lang/System").before args s = true)
    (hK : va_K D cl tys s) (hP : va_P D cl ws H) (hD : va_D A ws) (hS : va_S A H0 H locs) (q0 q1 t0 t1 : Nat) {a0 : Nat} {c0 c1 : ClassId} {n0 n1 : Nat} {f g : Nat → Option Nat} {E0 E1 : String} (ha0 : ws[q0]? = some (a0, .inl (c0, n0, .inr (.inr (.inr (.inr f)))))) (ha1 : ws[q1]? = some (a, .inl (c1, n1, .inr (.inr (.inr (.inr g)))))) (ht0 : tys[t0]? = some (c0, .object E0)) (ht1 : tys[t1]? = some (c1, .object E1))
    {sp dp n : Int32} {dp' n' : Nat} (h1 : sp.toNatClampNeg = 0 ∧ ¬ sp < 0) (h2 : dp.toNatClampNeg = dp' ∧ ¬ dp < 0) (h3 : n.toNatClampNeg = n' ∧ ¬ n < 0) (h4 : 0 + n' ≤ n0) (h5 : dp' + n' ≤ n1) (hel : ∀ i : Nat, i < n' → ∀ y : Nat, f i = some y → va_Any E1 s H y)
    (hframes : 1 ≤ R.frames) (hlocals : (rest.map fun v => v.category).sum + (nativeFrameWords "java/lang/System" "arraycopy" 5 + 11) ≤ R.locals) (hdg : decode cc pc = .ok (.invokestatic index, 3))
    (kk : ∀ (H1 : Heap) (locs1 : List Loc), va_P D cl (ws.set q1 (a, .inl (c1, n1, .inr (.inr (.inr (.inr (va_cpy f g 0 dp' n'))))))) H1 → va_D A (ws.set q1 (a, .inl (c1, n1, .inr (.inr (.inr (.inr (va_cpy f g 0 dp' n'))))))) → va_S A H0 H1 locs1 → W p l e R s m args below meth c H1 locs1 cells slots Q (F0 m (pc + 3) ls rest)) : W p l e R s m args below meth c H locs cells slots Q (F0 m pc ls (.int n :: .int dp :: .ref a :: .int sp :: .ref a0 :: rest)) := by
  obtain ⟨e1, h1⟩ := h1
  obtain ⟨e2, h2⟩ := h2
  obtain ⟨e3, h3⟩ := h3
  subst e2; subst e3
  refine va_copyM hexec hb hml hown hlink hnat hstat hini hK hP hD hS q0 q1 t0 t1 ha0 ha1 ht0 ht1 h1 h2 h3 (by rw [e1]; exact h4) h5 (fun i hi y hy => hel i hi y (by rw [e1, Nat.zero_add] at hy; exact hy)) hframes hlocals hdg (fun H1 locs1 hP1 hD1 hS1 => kk H1 locs1 ?_ ?_ hS1)
  · rw [e1] at hP1; exact hP1
  · rw [e1] at hD1; exact hD1
theorem lv_iremJ (hexec : p.tables.exec = Jvm.exec) (hb : c.code = cc) {x y : Int32} (hdg : decode cc pc = .ok (.irem, 1)) (hne : ¬ y = 0) (k : W p l e R s m args below meth c H locs cells slots Q (F0 m (pc + 1) ls (.int (jrem x y) :: rest))) : W p l e R s m args below meth c H locs cells slots Q (F0 m pc ls (.int y :: .int x :: rest)) := lv_irem hexec hb hdg hne k
theorem lv_lremJ (hexec : p.tables.exec = Jvm.exec) (hb : c.code = cc) {x y : Int64} (hdg : decode cc pc = .ok (.lrem, 1)) (hne : ¬ y = 0) (k : W p l e R s m args below meth c H locs cells slots Q (F0 m (pc + 1) ls (.long (jlrem x y) :: rest))) : W p l e R s m args below meth c H locs cells slots Q (F0 m pc ls (.long y :: .long x :: rest)) := lv_lrem hexec hb hdg hne k
theorem lv_ishlJ (hexec : p.tables.exec = Jvm.exec) (hb : c.code = cc) {x y : Int32} (hdg : decode cc pc = .ok (.ishl, 1)) (k : W p l e R s m args below meth c H locs cells slots Q (F0 m (pc + 1) ls (.int (jshl x y) :: rest))) : W p l e R s m args below meth c H locs cells slots Q (F0 m pc ls (.int y :: .int x :: rest)) := lv_ishl hexec hb hdg k
theorem lv_ishrJ (hexec : p.tables.exec = Jvm.exec) (hb : c.code = cc) {x y : Int32} (hdg : decode cc pc = .ok (.ishr, 1)) (k : W p l e R s m args below meth c H locs cells slots Q (F0 m (pc + 1) ls (.int (jshr x y) :: rest))) : W p l e R s m args below meth c H locs cells slots Q (F0 m pc ls (.int y :: .int x :: rest)) := lv_ishr hexec hb hdg k
theorem lv_iushrJ (hexec : p.tables.exec = Jvm.exec) (hb : c.code = cc) {x y : Int32} (hdg : decode cc pc = .ok (.iushr, 1)) (k : W p l e R s m args below meth c H locs cells slots Q (F0 m (pc + 1) ls (.int (jushr x y) :: rest))) : W p l e R s m args below meth c H locs cells slots Q (F0 m pc ls (.int y :: .int x :: rest)) := lv_iushr hexec hb hdg rfl k
theorem W.lcmpJ (hexec : p.tables.exec = Jvm.exec) (hb : c.code = cc) {x y : Int64} (hdg : decode cc pc = .ok (.lcmp, 1)) (k : W p l e R s m args below meth c H locs cells slots Q (F0 m (pc + 1) ls (.int (jcmp x y) :: rest))) : W p l e R s m args below meth c H locs cells slots Q (F0 m pc ls (.long y :: .long x :: rest)) := W.lcmp hexec hb hdg k
theorem nar01 {x : Int32} (h : x = 0 ∨ x = 1) : narrow .boolean (.int x) = .int x := by
  rcases h with h | h <;> subst h <;> rfl
theorem fit01 {x : Int32} (h : x = 0 ∨ x = 1) : fits .boolean (.int x) = true := by
  rcases h with h | h <;> subst h <;> rfl
theorem sw_out {x : Int32} {lo hi : Int} {n : Nat} (e : hi + 1 = lo + n) (h : ∀ i : Nat, i < n → ¬ x.toInt = lo + i) : x.toInt < lo ∨ hi < x.toInt := by
  by_cases h1 : x.toInt < lo
  · exact Or.inl h1
  · refine Or.inr ?_
    by_cases h2 : hi < x.toInt
    · exact h2
    · have h3 := h (x.toInt - lo).toNat (by omega)
      exact absurd (by omega) h3
theorem narC {x : Int32} (h : (x.toUInt32 % 65536).toInt32 = x) : narrow .char (.int x) = .int x := by
  have h1 := pk_nc x
  rw [h] at h1
  exact h1
theorem lt6 {k : Nat} (h : k < 6) : k = 0 ∨ k = 1 ∨ k = 2 ∨ k = 3 ∨ k = 4 ∨ k = 5 := by omega
theorem lt8 {k : Nat} (h : k < 8) : k = 0 ∨ k = 1 ∨ k = 2 ∨ k = 3 ∨ k = 4 ∨ k = 5 ∨ k = 6 ∨ k = 7 := by omega
theorem vp_lt {i : Int32} {n : Nat} (h : ¬ (i < 0 ∨ n ≤ i.toNatClampNeg)) : i.toNatClampNeg < n := Nat.not_le.mp fun q => h (Or.inr q)
end KROWS2
