/-! The layer X. A heap is a function from addresses to cells (those at or above a base, all writable); what lies below the base is constant. -/
section XCORE
set_option maxRecDepth 100000
abbrev xH : Type := Nat → Option va_E
/-- classes' ids and slots; array classes' ids; the base; constants' addresses; constants' values; the script -/
abbrev xG : Type := va_G × (Nat → ClassId) × Nat × (Nat → Nat → Nat) × (Nat → Value) × (Nat → Int32)
abbrev xD (g : xG) : va_G := g.1
abbrev xdA (g : xG) : Nat → ClassId := g.2.1
abbrev xba (g : xG) : Nat := g.2.2.1
abbrev xca (g : xG) : Nat → Nat → Nat := g.2.2.2.1
abbrev xcv (g : xG) : Nat → Value := g.2.2.2.2.1
abbrev xsc (g : xG) : Nat → Int32 := g.2.2.2.2.2
def xA (g : xG) : Nat → Prop := fun q => xba g ≤ q
def xu (h : xH) (a : Nat) (e : va_E) : xH := fun b => if b = a then some e else h b
theorem xu_s (h : xH) (a : Nat) (e : va_E) : xu h a e a = some e := by simp [xu]
theorem xu_n {h : xH} {a b : Nat} {e : va_E} (n : b ≠ a) : xu h a e b = h b := by simp [xu, n]
theorem xu_xu (h : xH) (a : Nat) (e e' : va_E) : xu (xu h a e) a e' = xu h a e' := by
  funext b; by_cases n : b = a <;> simp [xu, n]
theorem xu_fresh {h : xH} {a b : Nat} {e : va_E} (hq : h b = none) (ha : h a = some e) : a ≠ b := fun q => by
  rw [q, hq] at ha; cases ha
/-- the array classes, by their numbers -/
abbrev xTys (g : xG) : List (ClassId × FieldType) := [(xdA g 0, .int), (xdA g 1, .boolean), (xdA g 2, .byte), (xdA g 3, .object "java/lang/Object"), (xdA g 4, .object "CribBooklet$Layer"), (xdA g 5, .array (.object "CribBooklet$Layer")), (xdA g 6, .object "CribBooklet$Sheet"), (xdA g 7, .object "java/lang/String")]
/-- words that aren't carried by the lists but move along -/
def xnk : Cond → Bool
  | .fieldLinkNest .. => true
  | .methodLinkNest .. => true
  | .castable .. => true
  | .declares _ => true
  | .publicMethod _ => true
  | .unhidden .. => true
  | .arrayOver (.object _) => true
  | .arrayOver (.array (.object _)) => true
  | _ => false
def xCk (n : String) : MethodName := ⟨"CribBooklet$Command", n, "(LCribBooklet$Sheet;)I"⟩
def xCy (c n : String) : MethodName := ⟨"CribBooklet$" ++ c, n, "(LCribBooklet$Sheet;)I"⟩
abbrev xCmp : MethodName := ⟨"java/lang/Comparable", "compareTo", "(Ljava/lang/Object;)I"⟩
abbrev xCmpr : MethodName := ⟨"java/util/Comparator", "compare", "(Ljava/lang/Object;Ljava/lang/Object;)I"⟩
abbrev xItH : MethodName := ⟨"java/util/Iterator", "hasNext", "()Z"⟩
abbrev xItN : MethodName := ⟨"java/util/Iterator", "next", "()Ljava/lang/Object;"⟩
abbrev xIchk : MethodName := ⟨"CribBooklet$Command", "check", "(LCribBooklet$Sheet;)I"⟩
abbrev xIout : MethodName := ⟨"CribBooklet$Command", "carryOut", "(LCribBooklet$Sheet;)I"⟩
/-- which method runs at an interface's call, by the receiver's class -/
abbrev xFwL : List (String × MethodName × MethodName) := [
  (RX4, xIchk, yX4_check), (RX11, xIchk, yX11_check), (RX12, xIchk, yX12_check), (RX13, xIchk, yX13_check), (RX14, xIchk, yX14_check), (RX15, xIchk, yX15_check), (RX16, xIchk, yX16_check), (RX17, xIchk, yX17_check), (RX18, xIchk, yX18_check), (RX19, xIchk, yX19_check), (RX20, xIchk, yX20_check), (RX21, xIchk, yX21_check), (RX22, xIchk, yX22_check), (RX23, xIchk, yX23_check), (RX24, xIchk, yX24_check),
  (RX4, xIout, yX4_carryOut), (RX11, xIout, yX11_carryOut), (RX12, xIout, yX12_carryOut), (RX13, xIout, yX13_carryOut), (RX14, xIout, yX14_carryOut), (RX15, xIout, yX15_carryOut), (RX16, xIout, yX16_carryOut), (RX17, xIout, yX17_carryOut), (RX18, xIout, yX18_carryOut), (RX19, xIout, yX19_carryOut), (RX20, xIout, yX20_carryOut), (RX21, xIout, yX21_carryOut), (RX22, xIout, yX22_carryOut), (RX23, xIout, yX23_carryOut), (RX24, xIout, yX24_carryOut),
  (RJ14, xItH, yJ14_hasNext), (RJ14, xItN, yJ14_next), (RJ17, xItH, yJ16_hasNext), (RJ17, xItN, yJ17_next), (RX28, xCmpr, yX28_compare), (RJ10, xCmp, yJ10_compareTo), (RX30, xCmp, yX30_compareTo),
  (RJ2, ⟨"java/util/Collection", "toArray", "()[Ljava/lang/Object;"⟩, yJ2_toArray), (RJ21, ⟨"java/util/NavigableMap", "navigableKeySet", "()Ljava/util/NavigableSet;"⟩, yJ21_navigableKeySet), (RJ19, ⟨"java/util/NavigableSet", "iterator", "()Ljava/util/Iterator;"⟩, yJ19_iterator), (RJ19, ⟨"java/util/Set", "iterator", "()Ljava/util/Iterator;"⟩, yJ19_iterator)]
abbrev xStr : String := "CribBooklet$Reader"
/-- the String constants: entry, text, bytes -/
abbrev xStrs : List (Nat × String × List Int32) := [(114, "sheet", [115, 104, 101, 101, 116]), (118, "unfold", [117, 110, 102, 111, 108, 100]), (120, "spine", [115, 112, 105, 110, 101]), (122, "print", [112, 114, 105, 110, 116]), (124, "cut", [99, 117, 116]), (126, "staple", [115, 116, 97, 112, 108, 101]), (128, "note", [110, 111, 116, 101]), (195, "lines", [108, 105, 110, 101, 115]), (168, "fold", [102, 111, 108, 100]), (74, "left", [108, 101, 102, 116]), (80, "top", [116, 111, 112]), (82, "right", [114, 105, 103, 104, 116]), (84, "bottom", [98, 111, 116, 116, 111, 109]), (99, "whole", [119, 104, 111, 108, 101]), (177, ";", [59])]
abbrev xStrLen : List Nat := [5, 6, 5, 5, 3, 6, 4, 5, 4, 4, 3, 5, 6, 5, 1]
/-- their hashes -/
abbrev xStrHash : List Int32 := [109403487, (-840620518), 109645923, 106934957, 98882, (-892485687), 3387378, 102977279, 3148801, 3317767, 115029, 108511772, (-1383228885), 113107383, 59]
abbrev xStrByt : List (List Int32) := xStrs.map (fun q => q.2.2)
/-- the statics, with what they hold -/
abbrev xStL (g : xG) : List (String × String × String × Value) := [("java/util/ArrayList", "DEFAULTCAPACITY_EMPTY_ELEMENTDATA", "[Ljava/lang/Object;", .ref (xca g 0 0)), ("CribBooklet$Reader", "WORDS", "[Ljava/lang/String;", .ref (xca g 0 1)), ("java/lang/Integer$IntegerCache", "cache", "[Ljava/lang/Integer;", .ref (xca g 0 2)), ("java/lang/Integer$IntegerCache", "high", "I", .int 127), ("java/util/TreeSet", "PRESENT", "Ljava/lang/Object;", .ref (xca g 0 3)), ("java/lang/String", "COMPACT_STRINGS", "Z", .int 1), ("jdk/internal/util/Preconditions", "SIOOBE_FORMATTER", "Ljava/util/function/BiFunction;", xcv g 0), ("java/lang/Throwable", "UNASSIGNED_STACK", "[Ljava/lang/StackTraceElement;", xcv g 1), ("java/lang/Throwable", "SUPPRESSED_SENTINEL", "Ljava/util/List;", xcv g 2), ("java/lang/StringUTF16", "$assertionsDisabled", "Z", .int 1)]
/-- further words -/
abbrev xExL : List Cond := [.methodLink "java/util/TreeSet" 69 ⟨"java/util/NavigableMap", "put", "(Ljava/lang/Object;Ljava/lang/Object;)Ljava/lang/Object;"⟩, .interfaceMethod "java/util/NavigableMap" "java/util/Map" "put" "(Ljava/lang/Object;Ljava/lang/Object;)Ljava/lang/Object;",
  .selects "java/lang/StringBuilder" ⟨"java/lang/AbstractStringBuilder", "ensureCapacityInternal", "(I)V"⟩ ⟨"java/lang/AbstractStringBuilder", "ensureCapacityInternal", "(I)V"⟩, .selects "java/lang/StringBuilder" ⟨"java/lang/AbstractStringBuilder", "newCapacity", "(I)I"⟩ ⟨"java/lang/AbstractStringBuilder", "newCapacity", "(I)I"⟩]
/-- the constants: statics, arrays, boxes, Strings, the script -/
def xCst (g : xG) (U : State) : Prop :=
  (∀ q ∈ xStL g, va_Z q.1 q.2.1 q.2.2.1 q.2.2.2 (xA g) U U.heap) ∧
  va_T (.object "java/lang/Object") (xca g 0 0) 0 (fun _ => .null) (xA g) U U.heap ∧
  va_T (.object "java/lang/String") (xca g 0 1) 9 (fun j => .ref (xca g 2 j)) (xA g) U U.heap ∧
  va_T (.object "java/lang/Integer") (xca g 0 2) 256 (fun j => .ref (xca g 1 j)) (xA g) U U.heap ∧
  vb_C (xca g 1) (xA g) U U.heap ∧
  vk_S 15 xStrLen xStrByt (xca g 2) (xca g 3) (xA g) U U.heap ∧
  (∀ i, i < 15 → vk_R xStr ((xStrs.getD i (0, "", [])).1) ((xStrs.getD i (0, "", [])).2.1) (xca g 2 i) U ∧ va_OF "java/lang/String" "hash" "I" (.int (xStrHash.getD i 0)) (xca g 2 i) (xA g) U U.heap) ∧
  (va_T .int (xca g 0 5) (xca g 0 6) (fun j => .int (xsc g j)) (xA g) U U.heap ∧ xca g 0 6 ≤ 384 ∧ (∀ k, k < 3 → xcv g k = .null ∨ ∃ a, xcv g k = .ref a)) ∧
  va_Mi "[Ljava/lang/Object;" (xca g 0 4) U ∧ (∃ c, U.vm.findClass "[Ljava/lang/Object;" = some c ∧ ∃ cell : Cell, U.heap[xca g 0 0]? = some cell ∧ cell.cls = c ∧ cell.vm.isStatics = false ∧ ¬ xA g (xca g 0 0))
theorem xCst.call {g : xG} {s U : State} {locs : List Loc} (hW : s.WarmedH U.vm) (hS : va_S (xA g) s.heap U.heap locs) (h : xCst g s) : xCst g U := by
  obtain ⟨h1, h2, h3, h4, h5, h6, h7, h8, h9, c, hc, cell, k1, k2, k3, k4⟩ := h
  have hq : ∀ a : Nat, a < s.heap.size → ¬ xA g a → U.heap[a]? = s.heap[a]? := hS.2.1
  have ha := hW.alike
  refine ⟨fun q hm => ((h1 q hm).moved ha).kept hq, (h2.moved ha).kept hq, (h3.moved ha).kept hq, (h4.moved ha).kept hq, (h5.moved ha).kept hq, (h6.moved ha).kept hq, fun i hi => ⟨(h7 i hi).1.warm hW, (va_OF.moved ha (h7 i hi).2).kept hq⟩, ⟨(h8.1.moved ha).kept hq, h8.2⟩, h9.moved ha, c, by rw [ha.findClass]; exact hc, cell, ?_, k2, k3, k4⟩
  rw [hq _ (Array.getElem?_eq_some_iff.mp k1).1 k4]; exact k1
/-- what the tables say, all through the run -/
def xKs (g : xG) (U : State) : Prop :=
  va_K (xD g) xCl (xTys g) U ∧ (∀ w ∈ lw_tbl, xnk w = true → va_Nw w U) ∧ (∀ q ∈ xFwL, va_Fw q.1 q.2.1 q.2.2 U) ∧ (∀ w ∈ xExL, va_Nw w U) ∧ xCst g U ∧ xba g ≤ U.heap.size
theorem xNw_warm {w : Cond} (hk : xnk w = true) {s U : State} (hW : s.WarmedH U.vm) (hZ : va_Nw w s) : va_Nw w U := by
  cases w <;> first | (simp [xnk] at hk; done) | skip
  case fieldLinkNest => exact hZ.warmF hW
  case methodLinkNest => exact hZ.warmM hW
  case castable => exact hZ.warmC hW
  case declares => exact hZ.warmD hW
  case publicMethod => exact va_tabs rfl (rfl : (s.setVm U.vm).vm = U.vm) (by rw [Cond.publicMethod_setVm hW.alike]; exact hZ)
  case unhidden => exact va_tabs rfl (rfl : (s.setVm U.vm).vm = U.vm) (by rw [Cond.unhidden_setVm hW.alike]; exact hZ)
  case arrayOver t =>
    cases t with
    | object C => exact va_AO.moved hW.alike hZ
    | array t => exact over_moved hW.alike hZ
    | _ => simp [xnk] at hk
theorem xIm_moved {s U : State} (hvm : s.vm.Alike U.vm) {a b n ds : String} (h : va_Nw (.interfaceMethod a b n ds) s) : va_Nw (.interfaceMethod a b n ds) U := by
  refine va_tabs (A := #[]) rfl (rfl : (s.setVm U.vm).vm = U.vm) ?_
  have h' : (Cond.interfaceMethod a b n ds).before #[] s = true := h
  simp only [Cond.before, Cond.holds, Cond.value, State.vm_setVm, hvm.findClass, State.methodFound?_setVm hvm, State.methodNamed?_setVm hvm, arm_isInterface_setVm hvm] at h' ⊢
  exact h'
theorem xFw_ok : ∀ q ∈ xFwL, q.2.1.cls ≠ "java/lang/invoke/MethodHandle" ∧ q.2.1.cls ≠ "java/lang/invoke/VarHandle" := by decide +kernel
theorem xKs.call {g : xG} {s U : State} {locs : List Loc} (hW : s.WarmedH U.vm) (hS : va_S (xA g) s.heap U.heap locs) (h : xKs g s) : xKs g U := by
  obtain ⟨h1, h2, h3, h4, h5, h6⟩ := h
  refine ⟨h1.moved hW.alike, fun w hm hk => xNw_warm hk hW (h2 w hm hk), fun q hm => (h3 q hm).moved (xFw_ok q hm) hW.alike, fun w hm => ?_, h5.call hW hS, Nat.le_trans h6 hS.1⟩
  have hw := h4 w hm
  simp only [List.mem_cons, List.not_mem_nil, or_false] at hm
  rcases hm with rfl | rfl | rfl | rfl
  · exact word_at hW (Or.inl rfl) hw
  · exact xIm_moved hW.alike hw
  · exact word_at hW (Or.inl rfl) hw
  · exact word_at hW (Or.inl rfl) hw
theorem xKs.calling {g : xG} {U : State} (f : JFrame) (mk : MethodId) (a : Array Value) (h : xKs g U) : xKs g (U.calling f mk a) :=
  h.call (U := U.calling f mk a) (locs := []) (State.WarmedH.refl U) ⟨Nat.le_refl _, fun _ _ _ => rfl, fun _ h => by cases h⟩
/-- the heap holds the cells that h tells -/
def xR (g : xG) (h : xH) (H : Heap) : Prop := ∀ (a : Nat) (e : va_E), h a = some e → xba g ≤ a ∧ va_at (xD g) xCl (a, e) H
/-- how a method ends: it returns (a value or none), or throws (the cell) -/
abbrev xO : Type := Option Value ⊕ Nat
def xPc (g : xG) (av : List Value) (h : xH) : Array Value → State → Prop := va_Pc av (fun U => xKs g U ∧ xR g h U.heap)
def xQc (g : xG) (Q : xO → xH → Prop) : Array Value → State → Outcome → State → Prop := fun _ st o t => (∃ (v : Option Value) (h' : xH), o = .returned v ∧ Q (.inl v) h' ∧ xR g h' t.heap) ∧ va_F (xA g) st t
def xXC (g : xG) (Q : xO → xH → Prop) : String → Addr → State → State → Prop := fun E q st t => (∃ h' : xH, E = RX26 ∧ Q (.inr q) h' ∧ xR g h' t.heap) ∧ va_F (xA g) st t
abbrev xRm (d mc ms : Nat) : Room := { frames := d, cells := mc, slots := ms, locals := 64 * d }
/-- the words of a method's contract -/
def xws (M : xM) : List Cond := match M.2.2.2.2 with
  | [] => ws_ M.1 M.2.1 M.2.2.1 M.2.2.2.1
  | hh => wsW_ M.1 M.2.1 M.2.2.1 M.2.2.2.1 hh
/-- a CONTRACT: from the heap h, with the arguments av, the method ends with Q; at most d frames, mc cells of ms slots -/
def Ct (g : xG) (l : Launch) (M : xM) (d mc ms : Nat) (av : List Value) (h : xH) (Q : xO → xH → Prop) : Prop :=
  xx_Met l M.1 (xws M) (xRm d mc ms) (xPc g av h) (xQc g Q) (xXC g Q) mc ms (xA g)
/-- the locals as a list -/
def xl2 : Nat → List (Option Value) → List (Nat × Value)
  | _, [] => []
  | n, none :: r => xl2 (n + 1) r
  | n, some v :: r => (n, v) :: xl2 (n + 1) r
theorem xl2_mem {v : Value} {j : Nat} : ∀ (L : List (Option Value)) (n : Nat), (j, v) ∈ xl2 n L ↔ ∃ k, j = n + k ∧ L[k]? = some (some v)
  | [], n => by simp [xl2]
  | none :: r, n => by
    rw [xl2, xl2_mem r (n + 1)]
    constructor
    · rintro ⟨k, rfl, h⟩; exact ⟨k + 1, by omega, by simpa using h⟩
    · rintro ⟨k, rfl, h⟩
      cases k with
      | zero => simp at h
      | succ k => exact ⟨k, by omega, by simpa using h⟩
  | some w :: r, n => by
    rw [xl2, List.mem_cons, xl2_mem r (n + 1)]
    constructor
    · rintro (h | ⟨k, rfl, h⟩)
      · cases h; exact ⟨0, rfl, rfl⟩
      · exact ⟨k + 1, by omega, by simpa using h⟩
    · rintro ⟨k, rfl, h⟩
      cases k with
      | zero => left; simp at h; subst h; rfl
      | succ k => right; exact ⟨k, by omega, by simpa using h⟩
def xLs (ls : Array Slot) (nL : Nat) (L : List (Option Value)) : Prop := lv_has ls nL (xl2 0 L) ∧ L.length = nL
theorem xLs.at {ls : Array Slot} {nL : Nat} {L : List (Option Value)} (h : xLs ls nL L) {i : Nat} {v : Value} (hi : L[i]? = some (some v)) : ls[i]? = some (.val v) :=
  h.1.2.2 (i, v) ((xl2_mem L 0).mpr ⟨i, by omega, hi⟩)
/-- a store: the place before isn't a long's -/
theorem xLs.store {ls : Array Slot} {nL : Nat} {L L' : List (Option Value)} {i : Nat} {v : Value} (hp : ∀ w, 0 < i → L[i - 1]? = some (some w) → w.category = 1) (hL' : L.set i (some v) = L') (hlen : L.length = nL)
    (h : lv_has ls nL ((i, v) :: (xl2 0 L).filter (fun q => !(q.1 == i) && !(q.1 + 1 == i && q.2.category == 2)))) : xLs ls nL L' := by
  subst hL'
  refine ⟨⟨h.1, h.2.1, fun q hq => ?_⟩, by rw [List.length_set]; exact hlen⟩
  obtain ⟨j, w⟩ := q
  obtain ⟨k, e, hk⟩ := (xl2_mem _ 0).mp hq
  have e : j = k := by omega
  subst e
  by_cases hji : j = i
  · subst hji
    have hlt : j < (L.set j (some v)).length := (List.getElem?_eq_some_iff.mp hk).1
    rw [List.length_set] at hlt
    rw [List.getElem?_set_self hlt] at hk
    cases hk
    exact h.2.2 (j, v) List.mem_cons_self
  · rw [List.getElem?_set_ne (Ne.symm hji)] at hk
    refine h.2.2 (j, w) (List.mem_cons_of_mem _ (List.mem_filter.mpr ⟨(xl2_mem L 0).mpr ⟨j, by omega, hk⟩, ?_⟩))
    have : ¬ (j + 1 = i ∧ w.category = 2) := fun ⟨a, b⟩ => by
      have := hp w (by omega) (by rw [show i - 1 = j by omega]; exact hk)
      omega
    simp [hji]
    exact Classical.not_and_iff_not_or_not.mp this
/-- what holds in a method's body -/
def xCx (g : xG) (M : xM) (p : Program) (s : State) (m : MethodId) (args : Array Value) (meth : Method) (c : Code) : Prop :=
  p.tables.exec = Jvm.exec ∧ c.code = M.2.1 ∧ c.maxLocals = M.2.2.1 ∧ meth.sig.returnType = M.2.2.2.1 ∧ meth.locks = false ∧ meth.name = M.1.name ∧ s.vm.findClass M.1.cls = some m.cls ∧ (∀ w ∈ lw_all, w.before args s = true) ∧ xKs g s ∧
  c.exceptionTable.toList.map (fun x => (x.startPc, x.endPc, x.handlerPc, x.catchType)) = M.2.2.2.2
/-- the machine stands in M at pc with locals L, stack st, heap h; uc cells of us slots are used; it comes to an end with Q -/
def X (g : xG) (l : Launch) (M : xM) (d mc ms : Nat) (Q : xO → xH → Prop) (pc : Nat) (L : List (Option Value)) (st : List Value) (h : xH) (uc us : Nat) : Prop :=
  ∀ (p : Program) (e : Env) (s : State) (m : MethodId) (args : Array Value) (below : List Frame) (meth : Method) (c : Code) (H : Heap) (locs : List Loc) (ls : Array Slot), xCx g M p s m args meth c → xLs ls M.2.2.1 L → xR g h H → va_S (xA g) s.heap H locs →
    W p l e (xRm d mc ms) s m args below meth c H locs uc us (xx_MQ below (xQc g Q) (xXC g Q) args s mc ms (xA g)) (F0 m pc ls st)
end XCORE
