/-! THE SMALL MACHINE: abstract heap (cells by number), frames with abstract values, a judgement pj_J over the kit's W. Own work. -/
set_option maxRecDepth 100000
/-- a cell: an array (its kind, its length, its contents) or an object (number of its class, its fields); references are cell numbers -/
abbrev pj_E : Type := (Nat × vp_A) ⊕ (Nat × List Value)
abbrev pj_H : Type := List pj_E
/-- locals by place; none: unset, or the second half of a long -/
abbrev pj_L : Type := List (Option Value)
/-- a method: name, code, places for locals, answer -/
abbrev pj_M : Type := MethodName × ByteArray × Nat × Option FieldType
/-- what is fixed for a run: class numbers and field places, array classes, the heap at the law's start, (script's address, SPARES' address, script's length, script) -/
abbrev pj_G : Type := va_G × (Nat → ClassId) × Heap × Nat × Nat × Nat × (Nat → Int32)
def pj_ad (G : pj_G) : Nat → Nat
  | 0 => G.2.2.2.1
  | 1 => G.2.2.2.2.1
  | k + 2 => G.2.2.1.size + k
def pj_v (G : pj_G) : Value → Value
  | .ref k => .ref (pj_ad G k)
  | v => v
def pj_a (G : pj_G) (a : vp_A) : vp_A := (a.1, match a.2 with
  | .inr (.inr (.inr (.inr f))) => .inr (.inr (.inr (.inr (fun j => (f j).map (pj_ad G)))))
  | x => x)
/-- kinds of arrays -/
def pj_tys (G : pj_G) : List (ClassId × FieldType) := [(G.2.1 0, .int), (G.2.1 1, .long), (G.2.1 2, .boolean), (G.2.1 3, .double), (G.2.1 4, .byte), (G.2.1 5, .short), (G.2.1 6, .object "PennyJudge$Program"), (G.2.1 7, .object "PennyJudge$Act"), (G.2.1 8, .object "PennyJudge$Tape")]
/-- of a Leak its own field alone -/
def pj_TL : u_T := fun _ => ("PennyJudge$Leak", "leaks", "I", true)
/-- classes by number; from 19 on what is thrown: of these the class alone (of a Leak its number too) -/
def pj_cl : List vw_C := [(RX1, TX1, 25), (RX2, TX2, 19), (RX3, TX3, 1), (RX4, TX4, 52), (RX5, TX5, 4), (RX7, TX7, 4), (RX8, TX8, 4), (RX9, TX9, 4), (RX10, TX10, 4), (RX11, TX11, 4), (RX12, TX12, 4), (RX13, TX13, 4), (RX14, TX14, 4), (RX15, TX15, 4), (RX16, TX16, 4), (RX17, TX17, 4), (RX18, TX18, 4), (RX19, TX19, 4), (RX20, TX20, 5), ("java/lang/IllegalArgumentException", TX1, 0), ("java/lang/IllegalStateException", TX1, 0), ("java/lang/NullPointerException", TX1, 0), ("java/lang/ClassCastException", TX1, 0), ("java/lang/ArrayIndexOutOfBoundsException", TX1, 0), ("java/lang/NegativeArraySizeException", TX1, 0), ("PennyJudge$Leak", pj_TL, 1)]
/-- a cell of which nothing is said: kinds and classes from 90 on -/
def pj_opq (x : pj_E) : Prop := match x with
  | .inl q => 90 ≤ q.1
  | .inr q => 90 ≤ q.1
/-- a cell as the kit writes it -/
def pj_c (G : pj_G) (x : pj_E) : va_E := match x with
  | .inl q => .inl (G.2.1 q.1, pj_a G q.2)
  | .inr q => .inr (q.1, q.2.map (pj_v G))
/-- a cell stands at its place -/
def pj_at (G : pj_G) (i : Nat) (x : pj_E) (H : Heap) : Prop := ¬ pj_opq x → va_at G.1 pj_cl (pj_ad G i, pj_c G x) H
/-- cells 0 and 1 (script, SPARES) are not the run's own -/
def pj_R (G : pj_G) (h : pj_H) (H : Heap) : Prop :=
  2 ≤ h.length ∧ G.2.2.1.size + h.length = H.size + 2 ∧ (∀ q : Nat, q < G.2.2.1.size → H[q]? = G.2.2.1[q]?) ∧ (∀ (i : Nat) (x : pj_E), h[i]? = some x → pj_at G i x H) ∧ ∀ (i : Nat) (x : pj_E), i < 2 → h[i]? = some x → pj_opq x
/-- words that do not ride in the lists -/
def pj_eF : List (String × Nat × String × String × String × String) := [("PennyJudge$Run", 84, "PennyJudge", "p", "[I", "PennyJudge"), ("PennyJudge$Run", 87, "PennyJudge", "q", "[I", "PennyJudge"), ("PennyJudge$Split", 69, "PennyJudge", "pieces", "[J", "PennyJudge")]
def pj_eM : List (String × Nat × MethodName × String) := [("PennyJudge", 107, ⟨"PennyJudge$Run", "<init>", "()V"⟩, "PennyJudge"), ("PennyJudge", 151, ⟨"PennyJudge$Tape", "<init>", "()V"⟩, "PennyJudge"), ("PennyJudge", 182, ⟨"PennyJudge$Program", "<init>", "()V"⟩, "PennyJudge"), ("PennyJudge$Run", 70, ⟨"PennyJudge", "common", "(JJ)J"⟩, "PennyJudge"), ("PennyJudge$Carry", 33, ⟨"PennyJudge", "floorOf", "(JJ)J"⟩, "PennyJudge"), ("PennyJudge$Days", 35, ⟨"PennyJudge", "whole", "(JJI)J"⟩, "PennyJudge"), ("PennyJudge$Flow", 36, ⟨"PennyJudge", "whole", "(JJI)J"⟩, "PennyJudge"), ("PennyJudge$Rounded", 28, ⟨"PennyJudge", "whole", "(JJI)J"⟩, "PennyJudge"), ("PennyJudge$Show", 28, ⟨"PennyJudge", "whole", "(JJI)J"⟩, "PennyJudge"), ("PennyJudge$Split", 42, ⟨"PennyJudge", "share", "(JII[J)V"⟩, "PennyJudge"), ("PennyJudge$Tax", 36, ⟨"PennyJudge", "whole", "(JJI)J"⟩, "PennyJudge"), ("PennyJudge$Days", 49, ⟨"PennyJudge", "loose", "(DII)D"⟩, "PennyJudge"), ("PennyJudge$Days", 53, ⟨"PennyJudge", "kept", "(D)D"⟩, "PennyJudge"), ("PennyJudge$Flow", 57, ⟨"PennyJudge", "loose", "(DII)D"⟩, "PennyJudge"), ("PennyJudge$Rounded", 42, ⟨"PennyJudge", "loose", "(DII)D"⟩, "PennyJudge"), ("PennyJudge$Show", 46, ⟨"PennyJudge", "loose", "(DII)D"⟩, "PennyJudge"), ("PennyJudge$Tax", 57, ⟨"PennyJudge", "loose", "(DII)D"⟩, "PennyJudge"), ("PennyJudge$Program", 40, ⟨"PennyJudge", "kept", "(D)D"⟩, "PennyJudge"), ("PennyJudge", 348, ⟨"PennyJudge$Image", "<init>", "()V"⟩, "PennyJudge")]
def pj_eA : List String := ["PennyJudge$Program", "PennyJudge$Tape", "PennyJudge$Act"]
def pj_eD : List MethodName := [⟨"PennyJudge$Done", "does", "(LPennyJudge$Run;)I"⟩, ⟨"PennyJudge$Act", "show", "(LPennyJudge$Run;Z)V"⟩, ⟨"PennyJudge$Done", "loosely", "(LPennyJudge$Run;)V"⟩, ⟨"java/lang/Throwable", "fillInStackTrace", "()Ljava/lang/Throwable;"⟩, ⟨"java/lang/RuntimeException", "<init>", "()V"⟩, ⟨"java/lang/RuntimeException", "<init>", "(Ljava/lang/String;)V"⟩, ⟨"java/lang/Exception", "<init>", "()V"⟩, ⟨"java/lang/Exception", "<init>", "(Ljava/lang/String;)V"⟩, ⟨"java/lang/Throwable", "<init>", "()V"⟩, ⟨"java/lang/Throwable", "<init>", "(Ljava/lang/String;)V"⟩, ⟨"java/lang/IndexOutOfBoundsException", "<init>", "()V"⟩, ⟨"java/lang/IndexOutOfBoundsException", "<init>", "(Ljava/lang/String;)V"⟩]
def pj_eC : List (String × String) := [("java/lang/NegativeArraySizeException", "java/lang/NegativeArraySizeException"), ("java/lang/NullPointerException", "java/lang/NullPointerException"), ("java/lang/RuntimeException", "java/lang/Throwable"), ("java/lang/ClassCastException", "java/lang/ClassCastException"), ("PennyJudge$Leak", "PennyJudge$Leak"), ("java/lang/ArrayIndexOutOfBoundsException", "java/lang/ArrayIndexOutOfBoundsException"), ("java/lang/IllegalArgumentException", "java/lang/IllegalArgumentException"), ("java/lang/IllegalStateException", "java/lang/IllegalStateException"), ("java/lang/ArrayIndexOutOfBoundsException", "java/lang/IndexOutOfBoundsException"), ("PennyJudge$Sum", "PennyJudge$Act"), ("PennyJudge$Tax", "PennyJudge$Act"), ("PennyJudge$Flow", "PennyJudge$Act"), ("PennyJudge$Rated", "PennyJudge$Act"), ("PennyJudge$Rounded", "PennyJudge$Act"), ("PennyJudge$Added", "PennyJudge$Act"), ("PennyJudge$Split", "PennyJudge$Act"), ("PennyJudge$Part", "PennyJudge$Act"), ("PennyJudge$Carry", "PennyJudge$Act"), ("PennyJudge$Cap", "PennyJudge$Act"), ("PennyJudge$Book", "PennyJudge$Act"), ("PennyJudge$Show", "PennyJudge$Act"), ("PennyJudge$Days", "PennyJudge$Act")]
/-- words of the Statement's own start (defaultWords_1) -/
def pj_extW : List Cond := defaultWords_1
def pj_ext : List Cond := pj_eF.map (fun q => .fieldLinkNest q.1 q.2.1 q.2.2.1 q.2.2.2.1 q.2.2.2.2.1 q.2.2.2.2.2) ++ (pj_eM.map (fun q => .methodLinkNest q.1 q.2.1 q.2.2.1 q.2.2.2) ++ (pj_eA.map (fun C => .arrayOver (.object C)) ++ (pj_eD.map .declares ++ (pj_eC.map (fun q => .castable q.1 q.2) ++ pj_extW))))
theorem pj_xF {q : String × Nat × String × String × String × String} (i : Nat) (h : pj_eF[i]? = some q) : Cond.fieldLinkNest q.1 q.2.1 q.2.2.1 q.2.2.2.1 q.2.2.2.2.1 q.2.2.2.2.2 ∈ pj_ext := List.mem_append_left _ (List.mem_map.mpr ⟨q, List.mem_of_getElem? h, rfl⟩)
theorem pj_xM {q : String × Nat × MethodName × String} (i : Nat) (h : pj_eM[i]? = some q) : Cond.methodLinkNest q.1 q.2.1 q.2.2.1 q.2.2.2 ∈ pj_ext := List.mem_append_right _ (List.mem_append_left _ (List.mem_map.mpr ⟨q, List.mem_of_getElem? h, rfl⟩))
theorem pj_xA {C : String} (i : Nat) (h : pj_eA[i]? = some C) : Cond.arrayOver (.object C) ∈ pj_ext := List.mem_append_right _ (List.mem_append_right _ (List.mem_append_left _ (List.mem_map.mpr ⟨C, List.mem_of_getElem? h, rfl⟩)))
theorem pj_xD {x : MethodName} (i : Nat) (h : pj_eD[i]? = some x) : Cond.declares x ∈ pj_ext := List.mem_append_right _ (List.mem_append_right _ (List.mem_append_right _ (List.mem_append_left _ (List.mem_map.mpr ⟨x, List.mem_of_getElem? h, rfl⟩))))
theorem pj_xC {q : String × String} (i : Nat) (h : pj_eC[i]? = some q) : Cond.castable q.1 q.2 ∈ pj_ext := List.mem_append_right _ (List.mem_append_right _ (List.mem_append_right _ (List.mem_append_right _ (List.mem_append_left _ (List.mem_map.mpr ⟨q, List.mem_of_getElem? h, rfl⟩)))))
theorem pj_extW_in (w : Cond) (h : w ∈ pj_extW) : w ∈ pj_ext := List.mem_append_right _ (List.mem_append_right _ (List.mem_append_right _ (List.mem_append_right _ (List.mem_append_right _ h))))
theorem pj_extW_good (w : Cond) (h : w ∈ pj_extW) : (w.onTables && w.keeps) = true ∨ ∃ ty, w = .arrayClass ty := by
  have h2 : pj_extW.all (fun w => w.onTables && w.keeps) = true := by decide +kernel
  exact Or.inl (List.all_eq_true.mp h2 w h)
theorem pj_extW_on (w : Cond) (h : w ∈ pj_extW) : w.onTables = true := by
  have h2 : pj_extW.all (fun w => w.onTables) = true := by decide +kernel
  exact List.all_eq_true.mp h2 w h
theorem pj_ext_warm {s U : State} (hW : s.WarmedH U.vm) (h : ∀ w ∈ pj_ext, va_Nw w s) : ∀ w ∈ pj_ext, va_Nw w U := by
  intro w hw
  have h0 := h w hw
  unfold pj_ext at hw
  rcases List.mem_append.mp hw with hw | hw
  · obtain ⟨q, -, rfl⟩ := List.mem_map.mp hw; exact va_Nw.warmF hW h0
  rcases List.mem_append.mp hw with hw | hw
  · obtain ⟨q, -, rfl⟩ := List.mem_map.mp hw; exact va_Nw.warmM hW h0
  rcases List.mem_append.mp hw with hw | hw
  · obtain ⟨q, -, rfl⟩ := List.mem_map.mp hw; exact va_AO.moved hW.alike h0
  rcases List.mem_append.mp hw with hw | hw
  · obtain ⟨q, -, rfl⟩ := List.mem_map.mp hw; exact va_Nw.warmD hW h0
  rcases List.mem_append.mp hw with hw | hw
  · obtain ⟨q, -, rfl⟩ := List.mem_map.mp hw; exact va_Nw.warmC hW h0
  · exact word_at hW (pj_extW_good w hw) h0
theorem pj_ext_same {s U : State} (hW : s.vm = U.vm) (h : ∀ w ∈ pj_ext, va_Nw w s) : ∀ w ∈ pj_ext, va_Nw w U := by
  intro w hw
  have h0 := h w hw
  unfold pj_ext at hw
  rcases List.mem_append.mp hw with hw | hw
  · obtain ⟨q, -, rfl⟩ := List.mem_map.mp hw; exact va_Nw.same rfl hW h0
  rcases List.mem_append.mp hw with hw | hw
  · obtain ⟨q, -, rfl⟩ := List.mem_map.mp hw; exact va_Nw.same rfl hW h0
  rcases List.mem_append.mp hw with hw | hw
  · obtain ⟨q, -, rfl⟩ := List.mem_map.mp hw; exact va_AO.moved (by rw [hW]; exact Vm.Alike.refl _) h0
  rcases List.mem_append.mp hw with hw | hw
  · obtain ⟨q, -, rfl⟩ := List.mem_map.mp hw; exact va_Nw.same rfl hW h0
  rcases List.mem_append.mp hw with hw | hw
  · obtain ⟨q, -, rfl⟩ := List.mem_map.mp hw; exact va_Nw.same rfl hW h0
  · exact va_Nw.same (pj_extW_on w hw) hW h0
/-- pairs of classes that are not castable -/
def pj_eN : List (String × String) := [("[B", "[S"), ("[B", "[I"), ("[B", "[J"), ("[S", "[B"), ("[S", "[I"), ("[S", "[J"), ("[I", "[B"), ("[I", "[S"), ("[I", "[J"), ("[J", "[B"), ("[J", "[S"), ("[J", "[I"), ("PennyJudge$Image", "[B"), ("PennyJudge$Image", "[S"), ("PennyJudge$Image", "[I"), ("PennyJudge$Image", "[J"), ("[B", "PennyJudge$Image"), ("[S", "PennyJudge$Image"), ("[I", "PennyJudge$Image"), ("[J", "PennyJudge$Image"), ("java/lang/ClassCastException", "java/lang/NullPointerException"), ("java/lang/ArrayIndexOutOfBoundsException", "java/lang/NullPointerException"), ("java/lang/ArrayIndexOutOfBoundsException", "java/lang/ClassCastException"), ("java/lang/NullPointerException", "PennyJudge$Leak"), ("java/lang/IllegalStateException", "java/lang/IllegalArgumentException")]
def pj_nc (U : State) (q : String × String) : Prop := ∃ (x y : ClassId), U.vm.findClass q.1 = some x ∧ U.vm.findClass q.2 = some y ∧ U.vm.assignable x y = false
/-- a static reference, as the tables lay it -/
def pj_Zt (C n d : String) (U : State) (H : Heap) : Prop := ∃ (c : ClassId) (k : Class) (i : Nat) (f : Field) (a : Nat) (cell : Cell) (v : Value), U.vm.findClass C = some c ∧ U.fieldFound? C n d = some (c, k, i, f) ∧ f.isStatic = true ∧ k.statics = some a ∧ k.staticTypes[f.slot]? = some f.type ∧ H[a]? = some cell ∧ cell.vm.isStatics = true ∧ cell.cls = c ∧ f.slot < cell.slots.size ∧ cell.slots[f.slot]? = some v ∧ (v = .null ∨ ∃ t : Nat, v = .ref t)
theorem pj_Zt.moved {C n d : String} {u U : State} {H : Heap} (hvm : u.vm.Alike U.vm) (h : pj_Zt C n d u H) : pj_Zt C n d U H := by
  obtain ⟨c, k, i, f, a, cell, v, h1, h2, h3, h4, h5, h6⟩ := h
  obtain ⟨k', hi', he⟩ := State.fieldFound?_setVm hvm h2
  exact ⟨c, k', i, f, a, cell, v, by rw [hvm.findClass]; exact h1, hi', h3, by rw [he]; exact h4, by rw [he]; exact h5, h6⟩
theorem pj_Zt.kept {C n d : String} {U : State} {H H1 : Heap} (h : pj_Zt C n d U H) (hq : ∀ a : Nat, a < H.size → H1[a]? = H[a]?) : pj_Zt C n d U H1 := by
  obtain ⟨c, k, i, f, a, cell, v, h1, h2, h3, h4, h5, h6, h7⟩ := h
  exact ⟨c, k, i, f, a, cell, v, h1, h2, h3, h4, h5, by rw [hq a (Array.getElem?_eq_some_iff.mp h6).1]; exact h6, h7⟩
theorem pj_Zt.lays {C n d : String} {args : Array Value} {U : State} (h : pj_Zt C n d U U.heap) : (Cond.laysStatic C n d).before args U = true := by
  obtain ⟨c, k, i, f, a, cell, v, h1, h2, h3, h4, h5, h6, h7, h8, h9, h10, h11⟩ := h
  simp [Cond.before, Cond.holds, Cond.value, h1, h2, h3, h4, h5, h6, h7, h8, h9]
theorem pj_Zt.isRef {C n d : String} {args : Array Value} {U : State} (h : pj_Zt C n d U U.heap) : (Cond.isRef (.static C n d)).before args U = true := by
  obtain ⟨c, k, i, f, a, cell, v, h1, h2, h3, h4, h5, h6, h7, h8, h9, h10, h11⟩ := h
  rcases h11 with rfl | ⟨t, rfl⟩ <;> simp [Cond.before, Cond.holds, Cond.value, Term.eval, State.fieldNamed?, h2, h3, h4, h6, h7, h10]
/-- what is known of statics, and what is not castable -/
def pj_Zs (G : pj_G) (U : State) : Prop := va_Z "java/lang/StrictMath" "$assertionsDisabled" "Z" (.int 1) (fun q => G.2.2.1.size ≤ q) U G.2.2.1 ∧ pj_Zt "java/lang/Throwable" "UNASSIGNED_STACK" "[Ljava/lang/StackTraceElement;" U G.2.2.1 ∧ pj_Zt "java/lang/Throwable" "SUPPRESSED_SENTINEL" "Ljava/util/List;" U G.2.2.1 ∧
  va_Z "PennyJudge" "SPARES" "[B" (.ref G.2.2.2.2.1) (fun q => G.2.2.1.size ≤ q) U G.2.2.1 ∧ G.2.2.2.2.1 < G.2.2.1.size ∧ (∀ q ∈ pj_eN, pj_nc U q) ∧ modulesRight_1 U = true
theorem pj_Zs.moved {G : pj_G} {u U : State} (hvm : u.vm.Alike U.vm) (h : pj_Zs G u) : pj_Zs G U := by
  obtain ⟨a, b, c, d, e, f, g⟩ := h
  refine ⟨a.moved hvm, b.moved hvm, c.moved hvm, d.moved hvm, e, fun q hq => ?_, by unfold modulesRight_1 at g ⊢; rw [hvm.1]; exact g⟩
  obtain ⟨x, y, h1, h2, h3⟩ := f q hq
  exact ⟨x, y, by rw [hvm.findClass]; exact h1, by rw [hvm.findClass]; exact h2, by rw [hvm.assignable]; exact h3⟩
def pj_K (G : pj_G) (U : State) : Prop := va_K G.1 pj_cl (pj_tys G) U ∧ (∀ w ∈ pj_ext, va_Nw w U) ∧ va_X G.2.2.2.1 G.2.2.2.2.2.1 G.2.2.2.2.2.2 U G.2.2.1 ∧ G.2.2.2.1 < G.2.2.1.size ∧ pj_Zs G U
/-- a method's end: what it answered, or what it threw (class, cell) -/
abbrev pj_O : Type := Option Value ⊕ (Nat × Nat)
def pj_End (G : pj_G) (Q : pj_O → pj_H → Prop) (below : List Frame) (s : State) (mc ms : Nat) : State → Prop := fun t =>
  ∃ o : Outcome, t.status = .running ∧ Ended t below o ∧
    ((∃ (v : Option Value) (h : pj_H), o = .returned (v.map (pj_v G)) ∧ Q (.inl v) h ∧ pj_R G h t.heap ∧ pj_K G t) ∨
     (∃ (ci i : Nat) (h : pj_H) (fs : List Value), o = .threw (pj_ad G i) ∧ Q (.inr (ci, i)) h ∧ h[i]? = some (.inr (ci, fs)) ∧ pj_R G h t.heap ∧ pj_K G t)) ∧
    s.WarmedH t.vm ∧ ∃ L : List Loc, s.sameButNew ({ t with vm := s.vm } : State) L mc ms ∧ ∀ q ∈ L, G.2.2.1.size ≤ q.base
/-- where a method's body runs -/
def pj_C (G : pj_G) (mt : pj_M) (d : Nat) (p : Program) (l : Launch) (R : Room) (s : State) (m : MethodId) (args : Array Value) (meth : Method) (c : Code) : Prop :=
  p.tables.exec = Jvm.exec ∧ c.code = mt.2.1 ∧ c.maxLocals = mt.2.2.1 ∧ meth.sig.returnType = mt.2.2.2 ∧ meth.locks = false ∧ s.vm.findClass mt.1.cls = some m.cls ∧ (meth.name = mt.1.name ∧ s.methodNamed? mt.1 = some m) ∧ (∀ w ∈ lw_all, w.before args s = true) ∧ pj_K G s ∧ d + 8 ≤ R.frames ∧ 10400 + 200 * d ≤ R.locals ∧ l.flags = flags0
def pj_lv (G : pj_G) (ls : Array Slot) (n : Nat) (L : pj_L) : Prop := ls.size = n ∧ lv_wf ls ∧ ∀ (i : Nat) (v : Value), L[i]? = some (some v) → ls[i]? = some (.val (pj_v G v))
/-- THE JUDGEMENT: from pc with locals L, stack st, cells h, with room for kc cells of ks slots and d frames, the method comes to an end with Q -/
def pj_J (G : pj_G) (mt : pj_M) (d : Nat) (pc : Nat) (L : pj_L) (st : List Value) (h : pj_H) (kc ks : Nat) (Q : pj_O → pj_H → Prop) : Prop :=
  ∀ (p : Program) (l : Launch) (e : Env) (R : Room) (s : State) (m : MethodId) (args : Array Value) (below : List Frame) (meth : Method) (c : Code) (H : Heap) (locs : List Loc) (cells slots mc ms : Nat) (ls : Array Slot),
    pj_C G mt d p l R s m args meth c → pj_R G h H → (∀ q ∈ locs, G.2.2.1.size ≤ q.base) → pj_lv G ls mt.2.2.1 L → cells + kc ≤ mc → slots + ks ≤ ms → mc ≤ R.cells → ms ≤ R.slots →
    W p l e R s m args below meth c H locs cells slots (pj_End G Q below s mc ms) (F0 m pc ls (st.map (pj_v G)))
/-- an instruction: from locals, stack, cells, room: what it asks (none: nothing), the next pc, locals, stack, cells, room; none: not this road -/
abbrev pj_S : Type := Nat × pj_L × List Value × pj_H × Nat × Nat
abbrev pj_Op : Type := pj_L → List Value → pj_H → Nat → Nat → Option (Option Prop × pj_S)
def pj_JS (G : pj_G) (mt : pj_M) (d : Nat) (S : pj_S) (Q : pj_O → pj_H → Prop) : Prop := pj_J G mt d S.1 S.2.1 S.2.2.1 S.2.2.2.1 S.2.2.2.2.1 S.2.2.2.2.2 Q
def pj_ok : Option Prop → Prop
  | none => True
  | some P => P
/-- the instruction at pc does what op says -/
def pj_Snd (G : pj_G) (mt : pj_M) (pc : Nat) (op : pj_Op) : Prop :=
  ∀ (L : pj_L) (st : List Value) (h : pj_H) (kc ks : Nat) (c : Option Prop) (S : pj_S), op L st h kc ks = some (c, S) → pj_ok c → ∀ (d : Nat) (Q : pj_O → pj_H → Prop), pj_JS G mt d S Q → pj_J G mt d pc L st h kc ks Q
/-- a method's table: rows of sixteen bytes -/
abbrev pj_T : Type := List (List (Option pj_Op))
def pj_at16 (T : pj_T) (pc : Nat) : Option pj_Op := (T.getD (pc / 16) []).getD (pc % 16) none
def pj_okRow (G : pj_G) (mt : pj_M) : Nat → List (Option pj_Op) → Prop
  | _, [] => True
  | k, none :: r => pj_okRow G mt (k + 1) r
  | k, some op :: r => pj_Snd G mt k op ∧ pj_okRow G mt (k + 1) r
def pj_okT (G : pj_G) (mt : pj_M) : Nat → pj_T → Prop
  | _, [] => True
  | k, r :: T => pj_okRow G mt k r ∧ pj_okT G mt (k + 16) T
theorem pj_okRow_at {G : pj_G} {mt : pj_M} : ∀ (r : List (Option pj_Op)) (k j : Nat) (op : pj_Op), pj_okRow G mt k r → r.getD j none = some op → pj_Snd G mt (k + j) op := by
  intro r
  induction r with
  | nil => intro k j op _ h; simp at h
  | cons x r ih =>
    intro k j op hk h
    cases j with
    | zero =>
      simp at h
      subst h
      exact hk.1
    | succ j =>
      have h' : r.getD j none = some op := by simpa using h
      have hk' : pj_okRow G mt (k + 1) r := by
        cases x with
        | none => exact hk
        | some y => exact hk.2
      have := ih (k + 1) j op hk' h'
      rwa [show k + 1 + j = k + (j + 1) by omega] at this
theorem pj_okT_row {G : pj_G} {mt : pj_M} : ∀ (T : pj_T) (k j : Nat), pj_okT G mt k T → pj_okRow G mt (k + 16 * j) (T.getD j []) := by
  intro T
  induction T with
  | nil => intro k j _; simp [pj_okRow]
  | cons r T ih =>
    intro k j h
    cases j with
    | zero => simpa using h.1
    | succ j =>
      have := ih (k + 16) j h.2
      rw [show k + 16 + 16 * j = k + 16 * (j + 1) by omega] at this
      simpa using this
theorem pj_okT_at {G : pj_G} {mt : pj_M} {T : pj_T} (h : pj_okT G mt 0 T) {pc : Nat} {op : pj_Op} (hp : pj_at16 T pc = some op) : pj_Snd G mt pc op := by
  have := pj_okRow_at _ _ _ _ (pj_okT_row T 0 (pc / 16) h) hp
  rwa [show 0 + 16 * (pc / 16) + pc % 16 = pc by omega] at this
/-- n instructions: all that they ask, and where they come -/
def pj_go (T : pj_T) : Nat → Nat → pj_L → List Value → pj_H → Nat → Nat → Option (Prop × pj_S)
  | 0, pc, L, st, h, kc, ks => some (True, (pc, L, st, h, kc, ks))
  | n + 1, pc, L, st, h, kc, ks => match pj_at16 T pc with
    | none => none
    | some op => match op L st h kc ks with
      | none => none
      | some (c, (pc', L', st', h', kc', ks')) => match pj_go T n pc' L' st' h' kc' ks' with
        | none => none
        | some (C, S) => some (match c with | none => C | some P => P ∧ C, S)
theorem pj_go_ok {G : pj_G} {mt : pj_M} {T : pj_T} (hT : pj_okT G mt 0 T) : ∀ (n pc : Nat) (L : pj_L) (st : List Value) (h : pj_H) (kc ks : Nat) (C : Prop) (S : pj_S), pj_go T n pc L st h kc ks = some (C, S) → C → ∀ (d : Nat) (Q : pj_O → pj_H → Prop), pj_JS G mt d S Q → pj_J G mt d pc L st h kc ks Q := by
  intro n
  induction n with
  | zero =>
    intro pc L st h kc ks C S hg hC d Q k
    simp only [pj_go, Option.some.injEq, Prod.mk.injEq] at hg
    obtain ⟨-, rfl⟩ := hg
    exact k
  | succ n ih =>
    intro pc L st h kc ks C S hg hC d Q k
    rw [pj_go] at hg
    split at hg
    · cases hg
    · rename_i op hop
      split at hg
      · cases hg
      · rename_i c pc' L' st' h' kc' ks' hst
        split at hg
        · cases hg
        · rename_i C' S' hgo
          simp only [Option.some.injEq, Prod.mk.injEq] at hg
          obtain ⟨rfl, rfl⟩ := hg
          have hc : pj_ok c ∧ C' := by
            cases c with
            | none => exact ⟨trivial, hC⟩
            | some P => exact hC
          exact pj_okT_at hT hop L st h kc ks c _ hst hc.1 d Q (ih pc' L' st' h' kc' ks' C' S' hgo hc.2 d Q k)
