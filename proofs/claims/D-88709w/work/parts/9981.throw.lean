/-! THROWING: the walk's own start moved to where it stands (so that nothing of the heap is forgotten). Own work. -/
set_option maxRecDepth 100000
def px_s (T : State) (m : MethodId) (args : Array Value) (below : List Frame) : State := T.setFrames (.invoking m args :: below)
def px_R (R : Room) (cells slots : Nat) : Room := { R with cells := R.cells - cells, slots := R.slots - slots }
theorem px_hears {s T : State} {m : MethodId} {below : List Frame} (hA : s.vm.Alike T.vm) (h : s.hears m below = true) : T.hears m below = true := by
  rcases below with _ | ⟨y, r⟩
  · simp only [State.hears] at h ⊢
    rw [hA.method?]; exact h
  · cases y <;> first | exact h | (simp only [State.hears, State.code?_eq] at h ⊢; rw [hA.method?]; exact h)
theorem px_rebase {p : Program} {l : Launch} {e : Env} {R : Room} {s : State} {m : MethodId} {args : Array Value} {below : List Frame} {meth : Method} {c : Code} {T : State} {locs : List Loc} {cells slots : Nat} (X : Stand p l e R s m args below meth c T locs cells slots) (hc : cells ≤ R.cells) (hs : slots ≤ R.slots) :
    Stand p l e (px_R R cells slots) (px_s T m args below) m args below meth c T [] 0 0 := by
  obtain ⟨g₀, hfr⟩ := X.frames_eq
  obtain ⟨t, ht, -⟩ := State.frames_cons hfr
  have hcur : T.cur < T.threads.size := State.cur_lt_of_frames hfr
  have hF : (px_s T m args below).frames = .invoking m args :: below := State.frames_setFrames _ hcur
  have hm : (px_s T m args below).vm.method? m = some meth := X.method'
  have hT : T = (px_s T m args below).setFrames (.java g₀ :: below) := by
    unfold px_s
    rw [State.setFrames_setFrames, ← hfr, State.setFrames_self ht]
  have hlim : e.platform.stackLimits (px_s T m args below).me = e.platform.stackLimits s.me := by
    unfold px_s; rw [State.stackLimits_setFrames]; exact X.limits
  have hby : (px_s T m args below).me.stackBytes = s.me.stackBytes := by
    unfold px_s; rw [State.stackBytes_setFrames]; exact X.bytes
  obtain ⟨t', ht', -⟩ := State.frames_cons hF
  refine ⟨X.admits, X.cas, X.clock, hF, ?_, px_hears (s := s) X.warmed.alike X.hears, hm, X.code, X.here, X.tail, State.WarmedH.refl _, by rw [hlim]; exact X.limits, by rw [hby]; exact X.bytes, ?_⟩
  · have hr := X.room
    have h1 := X.heapSize
    have h2 := X.used
    have hb := X.book
    have e1 : (px_s T m args below).localsInUse = s.localsInUse := by
      rw [State.localsInUse_invoking hF hm X.code, State.localsInUse_invoking X.frames X.method X.code]
    have e2 : (px_s T m args below).frames.length = s.frames.length := by rw [hF, X.frames]
    have e3 : (px_s T m args below).heap = T.heap := rfl
    have e4 : (px_s T m args below).slotsUsed = T.slotsUsed := rfl
    have e5 : (px_s T m args below).slotsTrue = T.slotsTrue := rfl
    simp only [State.hasRoom, Bool.and_eq_true, decide_eq_true_eq] at hr ⊢
    rw [e1, e2, e3, e4, e5, hlim, hby]
    refine ⟨⟨⟨⟨hr.1.1.1.1, hr.1.1.1.2⟩, ?_⟩, ?_⟩, hb⟩
    · have := hr.1.1.2; show T.heap.size + (R.cells - cells) ≤ _; omega
    · have := hr.1.2; show T.slotsUsed + (R.slots - slots) ≤ _; omega
  · have h := (State.sameButNew.refl (px_s T m args below) ht').setFrames (.java g₀ :: below) (by exact State.cur_lt_of_frames hF)
    rw [← hT] at h
    exact h
/-- an end reached from there is an end of the walk -/
theorem px_same {p : Program} {l : Launch} {e : Env} {R : Room} {s : State} {m : MethodId} {args : Array Value} {below : List Frame} {meth : Method} {c : Code} {T : State} {locs : List Loc} {cells slots : Nat} (X : Stand p l e R s m args below meth c T locs cells slots) {U : State} {L : List Loc} {k n : Nat} (hW : (px_s T m args below).WarmedH U.vm) (h : (px_s T m args below).sameButNew ({ U with vm := (px_s T m args below).vm } : State) L k n) :
    s.WarmedH U.vm ∧ s.sameButNew ({ U with vm := s.vm } : State) (locs ++ L) (cells + k) (slots + n) := by
  have hW' : T.WarmedH U.vm := hW
  refine ⟨State.WarmedH.trans X.warmed hW', ?_⟩
  have h1 : s.sameButNew ((px_s T m args below).setVm s.vm) locs cells slots := X.same.setFrames (.invoking m args :: below) X.cur
  exact h1.trans (h.setVm s.vm)
/-- where a throw's words stand -/
def px_in (a : Cond) : Prop := a ∈ lw_all ∨ (a ∈ pj_ext ∧ a.onTables = true) ∨ a = .isRef (.static "java/lang/Throwable" "UNASSIGNED_STACK" "[Ljava/lang/StackTraceElement;") ∨ a = .isRef (.static "java/lang/Throwable" "SUPPRESSED_SENTINEL" "Ljava/util/List;") ∨ a = .laysStatic "java/lang/Throwable" "UNASSIGNED_STACK" "[Ljava/lang/StackTraceElement;" ∨ a = .laysStatic "java/lang/Throwable" "SUPPRESSED_SENTINEL" "Ljava/util/List;"
theorem px_thA : ∀ a ∈ Jvm.Bundle.throwableAtoms, px_in a := List.forall_mem_cons.mpr ⟨Or.inl q77, List.forall_mem_cons.mpr ⟨Or.inl q1110, List.forall_mem_cons.mpr ⟨Or.inl q1050, List.forall_mem_cons.mpr ⟨Or.inl q1072, List.forall_mem_cons.mpr ⟨Or.inl q1075, List.forall_mem_cons.mpr ⟨Or.inl q1077, List.forall_mem_cons.mpr ⟨Or.inl q1111, List.forall_mem_cons.mpr ⟨Or.inl q1112, List.forall_mem_cons.mpr ⟨Or.inl q101, List.forall_mem_cons.mpr ⟨Or.inl q102, List.forall_mem_cons.mpr ⟨Or.inl q1044, List.forall_mem_cons.mpr ⟨Or.inl q1049, List.forall_mem_cons.mpr ⟨Or.inl q1073, List.forall_mem_cons.mpr ⟨Or.inl q1080, List.forall_mem_cons.mpr ⟨Or.inl q1104, List.forall_mem_cons.mpr ⟨Or.inl q1081, List.forall_mem_cons.mpr ⟨Or.inl q1105, List.forall_mem_cons.mpr ⟨Or.inl q1082, List.forall_mem_cons.mpr ⟨Or.inl q1106, List.forall_mem_cons.mpr ⟨Or.inl q1045, List.forall_mem_cons.mpr ⟨Or.inr (Or.inr (Or.inr (Or.inr (Or.inl rfl)))), List.forall_mem_cons.mpr ⟨Or.inl q1047, List.forall_mem_cons.mpr ⟨Or.inr (Or.inr (Or.inr (Or.inr (Or.inr rfl)))), List.forall_mem_cons.mpr ⟨Or.inl q1107, (fun a h => by cases h)⟩⟩⟩⟩⟩⟩⟩⟩⟩⟩⟩⟩⟩⟩⟩⟩⟩⟩⟩⟩⟩⟩⟩⟩
theorem px_chI : ∀ a ∈ Jvm.Bundle.chain0Atoms "java/lang/IllegalArgumentException" ["java/lang/RuntimeException", "java/lang/Exception"], px_in a := List.forall_mem_cons.mpr ⟨Or.inl q1315, List.forall_mem_cons.mpr ⟨Or.inl q1316, List.forall_mem_cons.mpr ⟨Or.inl q1317, List.forall_mem_cons.mpr ⟨Or.inl q1166, List.forall_mem_cons.mpr ⟨Or.inr (Or.inl ⟨pj_xD 4 rfl, rfl⟩), List.forall_mem_cons.mpr ⟨Or.inl q1166, List.forall_mem_cons.mpr ⟨Or.inl q1167, List.forall_mem_cons.mpr ⟨Or.inl q1168, List.forall_mem_cons.mpr ⟨Or.inl q1169, List.forall_mem_cons.mpr ⟨Or.inr (Or.inl ⟨pj_xD 6 rfl, rfl⟩), List.forall_mem_cons.mpr ⟨Or.inl q1169, List.forall_mem_cons.mpr ⟨Or.inl q1170, List.forall_mem_cons.mpr ⟨Or.inl q1171, List.forall_mem_cons.mpr ⟨Or.inl q1111, List.forall_mem_cons.mpr ⟨Or.inr (Or.inl ⟨pj_xD 8 rfl, rfl⟩), (fun a h => by cases h)⟩⟩⟩⟩⟩⟩⟩⟩⟩⟩⟩⟩⟩⟩⟩
theorem px_owI : ∀ a ∈ Jvm.Bundle.ownAtoms0 "PennyJudge" 253 "java/lang/IllegalArgumentException" ["java/lang/RuntimeException", "java/lang/Exception"], px_in a := by
  intro a h0
  rcases List.mem_append.mp h0 with h | h
  · rcases List.mem_append.mp h with h | h
    · exact px_thA a h
    · exact px_chI a h
  · clear h0
    revert a
    exact List.forall_mem_cons.mpr ⟨Or.inl q1314, List.forall_mem_cons.mpr ⟨Or.inl q1306, List.forall_mem_cons.mpr ⟨Or.inr (Or.inl ⟨pj_xC 6 rfl, rfl⟩), List.forall_mem_cons.mpr ⟨Or.inl q1308, List.forall_mem_cons.mpr ⟨Or.inl q1055, List.forall_mem_cons.mpr ⟨Or.inl q1309, List.forall_mem_cons.mpr ⟨Or.inl q1310, List.forall_mem_cons.mpr ⟨Or.inl q1311, List.forall_mem_cons.mpr ⟨Or.inl q1312, List.forall_mem_cons.mpr ⟨Or.inr (Or.inr (Or.inl rfl)), List.forall_mem_cons.mpr ⟨Or.inr (Or.inr (Or.inr (Or.inl rfl))), List.forall_mem_cons.mpr ⟨Or.inl q1109, List.forall_mem_cons.mpr ⟨Or.inl q1108, List.forall_mem_cons.mpr ⟨Or.inl q1313, (fun a h => by cases h)⟩⟩⟩⟩⟩⟩⟩⟩⟩⟩⟩⟩⟩⟩
theorem px_chS : ∀ a ∈ Jvm.Bundle.chain0Atoms "java/lang/IllegalStateException" ["java/lang/RuntimeException", "java/lang/Exception"], px_in a := List.forall_mem_cons.mpr ⟨Or.inl q1392, List.forall_mem_cons.mpr ⟨Or.inl q1393, List.forall_mem_cons.mpr ⟨Or.inl q1394, List.forall_mem_cons.mpr ⟨Or.inl q1166, List.forall_mem_cons.mpr ⟨Or.inr (Or.inl ⟨pj_xD 4 rfl, rfl⟩), List.forall_mem_cons.mpr ⟨Or.inl q1166, List.forall_mem_cons.mpr ⟨Or.inl q1167, List.forall_mem_cons.mpr ⟨Or.inl q1168, List.forall_mem_cons.mpr ⟨Or.inl q1169, List.forall_mem_cons.mpr ⟨Or.inr (Or.inl ⟨pj_xD 6 rfl, rfl⟩), List.forall_mem_cons.mpr ⟨Or.inl q1169, List.forall_mem_cons.mpr ⟨Or.inl q1170, List.forall_mem_cons.mpr ⟨Or.inl q1171, List.forall_mem_cons.mpr ⟨Or.inl q1111, List.forall_mem_cons.mpr ⟨Or.inr (Or.inl ⟨pj_xD 8 rfl, rfl⟩), (fun a h => by cases h)⟩⟩⟩⟩⟩⟩⟩⟩⟩⟩⟩⟩⟩⟩⟩
theorem px_owS : ∀ a ∈ Jvm.Bundle.ownAtoms0 "PennyJudge" 394 "java/lang/IllegalStateException" ["java/lang/RuntimeException", "java/lang/Exception"], px_in a := by
  intro a h0
  rcases List.mem_append.mp h0 with h | h
  · rcases List.mem_append.mp h with h | h
    · exact px_thA a h
    · exact px_chS a h
  · clear h0
    revert a
    exact List.forall_mem_cons.mpr ⟨Or.inl q1391, List.forall_mem_cons.mpr ⟨Or.inl q1383, List.forall_mem_cons.mpr ⟨Or.inr (Or.inl ⟨pj_xC 7 rfl, rfl⟩), List.forall_mem_cons.mpr ⟨Or.inl q1385, List.forall_mem_cons.mpr ⟨Or.inl q1056, List.forall_mem_cons.mpr ⟨Or.inl q1386, List.forall_mem_cons.mpr ⟨Or.inl q1387, List.forall_mem_cons.mpr ⟨Or.inl q1388, List.forall_mem_cons.mpr ⟨Or.inl q1389, List.forall_mem_cons.mpr ⟨Or.inr (Or.inr (Or.inl rfl)), List.forall_mem_cons.mpr ⟨Or.inr (Or.inr (Or.inr (Or.inl rfl))), List.forall_mem_cons.mpr ⟨Or.inl q1109, List.forall_mem_cons.mpr ⟨Or.inl q1108, List.forall_mem_cons.mpr ⟨Or.inl q1390, (fun a h => by cases h)⟩⟩⟩⟩⟩⟩⟩⟩⟩⟩⟩⟩⟩⟩
theorem px_trace {l : Launch} {e : Env} (h : l.admits e) (hf : l.flags = flags0) : e.platform.stackTraces = false := by
  rw [Launch.admits.platform h]
  show l.stackTraces = false
  unfold Launch.stackTraces
  rw [hf]
  decide +kernel
/-- a throw's words hold where the walk stands -/
theorem px_word {G : pj_G} {mt : pj_M} {d : Nat} {p : Program} {l : Launch} {e : Env} {R : Room} {s : State} {m : MethodId} {args : Array Value} {below : List Frame} {meth : Method} {c : Code} {T : State} {locs : List Loc} {cells slots : Nat} {h : pj_H} (hC : pj_C G mt d p l R s m args meth c) (hR : pj_R G h T.heap) (X : Stand p l e R s m args below meth c T locs cells slots) (a : Cond) (ha : px_in a) : a.before args (px_s T m args below) = true := by
  have hK := hC.2.2.2.2.2.2.2.2.1
  have hts := hC.2.2.2.2.2.2.2.1
  have hW : s.WarmedH (px_s T m args below).vm := X.warmed
  have hz : ∀ {C n d : String}, pj_Zt C n d s G.2.2.1 → pj_Zt C n d (px_s T m args below) (px_s T m args below).heap := fun hz => (hz.moved hW.alike).kept (fun q hq => hR.2.2.1 q hq)
  rcases ha with ha | ⟨ha, ho⟩ | rfl | rfl | rfl | rfl
  · exact word_at hW (lw_self a ha).2 (hts a ha)
  · exact va_tabs ho rfl (pj_ext_warm hW hK.2.1 a ha)
  · exact (hz hK.2.2.2.2.2.1).isRef
  · exact (hz hK.2.2.2.2.2.2.1).isRef
  · exact (hz hK.2.2.2.2.2.1).lays
  · exact (hz hK.2.2.2.2.2.2.1).lays
/-- the method's handlers -/
def px_H (mt : pj_M) (hh : List (Nat × Nat × Nat × Nat)) : Prop := (hh = [] ∧ Cond.code mt.1 mt.2.1 mt.2.2.1 mt.2.2.2 ∈ lw_all) ∨ Cond.codeWith mt.1 mt.2.1 mt.2.2.1 mt.2.2.2 hh ∈ lw_all
theorem px_tab {G : pj_G} {mt : pj_M} {d : Nat} {p : Program} {l : Launch} {e : Env} {R : Room} {s : State} {m : MethodId} {args : Array Value} {below : List Frame} {meth : Method} {c : Code} {T : State} {locs : List Loc} {cells slots : Nat} {hh : List (Nat × Nat × Nat × Nat)} (hC : pj_C G mt d p l R s m args meth c) (X : Stand p l e R s m args below meth c T locs cells slots) (hH : px_H mt hh) : c.exceptionTable.toList.map (fun h => (h.startPc, h.endPc, h.handlerPc, h.catchType)) = hh := by
  have hn := hC.2.2.2.2.2.2.1.2
  have hts := hC.2.2.2.2.2.2.2.1
  rcases hH with ⟨rfl, hw⟩ | hw
  · obtain ⟨meth', c', h1, h2, -, -, -, -, h3, -⟩ := Cond.code_spec hn (hts _ hw)
    cases X.method.symm.trans h1
    cases X.code.symm.trans h2
    have : c.exceptionTable = #[] := by simpa using h3
    rw [this]; rfl
  · obtain ⟨m', meth', c', h0, h1, h2, -, -, h3, -⟩ := Cond.codeWith_spec (hts _ hw)
    cases hn.symm.trans h0
    cases X.method.symm.trans h1
    cases X.code.symm.trans h2
    exact h3
/-- nothing old has changed -/
theorem px_old {s U : State} {vm : Vm} {k n : Nat} (h : s.sameButNew ({ U with vm := vm } : State) [] k n) : ∀ q : Nat, q < s.heap.size → U.heap[q]? = s.heap[q]? := by
  intro q hq
  obtain ⟨c', h1, h2, h3, h4⟩ := h.2.2.2.2.2 q s.heap[q] (Array.getElem?_eq_getElem hq)
  have e : c'.slots = (s.heap[q]).slots := by
    apply Array.ext_getElem?
    intro i
    exact h4 i (by simp)
  have : c' = s.heap[q] := by rw [h2, e]
  rw [Array.getElem?_eq_getElem hq, ← this]
  exact h1
/-- THROW NEW X(): X an exception of the library without a message, no handler about -/
theorem px_thr {G : pj_G} {mt : pj_M} {d pc ci ic index : Nat} {cls : String} {L : pj_L} {h : pj_H} {kc ks : Nat} {Q : pj_O → pj_H → Prop} {hh : List (Nat × Nat × Nat × Nat)} (hown : mt.1.cls = "PennyJudge") (hcl : Cond.classLink "PennyJudge" index cls ∈ lw_all) (hin : Cond.instantiable cls 6 ∈ lw_all) (hini : Cond.initialized cls ∈ lw_all) (hci : pj_cl[ci]? = some (cls, TX1, 0)) (hfit : Jvm.Bundle.fit cls = true) (hw : ∀ a ∈ Jvm.Bundle.ownAtoms0 "PennyJudge" ic cls ["java/lang/RuntimeException", "java/lang/Exception"], px_in a)
    (hH : px_H mt hh) (hcov : hh.all (fun q => !(decide (q.1 ≤ pc + 7) && decide (pc + 7 < q.2.1))) = true)
    (hd0 : decode mt.2.1 pc = .ok (.new index, 3)) (hd1 : decode mt.2.1 (pc + 3) = .ok (.dup, 1)) (hd2 : decode mt.2.1 (pc + 4) = .ok (.invokespecial ic, 3)) (hd3 : decode mt.2.1 (pc + 7) = .ok (.athrow, 1))
    (hq : Q (.inr (ci, h.length)) (h ++ [.inr (ci, [])])) : pj_J G mt d pc L [] h (kc + 1) (ks + 6) Q := by
  intro p l e R s m args below meth c H locs cells slots mc ms ls hC hR hl hv h1 h2 h3 h4 T hT X
  subst hT
  have hK := hC.2.2.2.2.2.2.2.2.1
  obtain ⟨-, -, -, -, -, -, -, -, -, hfr, hlo, hfl⟩ := id hC
  have hKn := hK.1.1 ci _ hci
  have htab := px_tab hC X hH
  have hwd := px_word hC hR X
  have X' := px_rebase X (by omega) (by omega)
  have hown' : (px_s T m args below).vm.findClass "PennyJudge" = some m.cls := by
    rw [← hown]
    show T.vm.findClass _ = _
    rw [X.warmed.alike.findClass]; exact hC.2.2.2.2.2.1
  have hfc : (px_s T m args below).vm.findClass cls = some (G.1.1 ci) := by
    show T.vm.findClass _ = _
    rw [X.warmed.alike.findClass]; exact hKn.2.1
  have hout : ∀ x ∈ c.exceptionTable.toList, covers x (pc + 4 + 3) = false := by
    intro x hx
    have hx' : (x.startPc, x.endPc, x.handlerPc, x.catchType) ∈ hh := by rw [← htab]; exact List.mem_map.mpr ⟨x, hx, rfl⟩
    have := List.all_eq_true.mp hcov _ hx'
    simp at this
    simp [covers]
    omega
  have key : W p l e (px_R R cells slots) (px_s T m args below) m args below meth c T.heap [] 0 0 (fun U => U.status = .running ∧ Ended U below (.threw T.heap.size) ∧ (px_s T m args below).WarmedH U.vm ∧ (px_s T m args below).sameButNew ({ U with vm := (px_s T m args below).vm } : State) [] 1 6 ∧ ∃ ce, U.heap[T.heap.size]? = some ce ∧ Jvm.Bundle.OwnCell args (px_s T m args below) cls T.heap.size .null ce) (F0 m pc ls []) := by
    refine W.newcK hC.1 hC.2.1 hown' (hwd _ (Or.inl hcl)) (hwd _ (Or.inl hin)) (hwd _ (Or.inl hini)) rfl hd0 (by show 0 + 1 ≤ R.cells - cells; omega) (by show 0 + 6 ≤ R.slots - slots; omega) hfc rfl fun H1 kC hkC e1 z1 o1 => ?_
    refine lv_dup hC.1 hC.2.1 hd1 rfl ?_
    intro T2 hT2 X2
    subst hT2
    obtain ⟨U, st, u1, u2, u3, u4, u5⟩ := X2.ctorThrow0 hC.1 (px_trace X.admits hfl) hown' hfit (by decide) (fun a ha => hwd a (hw a ha)) (fun x hx => by cases hx) hfc hkC (a := T.heap.size) e1 (Nat.le_refl _) (g := F0 m (pc + 4) ls [.ref T.heap.size, .ref T.heap.size]) rfl (by rw [hC.2.2.1]; exact hv.1) rfl rfl (rest := []) rfl (by rw [hC.2.1]; exact hd2) (by rw [hC.2.1]; exact hd3) hout (by show 2 + 3 < R.frames; omega) (by show 2 * 0 + 1 + (13 * (2 + 1) + 41) ≤ R.locals; omega) hC.2.2.2.2.1
    exact ⟨U, st, u1, u2, u3, u4, u5⟩
  obtain ⟨U, st, u1, u2, u3, u4, ce, u5, u6⟩ := key T rfl X'
  obtain ⟨hWU, hsU⟩ := px_same X u3 u4
  have hsz := hR.size
  have hz : U.heap.size = T.heap.size + 1 := by
    have a1 := (Array.getElem?_eq_some_iff.mp u5).1
    have a2 : U.heap.size ≤ T.heap.size + 1 := u4.2.2.1
    omega
  have hR' := hR.push (y := .inr (ci, [])) hz (fun q hq => px_old u4 q hq) (fun _ => by
    show va_at G.1 pj_cl (pj_ad G h.length, .inr (ci, ([] : List Value).map (pj_v G))) U.heap
    rw [hsz]
    refine ⟨_, hci, ce, u5, ?_, u6.vm, fun k hk => by cases hk⟩
    exact Option.some.inj (u6.cls.symm.trans hfc))
  refine ⟨U, st, .threw T.heap.size, u1, u2, Or.inr ⟨ci, h.length, _, [], by rw [hsz], hq, by simp, hR', hK.warm hWU⟩, hWU, locs ++ [], hsU.weaken (fun y hy _ => hy) (by omega) (by omega), ?_⟩
  intro q hq
  rw [List.append_nil] at hq
  exact hl q hq
/-- throw new IllegalArgumentException() -/
theorem px_thrI {G : pj_G} {mt : pj_M} {d pc : Nat} {L : pj_L} {h : pj_H} {kc ks : Nat} {Q : pj_O → pj_H → Prop} {hh : List (Nat × Nat × Nat × Nat)} (hown : mt.1.cls = "PennyJudge") (hH : px_H mt hh) (hcov : hh.all (fun q => !(decide (q.1 ≤ pc + 7) && decide (pc + 7 < q.2.1))) = true)
    (hd0 : decode mt.2.1 pc = .ok (.new 251, 3)) (hd1 : decode mt.2.1 (pc + 3) = .ok (.dup, 1)) (hd2 : decode mt.2.1 (pc + 4) = .ok (.invokespecial 253, 3)) (hd3 : decode mt.2.1 (pc + 7) = .ok (.athrow, 1))
    (hq : Q (.inr (19, h.length)) (h ++ [.inr (19, [])])) : pj_J G mt d pc L [] h (kc + 1) (ks + 6) Q :=
  px_thr (ci := 19) (cls := "java/lang/IllegalArgumentException") hown q1305 q1306 q80 rfl (by decide +kernel) px_owI hH hcov hd0 hd1 hd2 hd3 hq
/-- throw new IllegalStateException() -/
theorem px_thrS {G : pj_G} {mt : pj_M} {d pc : Nat} {L : pj_L} {h : pj_H} {kc ks : Nat} {Q : pj_O → pj_H → Prop} {hh : List (Nat × Nat × Nat × Nat)} (hown : mt.1.cls = "PennyJudge") (hH : px_H mt hh) (hcov : hh.all (fun q => !(decide (q.1 ≤ pc + 7) && decide (pc + 7 < q.2.1))) = true)
    (hd0 : decode mt.2.1 pc = .ok (.new 392, 3)) (hd1 : decode mt.2.1 (pc + 3) = .ok (.dup, 1)) (hd2 : decode mt.2.1 (pc + 4) = .ok (.invokespecial 394, 3)) (hd3 : decode mt.2.1 (pc + 7) = .ok (.athrow, 1))
    (hq : Q (.inr (20, h.length)) (h ++ [.inr (20, [])])) : pj_J G mt d pc L [] h (kc + 1) (ks + 6) Q :=
  px_thr (ci := 20) (cls := "java/lang/IllegalStateException") hown q1382 q1383 q93 rfl (by decide +kernel) px_owS hH hcov hd0 hd1 hd2 hd3 hq
