/-! RAISING: the rules of the small machine. Own work. -/
set_option maxRecDepth 100000
/-- the instruction at pc throws (the tables may be warmer by it) -/
def px_rs (G : pj_G) (mt : pj_M) (d pc : Nat) (st : List Value) (h : pj_H) (cls : String) (ok : Option String → Prop) : Prop :=
  ∀ (p : Program) (l : Launch) (e : Env) (R : Room) (s : State) (m : MethodId) (args : Array Value) (below : List Frame) (meth : Method) (c : Code) (T : State) (locs : List Loc) (cells slots : Nat) (ls : Array Slot),
    pj_C G mt d p l R s m args meth c → pj_R G h T.heap → Stand p l e R s m args below meth c T locs cells slots →
    ∃ (T1 : State) (stk : List Value) (msg : Option String), T1.heap = T.heap ∧ Stand p l e R s m args below meth c T1 locs cells slots ∧ (stk.map fun v => v.category).sum ≤ 8 ∧ ok msg ∧
      ∀ target, Steps p.tables e below ((T1.setTop (F0 m pc ls stk)).pushFrame (.throwNew cls msg none)) target → Steps p.tables e below (T.setTop (F0 m pc ls (st.map (pj_v G)))) target
def px_none (m : Option String) : Prop := m = none
def px_some (m : Option String) : Prop := ∃ t : String, m = some t ∧ (t == notModelled) = false ∧ (stringBytes (stringToUtf16 t)).size ≤ 1000
/-- NullPointerException -/
theorem pj_J.raiseN {G : pj_G} {mt : pj_M} {d pc : Nat} {L : pj_L} {st : List Value} {h : pj_H} {kc ks : Nat} {Q : pj_O → pj_H → Prop} {hh : List (Nat × Nat × Nat × Nat)} (hr : px_rs G mt d pc st h "java/lang/NullPointerException" px_none) (hH : px_H mt hh) (hn : px_next G mt d pc L hh kc ks Q 21 h.length (h ++ [.inr (21, [])])) : pj_J G mt d pc L st h (kc + 1) (ks + 8) Q := by
  intro p l e R s m args below meth c H locs cells slots mc ms ls hC hR hl hv h1 h2 h3 h4 T hT X
  subst hT
  obtain ⟨T1, stk, msg, t1, X1, t2, rfl, t3⟩ := hr p l e R s m args below meth c T locs cells slots ls hC hR X
  obtain ⟨U, XU, hRU, st⟩ := px_mkN (pc := pc) (ls := ls) (stk := stk) hC X1 (by rw [t1]; exact hR) hv.1 t2 (by omega) (by omega)
  obtain ⟨t', st', hend⟩ := px_thrown (stk := stk) (fs := []) hC XU hRU (i := h.length) (by simp) hl hv hH (by omega) (by omega) h3 h4 hn
  exact ⟨t', t3 _ (st _ st'), hend⟩
theorem pj_J.raiseM {G : pj_G} {mt : pj_M} {d pc : Nat} {L : pj_L} {st : List Value} {h : pj_H} {kc ks : Nat} {Q : pj_O → pj_H → Prop} {hh : List (Nat × Nat × Nat × Nat)} {cls : String} {names : List String} {ci : Nat}
    (hcls : Jvm.Bundle.fit cls = true) (hnames : ∀ n ∈ names, Jvm.Bundle.fit n = true) (hsoe : (cls == "java/lang/StackOverflowError") = false) (hoom : (cls == "java/lang/OutOfMemoryError") = false) (hw : ∀ a ∈ Jvm.Bundle.messageArmAtoms cls names, px_in a) (hci : pj_cl[ci]? = some (cls, TX1, 0)) (hn3 : names.length ≤ 3)
    (hr : px_rs G mt d pc st h cls px_some) (hH : px_H mt hh) (hn : px_next G mt d pc L hh kc ks Q ci (h.length + 2) (h ++ [.inr (90, []), .inr (90, []), .inr (ci, [])])) : pj_J G mt d pc L st h (kc + 3) (ks + 1010) Q := by
  intro p l e R s m args below meth c H locs cells slots mc ms ls hC hR hl hv h1 h2 h3 h4 T hT X
  subst hT
  obtain ⟨T1, stk, msg, t1, X1, t2, ⟨text, rfl, x1, x2⟩, t3⟩ := hr p l e R s m args below meth c T locs cells slots ls hC hR X
  obtain ⟨U, XU, hRU, st⟩ := px_mkM (pc := pc) (ls := ls) (stk := stk) hC X1 (by rw [t1]; exact hR) hv.1 t2 (by omega) (by omega) hcls hnames hsoe hoom hw hci hn3 x1 x2
  obtain ⟨t', st', hend⟩ := px_thrown (stk := stk) (fs := []) hC XU hRU (i := h.length + 2) (by rw [List.getElem?_append_right (by omega), Nat.add_sub_cancel_left]; rfl) hl hv hH (by omega) (by omega) h3 h4 hn
  exact ⟨t', t3 _ (st _ st'), hend⟩
/-- ClassCastException, ArrayIndexOutOfBoundsException, NegativeArraySizeException -/
theorem pj_J.raiseC {G : pj_G} {mt : pj_M} {d pc : Nat} {L : pj_L} {st : List Value} {h : pj_H} {kc ks : Nat} {Q : pj_O → pj_H → Prop} {hh : List (Nat × Nat × Nat × Nat)} (hr : px_rs G mt d pc st h "java/lang/ClassCastException" px_some) (hH : px_H mt hh) (hn : px_next G mt d pc L hh kc ks Q 22 (h.length + 2) (h ++ [.inr (90, []), .inr (90, []), .inr (22, [])])) : pj_J G mt d pc L st h (kc + 3) (ks + 1010) Q :=
  pj_J.raiseM (by decide +kernel) (by decide +kernel) (by decide) (by decide) px_msC rfl (by decide) hr hH hn
theorem pj_J.raiseA {G : pj_G} {mt : pj_M} {d pc : Nat} {L : pj_L} {st : List Value} {h : pj_H} {kc ks : Nat} {Q : pj_O → pj_H → Prop} {hh : List (Nat × Nat × Nat × Nat)} (hr : px_rs G mt d pc st h "java/lang/ArrayIndexOutOfBoundsException" px_some) (hH : px_H mt hh) (hn : px_next G mt d pc L hh kc ks Q 23 (h.length + 2) (h ++ [.inr (90, []), .inr (90, []), .inr (23, [])])) : pj_J G mt d pc L st h (kc + 3) (ks + 1010) Q :=
  pj_J.raiseM (by decide +kernel) (by decide +kernel) (by decide) (by decide) px_msA rfl (by decide) hr hH hn
theorem pj_J.raiseG {G : pj_G} {mt : pj_M} {d pc : Nat} {L : pj_L} {st : List Value} {h : pj_H} {kc ks : Nat} {Q : pj_O → pj_H → Prop} {hh : List (Nat × Nat × Nat × Nat)} (hr : px_rs G mt d pc st h "java/lang/NegativeArraySizeException" px_some) (hH : px_H mt hh) (hn : px_next G mt d pc L hh kc ks Q 24 (h.length + 2) (h ++ [.inr (90, []), .inr (90, []), .inr (24, [])])) : pj_J G mt d pc L st h (kc + 3) (ks + 1010) Q :=
  pj_J.raiseM (by decide +kernel) (by decide +kernel) (by decide) (by decide) px_msG rfl (by decide) hr hH hn
/-- null met -/
theorem rn_alen {G : pj_G} {mt : pj_M} {d pc : Nat} {h : pj_H} {rest : List Value} (hd : decode mt.2.1 pc = .ok (.arraylength, 1)) (hw : (rest.map fun v => v.category).sum ≤ 8) : px_rs G mt d pc (.null :: rest) h "java/lang/NullPointerException" px_none := by
  intro p l e R s m args below meth c T locs cells slots ls hC hR X
  exact ⟨T, rest.map (pj_v G), none, rfl, X, by rw [pj_cats]; exact hw, rfl, X.arraylengthNull hC.1 (g := F0 m pc ls ((.null :: rest).map (pj_v G))) rfl (rest := rest.map (pj_v G)) rfl (by rw [hC.2.1]; exact hd)⟩
theorem rn_last {G : pj_G} {mt : pj_M} {d pc : Nat} {h : pj_H} {x : Int64} {i : Int32} {rest : List Value} (hd : decode mt.2.1 pc = .ok (.lastore, 1)) (hw : (rest.map fun v => v.category).sum ≤ 8) : px_rs G mt d pc (.long x :: .int i :: .null :: rest) h "java/lang/NullPointerException" px_none := by
  intro p l e R s m args below meth c T locs cells slots ls hC hR X
  exact ⟨T, rest.map (pj_v G), none, rfl, X, by rw [pj_cats]; exact hw, rfl, X.lastoreNull hC.1 (g := F0 m pc ls ((.long x :: .int i :: .null :: rest).map (pj_v G))) rfl (rest := rest.map (pj_v G)) rfl (by rw [hC.2.1]; exact hd)⟩
theorem rn_laload {G : pj_G} {mt : pj_M} {d pc : Nat} {h : pj_H} {i : Int32} {rest : List Value} (hd : decode mt.2.1 pc = .ok (.laload, 1)) (hw : (rest.map fun v => v.category).sum ≤ 8) : px_rs G mt d pc (.int i :: .null :: rest) h "java/lang/NullPointerException" px_none := by
  intro p l e R s m args below meth c T locs cells slots ls hC hR X
  exact ⟨T, rest.map (pj_v G), none, rfl, X, by rw [pj_cats]; exact hw, rfl, X.laloadNull hC.1 (g := F0 m pc ls ((.int i :: .null :: rest).map (pj_v G))) rfl (rest := rest.map (pj_v G)) rfl (by rw [hC.2.1]; exact hd)⟩
theorem rn_athrow {G : pj_G} {mt : pj_M} {d pc : Nat} {h : pj_H} {rest : List Value} (hd : decode mt.2.1 pc = .ok (.athrow, 1)) (hw : (rest.map fun v => v.category).sum ≤ 8) : px_rs G mt d pc (.null :: rest) h "java/lang/NullPointerException" px_none := by
  intro p l e R s m args below meth c T locs cells slots ls hC hR X
  exact ⟨T, rest.map (pj_v G), none, rfl, X, by rw [pj_cats]; exact hw, rfl, X.athrowNull hC.1 (g := F0 m pc ls ((.null :: rest).map (pj_v G))) rfl (rest := rest.map (pj_v G)) rfl (by rw [hC.2.1]; exact hd)⟩
/-- a negative length -/
theorem rn_neg {G : pj_G} {mt : pj_M} {d pc : Nat} {h : pj_H} {n : Int32} {rest : List Value} {atype : ArrayType} (hn : n < 0) (hd : decode mt.2.1 pc = .ok (.newarray atype, 2)) (hw : (rest.map fun v => v.category).sum ≤ 8) : px_rs G mt d pc (.int n :: rest) h "java/lang/NegativeArraySizeException" px_some := by
  intro p l e R s m args below meth c T locs cells slots ls hC hR X
  refine ⟨T, rest.map (pj_v G), some (toString n), rfl, X, by rw [pj_cats]; exact hw, ⟨_, rfl, negative_text_modelled hn, ?_⟩, X.newarrayNegative hC.1 (g := F0 m pc ls ((.int n :: rest).map (pj_v G))) rfl hn (rest := rest.map (pj_v G)) rfl (by rw [hC.2.1]; exact hd)⟩
  have := negative_text_bytes n
  omega
