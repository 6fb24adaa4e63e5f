/-! RAISING: an instruction at which the machine throws; what was thrown is caught here or leaves. Own work. -/
set_option maxRecDepth 100000
def px_cov (hh : List (Nat × Nat × Nat × Nat)) (pc : Nat) : Bool := hh.all (fun q => !(decide (q.1 ≤ pc) && decide (pc < q.2.1)))
/-- what follows once cell i, of class ci, is thrown at pc -/
def px_next (G : pj_G) (mt : pj_M) (d pc : Nat) (L : pj_L) (hh : List (Nat × Nat × Nat × Nat)) (kc ks : Nat) (Q : pj_O → pj_H → Prop) (ci i : Nat) (h : pj_H) : Prop :=
  (∃ (r : vw_C) (plan : List (Option (String × Bool))) (hp : Nat), ci < 90 ∧ pj_cl[ci]? = some r ∧ px_D mt.1.cls r.1 pc hh plan hp ∧ pj_J G mt d hp L [.ref i] h kc ks Q) ∨ (px_cov hh pc = true ∧ Q (.inr (ci, i)) h)
theorem px_thrown {G : pj_G} {mt : pj_M} {d pc : Nat} {p : Program} {l : Launch} {e : Env} {R : Room} {s : State} {m : MethodId} {args : Array Value} {below : List Frame} {meth : Method} {c : Code} {U : State} {locs : List Loc} {cells slots mc ms kc ks ci i : Nat} {h : pj_H} {fs : List Value} {Q : pj_O → pj_H → Prop} {hh : List (Nat × Nat × Nat × Nat)} {L : pj_L} {ls : Array Slot} {stk : List Value}
    (hC : pj_C G mt d p l R s m args meth c) (X : Stand p l e R s m args below meth c U locs cells slots) (hR : pj_R G h U.heap) (hi : h[i]? = some (.inr (ci, fs))) (hl : ∀ q ∈ locs, G.2.2.1.size ≤ q.base) (hv : pj_lv G ls mt.2.2.1 L) (hH : px_H mt hh) (h1 : cells + kc ≤ mc) (h2 : slots + ks ≤ ms) (h3 : mc ≤ R.cells) (h4 : ms ≤ R.slots) (hn : px_next G mt d pc L hh kc ks Q ci i h) :
    ∃ t', Steps p.tables e below ((U.setTop (F0 m pc ls stk)).pushFrame (.throwing (pj_ad G i))) t' ∧ pj_End G Q below s mc ms t' := by
  have hK := hC.2.2.2.2.2.2.2.2.1
  rcases hn with ⟨r, plan, hp, c1, c2, c3, c4⟩ | ⟨c1, c2⟩
  · obtain ⟨cell, g1, g2, g3⟩ : ∃ cell : Cell, U.heap[pj_ad G i]? = some cell ∧ cell.cls = G.1.1 ci ∧ cell.vm = .none := by
      obtain ⟨r', -, cell, q1, q2, q3, -⟩ := hR.2.2.2.1 i _ hi (by show ¬ 90 ≤ ci; omega)
      exact ⟨cell, q1, q2, q3⟩
    have hKn := hK.1.1 ci _ c2
    obtain ⟨vm', X2, st2⟩ := px_caught hC X hH (C := r.1) (g := F0 m pc ls stk) rfl g1 (by rw [g2]; exact hKn.2.1) g3 (by rw [g2]; obtain ⟨-, -, k, hk, -⟩ := hKn; exact ⟨k, hk⟩) c3
    obtain ⟨t', st, hend⟩ := c4 p l e R s m args below meth c U.heap locs cells slots mc ms ls hC hR hl hv h1 h2 h3 h4 (U.setVm vm') rfl X2
    exact ⟨t', st2 t' st, hend⟩
  · have hout : ∀ x ∈ c.exceptionTable.toList, covers x pc = false := by
      intro x hx
      have hx' : (x.startPc, x.endPc, x.handlerPc, x.catchType) ∈ hh := by rw [← px_tab hC X hH]; exact List.mem_map.mpr ⟨x, hx, rfl⟩
      have := List.all_eq_true.mp c1 _ hx'
      simp at this
      simp [covers]
      omega
    obtain ⟨a1, a2, a3, a4, a5⟩ := X.leaveThrown (pj_ad G i) (g := F0 m pc ls stk) rfl rfl rfl hout hC.2.2.2.2.1
    exact ⟨_, a1, _, a2, a3, Or.inr ⟨ci, i, h, fs, rfl, c2, hi, hR, hK.warm a4⟩, a4, locs, a5.weaken (fun y hy _ => hy) (by omega) (by omega), hl⟩
/-- the machine's own NullPointerException, made -/
theorem px_mkN {G : pj_G} {mt : pj_M} {d : Nat} {p : Program} {l : Launch} {e : Env} {R : Room} {s : State} {m : MethodId} {args : Array Value} {below : List Frame} {meth : Method} {c : Code} {T : State} {locs : List Loc} {cells slots : Nat} {h : pj_H} {pc : Nat} {ls : Array Slot} {stk : List Value}
    (hC : pj_C G mt d p l R s m args meth c) (X : Stand p l e R s m args below meth c T locs cells slots) (hR : pj_R G h T.heap) (hsz : ls.size = mt.2.2.1) (hst : (stk.map fun v => v.category).sum ≤ 8) (h1 : cells + 1 ≤ R.cells) (h2 : slots + 8 ≤ R.slots) :
    ∃ U : State, Stand p l e R s m args below meth c U locs (cells + 1) (slots + 8) ∧ pj_R G (h ++ [.inr (21, [])]) U.heap ∧ ∀ target, Steps p.tables e below ((U.setTop (F0 m pc ls stk)).pushFrame (.throwing (pj_ad G h.length))) target → Steps p.tables e below ((T.setTop (F0 m pc ls stk)).pushFrame (.throwNew "java/lang/NullPointerException" none none)) target := by
  have hK := hC.2.2.2.2.2.2.2.2.1
  obtain ⟨-, -, -, -, -, -, -, -, -, hfr, hlo, hfl⟩ := id hC
  have X' := px_rebase X (by omega) (by omega)
  have hKn := hK.1.1 21 _ rfl
  obtain ⟨U, XU, ⟨ce, u1, u2, u3⟩, u4, u5⟩ := px_npe0 X' hC.1 (px_trace X.admits hfl) rfl (fun a ha => px_word hC hR X a (px_npW a ha)) (g := F0 m pc ls stk) rfl (by rw [hC.2.2.1]; exact hsz) (by show 7 < R.frames; omega) (by show 2 * 0 + (stk.map fun v => v.category).sum + 10240 ≤ R.locals; omega) (by show 0 + 1 ≤ R.cells - cells; omega) (by show 0 + 8 ≤ R.slots - slots; omega)
  have XB := px_back X XU
  rw [List.append_nil] at XB
  have hs := hR.size
  refine ⟨U, XB, hR.push (y := .inr (21, [])) u4 (fun q hq => px_old XU.same q hq) (fun _ => ?_), fun target hrest => u5 target (by rw [hs] at hrest; exact hrest)⟩
  show va_at G.1 pj_cl (pj_ad G h.length, .inr (21, ([] : List Value).map (pj_v G))) U.heap
  rw [hs]
  refine ⟨_, rfl, ce, u1, ?_, u3, fun k hk => by cases hk⟩
  have : (px_s T m args below).vm.findClass "java/lang/NullPointerException" = some (G.1.1 21) := by
    show T.vm.findClass _ = _
    rw [X.warmed.alike.findClass]; exact hKn.2.1
  exact Option.some.inj (u2.symm.trans this)
/-- the machine's own exceptions with a message, made -/
theorem px_mkM {G : pj_G} {mt : pj_M} {d : Nat} {p : Program} {l : Launch} {e : Env} {R : Room} {s : State} {m : MethodId} {args : Array Value} {below : List Frame} {meth : Method} {c : Code} {T : State} {locs : List Loc} {cells slots : Nat} {h : pj_H} {pc : Nat} {ls : Array Slot} {stk : List Value} {cls text : String} {names : List String} {ci : Nat}
    (hC : pj_C G mt d p l R s m args meth c) (X : Stand p l e R s m args below meth c T locs cells slots) (hR : pj_R G h T.heap) (hsz : ls.size = mt.2.2.1) (hst : (stk.map fun v => v.category).sum ≤ 8) (h1 : cells + 3 ≤ R.cells) (h2 : slots + 1010 ≤ R.slots)
    (hcls : Jvm.Bundle.fit cls = true) (hnames : ∀ n ∈ names, Jvm.Bundle.fit n = true) (hsoe : (cls == "java/lang/StackOverflowError") = false) (hoom : (cls == "java/lang/OutOfMemoryError") = false) (hw : ∀ a ∈ Jvm.Bundle.messageArmAtoms cls names, px_in a) (hci : pj_cl[ci]? = some (cls, TX1, 0)) (hn3 : names.length ≤ 3)
    (htext : (text == notModelled) = false) (hlen : (stringBytes (stringToUtf16 text)).size ≤ 1000) :
    ∃ U : State, Stand p l e R s m args below meth c U locs (cells + 3) (slots + 1010) ∧ pj_R G (h ++ [.inr (90, []), .inr (90, []), .inr (ci, [])]) U.heap ∧ ∀ target, Steps p.tables e below ((U.setTop (F0 m pc ls stk)).pushFrame (.throwing (pj_ad G (h.length + 2)))) target → Steps p.tables e below ((T.setTop (F0 m pc ls stk)).pushFrame (.throwNew cls (some text) none)) target := by
  have hK := hC.2.2.2.2.2.2.2.2.1
  obtain ⟨-, -, -, -, -, -, -, -, -, hfr, hlo, hfl⟩ := id hC
  have X' := px_rebase X (by omega) (by omega)
  have hKn := hK.1.1 ci _ hci
  have hlim : ¬ (stringBytes (stringToUtf16 text)).size > e.platform.arrayLengthLimit := by
    rw [X.admits.platform]
    show ¬ (stringBytes (stringToUtf16 text)).size > ({} : Platform).arrayLengthLimit
    have : 1000 ≤ ({} : Platform).arrayLengthLimit := by decide
    omega
  have hhp : ¬ (stringBytes (stringToUtf16 text)).size * componentBytes .byte > e.platform.maxHeapBytes := by
    rw [X.admits.platform]
    show ¬ (stringBytes (stringToUtf16 text)).size * 1 > ({} : Platform).maxHeapBytes
    have : 1000 ≤ ({} : Platform).maxHeapBytes := by decide
    omega
  obtain ⟨U, XU, ⟨ce, u1, u2, u3⟩, u4, u5⟩ := px_msg0 X' hC.1 (px_trace X.admits hfl) rfl hcls hnames hsoe hoom (fun a ha => px_word hC hR X a (hw a ha)) htext hlim hhp (g := F0 m pc ls stk) rfl (by rw [hC.2.2.1]; exact hsz) (by show _ < R.frames; omega) (by show 2 * 0 + (stk.map fun v => v.category).sum + 10240 ≤ R.locals; omega) (by omega) (by show 0 + 3 ≤ R.cells - cells; omega) (by show _ ≤ R.slots - slots; omega)
  have XU' := px_fresh XU (fun y hy => by cases hy) (n' := 1010) (by omega)
  have XB := px_back X XU'
  rw [List.append_nil] at XB
  have hs := hR.size
  have hold : ∀ q : Nat, q < T.heap.size → U.heap[q]? = T.heap[q]? := fun q hq => px_old XU.same q hq
  have hfcT : (px_s T m args below).vm.findClass cls = some (G.1.1 ci) := by
    show T.vm.findClass _ = _
    rw [X.warmed.alike.findClass]; exact hKn.2.1
  have hs2 : pj_ad G (h.length + 2) = T.heap.size + 2 := by
    obtain ⟨r1, -⟩ := hR
    match hl : h.length, r1, hs with
    | k + 2, _, hs => show G.2.2.1.size + (k + 2) = _; have : G.2.2.1.size + k = T.heap.size := hs; omega
  refine ⟨U, XB, ?_, fun target hrest => u5 target (by rw [hs2] at hrest; exact hrest)⟩
  obtain ⟨r1, r2, r3, r4, r5⟩ := hR
  refine ⟨by rw [List.length_append]; omega, by rw [List.length_append, u4]; show _ + (_ + 3) = _; omega, fun q hq => by rw [hold q (by omega)]; exact r3 q hq, fun k x hk => ?_, fun k x hk hx => ?_⟩
  · rcases Nat.lt_or_ge k h.length with hlt | hge
    · rw [List.getElem?_append_left hlt] at hk
      intro ho
      have hq := r4 k x hk ho
      have hkl : pj_ad G k < T.heap.size := va_at.lt hq
      exact va_at.kept hq (hold _ hkl)
    · rw [List.getElem?_append_right hge] at hk
      have hkk : k = h.length ∨ k = h.length + 1 ∨ k = h.length + 2 := by
        have := (List.getElem?_eq_some_iff.mp hk).1
        simp at this
        omega
      rcases hkk with rfl | rfl | rfl
      · rw [Nat.sub_self] at hk
        cases hk
        exact fun ho => absurd (Nat.le_refl 90) ho
      · rw [Nat.add_sub_cancel_left] at hk
        cases hk
        exact fun ho => absurd (Nat.le_refl 90) ho
      · rw [Nat.add_sub_cancel_left] at hk
        cases hk
        intro _
        show va_at G.1 pj_cl (pj_ad G (h.length + 2), .inr (ci, ([] : List Value).map (pj_v G))) U.heap
        rw [hs2]
        exact ⟨_, hci, ce, u1, Option.some.inj (u2.symm.trans hfcT), u3, fun k hk => by cases hk⟩
  · rw [List.getElem?_append_left (by omega)] at hx
    exact r5 k x hk hx
