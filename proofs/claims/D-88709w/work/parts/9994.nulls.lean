/-! RAISING: a field of null, a call through null. Own work. -/
set_option maxRecDepth 100000
theorem rn_getf {G : pj_G} {mt : pj_M} {d pc ci k index : Nat} {ref : String} {q : String × String × String × Bool} {h : pj_H} {rest : List Value} (hd : decode mt.2.1 pc = .ok (.getfield index, 3)) (hF : pj_Fd ci k q) (hl0 : Cond.fieldLink mt.1.cls index ref q.2.1 q.2.2.1 ∈ lw_all) (hS : pj_Sm ref q) (hw : (rest.map fun v => v.category).sum ≤ 8) : px_rs G mt d pc (.null :: rest) h "java/lang/NullPointerException" px_none := by
  intro p l e R s m args below meth c T locs cells slots ls hC hR X
  have hts := hC.2.2.2.2.2.2.2.1
  obtain ⟨C, TT, N, ty, f1, f2, f3, f4, f5, f6⟩ := hF
  subst f6
  obtain ⟨hS', hfc, kC, hkC, hkind⟩ := hC.2.2.2.2.2.2.2.2.1.1.1 ci _ f1
  obtain ⟨cf, kf, fi, f, hi, hsl⟩ := hS' k f5
  obtain ⟨vm', X', st⟩ := X.getfieldNull hC.1 hC.2.2.2.2.2.1 (hts _ hl0) (hS.use hts _ hi) (u_facts hfc hkC (u_lays hts f2 f5) hi).1 (g := F0 m pc ls ((.null :: rest).map (pj_v G))) rfl (rest := rest.map (pj_v G)) rfl (by rw [hC.2.1]; exact hd)
  exact ⟨T.setVm vm', rest.map (pj_v G), none, rfl, X', by rw [pj_cats]; exact hw, rfl, st⟩
theorem rn_invv {G : pj_G} {mt my : pj_M} {d pc index n : Nat} {hy : List (Nat × Nat × Nat × Nat)} {h : pj_H} {As rest : List Value} (hd : decode mt.2.1 pc = .ok (.invokevirtual index, 3)) (hHy : px_H my hy) (hm : (my.1.cls ≠ "java/lang/invoke/MethodHandle" ∧ my.1.cls ≠ "java/lang/invoke/VarHandle") ∧ (parseMethodDescriptor my.1.desc).map (fun d => d.parameters.length) = some n) (hlk : Cond.methodLink mt.1.cls index my.1 ∈ lw_all) (hi : Cond.instanceMethod my.1 ∈ lw_all) (hs : Cond.selects my.1.cls my.1 my.1 ∈ lw_all) (hn : As.length = n) (hw : (rest.map fun v => v.category).sum ≤ 8) : px_rs G mt d pc (As.reverse ++ .null :: rest) h "java/lang/NullPointerException" px_none := by
  intro p l e R s m args below meth c T locs cells slots ls hC hR X
  have hts := hC.2.2.2.2.2.2.2.1
  obtain ⟨mk, methM, hnamed, hmethM, hstM, habM⟩ := Cond.instanceMethod_spec (hts _ hi)
  obtain ⟨methk, ck, b1, b2, b3, b4, b5, b6, b7⟩ := px_meth hHy hts hnamed
  cases hmethM.symm.trans b1
  obtain ⟨c2, r2, m2, q1, q2, q3, q4, kP, hkP, hkPi⟩ := Cond.selects_spec (hts _ hs)
  cases (State.methodFound?_of_named hnamed hm.1).symm.trans q2
  cases hnamed.symm.trans q3
  have hlen : (As.map (pj_v G)).length = methM.sig.parameters.length := by
    have := hm.2
    rw [b7] at this
    simp at this
    rw [List.length_map, hn, this]
  obtain ⟨vm', X', st⟩ := X.invokevirtualNull hC.1 hC.2.2.2.2.2.1 (hts _ hlk) hnamed hmethM hstM hkP hkPi hm.1 (g := F0 m pc ls ((As.reverse ++ .null :: rest).map (pj_v G))) rfl (argsL := As.map (pj_v G)) (rest := rest.map (pj_v G)) hlen (by simp [pj_v]) (by rw [hC.2.1]; exact hd)
  exact ⟨T.setVm vm', rest.map (pj_v G), none, rfl, X', by rw [pj_cats]; exact hw, rfl, st⟩
theorem px_athrow {p : Program} {l : Launch} {e : Env} {R : Room} {s : State} {m : MethodId} {args : Array Value} {below : List Frame} {meth : Method} {c : Code} {T : State} {locs : List Loc} {cells slots : Nat} (X : Stand p l e R s m args below meth c T locs cells slots) (hexec : p.tables.exec = Jvm.exec) {g : JFrame} (hg : g.method = m) {a : Addr} {rest : List Value} (hstack : g.stack = .ref a :: rest) (hdg : decode c.code g.pc = .ok (.athrow, 1)) :
    ∀ target, Steps p.tables e below ((T.setTop { g with stack := rest }).pushFrame (.throwing a)) target → Steps p.tables e below (T.setTop g) target := by
  intro target hrest
  subst hg
  jvm_step X.here [hexec, hdg, athrow.wp_sem, hstack]
  exact hrest
/-- an object thrown -/
theorem pj_J.athrow {G : pj_G} {mt : pj_M} {d pc i ci : Nat} {fs : List Value} {L : pj_L} {rest : List Value} {h : pj_H} {kc ks : Nat} {Q : pj_O → pj_H → Prop} {hh : List (Nat × Nat × Nat × Nat)} (hd : decode mt.2.1 pc = .ok (.athrow, 1)) (hH : px_H mt hh) (hi : h[i]? = some (.inr (ci, fs))) (hn : px_next G mt d pc L hh kc ks Q ci i h) : pj_J G mt d pc L (.ref i :: rest) h kc ks Q := by
  intro p l e R s m args below meth c H locs cells slots mc ms ls hC hR hl hv h1 h2 h3 h4 T hT X
  subst hT
  obtain ⟨t', st', hend⟩ := px_thrown (pc := pc) (stk := rest.map (pj_v G)) (fs := fs) hC X hR hi hl hv hH h1 h2 h3 h4 hn
  exact ⟨t', px_athrow X hC.1 (g := F0 m pc ls ((.ref i :: rest).map (pj_v G))) rfl (rest := rest.map (pj_v G)) rfl (by rw [hC.2.1]; exact hd) t' st', hend⟩
