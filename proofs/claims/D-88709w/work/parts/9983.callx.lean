/-! CALLS THAT MAY THROW: the callee walked, its end taken whatever it is. Own work. -/
set_option maxRecDepth 100000
theorem px_meth {my : pj_M} {hh : List (Nat × Nat × Nat × Nat)} {s : State} {args : Array Value} {mk : MethodId} (hH : px_H my hh) (hts : ∀ w ∈ lw_all, w.before args s = true) (hn : s.methodNamed? my.1 = some mk) : ∃ (methk : Method) (ck : Code), s.vm.method? mk = some methk ∧ methk.code = some ck ∧ ck.code = my.2.1 ∧ ck.maxLocals = my.2.2.1 ∧ methk.sig.returnType = my.2.2.2 ∧ methk.locks = false ∧ parseMethodDescriptor my.1.desc = some methk.sig := by
  rcases hH with ⟨rfl, hw⟩ | hw
  · obtain ⟨meth', c', h1, h2, h3, h4, h5, h6, h7, h8⟩ := Cond.code_spec hn (hts _ hw)
    exact ⟨meth', c', h1, h2, h3, h4, h5, h6, h8⟩
  · obtain ⟨m', meth', c', h0, h1, h2, h3, h4, h5, h6, h7, h8⟩ := Cond.codeWith_spec (hts _ hw)
    cases hn.symm.trans h0
    exact ⟨meth', c', h1, h2, h3, h4, h6, h7, h8⟩
theorem px_body {G : pj_G} {mt my : pj_M} {d : Nat} {p : Program} {l : Launch} {e : Env} {R : Room} {s : State} {m : MethodId} {args : Array Value} {below : List Frame} {meth : Method} {c : Code} {T : State} {locs : List Loc} {cells slots : Nat} {h : pj_H} {as : List Value} {k1 s1 len : Nat} {Q : pj_O → pj_H → Prop} {hh : List (Nat × Nat × Nat × Nat)} {g : JFrame} {ig : Instr} {mk : MethodId}
    (hC : pj_C G mt (d + 1) p l R s m args meth c) (X : Stand p l e R s m args below meth c T locs cells slots) (hR : pj_R G h T.heap) (hg : g.method = m) (hsize : g.locals.size = c.maxLocals) (hdg : decode c.code g.pc = .ok (ig, len)) (hst : 2 * g.monitorRoom + (g.stack.map fun v => v.category).sum ≤ 8)
    (hH : px_H my hh) (hpl : plainFor my.1 = true) (h80 : my.2.2.1 ≤ 80) (hnamed : s.methodNamed? my.1 = some mk) (hn : (pj_args as).length ≤ my.2.2.1) (hc1 : cells + k1 ≤ R.cells) (hs1 : slots + s1 ≤ R.slots) (hJ : pj_Cn G my d as h k1 s1 Q) :
    ∃ t : State, (∀ acts, Steps p.tables e below (doInvoke e (T.setTop g) acts mk (as.map (pj_v G)).toArray).1 t) ∧ pj_End G Q (.java g :: below) (T.calling g mk (as.map (pj_v G)).toArray) k1 s1 t := by
  have hts := hC.2.2.2.2.2.2.2.1
  have hK := hC.2.2.2.2.2.2.2.2.1
  obtain ⟨-, -, -, -, -, -, -, -, -, hfr, hlo, hfl⟩ := id hC
  obtain ⟨methk, ck, b1, b2, b3, b4, b5, b6, b7⟩ := px_meth hH hts hnamed
  have hmk : T.vm.method? mk = some methk := by rw [X.warmed.alike.method?]; exact b1
  have hnT : T.methodNamed? my.1 = some mk := X.named hnamed
  have hW' : s.WarmedH (T.calling g mk (as.map (pj_v G)).toArray).vm := X.warmed
  obtain ⟨Y, hin⟩ := X.into hg hsize hdg (as.map (pj_v G)).toArray (R' := pj_rm d k1 s1) hmk b2 b6 (State.plainMethod.of_named hpl hnT hmk) (by show d + 8 + 1 ≤ R.frames; omega) (by rw [b4]; show _ + (my.2.2.1 + 11) + (10400 + 200 * d) ≤ R.locals; omega) hc1 hs1
  have hnC : (T.calling g mk (as.map (pj_v G)).toArray).methodNamed? my.1 = some mk := hnT
  have hC' : pj_C G my d p l (pj_rm d k1 s1) (T.calling g mk (as.map (pj_v G)).toArray) mk (as.map (pj_v G)).toArray methk ck :=
    ⟨hC.1, b3, b4, b5, b6, findClass_of_methodNamed hnC, ⟨(name_of_methodNamed hnC hmk).1, hnC⟩, fun w hw => word_at hW' (lw_self w hw).2 (hts w hw), hK.warm hW', Nat.le_refl _, Nat.le_refl _, hfl⟩
  have hW := hJ p l e (pj_rm d k1 s1) (T.calling g mk (as.map (pj_v G)).toArray) mk (as.map (pj_v G)).toArray (.java g :: below) methk ck T.heap [] 0 0 k1 s1 _ hC' hR (fun q hq => by cases hq) (pj_ent_lv G hn) (by omega) (by omega) (Nat.le_refl _) (Nat.le_refl _)
  have hh0 : ((T.setTop g).pushFrame (.java (entryFrame mk (as.map (pj_v G)).toArray ck.maxLocals))).heap = T.heap := by simp [State.pushFrame, State.setFrames, State.setTop, State.modifyTopJava]
  obtain ⟨t, st, hend⟩ := hW ((T.setTop g).pushFrame (.java (entryFrame mk (as.map (pj_v G)).toArray ck.maxLocals))) hh0 Y
  refine ⟨t, fun acts => ?_, hend⟩
  rw [hin acts]
  have e1 : entryFrame mk (as.map (pj_v G)).toArray ck.maxLocals = F0 mk 0 ((lg_sl (as.map (pj_v G)) ++ List.replicate (my.2.2.1 - (lg_sl (as.map (pj_v G))).length) Slot.unset).toArray) [] := by rw [b4]; exact lg_entry_eq mk (as.map (pj_v G)) _
  have st' := px_up st
  rw [show (List.map (pj_v G) []) = ([] : List Value) from rfl, ← e1] at st'
  exact st'
/-- what the caller does with the callee's end: it goes on behind the call, or at the handler that the table gives for what was thrown -/
def px_on (G : pj_G) (mt : pj_M) (d pc : Nat) (L : pj_L) (rest : List Value) (hh : List (Nat × Nat × Nat × Nat)) (kc ks : Nat) (Q : pj_O → pj_H → Prop) (Q' : pj_O → pj_H → Prop) : Prop :=
  (∀ (v : Option Value) (h : pj_H), Q (.inl v) h → pj_J G mt d (pc + 3) L (v.toList ++ rest) h kc ks Q') ∧
  (∀ (ci i : Nat) (h : pj_H), Q (.inr (ci, i)) h → ∃ (r : vw_C) (plan : List (Option (String × Bool))) (hp : Nat), ci < 90 ∧ pj_cl[ci]? = some r ∧ px_D mt.1.cls r.1 pc hh plan hp ∧ pj_J G mt d hp L [.ref i] h kc ks Q')
/-- behind the callee -/
theorem px_after {G : pj_G} {mt : pj_M} {d pc : Nat} {p : Program} {l : Launch} {e : Env} {R : Room} {s : State} {m : MethodId} {args : Array Value} {below : List Frame} {meth : Method} {c : Code} {T : State} {locs : List Loc} {cells slots mc ms k1 s1 kc ks : Nat} {Q Q' : pj_O → pj_H → Prop} {hh : List (Nat × Nat × Nat × Nat)} {ig : Instr} {mk : MethodId} {A : Array Value} {L : pj_L} {ls : Array Slot} {rest : List Value} {t : State}
    (hC : pj_C G mt d p l R s m args meth c) (X : Stand p l e R s m args below meth c T locs cells slots) (hl : ∀ q ∈ locs, G.2.2.1.size ≤ q.base) (hv : pj_lv G ls mt.2.2.1 L) (hH : px_H mt hh) (hd : decode mt.2.1 pc = .ok (ig, 3)) (h1 : cells + (k1 + kc) ≤ mc) (h2 : slots + (s1 + ks) ≤ ms) (h3 : mc ≤ R.cells) (h4 : ms ≤ R.slots)
    (hon : px_on G mt d pc L rest hh kc ks Q Q') (hE : pj_End G Q (.java (F0 m pc ls (rest.map (pj_v G))) :: below) (T.calling (F0 m pc ls (rest.map (pj_v G))) mk A) k1 s1 t) :
    ∃ t', Steps p.tables e below t t' ∧ pj_End G Q' below s mc ms t' := by
  obtain ⟨o, a1, a2, a3, a4, L', a5, a6⟩ := hE
  have hl' : ∀ q ∈ locs ++ L', G.2.2.1.size ≤ q.base := by
    intro q hq
    rcases List.mem_append.mp hq with hq | hq
    · exact hl q hq
    · exact a6 q hq
  rcases a3 with ⟨v, h', rfl, b2, b3, b4⟩ | ⟨ci, i, h', fs, rfl, b2, b3, b4, b5⟩
  · obtain ⟨T', X', -, -, rfl⟩ := X.outOf (g := F0 m pc ls (rest.map (pj_v G))) rfl (by rw [hC.2.1]; exact hd) a2 a4 a5
    have hh0 : (T'.setTop { F0 m pc ls (rest.map (pj_v G)) with pc := pc + 3, stack := (v.map (pj_v G)).toList ++ rest.map (pj_v G) }).heap = T'.heap := by simp [State.setTop, State.modifyTopJava]
    obtain ⟨t', st, hend⟩ := hon.1 v h' b2 p l e R s m args below meth c T'.heap (locs ++ L') (cells + k1) (slots + s1) mc ms ls hC (by rw [← hh0]; exact b3) hl' hv (by omega) (by omega) h3 h4 T' rfl X'
    refine ⟨t', ?_, hend⟩
    have e1 : (v.toList ++ rest).map (pj_v G) = (v.map (pj_v G)).toList ++ rest.map (pj_v G) := by cases v <;> simp
    rw [e1] at st
    exact st
  · obtain ⟨T', X', -, -, rfl⟩ := X.outOfThrown (g := F0 m pc ls (rest.map (pj_v G))) rfl a2 a4 a5
    obtain ⟨r, plan, hp, c1, c2, c3, c4⟩ := hon.2 ci i h' b2
    rw [Stand.throwing_heap] at b4
    have hK := hC.2.2.2.2.2.2.2.2.1
    obtain ⟨cell, g1, g2, g3⟩ : ∃ cell : Cell, T'.heap[pj_ad G i]? = some cell ∧ cell.cls = G.1.1 ci ∧ cell.vm = .none := by
      obtain ⟨r', -, cell, q1, q2, q3, -⟩ := b4.2.2.2.1 i _ b3 (by show ¬ 90 ≤ ci; omega)
      exact ⟨cell, q1, q2, q3⟩
    have hKn := hK.1.1 ci _ c2
    obtain ⟨vm', X2, st2⟩ := px_caught hC X' hH (C := r.1) (g := F0 m pc ls (rest.map (pj_v G))) rfl g1 (by rw [g2]; exact hKn.2.1) g3 (by rw [g2]; obtain ⟨-, -, k, hk, -⟩ := hKn; exact ⟨k, hk⟩) c3
    obtain ⟨t', st, hend⟩ := c4 p l e R s m args below meth c T'.heap (locs ++ L') (cells + k1) (slots + s1) mc ms ls hC b4 hl' hv (by omega) (by omega) h3 h4 (T'.setVm vm') rfl X2
    exact ⟨t', st2 t' st, hend⟩
/-- A CALL THROUGH AN OBJECT that may throw -/
theorem px_callV {G : pj_G} {mt my : pj_M} {d pc index n ci : Nat} {L : pj_L} {h : pj_H} {b : Nat} {fs As rest : List Value} {k1 s1 kc ks : Nat} {Q Q' : pj_O → pj_H → Prop} {hh hy : List (Nat × Nat × Nat × Nat)} {Tt : u_T} {N : Nat}
    (hd : decode mt.2.1 pc = .ok (.invokevirtual index, 3)) (hH : px_H mt hh) (hHy : px_H my hy) (hpl : plainFor my.1 = true) (h80 : my.2.2.1 ≤ 80) (hm : (my.1.cls ≠ "java/lang/invoke/MethodHandle" ∧ my.1.cls ≠ "java/lang/invoke/VarHandle") ∧ (parseMethodDescriptor my.1.desc).map (fun d => d.parameters.length) = some n)
    (hcl : pj_cl[ci]? = some (my.1.cls, Tt, N)) (hci : ci < 90) (hlk : Cond.methodLink mt.1.cls index my.1 ∈ lw_all) (hi : Cond.instanceMethod my.1 ∈ lw_all) (hs : Cond.selects my.1.cls my.1 my.1 ∈ lw_all)
    (hb : h[b]? = some (.inr (ci, fs))) (hn : As.length = n) (hna : (pj_args (.ref b :: As)).length ≤ my.2.2.1) (hw : (rest.map fun v => v.category).sum ≤ 8) (hJ : pj_Cn G my d (.ref b :: As) h k1 s1 Q) (hon : px_on G mt (d + 1) pc L rest hh kc ks Q Q') : pj_J G mt (d + 1) pc L (As.reverse ++ .ref b :: rest) h (k1 + kc) (s1 + ks) Q' := by
  intro p l e R s m args below meth c H locs cells slots mc ms ls hC hR hl hv h1 h2 h3 h4 T hT X
  subst hT
  have hK := hC.2.2.2.2.2.2.2.2.1
  have hts := hC.2.2.2.2.2.2.2.1
  obtain ⟨cellB, y1, y2, y3⟩ := pj_recv hR hK hb hci hcl
  obtain ⟨mk, methM, hnamed, hmethM, hstM, habM⟩ := Cond.instanceMethod_spec (hts _ hi)
  obtain ⟨methk, ck, b1, b2, b3, b4, b5, b6, b7⟩ := px_meth hHy hts hnamed
  cases hmethM.symm.trans b1
  obtain ⟨c2, r2, m2, q1, q2, q3, q4, kP, hkP, hkPi⟩ := Cond.selects_spec (hts _ hs)
  cases y3.symm.trans q1
  cases (State.methodFound?_of_named hnamed hm.1).symm.trans q2
  cases hnamed.symm.trans q3
  have hselP : selectMethod e.platform s.vm cellB.cls mk = .method mk := by rw [Launch.admits_selectMethod X.admits]; exact q4
  have hlen : (As.map (pj_v G)).length = methM.sig.parameters.length := by
    have := hm.2
    rw [b7] at this
    simp at this
    rw [List.length_map, hn, this]
  obtain ⟨vm₁, X₁, hstep₁⟩ := X.invokevirtual hC.1 hC.2.2.2.2.2.1 (hts _ hlk) hnamed hmethM hstM hkP hkPi hm.1 (a := pj_ad G b) (cell := cellB) y1 (fun z hz => by rw [hz] at y2; cases y2) hselP hmethM habM hkP hkPi (g := F0 m pc ls ((As.reverse ++ .ref b :: rest).map (pj_v G))) rfl (argsL := As.map (pj_v G)) (rest := rest.map (pj_v G)) hlen (by simp [pj_v]) (by rw [hC.2.1]; exact hd)
  obtain ⟨t, st, hend⟩ := px_body (g := F0 m pc ls (rest.map (pj_v G))) (as := .ref b :: As) (mk := mk) hC X₁ hR rfl (by rw [hC.2.2.1]; exact hv.1) (by rw [hC.2.1]; exact hd) (by show 2 * 0 + _ ≤ 8; rw [pj_cats]; omega) hHy hpl h80 hnamed hna (k1 := k1) (s1 := s1) (by omega) (by omega) hJ
  obtain ⟨t', st', hend'⟩ := px_after hC X₁ hl hv hH hd h1 h2 h3 h4 hon hend
  refine ⟨t', hstep₁ _ (fun acts => ?_), hend'⟩
  rw [doInvoke_state]
  exact (st _).trans st'
theorem px_named {my : pj_M} {hh : List (Nat × Nat × Nat × Nat)} {s : State} {args : Array Value} (hH : px_H my hh) (hts : ∀ w ∈ lw_all, w.before args s = true) : ∃ mk : MethodId, s.methodNamed? my.1 = some mk := by
  rcases hH with ⟨-, hw⟩ | hw
  · exact Cond.code_named (hts _ hw)
  · obtain ⟨m', -, -, h0, -⟩ := Cond.codeWith_spec (hts _ hw)
    exact ⟨m', h0⟩
/-- A STATIC CALL that may throw -/
theorem px_callS {G : pj_G} {mt my : pj_M} {d pc index n : Nat} {L : pj_L} {h : pj_H} {As rest : List Value} {k1 s1 kc ks : Nat} {Q Q' : pj_O → pj_H → Prop} {hh hy : List (Nat × Nat × Nat × Nat)}
    (hd : decode mt.2.1 pc = .ok (.invokestatic index, 3)) (hH : px_H mt hh) (hHy : px_H my hy) (hpl : plainFor my.1 = true) (h80 : my.2.2.1 ≤ 80) (hm : (my.1.cls ≠ "java/lang/invoke/MethodHandle" ∧ my.1.cls ≠ "java/lang/invoke/VarHandle") ∧ (parseMethodDescriptor my.1.desc).map (fun d => d.parameters.length) = some n)
    (hlk : Cond.methodLink mt.1.cls index my.1 ∈ lw_all) (hst : Cond.static my.1 ∈ lw_all) (hin : Cond.initialized my.1.cls ∈ lw_all)
    (hn : As.length = n) (hna : (pj_args As).length ≤ my.2.2.1) (hw : (rest.map fun v => v.category).sum ≤ 8) (hJ : pj_Cn G my d As h k1 s1 Q) (hon : px_on G mt (d + 1) pc L rest hh kc ks Q Q') : pj_J G mt (d + 1) pc L (As.reverse ++ rest) h (k1 + kc) (s1 + ks) Q' := by
  intro p l e R s m args below meth c H locs cells slots mc ms ls hC hR hl hv h1 h2 h3 h4 T hT X
  subst hT
  have hts := hC.2.2.2.2.2.2.2.1
  obtain ⟨mk, hnamed⟩ := px_named hHy hts
  obtain ⟨methM, ck, hmethM, b2, b3, b4, b5, b6, b7⟩ := px_meth hHy hts hnamed
  have hstatic : methM.isStatic = true := Cond.static_spec hnamed hmethM (hts _ hst)
  obtain ⟨kP, hkP, -⟩ := className_of_methodNamed hnamed
  have hinitP : kP.init = .initialized := Cond.initialized_spec (findClass_of_methodNamed hnamed) hkP (hts _ hin)
  have hlen : (As.map (pj_v G)).length = methM.sig.parameters.length := by
    have := hm.2
    rw [b7] at this
    simp at this
    rw [List.length_map, hn, this]
  obtain ⟨vm₁, X₁, hstep₁⟩ := X.invokestatic hC.1 hC.2.2.2.2.2.1 (hts _ hlk) hnamed hmethM hstatic hkP hinitP hm.1 (g := F0 m pc ls ((As.reverse ++ rest).map (pj_v G))) rfl (argsL := As.map (pj_v G)) (rest := rest.map (pj_v G)) hlen (by simp) (by rw [hC.2.1]; exact hd)
  obtain ⟨t, st, hend⟩ := px_body (g := F0 m pc ls (rest.map (pj_v G))) (as := As) (mk := mk) hC X₁ hR rfl (by rw [hC.2.2.1]; exact hv.1) (by rw [hC.2.1]; exact hd) (by show 2 * 0 + _ ≤ 8; rw [pj_cats]; omega) hHy hpl h80 hnamed hna (k1 := k1) (s1 := s1) (by omega) (by omega) hJ
  obtain ⟨t', st', hend'⟩ := px_after hC X₁ hl hv hH hd h1 h2 h3 h4 hon hend
  refine ⟨t', hstep₁ _ (fun acts => ?_), hend'⟩
  rw [doInvoke_state]
  exact (st _).trans st'
