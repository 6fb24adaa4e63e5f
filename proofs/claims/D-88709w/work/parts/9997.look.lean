/-! calls whose throw may pass on; lengthOf, wide (by tools/gen_look.py) -/
set_option maxRecDepth 100000
/-- what the caller does with the callee's end: behind the call, at a handler, or thrown on -/
def px_on2 (G : pj_G) (mt : pj_M) (d pc : Nat) (L : pj_L) (rest : List Value) (hh : List (Nat × Nat × Nat × Nat)) (kc ks : Nat) (Q : pj_O → pj_H → Prop) (Q' : pj_O → pj_H → Prop) : Prop :=
  (∀ (v : Option Value) (h : pj_H), Q (.inl v) h → pj_J G mt d (pc + 3) L (v.toList ++ rest) h kc ks Q') ∧ (∀ (ci i : Nat) (h : pj_H), Q (.inr (ci, i)) h → px_next G mt d pc L hh kc ks Q' ci i h)
theorem px_after2 {G : pj_G} {mt : pj_M} {d pc : Nat} {p : Program} {l : Launch} {e : Env} {R : Room} {s : State} {m : MethodId} {args : Array Value} {below : List Frame} {meth : Method} {c : Code} {T : State} {locs : List Loc} {cells slots mc ms k1 s1 kc ks : Nat} {Q Q' : pj_O → pj_H → Prop} {hh : List (Nat × Nat × Nat × Nat)} {ig : Instr} {mk : MethodId} {A : Array Value} {L : pj_L} {ls : Array Slot} {rest : List Value} {t : State}
    (hC : pj_C G mt d p l R s m args meth c) (X : Stand p l e R s m args below meth c T locs cells slots) (hl : ∀ q ∈ locs, G.2.2.1.size ≤ q.base) (hv : pj_lv G ls mt.2.2.1 L) (hH : px_H mt hh) (hd : decode mt.2.1 pc = .ok (ig, 3)) (h1 : cells + (k1 + kc) ≤ mc) (h2 : slots + (s1 + ks) ≤ ms) (h3 : mc ≤ R.cells) (h4 : ms ≤ R.slots)
    (hon : px_on2 G mt d pc L rest hh kc ks Q Q') (hE : pj_End G Q (.java (F0 m pc ls (rest.map (pj_v G))) :: below) (T.calling (F0 m pc ls (rest.map (pj_v G))) mk A) k1 s1 t) :
    ∃ t', Steps p.tables e below t t' ∧ pj_End G Q' below s mc ms t' := by
  obtain ⟨o, a1, a2, a3, a4, L', a5, a6⟩ := hE
  have hl' : ∀ q ∈ locs ++ L', G.2.2.1.size ≤ q.base := by
    intro q hq
    rcases List.mem_append.mp hq with hq | hq
    · exact hl q hq
    · exact a6 q hq
  rcases a3 with ⟨v, h', rfl, b2, b3, b4⟩ | ⟨ci, i, h', fs, rfl, b2, b3, b4, b5⟩
  · obtain ⟨T', X', -, -, rfl⟩ := X.outOf (g := F0 m pc ls (rest.map (pj_v G))) rfl (by rw [hC.2.1]; exact hd) a2 a4 a5
    have hh0 : (T'.setTop { F0 m pc ls (rest.map (pj_v G)) with pc := pc + 3, stack := (v.map (pj_v G)).toList ++ rest.map (pj_v G) }).heap = T'.heap := by simp [State.setTop, State.modifyTopJava]
    obtain ⟨t', st, hend⟩ := hon.1 v h' b2 p l e R s m args below meth c T'.heap (locs ++ L') (cells + k1) (slots + s1) mc ms ls hC (by rw [← hh0]; exact b3) hl' hv (by omega) (by omega) h3 h4 T' rfl X'
    refine ⟨t', ?_, hend⟩
    have e1 : (v.toList ++ rest).map (pj_v G) = (v.map (pj_v G)).toList ++ rest.map (pj_v G) := by cases v <;> simp
    rw [e1] at st
    exact st
  · obtain ⟨T', X', -, -, rfl⟩ := X.outOfThrown (g := F0 m pc ls (rest.map (pj_v G))) rfl a2 a4 a5
    rw [Stand.throwing_heap] at b4
    exact px_thrown hC X' b4 b3 hl' hv hH (by omega) (by omega) h3 h4 (hon.2 ci i h' b2)
/-- A CALL THROUGH AN OBJECT that may throw -/
theorem px_callV2 {G : pj_G} {mt my : pj_M} {d pc index n ci : Nat} {L : pj_L} {h : pj_H} {b : Nat} {fs As rest : List Value} {k1 s1 kc ks : Nat} {Q Q' : pj_O → pj_H → Prop} {hh hy : List (Nat × Nat × Nat × Nat)} {Tt : u_T} {N : Nat}
    (hd : decode mt.2.1 pc = .ok (.invokevirtual index, 3)) (hH : px_H mt hh) (hHy : px_H my hy) (hpl : plainFor my.1 = true) (h80 : my.2.2.1 ≤ 80) (hm : (my.1.cls ≠ "java/lang/invoke/MethodHandle" ∧ my.1.cls ≠ "java/lang/invoke/VarHandle") ∧ (parseMethodDescriptor my.1.desc).map (fun d => d.parameters.length) = some n)
    (hcl : pj_cl[ci]? = some (my.1.cls, Tt, N)) (hci : ci < 90) (hlk : Cond.methodLink mt.1.cls index my.1 ∈ lw_all) (hi : Cond.instanceMethod my.1 ∈ lw_all) (hs : Cond.selects my.1.cls my.1 my.1 ∈ lw_all)
    (hb : h[b]? = some (.inr (ci, fs))) (hn : As.length = n) (hna : (pj_args (.ref b :: As)).length ≤ my.2.2.1) (hw : (rest.map fun v => v.category).sum ≤ 8) (hJ : pj_Cn G my d (.ref b :: As) h k1 s1 Q) (hon : px_on2 G mt (d + 1) pc L rest hh kc ks Q Q') : pj_J G mt (d + 1) pc L (As.reverse ++ .ref b :: rest) h (k1 + kc) (s1 + ks) Q' := by
  intro p l e R s m args below meth c H locs cells slots mc ms ls hC hR hl hv h1 h2 h3 h4 T hT X
  subst hT
  have hK := hC.2.2.2.2.2.2.2.2.1
  have hts := hC.2.2.2.2.2.2.2.1
  obtain ⟨cellB, y1, y2, y3⟩ := pj_recv hR hK hb hci hcl
  obtain ⟨mk, methM, hnamed, hmethM, hstM, habM⟩ := Cond.instanceMethod_spec (hts _ hi)
  obtain ⟨methk, ck, b1, b2, b3, b4, b5, b6, b7⟩ := px_meth hHy hts hnamed
  cases hmethM.symm.trans b1
  obtain ⟨c2, r2, m2, q1, q2, q3, q4, kP, hkP, hkPi⟩ := Cond.selects_spec (hts _ hs)
  cases y3.symm.trans q1
  cases (State.methodFound?_of_named hnamed hm.1).symm.trans q2
  cases hnamed.symm.trans q3
  have hselP : selectMethod e.platform s.vm cellB.cls mk = .method mk := by rw [Launch.admits_selectMethod X.admits]; exact q4
  have hlen : (As.map (pj_v G)).length = methM.sig.parameters.length := by
    have := hm.2
    rw [b7] at this
    simp at this
    rw [List.length_map, hn, this]
  obtain ⟨vm₁, X₁, hstep₁⟩ := X.invokevirtual hC.1 hC.2.2.2.2.2.1 (hts _ hlk) hnamed hmethM hstM hkP hkPi hm.1 (a := pj_ad G b) (cell := cellB) y1 (fun z hz => by rw [hz] at y2; cases y2) hselP hmethM habM hkP hkPi (g := F0 m pc ls ((As.reverse ++ .ref b :: rest).map (pj_v G))) rfl (argsL := As.map (pj_v G)) (rest := rest.map (pj_v G)) hlen (by simp [pj_v]) (by rw [hC.2.1]; exact hd)
  obtain ⟨t, st, hend⟩ := px_body (g := F0 m pc ls (rest.map (pj_v G))) (as := .ref b :: As) (mk := mk) hC X₁ hR rfl (by rw [hC.2.2.1]; exact hv.1) (by rw [hC.2.1]; exact hd) (by show 2 * 0 + _ ≤ 8; rw [pj_cats]; omega) hHy hpl h80 hnamed hna (k1 := k1) (s1 := s1) (by omega) (by omega) hJ
  obtain ⟨t', st', hend'⟩ := px_after2 hC X₁ hl hv hH hd h1 h2 h3 h4 hon hend
  refine ⟨t', hstep₁ _ (fun acts => ?_), hend'⟩
  rw [doInvoke_state]
  exact (st _).trans st'
/-- A STATIC CALL that may throw -/
theorem px_callS2 {G : pj_G} {mt my : pj_M} {d pc index n : Nat} {L : pj_L} {h : pj_H} {As rest : List Value} {k1 s1 kc ks : Nat} {Q Q' : pj_O → pj_H → Prop} {hh hy : List (Nat × Nat × Nat × Nat)}
    (hd : decode mt.2.1 pc = .ok (.invokestatic index, 3)) (hH : px_H mt hh) (hHy : px_H my hy) (hpl : plainFor my.1 = true) (h80 : my.2.2.1 ≤ 80) (hm : (my.1.cls ≠ "java/lang/invoke/MethodHandle" ∧ my.1.cls ≠ "java/lang/invoke/VarHandle") ∧ (parseMethodDescriptor my.1.desc).map (fun d => d.parameters.length) = some n)
    (hlk : Cond.methodLink mt.1.cls index my.1 ∈ lw_all) (hst : Cond.static my.1 ∈ lw_all) (hin : Cond.initialized my.1.cls ∈ lw_all)
    (hn : As.length = n) (hna : (pj_args As).length ≤ my.2.2.1) (hw : (rest.map fun v => v.category).sum ≤ 8) (hJ : pj_Cn G my d As h k1 s1 Q) (hon : px_on2 G mt (d + 1) pc L rest hh kc ks Q Q') : pj_J G mt (d + 1) pc L (As.reverse ++ rest) h (k1 + kc) (s1 + ks) Q' := by
  intro p l e R s m args below meth c H locs cells slots mc ms ls hC hR hl hv h1 h2 h3 h4 T hT X
  subst hT
  have hts := hC.2.2.2.2.2.2.2.1
  obtain ⟨mk, hnamed⟩ := px_named hHy hts
  obtain ⟨methM, ck, hmethM, b2, b3, b4, b5, b6, b7⟩ := px_meth hHy hts hnamed
  have hstatic : methM.isStatic = true := Cond.static_spec hnamed hmethM (hts _ hst)
  obtain ⟨kP, hkP, -⟩ := className_of_methodNamed hnamed
  have hinitP : kP.init = .initialized := Cond.initialized_spec (findClass_of_methodNamed hnamed) hkP (hts _ hin)
  have hlen : (As.map (pj_v G)).length = methM.sig.parameters.length := by
    have := hm.2
    rw [b7] at this
    simp at this
    rw [List.length_map, hn, this]
  obtain ⟨vm₁, X₁, hstep₁⟩ := X.invokestatic hC.1 hC.2.2.2.2.2.1 (hts _ hlk) hnamed hmethM hstatic hkP hinitP hm.1 (g := F0 m pc ls ((As.reverse ++ rest).map (pj_v G))) rfl (argsL := As.map (pj_v G)) (rest := rest.map (pj_v G)) hlen (by simp) (by rw [hC.2.1]; exact hd)
  obtain ⟨t, st, hend⟩ := px_body (g := F0 m pc ls (rest.map (pj_v G))) (as := As) (mk := mk) hC X₁ hR rfl (by rw [hC.2.2.1]; exact hv.1) (by rw [hC.2.1]; exact hd) (by show 2 * 0 + _ ≤ 8; rw [pj_cats]; omega) hHy hpl h80 hnamed hna (k1 := k1) (s1 := s1) (by omega) (by omega) hJ
  obtain ⟨t', st', hend'⟩ := px_after2 hC X₁ hl hv hH hd h1 h2 h3 h4 hon hend
  refine ⟨t', hstep₁ _ (fun acts => ?_), hend'⟩
  rw [doInvoke_state]
  exact (st _).trans st'
def px_t1 (ci : Nat) (h : pj_H) : pj_O → pj_H → Prop := fun r x => r = .inr (ci, h.length) ∧ x = h ++ [.inr (ci, [])]
def px_t3 (ci : Nat) (h : pj_H) : pj_O → pj_H → Prop := fun r x => r = .inr (ci, h.length + 2) ∧ x = h ++ [.inr (90, []), .inr (90, []), .inr (ci, [])]
theorem po_alenD {n a kd N : Nat} {z} {L : pj_L} {r : List Value} {h : pj_H} {kc ks : Nat} (ha : h[a]? = some (.inl (kd, (N, z)))) (hk : kd < 9) : po_alen n L (.ref a :: r) h kc ks = some (none, (n, L, .int (Int32.ofNat N) :: r, h, kc, ks)) := by
  unfold po_alen
  simp only [ha, hk, if_true]
theorem po_ialdD {n a N : Nat} {i : Int32} {f : Nat → Int32} {L : pj_L} {r : List Value} {h : pj_H} {kc ks : Nat} (ha : h[a]? = some (.inl (0, (N, .inl f)))) : po_iald n L (.int i :: .ref a :: r) h kc ks = some (some (vp_in i N), (n, L, .int (f i.toNatClampNeg) :: r, h, kc, ks)) := by
  unfold po_iald
  simp only [ha, if_true]
theorem po_saldD {n a N : Nat} {i : Int32} {f : Nat → Int32} {L : pj_L} {r : List Value} {h : pj_H} {kc ks : Nat} (ha : h[a]? = some (.inl (5, (N, .inl f)))) : po_sald n L (.int i :: .ref a :: r) h kc ks = some (some (vp_in i N), (n, L, .int (f i.toNatClampNeg) :: r, h, kc, ks)) := by
  unfold po_sald
  simp only [ha, if_true]
theorem po_baldD {n a N : Nat} {i : Int32} {f : Nat → Int32} {L : pj_L} {r : List Value} {h : pj_H} {kc ks : Nat} (ha : h[a]? = some (.inl (4, (N, .inl f)))) : po_bald n L (.int i :: .ref a :: r) h kc ks = some (some (vp_in i N), (n, L, .int (f i.toNatClampNeg) :: r, h, kc, ks)) := by
  unfold po_bald
  simp only [ha, or_true, if_true]
theorem po_laldD {n a N : Nat} {i : Int32} {f : Nat → Int64} {L : pj_L} {r : List Value} {h : pj_H} {kc ks : Nat} (ha : h[a]? = some (.inl (1, (N, .inr (.inl f))))) : po_lald n L (.int i :: .ref a :: r) h kc ks = some (some (vp_in i N), (n, L, .long (f i.toNatClampNeg) :: r, h, kc, ks)) := by
  unfold po_lald
  simp only [ha, if_true]
theorem c_X1_lengthOf_S {G : pj_G} {d : Nat} {h : pj_H} {a N : Nat} {f : Nat → Int32} (ha : h[a]? = some (.inl (5, (N, .inl f)))) : pj_Rt G mX1_lengthOf d [.ref a] h 0 0 (some (.int (Int32.ofNat N))) h := by
  refine pj_Cn.start ?_
  refine pj_J.go (oX1_lengthOf G) 1 rfl trivial ?_
  refine pj_J.instY dX1_lengthOf_1 q1255 (Or.inr ⟨_, _, ha, Or.inr (Or.inr (Or.inr ⟨rfl, rfl⟩))⟩) ?_
  refine pj_J.go (oX1_lengthOf G) 1 rfl trivial ?_
  refine pj_J.neg (by decide) ?_
  refine pj_J.go (oX1_lengthOf G) 1 rfl trivial ?_
  refine pj_J.castY dX1_lengthOf_8 q1255 (Or.inr ⟨_, _, ha, Or.inr (Or.inr (Or.inr ⟨rfl, rfl⟩))⟩) ?_
  refine pj_J.go1 (pc := 11) (oX1_lengthOf G) rfl (po_alenD (n := 12) ha (by decide)) trivial ?_
  exact pj_iret dX1_lengthOf_12 rfl ⟨rfl, rfl⟩
theorem c_X1_lengthOf_I {G : pj_G} {d : Nat} {h : pj_H} {a N : Nat} {f : Nat → Int32} (ha : h[a]? = some (.inl (0, (N, .inl f)))) : pj_Rt G mX1_lengthOf d [.ref a] h 0 0 (some (.int (Int32.ofNat N))) h := by
  refine pj_Cn.start ?_
  refine pj_J.go (oX1_lengthOf G) 1 rfl trivial ?_
  refine pj_J.instNo dX1_lengthOf_1 q1255 (Or.inr ⟨_, _, ha, Or.inl ⟨rfl, rfl⟩⟩) (by decide) ?_
  refine pj_J.go (oX1_lengthOf G) 1 rfl trivial ?_
  refine pj_J.pos rfl ?_
  refine pj_J.go (oX1_lengthOf G) 1 rfl trivial ?_
  refine pj_J.instY dX1_lengthOf_14 q1256 (Or.inr ⟨_, _, ha, Or.inl ⟨rfl, rfl⟩⟩) ?_
  refine pj_J.go (oX1_lengthOf G) 1 rfl trivial ?_
  refine pj_J.neg (by decide) ?_
  refine pj_J.go (oX1_lengthOf G) 1 rfl trivial ?_
  refine pj_J.castY dX1_lengthOf_21 q1256 (Or.inr ⟨_, _, ha, Or.inl ⟨rfl, rfl⟩⟩) ?_
  refine pj_J.go1 (pc := 24) (oX1_lengthOf G) rfl (po_alenD (n := 25) ha (by decide)) trivial ?_
  exact pj_iret dX1_lengthOf_25 rfl ⟨rfl, rfl⟩
theorem c_X1_lengthOf_J {G : pj_G} {d : Nat} {h : pj_H} {a N : Nat} {f : Nat → Int64} (ha : h[a]? = some (.inl (1, (N, .inr (.inl f))))) : pj_Rt G mX1_lengthOf d [.ref a] h 0 0 (some (.int (Int32.ofNat N))) h := by
  refine pj_Cn.start ?_
  refine pj_J.go (oX1_lengthOf G) 1 rfl trivial ?_
  refine pj_J.instNo dX1_lengthOf_1 q1255 (Or.inr ⟨_, _, ha, Or.inr (Or.inl ⟨rfl, rfl⟩)⟩) (by decide) ?_
  refine pj_J.go (oX1_lengthOf G) 1 rfl trivial ?_
  refine pj_J.pos rfl ?_
  refine pj_J.go (oX1_lengthOf G) 1 rfl trivial ?_
  refine pj_J.instNo dX1_lengthOf_14 q1256 (Or.inr ⟨_, _, ha, Or.inr (Or.inl ⟨rfl, rfl⟩)⟩) (by decide) ?_
  refine pj_J.go (oX1_lengthOf G) 1 rfl trivial ?_
  refine pj_J.pos rfl ?_
  refine pj_J.go (oX1_lengthOf G) 1 rfl trivial ?_
  refine pj_J.castY dX1_lengthOf_27 q1257 (Or.inr ⟨_, _, ha, Or.inr (Or.inl ⟨rfl, rfl⟩)⟩) ?_
  refine pj_J.go1 (pc := 30) (oX1_lengthOf G) rfl (po_alenD (n := 31) ha (by decide)) trivial ?_
  exact pj_iret dX1_lengthOf_31 rfl ⟨rfl, rfl⟩
theorem c_X1_lengthOf_0 {G : pj_G} {d : Nat} {h : pj_H} : pj_Cn G mX1_lengthOf d [.null] h 1 8 (px_t1 21 h) := by
  refine pj_Cn.start ?_
  refine pj_J.go (oX1_lengthOf G) 1 rfl trivial ?_
  refine pj_J.instN dX1_lengthOf_1 ?_
  refine pj_J.go (oX1_lengthOf G) 1 rfl trivial ?_
  refine pj_J.pos rfl ?_
  refine pj_J.go (oX1_lengthOf G) 1 rfl trivial ?_
  refine pj_J.instN dX1_lengthOf_14 ?_
  refine pj_J.go (oX1_lengthOf G) 1 rfl trivial ?_
  refine pj_J.pos rfl ?_
  refine pj_J.go (oX1_lengthOf G) 1 rfl trivial ?_
  refine pj_J.castN dX1_lengthOf_27 ?_
  exact pj_J.raiseN (kc := 0) (ks := 0) (rn_alen dX1_lengthOf_30 (Nat.le_of_ble_eq_true rfl)) whX1_lengthOf (Or.inr ⟨rfl, rfl, rfl⟩)
theorem c_X1_lengthOf_B {G : pj_G} {d : Nat} {h : pj_H} {a N : Nat} {f : Nat → Int32} (ha : h[a]? = some (.inl (4, (N, .inl f)))) : pj_Cn G mX1_lengthOf d [.ref a] h 3 1010 (px_t3 22 h) := by
  refine pj_Cn.start ?_
  refine pj_J.go (oX1_lengthOf G) 1 rfl trivial ?_
  refine pj_J.instNo dX1_lengthOf_1 q1255 (Or.inr ⟨_, _, ha, Or.inr (Or.inr (Or.inl ⟨rfl, rfl⟩))⟩) (by decide) ?_
  refine pj_J.go (oX1_lengthOf G) 1 rfl trivial ?_
  refine pj_J.pos rfl ?_
  refine pj_J.go (oX1_lengthOf G) 1 rfl trivial ?_
  refine pj_J.instNo dX1_lengthOf_14 q1256 (Or.inr ⟨_, _, ha, Or.inr (Or.inr (Or.inl ⟨rfl, rfl⟩))⟩) (by decide) ?_
  refine pj_J.go (oX1_lengthOf G) 1 rfl trivial ?_
  refine pj_J.pos rfl ?_
  refine pj_J.go (oX1_lengthOf G) 1 rfl trivial ?_
  exact pj_J.raiseC (kc := 0) (ks := 0) (rc_cast dX1_lengthOf_27 q1257 (Or.inr ⟨_, _, ha, Or.inr (Or.inr (Or.inl ⟨rfl, rfl⟩))⟩) (by decide) (Nat.le_of_ble_eq_true rfl)) whX1_lengthOf (Or.inr ⟨rfl, rfl, rfl⟩)
theorem c_X1_lengthOf_M {G : pj_G} {d : Nat} {h : pj_H} {a : Nat} (hi : px_is h a "PennyJudge$Image") : pj_Cn G mX1_lengthOf d [.ref a] h 3 1010 (px_t3 22 h) := by
  refine pj_Cn.start ?_
  refine pj_J.go (oX1_lengthOf G) 1 rfl trivial ?_
  refine pj_J.instNo dX1_lengthOf_1 q1255 hi (by decide) ?_
  refine pj_J.go (oX1_lengthOf G) 1 rfl trivial ?_
  refine pj_J.pos rfl ?_
  refine pj_J.go (oX1_lengthOf G) 1 rfl trivial ?_
  refine pj_J.instNo dX1_lengthOf_14 q1256 hi (by decide) ?_
  refine pj_J.go (oX1_lengthOf G) 1 rfl trivial ?_
  refine pj_J.pos rfl ?_
  refine pj_J.go (oX1_lengthOf G) 1 rfl trivial ?_
  exact pj_J.raiseC (kc := 0) (ks := 0) (rc_cast dX1_lengthOf_27 q1257 hi (by decide) (Nat.le_of_ble_eq_true rfl)) whX1_lengthOf (Or.inr ⟨rfl, rfl, rfl⟩)
theorem c_X1_wide_S {G : pj_G} {d : Nat} {h : pj_H} {a N : Nat} {f : Nat → Int32} (ha : h[a]? = some (.inl (5, (N, .inl f)))) (i : Int32) (hin : vp_in i N) : pj_Rt G mX1_wide d [.ref a, .int i] h 0 0 (some (.long ((f i.toNatClampNeg).toInt64))) h := by
  refine pj_Cn.start ?_
  refine pj_J.go (oX1_wide G) 1 rfl trivial ?_
  refine pj_J.instY dX1_wide_1 q1255 (Or.inr ⟨_, _, ha, Or.inr (Or.inr (Or.inr ⟨rfl, rfl⟩))⟩) ?_
  refine pj_J.go (oX1_wide G) 1 rfl trivial ?_
  refine pj_J.neg (by decide) ?_
  refine pj_J.go (oX1_wide G) 1 rfl trivial ?_
  refine pj_J.castY dX1_wide_8 q1255 (Or.inr ⟨_, _, ha, Or.inr (Or.inr (Or.inr ⟨rfl, rfl⟩))⟩) ?_
  refine pj_J.go (oX1_wide G) 1 rfl trivial ?_
  refine pj_J.go1 (pc := 12) (oX1_wide G) rfl (po_saldD (n := 13) ha) hin ?_
  refine pj_J.go (oX1_wide G) 1 rfl trivial ?_
  exact pj_lret dX1_wide_14 rfl ⟨rfl, rfl⟩
theorem c_X1_wide_SO {G : pj_G} {d : Nat} {h : pj_H} {a N : Nat} {f : Nat → Int32} (ha : h[a]? = some (.inl (5, (N, .inl f)))) (i : Int32) (hN : N < 2 ^ 31) (hin : ¬ vp_in i N) : pj_Cn G mX1_wide d [.ref a, .int i] h 3 1010 (px_t3 23 h) := by
  refine pj_Cn.start ?_
  refine pj_J.go (oX1_wide G) 1 rfl trivial ?_
  refine pj_J.instY dX1_wide_1 q1255 (Or.inr ⟨_, _, ha, Or.inr (Or.inr (Or.inr ⟨rfl, rfl⟩))⟩) ?_
  refine pj_J.go (oX1_wide G) 1 rfl trivial ?_
  refine pj_J.neg (by decide) ?_
  refine pj_J.go (oX1_wide G) 1 rfl trivial ?_
  refine pj_J.castY dX1_wide_8 q1255 (Or.inr ⟨_, _, ha, Or.inr (Or.inr (Or.inr ⟨rfl, rfl⟩))⟩) ?_
  refine pj_J.go (oX1_wide G) 1 rfl trivial ?_
  exact pj_J.raiseA (kc := 0) (ks := 0) (ro_saload (ty := .short) ha (by decide) (fun _ => rfl) hN hin dX1_wide_12 (Nat.le_of_ble_eq_true rfl)) whX1_wide (Or.inr ⟨rfl, rfl, rfl⟩)
theorem c_X1_wide_I {G : pj_G} {d : Nat} {h : pj_H} {a N : Nat} {f : Nat → Int32} (ha : h[a]? = some (.inl (0, (N, .inl f)))) (i : Int32) (hin : vp_in i N) : pj_Rt G mX1_wide d [.ref a, .int i] h 0 0 (some (.long ((f i.toNatClampNeg).toInt64))) h := by
  refine pj_Cn.start ?_
  refine pj_J.go (oX1_wide G) 1 rfl trivial ?_
  refine pj_J.instNo dX1_wide_1 q1255 (Or.inr ⟨_, _, ha, Or.inl ⟨rfl, rfl⟩⟩) (by decide) ?_
  refine pj_J.go (oX1_wide G) 1 rfl trivial ?_
  refine pj_J.pos rfl ?_
  refine pj_J.go (oX1_wide G) 1 rfl trivial ?_
  refine pj_J.instY dX1_wide_16 q1256 (Or.inr ⟨_, _, ha, Or.inl ⟨rfl, rfl⟩⟩) ?_
  refine pj_J.go (oX1_wide G) 1 rfl trivial ?_
  refine pj_J.neg (by decide) ?_
  refine pj_J.go (oX1_wide G) 1 rfl trivial ?_
  refine pj_J.castY dX1_wide_23 q1256 (Or.inr ⟨_, _, ha, Or.inl ⟨rfl, rfl⟩⟩) ?_
  refine pj_J.go (oX1_wide G) 1 rfl trivial ?_
  refine pj_J.go1 (pc := 27) (oX1_wide G) rfl (po_ialdD (n := 28) ha) hin ?_
  refine pj_J.go (oX1_wide G) 1 rfl trivial ?_
  exact pj_lret dX1_wide_29 rfl ⟨rfl, rfl⟩
theorem c_X1_wide_IO {G : pj_G} {d : Nat} {h : pj_H} {a N : Nat} {f : Nat → Int32} (ha : h[a]? = some (.inl (0, (N, .inl f)))) (i : Int32) (hN : N < 2 ^ 31) (hin : ¬ vp_in i N) : pj_Cn G mX1_wide d [.ref a, .int i] h 3 1010 (px_t3 23 h) := by
  refine pj_Cn.start ?_
  refine pj_J.go (oX1_wide G) 1 rfl trivial ?_
  refine pj_J.instNo dX1_wide_1 q1255 (Or.inr ⟨_, _, ha, Or.inl ⟨rfl, rfl⟩⟩) (by decide) ?_
  refine pj_J.go (oX1_wide G) 1 rfl trivial ?_
  refine pj_J.pos rfl ?_
  refine pj_J.go (oX1_wide G) 1 rfl trivial ?_
  refine pj_J.instY dX1_wide_16 q1256 (Or.inr ⟨_, _, ha, Or.inl ⟨rfl, rfl⟩⟩) ?_
  refine pj_J.go (oX1_wide G) 1 rfl trivial ?_
  refine pj_J.neg (by decide) ?_
  refine pj_J.go (oX1_wide G) 1 rfl trivial ?_
  refine pj_J.castY dX1_wide_23 q1256 (Or.inr ⟨_, _, ha, Or.inl ⟨rfl, rfl⟩⟩) ?_
  refine pj_J.go (oX1_wide G) 1 rfl trivial ?_
  exact pj_J.raiseA (kc := 0) (ks := 0) (ro_iaload (ty := .int) ha (by decide) (fun _ => rfl) hN hin dX1_wide_27 (Nat.le_of_ble_eq_true rfl)) whX1_wide (Or.inr ⟨rfl, rfl, rfl⟩)
theorem c_X1_wide_J {G : pj_G} {d : Nat} {h : pj_H} {a N : Nat} {f : Nat → Int64} (ha : h[a]? = some (.inl (1, (N, .inr (.inl f))))) (i : Int32) (hin : vp_in i N) : pj_Rt G mX1_wide d [.ref a, .int i] h 0 0 (some (.long (f i.toNatClampNeg))) h := by
  refine pj_Cn.start ?_
  refine pj_J.go (oX1_wide G) 1 rfl trivial ?_
  refine pj_J.instNo dX1_wide_1 q1255 (Or.inr ⟨_, _, ha, Or.inr (Or.inl ⟨rfl, rfl⟩)⟩) (by decide) ?_
  refine pj_J.go (oX1_wide G) 1 rfl trivial ?_
  refine pj_J.pos rfl ?_
  refine pj_J.go (oX1_wide G) 1 rfl trivial ?_
  refine pj_J.instNo dX1_wide_16 q1256 (Or.inr ⟨_, _, ha, Or.inr (Or.inl ⟨rfl, rfl⟩)⟩) (by decide) ?_
  refine pj_J.go (oX1_wide G) 1 rfl trivial ?_
  refine pj_J.pos rfl ?_
  refine pj_J.go (oX1_wide G) 1 rfl trivial ?_
  refine pj_J.castY dX1_wide_31 q1257 (Or.inr ⟨_, _, ha, Or.inr (Or.inl ⟨rfl, rfl⟩)⟩) ?_
  refine pj_J.go (oX1_wide G) 1 rfl trivial ?_
  refine pj_J.go1 (pc := 35) (oX1_wide G) rfl (po_laldD (n := 36) ha) hin ?_
  exact pj_lret dX1_wide_36 rfl ⟨rfl, rfl⟩
theorem c_X1_wide_JO {G : pj_G} {d : Nat} {h : pj_H} {a N : Nat} {f : Nat → Int64} (ha : h[a]? = some (.inl (1, (N, .inr (.inl f))))) (i : Int32) (hN : N < 2 ^ 31) (hin : ¬ vp_in i N) : pj_Cn G mX1_wide d [.ref a, .int i] h 3 1010 (px_t3 23 h) := by
  refine pj_Cn.start ?_
  refine pj_J.go (oX1_wide G) 1 rfl trivial ?_
  refine pj_J.instNo dX1_wide_1 q1255 (Or.inr ⟨_, _, ha, Or.inr (Or.inl ⟨rfl, rfl⟩)⟩) (by decide) ?_
  refine pj_J.go (oX1_wide G) 1 rfl trivial ?_
  refine pj_J.pos rfl ?_
  refine pj_J.go (oX1_wide G) 1 rfl trivial ?_
  refine pj_J.instNo dX1_wide_16 q1256 (Or.inr ⟨_, _, ha, Or.inr (Or.inl ⟨rfl, rfl⟩)⟩) (by decide) ?_
  refine pj_J.go (oX1_wide G) 1 rfl trivial ?_
  refine pj_J.pos rfl ?_
  refine pj_J.go (oX1_wide G) 1 rfl trivial ?_
  refine pj_J.castY dX1_wide_31 q1257 (Or.inr ⟨_, _, ha, Or.inr (Or.inl ⟨rfl, rfl⟩)⟩) ?_
  refine pj_J.go (oX1_wide G) 1 rfl trivial ?_
  exact pj_J.raiseA (kc := 0) (ks := 0) (ro_laload (ty := .long) ha (by decide) (fun _ => rfl) hN hin dX1_wide_35 (Nat.le_of_ble_eq_true rfl)) whX1_wide (Or.inr ⟨rfl, rfl, rfl⟩)
theorem c_X1_wide_0 {G : pj_G} {d : Nat} {h : pj_H} (i : Int32) : pj_Cn G mX1_wide d [.null, .int i] h 1 8 (px_t1 21 h) := by
  refine pj_Cn.start ?_
  refine pj_J.go (oX1_wide G) 1 rfl trivial ?_
  refine pj_J.instN dX1_wide_1 ?_
  refine pj_J.go (oX1_wide G) 1 rfl trivial ?_
  refine pj_J.pos rfl ?_
  refine pj_J.go (oX1_wide G) 1 rfl trivial ?_
  refine pj_J.instN dX1_wide_16 ?_
  refine pj_J.go (oX1_wide G) 1 rfl trivial ?_
  refine pj_J.pos rfl ?_
  refine pj_J.go (oX1_wide G) 1 rfl trivial ?_
  refine pj_J.castN dX1_wide_31 ?_
  refine pj_J.go (oX1_wide G) 1 rfl trivial ?_
  exact pj_J.raiseN (kc := 0) (ks := 0) (rn_laload dX1_wide_35 (Nat.le_of_ble_eq_true rfl)) whX1_wide (Or.inr ⟨rfl, rfl, rfl⟩)
theorem c_X1_wide_B {G : pj_G} {d : Nat} {h : pj_H} {a N : Nat} {f : Nat → Int32} (ha : h[a]? = some (.inl (4, (N, .inl f)))) (i : Int32) : pj_Cn G mX1_wide d [.ref a, .int i] h 3 1010 (px_t3 22 h) := by
  refine pj_Cn.start ?_
  refine pj_J.go (oX1_wide G) 1 rfl trivial ?_
  refine pj_J.instNo dX1_wide_1 q1255 (Or.inr ⟨_, _, ha, Or.inr (Or.inr (Or.inl ⟨rfl, rfl⟩))⟩) (by decide) ?_
  refine pj_J.go (oX1_wide G) 1 rfl trivial ?_
  refine pj_J.pos rfl ?_
  refine pj_J.go (oX1_wide G) 1 rfl trivial ?_
  refine pj_J.instNo dX1_wide_16 q1256 (Or.inr ⟨_, _, ha, Or.inr (Or.inr (Or.inl ⟨rfl, rfl⟩))⟩) (by decide) ?_
  refine pj_J.go (oX1_wide G) 1 rfl trivial ?_
  refine pj_J.pos rfl ?_
  refine pj_J.go (oX1_wide G) 1 rfl trivial ?_
  exact pj_J.raiseC (kc := 0) (ks := 0) (rc_cast dX1_wide_31 q1257 (Or.inr ⟨_, _, ha, Or.inr (Or.inr (Or.inl ⟨rfl, rfl⟩))⟩) (by decide) (Nat.le_of_ble_eq_true rfl)) whX1_wide (Or.inr ⟨rfl, rfl, rfl⟩)
theorem c_X1_wide_M {G : pj_G} {d : Nat} {h : pj_H} {a : Nat} (hi : px_is h a "PennyJudge$Image") (i : Int32) : pj_Cn G mX1_wide d [.ref a, .int i] h 3 1010 (px_t3 22 h) := by
  refine pj_Cn.start ?_
  refine pj_J.go (oX1_wide G) 1 rfl trivial ?_
  refine pj_J.instNo dX1_wide_1 q1255 hi (by decide) ?_
  refine pj_J.go (oX1_wide G) 1 rfl trivial ?_
  refine pj_J.pos rfl ?_
  refine pj_J.go (oX1_wide G) 1 rfl trivial ?_
  refine pj_J.instNo dX1_wide_16 q1256 hi (by decide) ?_
  refine pj_J.go (oX1_wide G) 1 rfl trivial ?_
  refine pj_J.pos rfl ?_
  refine pj_J.go (oX1_wide G) 1 rfl trivial ?_
  exact pj_J.raiseC (kc := 0) (ks := 0) (rc_cast dX1_wide_31 q1257 hi (by decide) (Nat.le_of_ble_eq_true rfl)) whX1_wide (Or.inr ⟨rfl, rfl, rfl⟩)
