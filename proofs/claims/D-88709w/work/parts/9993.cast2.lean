/-! CASTS that fail; other nulls: getfield, invokevirtual; athrow of an object. Own work. -/
set_option maxRecDepth 100000
theorem px_found {vm : Vm} {name : String} {c : ClassId} (h : vm.findClass name = some c) : ∃ k, vm.classes[c]? = some k ∧ k.name = name ∧ k.hidden = none ∧ k.loader = none := by
  obtain ⟨hlt, hp, -⟩ := Array.findIdx?_eq_some_iff_getElem.mp h
  refine ⟨vm.classes[c], by simp [hlt], ?_⟩
  simp only [Bool.and_eq_true, beq_iff_eq, Option.isNone_iff_eq_none] at hp
  exact ⟨hp.1.1.1, hp.1.1.2, hp.2⟩
theorem px_castNo {p : Program} {l : Launch} {e : Env} {R : Room} {s : State} {m : MethodId} {args : Array Value} {below : List Frame} {meth : Method} {c : Code} {T : State} {locs : List Loc} {cells slots : Nat} (X : Stand p l e R s m args below meth c T locs cells slots) (hexec : p.tables.exec = Jvm.exec) {own name : String} {index : Nat} (hown : s.vm.findClass own = some m.cls) (hlink : (Cond.classLink own index name).before args s = true)
    {a : Addr} {cell : Cell} {cT : ClassId} {ks kt : Class} (hcell : T.heap[a]? = some cell) (hobj : cell.vm.isStatics = false) (hks : s.vm.classes[cell.cls]? = some ks) (hcT : s.vm.findClass name = some cT) (hkt : s.vm.classes[cT]? = some kt) (hasg : s.vm.assignable cell.cls cT = false)
    {g : JFrame} (hg : g.method = m) {rest : List Value} (hstack : g.stack = .ref a :: rest) (hdg : decode c.code g.pc = .ok (.checkcast index, 3)) :
    ∃ (vm' : Vm) (ks' kt' : Class), s.WarmedH vm' ∧ vm'.classes[cell.cls]? = some ks' ∧ vm'.classes[cT]? = some kt' ∧ Stand p l e R s m args below meth c (T.setVm vm') locs cells slots ∧
      ∀ target, Steps p.tables e below (((T.setVm vm').setTop g).pushFrame (.throwNew "java/lang/ClassCastException" (some (checkcast.message vm' ks' kt')) none)) target → Steps p.tables e below (T.setTop g) target := by
  have hpl : e.platform.magicAccessors = ({} : Platform).magicAccessors := by rw [X.admits.platform]
  obtain ⟨c', hc', hcl⟩ := Cond.classLink_spec hown hlink e.platform hpl
  cases hcT.symm.trans hc'
  obtain ⟨dk, _, _, kt1, hd, _, _, _, _, hkt1, _, hop⟩ := hcl.here
  have hcl₀ := X.warmed.classLinks hcl
  have hW' : s.WarmedH (T.vm.noted m.cls index (.cls cT)) := X.warmed.noted hd hop (State.rightAt_cls hcl)
  obtain ⟨ks', hks', -⟩ := hW'.alike.2.2 _ _ hks
  obtain ⟨kt', hkt', -⟩ := hW'.alike.2.2 _ _ hkt
  refine ⟨_, ks', kt', hW', hks', hkt', X.noted hW', fun target hrest => ?_⟩
  subst hg
  jvm_step X.here [hexec, hdg, checkcast.wp_cold (e := e) (s := T) (f := g) X.here.top hstack (resolveClass_links e.toSetting hcl₀) hcl₀.ready,
    checkcast.wp_ready (e := e) (s := T.setVm (T.vm.noted g.method.cls index (.cls cT))) (f := g) X.here.top hcl₀.ready hstack]
  refine ⟨cell, hcell, VmData.noStatics_of hobj, ks', hks', kt', hkt', ?_⟩
  have h1 : (T.vm.noted g.method.cls index (Resolved.cls cT)).assignable cell.cls cT = false := by rw [hW'.alike.assignable]; exact hasg
  simp only [h1]
  exact hrest
theorem rc_cast {G : pj_G} {mt : pj_M} {d pc index a : Nat} {C D : String} {h : pj_H} {rest : List Value} (hd : decode mt.2.1 pc = .ok (.checkcast index, 3)) (hl : Cond.classLink mt.1.cls index D ∈ lw_all) (hi : px_is h a C) (hn : (C, D) ∈ px_eT) (hw : ((Value.ref a :: rest).map fun v => v.category).sum ≤ 8) : px_rs G mt d pc (.ref a :: rest) h "java/lang/ClassCastException" px_some := by
  intro p l e R s m args below meth c T locs cells slots ls hC hR X
  have hK := hC.2.2.2.2.2.2.2.2.1
  obtain ⟨cell, g1, g2, g3⟩ := hi.cell hR hK
  obtain ⟨x, y, f1, f2, f3⟩ := hK.2.2.2.2.2.2.2.2.2.1 _ (List.mem_of_mem_take hn)
  have hmod := hK.2.2.2.2.2.2.2.2.2.2
  cases g3.symm.trans f1
  obtain ⟨ks, hks, n1, n2, n3⟩ := px_found g3
  obtain ⟨kt0, hkt0, n4, n5, n6⟩ := px_found f2
  obtain ⟨vm', ks', kt', hW', hks', hkt', X', st⟩ := px_castNo X hC.1 hC.2.2.2.2.2.1 (hC.2.2.2.2.2.2.2.1 _ hl) g1 (by rw [g2]; rfl) hks f2 hkt0 f3 (g := F0 m pc ls ((.ref a :: rest).map (pj_v G))) rfl (rest := rest.map (pj_v G)) rfl (by rw [hC.2.1]; exact hd)
  obtain ⟨ks1, hks1, e1⟩ := hW'.alike.2.2 _ _ hks
  obtain ⟨kt1, hkt1, e2⟩ := hW'.alike.2.2 _ _ hkt0
  cases hks'.symm.trans hks1
  cases hkt'.symm.trans hkt1
  have hmod' : (vm'.modules.all fun m => m.loader.isSome || m.name == "java.base" || !(castPackages_1.any fun p => m.packages.contains p)) = true := by
    rw [hW'.alike.1]
    exact hmod
  have htok := px_message (vm := vm') (ks := ks') (kt := kt') hmod' (by rw [e1]; exact n3) (by rw [e1]; exact n2) (by rw [e2]; exact n6) (by rw [e2]; exact n5) (by rw [e1, e2]; show (ks.name, kt0.name) ∈ _; rw [n1, n4]; exact hn)
  obtain ⟨t1, t2⟩ := px_tok_ok htok
  exact ⟨T.setVm vm', (.ref a :: rest).map (pj_v G), some (checkcast.message vm' ks' kt'), rfl, X', by rw [pj_cats]; exact hw, ⟨_, rfl, t1, t2⟩, st⟩
