/-! CATCHING: the search of a method's own table (its classes cold or warm), and the walk's going on at the handler. Own work. -/
set_option maxRecDepth 100000
theorem px_up {tb : Tables} {e : Env} {f : Frame} {below : List Frame} {s t : State} (h : Steps tb e (f :: below) s t) : Steps tb e below s t := by
  obtain ⟨n, h1, w⟩ := h
  refine ⟨n, h1, fun k hk => ?_⟩
  obtain ⟨above, h2, h3, h4⟩ := w k hk
  refine ⟨above ++ [f], by simp [h2], by simp, fun a he => ?_⟩
  have := congrArg List.length he
  simp at this
  exact h3 this
/-- one entry that covers, its class cold or warm -/
theorem px_go1 {Q : Handler → Pre} {E : CtlPost} {e : Env} {d : Bool} {acts : List Action} {s : State} {f : JFrame} {a : Addr} {x : ExceptionTableEntry} {t : List ExceptionTableEntry} {c : ClassId} {cell : Cell} (hx : covers x f.pc = true) (h0 : x.catchType ≠ 0)
    (hl : s.vm.ClassLinks e.platform f.method.cls x.catchType c) (hcell : s.heap[a]? = some cell) (hobj : ∀ k, cell.vm ≠ .statics k) (hk : ∃ k, s.vm.classes[cell.cls]? = some k) (hc : ∃ k, s.vm.classes[c]? = some k) {b : Bool} (hfit : s.vm.assignable cell.cls c = b) :
    wp (findHandler.go f a (x :: t)) Q E e d acts s ↔ (match b with | true => Q (.found x.handlerPc) d acts (s.setVm (s.vm.noted f.method.cls x.catchType (.cls c))) | false => wp (findHandler.go f a t) Q E e d acts (s.setVm (s.vm.noted f.method.cls x.catchType (.cls c)))) := by
  simp only [covers] at hx
  obtain ⟨ha, ht⟩ := (resolveClass_links e.toSetting hl).op (op := VmOp.resolveClass f.method.cls x.catchType) rfl
  have hal : s.vm.Alike (s.vm.noted f.method.cls x.catchType (.cls c)) := (Vm.Alike.refl s.vm).noted _ _ _
  obtain ⟨k1, hk1⟩ := hk
  obtain ⟨k2, hk2⟩ := hc
  obtain ⟨k1', hk1', -⟩ := hal.2.2 _ _ hk1
  obtain ⟨k2', hk2', -⟩ := hal.2.2 _ _ hk2
  have hfit' : (s.vm.noted f.method.cls x.catchType (.cls c)).assignable cell.cls c = b := by rw [hal.assignable]; exact hfit
  cases b <;> simp [findHandler.go, hx, h0, ha, ht, hcell, hobj, hk1', hk2', hfit', VmOp.dirties, VmOp.acts]
/-- how the search goes: entry by entry: not about; it catches; it does not -/
def px_D (own C : String) (pc : Nat) : List (Nat × Nat × Nat × Nat) → List (Option (String × Bool)) → Nat → Prop
  | q :: r, none :: w, h => (pc < q.1 ∨ q.2.1 ≤ pc) ∧ px_D own C pc r w h
  | q :: _, some (nm, true) :: _, h => (q.1 ≤ pc ∧ pc < q.2.1) ∧ q.2.2.2 ≠ 0 ∧ Cond.classLink own q.2.2.2 nm ∈ lw_all ∧ Cond.castable C nm ∈ pj_ext ∧ h = q.2.2.1
  | q :: r, some (nm, false) :: w, h => (q.1 ≤ pc ∧ pc < q.2.1) ∧ q.2.2.2 ≠ 0 ∧ Cond.classLink own q.2.2.2 nm ∈ lw_all ∧ (C, nm) ∈ pj_eN ∧ px_D own C pc r w h
  | _, _, _ => False
def px_e (h : ExceptionTableEntry) : Nat × Nat × Nat × Nat := (h.startPc, h.endPc, h.handlerPc, h.catchType)
theorem px_find {own C : String} {e : Env} {s : State} {args : Array Value} (hpl : e.platform.magicAccessors = ({} : Platform).magicAccessors) {f : JFrame} (hown : s.vm.findClass own = some f.method.cls) (hts : ∀ w ∈ lw_all, w.before args s = true) (hext : ∀ w ∈ pj_ext, va_Nw w s) (hN : ∀ q ∈ pj_eN, pj_nc s q) {a : Addr} {cell : Cell} (hC : s.vm.findClass C = some cell.cls) (hobj : ∀ k, cell.vm ≠ .statics k) (hk : ∃ k, s.vm.classes[cell.cls]? = some k) :
    ∀ (es : List ExceptionTableEntry) (plan : List (Option (String × Bool))) (h : Nat) (S : State), px_D own C f.pc (es.map px_e) plan h → s.WarmedH S.vm → S.heap[a]? = some cell → ∃ vm' : Vm, s.WarmedH vm' ∧ ∀ (Q : Handler → Pre) (E : CtlPost) (d : Bool) (acts : List Action), wp (findHandler.go f a es) Q E e d acts S ↔ Q (.found h) d acts (S.setVm vm') := by
  intro es
  induction es with
  | nil => intro plan h S hD; cases hD
  | cons x r ih =>
    intro plan h S hD hW hcell
    have hkS : ∃ k, S.vm.classes[cell.cls]? = some k := by
      obtain ⟨k1, h1⟩ := hk
      obtain ⟨k2, h2, -⟩ := hW.alike.2.2 _ _ h1
      exact ⟨k2, h2⟩
    cases plan with
    | nil => cases hD
    | cons w plan =>
      match w, hD with
      | none, hD =>
        obtain ⟨h1, h2⟩ := hD
        obtain ⟨vm', g1, g2⟩ := ih plan h S h2 hW hcell
        refine ⟨vm', g1, fun Q E d acts => ?_⟩
        rw [Jvm.W.findHandler_go_skip (by simp only [covers]; simp only [px_e] at h1; simp; omega)]
        exact g2 Q E d acts
      | some (nm, true), hD =>
        obtain ⟨⟨h1, h1'⟩, h2, h3, h4, h5⟩ := hD
        simp only [px_e] at h1 h1' h2 h3 h5
        obtain ⟨c', hc', hcl⟩ := Cond.classLink_spec hown (hts _ h3) e.platform hpl
        obtain ⟨c3, cT, hc3, hcT, hasg⟩ := Cond.castable_spec (hext _ h4)
        cases hC.symm.trans hc3
        cases hcT.symm.trans hc'
        obtain ⟨dk, _, _, kt, hd, _, _, _, _, hkt, _, hopen⟩ := hcl.here
        obtain ⟨kt', hkt', -⟩ := hW.alike.2.2 _ _ hkt
        refine ⟨_, hW.noted hd hopen (State.rightAt_cls hcl), fun Q E d acts => ?_⟩
        rw [px_go1 (b := true) (by simp only [covers]; simp; omega) h2 (hW.classLinks hcl) hcell hobj hkS ⟨kt', hkt'⟩ (by rw [hW.alike.assignable]; exact hasg), h5]
      | some (nm, false), hD =>
        obtain ⟨⟨h1, h1'⟩, h2, h3, h4, h5⟩ := hD
        simp only [px_e] at h1 h1' h2 h3
        obtain ⟨c', hc', hcl⟩ := Cond.classLink_spec hown (hts _ h3) e.platform hpl
        obtain ⟨c3, cT, hc3, hcT, hasg⟩ := hN _ h4
        cases hC.symm.trans hc3
        cases hcT.symm.trans hc'
        obtain ⟨dk, _, _, kt, hd, _, _, _, _, hkt, _, hopen⟩ := hcl.here
        obtain ⟨kt', hkt', -⟩ := hW.alike.2.2 _ _ hkt
        have hW' := hW.noted hd hopen (State.rightAt_cls hcl)
        obtain ⟨vm', g1, g2⟩ := ih plan h (S.setVm (S.vm.noted f.method.cls x.catchType (.cls c'))) h5 hW' hcell
        refine ⟨vm', g1, fun Q E d acts => ?_⟩
        rw [px_go1 (b := false) (by simp only [covers]; simp; omega) h2 (hW.classLinks hcl) hcell hobj hkS ⟨kt', hkt'⟩ (by rw [hW.alike.assignable]; exact hasg)]
        exact g2 Q E d acts
theorem px_step {e : Env} {s : State} {a : Addr} {f : JFrame} {r : List Frame} {pc : Nat} {vm' : Vm} (hfind : ∀ (Q : Handler → Pre) (E : CtlPost) (d : Bool) (acts : List Action), wp (findHandler f a) Q E e d acts s ↔ Q (.found pc) d acts (s.setVm vm')) :
    (stepThrowing e s a (.java f :: r)).Is ((s.setVm vm').setFrames (.java { f with pc := pc, stack := [.ref a] } :: r)) [] := by
  simp only [stepThrowing, searchFrame, vmDo]
  generalize hr : Sem.go _ e false [] s = res
  obtain ⟨as, rfl, ha⟩ := Sem.eq_ok_of hr (a := Handler.found pc) (s' := s.setVm vm') (acts' := []) (by simp [hfind _ _ _ _])
  exact ⟨rfl, ha⟩
theorem px_caught {G : pj_G} {mt : pj_M} {d : Nat} {p : Program} {l : Launch} {e : Env} {R : Room} {s : State} {m : MethodId} {args : Array Value} {below : List Frame} {meth : Method} {c : Code} {T : State} {locs : List Loc} {cells slots : Nat} {hh : List (Nat × Nat × Nat × Nat)} (hC : pj_C G mt d p l R s m args meth c) (X : Stand p l e R s m args below meth c T locs cells slots) (hH : px_H mt hh) {C : String} {a : Addr} {cell : Cell} {g : JFrame} (hg : g.method = m) (hcell : T.heap[a]? = some cell) (hcC : s.vm.findClass C = some cell.cls) (hvm : cell.vm = .none) (hk : ∃ k, s.vm.classes[cell.cls]? = some k) {plan : List (Option (String × Bool))} {h : Nat} (hD : px_D mt.1.cls C g.pc hh plan h) :
    ∃ vm' : Vm, Stand p l e R s m args below meth c (T.setVm vm') locs cells slots ∧ ∀ target, Steps p.tables e below ((T.setVm vm').setTop { g with pc := h, stack := [.ref a] }) target → Steps p.tables e below ((T.setTop g).pushFrame (.throwing a)) target := by
  subst hg
  have hK := hC.2.2.2.2.2.2.2.2.1
  have hts := hC.2.2.2.2.2.2.2.1
  have hpl : e.platform.magicAccessors = ({} : Platform).magicAccessors := by rw [X.admits.platform]
  have htab := px_tab hC X hH
  obtain ⟨vm', h1, h2⟩ := px_find (f := g) (a := a) hpl hC.2.2.2.2.2.1 hts hK.2.1 hK.2.2.2.2.2.2.2.2.2.1 hcC (fun k => by rw [hvm]; exact fun hh => by cases hh) hk c.exceptionTable.toList plan h ((T.setTop g).pushFrame (.throwing a)) (by rw [show c.exceptionTable.toList.map px_e = hh from htab]; exact hD) (by rw [Stand.throwing_vm]; exact X.warmed) (by rw [Stand.throwing_heap]; exact hcell)
  refine ⟨vm', X.noted h1, fun target hrest => ?_⟩
  have hfind : ∀ (Q : Handler → Pre) (E : CtlPost) (d : Bool) (acts : List Action), wp (findHandler g a) Q E e d acts ((T.setTop g).pushFrame (.throwing a)) ↔ Q (.found h) d acts (((T.setTop g).pushFrame (.throwing a)).setVm vm') := by
    intro Q E d acts
    rw [Jvm.W.findHandler_eq (meth := meth) (code := c) (by rw [Stand.throwing_vm]; exact X.method') X.code]
    exact h2 Q E d acts
  obtain ⟨hgo, hw⟩ := X.here.throwing (g := g) a
  refine Steps.head hgo hw ?_
  rw [stepThread_throwing (frames_entered X.here.top _), (px_step hfind).1]
  obtain ⟨g₀, hr⟩ := X.frames_eq
  have hr' : (T.setVm vm').frames = .java g₀ :: below := hr
  rw [State.setTop_of_frames _ hr'] at hrest
  have e1 : ∀ (u : State) (F K : List Frame), ((u.setFrames F).setVm vm').setFrames K = (u.setVm vm').setFrames K := by
    intro u F K
    rw [show (u.setFrames F).setVm vm' = (u.setVm vm').setFrames F from rfl, State.setFrames_setFrames]
  rw [hr, List.tail_cons, State.pushFrame, e1, State.setTop_of_frames _ hr, e1]
  exact hrest
