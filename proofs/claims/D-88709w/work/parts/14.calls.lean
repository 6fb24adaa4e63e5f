/-! THE SMALL MACHINE: calls, answers. Own work. -/
set_option maxRecDepth 100000
theorem pj_mono {p : Program} {l : Launch} {e : Env} {R : Room} {s : State} {m : MethodId} {args : Array Value} {below : List Frame} {meth : Method} {c : Code} {H : Heap} {locs : List Loc} {cells slots : Nat} {Q Q' : State → Prop} {g : JFrame} (h : ∀ t, Q t → Q' t) (k : W p l e R s m args below meth c H locs cells slots Q g) : W p l e R s m args below meth c H locs cells slots Q' g := by
  intro T hT X
  obtain ⟨t, a, b⟩ := k T hT X
  exact ⟨t, a, h t b⟩
/-- more room than is asked; a weaker end -/
theorem pj_J.wide {G : pj_G} {mt : pj_M} {d pc : Nat} {L : pj_L} {st : List Value} {h : pj_H} {kc ks kc' ks' : Nat} {Q : pj_O → pj_H → Prop} (h1 : kc ≤ kc') (h2 : ks ≤ ks') (k : pj_J G mt d pc L st h kc ks Q) : pj_J G mt d pc L st h kc' ks' Q :=
  fun p l e R s m args below meth c H locs cells slots mc ms ls hC hR hl hv q1 q2 q3 q4 => k p l e R s m args below meth c H locs cells slots mc ms ls hC hR hl hv (by omega) (by omega) q3 q4
theorem pj_End.imp {G : pj_G} {Q Q' : pj_O → pj_H → Prop} {below : List Frame} {s : State} {mc ms : Nat} {t : State} (h : ∀ o x, Q o x → Q' o x) (k : pj_End G Q below s mc ms t) : pj_End G Q' below s mc ms t := by
  obtain ⟨o, a, b, c, e⟩ := k
  refine ⟨o, a, b, ?_, e⟩
  rcases c with ⟨v, x, q1, q2, q3⟩ | ⟨ci, i, x, fs, q1, q2, q3⟩
  · exact Or.inl ⟨v, x, q1, h _ _ q2, q3⟩
  · exact Or.inr ⟨ci, i, x, fs, q1, h _ _ q2, q3⟩
theorem pj_J.imp {G : pj_G} {mt : pj_M} {d pc : Nat} {L : pj_L} {st : List Value} {h : pj_H} {kc ks : Nat} {Q Q' : pj_O → pj_H → Prop} (hq : ∀ o x, Q o x → Q' o x) (k : pj_J G mt d pc L st h kc ks Q) : pj_J G mt d pc L st h kc ks Q' :=
  fun p l e R s m args below meth c H locs cells slots mc ms ls hC hR hl hv q1 q2 q3 q4 => pj_mono (fun t ht => ht.imp hq) (k p l e R s m args below meth c H locs cells slots mc ms ls hC hR hl hv q1 q2 q3 q4)
/-- n instructions of a table -/
theorem pj_J.go {G : pj_G} {mt : pj_M} {T : pj_T} (hT : pj_okT G mt 0 T) (n : Nat) {d pc pc' : Nat} {L L' : pj_L} {st st' : List Value} {h h' : pj_H} {kc ks kc' ks' : Nat} {C : Prop} {Q : pj_O → pj_H → Prop} (hg : pj_go T n pc L st h kc ks = some (C, (pc', L', st', h', kc', ks'))) (hC : C) (k : pj_J G mt d pc' L' st' h' kc' ks' Q) : pj_J G mt d pc L st h kc ks Q :=
  pj_go_ok hT n pc L st h kc ks C _ hg hC d Q k
/-- a fork -/
theorem pj_J.ite {G : pj_G} {mt : pj_M} {d a b : Nat} {c : Prop} [Decidable c] {L : pj_L} {st : List Value} {h : pj_H} {kc ks : Nat} {Q : pj_O → pj_H → Prop} (kt : c → pj_J G mt d a L st h kc ks Q) (kf : ¬ c → pj_J G mt d b L st h kc ks Q) : pj_J G mt d (if c then a else b) L st h kc ks Q := by
  by_cases hc : c
  · rw [if_pos hc]; exact kt hc
  · rw [if_neg hc]; exact kf hc
theorem pj_J.pos {G : pj_G} {mt : pj_M} {d a b : Nat} {c : Prop} [Decidable c] {L : pj_L} {st : List Value} {h : pj_H} {kc ks : Nat} {Q : pj_O → pj_H → Prop} (hc : c) (kt : pj_J G mt d a L st h kc ks Q) : pj_J G mt d (if c then a else b) L st h kc ks Q := by
  rw [if_pos hc]; exact kt
theorem pj_J.neg {G : pj_G} {mt : pj_M} {d a b : Nat} {c : Prop} [Decidable c] {L : pj_L} {st : List Value} {h : pj_H} {kc ks : Nat} {Q : pj_O → pj_H → Prop} (hc : ¬ c) (kf : pj_J G mt d b L st h kc ks Q) : pj_J G mt d (if c then a else b) L st h kc ks Q := by
  rw [if_neg hc]; exact kf
/-- a switch -/
theorem pj_J.swc {G : pj_G} {mt : pj_M} {d t df : Nat} {x v : Int32} {r : List (Int32 × Nat)} {L : pj_L} {st : List Value} {h : pj_H} {kc ks : Nat} {Q : pj_O → pj_H → Prop} (kt : x = v → pj_J G mt d t L st h kc ks Q) (kf : ¬ x = v → pj_J G mt d (pj_sw r df x) L st h kc ks Q) : pj_J G mt d (pj_sw ((v, t) :: r) df x) L st h kc ks Q := by
  rw [pj_sw]
  exact pj_J.ite kt kf
theorem pj_J.swn {G : pj_G} {mt : pj_M} {d df : Nat} {x : Int32} {L : pj_L} {st : List Value} {h : pj_H} {kc ks : Nat} {Q : pj_O → pj_H → Prop} (kf : pj_J G mt d df L st h kc ks Q) : pj_J G mt d (pj_sw [] df x) L st h kc ks Q := kf
/-- the words that do not ride in the lists, moved to a warmer state -/
theorem pj_K.warm {G : pj_G} {s U : State} (hW : s.WarmedH U.vm) (h : pj_K G s) : pj_K G U :=
  ⟨va_K.moved hW.alike h.1, pj_ext_warm hW h.2.1, va_X.moved hW.alike h.2.2.1, h.2.2.2.1, h.2.2.2.2.moved hW.alike⟩
theorem pj_K.same {G : pj_G} {s U : State} (hW : s.vm = U.vm) (h : pj_K G s) : pj_K G U := by
  have hA : s.vm.Alike U.vm := by rw [hW]; exact Vm.Alike.refl _
  exact ⟨va_K.moved hA h.1, pj_ext_same hW h.2.1, va_X.moved hA h.2.2.1, h.2.2.2.1, h.2.2.2.2.moved hA⟩
/-- answers -/
theorem pj_end_of_MQ {G : pj_G} {Q : pj_O → pj_H → Prop} {below : List Frame} {s : State} {args : Array Value} {cells slots mc ms : Nat} {v : Option Value} {h : pj_H} {H : Heap} (hq : Q (.inl v) h) (hR : pj_R G h H) (hK : pj_K G s) (hmc : cells ≤ mc) (hms : slots ≤ ms) :
    ∀ t, MQ below (fun _ _ oc t => oc = .returned (v.map (pj_v G)) ∧ t.heap = H ∧ s.WarmedH t.vm) args s mc ms (fun q => G.2.2.1.size ≤ q) t → pj_End G Q below s mc ms t := by
  rintro t ⟨o, a, b, ⟨c1, c2, c3⟩, L, ⟨d1, d2, d3⟩, e⟩
  exact ⟨o, a, b, Or.inl ⟨v, h, c1, hq, by rw [c2]; exact hR, hK.warm c3⟩, d2, L, d3, e⟩
theorem pj_iret {G : pj_G} {mt : pj_M} {d pc : Nat} {L : pj_L} {x : Int32} {h : pj_H} {kc ks : Nat} {Q : pj_O → pj_H → Prop} (hd : decode mt.2.1 pc = .ok (.ireturn, 1)) (hr : mt.2.2.2 = some .int) (hq : Q (.inl (some (.int x))) h) : pj_J G mt d pc L [.int x] h kc ks Q := by
  intro p l e R s m args below meth c H locs cells slots mc ms ls hC hR hl hv h1 h2 h3 h4
  refine W.widen (k := mc) (n := ms) (by omega) (by omega) (pj_mono (pj_end_of_MQ (args := args) (v := some (.int x)) hq hR hC.2.2.2.2.2.2.2.2.1 (Nat.le_refl _) (Nat.le_refl _)) ?_)
  exact W.iret hC.1 hC.2.1 (hC.2.2.2.1.trans hr) (fun t ht hW => ⟨rfl, ht, hW⟩) hl hd hC.2.2.2.2.1
/-- a boolean answer -/
theorem pj_zret {G : pj_G} {mt : pj_M} {d pc : Nat} {L : pj_L} {x : Int32} {h : pj_H} {kc ks : Nat} {Q : pj_O → pj_H → Prop} (hd : decode mt.2.1 pc = .ok (.ireturn, 1)) (hr : mt.2.2.2 = some .boolean) (hx : x = 0 ∨ x = 1) (hq : Q (.inl (some (.int x))) h) : pj_J G mt d pc L [.int x] h kc ks Q := by
  intro p l e R s m args below meth c H locs cells slots mc ms ls hC hR hl hv h1 h2 h3 h4
  refine W.widen (k := mc) (n := ms) (by omega) (by omega) (pj_mono (pj_end_of_MQ (args := args) (v := some (.int x)) hq hR hC.2.2.2.2.2.2.2.2.1 (Nat.le_refl _) (Nat.le_refl _)) ?_)
  exact W.zret hC.1 hC.2.1 (hC.2.2.2.1.trans hr) (by rcases hx with rfl | rfl <;> rfl) (fun t ht hW => ⟨rfl, ht, hW⟩) hl hd hC.2.2.2.2.1
theorem pj_lret {G : pj_G} {mt : pj_M} {d pc : Nat} {L : pj_L} {x : Int64} {h : pj_H} {kc ks : Nat} {Q : pj_O → pj_H → Prop} (hd : decode mt.2.1 pc = .ok (.lreturn, 1)) (hr : mt.2.2.2 = some .long) (hq : Q (.inl (some (.long x))) h) : pj_J G mt d pc L [.long x] h kc ks Q := by
  intro p l e R s m args below meth c H locs cells slots mc ms ls hC hR hl hv h1 h2 h3 h4
  refine W.widen (k := mc) (n := ms) (by omega) (by omega) (pj_mono (pj_end_of_MQ (args := args) (v := some (.long x)) hq hR hC.2.2.2.2.2.2.2.2.1 (Nat.le_refl _) (Nat.le_refl _)) ?_)
  exact W.lret hC.1 hC.2.1 (hC.2.2.2.1.trans hr) (fun t ht hW => ⟨rfl, ht, hW⟩) hl hd hC.2.2.2.2.1
theorem pj_dret {G : pj_G} {mt : pj_M} {d pc : Nat} {L : pj_L} {x : UInt64} {h : pj_H} {kc ks : Nat} {Q : pj_O → pj_H → Prop} (hd : decode mt.2.1 pc = .ok (.dreturn, 1)) (hr : mt.2.2.2 = some .double) (hq : Q (.inl (some (.double x))) h) : pj_J G mt d pc L [.double x] h kc ks Q := by
  intro p l e R s m args below meth c H locs cells slots mc ms ls hC hR hl hv h1 h2 h3 h4
  refine W.widen (k := mc) (n := ms) (by omega) (by omega) (pj_mono (pj_end_of_MQ (args := args) (v := some (.double x)) hq hR hC.2.2.2.2.2.2.2.2.1 (Nat.le_refl _) (Nat.le_refl _)) ?_)
  exact W.dret hC.1 hC.2.1 (hC.2.2.2.1.trans hr) (fun t ht hW => ⟨rfl, ht, hW⟩) hl hd hC.2.2.2.2.1
theorem pj_vret {G : pj_G} {mt : pj_M} {d pc : Nat} {L : pj_L} {h : pj_H} {kc ks : Nat} {Q : pj_O → pj_H → Prop} (hd : decode mt.2.1 pc = .ok (.return_, 1)) (hr : mt.2.2.2 = none) (hq : Q (.inl none) h) : pj_J G mt d pc L [] h kc ks Q := by
  intro p l e R s m args below meth c H locs cells slots mc ms ls hC hR hl hv h1 h2 h3 h4
  refine W.widen (k := mc) (n := ms) (by omega) (by omega) (pj_mono (pj_end_of_MQ (args := args) (v := none) hq hR hC.2.2.2.2.2.2.2.2.1 (Nat.le_refl _) (Nat.le_refl _)) ?_)
  exact W.vret hC.1 hC.2.1 (hC.2.2.2.1.trans hr) (fun t ht hW => ⟨rfl, ht, hW⟩) hl hd hC.2.2.2.2.1
theorem pj_aret {G : pj_G} {mt : pj_M} {d pc : Nat} {L : pj_L} {x : Nat} {C : String} {h : pj_H} {kc ks : Nat} {Q : pj_O → pj_H → Prop} (hd : decode mt.2.1 pc = .ok (.areturn, 1)) (hr : mt.2.2.2 = some (.object C)) (hq : Q (.inl (some (.ref x))) h) : pj_J G mt d pc L [.ref x] h kc ks Q := by
  intro p l e R s m args below meth c H locs cells slots mc ms ls hC hR hl hv h1 h2 h3 h4
  refine W.widen (k := mc) (n := ms) (by omega) (by omega) (pj_mono (pj_end_of_MQ (args := args) (v := some (.ref x)) hq hR hC.2.2.2.2.2.2.2.2.1 (Nat.le_refl _) (Nat.le_refl _)) ?_)
  exact W.aret hC.1 hC.2.1 (hC.2.2.2.1.trans hr) (Or.inl ⟨C, rfl⟩) (Or.inr ⟨_, rfl⟩) (fun t ht hW => ⟨rfl, ht, hW⟩) hl hd hC.2.2.2.2.1
theorem pj_aretN {G : pj_G} {mt : pj_M} {d pc : Nat} {L : pj_L} {C : String} {h : pj_H} {kc ks : Nat} {Q : pj_O → pj_H → Prop} (hd : decode mt.2.1 pc = .ok (.areturn, 1)) (hr : mt.2.2.2 = some (.object C)) (hq : Q (.inl (some .null)) h) : pj_J G mt d pc L [.null] h kc ks Q := by
  intro p l e R s m args below meth c H locs cells slots mc ms ls hC hR hl hv h1 h2 h3 h4
  refine W.widen (k := mc) (n := ms) (by omega) (by omega) (pj_mono (pj_end_of_MQ (args := args) (v := some .null) hq hR hC.2.2.2.2.2.2.2.2.1 (Nat.le_refl _) (Nat.le_refl _)) ?_)
  exact W.aret hC.1 hC.2.1 (hC.2.2.2.1.trans hr) (Or.inl ⟨C, rfl⟩) (Or.inl rfl) (fun t ht hW => ⟨rfl, ht, hW⟩) hl hd hC.2.2.2.2.1
/-- a method's locals at its entry -/
def pj_args : List Value → pj_L
  | [] => []
  | .long x :: r => some (.long x) :: none :: pj_args r
  | .double x :: r => some (.double x) :: none :: pj_args r
  | v :: r => some v :: pj_args r
def pj_ent (n : Nat) (as : List Value) : pj_L := pj_args as ++ List.replicate (n - (pj_args as).length) none
theorem pj_args_len (G : pj_G) : ∀ as : List Value, (lg_sl (as.map (pj_v G))).length = (pj_args as).length := by
  intro as
  induction as with
  | nil => rfl
  | cons v r ih => cases v <;> simp_all [lg_sl, pj_args, pj_v, Value.category]
theorem pj_args_mem (G : pj_G) : ∀ (as : List Value) (k i : Nat) (v : Value), (pj_args as)[i]? = some (some v) → (k + i, pj_v G v) ∈ lv_args k (as.map (pj_v G)) := by
  intro as
  induction as with
  | nil => intro k i v h; simp [pj_args] at h
  | cons w r ih =>
    intro k i v h
    have one : w.category = 1 → pj_args (w :: r) = some w :: pj_args r → (k + i, pj_v G v) ∈ lv_args k ((w :: r).map (pj_v G)) := by
      intro hc he
      rw [he] at h
      cases i with
      | zero =>
        simp at h
        subst h
        exact List.mem_cons_self
      | succ i =>
        simp at h
        have := ih (k + 1) i v h
        rw [show k + 1 + i = k + (i + 1) by omega] at this
        refine List.mem_cons_of_mem _ ?_
        rw [pj_v_cat, if_neg (by omega)]
        exact this
    have two : w.category = 2 → pj_args (w :: r) = some w :: none :: pj_args r → (k + i, pj_v G v) ∈ lv_args k ((w :: r).map (pj_v G)) := by
      intro hc he
      rw [he] at h
      match i, h with
      | 0, h =>
        simp at h
        subst h
        exact List.mem_cons_self
      | 1, h => simp at h
      | i + 2, h =>
        simp at h
        have := ih (k + 2) i v h
        rw [show k + 2 + i = k + (i + 2) by omega] at this
        refine List.mem_cons_of_mem _ ?_
        rw [pj_v_cat, if_pos hc]
        exact this
    cases w with
    | long x => exact two rfl rfl
    | double x => exact two rfl rfl
    | _ => exact one rfl rfl
theorem pj_ent_lv (G : pj_G) {n : Nat} {as : List Value} (hn : (pj_args as).length ≤ n) : pj_lv G ((lg_sl (as.map (pj_v G)) ++ List.replicate (n - (lg_sl (as.map (pj_v G))).length) Slot.unset).toArray) n (pj_ent n as) := by
  have h := lv_entry (as.map (pj_v G)) (n := n) (by rw [pj_args_len]; exact hn)
  refine ⟨h.1, h.2.1, fun i v hi => ?_⟩
  unfold pj_ent at hi
  by_cases e : i < (pj_args as).length
  · rw [List.getElem?_append_left e] at hi
    have := pj_args_mem G as 0 i v hi
    rw [Nat.zero_add] at this
    exact h.2.2 _ this
  · rw [List.getElem?_append_right (by omega)] at hi
    have := List.getElem?_eq_some_iff.mp hi
    obtain ⟨_, h2⟩ := this
    simp at h2
/-- A CONTRACT: the method, called with these values, comes to its end with Q -/
def pj_Cn (G : pj_G) (my : pj_M) (d : Nat) (as : List Value) (h : pj_H) (kc ks : Nat) (Q : pj_O → pj_H → Prop) : Prop := pj_J G my d 0 (pj_ent my.2.2.1 as) [] h kc ks Q
/-- it answers v and leaves h' -/
def pj_Rt (G : pj_G) (my : pj_M) (d : Nat) (as : List Value) (h : pj_H) (kc ks : Nat) (v : Option Value) (h' : pj_H) : Prop := pj_Cn G my d as h kc ks (fun o x => o = .inl v ∧ x = h')
def pj_rm (d kc ks : Nat) : Room := { frames := d + 8, cells := kc, slots := ks, locals := 10400 + 200 * d }
def pj_Pc (G : pj_G) (as : List Value) (h : pj_H) (l : Launch) : Array Value → State → Prop := va_Pc (as.map (pj_v G)) (fun U => pj_R G h U.heap ∧ pj_K G U ∧ l.flags = flags0)
def pj_Qc (G : pj_G) (Q : pj_O → pj_H → Prop) : Array Value → State → Outcome → State → Prop := fun _ _ oc t => ∃ (v : Option Value) (h : pj_H), oc = .returned (v.map (pj_v G)) ∧ Q (.inl v) h ∧ pj_R G h t.heap ∧ pj_K G t
/-- what a method must be to be called: n arguments (the receiver not counted) -/
def pj_MS (my : pj_M) (n : Nat) : Prop := plainFor my.1 = true ∧ (my.1.cls ≠ "java/lang/invoke/MethodHandle" ∧ my.1.cls ≠ "java/lang/invoke/VarHandle" ∧ (parseMethodDescriptor my.1.desc).map (fun d => d.parameters.length) = some n) ∧ my.2.2.1 ≤ 80 ∧ Cond.code my.1 my.2.1 my.2.2.1 my.2.2.2 ∈ lw_all ∧ Cond.initialized my.1.cls ∈ lw_all
theorem pj_Met {G : pj_G} {my : pj_M} {d : Nat} {as : List Value} {h : pj_H} {kc ks : Nat} {Q : pj_O → pj_H → Prop} (hJ : pj_Cn G my d as h kc ks Q) (hnt : ∀ x y, ¬ Q (.inr x) y) (hy : plainFor my.1 = true) (hn : (pj_args as).length ≤ my.2.2.1) (l : Launch) :
    Met l my.1 (ws_ my.1 my.2.1 my.2.2.1 my.2.2.2) (pj_rm d kc ks) (pj_Pc G as h l) (pj_Qc G Q) kc ks (fun q => G.2.2.1.size ≤ q) := by
  refine va_MetF (cc := my.2.1) (maxL := my.2.2.1) (ret := my.2.2.2) hy rfl ?_
  intro p e s m args below meth c s₁ B hml hv
  obtain ⟨rfl, hR, hK, hfl⟩ := hv
  have hts := atoms_spec (ws := ws_ my.1 my.2.1 my.2.2.1 my.2.2.2) B.pre
  have hts : ∀ w ∈ lw_all, w.before _ s = true := fun w h => hts w (List.mem_cons_of_mem _ h)
  have hown : s.vm.findClass my.1.cls = some m.cls := findClass_of_methodNamed B.named
  rw [lg_entry_eq]
  refine pj_mono ?_ (hJ p l e (headSpec (ws_ my.1 my.2.1 my.2.2.1 my.2.2.2) (pj_rm d kc ks)).room s m _ below meth c s.heap [] 0 0 kc ks _ ⟨B.exec, B.bytes, hml, B.returns, B.notSynchronized, hown, ⟨(name_of_methodNamed B.named B.method).1, B.named⟩, hts, hK, Nat.le_refl _, Nat.le_refl _, hfl⟩ hR (fun q hq => by cases hq) (pj_ent_lv G hn) (by omega) (by omega) (Nat.le_refl _) (Nat.le_refl _))
  rintro t ⟨o, a, b, cc, w, L, q1, q2⟩
  rcases cc with ⟨v, x, e1, e2, e3, e4⟩ | ⟨ci, i, x, fs, e1, e2, e3⟩
  · exact ⟨o, a, b, ⟨v, x, e1, e2, e3, e4⟩, L, ⟨⟨_, e1⟩, w, q1⟩, q2⟩
  · exact absurd e2 (hnt _ _)
theorem pj_blind (G : pj_G) (as : List Value) (h : pj_H) (l : Launch) : FrameBlind (pj_Pc G as h l) := by
  intro a U g mk q
  obtain ⟨q0, q1, q2, q3⟩ := q
  exact ⟨q0, q1, pj_K.same (s := U) (U := U.calling g mk a) rfl q2, q3⟩
/-- A CALL at pc of my with n values (the receiver among them), where 'ok' holds of the cells and the values -/
def pj_CA (mt my : pj_M) (pc n : Nat) (ok : pj_H → List Value → Prop) : Prop :=
  plainFor my.1 = true ∧ ∀ (G : pj_G) (p : Program) (l : Launch) (e : Env) (R : Room) (s : State) (m : MethodId) (args : Array Value) (below : List Frame) (meth : Method) (c : Code) (H : Heap) (locs : List Loc) (cells slots : Nat) (ls : Array Slot) (h : pj_H) (as rest : List Value) (d k1 s1 : Nat) (Q : pj_O → pj_H → Prop),
    pj_C G mt (d + 1) p l R s m args meth c → pj_R G h H → ls.size = mt.2.2.1 → ok h as → as.length = n → (rest.map fun v => v.category).sum ≤ 8 → cells + k1 ≤ R.cells → slots + s1 ≤ R.slots →
    Met l my.1 (ws_ my.1 my.2.1 my.2.2.1 my.2.2.2) (pj_rm d k1 s1) (pj_Pc G as h l) (pj_Qc G Q) k1 s1 (fun q => G.2.2.1.size ≤ q) →
    va_Run p l e R s m args below meth c H locs cells slots k1 s1 (F0 m pc ls ((as.reverse ++ rest).map (pj_v G))) (rest.map (pj_v G)) (pj_Qc G Q (as.map (pj_v G)).toArray) (fun q => G.2.2.1.size ≤ q)
theorem pj_cats (G : pj_G) (r : List Value) : ((r.map (pj_v G)).map fun v => v.category) = r.map fun v => v.category := by
  rw [List.map_map]
  exact List.map_congr_left fun v _ => pj_v_cat G v
theorem pj_pre {G : pj_G} {as : List Value} {h : pj_H} {l : Launch} {s : State} {H : Heap} (hR : pj_R G h H) (hK : pj_K G s) (hf : l.flags = flags0) : PreS s H (pj_Pc G as h l) (as.map (pj_v G)) :=
  ⟨pj_blind G as h l, fun U hU hW => ⟨rfl, by rw [hU]; exact hR, hK.warm hW, hf⟩⟩
/-- a static call -/
theorem pc_S {mt my : pj_M} {pc n index : Nat} (hd : decode mt.2.1 pc = .ok (.invokestatic index, 3)) (hM : pj_MS my n) (hl : Cond.methodLink mt.1.cls index my.1 ∈ lw_all) (hs : Cond.static my.1 ∈ lw_all) : pj_CA mt my pc n (fun _ _ => True) := by
  refine ⟨hM.1, ?_⟩
  intro G p l e R s m args below meth c H locs cells slots ls h as rest d k1 s1 Q hC hR hls _ hn hw hc1 hs1 hMet
  obtain ⟨y1, y2, y3, y4, y5⟩ := hM
  have hts := hC.2.2.2.2.2.2.2.1
  obtain ⟨-, -, -, -, -, -, -, -, -, hfr, hlo, hfl⟩ := id hC
  refine va_runS (As := as.map (pj_v G)) (n := n) (Ts := lw_all) (own := mt.1.cls) (index := index) (cc := mt.2.1) (nL := mt.2.2.1) ⟨hC.1, hC.2.1, hC.2.2.1, hC.2.2.2.2.2.1, hts⟩ hMet (va_cwS n hts (lw_S hl hs y5 y4) rfl rfl rfl y2 ⟨?_, ?_⟩) (pj_pre hR hC.2.2.2.2.2.2.2.2.1 hfl) rfl (by rw [List.length_map]; exact hn) hls ?_ ?_ hd ⟨hc1, hs1⟩
  · show d + 8 + 1 ≤ R.frames; omega
  · show 8 + (my.2.2.1 + 11) + (10400 + 200 * d) ≤ R.locals; omega
  · show (as.reverse ++ rest).map (pj_v G) = _
    rw [List.map_append, List.map_reverse]
  · show 2 * 0 + _ ≤ 8
    rw [pj_cats]; omega
/-- a static call of a nest mate's private method -/
theorem pc_SN {mt my : pj_M} {pc n index : Nat} {host : String} (hd : decode mt.2.1 pc = .ok (.invokestatic index, 3)) (hM : pj_MS my n) (hl : Cond.methodLinkNest mt.1.cls index my.1 host ∈ pj_ext) (hs : Cond.static my.1 ∈ lw_all) : pj_CA mt my pc n (fun _ _ => True) := by
  refine ⟨hM.1, ?_⟩
  intro G p l e R s m args below meth c H locs cells slots ls h as rest d k1 s1 Q hC hR hls _ hn hw hc1 hs1 hMet
  obtain ⟨y1, y2, y3, y4, y5⟩ := hM
  have hts := hC.2.2.2.2.2.2.2.1
  obtain ⟨-, -, -, -, -, -, -, -, -, hfr, hlo, hfl⟩ := id hC
  refine va_runSN (As := as.map (pj_v G)) (n := n) (Ts := lw_all) (own := mt.1.cls) (index := index) (host := host) (cc := mt.2.1) (nL := mt.2.2.1) ⟨hC.1, hC.2.1, hC.2.2.1, hC.2.2.2.2.2.1, hts⟩ hMet ⟨va_cnB n hts (lw_meth y4) rfl rfl rfl (hC.2.2.2.2.2.2.2.2.1.2.1 _ hl) (hts _ y5) y2 ⟨?_, ?_⟩, hts _ hs, trivial⟩ (pj_pre hR hC.2.2.2.2.2.2.2.2.1 hfl) rfl (by rw [List.length_map]; exact hn) hls ?_ ?_ hd ⟨hc1, hs1⟩
  · show d + 8 + 1 ≤ R.frames; omega
  · show 8 + (my.2.2.1 + 11) + (10400 + 200 * d) ≤ R.locals; omega
  · show (as.reverse ++ rest).map (pj_v G) = _
    rw [List.map_append, List.map_reverse]
  · show 2 * 0 + _ ≤ 8
    rw [pj_cats]; omega
/-- the receiver: an object of the class ci -/
def pj_rc (ci : Nat) (h : pj_H) (as : List Value) : Prop := ∃ (b : Nat) (fs As : List Value), as = .ref b :: As ∧ h[b]? = some (.inr (ci, fs))
theorem pj_recv {G : pj_G} {h : pj_H} {H : Heap} {s : State} {ci b : Nat} {fs : List Value} {q : vw_C} (hR : pj_R G h H) (hK : pj_K G s) (hb : h[b]? = some (.inr (ci, fs))) (hci : ci < 90) (hc : pj_cl[ci]? = some q) : ∃ cell : Cell, H[pj_ad G b]? = some cell ∧ cell.vm.isStatics = false ∧ s.vm.findClass q.1 = some cell.cls :=
  va_recv hK.1 (pj_one hR hb (by show ¬ 90 ≤ ci; omega)) hc (q0 := 0) rfl
/-- a call through an object of the method's own class -/
theorem pc_V {mt my : pj_M} {pc n index ci : Nat} {T : u_T} {N : Nat} (hd : decode mt.2.1 pc = .ok (.invokevirtual index, 3)) (hM : pj_MS my n) (hci : ci < 90) (hcl : pj_cl[ci]? = some (my.1.cls, T, N)) (hl : Cond.methodLink mt.1.cls index my.1 ∈ lw_all) (hi : Cond.instanceMethod my.1 ∈ lw_all) (hs : Cond.selects my.1.cls my.1 my.1 ∈ lw_all) : pj_CA mt my pc (n + 1) (pj_rc ci) := by
  refine ⟨hM.1, ?_⟩
  intro G p l e R s m args below meth c H locs cells slots ls h as rest d k1 s1 Q hC hR hls hok hn hw hc1 hs1 hMet
  obtain ⟨y1, y2, y3, y4, y5⟩ := hM
  have hts := hC.2.2.2.2.2.2.2.1
  obtain ⟨-, -, -, -, -, -, -, -, -, hfr, hlo, hfl⟩ := id hC
  obtain ⟨b, fs, As, rfl, hb⟩ := hok
  have hK := hC.2.2.2.2.2.2.2.2.1
  have hp := pj_pre (as := .ref b :: As) hR hK hfl
  refine va_runV (As := As.map (pj_v G)) (b := pj_ad G b) (C := my.1.cls) (n := n) (Ts := lw_all) (own := mt.1.cls) (index := index) (cc := mt.2.1) (nL := mt.2.2.1) ⟨hC.1, hC.2.1, hC.2.2.1, hC.2.2.2.2.2.1, hts⟩ hMet (cwV n hts (lw_V hl hi hs y5 y4) rfl rfl rfl ⟨rfl, y2⟩ ⟨?_, ?_⟩) ⟨hp.1, pj_recv hR hK hb hci hcl, hp.2⟩ rfl (by rw [List.length_map]; simpa using hn) hls ?_ ?_ hd ⟨hc1, hs1⟩
  · show d + 8 + 1 ≤ R.frames; omega
  · show 8 + (my.2.2.1 + 11) + (10400 + 200 * d) ≤ R.locals; omega
  · show ((Value.ref b :: As).reverse ++ rest).map (pj_v G) = _
    simp [pj_v]
  · show 2 * 0 + _ ≤ 8
    rw [pj_cats]; omega
/-- a call through an object of a nest mate's private method -/
theorem pc_VN {mt my : pj_M} {pc n index ci : Nat} {host : String} {T : u_T} {N : Nat} (hd : decode mt.2.1 pc = .ok (.invokevirtual index, 3)) (hM : pj_MS my n) (hci : ci < 90) (hcl : pj_cl[ci]? = some (my.1.cls, T, N)) (hl : Cond.methodLinkNest mt.1.cls index my.1 host ∈ pj_ext) (hi : Cond.instanceMethod my.1 ∈ lw_all) (hs : Cond.selects my.1.cls my.1 my.1 ∈ lw_all) : pj_CA mt my pc (n + 1) (pj_rc ci) := by
  refine ⟨hM.1, ?_⟩
  intro G p l e R s m args below meth c H locs cells slots ls h as rest d k1 s1 Q hC hR hls hok hn hw hc1 hs1 hMet
  obtain ⟨y1, y2, y3, y4, y5⟩ := hM
  have hts := hC.2.2.2.2.2.2.2.1
  obtain ⟨-, -, -, -, -, -, -, -, -, hfr, hlo, hfl⟩ := id hC
  obtain ⟨b, fs, As, rfl, hb⟩ := hok
  have hK := hC.2.2.2.2.2.2.2.2.1
  have hp := pj_pre (as := .ref b :: As) hR hK hfl
  refine va_runVN (As := As.map (pj_v G)) (b := pj_ad G b) (C := my.1.cls) (n := n) (Ts := lw_all) (own := mt.1.cls) (index := index) (host := host) (cc := mt.2.1) (nL := mt.2.2.1) ⟨hC.1, hC.2.1, hC.2.2.1, hC.2.2.2.2.2.1, hts⟩ hMet ⟨va_cnB n hts (lw_meth y4) rfl rfl rfl (hK.2.1 _ hl) (hts _ y5) y2 ⟨?_, ?_⟩, hts _ hi, hts _ hs⟩ ⟨hp.1, pj_recv hR hK hb hci hcl, hp.2⟩ rfl (by rw [List.length_map]; simpa using hn) hls ?_ ?_ hd ⟨hc1, hs1⟩
  · show d + 8 + 1 ≤ R.frames; omega
  · show 8 + (my.2.2.1 + 11) + (10400 + 200 * d) ≤ R.locals; omega
  · show ((Value.ref b :: As).reverse ++ rest).map (pj_v G) = _
    simp [pj_v]
  · show 2 * 0 + _ ≤ 8
    rw [pj_cats]; omega
/-- a call through an object of class C: the method x that is named is declared by 'owner', y is selected -/
theorem pc_A {mt my : pj_M} {pc n index ci : Nat} {C owner : String} {x : MethodName} {T : u_T} {N : Nat} (hd : decode mt.2.1 pc = .ok (.invokevirtual index, 3)) (hM : pj_MS my n) (hci : ci < 90) (hcl : pj_cl[ci]? = some (C, T, N)) (hl : Cond.methodLink mt.1.cls index x ∈ lw_all ∨ Cond.methodLink mt.1.cls index x ∈ pj_extW) (hsm : Cond.sameMethod x.cls owner x.name x.desc ∈ lw_all ∨ Cond.sameMethod x.cls owner x.name x.desc ∈ pj_extW) (hi : Cond.instanceMethod my.1 ∈ lw_all) (hs : Cond.selects C x my.1 ∈ lw_all) (hz : Cond.declares ⟨owner, x.name, x.desc⟩ ∈ pj_ext) (ho : owner ≠ "java/lang/invoke/MethodHandle" ∧ owner ≠ "java/lang/invoke/VarHandle" ∧ (parseMethodDescriptor x.desc).map (fun d => d.parameters.length) = some n) : pj_CA mt my pc (n + 1) (pj_rc ci) := by
  refine ⟨hM.1, ?_⟩
  intro G p l e R s m args below meth c H locs cells slots ls h as rest d k1 s1 Q hC hR hls hok hn hw hc1 hs1 hMet
  obtain ⟨y1, y2, y3, y4, y5⟩ := hM
  have hts := hC.2.2.2.2.2.2.2.1
  obtain ⟨-, -, -, -, -, -, -, -, -, hfr, hlo, hfl⟩ := id hC
  obtain ⟨b, fs, As, rfl, hb⟩ := hok
  have hK := hC.2.2.2.2.2.2.2.2.1
  have hp := pj_pre (as := .ref b :: As) hR hK hfl
  have hts2 : ∀ w ∈ lw_all ++ pj_extW, w.before args s = true := by
    intro w hw
    rcases List.mem_append.mp hw with hw | hw
    · exact hts w hw
    · exact va_Nw.use (pj_extW_on w hw) (hK.2.1 _ (pj_extW_in w hw))
  have hG : ∀ w : Cond, (w ∈ lw_all ∨ w ∈ pj_extW) → w ∈ lw_all ++ pj_extW ∧ ((w.onTables && w.keeps) = true ∨ ∃ ty, w = .arrayClass ty) := by
    intro w hw
    rcases hw with hw | hw
    · exact ⟨List.mem_append_left _ hw, (lw_self w hw).2⟩
    · exact ⟨List.mem_append_right _ hw, pj_extW_good w hw⟩
  have hGood : GoodIn (lw_all ++ pj_extW) (va_wsU mt.1.cls index C owner x my.1 (ws_ my.1 my.2.1 my.2.2.1 my.2.2.2)) := by
    intro w hw
    unfold va_wsU at hw
    rcases List.mem_append.mp hw with hw | hw
    · simp only [List.mem_cons, List.not_mem_nil, or_false] at hw
      rcases hw with e | e | e | e | e
      · rw [e]; exact hG _ hl
      · rw [e]; exact hG _ hsm
      · rw [e]; exact hG _ (Or.inl hs)
      · rw [e]; exact hG _ (Or.inl hi)
      · rw [e]; exact hG _ (Or.inl y5)
    · rcases List.mem_cons.mp hw with e | e
      · rw [e]; exact hG _ (Or.inl y4)
      · exact hG _ (Or.inl e)
  refine va_runU (As := As.map (pj_v G)) (b := pj_ad G b) (C := C) (owner := owner) (x := x) (n := n) (Ts := lw_all ++ pj_extW) (own := mt.1.cls) (index := index) (cc := mt.2.1) (nL := mt.2.2.1) ⟨hC.1, hC.2.1, hC.2.2.1, hC.2.2.2.2.2.1, hts2⟩ hMet (va_cwA n hts2 hGood rfl rfl rfl (hK.2.1 _ hz) ho ⟨?_, ?_⟩) ⟨hp.1, pj_recv hR hK hb hci hcl, hp.2⟩ rfl (by rw [List.length_map]; simpa using hn) hls ?_ ?_ hd ⟨hc1, hs1⟩
  · show d + 8 + 1 ≤ R.frames; omega
  · show 8 + (my.2.2.1 + 11) + (10400 + 200 * d) ≤ R.locals; omega
  · show ((Value.ref b :: As).reverse ++ rest).map (pj_v G) = _
    simp [pj_v]
  · show 2 * 0 + _ ≤ 8
    rw [pj_cats]; omega
/-- a constructor -/
theorem pc_I {mt my : pj_M} {pc n index : Nat} (hd : decode mt.2.1 pc = .ok (.invokespecial index, 3)) (hM : pj_MS my n) (hnm : my.1.name = "<init>") (hret : my.2.2.2 = none) (hl : Cond.methodLink mt.1.cls index my.1 ∈ lw_all) (hi : Cond.instanceMethod my.1 ∈ lw_all) : pj_CA mt my pc (n + 1) (fun _ as => ∃ b As, as = .ref b :: As) := by
  refine ⟨hM.1, ?_⟩
  intro G p l e R s m args below meth c H locs cells slots ls h as rest d k1 s1 Q hC hR hls hok hn hw hc1 hs1 hMet
  obtain ⟨y1, y2, y3, y4, y5⟩ := hM
  have hts := hC.2.2.2.2.2.2.2.1
  obtain ⟨-, -, -, -, -, -, -, -, -, hfr, hlo, hfl⟩ := id hC
  obtain ⟨b, As, rfl⟩ := hok
  have hK := hC.2.2.2.2.2.2.2.2.1
  obtain ⟨yn, yc, yl, yr⟩ := my
  dsimp only at hret
  subst hret
  refine va_runI (As := As.map (pj_v G)) (b := pj_ad G b) (n := n) (Ts := lw_all) (own := mt.1.cls) (index := index) (cc := mt.2.1) (nL := mt.2.2.1) ⟨hC.1, hC.2.1, hC.2.2.1, hC.2.2.2.2.2.1, hts⟩ hMet (cwI n hts (lw_meth y4) rfl rfl rfl (hts _ y5) (hts _ hl) (hts _ hi) hnm y2 ⟨?_, ?_⟩) (pj_pre (as := .ref b :: As) hR hK hfl) rfl (by rw [List.length_map]; simpa using hn) hls ?_ ?_ hd ⟨hc1, hs1⟩
  · show d + 8 + 1 ≤ R.frames; omega
  · show 8 + (yl + 11) + (10400 + 200 * d) ≤ R.locals; dsimp only at y3; omega
  · show ((Value.ref b :: As).reverse ++ rest).map (pj_v G) = _
    simp [pj_v]
  · show 2 * 0 + _ ≤ 8
    rw [pj_cats]; omega
/-- a nest mate's private constructor -/
theorem pc_IN {mt my : pj_M} {pc n index : Nat} {host : String} (hd : decode mt.2.1 pc = .ok (.invokespecial index, 3)) (hM : pj_MS my n) (hnm : my.1.name = "<init>") (hret : my.2.2.2 = none) (hl : Cond.methodLinkNest mt.1.cls index my.1 host ∈ pj_ext) (hi : Cond.instanceMethod my.1 ∈ lw_all) : pj_CA mt my pc (n + 1) (fun _ as => ∃ b As, as = .ref b :: As) := by
  refine ⟨hM.1, ?_⟩
  intro G p l e R s m args below meth c H locs cells slots ls h as rest d k1 s1 Q hC hR hls hok hn hw hc1 hs1 hMet
  obtain ⟨y1, y2, y3, y4, y5⟩ := hM
  have hts := hC.2.2.2.2.2.2.2.1
  obtain ⟨-, -, -, -, -, -, -, -, -, hfr, hlo, hfl⟩ := id hC
  obtain ⟨b, As, rfl⟩ := hok
  have hK := hC.2.2.2.2.2.2.2.2.1
  obtain ⟨yn, yc, yl, yr⟩ := my
  dsimp only at hret
  subst hret
  refine va_runIN (As := As.map (pj_v G)) (b := pj_ad G b) (n := n) (Ts := lw_all) (own := mt.1.cls) (index := index) (host := host) (cc := mt.2.1) (nL := mt.2.2.1) ⟨hC.1, hC.2.1, hC.2.2.1, hC.2.2.2.2.2.1, hts⟩ hMet ⟨va_cnB n hts (lw_meth y4) rfl rfl rfl (hK.2.1 _ hl) (hts _ y5) y2 ⟨?_, ?_⟩, hnm, hts _ hi⟩ (pj_pre (as := .ref b :: As) hR hK hfl) rfl (by rw [List.length_map]; simpa using hn) hls ?_ ?_ hd ⟨hc1, hs1⟩
  · show d + 8 + 1 ≤ R.frames; omega
  · show 8 + (yl + 11) + (10400 + 200 * d) ≤ R.locals; dsimp only at y3; omega
  · show ((Value.ref b :: As).reverse ++ rest).map (pj_v G) = _
    simp [pj_v]
  · show 2 * 0 + _ ≤ 8
    rw [pj_cats]; omega
/-- THE CALL: the callee's contract, then the way on -/
theorem pj_J.call {G : pj_G} {mt my : pj_M} {pc n d : Nat} {ok : pj_H → List Value → Prop} (hCA : pj_CA mt my pc n ok) {L : pj_L} {st as rest : List Value} {h : pj_H} {kc ks k1 s1 k2 s2 : Nat} {Q Q1 : pj_O → pj_H → Prop} (hst : st = as.reverse ++ rest) (hn : as.length = n) (hw : (rest.map fun v => v.category).sum ≤ 8) (hok : ok h as) (hln : (pj_args as).length ≤ my.2.2.1) (hc : pj_Cn G my d as h k1 s1 Q1) (hnt : ∀ x y, ¬ Q1 (.inr x) y) (hk1 : k1 + k2 ≤ kc) (hs1 : s1 + s2 ≤ ks)
    (kk : ∀ (v : Option Value) (h' : pj_H), Q1 (.inl v) h' → pj_J G mt (d + 1) (pc + 3) L (v.toList ++ rest) h' k2 s2 Q) : pj_J G mt (d + 1) pc L st h kc ks Q := by
  intro p l e R s m args below meth c H locs cells slots mc ms ls hC hR hl hv h1 h2 h3 h4
  subst hst
  have hM := pj_Met hc hnt hCA.1 hln l
  have hrun := hCA.2 G p l e R s m args below meth c H locs cells slots ls h as rest d k1 s1 Q1 hC hR hv.1 hok hn hw (by omega) (by omega) hM
  intro T hT X
  obtain ⟨v0, st₀, t, T', L', h0, X', hL, e1, e2, ⟨v, h', q1, q2, q3, q4⟩, st⟩ := hrun T hT X
  cases Outcome.returned.inj q1
  have K := kk v h' q2 p l e R s m args below meth c T'.heap (locs ++ L') (cells + k1) (slots + s1) mc ms ls hC (by rw [e1]; exact q3) (fun q hq => by
    rcases List.mem_append.mp hq with hq | hq
    · exact hl q hq
    · exact hL q hq) hv (by omega) (by omega) h3 h4 T' rfl X'
  obtain ⟨t2, a1, b1⟩ := K
  refine ⟨t2, st t2 ?_, b1⟩
  have es : (v.toList ++ rest).map (pj_v G) = (v.map (pj_v G)).toList ++ rest.map (pj_v G) := by
    rw [List.map_append]
    cases v <;> rfl
  rw [es] at a1
  exact a1
/-- the call of a method whose answer is said -/
theorem pj_J.cal {G : pj_G} {mt my : pj_M} {pc n d : Nat} {ok : pj_H → List Value → Prop} (hCA : pj_CA mt my pc n ok) {L : pj_L} {st : List Value} (as rest : List Value) {h h' : pj_H} {v : Option Value} {Q : pj_O → pj_H → Prop} (hc : pj_Rt G my d as h 0 0 v h') (hst : st = as.reverse ++ rest) (hok : ok h as) (hw : (rest.map fun v => v.category).sum ≤ 8) (hln : (pj_args as).length ≤ my.2.2.1) (hn : as.length = n) {kc ks : Nat}
    (kk : pj_J G mt (d + 1) (pc + 3) L (v.toList ++ rest) h' kc ks Q) : pj_J G mt (d + 1) pc L st h kc ks Q :=
  pj_J.call (k2 := kc) (s2 := ks) hCA hst hn hw hok hln hc (fun x y q => by cases q.1) (by omega) (by omega) (fun v2 h2 q => by obtain ⟨q1, q2⟩ := q; cases q1; subst q2; exact kk)
