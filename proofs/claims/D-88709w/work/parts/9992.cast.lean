/-! CASTS: instanceof, checkcast; the one that fails. Own work. -/
set_option maxRecDepth 100000
/-- cell a is of the class called C -/
def px_is (h : pj_H) (a : Nat) (C : String) : Prop :=
  (∃ (ci : Nat) (fs : List Value) (T : u_T) (N : Nat), ci < 90 ∧ h[a]? = some (.inr (ci, fs)) ∧ pj_cl[ci]? = some (C, T, N)) ∨
  (∃ (kd : Nat) (x : vp_A), h[a]? = some (.inl (kd, x)) ∧ ((kd = 0 ∧ C = "[I") ∨ (kd = 1 ∧ C = "[J") ∨ (kd = 4 ∧ C = "[B") ∨ (kd = 5 ∧ C = "[S")))
theorem px_is.cell {G : pj_G} {h : pj_H} {H : Heap} {s : State} {a : Nat} {C : String} (hR : pj_R G h H) (hK : pj_K G s) (hi : px_is h a C) : ∃ cell : Cell, H[pj_ad G a]? = some cell ∧ cell.vm = .none ∧ s.vm.findClass C = some cell.cls := by
  rcases hi with ⟨ci, fs, T, N, h1, h2, h3⟩ | ⟨kd, x, h1, h2⟩
  · obtain ⟨r', q0, cell, q1, q2, q3, -⟩ := hR.2.2.2.1 a _ h2 (by show ¬ 90 ≤ ci; omega)
    exact ⟨cell, q1, q3, by rw [q2]; exact (hK.1.1 ci _ h3).2.1⟩
  · have hk : kd < 90 := by rcases h2 with h | h | h | h <;> omega
    have hq := hR.2.2.2.1 a _ h1 (by show ¬ 90 ≤ kd; omega)
    have hq' : H[pj_ad G a]? = some (vp_cell (G.2.1 kd) (pj_a G x)) := hq
    have hvm0 : (vp_cell (G.2.1 kd) (pj_a G x)).vm = .none := by
      obtain ⟨n, f | f | f | f | f⟩ := x <;> rfl
    have hcl0 : (vp_cell (G.2.1 kd) (pj_a G x)).cls = G.2.1 kd := by
      obtain ⟨n, f | f | f | f | f⟩ := x <;> rfl
    refine ⟨_, hq', hvm0, ?_⟩
    rw [hcl0]
    rcases h2 with ⟨rfl, rfl⟩ | ⟨rfl, rfl⟩ | ⟨rfl, rfl⟩ | ⟨rfl, rfl⟩
    · exact (hK.1.2 0 _ rfl).2
    · exact (hK.1.2 1 _ rfl).2
    · exact (hK.1.2 4 _ rfl).2
    · exact (hK.1.2 5 _ rfl).2
theorem pj_J.instN {G : pj_G} {mt : pj_M} {d pc index : Nat} {L : pj_L} {st : List Value} {h : pj_H} {kc ks : Nat} {Q : pj_O → pj_H → Prop} (hd : decode mt.2.1 pc = .ok (.instanceof index, 3)) (k : pj_J G mt d (pc + 3) L (.int 0 :: st) h kc ks Q) : pj_J G mt d pc L (.null :: st) h kc ks Q := by
  intro p l e R s m args below meth c H locs cells slots mc ms ls hC hR hl hv h1 h2 h3 h4
  exact lv_instN hC.1 hC.2.1 hd (k p l e R s m args below meth c H locs cells slots mc ms ls hC hR hl hv h1 h2 h3 h4)
theorem pj_J.castN {G : pj_G} {mt : pj_M} {d pc index : Nat} {L : pj_L} {st : List Value} {h : pj_H} {kc ks : Nat} {Q : pj_O → pj_H → Prop} (hd : decode mt.2.1 pc = .ok (.checkcast index, 3)) (k : pj_J G mt d (pc + 3) L (.null :: st) h kc ks Q) : pj_J G mt d pc L (.null :: st) h kc ks Q := by
  intro p l e R s m args below meth c H locs cells slots mc ms ls hC hR hl hv h1 h2 h3 h4
  exact lv_castN hC.1 hC.2.1 hd (k p l e R s m args below meth c H locs cells slots mc ms ls hC hR hl hv h1 h2 h3 h4)
theorem pj_J.instY {G : pj_G} {mt : pj_M} {d pc index a : Nat} {C : String} {L : pj_L} {st : List Value} {h : pj_H} {kc ks : Nat} {Q : pj_O → pj_H → Prop} (hd : decode mt.2.1 pc = .ok (.instanceof index, 3)) (hl : Cond.classLink mt.1.cls index C ∈ lw_all) (hi : px_is h a C) (k : pj_J G mt d (pc + 3) L (.int 1 :: st) h kc ks Q) : pj_J G mt d pc L (.ref a :: st) h kc ks Q := by
  intro p l e R s m args below meth c H locs cells slots mc ms ls hC hR hl' hv h1 h2 h3 h4 T hT X
  obtain ⟨cell, g1, g2, g3⟩ := hi.cell hR hC.2.2.2.2.2.2.2.2.1
  obtain ⟨vm', X', st'⟩ := X.instanceofYes hC.1 hC.2.2.2.2.2.1 (hC.2.2.2.2.2.2.2.1 _ hl) (by rw [hT]; exact g1) (by rw [g2]; rfl) g3 (va_asg _ _) (g := F0 m pc ls ((.ref a :: st).map (pj_v G))) rfl rfl (by rw [hC.2.1]; exact hd)
  obtain ⟨t, a1, b1⟩ := k p l e R s m args below meth c H locs cells slots mc ms ls hC hR hl' hv h1 h2 h3 h4 (T.setVm vm') hT X'
  exact ⟨t, st' t a1, b1⟩
theorem pj_J.castY {G : pj_G} {mt : pj_M} {d pc index a : Nat} {C : String} {L : pj_L} {st : List Value} {h : pj_H} {kc ks : Nat} {Q : pj_O → pj_H → Prop} (hd : decode mt.2.1 pc = .ok (.checkcast index, 3)) (hl : Cond.classLink mt.1.cls index C ∈ lw_all) (hi : px_is h a C) (k : pj_J G mt d (pc + 3) L (.ref a :: st) h kc ks Q) : pj_J G mt d pc L (.ref a :: st) h kc ks Q := by
  intro p l e R s m args below meth c H locs cells slots mc ms ls hC hR hl' hv h1 h2 h3 h4 T hT X
  obtain ⟨cell, g1, g2, g3⟩ := hi.cell hR hC.2.2.2.2.2.2.2.2.1
  obtain ⟨vm', X', st'⟩ := X.checkcastYes hC.1 hC.2.2.2.2.2.1 (hC.2.2.2.2.2.2.2.1 _ hl) (by rw [hT]; exact g1) (by rw [g2]; rfl) g3 (va_asg _ _) (g := F0 m pc ls ((.ref a :: st).map (pj_v G))) rfl rfl (by rw [hC.2.1]; exact hd)
  obtain ⟨t, a1, b1⟩ := k p l e R s m args below meth c H locs cells slots mc ms ls hC hR hl' hv h1 h2 h3 h4 (T.setVm vm') hT X'
  exact ⟨t, st' t a1, b1⟩
theorem pj_J.instNo {G : pj_G} {mt : pj_M} {d pc index a : Nat} {C D : String} {L : pj_L} {st : List Value} {h : pj_H} {kc ks : Nat} {Q : pj_O → pj_H → Prop} (hd : decode mt.2.1 pc = .ok (.instanceof index, 3)) (hl : Cond.classLink mt.1.cls index D ∈ lw_all) (hi : px_is h a C) (hn : (C, D) ∈ pj_eN) (k : pj_J G mt d (pc + 3) L (.int 0 :: st) h kc ks Q) : pj_J G mt d pc L (.ref a :: st) h kc ks Q := by
  intro p l e R s m args below meth c H locs cells slots mc ms ls hC hR hl' hv h1 h2 h3 h4 T hT X
  have hK := hC.2.2.2.2.2.2.2.2.1
  obtain ⟨cell, g1, g2, g3⟩ := hi.cell hR hK
  obtain ⟨x, y, f1, f2, f3⟩ := hK.2.2.2.2.2.2.2.2.2.1 _ hn
  cases g3.symm.trans f1
  obtain ⟨kx, hkx, -⟩ := Vm.findClass_spec g3
  obtain ⟨vm', X', st'⟩ := va_instofNo X hC.1 hC.2.2.2.2.2.1 (hC.2.2.2.2.2.2.2.1 _ hl) (by rw [hT]; exact g1) (by rw [g2]; rfl) hkx f2 f3 (g := F0 m pc ls ((.ref a :: st).map (pj_v G))) rfl rfl (by rw [hC.2.1]; exact hd)
  obtain ⟨t, a1, b1⟩ := k p l e R s m args below meth c H locs cells slots mc ms ls hC hR hl' hv h1 h2 h3 h4 (T.setVm vm') hT X'
  exact ⟨t, st' t a1, b1⟩
/-- what the message says -/
def px_home (b : Bool) : String := (match b with | true => "module " ++ "java.base" | false => "unnamed module") ++ " of loader " ++ "'bootstrap'"
def px_hm (A B : String) (x y z : Bool) : String := if z = true then toString (dotted A) ++ toString " and " ++ toString (dotted B) ++ toString " are in " ++ toString (px_home x) else toString (dotted A) ++ toString " is in " ++ toString (px_home x) ++ toString "; " ++ toString (dotted B) ++ toString " is in " ++ toString (px_home y)
def px_tx (A B : String) (x y z : Bool) : String := toString "class " ++ toString (dotted A) ++ toString " cannot be cast to class " ++ toString (dotted B) ++ toString " (" ++ toString (px_hm A B x y z) ++ toString ")"
def px_tok (t : String) : Bool := decide (t.toList.length ≤ 250) && decide (t.toList.head? = some 'c')
theorem px_tok_ok {t : String} (h : px_tok t = true) : (t == notModelled) = false ∧ (stringBytes (stringToUtf16 t)).size ≤ 1000 := by
  unfold px_tok at h
  simp only [Bool.and_eq_true, decide_eq_true_eq] at h
  refine ⟨?_, ?_⟩
  · rw [beq_eq_false_iff_ne]
    intro hh
    rw [hh] at h
    have h4 : notModelled.toList.head? = some '\u0000' := by decide
    rw [h4] at h
    exact absurd (Option.some.inj h.2) (by decide)
  · have b1 := stringBytes_size_le (stringToUtf16 t)
    have b2 := utf16_size_le t
    omega
def px_eT : List (String × String) := pj_eN.take 20
theorem px_home_len (x : Bool) : (px_home x).toList.length ≤ 45 := by cases x <;> decide
theorem px_hm_len {A B : String} (x y z : Bool) (hA : (dotted A).toList.length ≤ 16) (hB : (dotted B).toList.length ≤ 16) : (px_hm A B x y z).toList.length ≤ 150 := by
  have a1 := px_home_len x
  have a2 := px_home_len y
  have l1 : (toString " and ").toList.length = 5 := by decide
  have l2 : (toString " are in ").toList.length = 8 := by decide
  have l3 : (toString " is in ").toList.length = 7 := by decide
  have l4 : (toString "; ").toList.length = 2 := by decide
  unfold px_hm
  split
  · show (toString (dotted A) ++ toString " and " ++ toString (dotted B) ++ toString " are in " ++ toString (px_home x)).toList.length ≤ 150
    simp only [String.toList_append, List.length_append]
    have t1 : (toString (dotted A)).toList.length = (dotted A).toList.length := rfl
    have t2 : (toString (dotted B)).toList.length = (dotted B).toList.length := rfl
    have t3 : (toString (px_home x)).toList.length = (px_home x).toList.length := rfl
    omega
  · show (toString (dotted A) ++ toString " is in " ++ toString (px_home x) ++ toString "; " ++ toString (dotted B) ++ toString " is in " ++ toString (px_home y)).toList.length ≤ 150
    simp only [String.toList_append, List.length_append]
    have t1 : (toString (dotted A)).toList.length = (dotted A).toList.length := rfl
    have t2 : (toString (dotted B)).toList.length = (dotted B).toList.length := rfl
    have t3 : (toString (px_home x)).toList.length = (px_home x).toList.length := rfl
    have t4 : (toString (px_home y)).toList.length = (px_home y).toList.length := rfl
    omega
theorem px_tx_ok {A B : String} (x y z : Bool) (hA : (dotted A).toList.length ≤ 16) (hB : (dotted B).toList.length ≤ 16) : px_tok (px_tx A B x y z) = true := by
  have e0 : px_tx A B x y z = toString "class " ++ toString (dotted A) ++ toString " cannot be cast to class " ++ toString (dotted B) ++ toString " (" ++ toString (px_hm A B x y z) ++ toString ")" := rfl
  have a1 := px_hm_len x y z hA hB
  have l1 : (toString "class ").toList.length = 6 := by decide
  have l2 : (toString " cannot be cast to class ").toList.length = 25 := by decide
  have l3 : (toString " (").toList.length = 2 := by decide
  have l4 : (toString ")").toList.length = 1 := by decide
  have l5 : (toString "class ").toList = 'c' :: "lass ".toList := by decide
  unfold px_tok
  simp only [Bool.and_eq_true, decide_eq_true_eq]
  refine ⟨?_, ?_⟩
  · rw [e0]
    simp only [String.toList_append, List.length_append]
    have t1 : (toString (dotted A)).toList.length = (dotted A).toList.length := rfl
    have t2 : (toString (dotted B)).toList.length = (dotted B).toList.length := rfl
    have t3 : (toString (px_hm A B x y z)).toList.length = (px_hm A B x y z).toList.length := rfl
    omega
  · rw [e0]
    simp only [String.toList_append]
    rw [l5]
    rfl
theorem px_tall : px_eT.all (fun q => decide (packageOf q.1 ∈ castPackages_1) && decide (packageOf q.2 ∈ castPackages_1) && decide ((dotted q.1).toList.length ≤ 16) && decide ((dotted q.2).toList.length ≤ 16)) = true := by decide +kernel
theorem px_mod {vm : Vm} {k : Class} (hm : (vm.modules.all fun m => m.loader.isSome || m.name == "java.base" || !(castPackages_1.any fun p => m.packages.contains p)) = true) (hl : k.loader = none) (hp : packageOf k.name ∈ castPackages_1) : ∃ b : Bool, vm.home k = px_home b := by
  unfold Vm.home px_home
  rw [hl]
  cases hmo : vm.moduleOf k with
  | none => exact ⟨false, rfl⟩
  | some mi =>
    refine ⟨true, ?_⟩
    have hn : mi.name = "java.base" := by
      unfold Vm.moduleOf at hmo
      split at hmo
      · have := List.find?_some hmo
        simpa using this
      · have h1 := List.find?_some hmo
        have h2 := List.mem_of_find?_eq_some hmo
        have h3 := List.all_eq_true.mp hm mi h2
        simp only [Bool.and_eq_true, beq_iff_eq, Bool.or_eq_true, Bool.not_eq_true'] at h1 h3
        rcases h3 with (h3 | h3) | h3
        · rw [h1.1, hl] at h3; cases h3
        · exact h3
        · have : (castPackages_1.any fun p => mi.packages.contains p) = true := List.any_eq_true.mpr ⟨_, hp, h1.2⟩
          rw [this] at h3; cases h3
    simp [hn, Vm.loaderName]
theorem px_message {vm : Vm} {ks kt : Class} (hm : (vm.modules.all fun m => m.loader.isSome || m.name == "java.base" || !(castPackages_1.any fun p => m.packages.contains p)) = true) (h1 : ks.loader = none) (h2 : ks.hidden = none) (h3 : kt.loader = none) (h4 : kt.hidden = none) (hq : (ks.name, kt.name) ∈ px_eT) : px_tok (checkcast.message vm ks kt) = true := by
  have ha := List.all_eq_true.mp px_tall _ hq
  simp only [Bool.and_eq_true, decide_eq_true_eq] at ha
  obtain ⟨⟨⟨a1, a2⟩, a3⟩, a4⟩ := ha
  obtain ⟨x, hx⟩ := px_mod hm h1 a1
  obtain ⟨y, hy⟩ := px_mod hm h3 a2
  have e : checkcast.message vm ks kt = px_tx ks.name kt.name x y (vm.sameModule ks kt) := by
    unfold checkcast.message px_tx px_hm Vm.homes Class.shown
    rw [h2, h4, hx, hy]
  rw [e]
  exact px_tx_ok x y _ a3 a4
