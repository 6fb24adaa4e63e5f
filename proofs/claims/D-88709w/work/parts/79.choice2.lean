/-! choice, choices, choose: contracts (by tools/gen_v3.py) -/
set_option maxRecDepth 100000
theorem pc_SU {mt my : pj_M} {pc n index ci : Nat} {C : String} {T : u_T} {N : Nat} (hd : decode mt.2.1 pc = .ok (.invokespecial index, 3)) (hM : pj_MS my n) (hci : ci < 90) (hcl : pj_cl[ci]? = some (C, T, N)) (hl : Cond.methodLink mt.1.cls index my.1 ∈ lw_all) (hsm : Cond.sameMethod my.1.cls my.1.cls my.1.name my.1.desc ∈ lw_all) (hsu : Cond.superclass mt.1.cls my.1.cls ∈ lw_all) (hi : Cond.instanceMethod my.1 ∈ lw_all) (ho : my.1.name ≠ "<init>" ∧ (parseMethodDescriptor my.1.desc).map (fun d => d.parameters.length) = some n) : pj_CA mt my pc (n + 1) (pj_rc ci) := by
  refine ⟨hM.1, ?_⟩
  intro G p l e R s m args below meth c H locs cells slots ls h as rest d k1 s1 Q hC hR hls hok hn hw hc1 hs1 hMet
  obtain ⟨y1, y2, y3, y4, y5⟩ := hM
  have hts := hC.2.2.2.2.2.2.2.1
  obtain ⟨-, -, -, -, -, -, -, -, -, hfr, hlo, hfl⟩ := id hC
  obtain ⟨b, fs, As, rfl, hb⟩ := hok
  have hK := hC.2.2.2.2.2.2.2.2.1
  have hp := pj_pre (as := .ref b :: As) hR hK hfl
  have hGood : GoodIn lw_all (va_wsSU mt.1.cls index my.1 (ws_ my.1 my.2.1 my.2.2.1 my.2.2.2)) := by
    intro w hw
    unfold va_wsSU at hw
    rcases List.mem_append.mp hw with hw | hw
    · simp only [List.mem_cons, List.not_mem_nil, or_false] at hw
      rcases hw with e | e | e | e | e
      · rw [e]; exact ⟨hl, (lw_self _ hl).2⟩
      · rw [e]; exact ⟨hsm, (lw_self _ hsm).2⟩
      · rw [e]; exact ⟨hsu, (lw_self _ hsu).2⟩
      · rw [e]; exact ⟨hi, (lw_self _ hi).2⟩
      · rw [e]; exact ⟨y5, (lw_self _ y5).2⟩
    · rcases List.mem_cons.mp hw with e | e
      · rw [e]; exact ⟨y4, (lw_self _ y4).2⟩
      · exact ⟨e, (lw_self _ e).2⟩
  refine va_runSU (As := As.map (pj_v G)) (b := pj_ad G b) (C := C) (n := n) (Ts := lw_all) (own := mt.1.cls) (index := index) (cc := mt.2.1) (nL := mt.2.2.1) ((hK.1.1 ci _ hcl).2) ⟨hC.1, hC.2.1, hC.2.2.1, hC.2.2.2.2.2.1, hts⟩ hMet (va_cwSU n hts hGood rfl rfl rfl ho ⟨?_, ?_⟩) ⟨hp.1, pj_recv hR hK hb hci hcl, hp.2⟩ rfl (by rw [List.length_map]; simpa using hn) hls ?_ ?_ hd ⟨hc1, hs1⟩
  · show d + 8 + 1 ≤ R.frames; omega
  · show 8 + (my.2.2.1 + 11) + (10400 + 200 * d) ≤ R.locals; omega
  · show ((Value.ref b :: As).reverse ++ rest).map (pj_v G) = _
    simp [pj_v]
  · show 2 * 0 + _ ≤ 8
    rw [pj_cats]; omega
theorem kX13_choices_1 : pj_CA mX13_choices mX6_choices 1 1 (pj_rc 11) := pc_SU (C := RX13) dX13_choices_1 msX6_choices (by decide) rfl q994 q980 q568 q979 ⟨by decide, by decide +kernel⟩
theorem c_X6_choice {G : pj_G} {d : Nat} {c : sx_C} {m : sx_M} {o : Nat → Int64} {D : pj_H} {i : Nat} : pj_Rt G mX6_choice d [.ref (i + 98)] (sx_mk c m o D) 0 0 (some (.int (-1))) (sx_mk c m o D) := by
  refine pj_Cn.start ?_
  refine pj_J.go (oX6_choice G) 1 rfl trivial ?_
  exact pj_iret dX6_choice_1 rfl ⟨rfl, rfl⟩
theorem c_X6_choices {G : pj_G} {d : Nat} {c : sx_C} {m : sx_M} {o : Nat → Int64} {D : pj_H} {i : Nat} : pj_Rt G mX6_choices d [.ref (i + 98)] (sx_mk c m o D) 0 0 (some (.int 6)) (sx_mk c m o D) := by
  refine pj_Cn.start ?_
  refine pj_J.go (oX6_choices G) 1 rfl trivial ?_
  exact pj_iret dX6_choices_2 rfl ⟨rfl, rfl⟩
theorem c_X6_choose {G : pj_G} {d : Nat} {c : sx_C} {m : sx_M} {o : Nat → Int64} {D : pj_H} {i : Nat} (z : Int32) : pj_Rt G mX6_choose d [.ref (i + 98), .int z] (sx_mk c m o D) 0 0 none (sx_mk c m o D) := by
  refine pj_Cn.start ?_
  exact pj_vret dX6_choose_0 rfl ⟨rfl, rfl⟩
theorem c_X13_choices {G : pj_G} {d : Nat} {c : sx_C} {m : sx_M} {o : Nat → Int64} {D : pj_H} {i : Nat} {kd s t v : Int32} (ha : D[i]? = some (.inr (11, [.int kd, .int s, .int t, .int v]))) : pj_Rt G mX13_choices (d + 1) [.ref (i + 98)] (sx_mk c m o D) 0 0 (some (.int 4)) (sx_mk c m o D) := by
  refine pj_Cn.start ?_
  refine pj_J.go (oX13_choices G) 1 rfl trivial ?_
  refine pj_J.cal0 kX13_choices_1 (c_X6_choices) ⟨_, _, _, rfl, ha⟩ pj_le0 pj_le0 pj_le0 ?_
  refine pj_J.go (oX13_choices G) 2 rfl trivial ?_
  exact pj_iret dX13_choices_6 rfl ⟨by decide, rfl⟩
theorem c_X8_choice {G : pj_G} {d : Nat} {c : sx_C} {m : sx_M} {o : Nat → Int64} {D : pj_H} {i ci : Nat} {kd s t v : Int32} (hci : 5 ≤ ci ∧ ci ≤ 17) (ha : D[i]? = some (.inr (ci, [.int kd, .int s, .int t, .int v]))) : pj_Rt G mX8_choice d [.ref (i + 98)] (sx_mk c m o D) 0 0 (some (.int v)) (sx_mk c m o D) := by
  refine pj_Cn.start ?_
  refine pj_J.go (oX8_choice G) 1 rfl trivial ?_
  refine pj_J.go1 (pc := 1) (oX8_choice G) rfl (po_getD (lo := 5) (hi := 17) (k := 3) (n := 4) (by exact ha) hci (by rfl)) trivial ?_
  exact pj_iret dX8_choice_4 rfl ⟨rfl, rfl⟩
theorem c_X8_choose {G : pj_G} {d : Nat} {c : sx_C} {m : sx_M} {o : Nat → Int64} {D : pj_H} {i ci : Nat} {kd s t v : Int32} (hci : 5 ≤ ci ∧ ci ≤ 17) (ha : D[i]? = some (.inr (ci, [.int kd, .int s, .int t, .int v]))) (z : Int32) : pj_Rt G mX8_choose d [.ref (i + 98), .int z] (sx_mk c m o D) 0 0 none (sx_mk c m o (D.set i (.inr (ci, [.int kd, .int s, .int t, .int z])))) := by
  refine pj_Cn.start ?_
  refine pj_J.go (oX8_choose G) 2 rfl trivial ?_
  refine pj_J.go1 (pc := 2) (oX8_choose G) rfl (po_putD (cnd := none) (lo := 5) (hi := 17) (k := 3) (ty := .int) (n := 5) (by exact ha) hci (by exact Nat.le_of_ble_eq_true rfl) (by rfl)) trivial ?_
  exact pj_vret dX8_choose_5 rfl ⟨rfl, rfl⟩
theorem c_X11_choice {G : pj_G} {d : Nat} {c : sx_C} {m : sx_M} {o : Nat → Int64} {D : pj_H} {i ci : Nat} {kd s t v : Int32} (hci : 5 ≤ ci ∧ ci ≤ 17) (ha : D[i]? = some (.inr (ci, [.int kd, .int s, .int t, .int v]))) : pj_Rt G mX11_choice d [.ref (i + 98)] (sx_mk c m o D) 0 0 (some (.int t)) (sx_mk c m o D) := by
  refine pj_Cn.start ?_
  refine pj_J.go (oX11_choice G) 1 rfl trivial ?_
  refine pj_J.go1 (pc := 1) (oX11_choice G) rfl (po_getD (lo := 5) (hi := 17) (k := 2) (n := 4) (by exact ha) hci (by rfl)) trivial ?_
  exact pj_iret dX11_choice_4 rfl ⟨rfl, rfl⟩
theorem c_X11_choose {G : pj_G} {d : Nat} {c : sx_C} {m : sx_M} {o : Nat → Int64} {D : pj_H} {i ci : Nat} {kd s t v : Int32} (hci : 5 ≤ ci ∧ ci ≤ 17) (ha : D[i]? = some (.inr (ci, [.int kd, .int s, .int t, .int v]))) (z : Int32) : pj_Rt G mX11_choose d [.ref (i + 98), .int z] (sx_mk c m o D) 0 0 none (sx_mk c m o (D.set i (.inr (ci, [.int kd, .int s, .int z, .int v])))) := by
  refine pj_Cn.start ?_
  refine pj_J.go (oX11_choose G) 2 rfl trivial ?_
  refine pj_J.go1 (pc := 2) (oX11_choose G) rfl (po_putD (cnd := none) (lo := 5) (hi := 17) (k := 2) (ty := .int) (n := 5) (by exact ha) hci (by exact Nat.le_of_ble_eq_true rfl) (by rfl)) trivial ?_
  exact pj_vret dX11_choose_5 rfl ⟨rfl, rfl⟩
theorem c_X13_choice {G : pj_G} {d : Nat} {c : sx_C} {m : sx_M} {o : Nat → Int64} {D : pj_H} {i ci : Nat} {kd s t v : Int32} (hci : 5 ≤ ci ∧ ci ≤ 17) (ha : D[i]? = some (.inr (ci, [.int kd, .int s, .int t, .int v]))) : pj_Rt G mX13_choice d [.ref (i + 98)] (sx_mk c m o D) 0 0 (some (.int t)) (sx_mk c m o D) := by
  refine pj_Cn.start ?_
  refine pj_J.go (oX13_choice G) 1 rfl trivial ?_
  refine pj_J.go1 (pc := 1) (oX13_choice G) rfl (po_getD (lo := 5) (hi := 17) (k := 2) (n := 4) (by exact ha) hci (by rfl)) trivial ?_
  exact pj_iret dX13_choice_4 rfl ⟨rfl, rfl⟩
theorem c_X13_choose {G : pj_G} {d : Nat} {c : sx_C} {m : sx_M} {o : Nat → Int64} {D : pj_H} {i ci : Nat} {kd s t v : Int32} (hci : 5 ≤ ci ∧ ci ≤ 17) (ha : D[i]? = some (.inr (ci, [.int kd, .int s, .int t, .int v]))) (z : Int32) : pj_Rt G mX13_choose d [.ref (i + 98), .int z] (sx_mk c m o D) 0 0 none (sx_mk c m o (D.set i (.inr (ci, [.int kd, .int s, .int z, .int v])))) := by
  refine pj_Cn.start ?_
  refine pj_J.go (oX13_choose G) 2 rfl trivial ?_
  refine pj_J.go1 (pc := 2) (oX13_choose G) rfl (po_putD (cnd := none) (lo := 5) (hi := 17) (k := 2) (ty := .int) (n := 5) (by exact ha) hci (by exact Nat.le_of_ble_eq_true rfl) (by rfl)) trivial ?_
  exact pj_vret dX13_choose_5 rfl ⟨rfl, rfl⟩
theorem c_X18_choice {G : pj_G} {d : Nat} {c : sx_C} {m : sx_M} {o : Nat → Int64} {D : pj_H} {i ci : Nat} {kd s t v : Int32} (hci : 5 ≤ ci ∧ ci ≤ 17) (ha : D[i]? = some (.inr (ci, [.int kd, .int s, .int t, .int v]))) : pj_Rt G mX18_choice d [.ref (i + 98)] (sx_mk c m o D) 0 0 (some (.int v)) (sx_mk c m o D) := by
  refine pj_Cn.start ?_
  refine pj_J.go (oX18_choice G) 1 rfl trivial ?_
  refine pj_J.go1 (pc := 1) (oX18_choice G) rfl (po_getD (lo := 5) (hi := 17) (k := 3) (n := 4) (by exact ha) hci (by rfl)) trivial ?_
  exact pj_iret dX18_choice_4 rfl ⟨rfl, rfl⟩
theorem c_X18_choose {G : pj_G} {d : Nat} {c : sx_C} {m : sx_M} {o : Nat → Int64} {D : pj_H} {i ci : Nat} {kd s t v : Int32} (hci : 5 ≤ ci ∧ ci ≤ 17) (ha : D[i]? = some (.inr (ci, [.int kd, .int s, .int t, .int v]))) (z : Int32) : pj_Rt G mX18_choose d [.ref (i + 98), .int z] (sx_mk c m o D) 0 0 none (sx_mk c m o (D.set i (.inr (ci, [.int kd, .int s, .int t, .int z])))) := by
  refine pj_Cn.start ?_
  refine pj_J.go (oX18_choose G) 2 rfl trivial ?_
  refine pj_J.go1 (pc := 2) (oX18_choose G) rfl (po_putD (cnd := none) (lo := 5) (hi := 17) (k := 3) (ty := .int) (n := 5) (by exact ha) hci (by exact Nat.le_of_ble_eq_true rfl) (by rfl)) trivial ?_
  exact pj_vret dX18_choose_5 rfl ⟨rfl, rfl⟩
