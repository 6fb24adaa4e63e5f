/-! making programs and acts. Own work. -/
set_option maxRecDepth 100000
theorem pj_J.goS {G : pj_G} {mt : pj_M} {d pc pc' : Nat} {op : pj_Op} (hs : pj_Snd G mt pc op) {L L' : pj_L} {st st' : List Value} {h h' : pj_H} {kc ks kc' ks' : Nat} {c : Option Prop} (he : op L st h kc ks = some (c, (pc', L', st', h', kc', ks'))) (hc : pj_ok c) {Q : pj_O → pj_H → Prop} (k : pj_J G mt d pc' L' st' h' kc' ks' Q) : pj_J G mt d pc L st h kc ks Q :=
  hs L st h kc ks c _ he hc d Q k
theorem po_aastD {n a v kd N ci : Nat} {i : Int32} {L : pj_L} {r fs : List Value} {f : Nat → Option Nat} {h : pj_H} {kc ks : Nat} (ha : h[a]? = some (.inl (kd, (N, .inr (.inr (.inr (.inr f))))))) (hv : h[v]? = some (.inr (ci, fs))) : po_aast n L (.ref v :: .int i :: .ref a :: r) h kc ks = some (some (vp_in i N ∧ pj_sto kd ci), (n, L, r, h.set a (.inl (kd, (N, .inr (.inr (.inr (.inr (va_up f i.toNatClampNeg (some v)))))))), kc, ks)) := by
  unfold po_aast
  simp only [ha, hv]
theorem sx_app_at {D : pj_H} {i : Nat} {y : pj_E} (x : pj_E) (h : D[i]? = some y) : (D ++ [x])[i]? = some y := by
  rw [List.getElem?_append_left (List.getElem?_eq_some_iff.mp h).1]
  exact h
theorem sx_app_new (D : pj_H) (x : pj_E) : (D ++ [x])[D.length]? = some x := by simp
/-- an empty row of acts -/
def fp_row0 : pj_E := .inl (7, (20, .inr (.inr (.inr (.inr (fun _ => none))))))
/-- a new Program at i, behind its constructor -/
def fp_new (D : pj_H) (i : Nat) : pj_H := ((D ++ [fp_row0]).set i (.inr (4, [.ref (D.length + 98), .int 0, .long 0, .long 0]))).set i (.inr (4, [.ref (D.length + 98), .int 0, .long 0, .long 1]))
theorem c_X5_init {G : pj_G} {d : Nat} {c : sx_C} {m : sx_M} {o : Nat → Int64} {D : pj_H} {i : Nat} (hi : D[i]? = some (.inr (4, [.null, .int 0, .long 0, .long 0]))) : pj_Rt G mX5_init d [.ref (i + 98)] (sx_mk c m o D) 1 20 none (sx_mk c m o (fp_new D i)) := by
  refine pj_Cn.start ?_
  refine pj_J.go (oX5_init G) 5 rfl ⟨by decide, trivial⟩ ?_
  refine pj_J.eq rfl (st' := [.ref (D.length + 98), .ref (i + 98)]) rfl (h' := sx_mk c m o (D ++ [fp_row0])) rfl ?_
  refine pj_J.go1 (pc := 10) (oX5_init G) rfl (po_putD (cnd := none) (lo := 4) (hi := 4) (k := 0) (ty := .array (.object "PennyJudge$Act")) (n := 13) (by exact sx_app_at fp_row0 hi) (by decide) (by exact Nat.le_of_ble_eq_true rfl) (by rfl)) trivial ?_
  refine pj_J.go (oX5_init G) 2 rfl trivial ?_
  refine pj_J.go1 (pc := 15) (oX5_init G) rfl (po_putD (cnd := none) (lo := 4) (hi := 4) (k := 3) (ty := .long) (n := 18) (by exact sx_set_at (sx_app_at fp_row0 hi)) (by decide) (by exact Nat.le_of_ble_eq_true rfl) (by rfl)) trivial ?_
  exact pj_vret dX5_init_18 rfl ⟨rfl, rfl⟩
theorem c_X1_program0 {G : pj_G} {d : Nat} {c : sx_C} {m : sx_M} {o : Nat → Int64} {D : pj_H} (h : sx_i c.1 7 = 4) {kc ks : Nat} : pj_Rt G mX1_program d [.ref 2] (sx_mk c m o D) kc ks (some (.int (-2))) (sx_mk c m o D) := by
  refine pj_Cn.start ?_
  refine pj_J.go (oX1_program G) 4 rfl trivial ?_
  refine pj_J.pos h ?_
  refine pj_J.go (oX1_program G) 1 rfl trivial ?_
  exact pj_iret dX1_program_10 rfl ⟨rfl, rfl⟩
/-- behind program(): the judge, the moving cells -/
def fp_prC (c : sx_C) (D : pj_H) : sx_C := sx_sM (sx_sP c (va_up (sx_P c) (sx_i c.1 7).toNatClampNeg (some (D.length + 98)))) (sx_si c.1 7 (sx_i c.1 7 + 1))
def fp_prD (D : pj_H) : pj_H := fp_new (D ++ [.inr (4, [.null, .int 0, .long 0, .long 0])]) D.length
theorem fp_prD_at (D : pj_H) : ∃ fs, (fp_prD D)[D.length]? = some (.inr (4, fs)) := by
  refine ⟨[.ref ((D ++ [(Sum.inr (4, [.null, .int 0, .long 0, .long 0]) : pj_E)]).length + 98), .int 0, .long 0, .long 1], ?_⟩
  unfold fp_prD fp_new
  exact sx_set_at (sx_set_at (sx_app_at fp_row0 (sx_app_new D _)))
theorem c_X1_program1 {G : pj_G} {d : Nat} {c : sx_C} {m : sx_M} {o : Nat → Int64} {D : pj_H} (h : ¬ sx_i c.1 7 = 4) (hp : vp_in (sx_i c.1 7) 5) : pj_Rt G mX1_program (d + 1) [.ref 2] (sx_mk c m o D) 2 24 (some (.int (sx_i c.1 7 + 1 - 1))) (sx_mk (fp_prC c D) m o (fp_prD D)) := by
  refine pj_Cn.start ?_
  refine pj_J.go (oX1_program G) 4 rfl trivial ?_
  refine pj_J.neg h ?_
  refine pj_J.go (oX1_program G) 6 rfl trivial ?_
  refine pj_J.eq rfl (st' := [.ref (D.length + 98), .ref (D.length + 98), .int (sx_i c.1 7), .ref 8]) rfl (h' := sx_mk c m o (D ++ [.inr (4, [.null, .int 0, .long 0, .long 0])])) rfl ?_
  refine pj_J.call (k2 := 0) (s2 := 0) kX1_program_23 (as := [.ref (D.length + 98)]) (rest := [.ref (D.length + 98), .int (sx_i c.1 7), .ref 8]) rfl rfl (Nat.le_of_ble_eq_true rfl) ⟨_, _, rfl⟩ (Nat.le_of_ble_eq_true rfl) (c_X5_init (sx_app_new D _)) (fun x y q => by cases q.1) (Nat.le_refl _) (Nat.le_refl _) (fun v h' q => ?_)
  obtain ⟨q1, q2⟩ := q
  cases q1
  subst q2
  obtain ⟨fs, hfs⟩ := fp_prD_at D
  refine pj_J.goS (pc := 26) (ps_aast dX1_program_26) (po_aastD (a := 8) (v := D.length + 98) (by rfl) (by exact hfs)) ⟨vp_up (n := 4) hp h, Or.inl ⟨rfl, rfl⟩⟩ ?_
  refine pj_J.heq (h' := sx_mk (sx_sP c (va_up (sx_P c) (sx_i c.1 7).toNatClampNeg (some (D.length + 98)))) m o (fp_prD D)) rfl ?_
  refine pj_J.go (oX1_program G) 10 rfl trivial ?_
  exact pj_iret dX1_program_43 rfl ⟨rfl, rfl⟩
