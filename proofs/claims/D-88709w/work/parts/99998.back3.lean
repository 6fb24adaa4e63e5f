/-! back: one turn of the loop over the programs (by tools/gen_bkB.py) -/
set_option maxRecDepth 100000
def fc_bkV (q : Int32) (f : Nat → Int64) (e : Int64) (k : Nat) : Int64 := if q ≤ nI k then e else f (nI k).toNatClampNeg
theorem ly_bkB {G : pj_G} {dd : Nat} {c : sx_C} {m : sx_M} {o : Nat → Int64} {D : pj_H} {Q : pj_O → pj_H → Prop} {kc ks : Nat} (k M : Nat) (t q : Int32) {i0 ni di pi : Nat} {r1 w x1 x2 : Value} {n d : Nat → Int64} {cn cd : Int64} (hM : sx_i c.1 7 = nI M) (hM4 : M ≤ 4) (hk : k < M) (hi : D[i0]? = some (.inr (18, [r1, .ref (ni + 98), .ref (di + 98), w, .int q]))) (hn : D[ni]? = some (.inl (1, (4, .inr (.inl n))))) (hd : D[di]? = some (.inl (1, (4, .inr (.inl d))))) (hp : sx_P c (nI k).toNatClampNeg = some (pi + 98)) (hpi : D[pi]? = some (.inr (4, [x1, x2, .long cn, .long cd])))
    (kk : pj_J G mX1_back dd 84 [some (.ref 2), some (.int t), some (.ref (i0 + 98)), some (.int (nI k + 1))] [] (sx_mk c m o ((D.set pi (.inr (4, [x1, x2, .long (fc_bkV q n 0 k), .long cd]))).set pi (.inr (4, [x1, x2, .long (fc_bkV q n 0 k), .long (fc_bkV q d 1 k)])))) kc ks Q) : pj_J G mX1_back dd 84 [some (.ref 2), some (.int t), some (.ref (i0 + 98)), some (.int (nI k))] [] (sx_mk c m o D) kc ks Q := by
  have n1 : pi ≠ i0 := by
    intro e
    subst e
    rw [hpi] at hi
    exact absurd hi (by simp)
  have n2 : pi ≠ di := by
    intro e
    subst e
    rw [hpi] at hd
    exact absurd hd (by simp)
  have i1 : ∀ y, (D.set pi y)[i0]? = some (.inr (18, [r1, .ref (ni + 98), .ref (di + 98), w, .int q])) := fun y => by rw [List.getElem?_set_ne n1]; exact hi
  have d1 : ∀ y, (D.set pi y)[di]? = some (.inl (1, (4, .inr (.inl d)))) := fun y => by rw [List.getElem?_set_ne n2]; exact hd
  refine pj_J.go (oX1_back G) 4 rfl trivial ?_
  refine pj_J.neg (by rw [hM, Int32.le_iff_toInt_le, nI_toInt (by omega), nI_toInt (by omega)]; omega) ?_
  by_cases hq : q ≤ nI k
  · have v1 : fc_bkV q n 0 k = 0 := by unfold fc_bkV; rw [if_pos hq]
    have v2 : fc_bkV q d 1 k = 1 := by unfold fc_bkV; rw [if_pos hq]
    rw [v1, v2] at kk
    refine pj_J.go (oX1_back G) 4 rfl ⟨by exact vp_in_lit (n := 4) (by omega), trivial⟩ ?_
    refine pj_J.seq (show va_rf (sx_P c (nI k).toNatClampNeg) :: _ = .ref (pi + 98) :: _ by rw [hp]; rfl) ?_
    refine pj_J.go (oX1_back G) 2 rfl trivial ?_
    refine pj_J.go1 (pc := 100) (oX1_back G) rfl (po_getD (lo := 18) (hi := 18) (k := 4) (n := 103) (by exact hi) (by decide) (by rfl)) trivial ?_
    refine pj_J.go (oX1_back G) 1 rfl trivial ?_
    refine pj_J.pos hq ?_
    refine pj_J.go (oX1_back G) 1 rfl trivial ?_
    refine pj_J.go1 (pc := 116) (oX1_back G) rfl (po_putD (cnd := none) (lo := 4) (hi := 4) (k := 2) (ty := .long) (n := 119) (by exact hpi) (by decide) (by exact Nat.le_of_ble_eq_true rfl) (by rfl)) trivial ?_
    refine pj_J.go (oX1_back G) 4 rfl ⟨by exact vp_in_lit (n := 4) (by omega), trivial⟩ ?_
    refine pj_J.seq (show va_rf (sx_P c (nI k).toNatClampNeg) :: _ = .ref (pi + 98) :: _ by rw [hp]; rfl) ?_
    refine pj_J.go (oX1_back G) 2 rfl trivial ?_
    refine pj_J.go1 (pc := 127) (oX1_back G) rfl (po_getD (lo := 18) (hi := 18) (k := 4) (n := 130) (by exact i1 _) (by decide) (by rfl)) trivial ?_
    refine pj_J.go (oX1_back G) 1 rfl trivial ?_
    refine pj_J.pos hq ?_
    refine pj_J.go (oX1_back G) 1 rfl trivial ?_
    refine pj_J.go1 (pc := 143) (oX1_back G) rfl (po_putD (cnd := none) (lo := 4) (hi := 4) (k := 3) (ty := .long) (n := 146) (by exact sx_set_at hpi) (by decide) (by exact Nat.le_of_ble_eq_true rfl) (by rfl)) trivial ?_
    refine pj_J.go (oX1_back G) 2 rfl trivial ?_
    exact kk
  · have v1 : fc_bkV q n 0 k = n (nI k).toNatClampNeg := by unfold fc_bkV; rw [if_neg hq]
    have v2 : fc_bkV q d 1 k = d (nI k).toNatClampNeg := by unfold fc_bkV; rw [if_neg hq]
    rw [v1, v2] at kk
    refine pj_J.go (oX1_back G) 4 rfl ⟨by exact vp_in_lit (n := 4) (by omega), trivial⟩ ?_
    refine pj_J.seq (show va_rf (sx_P c (nI k).toNatClampNeg) :: _ = .ref (pi + 98) :: _ by rw [hp]; rfl) ?_
    refine pj_J.go (oX1_back G) 2 rfl trivial ?_
    refine pj_J.go1 (pc := 100) (oX1_back G) rfl (po_getD (lo := 18) (hi := 18) (k := 4) (n := 103) (by exact hi) (by decide) (by rfl)) trivial ?_
    refine pj_J.go (oX1_back G) 1 rfl trivial ?_
    refine pj_J.neg hq ?_
    refine pj_J.go (oX1_back G) 1 rfl trivial ?_
    refine pj_J.go1 (pc := 107) (oX1_back G) rfl (po_getD (lo := 18) (hi := 18) (k := 1) (n := 110) (by exact hi) (by decide) (by rfl)) trivial ?_
    refine pj_J.go (oX1_back G) 1 rfl trivial ?_
    refine pj_J.go1 (pc := 111) (oX1_back G) rfl (po_laldD (n := 112) (by exact hn)) (by exact vp_in_lit (n := 4) (by omega)) ?_
    refine pj_J.go (oX1_back G) 1 rfl trivial ?_
    refine pj_J.go1 (pc := 116) (oX1_back G) rfl (po_putD (cnd := none) (lo := 4) (hi := 4) (k := 2) (ty := .long) (n := 119) (by exact hpi) (by decide) (by exact Nat.le_of_ble_eq_true rfl) (by rfl)) trivial ?_
    refine pj_J.go (oX1_back G) 4 rfl ⟨by exact vp_in_lit (n := 4) (by omega), trivial⟩ ?_
    refine pj_J.seq (show va_rf (sx_P c (nI k).toNatClampNeg) :: _ = .ref (pi + 98) :: _ by rw [hp]; rfl) ?_
    refine pj_J.go (oX1_back G) 2 rfl trivial ?_
    refine pj_J.go1 (pc := 127) (oX1_back G) rfl (po_getD (lo := 18) (hi := 18) (k := 4) (n := 130) (by exact i1 _) (by decide) (by rfl)) trivial ?_
    refine pj_J.go (oX1_back G) 1 rfl trivial ?_
    refine pj_J.neg hq ?_
    refine pj_J.go (oX1_back G) 1 rfl trivial ?_
    refine pj_J.go1 (pc := 134) (oX1_back G) rfl (po_getD (lo := 18) (hi := 18) (k := 2) (n := 137) (by exact i1 _) (by decide) (by rfl)) trivial ?_
    refine pj_J.go (oX1_back G) 1 rfl trivial ?_
    refine pj_J.go1 (pc := 138) (oX1_back G) rfl (po_laldD (n := 139) (by exact d1 _)) (by exact vp_in_lit (n := 4) (by omega)) ?_
    refine pj_J.go (oX1_back G) 1 rfl trivial ?_
    refine pj_J.go1 (pc := 143) (oX1_back G) rfl (po_putD (cnd := none) (lo := 4) (hi := 4) (k := 3) (ty := .long) (n := 146) (by exact sx_set_at hpi) (by decide) (by exact Nat.le_of_ble_eq_true rfl) (by rfl)) trivial ?_
    refine pj_J.go (oX1_back G) 2 rfl trivial ?_
    exact kk
