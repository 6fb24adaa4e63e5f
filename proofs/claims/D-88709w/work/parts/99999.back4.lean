/-! back: the loop over the programs, and the whole. Own work. -/
set_option maxRecDepth 100000
def fc_bkD (c : sx_C) (q : Int32) (n d : Nat → Int64) (k : Nat) (D : pj_H) : pj_H := match sx_P c (nI k).toNatClampNeg with
  | some x => (match D[x - 98]? with
    | some (.inr (4, [x1, x2, .long _, .long cd])) => (D.set (x - 98) (.inr (4, [x1, x2, .long (fc_bkV q n 0 k), .long cd]))).set (x - 98) (.inr (4, [x1, x2, .long (fc_bkV q n 0 k), .long (fc_bkV q d 1 k)]))
    | _ => D)
  | none => D
theorem fc_bkD_eq {c : sx_C} {q : Int32} {n d : Nat → Int64} {k : Nat} {D : pj_H} {pi : Nat} {x1 x2 : Value} {cn cd : Int64} (hp : sx_P c (nI k).toNatClampNeg = some (pi + 98)) (hpi : D[pi]? = some (.inr (4, [x1, x2, .long cn, .long cd]))) : fc_bkD c q n d k D = (D.set pi (.inr (4, [x1, x2, .long (fc_bkV q n 0 k), .long cd]))).set pi (.inr (4, [x1, x2, .long (fc_bkV q n 0 k), .long (fc_bkV q d 1 k)])) := by
  unfold fc_bkD
  rw [hp]
  simp only [Nat.add_sub_cancel, hpi]
/-- the image and its arrays stand; every program has its cell -/
def fc_bkI (c : sx_C) (M i0 ni di : Nat) (r1 w : Value) (q : Int32) (n d : Nat → Int64) (D : pj_H) : Prop := D[i0]? = some (.inr (18, [r1, .ref (ni + 98), .ref (di + 98), w, .int q])) ∧ D[ni]? = some (.inl (1, (4, .inr (.inl n)))) ∧ D[di]? = some (.inl (1, (4, .inr (.inl d)))) ∧
  ∀ k, k < M → ∃ (pi : Nat) (x1 x2 : Value) (cn cd : Int64), sx_P c (nI k).toNatClampNeg = some (pi + 98) ∧ D[pi]? = some (.inr (4, [x1, x2, .long cn, .long cd]))
theorem fc_bkI_set {c : sx_C} {M i0 ni di : Nat} {r1 w : Value} {q : Int32} {n d : Nat → Int64} {D : pj_H} (h : fc_bkI c M i0 ni di r1 w q n d D) {pi : Nat} {x1 x2 : Value} {cn cd : Int64} (hpi : D[pi]? = some (.inr (4, [x1, x2, .long cn, .long cd]))) (y1 y2 : Value) (a b : Int64) : fc_bkI c M i0 ni di r1 w q n d (D.set pi (.inr (4, [y1, y2, .long a, .long b]))) := by
  obtain ⟨h1, h2, h3, h4⟩ := h
  have n1 : pi ≠ i0 := by
    intro e
    subst e
    rw [hpi] at h1
    exact absurd h1 (by simp)
  have n2 : pi ≠ di := by
    intro e
    subst e
    rw [hpi] at h3
    exact absurd h3 (by simp)
  have n3 : pi ≠ ni := by
    intro e
    subst e
    rw [hpi] at h2
    exact absurd h2 (by simp)
  refine ⟨by rw [List.getElem?_set_ne n1]; exact h1, by rw [List.getElem?_set_ne n3]; exact h2, by rw [List.getElem?_set_ne n2]; exact h3, fun k hk => ?_⟩
  obtain ⟨pj, z1, z2, c1, c2, g1, g2⟩ := h4 k hk
  by_cases e : pi = pj
  · subst e
    exact ⟨pi, y1, y2, a, b, g1, sx_set_at hpi⟩
  · exact ⟨pj, z1, z2, c1, c2, g1, by rw [List.getElem?_set_ne e]; exact g2⟩
theorem lp_bkB {G : pj_G} {dd : Nat} {c : sx_C} {m : sx_M} {o : Nat → Int64} {D : pj_H} {Q : pj_O → pj_H → Prop} {kc ks : Nat} (M : Nat) (t q : Int32) {i0 ni di : Nat} {r1 w : Value} {n d : Nat → Int64} (hM : sx_i c.1 7 = nI M) (hM4 : M ≤ 4) (hI : fc_bkI c M i0 ni di r1 w q n d D) (kk : fc_bkI c M i0 ni di r1 w q n d (it_up (fc_bkD c q n d) M 0 D) → pj_J G mX1_back dd 152 [some (.ref 2), some (.int t), some (.ref (i0 + 98)), some (.int (nI M))] [] (sx_mk c m o (it_up (fc_bkD c q n d) M 0 D)) kc ks Q) : pj_J G mX1_back dd 84 [some (.ref 2), some (.int t), some (.ref (i0 + 98)), some (.int (nI 0))] [] (sx_mk c m o D) kc ks Q := by
  refine pj_for (σ := pj_H) (fun (k : Nat) (x : pj_H) => pj_J G mX1_back dd 84 [some (.ref 2), some (.int t), some (.ref (i0 + 98)), some (.int (nI k))] [] (sx_mk c m o x) kc ks Q) (fc_bkD c q n d) (fun _ x => fc_bkI c M i0 ni di r1 w q n d x) M (fun k x hk hi => ?_) M 0 D (by omega) hI (fun hI' => ?_)
  · obtain ⟨pi, x1, x2, cn, cd, g1, g2⟩ := hi.2.2.2 k hk
    have e := fc_bkD_eq (q := q) (n := n) (d := d) g1 g2
    rw [e]
    refine ⟨fc_bkI_set (fc_bkI_set hi g2 _ _ _ _) (sx_set_at g2) _ _ _ _, fun kk => ?_⟩
    refine ly_bkB k M t q hM hM4 hk hi.1 hi.2.1 hi.2.2.1 g1 g2 ?_
    rw [nI_add1]
    exact kk
  · refine pj_J.go (oX1_back G) 4 rfl trivial ?_
    refine pj_J.pos (by rw [hM]; exact Int32.le_refl _) ?_
    exact kk hI'
