/-! further rules. Own work. -/
set_option maxRecDepth 100000
/-- the call, its values taken off the stack -/
theorem pj_J.cal0 {G : pj_G} {mt my : pj_M} {pc n d : Nat} {ok : pj_H → List Value → Prop} (hCA : pj_CA mt my pc n ok) {L : pj_L} {st : List Value} {h h' : pj_H} {v : Option Value} {Q : pj_O → pj_H → Prop} {kc ks : Nat} (hc : pj_Rt G my d (st.take n).reverse h 0 0 v h') (hok : ok h (st.take n).reverse) (hw : Nat.ble (((st.drop n).map fun v => v.category).sum) 8 = true) (hln : Nat.ble (pj_args (st.take n).reverse).length my.2.2.1 = true) (hn : Nat.ble n st.length = true)
    (kk : pj_J G mt (d + 1) (pc + 3) L (v.toList ++ st.drop n) h' kc ks Q) : pj_J G mt (d + 1) pc L st h kc ks Q := by
  have hn' := Nat.le_of_ble_eq_true hn
  exact pj_J.cal hCA (st.take n).reverse (st.drop n) hc (by rw [List.reverse_reverse, List.take_append_drop]) hok (Nat.le_of_ble_eq_true hw) (Nat.le_of_ble_eq_true hln) (by rw [List.length_reverse, List.length_take]; omega) kk
/-- fewer locals known -/
def pj_le : pj_L → pj_L → Prop
  | [], _ => True
  | none :: r, _ :: s => pj_le r s
  | some v :: r, x :: s => x = some v ∧ pj_le r s
  | _, [] => False
theorem pj_le_at : ∀ (A B : pj_L), pj_le A B → ∀ (i : Nat) (v : Value), A[i]? = some (some v) → B[i]? = some (some v) := by
  intro A
  induction A with
  | nil => intro B _ i v h; simp at h
  | cons x r ih =>
    intro B hB i v h
    cases B with
    | nil => cases x <;> exact hB.elim
    | cons y s =>
      have hr : pj_le r s := by
        cases x with
        | none => exact hB
        | some w => exact hB.2
      cases i with
      | zero =>
        simp at h
        subst h
        simp [hB.1]
      | succ i =>
        simp at h ⊢
        exact ih s hr i v h
theorem pj_J.drop {G : pj_G} {mt : pj_M} {d pc : Nat} {L L' : pj_L} {st : List Value} {h : pj_H} {kc ks : Nat} {Q : pj_O → pj_H → Prop} (hL : pj_le L' L) (k : pj_J G mt d pc L' st h kc ks Q) : pj_J G mt d pc L st h kc ks Q :=
  fun p l e R s m args below meth c H locs cells slots mc ms ls hC hR hl hv q1 q2 q3 q4 => k p l e R s m args below meth c H locs cells slots mc ms ls hC hR hl ⟨hv.1, hv.2.1, fun i v hi => hv.2.2 i v (pj_le_at _ _ hL i v hi)⟩ q1 q2 q3 q4
/-- another writing of the state -/
theorem pj_J.eq {G : pj_G} {mt : pj_M} {d pc : Nat} {L L' : pj_L} {st st' : List Value} {h h' : pj_H} {kc ks : Nat} {Q : pj_O → pj_H → Prop} (e1 : L = L') (e2 : st = st') (e3 : h = h') (k : pj_J G mt d pc L' st' h' kc ks Q) : pj_J G mt d pc L st h kc ks Q := by
  subst e1; subst e2; subst e3; exact k
theorem pj_J.heq {G : pj_G} {mt : pj_M} {d pc : Nat} {L : pj_L} {st : List Value} {h h' : pj_H} {kc ks : Nat} {Q : pj_O → pj_H → Prop} (e3 : h = h') (k : pj_J G mt d pc L st h' kc ks Q) : pj_J G mt d pc L st h kc ks Q := by
  subst e3; exact k
theorem pj_lc_le {x y : Int64} : lg_cmp x y ≤ 0 ↔ x ≤ y := by
  unfold lg_cmp
  split
  · rename_i h
    exact ⟨fun q => absurd q (by decide), fun q => absurd (Int64.lt_of_lt_of_le h q) (by simp)⟩
  · rename_i h
    have : x ≤ y := Int64.not_lt.mp h
    split
    · exact ⟨fun _ => this, fun _ => by decide⟩
    · exact ⟨fun _ => this, fun _ => by decide⟩
theorem pj_lc_gt {x y : Int64} : 0 < lg_cmp x y ↔ y < x := by
  rw [← Int32.not_le, pj_lc_le, Int64.not_le]
theorem pj_lc_eq {x y : Int64} : lg_cmp x y = 0 ↔ x = y := by
  unfold lg_cmp
  split
  · rename_i h
    exact ⟨fun q => absurd q (by decide), fun q => by subst q; exact absurd h (by simp)⟩
  · split
    · rename_i h
      exact ⟨fun _ => h, fun _ => rfl⟩
    · rename_i h
      exact ⟨fun q => absurd q (by decide), fun q => absurd q h⟩
theorem pj_lc_lt {x y : Int64} : lg_cmp x y < 0 ↔ x < y := by
  constructor
  · intro h
    have h1 : lg_cmp x y ≤ 0 := Int32.le_of_lt h
    rw [pj_lc_le] at h1
    rcases Int64.lt_or_eq_of_le h1 with h2 | h2
    · exact h2
    · rw [pj_lc_eq.mpr h2] at h; exact absurd h (by decide)
  · intro h
    have h1 := pj_lc_le.mpr (Int64.le_of_lt h)
    rcases Int32.lt_or_eq_of_le h1 with h2 | h2
    · exact h2
    · rw [pj_lc_eq] at h2; subst h2; exact absurd h (by simp)
theorem pj_lc_ge {x y : Int64} : 0 ≤ lg_cmp x y ↔ y ≤ x := by
  rw [← Int32.not_lt, pj_lc_lt, Int64.not_lt]
/-- truth as an int -/
def pj_b (c : Prop) [Decidable c] : Int32 := if c then 1 else 0
theorem pj_b01 (c : Prop) [Decidable c] : pj_b c = 0 ∨ pj_b c = 1 := by unfold pj_b; split <;> simp
theorem pj_b_eq0 {c : Prop} [Decidable c] : pj_b c = 0 ↔ ¬ c := by
  unfold pj_b
  split <;> simp_all
theorem pj_b_t {c : Prop} [Decidable c] (h : c) : pj_b c = 1 := if_pos h
theorem pj_b_f {c : Prop} [Decidable c] (h : ¬ c) : pj_b c = 0 := if_neg h
theorem pj_le0 {a b : Nat} (h : Nat.ble a b = true := by rfl) : Nat.ble a b = true := h
/-- locals at the entry, written out -/
theorem pj_Cn.start {G : pj_G} {my : pj_M} {d : Nat} {as : List Value} {h : pj_H} {kc ks : Nat} {Q : pj_O → pj_H → Prop} (k : pj_nrm (pj_ent my.2.2.1 as) (fun L => pj_J G my d 0 L [] h kc ks Q)) : pj_Cn G my d as h kc ks Q := by
  rw [pj_nrm_eq] at k
  exact k
