/-! drift: the model's walk. Own work. -/
set_option maxRecDepth 100000
/-- by how much a product's rounding is off, times q -/
def cv (q : Nat) (md : Int32) (d : Nat) : Int := (q : Int) * Ub q md (d % q) ((d / q) % 2) - (d % q : Nat)
def aW (q pp : Nat) (md : Int32) (l : List Nat) : Int := (q : Int) * aV q pp md l - aR q pp l
def aY (pp : Nat) : List Nat → Nat
  | [] => 0
  | a :: l => aY pp l + a * pp
def aF (q pp : Nat) : List Nat → Nat
  | [] => 0
  | a :: l => aF q pp l + a * pp / q
theorem aY_eq (q pp : Nat) : ∀ l, aY pp l = q * aF q pp l + aR q pp l
  | [] => by simp [aY, aF, aR]
  | a :: l => by
    have := aY_eq q pp l
    have h := Nat.div_add_mod (a * pp) q
    show aY pp l + a * pp = q * (aF q pp l + a * pp / q) + (aR q pp l + (a * pp) % q)
    rw [Nat.mul_add]
    omega
theorem aO_eq (q pp : Nat) : ∀ l, aO q pp l = aF q pp l % 2
  | [] => rfl
  | a :: l => by
    have := aO_eq q pp l
    show (aO q pp l + (a * pp / q) % 2) % 2 = (aF q pp l + a * pp / q) % 2
    omega
theorem m2_mod (q y : Nat) : y % (2 * q) % q = y % q := Nat.mod_mul_left_mod y 2 q
theorem m2_div (q y : Nat) : y % (2 * q) / q = (y / q) % 2 := by
  rw [Nat.mul_comm]
  exact Nat.mod_mul_right_div_self y q 2
theorem cv_mod (q : Nat) (md : Int32) (y : Nat) : cv q md (y % (2 * q)) = cv q md y := by
  unfold cv
  rw [m2_mod, m2_div, Nat.mod_mod]
theorem cv_b {q : Nat} {md : Int32} (hq : 1 ≤ q) (d : Nat) : (cv q md d).natAbs ≤ q := by
  have h1 := Nat.mod_lt d hq
  unfold cv
  rcases (by have := Ub_le q md (d % q) ((d / q) % 2); omega : Ub q md (d % q) ((d / q) % 2) = 0 ∨ Ub q md (d % q) ((d / q) % 2) = 1) with h | h
  · rw [h]; simp; omega
  · rw [h]; simp; omega
theorem aW_cons (q pp : Nat) (md : Int32) (a : Nat) (l : List Nat) : aW q pp md (a :: l) = aW q pp md l + cv q md (a * pp) := by
  unfold aW cv
  show (q : Int) * ((aV q pp md l + yU q pp md a : Nat) : Int) - ((aR q pp l + yR q pp a : Nat) : Int) = _
  rw [Int.natCast_add, Int.natCast_add, Int.mul_add]
  show _ = (q : Int) * aV q pp md l - aR q pp l + ((q : Int) * (yU q pp md a : Nat) - (yR q pp a : Nat))
  omega
theorem aW_b {q pp : Nat} {md : Int32} (hq : 1 ≤ q) : ∀ l, (aW q pp md l).natAbs ≤ l.length * q
  | [] => by simp [aW, aV, aR]
  | a :: l => by
    have := aW_b (pp := pp) (md := md) hq l
    have h := cv_b (md := md) hq (a * pp)
    rw [aW_cons]
    show _ ≤ (l.length + 1) * q
    rw [Nat.add_mul, Nat.one_mul]
    omega
/-- the end: q times the drift -/
theorem aW_dl {q pp : Nat} (hq : 1 ≤ q) (md : Int32) (l : List Nat) : aW q pp md l - cv q md (aY pp l) = q * dl q pp md l := by
  have hy := aY_eq q pp l
  have ho := aO_eq q pp l
  have hl := aO_lt q pp l
  have e1 : aY pp l % q = aR q pp l % q := by rw [hy, Nat.mul_add_mod]
  have e2 : aY pp l / q = aF q pp l + aR q pp l / q := by rw [hy, Nat.mul_add_div hq]
  have s1 : aS q pp l / 2 = aR q pp l := by unfold aS; omega
  have s2 : aS q pp l % 2 = aO q pp l := by unfold aS; omega
  unfold aW cv dl offS
  rw [e1, e2, s1, s2, show (aF q pp l + aR q pp l / q) % 2 = (aO q pp l + aR q pp l / q) % 2 by omega]
  generalize Ub q md (aR q pp l % q) ((aO q pp l + aR q pp l / q) % 2) = U
  have h := Nat.div_add_mod (aR q pp l) q
  generalize aR q pp l % q = x at *
  generalize aR q pp l / q = y at *
  rw [← h, Int.mul_sub, Int.natCast_add, Int.natCast_mul, Int.natCast_add, Int.mul_add]
  omega
/-- amounts count by what they leave of 2 q -/
theorem y_mod (q pp a : Nat) : yR q pp (a % (2 * q)) = yR q pp a ∧ yO q pp (a % (2 * q)) = yO q pp a := by
  have e : (a % (2 * q) * pp) % (2 * q) = (a * pp) % (2 * q) := by rw [Nat.mul_mod, Nat.mod_mod, ← Nat.mul_mod]
  unfold yR yO
  rw [← m2_mod q (a % (2 * q) * pp), ← m2_div q (a % (2 * q) * pp), e, m2_mod, m2_div]
  exact ⟨rfl, rfl⟩
theorem dl_map (q pp : Nat) (md : Int32) (l : List Nat) : dl q pp md (l.map (· % (2 * q))) = dl q pp md l := by
  have : aR q pp (l.map (· % (2 * q))) = aR q pp l ∧ aO q pp (l.map (· % (2 * q))) = aO q pp l ∧ aV q pp md (l.map (· % (2 * q))) = aV q pp md l := by
    induction l with
    | nil => exact ⟨rfl, rfl, rfl⟩
    | cons a l ih =>
      obtain ⟨h1, h2, h3⟩ := ih
      obtain ⟨y1, y2⟩ := y_mod q pp a
      refine ⟨?_, ?_, ?_⟩
      · show aR q pp (l.map (· % (2 * q))) + yR q pp (a % (2 * q)) = aR q pp l + yR q pp a
        rw [h1, y1]
      · show (aO q pp (l.map (· % (2 * q))) + yO q pp (a % (2 * q))) % 2 = (aO q pp l + yO q pp a) % 2
        rw [h2, y2]
      · show aV q pp md (l.map (· % (2 * q))) + Ub q md (yR q pp (a % (2 * q))) (yO q pp (a % (2 * q))) = aV q pp md l + yU q pp md a
        rw [h3, y1, y2]
  unfold dl aS
  rw [this.1, this.2.1, this.2.2]
abbrev FARn : Int := -1099511627776
theorem FARe : (-1099511627776 : Int64).toInt = FARn := rfl
/-- the model's row after i lines -/
def mI (q pp : Nat) (md : Int32) (sg : Int) (X i : Nat) (be : Nat → Int64) : Prop :=
  (∀ l, Rc X i l → sg * aW q pp md l ≤ (be (aY pp l % (2 * q))).toInt) ∧ ∀ r, r < 2 * q → FARn < (be r).toInt → ∃ l, Rc X i l ∧ aY pp l % (2 * q) = r ∧ (be r).toInt = sg * aW q pp md l
def mN (q : Nat) (md : Int32) (sg : Int) (re : Nat → Int32) (be ne : Nat → Int64) (done : Nat → Nat → Prop) : Prop :=
  (∀ r d, done r d → FARn < (be r).toInt → ¬ re d = 0 → (be r).toInt + sg * cv q md d ≤ (ne ((r + d) % (2 * q))).toInt) ∧
  ∀ j, j < 2 * q → (ne j).toInt = FARn ∨ ∃ r d, done r d ∧ FARn < (be r).toInt ∧ ¬ re d = 0 ∧ (r + d) % (2 * q) = j ∧ (ne j).toInt = (be r).toInt + sg * cv q md d
theorem mN.imp {q : Nat} {md : Int32} {sg : Int} {re : Nat → Int32} {be ne : Nat → Int64} {d1 d2 : Nat → Nat → Prop} (h : mN q md sg re be ne d1) (e : ∀ a k, d1 a k ↔ d2 a k) : mN q md sg re be ne d2 := by
  have : d1 = d2 := by funext a k; exact propext (e a k)
  rw [← this]; exact h
/-- what the model's walk leaves alone -/
def mf (m x : sx_M) : Prop := sx_i x = sx_i m ∧ (∀ i, i ≠ 50 → sx_I x i = sx_I m i) ∧ ∀ i, i ≠ 48 → i ≠ 49 → sx_L x i = sx_L m i
theorem mf.refl (m : sx_M) : mf m m := ⟨rfl, fun _ _ => rfl, fun _ _ _ => rfl⟩
theorem mf.tr {m x y : sx_M} (h : mf m x) (g : mf x y) : mf m y := ⟨g.1.trans h.1, fun i a => (g.2.1 i a).trans (h.2.1 i a), fun i a b => (g.2.2 i a b).trans (h.2.2 i a b)⟩
theorem mf_50 {m : sx_M} {f : Nat → Int32} : mf m (sx_sI m 50 f) := ⟨rfl, fun i a => by rw [rg_II, if_neg a], fun _ _ _ => rfl⟩
theorem mf_48 {m : sx_M} {f : Nat → Int64} : mf m (sx_sL m 48 f) := ⟨rfl, fun _ _ => rfl, fun i a b => by rw [rg_LL, if_neg a]⟩
theorem mf_49 {m : sx_M} {f : Nat → Int64} : mf m (sx_sL m 49 f) := ⟨rfl, fun _ _ => rfl, fun i a b => by rw [rg_LL, if_neg b]⟩
theorem cv_64 {q d : Nat} {md : Int32} (hq : 1 ≤ q) (hq2 : q ≤ 100) (hd : d < 2 * q) : ((nI q).toInt64 * fm_times ((nI d).toInt64) (nI q).toInt64 md - (nI d).toInt64).toInt = cv q md d ∧ bq ((nI q).toInt64 * fm_times ((nI d).toInt64) (nI q).toInt64 md - (nI d).toInt64) 100 := by
  have u := Ub_le q md (d % q) ((d / q) % 2)
  have dv : d / q ≤ 1 := by
    have := Nat.div_lt_of_lt_mul (show d < q * 2 by omega)
    omega
  have e : ((nI q).toInt64 * fm_times ((nI d).toInt64) (nI q).toInt64 md - (nI d).toInt64).toInt = cv q md d := by
    rw [nI_64 (by omega), nI_64 (by omega), dr_times hq (by omega) (by omega)]
    have b1 : bq (lN q) 100 := by unfold bq; rw [lN_I (by omega), Int.natAbs_natCast]; exact hq2
    have b2 : bq (lN (d / q + Ub q md (d % q) ((d / q) % 2))) 2 := by unfold bq; rw [lN_I (by omega), Int.natAbs_natCast]; omega
    have b3 : bq (lN d) 200 := by unfold bq; rw [lN_I (by omega), Int.natAbs_natCast]; omega
    rw [pn_subI (pn_mul b1 b2 (by decide)) b3 (by decide), pn_mulI b1 b2 (by decide), lN_I (by omega), lN_I (by omega), lN_I (by omega)]
    unfold cv
    have h := Nat.div_add_mod d q
    generalize Ub q md (d % q) ((d / q) % 2) = U at *
    generalize d % q = x at *
    generalize d / q = y at *
    rw [← h, Int.natCast_add, Int.natCast_add, Int.natCast_mul, Int.mul_add]
    omega
  refine ⟨e, ?_⟩
  unfold bq
  rw [e]
  have := cv_b (md := md) hq d
  omega
