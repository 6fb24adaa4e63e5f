/-! loops and small numbers. Own work. -/
set_option maxRecDepth 100000
def it_up {σ : Type} (body : Nat → σ → σ) : Nat → Nat → σ → σ
  | 0, _, s => s
  | c + 1, k, s => it_up body c (k + 1) (body k s)
theorem pj_for {σ : Type} (P : Nat → σ → Prop) (body : Nat → σ → σ) (inv : Nat → σ → Prop) (n : Nat) (hs : ∀ k s, k < n → inv k s → (inv (k + 1) (body k s)) ∧ (P (k + 1) (body k s) → P k s)) : ∀ c k s, k + c = n → inv k s → (inv n (it_up body c k s) → P n (it_up body c k s)) → P k s := by
  intro c
  induction c with
  | zero => intro k s hk hi h; have : k = n := by omega
            subst this; exact h hi
  | succ c ih =>
    intro k s hk hi h
    obtain ⟨a, b⟩ := hs k s (by omega) hi
    exact b (ih (k + 1) (body k s) (by omega) a h)
theorem nI_add1 (k : Nat) : nI k + 1 = nI (k + 1) := nI_1 k
theorem nI_lt_lit {k n : Nat} (h : k < n) (hn : n < 2 ^ 31) : ¬ nI n ≤ nI k := nI_ge h hn
theorem nI_ge_lit {k n : Nat} (h : n ≤ k) (hk : k < 2 ^ 31) : nI n ≤ nI k := nI_le h hk
theorem vp_in_lit {k n : Nat} (h : k < n) (hn : n < 2 ^ 31 := by decide) : vp_in (nI k) n := vp_in_nI h hn
/-- an index of the base's half: base is 0 or 1 -/
theorem vp_in_b8 {b x : Int32} (hb : b = 0 ∨ b = 1) (hx : vp_in x 8) : vp_in (8 * b + x) 16 := by
  obtain ⟨j, hj, rfl⟩ := vp_in_of hx (by decide)
  rcases hb with rfl | rfl
  · rw [show (8 * 0 + nI j : Int32) = nI j by rw [show (8 * 0 : Int32) = nI 0 from rfl, nI_add, Nat.zero_add]]
    exact vp_in_nI (by omega) (by decide)
  · rw [show (8 * 1 + nI j : Int32) = nI (8 + j) by rw [show (8 * 1 : Int32) = nI 8 from rfl, nI_add]]
    exact vp_in_nI (by omega) (by decide)
theorem b8_at {b x : Nat} (hb : b < 2) (hx : x < 8) : (8 * nI b + nI x : Int32).toNatClampNeg = 8 * b + x := by
  rw [show (8 * nI b : Int32) = nI (8 * b) from pk_mul 8 b, nI_add, nI_clamp (by omega)]
/-- an index of rows of q -/
theorem vp_row {x y : Int32} {p q : Nat} (hx : vp_in x p) (hy : vp_in y q) (hN : q * p < 2 ^ 31) (hp : p < 2 ^ 31 := by decide) (hq : q < 2 ^ 31 := by decide) : vp_in (nI q * x + y) (q * p) := by
  obtain ⟨i, hi, rfl⟩ := vp_in_of hx hp
  obtain ⟨j, hj, rfl⟩ := vp_in_of hy hq
  rw [pk_mul, nI_add]
  refine vp_in_nI ?_ hN
  calc q * i + j < q * i + q := by omega
    _ = q * (i + 1) := by rw [Nat.mul_add, Nat.mul_one]
    _ ≤ q * p := Nat.mul_le_mul_left _ hi
theorem vp_up {x : Int32} {n : Nat} (h : vp_in x (n + 1)) (hne : ¬ x = nI n) (hn : n + 1 < 2 ^ 31 := by decide) : vp_in x n := by
  obtain ⟨j, hj, rfl⟩ := vp_in_of h hn
  refine vp_in_nI ?_ (by omega)
  have : j ≠ n := fun e => hne (by rw [e])
  omega
theorem vp_mono {x : Int32} {n N : Nat} (h : vp_in x n) (hN : n ≤ N) : vp_in x N := by
  rw [vp_in_iff] at *
  omega
theorem vp_lt {x : Int32} {n : Nat} (h : vp_in x n) : x.toNatClampNeg < n := Nat.not_le.mp fun q => h (Or.inr q)
theorem vp_8k {k : Nat} (hk : k < 4) : vp_in (8 * nI k) 32 := by
  rw [show (8 * nI k : Int32) = nI (8 * k) from pk_mul 8 k]
  exact vp_in_nI (by omega) (by decide)
theorem vp_8k1 {k : Nat} (hk : k < 4) : vp_in (8 * nI k + 1) 32 := by
  rw [show (8 * nI k : Int32) = nI (8 * k) from pk_mul 8 k, nI_add1]
  exact vp_in_nI (by omega) (by decide)
