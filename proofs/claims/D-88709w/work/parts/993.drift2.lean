/-! drift: what lists of amounts come to; the judge's walk. Own work. -/
set_option maxRecDepth 100000
/-- of an amount's product: what is over, whether the floor is odd, whether it is rounded up -/
abbrev yR (q pp a : Nat) : Nat := (a * pp) % q
abbrev yO (q pp a : Nat) : Nat := (a * pp / q) % 2
abbrev yU (q pp : Nat) (md : Int32) (a : Nat) : Nat := Ub q md (yR q pp a) (yO q pp a)
/-- of a list of amounts: sum of what is over, evenness of the floors' sum, sum of the roundings up -/
def aR (q pp : Nat) : List Nat → Nat
  | [] => 0
  | a :: l => aR q pp l + yR q pp a
def aO (q pp : Nat) : List Nat → Nat
  | [] => 0
  | a :: l => (aO q pp l + yO q pp a) % 2
def aV (q pp : Nat) (md : Int32) : List Nat → Nat
  | [] => 0
  | a :: l => aV q pp md l + yU q pp md a
theorem aO_lt (q pp : Nat) : ∀ l, aO q pp l < 2
  | [] => (by decide : 0 < 2)
  | _ :: _ => Nat.mod_lt _ (by decide)
theorem aV_le (q pp : Nat) (md : Int32) : ∀ l, aV q pp md l ≤ l.length
  | [] => Nat.le_refl 0
  | a :: l => by
    have := aV_le q pp md l
    have : yU q pp md a ≤ 1 := Ub_le q md (yR q pp a) (yO q pp a)
    show aV q pp md l + yU q pp md a ≤ l.length + 1
    omega
theorem aR_le {q pp : Nat} (hq : 1 ≤ q) : ∀ l : List Nat, aR q pp l ≤ l.length * (q - 1)
  | [] => by simp [aR]
  | a :: l => by
    have := aR_le (pp := pp) hq l
    have h2 := Nat.mod_lt (a * pp) hq
    show aR q pp l + (a * pp) % q ≤ (l.length + 1) * (q - 1)
    rw [Nat.add_mul, Nat.one_mul]
    omega
/-- the state a list leads to -/
def aS (q pp : Nat) (l : List Nat) : Nat := 2 * aR q pp l + aO q pp l
/-- lists of i amounts up to M -/
def Rc (M i : Nat) (l : List Nat) : Prop := l.length = i ∧ ∀ a ∈ l, a ≤ M
theorem Rc.cons {M i a : Nat} {l : List Nat} (h : Rc M i l) (ha : a ≤ M) : Rc M (i + 1) (a :: l) := ⟨by simp [h.1], fun b hb => by rcases List.mem_cons.mp hb with e | e; rw [e]; exact ha; exact h.2 b e⟩
theorem Rc.uncons {M i : Nat} {l : List Nat} (h : Rc M (i + 1) l) : ∃ a r, l = a :: r ∧ a ≤ M ∧ Rc M i r := by
  cases l with
  | nil => exact absurd h.1 (by simp)
  | cons a r => exact ⟨a, r, rfl, h.2 a List.mem_cons_self, by have := h.1; simp at this; exact this, fun b hb => h.2 b (List.mem_cons_of_mem _ hb)⟩
/-- one step of the state -/
def sT (q pp a k : Nat) : Nat := (k / 2 + yR q pp a) * 2 + (k % 2 + yO q pp a) % 2
theorem aS_cons (q pp a : Nat) (l : List Nat) : aS q pp (a :: l) = sT q pp a (aS q pp l) := by
  have := aO_lt q pp l
  unfold aS sT
  rw [show (2 * aR q pp l + aO q pp l) / 2 = aR q pp l by omega, show (2 * aR q pp l + aO q pp l) % 2 = aO q pp l by omega]
  show 2 * (aR q pp l + yR q pp a) + (aO q pp l + yO q pp a) % 2 = _
  omega
theorem aS_lt {q pp : Nat} (hq : 1 ≤ q) {l : List Nat} {i : Nat} (h : l.length = i) : aS q pp l < (i * (q - 1) + 1) * 2 := by
  have := aR_le (pp := pp) hq l
  have := aO_lt q pp l
  rw [h] at *
  unfold aS; omega
/-- the judge's two rows after i lines -/
def cI (q pp : Nat) (md : Int32) (M S i : Nat) (mo le : Nat → Int32) : Prop :=
  (∀ l, Rc M i l → (le (aS q pp l)).toInt ≤ aV q pp md l ∧ (aV q pp md l : Int) ≤ (mo (aS q pp l)).toInt) ∧
  ∀ k, k < S → ¬ mo k = -1000 → (∃ l, Rc M i l ∧ aS q pp l = k ∧ (aV q pp md l : Int) = (mo k).toInt) ∧ ∃ l, Rc M i l ∧ aS q pp l = k ∧ (aV q pp md l : Int) = (le k).toInt
/-- the next rows, when what 'done' says has been walked -/
def cN (q pp : Nat) (md : Int32) (S : Nat) (mo le nm nl : Nat → Int32) (done : Nat → Nat → Prop) : Prop :=
  (∀ a k, done a k → ¬ mo k = -1000 → (mo k).toInt + yU q pp md a ≤ (nm (sT q pp a k)).toInt ∧ (nl (sT q pp a k)).toInt ≤ (le k).toInt + yU q pp md a) ∧
  ∀ j, j < S → (nm j = -1000 ∧ nl j = 1000) ∨ ((∃ a k, done a k ∧ ¬ mo k = -1000 ∧ sT q pp a k = j ∧ (nm j).toInt = (mo k).toInt + yU q pp md a) ∧ ∃ a k, done a k ∧ ¬ mo k = -1000 ∧ sT q pp a k = j ∧ (nl j).toInt = (le k).toInt + yU q pp md a)
/-- one cell of the walk -/
theorem sp_I {q pp a k S : Nat} {md : Int32} {u : sx_M} {done : Nat → Nat → Prop} (hk : k < 2600) (hq : 1 ≤ q) (hq2 : q ≤ 100) (ht : sT q pp a k < S) (hS : S ≤ 2600)
    (hr : ¬ sx_I u 19 k = -1000 → 0 ≤ (sx_I u 19 k).toInt ∧ (sx_I u 19 k).toInt ≤ 12 ∧ 0 ≤ (sx_I u 20 k).toInt ∧ (sx_I u 20 k).toInt ≤ 12)
    (h : cN q pp md S (sx_I u 19) (sx_I u 20) (sx_I u 21) (sx_I u 22) done) :
    cN q pp md S (sx_I u 19) (sx_I u 20) (sx_I (fc_spI (nI (yR q pp a)) (nI (yO q pp a)) (nI (yU q pp md a)) k u) 21) (sx_I (fc_spI (nI (yR q pp a)) (nI (yO q pp a)) (nI (yU q pp md a)) k u) 22) (fun b j => done b j ∨ (b = a ∧ j = k)) ∧
    sx_I (fc_spI (nI (yR q pp a)) (nI (yO q pp a)) (nI (yU q pp md a)) k u) 19 = sx_I u 19 ∧ sx_I (fc_spI (nI (yR q pp a)) (nI (yO q pp a)) (nI (yU q pp md a)) k u) 20 = sx_I u 20 := by
  have rq : yR q pp a < q := Nat.mod_lt _ hq
  have oq : yO q pp a < 2 := Nat.mod_lt _ (by decide)
  have uq : yU q pp md a ≤ 1 := Ub_le q md (yR q pp a) (yO q pp a)
  have ix : (((nI k / (2 : Int32)) + nI (yR q pp a)) * (2 : Int32) + (((nI k &&& (1 : Int32)) + nI (yO q pp a)) &&& (1 : Int32))).toNatClampNeg = sT q pp a k := by
    rw [show (2 : Int32) = nI 2 from rfl, pk_div (by omega) (by decide) (by decide), pk_andN (by omega) 1 rfl, nI_add, nI_add, pk_andN (by omega) 1 rfl, pk_mul, nI_add, nI_clamp (by omega)]
    rfl
  unfold fc_spI
  rw [ix, rl_c (show k < 100000 by omega)]
  by_cases c0 : sx_I u 19 k = -1000
  · rw [if_pos c0]
    refine ⟨⟨fun b j hd hj => ?_, fun j hj => ?_⟩, rfl, rfl⟩
    · rcases hd with hd | ⟨rfl, rfl⟩
      · exact h.1 b j hd hj
      · exact absurd c0 hj
    · rcases h.2 j hj with q1 | ⟨⟨b, x, d1, d2, d3, d4⟩, ⟨b', x', e1, e2, e3, e4⟩⟩
      · exact Or.inl q1
      · exact Or.inr ⟨⟨b, x, Or.inl d1, d2, d3, d4⟩, ⟨b', x', Or.inl e1, e2, e3, e4⟩⟩
  rw [if_neg c0]
  obtain ⟨r1, r2, r3, r4⟩ := hr c0
  have uI : (nI (yU q pp md a)).toInt = (yU q pp md a : Int) := nI_toInt (by omega)
  have eM : (sx_I u 19 k + nI (yU q pp md a)).toInt = (sx_I u 19 k).toInt + yU q pp md a := by
    rw [pn_add32 (A := 12) (B := 1) (by omega) (by rw [uI]; omega) (by decide), uI]
  have eL : (sx_I u 20 k + nI (yU q pp md a)).toInt = (sx_I u 20 k).toInt + yU q pp md a := by
    rw [pn_add32 (A := 12) (B := 1) (by omega) (by rw [uI]; omega) (by decide), uI]
  -- what the two rows become
  have key : ∀ nm nl : Nat → Int32, nm = (if sx_I u 19 k + nI (yU q pp md a) ≤ sx_I u 21 (sT q pp a k) then sx_I u 21 else upd (sx_I u 21) (sT q pp a k) (sx_I u 19 k + nI (yU q pp md a))) → nl = (if sx_I u 22 (sT q pp a k) ≤ sx_I u 20 k + nI (yU q pp md a) then sx_I u 22 else upd (sx_I u 22) (sT q pp a k) (sx_I u 20 k + nI (yU q pp md a))) → cN q pp md S (sx_I u 19) (sx_I u 20) nm nl (fun b j => done b j ∨ (b = a ∧ j = k)) := by
    intro nm nl en el
    have m1 : (nm (sT q pp a k)).toInt = max ((sx_I u 21 (sT q pp a k)).toInt) ((sx_I u 19 k).toInt + yU q pp md a) ∧ ∀ j, j ≠ sT q pp a k → nm j = sx_I u 21 j := by
      rw [en]
      by_cases c : sx_I u 19 k + nI (yU q pp md a) ≤ sx_I u 21 (sT q pp a k)
      · rw [if_pos c]
        rw [Int32.le_iff_toInt_le, eM] at c
        exact ⟨by omega, fun _ _ => rfl⟩
      · rw [if_neg c]
        rw [Int32.le_iff_toInt_le, eM] at c
        refine ⟨by rw [rg_u, if_pos rfl, eM]; omega, fun j hj => by rw [rg_u, if_neg hj]⟩
    have l1 : (nl (sT q pp a k)).toInt = min ((sx_I u 22 (sT q pp a k)).toInt) ((sx_I u 20 k).toInt + yU q pp md a) ∧ ∀ j, j ≠ sT q pp a k → nl j = sx_I u 22 j := by
      rw [el]
      by_cases c : sx_I u 22 (sT q pp a k) ≤ sx_I u 20 k + nI (yU q pp md a)
      · rw [if_pos c]
        rw [Int32.le_iff_toInt_le, eL] at c
        exact ⟨by omega, fun _ _ => rfl⟩
      · rw [if_neg c]
        rw [Int32.le_iff_toInt_le, eL] at c
        refine ⟨by rw [rg_u, if_pos rfl, eL]; omega, fun j hj => by rw [rg_u, if_neg hj]⟩
    refine ⟨fun b j hd hj => ?_, fun j hj => ?_⟩
    · rcases hd with hd | ⟨rfl, rfl⟩
      · obtain ⟨p1, p2⟩ := h.1 b j hd hj
        by_cases e : sT q pp b j = sT q pp a k
        · rw [e, m1.1, l1.1]
          rw [e] at p1 p2
          omega
        · rw [m1.2 _ e, l1.2 _ e]; exact ⟨p1, p2⟩
      · rw [m1.1, l1.1]; omega
    · by_cases e : j = sT q pp a k
      · right
        have c1000 : (-1000 : Int32).toInt = -1000 := rfl
        have c1001 : (1000 : Int32).toInt = 1000 := rfl
        subst e
        rcases h.2 _ hj with ⟨q1, q2⟩ | ⟨⟨b, x, d1, d2, d3, d4⟩, ⟨b', x', e1, e2, e3, e4⟩⟩
        · refine ⟨⟨a, k, Or.inr ⟨rfl, rfl⟩, c0, rfl, ?_⟩, ⟨a, k, Or.inr ⟨rfl, rfl⟩, c0, rfl, ?_⟩⟩
          · rw [m1.1, q1, c1000]; omega
          · rw [l1.1, q2, c1001]; omega
        · refine ⟨?_, ?_⟩
          · by_cases g : (sx_I u 19 k).toInt + yU q pp md a ≤ (sx_I u 21 (sT q pp a k)).toInt
            · exact ⟨b, x, Or.inl d1, d2, d3, by rw [m1.1]; omega⟩
            · exact ⟨a, k, Or.inr ⟨rfl, rfl⟩, c0, rfl, by rw [m1.1]; omega⟩
          · by_cases g : (sx_I u 22 (sT q pp a k)).toInt ≤ (sx_I u 20 k).toInt + yU q pp md a
            · exact ⟨b', x', Or.inl e1, e2, e3, by rw [l1.1]; omega⟩
            · exact ⟨a, k, Or.inr ⟨rfl, rfl⟩, c0, rfl, by rw [l1.1]; omega⟩
      · rw [m1.2 _ e, l1.2 _ e]
        rcases h.2 j hj with q1 | ⟨⟨b, x, d1, d2, d3, d4⟩, ⟨b', x', e1, e2, e3, e4⟩⟩
        · exact Or.inl q1
        · exact Or.inr ⟨⟨b, x, Or.inl d1, d2, d3, d4⟩, ⟨b', x', Or.inl e1, e2, e3, e4⟩⟩
  by_cases c1 : sx_I u 19 k + nI (yU q pp md a) ≤ sx_I u 21 (sT q pp a k)
  · rw [if_pos c1]
    by_cases c2 : sx_I u 22 (sT q pp a k) ≤ sx_I u 20 k + nI (yU q pp md a)
    · rw [if_pos c2]; exact ⟨key _ _ (by rw [if_pos c1]) (by rw [if_pos c2]), rfl, rfl⟩
    · rw [if_neg c2]; exact ⟨key _ _ (by rw [if_pos c1]; rfl) (by rw [if_neg c2]; rfl), rfl, rfl⟩
  · rw [if_neg c1]
    by_cases c2 : sx_I u 22 (sT q pp a k) ≤ sx_I u 20 k + nI (yU q pp md a)
    · rw [if_pos c2]; exact ⟨key _ _ (by rw [if_neg c1]; rfl) (by rw [if_pos c2]; rfl), rfl, rfl⟩
    · rw [if_neg c2]; exact ⟨key _ _ (by rw [if_neg c1]; rfl) (by rw [if_neg c2]; rfl), rfl, rfl⟩
