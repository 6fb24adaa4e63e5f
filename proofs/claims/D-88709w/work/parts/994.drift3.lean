/-! drift: the judge's walk, the whole. Own work. -/
set_option maxRecDepth 100000
theorem sp_args {q pp a : Nat} {md : Int32} (hq : 1 ≤ q) (hq2 : q ≤ 100) (ha : a * pp < 2 ^ 31) : (nI a * nI pp - nI a * nI pp / nI q * nI q : Int32) = nI (yR q pp a) ∧ (nI a * nI pp / nI q &&& 1 : Int32) = nI (yO q pp a) ∧ fc_up (nI a * nI pp - nI a * nI pp / nI q * nI q) (nI q) (nI a * nI pp / nI q &&& 1) md = nI (yU q pp md a) := by
  have e1 : (nI a * nI pp - nI a * nI pp / nI q * nI q : Int32) = nI (yR q pp a) := by
    rw [pk_mul, pk_rem ha (by omega) (by omega)]
  have e2 : (nI a * nI pp / nI q &&& 1 : Int32) = nI (yO q pp a) := by
    rw [pk_mul, pk_div ha (by omega) (by omega), pk_andN (by have := Nat.div_le_self (a * pp) q; omega) 1 rfl]
  refine ⟨e1, e2, ?_⟩
  rw [e1, e2]
  exact dr_up hq (by omega) (Nat.mod_lt _ hq) (Nat.mod_lt _ (by decide))
/-- what the walk leaves of the judge's own fields -/
def wf (w x : sx_M) : Prop := sx_i x = sx_i w ∧ (∀ i, i < 19 → sx_I x i = sx_I w i) ∧ sx_L x = sx_L w
theorem wf.refl (w : sx_M) : wf w w := ⟨rfl, fun _ _ => rfl, rfl⟩
theorem wf.tr {w x y : sx_M} (h : wf w x) (g : wf x y) : wf w y := ⟨g.1.trans h.1, fun i a => (g.2.1 i a).trans (h.2.1 i a), g.2.2.trans h.2.2⟩
theorem wf_sI {w : sx_M} {k : Nat} {f : Nat → Int32} (h : 19 ≤ k) : wf w (sx_sI w k f) := ⟨rfl, fun i a => by rw [rg_II, if_neg (by omega)], rfl⟩
theorem sp_wf (r o w : Int32) (k : Nat) (u : sx_M) : wf u (fc_spI r o w k u) := by
  unfold fc_spI
  repeat' split
  · exact wf.refl u
  · exact wf.refl u
  · exact wf_sI (by omega)
  · exact wf_sI (by omega)
  · exact (wf_sI (by omega)).tr (wf_sI (by omega))
theorem cN.imp {q pp S : Nat} {md : Int32} {mo le nm nl : Nat → Int32} {d1 d2 : Nat → Nat → Prop} (h : cN q pp md S mo le nm nl d1) (e : ∀ a k, d1 a k ↔ d2 a k) : cN q pp md S mo le nm nl d2 := by
  have : d1 = d2 := by funext a k; exact propext (e a k)
  rw [← this]; exact h
/-- one amount from all states -/
theorem sp_O {q pp a S Sk : Nat} {md : Int32} {u : sx_M} (hq : 1 ≤ q) (hq2 : q ≤ 100) (ha : a * pp < 2 ^ 31) (hSk : Sk ≤ 2600) (hS : S ≤ 2600) (ht : ∀ k, k < Sk → sT q pp a k < S)
    (hr : ∀ k, k < Sk → ¬ sx_I u 19 k = -1000 → 0 ≤ (sx_I u 19 k).toInt ∧ (sx_I u 19 k).toInt ≤ 12 ∧ 0 ≤ (sx_I u 20 k).toInt ∧ (sx_I u 20 k).toInt ≤ 12)
    (h : cN q pp md S (sx_I u 19) (sx_I u 20) (sx_I u 21) (sx_I u 22) (fun b k => b < a ∧ k < Sk)) :
    cN q pp md S (sx_I u 19) (sx_I u 20) (sx_I (fc_spO (nI q) (nI pp) md Sk a u) 21) (sx_I (fc_spO (nI q) (nI pp) md Sk a u) 22) (fun b k => b < a + 1 ∧ k < Sk) ∧ sx_I (fc_spO (nI q) (nI pp) md Sk a u) 19 = sx_I u 19 ∧ sx_I (fc_spO (nI q) (nI pp) md Sk a u) 20 = sx_I u 20 ∧ wf u (fc_spO (nI q) (nI pp) md Sk a u) := by
  obtain ⟨e1, e2, e3⟩ := sp_args (md := md) hq hq2 ha
  unfold fc_spO
  rw [e3, e1, e2]
  have := it_inv (P := fun j (z : sx_M) => cN q pp md S (sx_I u 19) (sx_I u 20) (sx_I z 21) (sx_I z 22) (fun b k => (b < a ∧ k < Sk) ∨ (b = a ∧ k < j)) ∧ sx_I z 19 = sx_I u 19 ∧ sx_I z 20 = sx_I u 20 ∧ wf u z) (f := fun j u => fc_spI (nI (yR q pp a)) (nI (yO q pp a)) (nI (yU q pp md a)) j u) (n := Sk) ?_ Sk 0 u (by omega) ⟨h.imp fun b k => by omega, rfl, rfl, wf.refl u⟩
  · exact ⟨this.1.imp fun b k => by omega, this.2⟩
  · intro j z hj ⟨i1, i2, i3, i4⟩
    rw [← i2, ← i3] at i1
    have hrz : ¬ sx_I z 19 j = -1000 → 0 ≤ (sx_I z 19 j).toInt ∧ (sx_I z 19 j).toInt ≤ 12 ∧ 0 ≤ (sx_I z 20 j).toInt ∧ (sx_I z 20 j).toInt ≤ 12 := by rw [i2, i3]; exact hr j hj
    obtain ⟨s1, s2, s3⟩ := sp_I (q := q) (pp := pp) (a := a) (k := j) (S := S) (md := md) (u := z) (by omega) hq hq2 (ht j hj) hS hrz i1
    rw [i2, i3] at s1
    exact ⟨s1.imp fun b k => by omega, s2.trans i2, s3.trans i3, i4.tr (sp_wf _ _ _ _ _)⟩
/-- a row gets one value -/
theorem dr_B (u : sx_M) {S : Nat} (hS : S ≤ 2600) : (∀ j, j < S → sx_I (it_up fc_drB S 0 u) 21 j = -1000 ∧ sx_I (it_up fc_drB S 0 u) 22 j = 1000) ∧ sx_I (it_up fc_drB S 0 u) 19 = sx_I u 19 ∧ sx_I (it_up fc_drB S 0 u) 20 = sx_I u 20 ∧ wf u (it_up fc_drB S 0 u) := by
  refine it_inv (P := fun n (z : sx_M) => (∀ j, j < n → sx_I z 21 j = -1000 ∧ sx_I z 22 j = 1000) ∧ sx_I z 19 = sx_I u 19 ∧ sx_I z 20 = sx_I u 20 ∧ wf u z) (n := S) ?_ S 0 u (by omega) ⟨fun j hj => absurd hj (by omega), rfl, rfl, wf.refl u⟩
  intro n z hn ⟨h1, h2, h3, h4⟩
  unfold fc_drB
  rw [rl_c (show n < 100000 by omega)]
  refine ⟨fun j hj => ?_, h2, h3, h4.tr ((wf_sI (by omega)).tr (wf_sI (by omega)))⟩
  show upd (sx_I z 21) n (-1000) j = -1000 ∧ upd (sx_I z 22) n 1000 j = 1000
  rw [rg_u, rg_u]
  by_cases c : j = n
  · rw [if_pos c, if_pos c]; exact ⟨rfl, rfl⟩
  · rw [if_neg c, if_neg c]; exact h1 j (by omega)
theorem dr_A (u : sx_M) {S : Nat} (hS : S ≤ 2600) : (∀ j, j < S → sx_I (it_up fc_drA S 0 u) 19 j = -1000 ∧ sx_I (it_up fc_drA S 0 u) 20 j = 1000) ∧ wf u (it_up fc_drA S 0 u) := by
  refine it_inv (P := fun n (z : sx_M) => (∀ j, j < n → sx_I z 19 j = -1000 ∧ sx_I z 20 j = 1000) ∧ wf u z) (n := S) ?_ S 0 u (by omega) ⟨fun j hj => absurd hj (by omega), wf.refl u⟩
  intro n z hn ⟨h1, h4⟩
  unfold fc_drA
  rw [rl_c (show n < 100000 by omega)]
  refine ⟨fun j hj => ?_, h4.tr ((wf_sI (by omega)).tr (wf_sI (by omega)))⟩
  show upd (sx_I z 19) n (-1000) j = -1000 ∧ upd (sx_I z 20) n 1000 j = 1000
  rw [rg_u, rg_u]
  by_cases c : j = n
  · rw [if_pos c, if_pos c]; exact ⟨rfl, rfl⟩
  · rw [if_neg c, if_neg c]; exact h1 j (by omega)
theorem dr_C (u : sx_M) {S : Nat} (hS : S ≤ 2600) : (∀ j, j < S → sx_I (it_up fc_drC S 0 u) 19 j = sx_I u 21 j ∧ sx_I (it_up fc_drC S 0 u) 20 j = sx_I u 22 j) ∧ wf u (it_up fc_drC S 0 u) := by
  have := it_inv (P := fun n (z : sx_M) => (∀ j, j < n → sx_I z 19 j = sx_I u 21 j ∧ sx_I z 20 j = sx_I u 22 j) ∧ sx_I z 21 = sx_I u 21 ∧ sx_I z 22 = sx_I u 22 ∧ wf u z) (f := fc_drC) (n := S) ?_ S 0 u (by omega) ⟨fun j hj => absurd hj (by omega), rfl, rfl, wf.refl u⟩
  · exact ⟨this.1, this.2.2.2⟩
  intro n z hn ⟨h1, h2, h3, h4⟩
  unfold fc_drC
  rw [rl_c (show n < 100000 by omega)]
  refine ⟨fun j hj => ?_, h2, h3, h4.tr ((wf_sI (by omega)).tr (wf_sI (by omega)))⟩
  show upd (sx_I z 19) n (sx_I z 21 n) j = _ ∧ upd (sx_I z 20) n (sx_I z 22 n) j = _
  rw [rg_u, rg_u]
  by_cases c : j = n
  · rw [if_pos c, if_pos c, c, h2, h3]; exact ⟨rfl, rfl⟩
  · rw [if_neg c, if_neg c]; exact h1 j (by omega)
theorem sT_lt {q pp a k i : Nat} (hq : 1 ≤ q) (hk : k < (i * (q - 1) + 1) * 2) : sT q pp a k < ((i + 1) * (q - 1) + 1) * 2 := by
  have h1 : yR q pp a < q := Nat.mod_lt _ hq
  have h2 : (k % 2 + yO q pp a) % 2 < 2 := Nat.mod_lt _ (by decide)
  unfold sT
  rw [Nat.add_mul i 1, Nat.one_mul]
  omega
theorem cI.rg {q pp M S i : Nat} {md : Int32} {mo le : Nat → Int32} (h : cI q pp md M S i mo le) (hi : i ≤ 12) {k : Nat} (hk : k < S) (hm : ¬ mo k = -1000) : 0 ≤ (mo k).toInt ∧ (mo k).toInt ≤ 12 ∧ 0 ≤ (le k).toInt ∧ (le k).toInt ≤ 12 := by
  obtain ⟨⟨l1, r1, _, v1⟩, ⟨l2, r2, _, v2⟩⟩ := h.2 k hk hm
  have a := aV_le q pp md l1
  have b := aV_le q pp md l2
  have c := r1.1
  have d := r2.1
  omega
/-- one line more -/
theorem dr_S {q pp M S i N : Nat} {md : Int32} {u : sx_M} (hq : 1 ≤ q) (hq2 : q ≤ 100) (hM : M * pp < 2 ^ 31) (hN : N ≤ 12) (hi : i < N) (eS : S = (N * (q - 1) + 1) * 2) (h : cI q pp md M S i (sx_I u 19) (sx_I u 20)) :
    cI q pp md M S (i + 1) (sx_I (fc_drS (nI q) (nI pp) md S ((i * (q - 1) + 1) * 2) M u) 19) (sx_I (fc_drS (nI q) (nI pp) md S ((i * (q - 1) + 1) * 2) M u) 20) ∧ wf u (fc_drS (nI q) (nI pp) md S ((i * (q - 1) + 1) * 2) M u) := by
  have m1 : N * (q - 1) ≤ 12 * 99 := Nat.mul_le_mul hN (by omega)
  have hS : S ≤ 2600 := by omega
  have m2 : (i + 1) * (q - 1) ≤ N * (q - 1) := Nat.mul_le_mul_right _ (by omega)
  have m3 : i * (q - 1) ≤ N * (q - 1) := Nat.mul_le_mul_right _ (by omega)
  generalize hSk : (i * (q - 1) + 1) * 2 = Sk
  have hSk2 : Sk ≤ S := by omega
  unfold fc_drS
  obtain ⟨b1, b2, b3, b4⟩ := dr_B u hS
  generalize it_up fc_drB S 0 u = B at *
  have c0 : cN q pp md S (sx_I B 19) (sx_I B 20) (sx_I B 21) (sx_I B 22) (fun b k => b < 0 ∧ k < Sk) := ⟨fun a k hd => absurd hd.1 (by omega), fun j hj => Or.inl (b1 j hj)⟩
  rw [← b2, ← b3] at h
  have sp := it_inv (P := fun a (z : sx_M) => cN q pp md S (sx_I B 19) (sx_I B 20) (sx_I z 21) (sx_I z 22) (fun b k => b < a ∧ k < Sk) ∧ sx_I z 19 = sx_I B 19 ∧ sx_I z 20 = sx_I B 20 ∧ wf B z) (f := fc_spO (nI q) (nI pp) md Sk) (n := M + 1) (fun a z ha ⟨i1, i2, i3, i4⟩ => by
    rw [← i2, ← i3] at i1
    have hap : a * pp ≤ M * pp := Nat.mul_le_mul_right _ (by omega)
    obtain ⟨s1, s2, s3, s4⟩ := sp_O (q := q) (pp := pp) (a := a) (S := S) (Sk := Sk) (md := md) (u := z) hq hq2 (by omega) (by omega) hS (fun k hk => by have := sT_lt (pp := pp) (a := a) (i := i) hq (k := k) (by omega); omega) (fun k hk hm => by rw [i2, i3] at *; exact h.rg (by omega) (by omega) hm) i1
    rw [i2, i3] at s1
    exact ⟨s1, s2.trans i2, s3.trans i3, i4.tr s4⟩) (M + 1) 0 B (by omega) ⟨c0, rfl, rfl, wf.refl B⟩
  obtain ⟨p1, p2, p3, p4⟩ := sp
  generalize it_up (fc_spO (nI q) (nI pp) md Sk) (M + 1) 0 B = C at *
  obtain ⟨k1, k2⟩ := dr_C C hS
  generalize it_up fc_drC S 0 C = E at *
  refine ⟨⟨fun l hl => ?_, fun k hk hm => ?_⟩, b4.tr (p4.tr k2)⟩
  · obtain ⟨a, r, rfl, ha, hr⟩ := hl.uncons
    have st := aS_lt (pp := pp) hq hr.1
    have st2 := sT_lt (pp := pp) (a := a) (i := i) hq st
    obtain ⟨v1, v2⟩ := h.1 r hr
    have hm : ¬ sx_I B 19 (aS q pp r) = -1000 := fun z => by
      rw [z] at v2
      have : (-1000 : Int32).toInt = -1000 := rfl
      omega
    obtain ⟨w1, w2⟩ := p1.1 a (aS q pp r) ⟨by omega, by omega⟩ hm
    rw [aS_cons, (k1 _ (by omega)).1, (k1 _ (by omega)).2]
    show _ ≤ ((aV q pp md r + yU q pp md a : Nat) : Int) ∧ ((aV q pp md r + yU q pp md a : Nat) : Int) ≤ _
    omega
  · rw [(k1 k hk).1] at hm
    rw [(k1 k hk).1, (k1 k hk).2]
    rcases p1.2 k hk with ⟨q1, _⟩ | ⟨⟨a, x, ⟨d1, d1'⟩, d2, d3, d4⟩, ⟨a', x', ⟨e1, e1'⟩, e2, e3, e4⟩⟩
    · exact absurd q1 hm
    · obtain ⟨⟨l1, r1, s1, v1⟩, _⟩ := h.2 x (by omega) d2
      obtain ⟨_, ⟨l2, r2, s2, v2⟩⟩ := h.2 x' (by omega) e2
      refine ⟨⟨a :: l1, r1.cons (by omega), by rw [aS_cons, s1]; exact d3, ?_⟩, ⟨a' :: l2, r2.cons (by omega), by rw [aS_cons, s2]; exact e3, ?_⟩⟩
      · show ((aV q pp md l1 + yU q pp md a : Nat) : Int) = _
        omega
      · show ((aV q pp md l2 + yU q pp md a' : Nat) : Int) = _
        omega
/-- what is taken off at the end -/
def offS (q : Nat) (md : Int32) (k : Nat) : Nat := k / 2 / q + Ub q md (k / 2 % q) ((k % 2 + k / 2 / q) % 2)
def dl (q pp : Nat) (md : Int32) (l : List Nat) : Int := (aV q pp md l : Int) - offS q md (aS q pp l)
theorem off_eq {q k : Nat} {md : Int32} (hq : 1 ≤ q) (hq2 : q ≤ 100) (hk : k < 2600) : (((nI k) / (2 : Int32)) / nI q) + (fc_up (((nI k) / (2 : Int32)) - ((nI k) / (2 : Int32)) / nI q * nI q) (nI q) ((((nI k) &&& (1 : Int32)) + (((nI k) / (2 : Int32)) / nI q)) &&& (1 : Int32)) md) = nI (offS q md k) := by
  have h1 : k / 2 / q ≤ k / 2 := Nat.div_le_self _ _
  rw [show (2 : Int32) = nI 2 from rfl, pk_div (by omega) (by decide) (by decide), pk_rem (by omega) (by omega) (by omega), pk_div (by omega) (by omega) (by omega), pk_andN (by omega) 1 rfl, nI_add, pk_andN (by omega) 1 rfl, dr_up hq (by omega) (Nat.mod_lt _ hq) (Nat.mod_lt _ (by decide)), nI_add]
  rfl
theorem offS_le {q k N : Nat} {md : Int32} (hq : 1 ≤ q) (hN : N ≤ 12) (hk : k < (N * (q - 1) + 1) * 2) : offS q md k ≤ 13 := by
  have u := Ub_le q md (k / 2 % q) ((k % 2 + k / 2 / q) % 2)
  have h1 : k / 2 / q ≤ 12 := by
    have : N * (q - 1) ≤ 12 * (q - 1) := Nat.mul_le_mul_right _ hN
    have h2 : k / 2 < 13 * q := by omega
    have := Nat.div_lt_of_lt_mul (show k / 2 < q * 13 by omega)
    omega
  unfold offS; omega
/-- the judge's walk over all lines, and its answer -/
theorem dr_all {q pp M S N : Nat} {md wh : Int32} {u : sx_M} (hq : 1 ≤ q) (hq2 : q ≤ 100) (hM : M * pp < 2 ^ 31) (hN1 : N ≤ 12) (eS : S = (N * (q - 1) + 1) * 2) (hw : wh = 0 ∨ wh = 1) :
    (∃ l, Rc M N l ∧ (fc_drVal (nI q) md wh S (fc_drAll (nI q) (nI pp) md S N M (fun i => (i * (q - 1) + 1) * 2) u)).toInt = dl q pp md l) ∧
    (∀ l, Rc M N l → (wh = 0 → dl q pp md l ≤ (fc_drVal (nI q) md wh S (fc_drAll (nI q) (nI pp) md S N M (fun i => (i * (q - 1) + 1) * 2) u)).toInt) ∧ (wh = 1 → (fc_drVal (nI q) md wh S (fc_drAll (nI q) (nI pp) md S N M (fun i => (i * (q - 1) + 1) * 2) u)).toInt ≤ dl q pp md l)) ∧
    wf u (fc_drAll (nI q) (nI pp) md S N M (fun i => (i * (q - 1) + 1) * 2) u) := by
  have m1 : N * (q - 1) ≤ 12 * 99 := Nat.mul_le_mul hN1 (by omega)
  have hS : S ≤ 2600 := by omega
  have c1000 : (-1000 : Int32).toInt = -1000 := rfl
  have c1001 : (1000 : Int32).toInt = 1000 := rfl
  obtain ⟨a1, a2⟩ := dr_A u hS
  unfold fc_drAll
  generalize it_up fc_drA S 0 u = X at *
  have z1 : wf X (fc_drZ X) := (wf_sI (by omega)).tr (wf_sI (by omega))
  have c0 : cI q pp md M S 0 (sx_I (fc_drZ X) 19) (sx_I (fc_drZ X) 20) := by
    have e19 : ∀ k, sx_I (fc_drZ X) 19 k = if k = 0 then 0 else sx_I X 19 k := fun k => by
      show upd (sx_I X 19) (0 : Int32).toNatClampNeg 0 k = _
      rw [rg_u]; rfl
    have e20 : ∀ k, sx_I (fc_drZ X) 20 k = if k = 0 then 0 else sx_I X 20 k := fun k => by
      show upd (sx_I X 20) (0 : Int32).toNatClampNeg 0 k = _
      rw [rg_u]; rfl
    refine ⟨fun l hl => ?_, fun k hk hm => ?_⟩
    · have : l = [] := List.length_eq_zero_iff.mp hl.1
      subst this
      show (sx_I (fc_drZ X) 20 0).toInt ≤ ((0 : Nat) : Int) ∧ ((0 : Nat) : Int) ≤ (sx_I (fc_drZ X) 19 0).toInt
      rw [e19, e20, if_pos rfl, if_pos rfl]; decide
    · rw [e19] at hm
      by_cases k0 : k = 0
      · subst k0
        rw [e19, e20]
        exact ⟨⟨[], ⟨rfl, by simp⟩, rfl, rfl⟩, ⟨[], ⟨rfl, by simp⟩, rfl, rfl⟩⟩
      · rw [if_neg k0] at hm
        exact absurd (a1 k hk).1 hm
  have L := it_inv (P := fun i (z : sx_M) => cI q pp md M S i (sx_I z 19) (sx_I z 20) ∧ wf X z) (f := fun k => fc_drS (nI q) (nI pp) md S ((k * (q - 1) + 1) * 2) M) (n := N) (fun i z hi ⟨x1, x2⟩ => by
    obtain ⟨y1, y2⟩ := dr_S (q := q) (pp := pp) (M := M) (S := S) (i := i) (N := N) (md := md) (u := z) hq hq2 hM hN1 hi eS x1
    exact ⟨y1, x2.tr y2⟩) N 0 (fc_drZ X) (by omega) ⟨c0, z1⟩
  obtain ⟨L1, L2⟩ := L
  generalize it_up (fun k => fc_drS (nI q) (nI pp) md S ((k * (q - 1) + 1) * 2) M) N 0 (fc_drZ X) = Z at *
  have stl : ∀ l, Rc M N l → aS q pp l < S := fun l hl => by have := aS_lt (pp := pp) hq hl.1; omega
  have offb : ∀ k, k < S → offS q md k ≤ 13 := fun k hk => offS_le hq hN1 (by omega)
  have vb : ∀ l, Rc M N l → aV q pp md l ≤ 12 := fun l hl => by have := aV_le q pp md l; have := hl.1; omega
  have ne : ∀ l, Rc M N l → ¬ sx_I Z 19 (aS q pp l) = -1000 := fun l hl z => by
    have := (L1.1 l hl).2
    rw [z] at this; omega
  have l0 : Rc M N (List.replicate N 0) := ⟨by simp, fun a ha => by rw [(List.mem_replicate.mp ha).2]; omega⟩
  unfold fc_drVal
  have eo : ∀ k, k < S → (nI (offS q md k)).toInt = (offS q md k : Int) := fun k hk => nI_toInt (by have := offb k hk; omega)
  rcases hw with rfl | rfl
  · -- the most
    have V := it_inv (P := fun j (b : Int32) => (b = -1000 ∨ ∃ l, Rc M N l ∧ b.toInt = dl q pp md l) ∧ ∀ k, k < j → ¬ sx_I Z 19 k = -1000 → (sx_I Z 19 k).toInt - offS q md k ≤ b.toInt) (f := fun k b => fc_drD md 0 (nI q) k b Z) (n := S) ?_ S 0 (-1000) (by omega) ⟨Or.inl rfl, fun k hk => absurd hk (by omega)⟩
    · rw [if_pos rfl]
      obtain ⟨V1, V2⟩ := V
      refine ⟨?_, fun l hl => ⟨fun _ => ?_, fun z => absurd z (by decide)⟩, a2.tr L2⟩
      · rcases V1 with e | e
        · have := V2 _ (stl _ l0) (ne _ l0)
          have h3 := (L1.1 _ l0).2
          have h4 := offb _ (stl _ l0)
          rw [e] at this
          omega
        · exact e
      · have h1 := V2 _ (stl _ hl) (ne _ hl)
        have h3 := (L1.1 _ hl).2
        unfold dl; omega
    · intro k b hk ⟨i1, i2⟩
      unfold fc_drD
      rw [off_eq hq hq2 (by omega), rl_c (show k < 100000 by omega), if_pos rfl, if_neg (by decide : ¬ (0 : Int32) = 1), if_neg (by decide : ¬ (0 : Int32) = 1)]
      by_cases c : sx_I Z 19 k = -1000
      · rw [if_pos c]
        refine ⟨i1, fun j hj hm => ?_⟩
        by_cases e : j = k
        · rw [e] at hm; exact absurd c hm
        · exact i2 j (by omega) hm
      · rw [if_neg c]
        obtain ⟨g1, g2, g3, g4⟩ := L1.rg hN1 hk c
        have ob := offb k hk
        have es : (sx_I Z 19 k - nI (offS q md k)).toInt = (sx_I Z 19 k).toInt - offS q md k := by
          rw [Int32.toInt_sub, eo k hk, Int.bmod_eq_of_le (by omega) (by omega)]
        by_cases c2 : sx_I Z 19 k - nI (offS q md k) ≤ b
        · rw [if_pos c2]
          rw [Int32.le_iff_toInt_le, es] at c2
          refine ⟨i1, fun j hj hm => ?_⟩
          by_cases e : j = k
          · rw [e]; exact c2
          · exact i2 j (by omega) hm
        · rw [if_neg c2]
          rw [Int32.le_iff_toInt_le, es] at c2
          obtain ⟨⟨l, r, s, v⟩, _⟩ := L1.2 k hk c
          refine ⟨Or.inr ⟨l, r, by rw [es]; unfold dl; rw [s]; omega⟩, fun j hj hm => ?_⟩
          rw [es]
          by_cases e : j = k
          · rw [e]; omega
          · have := i2 j (by omega) hm; omega
  · -- the least
    have V := it_inv (P := fun j (b : Int32) => (b = 1000 ∨ ∃ l, Rc M N l ∧ b.toInt = dl q pp md l) ∧ ∀ k, k < j → ¬ sx_I Z 19 k = -1000 → b.toInt ≤ (sx_I Z 20 k).toInt - offS q md k) (f := fun k b => fc_drD md 1 (nI q) k b Z) (n := S) ?_ S 0 1000 (by omega) ⟨Or.inl rfl, fun k hk => absurd hk (by omega)⟩
    · rw [if_neg (by decide : ¬ (1 : Int32) = 0)]
      obtain ⟨V1, V2⟩ := V
      refine ⟨?_, fun l hl => ⟨fun z => absurd z (by decide), fun _ => ?_⟩, a2.tr L2⟩
      · rcases V1 with e | e
        · have := V2 _ (stl _ l0) (ne _ l0)
          have h3 := (L1.1 _ l0).1
          have h4 := vb _ l0
          rw [e] at this
          omega
        · exact e
      · have h1 := V2 _ (stl _ hl) (ne _ hl)
        have h3 := (L1.1 _ hl).1
        unfold dl; omega
    · intro k b hk ⟨i1, i2⟩
      unfold fc_drD
      rw [off_eq hq hq2 (by omega), rl_c (show k < 100000 by omega), if_neg (by decide : ¬ (1 : Int32) = 0), if_pos rfl]
      by_cases c : sx_I Z 19 k = -1000
      · rw [if_pos c]
        refine ⟨i1, fun j hj hm => ?_⟩
        by_cases e : j = k
        · rw [e] at hm; exact absurd c hm
        · exact i2 j (by omega) hm
      · rw [if_neg c]
        obtain ⟨g1, g2, g3, g4⟩ := L1.rg hN1 hk c
        have ob := offb k hk
        have es : (sx_I Z 20 k - nI (offS q md k)).toInt = (sx_I Z 20 k).toInt - offS q md k := by
          rw [Int32.toInt_sub, eo k hk, Int.bmod_eq_of_le (by omega) (by omega)]
        by_cases c2 : b ≤ sx_I Z 20 k - nI (offS q md k)
        · rw [if_pos c2]
          rw [Int32.le_iff_toInt_le, es] at c2
          refine ⟨i1, fun j hj hm => ?_⟩
          by_cases e : j = k
          · rw [e]; exact c2
          · exact i2 j (by omega) hm
        · rw [if_neg c2]
          rw [Int32.le_iff_toInt_le, es] at c2
          obtain ⟨_, ⟨l, r, s, v⟩⟩ := L1.2 k hk c
          refine ⟨Or.inr ⟨l, r, by rw [es]; unfold dl; rw [s]; omega⟩, fun j hj hm => ?_⟩
          rw [es]
          by_cases e : j = k
          · rw [e]; omega
          · have := i2 j (by omega) hm; omega
