/-! drift: the model's walk, the whole; both answers are the same. Own work. -/
set_option maxRecDepth 100000
/-- one cell of the model's walk -/
theorem dE_one {q r k : Nat} {md : Int32} {sg : Int64} {s : Int} {m : sx_M} {done : Nat → Nat → Prop} (hq : 1 ≤ q) (hq2 : q ≤ 100) (hs : sg.toInt = s) (hs2 : s = 1 ∨ s = -1) (hr : r < 2 * q) (hk : k < 2 * q) (hb : FARn < (sx_L m 48 r).toInt ∧ (sx_L m 48 r).toInt.natAbs ≤ 2000)
    (h : mN q md s (sx_I m 50) (sx_L m 48) (sx_L m 49) done) :
    mN q md s (sx_I m 50) (sx_L m 48) (sx_L (fm_drE md (nI q) (nI (2 * q)) sg r k m) 49) (fun a b => done a b ∨ (a = r ∧ b = k)) ∧ sx_I (fm_drE md (nI q) (nI (2 * q)) sg r k m) 50 = sx_I m 50 ∧ sx_L (fm_drE md (nI q) (nI (2 * q)) sg r k m) 48 = sx_L m 48 ∧ mf m (fm_drE md (nI q) (nI (2 * q)) sg r k m) := by
  have ix : ((nI r + nI k) - (nI r + nI k) / nI (2 * q) * nI (2 * q) : Int32).toNatClampNeg = (r + k) % (2 * q) := by
    rw [nI_add, pk_rem (by omega) (by omega) (by omega), nI_clamp (by have := Nat.mod_lt (r + k) (show 0 < 2 * q by omega); omega)]
  obtain ⟨c1, c2⟩ := cv_64 (md := md) hq hq2 hk
  have bs : bq sg 1 := by unfold bq; rw [hs]; rcases hs2 with e | e <;> rw [e] <;> decide
  have ev : (sx_L m 48 r + sg * ((nI q).toInt64 * fm_times ((nI k).toInt64) (nI q).toInt64 md - (nI k).toInt64)).toInt = (sx_L m 48 r).toInt + s * cv q md k := by
    rw [pn_addI (A := 2000) (B := 100) hb.2 (pn_mul bs c2 (by decide)) (by decide), pn_mulI bs c2 (by decide), hs, c1]
  generalize hv : sx_L m 48 r + sg * ((nI q).toInt64 * fm_times ((nI k).toInt64) (nI q).toInt64 md - (nI k).toInt64) = v at *
  have key : ∀ ne : Nat → Int64, (∀ j, j ≠ (r + k) % (2 * q) → ne j = sx_L m 49 j) → (sx_I m 50 k = 0 → ne ((r + k) % (2 * q)) = sx_L m 49 ((r + k) % (2 * q))) → (¬ sx_I m 50 k = 0 → (ne ((r + k) % (2 * q))).toInt = max (sx_L m 49 ((r + k) % (2 * q))).toInt ((sx_L m 48 r).toInt + s * cv q md k)) → mN q md s (sx_I m 50) (sx_L m 48) ne (fun a b => done a b ∨ (a = r ∧ b = k)) := by
    intro ne n1 n2 n3
    refine ⟨fun a b hd ha hb2 => ?_, fun j hj => ?_⟩
    · rcases hd with hd | ⟨rfl, rfl⟩
      · have := h.1 a b hd ha hb2
        by_cases e : (a + b) % (2 * q) = (r + k) % (2 * q)
        · rw [e] at this ⊢
          by_cases z : sx_I m 50 k = 0
          · rw [n2 z]; exact this
          · rw [n3 z]; omega
        · rw [n1 _ e]; exact this
      · rw [n3 hb2]; omega
    · by_cases e : j = (r + k) % (2 * q)
      · subst e
        by_cases z : sx_I m 50 k = 0
        · rw [n2 z]
          rcases h.2 _ hj with q1 | ⟨a, b, d1, d2, d3, d4, d5⟩
          · exact Or.inl q1
          · exact Or.inr ⟨a, b, Or.inl d1, d2, d3, d4, d5⟩
        · rw [n3 z]
          by_cases g : (sx_L m 48 r).toInt + s * cv q md k ≤ (sx_L m 49 ((r + k) % (2 * q))).toInt
          · rw [show max (sx_L m 49 ((r + k) % (2 * q))).toInt ((sx_L m 48 r).toInt + s * cv q md k) = (sx_L m 49 ((r + k) % (2 * q))).toInt by omega]
            rcases h.2 _ hj with q1 | ⟨a, b, d1, d2, d3, d4, d5⟩
            · exact Or.inl q1
            · exact Or.inr ⟨a, b, Or.inl d1, d2, d3, d4, d5⟩
          · exact Or.inr ⟨r, k, Or.inr ⟨rfl, rfl⟩, hb.1, z, rfl, by omega⟩
      · rw [n1 _ e]
        rcases h.2 _ hj with q1 | ⟨a, b, d1, d2, d3, d4, d5⟩
        · exact Or.inl q1
        · exact Or.inr ⟨a, b, Or.inl d1, d2, d3, d4, d5⟩
  unfold fm_drE
  rw [ix, rl_c (show k < 100000 by omega), rl_c (show r < 100000 by omega), hv]
  by_cases z : sx_I m 50 k = 0
  · rw [if_pos z]
    refine ⟨key _ (fun j hj => ?_) (fun _ => ?_) (fun y => absurd z y), rfl, rfl, mf_49⟩
    · show vp_updL (sx_L m 49) ((r + k) % (2 * q)) _ j = _
      rw [rg_uL, if_neg hj]
    · show vp_updL (sx_L m 49) ((r + k) % (2 * q)) _ ((r + k) % (2 * q)) = _
      rw [rg_uL, if_pos rfl]
  · rw [if_neg z]
    by_cases c : v ≤ sx_L m 49 ((r + k) % (2 * q))
    · rw [if_pos c]
      rw [pn_le, ev] at c
      refine ⟨key _ (fun j hj => ?_) (fun y => absurd y z) (fun _ => ?_), rfl, rfl, mf_49⟩
      · show vp_updL (sx_L m 49) ((r + k) % (2 * q)) _ j = _
        rw [rg_uL, if_neg hj]
      · show (vp_updL (sx_L m 49) ((r + k) % (2 * q)) _ ((r + k) % (2 * q))).toInt = _
        rw [rg_uL, if_pos rfl]; omega
    · rw [if_neg c]
      rw [pn_le, ev] at c
      refine ⟨key _ (fun j hj => ?_) (fun y => absurd y z) (fun _ => ?_), rfl, rfl, mf_49⟩
      · show vp_updL (sx_L m 49) ((r + k) % (2 * q)) _ j = _
        rw [rg_uL, if_neg hj]
      · show (vp_updL (sx_L m 49) ((r + k) % (2 * q)) v ((r + k) % (2 * q))).toInt = _
        rw [rg_uL, if_pos rfl, ev]; omega
/-- one line more, in the model -/
theorem dK_one {q pp X i : Nat} {md : Int32} {sg : Int64} {s : Int} {m : sx_M} (hq : 1 ≤ q) (hq2 : q ≤ 100) (hs : sg.toInt = s) (hs2 : s = 1 ∨ s = -1) (hi : i < 12) (hre : ∀ d, d < 2 * q → (¬ sx_I m 50 d = 0 ↔ ∃ x, x ≤ X ∧ (x * pp) % (2 * q) = d)) (h : mI q pp md s X i (sx_L m 48)) :
    mI q pp md s X (i + 1) (sx_L (fm_drK md (nI q) (nI (2 * q)) sg (2 * q) m) 48) ∧ sx_I (fm_drK md (nI q) (nI (2 * q)) sg (2 * q) m) 50 = sx_I m 50 ∧ mf m (fm_drK md (nI q) (nI (2 * q)) sg (2 * q) m) := by
  have bnd : ∀ r, r < 2 * q → FARn < (sx_L m 48 r).toInt → (sx_L m 48 r).toInt.natAbs ≤ 2000 := fun r hr hf => by
    obtain ⟨l, rl, _, e⟩ := h.2 r hr hf
    have := aW_b (pp := pp) (md := md) hq l
    rw [rl.1] at this
    have m1 : i * q ≤ 12 * 100 := Nat.mul_le_mul (by omega) hq2
    rw [e, Int.natAbs_mul]
    rcases hs2 with e2 | e2 <;> rw [e2] <;> simp <;> omega
  unfold fm_drK
  have C : (fun z : sx_M => (∀ j, j < 2 * q → (sx_L z 49 j).toInt = FARn) ∧ sx_I z 50 = sx_I m 50 ∧ sx_L z 48 = sx_L m 48 ∧ mf m z) (it_up fm_drC (2 * q) 0 m) := by
    refine it_inv (P := fun n (z : sx_M) => (∀ j, j < n → (sx_L z 49 j).toInt = FARn) ∧ sx_I z 50 = sx_I m 50 ∧ sx_L z 48 = sx_L m 48 ∧ mf m z) (n := 2 * q) ?_ (2 * q) 0 m (by omega) ⟨fun j hj => absurd hj (by omega), rfl, rfl, mf.refl m⟩
    intro n z hn ⟨h1, h2, h3, h4⟩
    unfold fm_drC
    rw [rl_c (show n < 100000 by omega)]
    refine ⟨fun j hj => ?_, h2, h3, h4.tr mf_49⟩
    show (vp_updL (sx_L z 49) n (-1099511627776) j).toInt = _
    rw [rg_uL]
    by_cases c : j = n
    · rw [if_pos c]; exact FARe
    · rw [if_neg c]; exact h1 j (by omega)
  obtain ⟨c1, c2, c3, c4⟩ := C
  generalize it_up fm_drC (2 * q) 0 m = Z at *
  have R := it_inv (P := fun r (z : sx_M) => mN q md s (sx_I m 50) (sx_L m 48) (sx_L z 49) (fun a b => a < r ∧ b < 2 * q) ∧ sx_I z 50 = sx_I m 50 ∧ sx_L z 48 = sx_L m 48 ∧ mf m z) (f := fm_drR md (nI q) (nI (2 * q)) sg (2 * q)) (n := 2 * q) (fun r z hr ⟨i1, i2, i3, i4⟩ => by
    unfold fm_drR
    rw [rl_c (show r < 100000 by omega), i3]
    by_cases c : sx_L m 48 r ≤ -1099511627776
    · rw [if_pos c]
      rw [pn_le, FARe] at c
      refine ⟨⟨fun a b hd ha hb => ?_, fun j hj => ?_⟩, i2, i3, i4⟩
      · by_cases e : a = r
        · rw [e] at ha; omega
        · exact i1.1 a b ⟨by omega, hd.2⟩ ha hb
      · rcases i1.2 j hj with q1 | ⟨a, b, ⟨d1, d1'⟩, d2, d3, d4, d5⟩
        · exact Or.inl q1
        · exact Or.inr ⟨a, b, ⟨by omega, d1'⟩, d2, d3, d4, d5⟩
    · rw [if_neg c]
      rw [pn_le, FARe] at c
      have hb := bnd r hr (by omega)
      have E := it_inv (P := fun d (y : sx_M) => mN q md s (sx_I m 50) (sx_L m 48) (sx_L y 49) (fun a b => (a < r ∧ b < 2 * q) ∨ (a = r ∧ b < d)) ∧ sx_I y 50 = sx_I m 50 ∧ sx_L y 48 = sx_L m 48 ∧ mf m y) (f := fm_drE md (nI q) (nI (2 * q)) sg r) (n := 2 * q) (fun d y hd ⟨j1, j2, j3, j4⟩ => by
        rw [← j2, ← j3] at j1
        obtain ⟨s1, s2, s3, s4⟩ := dE_one (q := q) (r := r) (k := d) (md := md) (sg := sg) (s := s) (m := y) hq hq2 hs hs2 hr hd (by rw [j3]; exact ⟨by omega, hb⟩) j1
        rw [j2, j3] at s1
        exact ⟨s1.imp fun a b => by omega, s2.trans j2, s3.trans j3, j4.tr s4⟩) (2 * q) 0 z (by omega) ⟨i1.imp fun a b => by omega, i2, i3, i4⟩
      exact ⟨E.1.imp fun a b => by omega, E.2⟩) (2 * q) 0 Z (by omega) ⟨⟨fun a b hd => absurd hd.1 (by omega), fun j hj => Or.inl (c1 j hj)⟩, c2, c3, c4⟩
  obtain ⟨r1, r2, r3, r4⟩ := R
  generalize it_up (fm_drR md (nI q) (nI (2 * q)) sg (2 * q)) (2 * q) 0 Z = Y at *
  have G : (fun z : sx_M => (∀ j, j < 2 * q → sx_L z 48 j = sx_L Y 49 j) ∧ sx_L z 49 = sx_L Y 49 ∧ sx_I z 50 = sx_I m 50 ∧ mf m z) (it_up fm_drG (2 * q) 0 Y) := by
    refine it_inv (P := fun n (z : sx_M) => (∀ j, j < n → sx_L z 48 j = sx_L Y 49 j) ∧ sx_L z 49 = sx_L Y 49 ∧ sx_I z 50 = sx_I m 50 ∧ mf m z) (n := 2 * q) ?_ (2 * q) 0 Y (by omega) ⟨fun j hj => absurd hj (by omega), rfl, r2, r4⟩
    intro n z hn ⟨h1, h2, h3, h4⟩
    unfold fm_drG
    rw [rl_c (show n < 100000 by omega)]
    refine ⟨fun j hj => ?_, h2, h3, h4.tr mf_48⟩
    show vp_updL (sx_L z 48) n (sx_L z 49 n) j = _
    rw [rg_uL]
    by_cases c : j = n
    · rw [if_pos c, c, h2]
    · rw [if_neg c]; exact h1 j (by omega)
  obtain ⟨g1, _, g3, g4⟩ := G
  generalize it_up fm_drG (2 * q) 0 Y = V at *
  have p2 : 0 < 2 * q := by omega
  refine ⟨⟨fun l hl => ?_, fun r hr hf => ?_⟩, g3, g4⟩
  · obtain ⟨a, t, rfl, ha, ht⟩ := hl.uncons
    have hy : aY pp (a :: t) % (2 * q) = (aY pp t % (2 * q) + a * pp % (2 * q)) % (2 * q) := by
      show (aY pp t + a * pp) % (2 * q) = _
      rw [Nat.add_mod]
    have w := aW_b (pp := pp) (md := md) hq t
    rw [ht.1] at w
    have m1 : i * q ≤ 12 * 100 := Nat.mul_le_mul (by omega) hq2
    have v1 := h.1 t ht
    have far : FARn < (sx_L m 48 (aY pp t % (2 * q))).toInt := by
      show (-1099511627776 : Int) < _
      rcases hs2 with e2 | e2 <;> rw [e2] at v1 <;> omega
    have dm : a * pp % (2 * q) < 2 * q := Nat.mod_lt _ p2
    have re : ¬ sx_I m 50 (a * pp % (2 * q)) = 0 := (hre _ dm).mpr ⟨a, ha, rfl⟩
    have := r1.1 (aY pp t % (2 * q)) (a * pp % (2 * q)) ⟨Nat.mod_lt _ p2, dm⟩ far re
    rw [hy, g1 _ (Nat.mod_lt _ p2), aW_cons, Int.mul_add, ← cv_mod q md (a * pp)]
    omega
  · rw [g1 r hr] at hf
    rw [g1 r hr]
    rcases r1.2 r hr with q1 | ⟨a, d, ⟨d1, d1'⟩, d2, d3, d4, d5⟩
    · rw [q1] at hf; omega
    · obtain ⟨l, rl, yl, el⟩ := h.2 a d1 d2
      obtain ⟨x, hx, ex⟩ := (hre d d1').mp d3
      refine ⟨x :: l, rl.cons hx, ?_, ?_⟩
      · show (aY pp l + x * pp) % (2 * q) = r
        rw [Nat.add_mod, yl, ex]; exact d4
      · rw [d5, el, aW_cons, Int.mul_add, ← cv_mod q md (x * pp), ex]
/-- the model's walk over all lines, and its answer -/
theorem dm_all {q pp X N : Nat} {md : Int32} {sg : Int64} {s : Int} {m : sx_M} (hq : 1 ≤ q) (hq2 : q ≤ 100) (hpp : pp ≤ 10000) (hX : X ≤ 1000) (hN : N ≤ 12) (hs : sg.toInt = s) (hs2 : s = 1 ∨ s = -1) :
    (∃ l, Rc X N l ∧ ((sg * (it_up (fm_drD (fm_drZ m md (nI pp) (nI q) (nI (2 * q)) sg (2 * q) N X) md (nI q) sg) (2 * q) 0 (-1099511627776)) / (nI q).toInt64).toInt32).toInt = dl q pp md l) ∧
    (∀ l, Rc X N l → s * dl q pp md l ≤ s * ((sg * (it_up (fm_drD (fm_drZ m md (nI pp) (nI q) (nI (2 * q)) sg (2 * q) N X) md (nI q) sg) (2 * q) 0 (-1099511627776)) / (nI q).toInt64).toInt32).toInt) ∧
    mf m (fm_drZ m md (nI pp) (nI q) (nI (2 * q)) sg (2 * q) N X) := by
  have p2 : 0 < 2 * q := by omega
  -- the beginning
  have A : (fun z : sx_M => (∀ j, j < 2 * q → sx_I z 50 j = 0 ∧ (sx_L z 48 j).toInt = if j = 0 then 0 else FARn) ∧ mf m z) (it_up fm_drA (2 * q) 0 m) := by
    refine it_inv (P := fun n (z : sx_M) => (∀ j, j < n → sx_I z 50 j = 0 ∧ (sx_L z 48 j).toInt = if j = 0 then 0 else FARn) ∧ mf m z) (n := 2 * q) ?_ (2 * q) 0 m (by omega) ⟨fun j hj => absurd hj (by omega), mf.refl m⟩
    intro n z hn ⟨h1, h2⟩
    unfold fm_drA
    rw [rl_c (show n < 100000 by omega)]
    by_cases n0 : n = 0
    · subst n0
      rw [if_pos (show nI 0 = 0 from rfl)]
      refine ⟨fun j hj => ?_, h2.tr (mf_50.tr mf_48)⟩
      have : j = 0 := by omega
      subst this
      show upd (sx_I z 50) 0 (vp_nar .boolean 0) 0 = 0 ∧ (vp_updL (sx_L z 48) 0 0 0).toInt = _
      rw [rg_u, rg_uL, if_pos rfl, if_pos rfl, if_pos rfl]
      exact ⟨rfl, rfl⟩
    · rw [if_neg (nI_ne0 (by omega) (by omega))]
      refine ⟨fun j hj => ?_, h2.tr (mf_50.tr mf_48)⟩
      show upd (sx_I z 50) n (vp_nar .boolean 0) j = 0 ∧ (vp_updL (sx_L z 48) n (-1099511627776) j).toInt = _
      rw [rg_u, rg_uL]
      by_cases c : j = n
      · rw [if_pos c, if_pos c, if_neg (by omega)]; exact ⟨rfl, FARe⟩
      · rw [if_neg c, if_neg c]; exact h1 j (by omega)
  obtain ⟨a1, a2⟩ := A
  unfold fm_drZ
  generalize it_up fm_drA (2 * q) 0 m = ZA at *
  have B : (fun z : sx_M => (∀ d, d < 2 * q → (sx_I z 50 d = 0 ∨ sx_I z 50 d = 1) ∧ (¬ sx_I z 50 d = 0 ↔ ∃ x, x < X + 1 ∧ (x * pp) % (2 * q) = d)) ∧ sx_L z 48 = sx_L ZA 48 ∧ mf m z) (it_up (fm_drB (nI pp) (nI (2 * q))) (X + 1) 0 ZA) := by
    refine it_inv (P := fun n (z : sx_M) => (∀ d, d < 2 * q → (sx_I z 50 d = 0 ∨ sx_I z 50 d = 1) ∧ (¬ sx_I z 50 d = 0 ↔ ∃ x, x < n ∧ (x * pp) % (2 * q) = d)) ∧ sx_L z 48 = sx_L ZA 48 ∧ mf m z) (n := X + 1) ?_ (X + 1) 0 ZA (by omega) ⟨fun d hd => ⟨Or.inl (a1 d hd).1, ⟨fun z => absurd (a1 d hd).1 z, fun ⟨x, hx, _⟩ => absurd hx (by omega)⟩⟩, rfl, a2⟩
    intro n z hn ⟨h1, h2, h3⟩
    have np : n * pp ≤ 1000 * 10000 := Nat.mul_le_mul (by omega) hpp
    have ml := Nat.mod_lt (n * pp) p2
    have ix : (((nI n).toInt64 * (nI pp).toInt64) - ((nI n).toInt64 * (nI pp).toInt64) / (nI (2 * q)).toInt64 * (nI (2 * q)).toInt64).toInt32.toNatClampNeg = (n * pp) % (2 * q) := by
      rw [nI_64 (by omega), nI_64 (by omega), nI_64 (by omega)]
      have e1 : lN n * lN pp = lN (n * pp) := by unfold lN; rw [← Int64.ofNat_mul]
      have q0 : 0 < lN (2 * q) := by rw [pn_lt, lN_I (by omega), pn_l0]; omega
      have e2 : lN (n * pp) - lN (n * pp) / lN (2 * q) * lN (2 * q) = lN ((n * pp) % (2 * q)) := by
        rw [pn_eq, (pl_div (a := lN (n * pp)) q0).2.2, lN_I (by omega), lN_I (by omega), lN_I (by omega), Int.tdiv_eq_ediv_of_nonneg (Int.natCast_nonneg _)]
        have := Nat.div_add_mod (n * pp) (2 * q)
        have c : (((n * pp) / (2 * q) : Nat) : Int) = ((n * pp : Nat) : Int) / ((2 * q : Nat) : Int) := rfl
        rw [← c, ← Int.natCast_mul, Nat.mul_comm ((n * pp) / (2 * q))]
        omega
      rw [e1, e2, show (lN ((n * pp) % (2 * q))).toInt32 = nI ((n * pp) % (2 * q)) from ?_, nI_clamp (by omega)]
      apply Int32.toInt_inj.mp
      rw [Int64.toInt_toInt32, lN_I (by omega), nI_toInt (by omega), Int.bmod_eq_of_le (by omega) (by omega)]
    unfold fm_drB
    rw [ix]
    refine ⟨fun d hd => ?_, h2, h3.tr mf_50⟩
    show (upd (sx_I z 50) ((n * pp) % (2 * q)) (vp_nar .boolean 1) d = 0 ∨ upd (sx_I z 50) ((n * pp) % (2 * q)) (vp_nar .boolean 1) d = 1) ∧ (¬ upd (sx_I z 50) ((n * pp) % (2 * q)) (vp_nar .boolean 1) d = 0 ↔ _)
    rw [rg_u]
    by_cases c : d = (n * pp) % (2 * q)
    · rw [if_pos c]
      exact ⟨Or.inr rfl, fun _ => ⟨n, by omega, c.symm⟩, fun _ => by decide⟩
    · rw [if_neg c]
      refine ⟨(h1 d hd).1, fun y => ?_, fun ⟨x, hx, ex⟩ => (h1 d hd).2.mpr ⟨x, ?_, ex⟩⟩
      · obtain ⟨x, hx, ex⟩ := (h1 d hd).2.mp y
        exact ⟨x, by omega, ex⟩
      · have : x ≠ n := fun e => c (by rw [← ex, e])
        omega
  obtain ⟨b1, b2, b3⟩ := B
  generalize it_up (fm_drB (nI pp) (nI (2 * q))) (X + 1) 0 ZA = ZB at *
  have hre : ∀ d, d < 2 * q → (¬ sx_I ZB 50 d = 0 ↔ ∃ x, x ≤ X ∧ (x * pp) % (2 * q) = d) := fun d hd => by
    rw [(b1 d hd).2]
    exact ⟨fun ⟨x, hx, e⟩ => ⟨x, by omega, e⟩, fun ⟨x, hx, e⟩ => ⟨x, by omega, e⟩⟩
  have m0 : mI q pp md s X 0 (sx_L ZB 48) := by
    rw [b2]
    refine ⟨fun l hl => ?_, fun r hr hf => ?_⟩
    · have : l = [] := List.length_eq_zero_iff.mp hl.1
      subst this
      show s * ((q : Int) * ((0 : Nat) : Int) - ((0 : Nat) : Int)) ≤ (sx_L ZA 48 (0 % (2 * q))).toInt
      rw [Nat.zero_mod, (a1 0 p2).2, if_pos rfl]
      simp
    · rw [(a1 r hr).2] at hf
      by_cases r0 : r = 0
      · subst r0
        refine ⟨[], ⟨rfl, by simp⟩, Nat.zero_mod _, ?_⟩
        rw [(a1 0 p2).2, if_pos rfl]
        show (0 : Int) = s * ((q : Int) * ((0 : Nat) : Int) - ((0 : Nat) : Int))
        simp
      · rw [if_neg r0] at hf; omega
  have L := it_inv (P := fun i (z : sx_M) => mI q pp md s X i (sx_L z 48) ∧ sx_I z 50 = sx_I ZB 50 ∧ mf m z) (f := fun _ => fm_drK md (nI q) (nI (2 * q)) sg (2 * q)) (n := N) (fun i z hi ⟨x1, x2, x3⟩ => by
    obtain ⟨y1, y2, y3⟩ := dK_one (q := q) (pp := pp) (X := X) (i := i) (md := md) (sg := sg) (s := s) (m := z) hq hq2 hs hs2 (by omega) (by rw [x2]; exact hre) x1
    exact ⟨y1, y2.trans x2, x3.tr y3⟩) N 0 ZB (by omega) ⟨m0, rfl, b3⟩
  obtain ⟨L1, _, L3⟩ := L
  generalize it_up (fun _ => fm_drK md (nI q) (nI (2 * q)) sg (2 * q)) N 0 ZB = V at *
  have bs : bq sg 1 := by unfold bq; rw [hs]; rcases hs2 with e | e <;> rw [e] <;> decide
  have wb : ∀ l, Rc X N l → (aW q pp md l).natAbs ≤ 1200 := fun l hl => by
    have := aW_b (pp := pp) (md := md) hq l
    rw [hl.1] at this
    have m1 : N * q ≤ 12 * 100 := Nat.mul_le_mul hN hq2
    omega
  have sb : ∀ z : Int, (s * z).natAbs = z.natAbs := fun z => by rcases hs2 with e | e <;> rw [e] <;> simp
  have T := it_inv (P := fun j (t : Int64) => (t.toInt = FARn ∨ ∃ l, Rc X N l ∧ t.toInt = s * (aW q pp md l - cv q md (aY pp l % (2 * q)))) ∧ ∀ k, k < j → FARn < (sx_L V 48 k).toInt → (sx_L V 48 k).toInt - s * cv q md k ≤ t.toInt) (f := fm_drD V md (nI q) sg) (n := 2 * q) (fun k t hk ⟨i1, i2⟩ => by
    obtain ⟨c1, c2⟩ := cv_64 (md := md) hq hq2 hk
    unfold fm_drD
    rw [rl_c (show k < 100000 by omega)]
    by_cases c : sx_L V 48 k ≤ -1099511627776
    · rw [if_pos c]
      rw [pn_le, FARe] at c
      refine ⟨i1, fun j hj hf => ?_⟩
      by_cases e : j = k
      · rw [e] at hf; omega
      · exact i2 j (by omega) hf
    · rw [if_neg c]
      rw [pn_le, FARe] at c
      obtain ⟨l, rl, yl, el⟩ := L1.2 k hk (by omega)
      have hb : bq (sx_L V 48 k) 1200 := by unfold bq; rw [el, sb]; exact wb l rl
      have ev : (sx_L V 48 k - sg * ((nI q).toInt64 * fm_times ((nI k).toInt64) (nI q).toInt64 md - (nI k).toInt64)).toInt = (sx_L V 48 k).toInt - s * cv q md k := by
        rw [pn_subI hb (pn_mul bs c2 (by decide)) (by decide), pn_mulI bs c2 (by decide), hs, c1]
      by_cases c3 : sx_L V 48 k - sg * ((nI q).toInt64 * fm_times ((nI k).toInt64) (nI q).toInt64 md - (nI k).toInt64) ≤ t
      · rw [if_pos c3]
        rw [pn_le, ev] at c3
        refine ⟨i1, fun j hj hf => ?_⟩
        by_cases e : j = k
        · rw [e]; exact c3
        · exact i2 j (by omega) hf
      · rw [if_neg c3]
        rw [pn_le, ev] at c3
        refine ⟨Or.inr ⟨l, rl, by rw [ev, el, yl, Int.mul_sub]⟩, fun j hj hf => ?_⟩
        rw [ev]
        by_cases e : j = k
        · rw [e]; omega
        · have := i2 j (by omega) hf; omega) (2 * q) 0 (-1099511627776) (by omega) ⟨Or.inl FARe, fun k hk => absurd hk (by omega)⟩
  obtain ⟨T1, T2⟩ := T
  generalize it_up (fm_drD V md (nI q) sg) (2 * q) 0 (-1099511627776) = t at *
  have far : FARn = -1099511627776 := rfl
  have ge : ∀ l, Rc X N l → s * (q * dl q pp md l) ≤ t.toInt := fun l hl => by
    have h1 := L1.1 l hl
    have h2 := wb l hl
    have h3 := sb (aW q pp md l)
    have := T2 (aY pp l % (2 * q)) (Nat.mod_lt _ p2) (by omega)
    rw [cv_mod] at this
    rw [← aW_dl hq md l, Int.mul_sub]
    omega
  have l0 : Rc X N (List.replicate N 0) := ⟨by simp, fun a ha => by rw [(List.mem_replicate.mp ha).2]; omega⟩
  have ex : ∃ l, Rc X N l ∧ t.toInt = s * (q * dl q pp md l) := by
    rcases T1 with e | ⟨l, rl, e⟩
    · have h1 := L1.1 _ l0
      have h2 := wb _ l0
      have h3 := sb (aW q pp md (List.replicate N 0))
      have := T2 (aY pp (List.replicate N 0) % (2 * q)) (Nat.mod_lt _ p2) (by omega)
      have h4 := cv_b (md := md) hq (aY pp (List.replicate N 0) % (2 * q))
      have h5 := sb (cv q md (aY pp (List.replicate N 0) % (2 * q)))
      omega
    · refine ⟨l, rl, ?_⟩
      rw [e, cv_mod, aW_dl hq]
  obtain ⟨l, rl, el⟩ := ex
  have hb : (q * dl q pp md l).natAbs ≤ 1300 := by
    rw [← aW_dl hq md l]
    have := wb l rl
    have := cv_b (md := md) hq (aY pp l)
    omega
  have dlb : (dl q pp md l).natAbs ≤ 1300 := by
    rw [Int.natAbs_mul, Int.natAbs_natCast] at hb
    have : 1 * (dl q pp md l).natAbs ≤ q * (dl q pp md l).natAbs := Nat.mul_le_mul_right _ hq
    omega
  have tb : bq t 1300 := by unfold bq; rw [el, sb]; exact hb
  have q0 : 0 < (nI q).toInt64 := by rw [nI_64 (by omega), pn_lt, lN_I (by omega), pn_l0]; omega
  have eq : (nI q).toInt64.toInt = (q : Int) := by rw [nI_64 (by omega), lN_I (by omega)]
  have es : (sg * t).toInt = q * dl q pp md l := by
    rw [pn_mulI bs tb (by decide), hs, el]
    rcases hs2 with e | e <;> rw [e] <;> simp
  have ed : (sg * t / (nI q).toInt64).toInt = dl q pp md l := by
    rw [(pl_div (a := sg * t) q0).1, es, eq, Int.mul_tdiv_cancel_left _ (by omega)]
  have e32 : ((sg * t / (nI q).toInt64).toInt32).toInt = dl q pp md l := by
    rw [Int64.toInt_toInt32, ed, Int.bmod_eq_of_le (by omega) (by omega)]
  rw [e32]
  refine ⟨⟨l, rl, rfl⟩, fun l2 hl2 => ?_, L3⟩
  have h1 := ge l2 hl2
  rw [el] at h1
  have qp : (0 : Int) < q := by omega
  have h2 : (q : Int) * (s * dl q pp md l2) ≤ (q : Int) * (s * dl q pp md l) := by
    rw [← Int.mul_assoc, ← Int.mul_assoc, Int.mul_comm (q : Int) s, Int.mul_assoc, Int.mul_assoc]
    exact h1
  exact Int.le_of_mul_le_mul_left h2 qp
