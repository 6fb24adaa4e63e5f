/-! PennyJudge: mend (by tools/gen_s6.py) -/
set_option maxRecDepth 100000
def fp_t (a : Nat) (t y : Int32) : Int32 := match a with
  | 4 => y
  | 6 => y
  | _ => t
def fp_v (a : Nat) (v y : Int32) : Int32 := match a with
  | 4 => v
  | 6 => v
  | _ => y
theorem fp_cs_eq {a : Nat} (hc : fp_hc a) (s t v y : Int32) : fp_cs a s t v y = .inr (5 + a, [.int (nI a), .int s, .int (fp_t a t y), .int (fp_v a v y)]) := by
  rcases hc with rfl | rfl | rfl | rfl | rfl <;> rfl
theorem fp_cs_cs {a : Nat} (hc : fp_hc a) (s t v y z : Int32) : fp_cs a s (fp_t a t y) (fp_v a v y) z = fp_cs a s t v z := by
  rcases hc with rfl | rfl | rfl | rfl | rfl <;> rfl
theorem fp_cs_was {a : Nat} (hc : fp_hc a) (s t v : Int32) : fp_cs a s t v (fp_ch a t v) = .inr (5 + a, [.int (nI a), .int s, .int t, .int v]) := by
  rcases hc with rfl | rfl | rfl | rfl | rfl <;> rfl
theorem fp_ch_hc {a : Nat} (h13 : a < 13) {t v : Int32} (h : 0 ≤ fp_ch a t v) : fp_hc a := by
  have h2 : a = 0 ∨ a = 1 ∨ a = 2 ∨ a = 3 ∨ a = 4 ∨ a = 5 ∨ a = 6 ∨ a = 7 ∨ a = 8 ∨ a = 9 ∨ a = 10 ∨ a = 11 ∨ a = 12 := by omega
  rcases h2 with rfl | rfl | rfl | rfl | rfl | rfl | rfl | rfl | rfl | rfl | rfl | rfl | rfl
  all_goals first | (exfalso; exact absurd h (show ¬ (0 : Int32) ≤ -1 by decide)) | (unfold fp_hc; omega)
def fp_cN (a : Nat) : Nat := if a = 6 then 4 else 6
theorem fp_cn_eq {a : Nat} (hc : fp_hc a) : fp_cn a = nI (fp_cN a) ∧ fp_cN a ≤ 6 := by
  rcases hc with rfl | rfl | rfl | rfl | rfl <;> exact ⟨rfl, by decide⟩
theorem sx_set_self {D : pj_H} {i : Nat} {y : pj_E} (h : D[i]? = some y) : D.set i y = D := by
  obtain ⟨h1, h2⟩ := List.getElem?_eq_some_iff.mp h
  rw [← h2]
  exact List.set_getElem_self h1
/-- the choices of one act, from k on: what is good (-1: none yet), the judge -/
def fc_mdI (FB : sx_C → pj_H → Int32 × sx_C) (Dy : Int32 → pj_H) (was : Int32) : Nat → Nat → Int32 × sx_C → Int32 × sx_C
  | 0, _, z => z
  | e + 1, k, z => if 0 ≤ z.1 then z else if nI k = was then fc_mdI FB Dy was e (k + 1) z else fc_mdI FB Dy was e (k + 1) (if (FB z.2 (Dy (nI k))).1 = 9999999 then nI k else z.1, (FB z.2 (Dy (nI k))).2)
theorem lp_mdI {G : pj_G} {d : Nat} {m : sx_M} {o : Nat → Int64} {D : pj_H} {Q : pj_O → pj_H → Prop} {p law fr to : Int32} {pi : Nat} {x a : Nat} {s t v i was : Int32} (hc : fp_hc a) (h0 : D[x]? = some (.inr (5 + a, [.int (nI a), .int s, .int t, .int v]))) (FB : sx_C → pj_H → Int32 × sx_C) (I : sx_C → Prop) (hB : ∀ c k, I c → k < fp_cN a → ¬ nI k = was → pj_Rt G mX1_firstBreak (d + 1) [.ref 2, .ref (pi + 98), .int law, .null, .int fr, .int to] (sx_mk c m o (D.set x (fp_cs a s t v (nI k)))) 0 0 (some (.int (FB c (D.set x (fp_cs a s t v (nI k)))).1)) (sx_mk (FB c (D.set x (fp_cs a s t v (nI k)))).2 m o (D.set x (fp_cs a s t v (nI k)))) ∧ I (FB c (D.set x (fp_cs a s t v (nI k)))).2) :
    ∀ (e k : Nat) (z : Int32 × sx_C) (y : Int32), k + e = fp_cN a → I z.2 → (∀ w y2, fc_mdI FB (fun y => (D.set x (fp_cs a s t v y))) was e k z = w → I w.2 → pj_J G mX1_mend (d + 2) 169 [some (.ref 2), some (.int p), some (.int law), some (.int fr), some (.int to), some (.ref (pi + 98)), some (.int i), some (.ref (x + 98)), some (.int was), some (.int w.1), none] [] (sx_mk w.2 m o (D.set x (fp_cs a s t v y2))) 0 0 Q) → pj_J G mX1_mend (d + 2) 110 [some (.ref 2), some (.int p), some (.int law), some (.int fr), some (.int to), some (.ref (pi + 98)), some (.int i), some (.ref (x + 98)), some (.int was), some (.int z.1), some (.int (nI k))] [] (sx_mk z.2 m o (D.set x (fp_cs a s t v y))) 0 0 Q := by
  obtain ⟨hcn, h6⟩ := fp_cn_eq hc
  intro e
  induction e with
  | zero =>
    intro k z y hk hi kk
    have ha : (D.set x (fp_cs a s t v y))[x]? = some (.inr (5 + a, [.int (nI a), .int s, .int (fp_t a t y), .int (fp_v a v y)])) := by rw [← fp_cs_eq hc]; exact sx_set_at h0
    refine lx_md3 ?_
    refine lc_choices _ (by rcases hc with rfl | rfl | rfl | rfl | rfl <;> decide) ha ?_
    refine lx_md4e _ (Or.inl ?_) (kk z y rfl hi)
    rw [hcn]
    exact nI_le (by omega) (by omega)
  | succ e ih =>
    intro k z y hk hi kk
    have ha : (D.set x (fp_cs a s t v y))[x]? = some (.inr (5 + a, [.int (nI a), .int s, .int (fp_t a t y), .int (fp_v a v y)])) := by rw [← fp_cs_eq hc]; exact sx_set_at h0
    refine lx_md3 ?_
    refine lc_choices _ (by rcases hc with rfl | rfl | rfl | rfl | rfl <;> decide) ha ?_
    unfold fc_mdI at kk
    by_cases hg : 0 ≤ z.1
    · rw [if_pos hg] at kk
      exact lx_md4e _ (Or.inr hg) (kk z y rfl hi)
    · rw [if_neg hg] at kk
      have hlt : ¬ fp_cn a ≤ nI k := by rw [hcn]; exact nI_lt_lit (by omega) (by omega)
      by_cases hw : nI k = was
      · rw [if_pos hw] at kk
        refine lx_md4s _ hlt hg hw ?_
        rw [nI_add1]
        exact ih (k + 1) z y (by omega) hi kk
      · rw [if_neg hw] at kk
        refine lx_md4c _ hlt hg hw ?_
        refine lc_choose139 _ hc ha ?_
        rw [fp_cs_cs hc, List.set_set]
        obtain ⟨h1, h2⟩ := hB z.2 k hi (by omega) hw
        refine lx_md5 _ _ h1 ?_
        rw [nI_add1]
        exact ih (k + 1) (if (FB z.2 (D.set x (fp_cs a s t v (nI k)))).1 = 9999999 then nI k else z.1, (FB z.2 (D.set x (fp_cs a s t v (nI k)))).2) (nI k) (by omega) h2 kk
/-- mend's walk over the acts from k on (x: where the acts stand) -/
def fc_mdO (FB : sx_C → pj_H → Int32 × sx_C) (D : pj_H) (A : fp_A) (x : Nat → Nat) : Nat → Nat → sx_C → Int32 × sx_C
  | 0, _, c => (-3, c)
  | e + 1, k, c => if 0 ≤ fp_ch (A k).1 (A k).2.2.1 (A k).2.2.2 then
      (if (fc_mdI FB (fun y => D.set (x k) (fp_cs (A k).1 (A k).2.1 (A k).2.2.1 (A k).2.2.2 y)) (fp_ch (A k).1 (A k).2.2.1 (A k).2.2.2) (fp_cN (A k).1) 0 (-1, c)).1 < 0 then fc_mdO FB D A x e (k + 1) (fc_mdI FB (fun y => D.set (x k) (fp_cs (A k).1 (A k).2.1 (A k).2.2.1 (A k).2.2.2 y)) (fp_ch (A k).1 (A k).2.2.1 (A k).2.2.2) (fp_cN (A k).1) 0 (-1, c)).2
       else (10 * nI k + (fc_mdI FB (fun y => D.set (x k) (fp_cs (A k).1 (A k).2.1 (A k).2.2.1 (A k).2.2.2 y)) (fp_ch (A k).1 (A k).2.2.1 (A k).2.2.2) (fp_cN (A k).1) 0 (-1, c)).1, (fc_mdI FB (fun y => D.set (x k) (fp_cs (A k).1 (A k).2.1 (A k).2.2.1 (A k).2.2.2 y)) (fp_ch (A k).1 (A k).2.2.1 (A k).2.2.2) (fp_cN (A k).1) 0 (-1, c)).2))
    else fc_mdO FB D A x e (k + 1) c
theorem lp_mdO {G : pj_G} {d : Nat} {m : sx_M} {o : Nat → Int64} {D : pj_H} {Q : pj_O → pj_H → Prop} {p law fr to : Int32} {pi : Nat} {ai n : Nat} {cn cd : Int64} (hn : n ≤ 20) (hp : D[pi]? = some (.inr (4, [.ref (ai + 98), .int (nI n), .long cn, .long cd]))) {f : Nat → Option Nat} (hf : D[ai]? = some (.inl (7, (20, .inr (.inr (.inr (.inr f))))))) (A : fp_A) (x : Nat → Nat) (hA : ∀ k, k < n → f k = some (x k + 98) ∧ (A k).1 < 13 ∧ D[x k]? = some (.inr (5 + (A k).1, [.int (nI (A k).1), .int (A k).2.1, .int (A k).2.2.1, .int (A k).2.2.2]))) (FB : sx_C → pj_H → Int32 × sx_C) (I : sx_C → Prop) (hB : ∀ c j k, I c → j < n → k < fp_cN (A j).1 → ¬ nI k = fp_ch (A j).1 (A j).2.2.1 (A j).2.2.2 → pj_Rt G mX1_firstBreak (d + 1) [.ref 2, .ref (pi + 98), .int law, .null, .int fr, .int to] (sx_mk c m o (D.set (x j) (fp_cs (A j).1 (A j).2.1 (A j).2.2.1 (A j).2.2.2 (nI k)))) 0 0 (some (.int (FB c (D.set (x j) (fp_cs (A j).1 (A j).2.1 (A j).2.2.1 (A j).2.2.2 (nI k)))).1)) (sx_mk (FB c (D.set (x j) (fp_cs (A j).1 (A j).2.1 (A j).2.2.1 (A j).2.2.2 (nI k)))).2 m o (D.set (x j) (fp_cs (A j).1 (A j).2.1 (A j).2.2.1 (A j).2.2.2 (nI k)))) ∧ I (FB c (D.set (x j) (fp_cs (A j).1 (A j).2.1 (A j).2.2.1 (A j).2.2.2 (nI k)))).2) :
    ∀ (e k : Nat) (c : sx_C), k + e = n → I c → Q (.inl (some (.int (fc_mdO FB D A x e k c).1))) (sx_mk (fc_mdO FB D A x e k c).2 m o D) → pj_J G mX1_mend (d + 2) 69 [some (.ref 2), some (.int p), some (.int law), some (.int fr), some (.int to), some (.ref (pi + 98)), some (.int (nI k)), none, none, none, none] [] (sx_mk c m o D) 0 0 Q := by
  intro e
  induction e with
  | zero =>
    intro k c hk hi q
    have : k = n := by omega
    subst this
    exact lz_md1 hn hp q
  | succ e ih =>
    intro k c hk hi q
    obtain ⟨hx, h13, ha⟩ := hA k (by omega)
    unfold fc_mdO at q
    refine lx_md1 hn hp hf (by omega) hx ?_
    refine lc_choice h13 ha ?_
    refine lx_md2 _ (fun h => ?_) (fun h => ?_)
    · rw [if_neg h] at q
      rw [nI_add1]
      exact ih (k + 1) c (by omega) hi q
    · rw [if_pos h] at q
      have hc := fp_ch_hc h13 h
      have hD0 : D.set (x k) (fp_cs (A k).1 (A k).2.1 (A k).2.2.1 (A k).2.2.2 (fp_ch (A k).1 (A k).2.2.1 (A k).2.2.2)) = D := by rw [fp_cs_was hc]; exact sx_set_self ha
      refine pj_J.heq (h' := sx_mk c m o (D.set (x k) (fp_cs (A k).1 (A k).2.1 (A k).2.2.1 (A k).2.2.2 (fp_ch (A k).1 (A k).2.2.1 (A k).2.2.2)))) (by rw [hD0]) ?_
      refine lp_mdI hc ha FB I (fun c j hi2 hj hne => hB c k j hi2 (by omega) hj hne) (fp_cN (A k).1) 0 (-1, c) _ (by omega) hi (fun w y2 hw hi2 => ?_)
      rw [hw] at q
      have ha2 : (D.set (x k) (fp_cs (A k).1 (A k).2.1 (A k).2.2.1 (A k).2.2.2 y2))[x k]? = some (.inr (5 + (A k).1, [.int (nI (A k).1), .int (A k).2.1, .int (fp_t (A k).1 (A k).2.2.1 y2), .int (fp_v (A k).1 (A k).2.2.2 y2)])) := by rw [← fp_cs_eq hc]; exact sx_set_at ha
      refine lx_md6 ?_
      refine lc_choose173 _ hc ha2 ?_
      rw [fp_cs_cs hc, List.set_set, hD0]
      refine lx_md7 (fun hg => ?_) (fun hg => ?_)
      · rw [if_neg hg] at q
        exact q
      · rw [if_pos hg] at q
        rw [nI_add1]
        exact ih (k + 1) _ (by omega) hi2 q
