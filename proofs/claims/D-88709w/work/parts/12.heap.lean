/-! THE SMALL MACHINE: cells read, written, made. Own work. -/
set_option maxRecDepth 100000
theorem pj_R.own {G : pj_G} {h : pj_H} {H : Heap} (hR : pj_R G h H) {i : Nat} {x : pj_E} (hi : h[i]? = some x) (hx : ¬ pj_opq x) : ∃ j, i = j + 2 := by
  match i, hi with
  | 0, hi => exact absurd (hR.2.2.2.2 0 x (by omega) hi) hx
  | 1, hi => exact absurd (hR.2.2.2.2 1 x (by omega) hi) hx
  | j + 2, _ => exact ⟨j, rfl⟩
theorem pj_R.set {G : pj_G} {h : pj_H} {H H' : Heap} (hR : pj_R G h H) {i : Nat} {x y : pj_E} (hi : h[i]? = some x) (hx : ¬ pj_opq x) (z : H'.size = H.size) (oq : ∀ q : Nat, q ≠ pj_ad G i → H'[q]? = H[q]?) (hy : pj_at G i y H') : pj_R G (h.set i y) H' := by
  obtain ⟨j, rfl⟩ := hR.own hi hx
  obtain ⟨r1, r2, r3, r4, r5⟩ := hR
  refine ⟨by rw [List.length_set]; exact r1, by rw [List.length_set, z]; exact r2, fun q hq => ?_, fun k w hk => ?_, fun k w hk hw => ?_⟩
  · rw [oq q (by show q ≠ G.2.2.1.size + j; omega)]
    exact r3 q hq
  · by_cases e : j + 2 = k
    · subst e
      rw [List.getElem?_set_self'] at hk
      rw [hi] at hk
      simp at hk
      subst hk
      exact hy
    · rw [List.getElem?_set_ne e] at hk
      intro hw
      refine (r4 k w hk hw).kept (oq _ ?_)
      match k, hk, e with
      | 0, hk, _ => exact absurd (r5 0 w (by omega) hk) hw
      | 1, hk, _ => exact absurd (r5 1 w (by omega) hk) hw
      | k + 2, _, e => show G.2.2.1.size + k ≠ G.2.2.1.size + j; omega
  · rw [List.getElem?_set_ne (by omega)] at hw
    exact r5 k w hk hw
theorem pj_R.push {G : pj_G} {h : pj_H} {H H' : Heap} (hR : pj_R G h H) {y : pj_E} (z : H'.size = H.size + 1) (oq : ∀ q : Nat, q < H.size → H'[q]? = H[q]?) (hy : pj_at G h.length y H') : pj_R G (h ++ [y]) H' := by
  obtain ⟨r1, r2, r3, r4, r5⟩ := hR
  refine ⟨by simp; omega, by simp; omega, fun q hq => ?_, fun k w hk => ?_, fun k w hk hw => ?_⟩
  · rw [oq q (by omega)]
    exact r3 q hq
  · by_cases e : k < h.length
    · rw [List.getElem?_append_left e] at hk
      intro hw
      refine (r4 k w hk hw).kept (oq _ ?_)
      match k, hk, e with
      | 0, hk, _ => exact absurd (r5 0 w (by omega) hk) hw
      | 1, hk, _ => exact absurd (r5 1 w (by omega) hk) hw
      | k + 2, _, e => show G.2.2.1.size + k < H.size; omega
    · have e2 : k = h.length := by
        have := (List.getElem?_eq_some_iff.mp hk).1
        simp at this
        omega
      subst e2
      simp at hk
      subst hk
      exact hy
  · rw [List.getElem?_append_left (by omega)] at hw
    exact r5 k w hk hw
theorem pj_R.size {G : pj_G} {h : pj_H} {H : Heap} (hR : pj_R G h H) : pj_ad G h.length = H.size := by
  obtain ⟨r1, r2, -⟩ := hR
  match hl : h.length, r1, r2 with
  | k + 2, _, r2 => show G.2.2.1.size + k = H.size; omega
/-- one cell as a world of the kit -/
theorem pj_one {G : pj_G} {h : pj_H} {H : Heap} (hR : pj_R G h H) {i : Nat} {x : pj_E} (hi : h[i]? = some x) (hx : ¬ pj_opq x) : va_P G.1 pj_cl [(pj_ad G i, pj_c G x)] H := by
  intro k q hk
  match k, hk with
  | 0, hk => cases hk; exact hR.2.2.2.1 i x hi hx
  | k + 1, hk => simp at hk
/-- a field of a class: number of the class, of the field, what the table says -/
def pj_Fd (ci k : Nat) (q : String × String × String × Bool) : Prop := ∃ (C : String) (T : u_T) (N : Nat) (ty : Nat → FieldType), pj_cl[ci]? = some (C, T, N) ∧ (∀ w ∈ u_ws C T N, w ∈ lw_all) ∧ (∀ j, j < N → parseFieldDescriptor (T j).2.2.1 = some (ty j)) ∧ (∀ a, a < N → ∀ b, b < N → a ≠ b → (T a).2.1 ≠ (T b).2.1) ∧ k < N ∧ T k = q
def pj_Sm (ref : String) (q : String × String × String × Bool) : Prop := ref = q.1 ∨ Cond.sameField ref q.1 q.2.1 q.2.2.1 ∈ lw_all
theorem pj_Sm.use {ref : String} {q : String × String × String × Bool} (h : pj_Sm ref q) {args : Array Value} {s : State} (hts : ∀ w ∈ lw_all, w.before args s = true) : ∀ x, s.fieldFound? q.1 q.2.1 q.2.2.1 = some x → s.fieldFound? ref q.2.1 q.2.2.1 = some x := by
  intro x hx
  rcases h with h | h
  · rw [h]; exact hx
  · exact u_same (hts _ h) x hx
def po_get (lo hi k n : Nat) : pj_Op := fun L st h kc ks => match st with
  | .ref a :: r => match h[a]? with
    | some (.inr (c, fs)) => if lo ≤ c ∧ c ≤ hi then match fs[k]? with
      | some v => some (none, (n, L, v :: r, h, kc, ks))
      | none => none
      else none
    | _ => none
  | _ => none
theorem ps_get {G : pj_G} {mt : pj_M} {pc lo hi k index : Nat} {ref : String} {q : String × String × String × Bool} (hd : decode mt.2.1 pc = .ok (.getfield index, 3)) (hhi : hi < 90) (hF : ∀ c, lo ≤ c → c ≤ hi → pj_Fd c k q) (hl0 : Cond.fieldLink mt.1.cls index ref q.2.1 q.2.2.1 ∈ lw_all) (hS : pj_Sm ref q) : pj_Snd G mt pc (po_get lo hi k (pc + 3)) := by
  intro L st h kc ks c S ho hc d Q kk p l e R s m args below meth cc H locs cells slots mc ms ls hC hR hl hv h1 h2 h3 h4
  unfold po_get at ho
  split at ho
  · rename_i a r
    split at ho
    · rename_i ci fs hcell
      split at ho
      · rename_i hr
        split at ho
        · rename_i v hfv
          simp only [Option.some.injEq, Prod.mk.injEq] at ho; obtain ⟨rfl, rfl⟩ := ho
          obtain ⟨C, T, N, ty, f1, f2, f3, f4, f5, f6⟩ := hF ci hr.1 hr.2
          subst f6
          exact va_get (ws := [(pj_ad G a, pj_c G (.inr (ci, fs)))]) hC.1 hC.2.1 hC.2.2.2.2.2.2.2.1 f2 hC.2.2.2.2.2.1 hC.2.2.2.2.2.2.2.2.1.1 (pj_one hR hcell (by show ¬ 90 ≤ ci; omega)) 0 rfl f1 k f5 (hC.2.2.2.2.2.2.2.1 _ hl0) (hS.use hC.2.2.2.2.2.2.2.1) (v := pj_v G v) (by rw [List.getElem?_map, hfv]; rfl) hd (kk p l e R s m args below meth cc H locs cells slots mc ms ls hC hR hl hv h1 h2 h3 h4)
        · cases ho
      · cases ho
    · cases ho
  · cases ho
/-- a nest mate's private field -/
theorem ps_getN {G : pj_G} {mt : pj_M} {pc lo hi k index : Nat} {ref host : String} {q : String × String × String × Bool} (hd : decode mt.2.1 pc = .ok (.getfield index, 3)) (hhi : hi < 90) (hF : ∀ c, lo ≤ c → c ≤ hi → pj_Fd c k q) (hl0 : Cond.fieldLinkNest mt.1.cls index ref q.2.1 q.2.2.1 host ∈ pj_ext) (hS : pj_Sm ref q) : pj_Snd G mt pc (po_get lo hi k (pc + 3)) := by
  intro L st h kc ks c S ho hc d Q kk p l e R s m args below meth cc H locs cells slots mc ms ls hC hR hl hv h1 h2 h3 h4
  unfold po_get at ho
  split at ho
  · rename_i a r
    split at ho
    · rename_i ci fs hcell
      split at ho
      · rename_i hr
        split at ho
        · rename_i v hfv
          simp only [Option.some.injEq, Prod.mk.injEq] at ho; obtain ⟨rfl, rfl⟩ := ho
          obtain ⟨C, T, N, ty, f1, f2, f3, f4, f5, f6⟩ := hF ci hr.1 hr.2
          subst f6
          exact va_getN (ws := [(pj_ad G a, pj_c G (.inr (ci, fs)))]) hC.1 hC.2.1 hC.2.2.2.2.2.2.2.1 f2 hC.2.2.2.2.2.1 hC.2.2.2.2.2.2.2.2.1.1 (pj_one hR hcell (by show ¬ 90 ≤ ci; omega)) 0 rfl f1 k f5 (va_Nw.use rfl (hC.2.2.2.2.2.2.2.2.1.2.1 _ hl0)) (hS.use hC.2.2.2.2.2.2.2.1) (v := pj_v G v) (by rw [List.getElem?_map, hfv]; rfl) hd (kk p l e R s m args below meth cc H locs cells slots mc ms ls hC hR hl hv h1 h2 h3 h4)
        · cases ho
      · cases ho
    · cases ho
  · cases ho
/-- what a field's write asks: none: it can't be -/
def pj_pc (ty : FieldType) (v : Value) : Option (Option Prop) := match ty, v with
  | .boolean, .int x => some (some (x = 0 ∨ x = 1))
  | .int, .int _ => some none
  | .long, .long _ => some none
  | .double, .double _ => some none
  | .object _, .ref _ => some none
  | .object _, .null => some none
  | .array _, .ref _ => some none
  | .array _, .null => some none
  | _, _ => none
theorem pj_pc_ok {G : pj_G} {ty : FieldType} {v : Value} {c : Option Prop} (h : pj_pc ty v = some c) (hc : pj_ok c) : narrow ty (pj_v G v) = pj_v G v ∧ fits ty (pj_v G v) = true := by
  unfold pj_pc at h
  split at h
  · cases h
    rcases hc with hc | hc <;> subst hc <;> exact ⟨rfl, rfl⟩
  all_goals first | (cases h; exact ⟨rfl, rfl⟩) | cases h
def po_put (lo hi k : Nat) (ty : FieldType) (n : Nat) : pj_Op := fun L st h kc ks => match st with
  | v :: .ref a :: r => match h[a]? with
    | some (.inr (c, fs)) => if lo ≤ c ∧ c ≤ hi ∧ k < fs.length then match pj_pc ty v with
      | some cnd => some (cnd, (n, L, r, h.set a (.inr (c, fs.set k v)), kc, ks))
      | none => none
      else none
    | _ => none
  | _ => none
theorem pj_at_put {G : pj_G} {a ci k : Nat} {fs : List Value} {v : Value} {H' : Heap} (h : va_at G.1 pj_cl (pj_ad G a, .inr (ci, (fs.map (pj_v G)).set k (pj_v G v))) H') : pj_at G a (.inr (ci, fs.set k v)) H' := by
  intro _
  show va_at G.1 pj_cl (pj_ad G a, .inr (ci, (fs.set k v).map (pj_v G))) H'
  rw [List.map_set]
  exact h
theorem ps_put {G : pj_G} {mt : pj_M} {pc lo hi k index : Nat} {ref : String} {q : String × String × String × Bool} {ty : FieldType} (hd : decode mt.2.1 pc = .ok (.putfield index, 3)) (hhi : hi < 90) (hF : ∀ c, lo ≤ c → c ≤ hi → pj_Fd c k q) (hl0 : Cond.fieldLink mt.1.cls index ref q.2.1 q.2.2.1 ∈ lw_all) (hS : pj_Sm ref q) (hty : parseFieldDescriptor q.2.2.1 = some ty) (hfin : q.2.2.2 = false ∨ (mt.1.name = "<init>" ∧ q.1 = mt.1.cls)) : pj_Snd G mt pc (po_put lo hi k ty (pc + 3)) := by
  intro L st h kc ks c S ho hc d Q kk p l e R s m args below meth cc H locs cells slots mc ms ls hC hR hl hv h1 h2 h3 h4
  unfold po_put at ho
  split at ho
  · rename_i v a r
    split at ho
    · rename_i ci fs hcell
      split at ho
      · rename_i hr
        split at ho
        · rename_i cnd hpc
          simp only [Option.some.injEq, Prod.mk.injEq] at ho; obtain ⟨rfl, rfl⟩ := ho
          obtain ⟨C, T, N, ty0, f1, f2, f3, f4, f5, f6⟩ := hF ci hr.1 hr.2.1
          subst f6
          obtain ⟨hn, hfit⟩ := pj_pc_ok (G := G) hpc hc
          have hts := hC.2.2.2.2.2.2.2.1
          have hown := hC.2.2.2.2.2.1
          have hK := hC.2.2.2.2.2.2.2.2.1.1
          have hlink := hts _ hl0
          have hx : ¬ pj_opq (.inr (ci, fs)) := by show ¬ 90 ≤ ci; omega
          have hap := va_apart (own := mt.1.cls) hts f2 ty0 f3 f4 hK f1
          obtain ⟨r', g1, cell, q1, q2, q3, q4⟩ := pj_one hR hcell hx 0 _ rfl
          have hr' : r' = (C, T, N) := Option.some.inj (g1.symm.trans f1)
          subst hr'
          obtain ⟨hSl, hfc, kC, hkC, hkind⟩ := hK.1 ci _ f1
          obtain ⟨cf, kf, fi, f, hi', hsl⟩ := hSl k f5
          have hlay := hts _ (f2 _ (u_in_lay f5))
          have hst := (u_facts hfc hkC (u_lays hts f2 f5) hi').1
          have key : ∀ H' : Heap, H'[pj_ad G a]? = some (cell.setSlot f.slot (pj_v G v)) → H'.size = H.size → (∀ q, q ≠ pj_ad G a → H'[q]? = H[q]?) → W p l e R s m args below meth cc H' (locs ++ [⟨pj_ad G a, f.slot⟩]) cells slots (pj_End G Q below s mc ms) (F0 m (pc + 3) ls (r.map (pj_v G))) := by
            intro H' e1 e2 e3
            rw [hsl] at e1 ⊢
            refine kk p l e R s m args below meth cc H' _ cells slots mc ms ls hC (hR.set hcell hx e2 e3 (pj_at_put ⟨_, f1, t_OB.to (V := updV (vp_V (fs.map (pj_v G))) k (pj_v G v)) ⟨_, e1, q2, q3, t_set q4 hap f5 (pj_v G v)⟩ (fun j _ => vp_updV_set (by rw [List.length_map]; exact hr.2.2) (pj_v G v) j)⟩)) (fun q hq => ?_) hv h1 h2 h3 h4
            rcases List.mem_append.mp hq with hq | hq
            · exact hl q hq
            · obtain ⟨j, rfl⟩ := hR.own hcell hx
              simp at hq
              subst hq
              exact Nat.le_add_right _ _
          rcases hfin with hfin | ⟨hin2, hdecl⟩
          · unfold u_lay at hlay
            rw [if_neg (by rw [hfin]; decide)] at hlay
            have h6 := u_store hfc hkC hkind hlay hi' hty hn hfit
            exact W.putK hC.1 hC.2.1 (f := f) ⟨hown, hlink, ⟨_, _, _, hS.use hts _ hi'⟩, hst⟩ (by rw [q2]; exact h6) q1 q3 (by rw [hsl]; exact k2_hasslot (q4 k f5)) rfl rfl hd key
          · by_cases hf2 : (T k).2.2.2 = true
            · unfold u_lay at hlay
              rw [if_pos hf2] at hlay
              have hcf : m.cls = cf := by
                obtain ⟨_, _, c', _, _, _, -, -, hf', -, -, -, hown2, -⟩ := Cond.laysFinal_spec hlay
                have e1 : c' = cf := by have := hi'.symm.trans hf'; simp at this; exact this.1.symm
                rw [hdecl] at hown2
                rw [← e1]; exact Option.some.inj (hown.symm.trans hown2)
              have h6 := u_fits hfc hkC hkind (Or.inr hlay) hi' hty hn hfit
              exact W.putFinK hC.1 hC.2.1 hown hlink (hS.use hts _ hi') hst hcf (hC.2.2.2.2.2.2.1.1.trans hin2) (by rw [q2]; exact h6) q1 q3 (by rw [hsl]; exact k2_hasslot (q4 k f5)) rfl rfl hd key
            · unfold u_lay at hlay
              rw [if_neg hf2] at hlay
              have h6 := u_store hfc hkC hkind hlay hi' hty hn hfit
              exact W.putK hC.1 hC.2.1 (f := f) ⟨hown, hlink, ⟨_, _, _, hS.use hts _ hi'⟩, hst⟩ (by rw [q2]; exact h6) q1 q3 (by rw [hsl]; exact k2_hasslot (q4 k f5)) rfl rfl hd key
        · cases ho
      · cases ho
    · cases ho
  · cases ho
