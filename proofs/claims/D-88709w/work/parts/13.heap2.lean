/-! array reads and writes of the small machine (by tools/gen_heap.py) -/
set_option maxRecDepth 100000
theorem pj_v_rf (G : pj_G) (o : Option Nat) : pj_v G (va_rf o) = va_rf (o.map (pj_ad G)) := by cases o <;> rfl
def po_iald (n : Nat) : pj_Op := fun L st h kc ks => match st with
  | .int i :: .ref a :: r => match h[a]? with
    | some (.inl (kd, (N, .inl f))) => if kd = 0 then some (some (vp_in i N), (n, L, .int (f i.toNatClampNeg) :: r, h, kc, ks)) else none
    | _ => none
  | _ => none
theorem ps_iald {G : pj_G} {mt : pj_M} {pc : Nat} (hd : decode mt.2.1 pc = .ok (.iaload, 1)) : pj_Snd G mt pc (po_iald (pc + 1)) := by
  intro L st h kc ks c S ho hc d Q kk p l e R s m args below meth cc H locs cells slots mc ms ls hC hR hl hv h1 h2 h3 h4
  unfold po_iald at ho
  split at ho
  · rename_i i a r
    split at ho
    · rename_i kd N f hcell
      split at ho
      · rename_i hk
        simp only [Option.some.injEq, Prod.mk.injEq] at ho; obtain ⟨rfl, rfl⟩ := ho
        subst hk
        exact va_iald (ws := [(pj_ad G a, pj_c G (.inl (0, (N, .inl f))))]) hC.1 hC.2.1 hC.2.2.2.2.2.2.2.2.1.1 (pj_one hR hcell (by show ¬ 90 ≤ 0; omega)) 0 0 rfl rfl hc hd (kk p l e R s m args below meth cc H locs cells slots mc ms ls hC hR hl hv h1 h2 h3 h4)
      · cases ho
    · cases ho
  · cases ho
def po_lald (n : Nat) : pj_Op := fun L st h kc ks => match st with
  | .int i :: .ref a :: r => match h[a]? with
    | some (.inl (kd, (N, .inr (.inl f)))) => if kd = 1 then some (some (vp_in i N), (n, L, .long (f i.toNatClampNeg) :: r, h, kc, ks)) else none
    | _ => none
  | _ => none
theorem ps_lald {G : pj_G} {mt : pj_M} {pc : Nat} (hd : decode mt.2.1 pc = .ok (.laload, 1)) : pj_Snd G mt pc (po_lald (pc + 1)) := by
  intro L st h kc ks c S ho hc d Q kk p l e R s m args below meth cc H locs cells slots mc ms ls hC hR hl hv h1 h2 h3 h4
  unfold po_lald at ho
  split at ho
  · rename_i i a r
    split at ho
    · rename_i kd N f hcell
      split at ho
      · rename_i hk
        simp only [Option.some.injEq, Prod.mk.injEq] at ho; obtain ⟨rfl, rfl⟩ := ho
        subst hk
        exact va_lald (ws := [(pj_ad G a, pj_c G (.inl (1, (N, .inr (.inl f)))))]) hC.1 hC.2.1 hC.2.2.2.2.2.2.2.2.1.1 (pj_one hR hcell (by show ¬ 90 ≤ 1; omega)) 0 1 rfl rfl hc hd (kk p l e R s m args below meth cc H locs cells slots mc ms ls hC hR hl hv h1 h2 h3 h4)
      · cases ho
    · cases ho
  · cases ho
def po_bald (n : Nat) : pj_Op := fun L st h kc ks => match st with
  | .int i :: .ref a :: r => match h[a]? with
    | some (.inl (kd, (N, .inl f))) => if kd = 2 ∨ kd = 4 then some (some (vp_in i N), (n, L, .int (f i.toNatClampNeg) :: r, h, kc, ks)) else none
    | _ => none
  | _ => none
theorem ps_bald {G : pj_G} {mt : pj_M} {pc : Nat} (hd : decode mt.2.1 pc = .ok (.baload, 1)) : pj_Snd G mt pc (po_bald (pc + 1)) := by
  intro L st h kc ks c S ho hc d Q kk p l e R s m args below meth cc H locs cells slots mc ms ls hC hR hl hv h1 h2 h3 h4
  unfold po_bald at ho
  split at ho
  · rename_i i a r
    split at ho
    · rename_i kd N f hcell
      split at ho
      · rename_i hk
        simp only [Option.some.injEq, Prod.mk.injEq] at ho; obtain ⟨rfl, rfl⟩ := ho
        rcases hk with hk | hk
        · subst hk
          exact va_zald (ws := [(pj_ad G a, pj_c G (.inl (2, (N, .inl f))))]) hC.1 hC.2.1 hC.2.2.2.2.2.2.2.2.1.1 (pj_one hR hcell (by show ¬ 90 ≤ 2; omega)) 0 2 rfl rfl hc hd (kk p l e R s m args below meth cc H locs cells slots mc ms ls hC hR hl hv h1 h2 h3 h4)
        · subst hk
          exact va_bald (ws := [(pj_ad G a, pj_c G (.inl (4, (N, .inl f))))]) hC.1 hC.2.1 hC.2.2.2.2.2.2.2.2.1.1 (pj_one hR hcell (by show ¬ 90 ≤ 4; omega)) 0 4 rfl rfl hc hd (kk p l e R s m args below meth cc H locs cells slots mc ms ls hC hR hl hv h1 h2 h3 h4)
      · cases ho
    · cases ho
  · cases ho
def po_dald (n : Nat) : pj_Op := fun L st h kc ks => match st with
  | .int i :: .ref a :: r => match h[a]? with
    | some (.inl (kd, (N, .inr (.inr (.inr (.inl f)))))) => if kd = 3 then some (some (vp_in i N), (n, L, .double (f i.toNatClampNeg) :: r, h, kc, ks)) else none
    | _ => none
  | _ => none
theorem ps_dald {G : pj_G} {mt : pj_M} {pc : Nat} (hd : decode mt.2.1 pc = .ok (.daload, 1)) : pj_Snd G mt pc (po_dald (pc + 1)) := by
  intro L st h kc ks c S ho hc d Q kk p l e R s m args below meth cc H locs cells slots mc ms ls hC hR hl hv h1 h2 h3 h4
  unfold po_dald at ho
  split at ho
  · rename_i i a r
    split at ho
    · rename_i kd N f hcell
      split at ho
      · rename_i hk
        simp only [Option.some.injEq, Prod.mk.injEq] at ho; obtain ⟨rfl, rfl⟩ := ho
        subst hk
        exact va_dald (ws := [(pj_ad G a, pj_c G (.inl (3, (N, .inr (.inr (.inr (.inl f)))))))]) hC.1 hC.2.1 hC.2.2.2.2.2.2.2.2.1.1 (pj_one hR hcell (by show ¬ 90 ≤ 3; omega)) 0 3 rfl rfl hc hd (kk p l e R s m args below meth cc H locs cells slots mc ms ls hC hR hl hv h1 h2 h3 h4)
      · cases ho
    · cases ho
  · cases ho
def po_sald (n : Nat) : pj_Op := fun L st h kc ks => match st with
  | .int i :: .ref a :: r => match h[a]? with
    | some (.inl (kd, (N, .inl f))) => if kd = 5 then some (some (vp_in i N), (n, L, .int (f i.toNatClampNeg) :: r, h, kc, ks)) else none
    | _ => none
  | _ => none
theorem ps_sald {G : pj_G} {mt : pj_M} {pc : Nat} (hd : decode mt.2.1 pc = .ok (.saload, 1)) : pj_Snd G mt pc (po_sald (pc + 1)) := by
  intro L st h kc ks c S ho hc d Q kk p l e R s m args below meth cc H locs cells slots mc ms ls hC hR hl hv h1 h2 h3 h4
  unfold po_sald at ho
  split at ho
  · rename_i i a r
    split at ho
    · rename_i kd N f hcell
      split at ho
      · rename_i hk
        simp only [Option.some.injEq, Prod.mk.injEq] at ho; obtain ⟨rfl, rfl⟩ := ho
        subst hk
        exact va_sald (ws := [(pj_ad G a, pj_c G (.inl (5, (N, .inl f))))]) hC.1 hC.2.1 hC.2.2.2.2.2.2.2.2.1.1 (pj_one hR hcell (by show ¬ 90 ≤ 5; omega)) 0 5 rfl rfl hc hd (kk p l e R s m args below meth cc H locs cells slots mc ms ls hC hR hl hv h1 h2 h3 h4)
      · cases ho
    · cases ho
  · cases ho
def po_aald (n : Nat) : pj_Op := fun L st h kc ks => match st with
  | .int i :: .ref a :: r => match h[a]? with
    | some (.inl (kd, (N, .inr (.inr (.inr (.inr f)))))) => if kd = 6 ∨ kd = 7 ∨ kd = 8 then some (some (vp_in i N), (n, L, va_rf (f i.toNatClampNeg) :: r, h, kc, ks)) else none
    | _ => none
  | _ => none
theorem ps_aald {G : pj_G} {mt : pj_M} {pc : Nat} (hd : decode mt.2.1 pc = .ok (.aaload, 1)) : pj_Snd G mt pc (po_aald (pc + 1)) := by
  intro L st h kc ks c S ho hc d Q kk p l e R s m args below meth cc H locs cells slots mc ms ls hC hR hl hv h1 h2 h3 h4
  unfold po_aald at ho
  split at ho
  · rename_i i a r
    split at ho
    · rename_i kd N f hcell
      split at ho
      · rename_i hk
        simp only [Option.some.injEq, Prod.mk.injEq] at ho; obtain ⟨rfl, rfl⟩ := ho
        rcases hk with hk | hk | hk
        · subst hk
          have kk := kk p l e R s m args below meth cc H locs cells slots mc ms ls hC hR hl hv h1 h2 h3 h4
          have eq : (va_rf (f i.toNatClampNeg) :: r).map (pj_v G) = va_rf ((fun j => (f j).map (pj_ad G)) i.toNatClampNeg) :: r.map (pj_v G) := by
            show pj_v G (va_rf (f i.toNatClampNeg)) :: _ = _
            rw [pj_v_rf]
          simp only [eq] at kk
          exact va_aldq (ws := [(pj_ad G a, pj_c G (.inl (6, (N, .inr (.inr (.inr (.inr f)))))))]) hC.1 hC.2.1 hC.2.2.2.2.2.2.2.2.1.1 (pj_one hR hcell (by show ¬ 90 ≤ 6; omega)) 0 6 rfl rfl hc hd kk
        · subst hk
          have kk := kk p l e R s m args below meth cc H locs cells slots mc ms ls hC hR hl hv h1 h2 h3 h4
          have eq : (va_rf (f i.toNatClampNeg) :: r).map (pj_v G) = va_rf ((fun j => (f j).map (pj_ad G)) i.toNatClampNeg) :: r.map (pj_v G) := by
            show pj_v G (va_rf (f i.toNatClampNeg)) :: _ = _
            rw [pj_v_rf]
          simp only [eq] at kk
          exact va_aldq (ws := [(pj_ad G a, pj_c G (.inl (7, (N, .inr (.inr (.inr (.inr f)))))))]) hC.1 hC.2.1 hC.2.2.2.2.2.2.2.2.1.1 (pj_one hR hcell (by show ¬ 90 ≤ 7; omega)) 0 7 rfl rfl hc hd kk
        · subst hk
          have kk := kk p l e R s m args below meth cc H locs cells slots mc ms ls hC hR hl hv h1 h2 h3 h4
          have eq : (va_rf (f i.toNatClampNeg) :: r).map (pj_v G) = va_rf ((fun j => (f j).map (pj_ad G)) i.toNatClampNeg) :: r.map (pj_v G) := by
            show pj_v G (va_rf (f i.toNatClampNeg)) :: _ = _
            rw [pj_v_rf]
          simp only [eq] at kk
          exact va_aldq (ws := [(pj_ad G a, pj_c G (.inl (8, (N, .inr (.inr (.inr (.inr f)))))))]) hC.1 hC.2.1 hC.2.2.2.2.2.2.2.2.1.1 (pj_one hR hcell (by show ¬ 90 ≤ 8; omega)) 0 8 rfl rfl hc hd kk
      · cases ho
    · cases ho
  · cases ho
def po_iast (n : Nat) : pj_Op := fun L st h kc ks => match st with
  | .int x :: .int i :: .ref a :: r => match h[a]? with
    | some (.inl (kd, (N, .inl f))) => if kd = 0 then some (some (vp_in i N), (n, L, r, h.set a (.inl (0, (N, .inl (upd f i.toNatClampNeg (x))))), kc, ks)) else none
    | _ => none
  | _ => none
theorem ps_iast {G : pj_G} {mt : pj_M} {pc : Nat} (hd : decode mt.2.1 pc = .ok (.iastore, 1)) : pj_Snd G mt pc (po_iast (pc + 1)) := by
  intro L st h kc ks c S ho hc d Q kk p l e R s m args below meth cc H locs cells slots mc ms ls hC hR hl hv h1 h2 h3 h4
  unfold po_iast at ho
  split at ho
  · rename_i x i a r
    split at ho
    · rename_i kd N f hcell
      split at ho
      · rename_i hk
        simp only [Option.some.injEq, Prod.mk.injEq] at ho; obtain ⟨rfl, rfl⟩ := ho
        subst hk
        have hP := pj_one hR hcell (by show ¬ 90 ≤ 0; omega)
        refine W.iast hC.1 hC.2.1 (hP 0 _ rfl) ((hC.2.2.2.2.2.2.2.2.1.1.2 0 _ rfl).1 N (fun j => .int (f j))) (fun q => by cases q) (by show ¬ (i < 0 ∨ (arrV _ _ _).slots.size ≤ _); rw [arrV_size]; exact hc) rfl rfl hd fun H1 e1 z oq => ?_
        refine kk p l e R s m args below meth cc H1 _ cells slots mc ms ls hC (hR.set hcell (by show ¬ 90 ≤ 0; omega) z oq fun _ => ?_) (fun q hq => ?_) hv h1 h2 h3 h4
        · show H1[pj_ad G a]? = some (vp_cell (G.2.1 0) (N, .inl (upd f i.toNatClampNeg (x))))
          rw [e1]
          show some (Cell.setSlot (vp_cell (G.2.1 0) (N, .inl f)) i.toNatClampNeg _) = _
          rw [vp_cell_i, vp_cell_i, arrV_store]
          congr 2
          funext q
          by_cases hq : q = i.toNatClampNeg
          · subst hq
            simp [updV, upd]
          · simp [updV, upd, hq]
        · rcases List.mem_append.mp hq with hq | hq
          · exact hl q hq
          · obtain ⟨j, rfl⟩ := hR.own hcell (by show ¬ 90 ≤ 0; omega)
            simp at hq
            subst hq
            exact Nat.le_add_right _ _
      · cases ho
    · cases ho
  · cases ho
def po_last (n : Nat) : pj_Op := fun L st h kc ks => match st with
  | .long x :: .int i :: .ref a :: r => match h[a]? with
    | some (.inl (kd, (N, .inr (.inl f)))) => if kd = 1 then some (some (vp_in i N), (n, L, r, h.set a (.inl (1, (N, .inr (.inl (vp_updL f i.toNatClampNeg (x)))))), kc, ks)) else none
    | _ => none
  | _ => none
theorem ps_last {G : pj_G} {mt : pj_M} {pc : Nat} (hd : decode mt.2.1 pc = .ok (.lastore, 1)) : pj_Snd G mt pc (po_last (pc + 1)) := by
  intro L st h kc ks c S ho hc d Q kk p l e R s m args below meth cc H locs cells slots mc ms ls hC hR hl hv h1 h2 h3 h4
  unfold po_last at ho
  split at ho
  · rename_i x i a r
    split at ho
    · rename_i kd N f hcell
      split at ho
      · rename_i hk
        simp only [Option.some.injEq, Prod.mk.injEq] at ho; obtain ⟨rfl, rfl⟩ := ho
        subst hk
        have hP := pj_one hR hcell (by show ¬ 90 ≤ 1; omega)
        refine W.last hC.1 hC.2.1 (hP 0 _ rfl) ((hC.2.2.2.2.2.2.2.2.1.1.2 1 _ rfl).1 N (fun j => .long (f j))) (fun q => by cases q) (by show ¬ (i < 0 ∨ (arrV _ _ _).slots.size ≤ _); rw [arrV_size]; exact hc) rfl rfl hd fun H1 e1 z oq => ?_
        refine kk p l e R s m args below meth cc H1 _ cells slots mc ms ls hC (hR.set hcell (by show ¬ 90 ≤ 1; omega) z oq fun _ => ?_) (fun q hq => ?_) hv h1 h2 h3 h4
        · show H1[pj_ad G a]? = some (vp_cell (G.2.1 1) (N, .inr (.inl (vp_updL f i.toNatClampNeg (x)))))
          rw [e1]
          show some (Cell.setSlot (vp_cell (G.2.1 1) (N, .inr (.inl f))) i.toNatClampNeg _) = _
          rw [vp_cell_l, vp_cell_l, arrV_store]
          congr 2
          funext q
          by_cases hq : q = i.toNatClampNeg
          · subst hq
            simp [updV, vp_updL]
          · simp [updV, vp_updL, hq]
        · rcases List.mem_append.mp hq with hq | hq
          · exact hl q hq
          · obtain ⟨j, rfl⟩ := hR.own hcell (by show ¬ 90 ≤ 1; omega)
            simp at hq
            subst hq
            exact Nat.le_add_right _ _
      · cases ho
    · cases ho
  · cases ho
def po_dast (n : Nat) : pj_Op := fun L st h kc ks => match st with
  | .double x :: .int i :: .ref a :: r => match h[a]? with
    | some (.inl (kd, (N, .inr (.inr (.inr (.inl f)))))) => if kd = 3 then some (some (vp_in i N), (n, L, r, h.set a (.inl (3, (N, .inr (.inr (.inr (.inl (vf_upd f i.toNatClampNeg (x)))))))), kc, ks)) else none
    | _ => none
  | _ => none
theorem ps_dast {G : pj_G} {mt : pj_M} {pc : Nat} (hd : decode mt.2.1 pc = .ok (.dastore, 1)) : pj_Snd G mt pc (po_dast (pc + 1)) := by
  intro L st h kc ks c S ho hc d Q kk p l e R s m args below meth cc H locs cells slots mc ms ls hC hR hl hv h1 h2 h3 h4
  unfold po_dast at ho
  split at ho
  · rename_i x i a r
    split at ho
    · rename_i kd N f hcell
      split at ho
      · rename_i hk
        simp only [Option.some.injEq, Prod.mk.injEq] at ho; obtain ⟨rfl, rfl⟩ := ho
        subst hk
        have hP := pj_one hR hcell (by show ¬ 90 ≤ 3; omega)
        refine W.dast hC.1 hC.2.1 (hP 0 _ rfl) ((hC.2.2.2.2.2.2.2.2.1.1.2 3 _ rfl).1 N (fun j => .double (f j))) (fun q => by cases q) (by show ¬ (i < 0 ∨ (arrV _ _ _).slots.size ≤ _); rw [arrV_size]; exact hc) rfl rfl hd fun H1 e1 z oq => ?_
        refine kk p l e R s m args below meth cc H1 _ cells slots mc ms ls hC (hR.set hcell (by show ¬ 90 ≤ 3; omega) z oq fun _ => ?_) (fun q hq => ?_) hv h1 h2 h3 h4
        · show H1[pj_ad G a]? = some (vp_cell (G.2.1 3) (N, .inr (.inr (.inr (.inl (vf_upd f i.toNatClampNeg (x)))))))
          rw [e1]
          show some (Cell.setSlot (vp_cell (G.2.1 3) (N, .inr (.inr (.inr (.inl f))))) i.toNatClampNeg _) = _
          rw [vp_cell_d, vp_cell_d, arrV_store]
          congr 2
          funext q
          by_cases hq : q = i.toNatClampNeg
          · subst hq
            simp [updV, vf_upd]
          · simp [updV, vf_upd, hq]
        · rcases List.mem_append.mp hq with hq | hq
          · exact hl q hq
          · obtain ⟨j, rfl⟩ := hR.own hcell (by show ¬ 90 ≤ 3; omega)
            simp at hq
            subst hq
            exact Nat.le_add_right _ _
      · cases ho
    · cases ho
  · cases ho
def po_bast (n : Nat) : pj_Op := fun L st h kc ks => match st with
  | .int x :: .int i :: .ref a :: r => match h[a]? with
    | some (.inl (kd, (N, .inl f))) => if kd = 2 then some (some (vp_in i N), (n, L, r, h.set a (.inl (2, (N, .inl (upd f i.toNatClampNeg (vp_nar .boolean x))))), kc, ks)) else if kd = 4 then some (some (vp_in i N), (n, L, r, h.set a (.inl (4, (N, .inl (upd f i.toNatClampNeg (vp_nar .byte x))))), kc, ks)) else none
    | _ => none
  | _ => none
theorem ps_bast {G : pj_G} {mt : pj_M} {pc : Nat} (hd : decode mt.2.1 pc = .ok (.bastore, 1)) : pj_Snd G mt pc (po_bast (pc + 1)) := by
  intro L st h kc ks c S ho hc d Q kk p l e R s m args below meth cc H locs cells slots mc ms ls hC hR hl hv h1 h2 h3 h4
  unfold po_bast at ho
  split at ho
  · rename_i x i a r
    split at ho
    · rename_i kd N f hcell
      split at ho
      · rename_i hk
        simp only [Option.some.injEq, Prod.mk.injEq] at ho; obtain ⟨rfl, rfl⟩ := ho
        subst hk
        have hP := pj_one hR hcell (by show ¬ 90 ≤ 2; omega)
        refine W.zast hC.1 hC.2.1 (hP 0 _ rfl) ((hC.2.2.2.2.2.2.2.2.1.1.2 2 _ rfl).1 N (fun j => .int (f j))) (fun q => by cases q) (by show ¬ (i < 0 ∨ (arrV _ _ _).slots.size ≤ _); rw [arrV_size]; exact hc) rfl rfl hd fun H1 e1 z oq => ?_
        refine kk p l e R s m args below meth cc H1 _ cells slots mc ms ls hC (hR.set hcell (by show ¬ 90 ≤ 2; omega) z oq fun _ => ?_) (fun q hq => ?_) hv h1 h2 h3 h4
        · show H1[pj_ad G a]? = some (vp_cell (G.2.1 2) (N, .inl (upd f i.toNatClampNeg (vp_nar .boolean x))))
          rw [e1]
          show some (Cell.setSlot (vp_cell (G.2.1 2) (N, .inl f)) i.toNatClampNeg _) = _
          rw [vp_cell_i, vp_cell_i, arrV_store]
          congr 2
          funext q
          by_cases hq : q = i.toNatClampNeg
          · subst hq
            simp [updV, upd, vp_nar, narrow]
          · simp [updV, upd, hq]
        · rcases List.mem_append.mp hq with hq | hq
          · exact hl q hq
          · obtain ⟨j, rfl⟩ := hR.own hcell (by show ¬ 90 ≤ 2; omega)
            simp at hq
            subst hq
            exact Nat.le_add_right _ _
      · skip
        split at ho
        · rename_i hk
          simp only [Option.some.injEq, Prod.mk.injEq] at ho; obtain ⟨rfl, rfl⟩ := ho
          subst hk
          have hP := pj_one hR hcell (by show ¬ 90 ≤ 4; omega)
          refine W.bast hC.1 hC.2.1 (hP 0 _ rfl) ((hC.2.2.2.2.2.2.2.2.1.1.2 4 _ rfl).1 N (fun j => .int (f j))) (fun q => by cases q) (by show ¬ (i < 0 ∨ (arrV _ _ _).slots.size ≤ _); rw [arrV_size]; exact hc) rfl rfl hd fun H1 e1 z oq => ?_
          refine kk p l e R s m args below meth cc H1 _ cells slots mc ms ls hC (hR.set hcell (by show ¬ 90 ≤ 4; omega) z oq fun _ => ?_) (fun q hq => ?_) hv h1 h2 h3 h4
          · show H1[pj_ad G a]? = some (vp_cell (G.2.1 4) (N, .inl (upd f i.toNatClampNeg (vp_nar .byte x))))
            rw [e1]
            show some (Cell.setSlot (vp_cell (G.2.1 4) (N, .inl f)) i.toNatClampNeg _) = _
            rw [vp_cell_i, vp_cell_i, arrV_store]
            congr 2
            funext q
            by_cases hq : q = i.toNatClampNeg
            · subst hq
              simp [updV, upd, vp_nar, narrow]
            · simp [updV, upd, hq]
          · rcases List.mem_append.mp hq with hq | hq
            · exact hl q hq
            · obtain ⟨j, rfl⟩ := hR.own hcell (by show ¬ 90 ≤ 4; omega)
              simp at hq
              subst hq
              exact Nat.le_add_right _ _
        · cases ho
    · cases ho
  · cases ho
def po_sast (n : Nat) : pj_Op := fun L st h kc ks => match st with
  | .int x :: .int i :: .ref a :: r => match h[a]? with
    | some (.inl (kd, (N, .inl f))) => if kd = 5 then some (some (vp_in i N), (n, L, r, h.set a (.inl (5, (N, .inl (upd f i.toNatClampNeg (vp_nar .short x))))), kc, ks)) else none
    | _ => none
  | _ => none
theorem ps_sast {G : pj_G} {mt : pj_M} {pc : Nat} (hd : decode mt.2.1 pc = .ok (.sastore, 1)) : pj_Snd G mt pc (po_sast (pc + 1)) := by
  intro L st h kc ks c S ho hc d Q kk p l e R s m args below meth cc H locs cells slots mc ms ls hC hR hl hv h1 h2 h3 h4
  unfold po_sast at ho
  split at ho
  · rename_i x i a r
    split at ho
    · rename_i kd N f hcell
      split at ho
      · rename_i hk
        simp only [Option.some.injEq, Prod.mk.injEq] at ho; obtain ⟨rfl, rfl⟩ := ho
        subst hk
        have hP := pj_one hR hcell (by show ¬ 90 ≤ 5; omega)
        refine W.sast hC.1 hC.2.1 (hP 0 _ rfl) ((hC.2.2.2.2.2.2.2.2.1.1.2 5 _ rfl).1 N (fun j => .int (f j))) (fun q => by cases q) (by show ¬ (i < 0 ∨ (arrV _ _ _).slots.size ≤ _); rw [arrV_size]; exact hc) rfl rfl hd fun H1 e1 z oq => ?_
        refine kk p l e R s m args below meth cc H1 _ cells slots mc ms ls hC (hR.set hcell (by show ¬ 90 ≤ 5; omega) z oq fun _ => ?_) (fun q hq => ?_) hv h1 h2 h3 h4
        · show H1[pj_ad G a]? = some (vp_cell (G.2.1 5) (N, .inl (upd f i.toNatClampNeg (vp_nar .short x))))
          rw [e1]
          show some (Cell.setSlot (vp_cell (G.2.1 5) (N, .inl f)) i.toNatClampNeg _) = _
          rw [vp_cell_i, vp_cell_i, arrV_store]
          congr 2
          funext q
          by_cases hq : q = i.toNatClampNeg
          · subst hq
            simp [updV, upd, vp_nar, narrow]
          · simp [updV, upd, hq]
        · rcases List.mem_append.mp hq with hq | hq
          · exact hl q hq
          · obtain ⟨j, rfl⟩ := hR.own hcell (by show ¬ 90 ≤ 5; omega)
            simp at hq
            subst hq
            exact Nat.le_add_right _ _
      · cases ho
    · cases ho
  · cases ho
def po_alen (n : Nat) : pj_Op := fun L st h kc ks => match st with
  | .ref a :: r => match h[a]? with
    | some (.inl (kd, (N, z))) => if kd < 9 then some (none, (n, L, .int (Int32.ofNat N) :: r, h, kc, ks)) else none
    | _ => none
  | _ => none
theorem ps_alen {G : pj_G} {mt : pj_M} {pc : Nat} (hd : decode mt.2.1 pc = .ok (.arraylength, 1)) : pj_Snd G mt pc (po_alen (pc + 1)) := by
  intro L st h kc ks c S ho hc d Q kk p l e R s m args below meth cc H locs cells slots mc ms ls hC hR hl hv h1 h2 h3 h4
  unfold po_alen at ho
  split at ho
  · rename_i a r
    split at ho
    · rename_i kd N z hcell
      split at ho
      · rename_i hk
        simp only [Option.some.injEq, Prod.mk.injEq] at ho; obtain ⟨rfl, rfl⟩ := ho
        have hP := pj_one hR hcell (by show ¬ 90 ≤ kd; omega)
        have hty : ∃ ty, (pj_tys G)[kd]? = some (G.2.1 kd, ty) := by
          match kd, hk with
          | 0, _ => exact ⟨_, rfl⟩
          | 1, _ => exact ⟨_, rfl⟩
          | 2, _ => exact ⟨_, rfl⟩
          | 3, _ => exact ⟨_, rfl⟩
          | 4, _ => exact ⟨_, rfl⟩
          | 5, _ => exact ⟨_, rfl⟩
          | 6, _ => exact ⟨_, rfl⟩
          | 7, _ => exact ⟨_, rfl⟩
          | 8, _ => exact ⟨_, rfl⟩
          | k + 9, h => omega
        obtain ⟨ty, hty⟩ := hty
        exact va_alen hC.1 hC.2.1 hC.2.2.2.2.2.2.2.2.1.1 hP 0 kd rfl hty rfl hd (kk p l e R s m args below meth cc H locs cells slots mc ms ls hC hR hl hv h1 h2 h3 h4)
      · cases ho
    · cases ho
  · cases ho
/-- room: n of k -/
def pj_sub (k n : Nat) : Option Nat := if n ≤ k then some (k - n) else none
theorem pj_sub_ok {k n j : Nat} (h : pj_sub k n = some j) : k = j + n := by
  unfold pj_sub at h
  split at h
  · cases h; omega
  · cases h
/-- a new array of N places -/
def pj_zero (kd N : Nat) : vp_A := (N, match kd with
  | 1 => .inr (.inl (fun _ => 0))
  | 3 => .inr (.inr (.inr (.inl (fun _ => 0))))
  | _ => .inl (fun _ => 0))
def pj_aty (kd : Nat) : FieldType := match kd with
  | 0 => .int
  | 1 => .long
  | 2 => .boolean
  | 3 => .double
  | 4 => .byte
  | _ => .short
theorem pj_zero_cell (G : pj_G) (cA : ClassId) {kd : Nat} (hk : kd < 6) (N : Nat) : vp_cell cA (pj_a G (pj_zero kd N)) = arrV cA N (fun _ => defaultValue (pj_aty kd)) := by
  match kd, hk with
  | 0, _ => rfl
  | 1, _ => rfl
  | 2, _ => rfl
  | 3, _ => rfl
  | 4, _ => rfl
  | 5, _ => rfl
  | k + 6, h => omega
theorem pj_aty_cls {G : pj_G} {s : State} (hK : va_K G.1 pj_cl (pj_tys G) s) {kd : Nat} (hk : kd < 6) {cA : ClassId} (h : s.vm.findClass ("[" ++ (pj_aty kd).toString) = some cA) : cA = G.2.1 kd := by
  match kd, hk, h with
  | 0, _, h => exact Option.some.inj (h.symm.trans (hK.2 0 _ rfl).2)
  | 1, _, h => exact Option.some.inj (h.symm.trans (hK.2 1 _ rfl).2)
  | 2, _, h => exact Option.some.inj (h.symm.trans (hK.2 2 _ rfl).2)
  | 3, _, h => exact Option.some.inj (h.symm.trans (hK.2 3 _ rfl).2)
  | 4, _, h => exact Option.some.inj (h.symm.trans (hK.2 4 _ rfl).2)
  | 5, _, h => exact Option.some.inj (h.symm.trans (hK.2 5 _ rfl).2)
  | k + 6, hk, _ => omega
/-- newarray: its length is said, N; it takes cap of the room -/
def po_newa (kd N cap n : Nat) : pj_Op := fun L st h kc ks => match st with
  | .int x :: r => match kc, pj_sub ks cap with
    | kc + 1, some ks' => some (some (x.toNatClampNeg = N ∧ ¬ x < 0 ∧ N ≤ cap), (n, L, .ref h.length :: r, h ++ [.inl (kd, pj_zero kd N)], kc, ks'))
    | _, _ => none
  | _ => none
theorem ps_newa {G : pj_G} {mt : pj_M} {pc kd N cap : Nat} {aty : ArrayType} (hd : decode mt.2.1 pc = .ok (.newarray aty, 2)) (hk : kd < 6) (hty : newarray.typeOf aty = pj_aty kd) (hw : Cond.arrayClass (pj_aty kd) ∈ lw_all) (hcap : cap ≤ 10000) : pj_Snd G mt pc (po_newa kd N cap (pc + 2)) := by
  intro L st h kc ks c S ho hc d Q kk p l e R s m args below meth cc H locs cells slots mc ms ls hC hR hl hv h1 h2 h3 h4
  unfold po_newa at ho
  split at ho
  · rename_i x r
    split at ho
    · rename_i kc' ks' hs
      simp only [Option.some.injEq, Prod.mk.injEq] at ho; obtain ⟨rfl, rfl⟩ := ho
      obtain ⟨c1, c2, c3⟩ := hc
      have hks := pj_sub_ok hs
      have hbytes : N * componentBytes (newarray.typeOf aty) ≤ 536870912 := by
        have : componentBytes (newarray.typeOf aty) ≤ 8 := by cases aty <;> decide
        have h6 := Nat.mul_le_mul (Nat.le_trans c3 hcap) this
        omega
      refine va_newaK hC.1 hC.2.1 (by rw [hty]; exact hC.2.2.2.2.2.2.2.1 _ hw) rfl hd rfl c2 c1 hbytes (by omega) (by omega) rfl fun H1 cA e1 z1 o1 hAr hNm => ?_
      rw [hty] at e1 hNm
      have hcA := pj_aty_cls hC.2.2.2.2.2.2.2.2.1.1 hk hNm
      subst hcA
      have hsz := hR.size
      have hR' := hR.push (y := .inl (kd, pj_zero kd N)) z1 o1 (fun _ => by
        show H1[pj_ad G h.length]? = some (vp_cell (G.2.1 kd) (pj_a G (pj_zero kd N)))
        rw [hsz, pj_zero_cell G _ hk]
        exact e1)
      have k2 := kk p l e R s m args below meth cc H1 locs (cells + 1) (slots + cap) mc ms ls hC hR' hl hv (by show cells + 1 + kc' ≤ mc; omega) (by show slots + cap + ks' ≤ ms; omega) h3 h4
      refine W.widen (k := cells + 1) (n := slots + cap) (Nat.le_refl _) (by omega) ?_
      simp only [List.map_cons, pj_v, hsz] at k2
      exact k2
    · cases ho
  · cases ho
/-- newarray of an int that is not known -/
def po_newx (kd cap n : Nat) : pj_Op := fun L st h kc ks => match st with
  | .int x :: r => po_newa kd x.toNatClampNeg cap n L st h kc ks
  | _ => none
theorem ps_newx {G : pj_G} {mt : pj_M} {pc kd cap : Nat} {aty : ArrayType} (hd : decode mt.2.1 pc = .ok (.newarray aty, 2)) (hk : kd < 6) (hty : newarray.typeOf aty = pj_aty kd) (hw : Cond.arrayClass (pj_aty kd) ∈ lw_all) (hcap : cap ≤ 10000) : pj_Snd G mt pc (po_newx kd cap (pc + 2)) := by
  intro L st h kc ks c S ho
  unfold po_newx at ho
  split at ho
  · exact ps_newa hd hk hty hw hcap L _ h kc ks c S ho
  · cases ho
/-- anewarray -/
def po_newq (kd N n : Nat) : pj_Op := fun L st h kc ks => match st with
  | .int x :: r => match kc, pj_sub ks N with
    | kc + 1, some ks' => some (some (x.toNatClampNeg = N ∧ ¬ x < 0), (n, L, .ref h.length :: r, h ++ [.inl (kd, (N, .inr (.inr (.inr (.inr (fun _ => none))))))], kc, ks'))
    | _, _ => none
  | _ => none
theorem ps_newq {G : pj_G} {mt : pj_M} {pc kd N index : Nat} {C : String} (hd : decode mt.2.1 pc = .ok (.anewarray index, 3)) (hk : kd < 9) (hty : ∀ G : pj_G, (pj_tys G)[kd]? = some (G.2.1 kd, .object C)) (hcl : Cond.classLink mt.1.cls index C ∈ lw_all) (hov : Cond.arrayOver (.object C) ∈ pj_ext) (hN : N ≤ 1000) : pj_Snd G mt pc (po_newq kd N (pc + 3)) := by
  intro L st h kc ks c S ho hc d Q kk p l e R s m args below meth cc H locs cells slots mc ms ls hC hR hl hv h1 h2 h3 h4
  unfold po_newq at ho
  split at ho
  · rename_i x r
    split at ho
    · rename_i kc' ks' hs
      simp only [Option.some.injEq, Prod.mk.injEq] at ho; obtain ⟨rfl, rfl⟩ := ho
      obtain ⟨c1, c2⟩ := hc
      subst c1
      have hks := pj_sub_ok hs
      have hK := hC.2.2.2.2.2.2.2.2.1
      refine W.anew hC.1 hC.2.1 hC.2.2.2.2.2.1 (hC.2.2.2.2.2.2.2.1 _ hcl) (va_AO.use (hK.2.1 _ hov)) rfl hd rfl c2 (by omega) (by omega) (by omega) fun cA kA comp g1 g2 g3 g4 => ?_
      obtain ⟨kA', comp', q1, q2, q3, q4⟩ := (hK.1.2 kd _ (hty G)).2
      have hcA : cA = G.2.1 kd := Option.some.inj (g1.symm.trans q4)
      subst hcA
      have hsz := hR.size
      have hR' := hR.push (y := .inl (kd, (x.toNatClampNeg, .inr (.inr (.inr (.inr (fun _ => none))))))) (H' := H.push { cls := G.2.1 kd, slots := Array.replicate x.toNatClampNeg .null, vm := .none }) (by simp) (fun q hq => by rw [Array.getElem?_push, if_neg (Nat.ne_of_lt hq)]) (fun _ => by
        show (H.push _)[pj_ad G h.length]? = some (vp_cell (G.2.1 kd) (pj_a G (x.toNatClampNeg, .inr (.inr (.inr (.inr (fun _ => none)))))))
        rw [hsz, arrV_new]
        simp only [Array.getElem?_push_size]
        rfl)
      have k2 := kk p l e R s m args below meth cc _ locs (cells + 1) (slots + x.toNatClampNeg) mc ms ls hC hR' hl hv (by show cells + 1 + kc' ≤ mc; omega) (by show slots + x.toNatClampNeg + ks' ≤ ms; omega) h3 h4
      simp only [List.map_cons, pj_v, hsz] at k2
      exact k2
    · cases ho
  · cases ho
/-- new -/
def po_new (ci N : Nat) (fs : List Value) (n : Nat) : pj_Op := fun L st h kc ks => match kc, pj_sub ks N with
  | kc + 1, some ks' => some (none, (n, L, .ref h.length :: st, h ++ [.inr (ci, fs)], kc, ks'))
  | _, _ => none
theorem ps_new {G : pj_G} {mt : pj_M} {pc ci N index : Nat} {C : String} {T : u_T} {fs : List Value} (ty : Nat → FieldType) (hd : decode mt.2.1 pc = .ok (.new index, 3)) (hci : ci < 90) (hc0 : pj_cl[ci]? = some (C, T, N)) (hin : ∀ w ∈ u_ws C T N, w ∈ lw_all) (hty : ∀ k, k < N → parseFieldDescriptor (T k).2.2.1 = some (ty k)) (hcl : Cond.classLink mt.1.cls index C ∈ lw_all) (hinst : Cond.instantiable C N ∈ lw_all) (hini : Cond.initialized C ∈ lw_all) (hfs : ∀ G : pj_G, ∀ j, j < N → defaultValue (ty j) = vp_V (fs.map (pj_v G)) j) : pj_Snd G mt pc (po_new ci N fs (pc + 3)) := by
  intro L st h kc ks c S ho hc d Q kk p l e R s m args below meth cc H locs cells slots mc ms ls hC hR hl hv h1 h2 h3 h4
  unfold po_new at ho
  split at ho
  · rename_i kc' ks' hs
    simp only [Option.some.injEq, Prod.mk.injEq] at ho; obtain ⟨rfl, rfl⟩ := ho
    have hks := pj_sub_ok hs
    have hK := hC.2.2.2.2.2.2.2.2.1
    have hts := hC.2.2.2.2.2.2.2.1
    have hKn := hK.1.1 ci _ hc0
    refine W.newcK hC.1 hC.2.1 hC.2.2.2.2.2.1 (hts _ hcl) (hts _ hinst) (hts _ hini) rfl hd (by omega) (by omega) hKn.2.1 rfl fun H1 kC hkC e1 z1 o1 => ?_
    have hsz := hR.size
    have hR' := hR.push (y := .inr (ci, fs)) z1 o1 (fun _ => by
      show va_at G.1 pj_cl (pj_ad G h.length, .inr (ci, fs.map (pj_v G))) H1
      rw [hsz]
      exact ⟨_, hc0, (u_born ty hts hin hKn hkC e1 hty).to (hfs G)⟩)
    have k2 := kk p l e R s m args below meth cc H1 locs (cells + 1) (slots + N) mc ms ls hC hR' hl hv (by show cells + 1 + kc' ≤ mc; omega) (by show slots + N + ks' ≤ ms; omega) h3 h4
    simp only [List.map_cons, pj_v, hsz] at k2
    exact k2
  · cases ho
/-- a switch, as a list of keys and places -/
def pj_sw : List (Int32 × Nat) → Nat → Int32 → Nat
  | [], d, _ => d
  | (k, t) :: r, d, x => if x = k then t else pj_sw r d x
def po_sw (ts : List (Int32 × Nat)) (dflt : Nat) : pj_Op := fun L st h kc ks => match st with
  | .int x :: r => some (none, (pj_sw ts dflt x, L, r, h, kc, ks))
  | _ => none
/-- the list is the table's, from lo on -/
def pj_swok (pc : Nat) (lo : Int) (offs : Array Int) : Nat → List (Int32 × Nat) → Bool
  | _, [] => true
  | j, (k, t) :: r => (k.toInt == lo + j) && (match offs[j]? with | some off => (pc : Int) + off == t | none => false) && pj_swok pc lo offs (j + 1) r
theorem pj_swok_at {pc : Nat} {lo : Int} {offs : Array Int} {d : Nat} {x : Int32} : ∀ (ts : List (Int32 × Nat)) (j : Nat), pj_swok pc lo offs j ts = true → (lo + j ≤ x.toInt) →
    (x.toInt < lo + j + ts.length → ∃ off, offs[(x.toInt - lo).toNat]? = some off ∧ (pc : Int) + off = (pj_sw ts d x : Int)) ∧ (¬ x.toInt < lo + j + ts.length → pj_sw ts d x = d) := by
  intro ts
  induction ts with
  | nil => intro j _ h; exact ⟨fun h2 => by simp at h2; omega, fun _ => rfl⟩
  | cons q r ih =>
    intro j hok hj
    obtain ⟨k, t⟩ := q
    simp only [pj_swok, Bool.and_eq_true, beq_iff_eq] at hok
    obtain ⟨⟨a1, a2⟩, a3⟩ := hok
    by_cases e : x = k
    · subst e
      refine ⟨fun _ => ?_, fun h2 => ?_⟩
      · split at a2
        · rename_i off hoff
          refine ⟨off, ?_, ?_⟩
          · rw [show (x.toInt - lo).toNat = j by omega]; exact hoff
          · rw [pj_sw, if_pos rfl]; simpa using a2
        · cases a2
      · exfalso; simp at h2; omega
    · have hne : x.toInt ≠ k.toInt := fun q => e (Int32.toInt_inj.mp q)
      have := ih (j + 1) a3 (by omega)
      rw [pj_sw, if_neg e]
      refine ⟨fun h2 => this.1 (by simp at h2 ⊢; omega), fun h2 => this.2 (by simp at h2 ⊢; omega)⟩
theorem pj_sw_low {d : Nat} {x : Int32} {pc : Nat} {lo : Int} {offs : Array Int} (hx : x.toInt < lo) : ∀ (ts : List (Int32 × Nat)) (j : Nat), pj_swok pc lo offs j ts = true → pj_sw ts d x = d := by
  intro ts
  induction ts with
  | nil => intro _ _; rfl
  | cons q r ih =>
    intro j hok
    obtain ⟨k, t⟩ := q
    simp only [pj_swok, Bool.and_eq_true, beq_iff_eq] at hok
    obtain ⟨⟨a1, a2⟩, a3⟩ := hok
    rw [pj_sw, if_neg (fun q => by subst q; omega)]
    exact ih (j + 1) a3
theorem ps_sw {G : pj_G} {mt : pj_M} {pc dflt len : Nat} {df lo hi : Int} {offs : Array Int} {ts : List (Int32 × Nat)} (hd : decode mt.2.1 pc = .ok (.tableswitch df lo hi offs, len)) (hdf : (pc : Int) + df = (dflt : Int)) (hok : pj_swok pc lo offs 0 ts = true) (hlen : lo + ts.length = hi + 1) : pj_Snd G mt pc (po_sw ts dflt) := by
  intro L st h kc ks c S ho hc d Q kk p l e R s m args below meth cc H locs cells slots mc ms ls hC hR hl hv h1 h2 h3 h4
  unfold po_sw at ho
  split at ho
  · rename_i x r
    simp only [Option.some.injEq, Prod.mk.injEq] at ho; obtain ⟨rfl, rfl⟩ := ho
    have k2 := kk p l e R s m args below meth cc H locs cells slots mc ms ls hC hR hl hv h1 h2 h3 h4
    by_cases hx : x.toInt < lo
    · refine lv_tableOut hC.1 hC.2.1 hd (Or.inl hx) (tgt := pj_sw ts dflt x) ?_ k2
      rw [pj_sw_low hx ts 0 hok]; exact hdf
    · have := pj_swok_at (d := dflt) (x := x) ts 0 hok (by omega)
      by_cases hx2 : hi < x.toInt
      · refine lv_tableOut hC.1 hC.2.1 hd (Or.inr hx2) (tgt := pj_sw ts dflt x) ?_ k2
        rw [this.2 (by omega)]; exact hdf
      · obtain ⟨off, o1, o2⟩ := this.1 (by omega)
        exact lv_tableIn hC.1 hC.2.1 hd hx hx2 o1 o2 k2
  · cases ho
