/-! Object's constructor. Own work. -/
set_option maxRecDepth 100000
theorem pj_oi1 : Cond.instanceMethod Lib.objectInit ∈ lw_all := q101
theorem pj_oi2 : Cond.code Lib.objectInit ⟨#[0xb1]⟩ 1 none ∈ lw_all := q102
def po_oinit (n : Nat) : pj_Op := fun L st h kc ks => match st with
  | .ref _ :: r => if (r.map fun v => v.category).sum ≤ 8 then some (none, (n, L, r, h, kc, ks)) else none
  | _ => none
theorem ps_oinit {G : pj_G} {mt : pj_M} {pc index : Nat} (hd : decode mt.2.1 pc = .ok (.invokespecial index, 3)) (hl0 : Cond.methodLink mt.1.cls index Lib.objectInit ∈ lw_all) : pj_Snd G mt pc (po_oinit (pc + 3)) := by
  intro L st h kc ks c S ho hc d Q kk p l e R s m args below meth cc H locs cells slots mc ms ls hC hR hl hv h1 h2 h3 h4
  unfold po_oinit at ho
  split at ho
  · rename_i a r
    split at ho
    · rename_i hr
      simp only [Option.some.injEq, Prod.mk.injEq] at ho; obtain ⟨rfl, rfl⟩ := ho
      have hts := hC.2.2.2.2.2.2.2.1
      obtain ⟨-, -, -, -, -, -, -, -, -, hfr, hlo, hfl⟩ := id hC
      refine W.objInit hC.1 hC.2.1 hC.2.2.2.2.2.1 (hts _ hl0) (hts _ pj_oi1) (hts _ pj_oi2) rfl (by rw [hC.2.2.1]; exact hv.1) rfl hd (by omega) ?_ (kk p l e R s m args below meth cc H locs cells slots mc ms ls hC hR hl hv h1 h2 h3 h4)
      show 2 * 0 + ((r.map (pj_v G)).map fun v => v.category).sum + 12 ≤ R.locals
      rw [pj_cats]; omega
    · cases ho
  · cases ho
