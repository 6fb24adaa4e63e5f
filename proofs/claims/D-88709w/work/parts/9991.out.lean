/-! RAISING: accesses out of bounds; casts that fail (by tools/gen_out.py, and by hand) -/
set_option maxRecDepth 100000
theorem px_arr {G : pj_G} {h : pj_H} {H : Heap} {a kd N : Nat} {f : (Nat → Int32) ⊕ (Nat → Int64) ⊕ (Nat → UInt32) ⊕ (Nat → UInt64) ⊕ (Nat → Option Nat)} (hR : pj_R G h H) (ha : h[a]? = some (.inl (kd, (N, f)))) (hk : kd < 90) : ∃ z : Nat → Value, H[pj_ad G a]? = some (arrV (G.2.1 kd) N z) := by
  have hq := hR.2.2.2.1 a _ ha (by show ¬ 90 ≤ kd; omega)
  have hq' : H[pj_ad G a]? = some (vp_cell (G.2.1 kd) (pj_a G (N, f))) := hq
  rw [hq']
  match f with
  | .inl f => exact ⟨fun j => .int (f j), rfl⟩
  | .inr (.inl f) => exact ⟨fun j => .long (f j), rfl⟩
  | .inr (.inr (.inl f)) => exact ⟨fun j => .float (f j), rfl⟩
  | .inr (.inr (.inr (.inl f))) => exact ⟨fun j => .double (f j), rfl⟩
  | .inr (.inr (.inr (.inr f))) => exact ⟨fun j => va_rf ((f j).map (pj_ad G)), rfl⟩
theorem ro_iaload {G : pj_G} {mt : pj_M} {d pc : Nat} {h : pj_H} {j : Int32}  {a kd N : Nat} {f : (Nat → Int32) ⊕ (Nat → Int64) ⊕ (Nat → UInt32) ⊕ (Nat → UInt64) ⊕ (Nat → Option Nat)} {ty : FieldType} {rest : List Value} (ha : h[a]? = some (.inl (kd, (N, f)))) (hk : kd < 90) (hty : ∀ G : pj_G, (pj_tys G)[kd]? = some (G.2.1 kd, ty)) (hN : N < 2 ^ 31) (hj : ¬ vp_in j N) (hd : decode mt.2.1 pc = .ok (.iaload, 1)) (hw : (rest.map fun v => v.category).sum ≤ 8) : px_rs G mt d pc (.int j :: .ref a :: rest) h "java/lang/ArrayIndexOutOfBoundsException" px_some := by
  intro p l e R s m args below meth c T locs cells slots ls hC hR X
  obtain ⟨z, hz⟩ := px_arr hR ha hk
  have hA := ((hC.2.2.2.2.2.2.2.2.1.1.2 kd _ (hty G)).1 N z)
  have hout : j < 0 ∨ (arrV (G.2.1 kd) N z).slots.size ≤ j.toNatClampNeg := by rw [arrV_size]; exact Classical.not_not.mp hj
  have hs := X.ialoadOut hC.1 hz hA hout (g := F0 m pc ls ((.int j :: .ref a :: rest).map (pj_v G))) rfl (rest := rest.map (pj_v G)) rfl (by rw [hC.2.1]; exact hd)
  refine ⟨T, rest.map (pj_v G), _, rfl, X, by rw [pj_cats]; exact hw, ⟨_, rfl, ?_, ?_⟩, hs⟩
  · exact index_text_modelled j _
  · have := index_text_bytes j (n := (arrV (G.2.1 kd) N z).slots.size) (by rw [arrV_size]; exact hN)
    omega
theorem ro_laload {G : pj_G} {mt : pj_M} {d pc : Nat} {h : pj_H} {j : Int32}  {a kd N : Nat} {f : (Nat → Int32) ⊕ (Nat → Int64) ⊕ (Nat → UInt32) ⊕ (Nat → UInt64) ⊕ (Nat → Option Nat)} {ty : FieldType} {rest : List Value} (ha : h[a]? = some (.inl (kd, (N, f)))) (hk : kd < 90) (hty : ∀ G : pj_G, (pj_tys G)[kd]? = some (G.2.1 kd, ty)) (hN : N < 2 ^ 31) (hj : ¬ vp_in j N) (hd : decode mt.2.1 pc = .ok (.laload, 1)) (hw : (rest.map fun v => v.category).sum ≤ 8) : px_rs G mt d pc (.int j :: .ref a :: rest) h "java/lang/ArrayIndexOutOfBoundsException" px_some := by
  intro p l e R s m args below meth c T locs cells slots ls hC hR X
  obtain ⟨z, hz⟩ := px_arr hR ha hk
  have hA := ((hC.2.2.2.2.2.2.2.2.1.1.2 kd _ (hty G)).1 N z)
  have hout : j < 0 ∨ (arrV (G.2.1 kd) N z).slots.size ≤ j.toNatClampNeg := by rw [arrV_size]; exact Classical.not_not.mp hj
  have hs := X.laloadOut hC.1 hz hA hout (g := F0 m pc ls ((.int j :: .ref a :: rest).map (pj_v G))) rfl (rest := rest.map (pj_v G)) rfl (by rw [hC.2.1]; exact hd)
  refine ⟨T, rest.map (pj_v G), _, rfl, X, by rw [pj_cats]; exact hw, ⟨_, rfl, ?_, ?_⟩, hs⟩
  · exact index_text_modelled j _
  · have := index_text_bytes j (n := (arrV (G.2.1 kd) N z).slots.size) (by rw [arrV_size]; exact hN)
    omega
theorem ro_saload {G : pj_G} {mt : pj_M} {d pc : Nat} {h : pj_H} {j : Int32}  {a kd N : Nat} {f : (Nat → Int32) ⊕ (Nat → Int64) ⊕ (Nat → UInt32) ⊕ (Nat → UInt64) ⊕ (Nat → Option Nat)} {ty : FieldType} {rest : List Value} (ha : h[a]? = some (.inl (kd, (N, f)))) (hk : kd < 90) (hty : ∀ G : pj_G, (pj_tys G)[kd]? = some (G.2.1 kd, ty)) (hN : N < 2 ^ 31) (hj : ¬ vp_in j N) (hd : decode mt.2.1 pc = .ok (.saload, 1)) (hw : (rest.map fun v => v.category).sum ≤ 8) : px_rs G mt d pc (.int j :: .ref a :: rest) h "java/lang/ArrayIndexOutOfBoundsException" px_some := by
  intro p l e R s m args below meth c T locs cells slots ls hC hR X
  obtain ⟨z, hz⟩ := px_arr hR ha hk
  have hA := ((hC.2.2.2.2.2.2.2.2.1.1.2 kd _ (hty G)).1 N z)
  have hout : j < 0 ∨ (arrV (G.2.1 kd) N z).slots.size ≤ j.toNatClampNeg := by rw [arrV_size]; exact Classical.not_not.mp hj
  have hs := X.saloadOut hC.1 hz hA hout (g := F0 m pc ls ((.int j :: .ref a :: rest).map (pj_v G))) rfl (rest := rest.map (pj_v G)) rfl (by rw [hC.2.1]; exact hd)
  refine ⟨T, rest.map (pj_v G), _, rfl, X, by rw [pj_cats]; exact hw, ⟨_, rfl, ?_, ?_⟩, hs⟩
  · exact index_text_modelled j _
  · have := index_text_bytes j (n := (arrV (G.2.1 kd) N z).slots.size) (by rw [arrV_size]; exact hN)
    omega
theorem ro_baload {G : pj_G} {mt : pj_M} {d pc : Nat} {h : pj_H} {j : Int32}  {a kd N : Nat} {f : (Nat → Int32) ⊕ (Nat → Int64) ⊕ (Nat → UInt32) ⊕ (Nat → UInt64) ⊕ (Nat → Option Nat)} {ty : FieldType} {rest : List Value} (ha : h[a]? = some (.inl (kd, (N, f)))) (hk : kd < 90) (hty : ∀ G : pj_G, (pj_tys G)[kd]? = some (G.2.1 kd, ty)) (hN : N < 2 ^ 31) (hj : ¬ vp_in j N) (hd : decode mt.2.1 pc = .ok (.baload, 1)) (hw : (rest.map fun v => v.category).sum ≤ 8) : px_rs G mt d pc (.int j :: .ref a :: rest) h "java/lang/ArrayIndexOutOfBoundsException" px_some := by
  intro p l e R s m args below meth c T locs cells slots ls hC hR X
  obtain ⟨z, hz⟩ := px_arr hR ha hk
  have hA := ((hC.2.2.2.2.2.2.2.2.1.1.2 kd _ (hty G)).1 N z)
  have hout : j < 0 ∨ (arrV (G.2.1 kd) N z).slots.size ≤ j.toNatClampNeg := by rw [arrV_size]; exact Classical.not_not.mp hj
  have hs := X.baloadOut hC.1 hz hA hout (g := F0 m pc ls ((.int j :: .ref a :: rest).map (pj_v G))) rfl (rest := rest.map (pj_v G)) rfl (by rw [hC.2.1]; exact hd)
  refine ⟨T, rest.map (pj_v G), _, rfl, X, by rw [pj_cats]; exact hw, ⟨_, rfl, ?_, ?_⟩, hs⟩
  · exact index_text_modelled j _
  · have := index_text_bytes j (n := (arrV (G.2.1 kd) N z).slots.size) (by rw [arrV_size]; exact hN)
    omega
theorem ro_iastore {G : pj_G} {mt : pj_M} {d pc : Nat} {h : pj_H} {j : Int32} {x : Int32} {a kd N : Nat} {f : (Nat → Int32) ⊕ (Nat → Int64) ⊕ (Nat → UInt32) ⊕ (Nat → UInt64) ⊕ (Nat → Option Nat)} {ty : FieldType} {rest : List Value} (ha : h[a]? = some (.inl (kd, (N, f)))) (hk : kd < 90) (hty : ∀ G : pj_G, (pj_tys G)[kd]? = some (G.2.1 kd, ty)) (hN : N < 2 ^ 31) (hj : ¬ vp_in j N) (hd : decode mt.2.1 pc = .ok (.iastore, 1)) (hw : (rest.map fun v => v.category).sum ≤ 8) : px_rs G mt d pc (.int x :: .int j :: .ref a :: rest) h "java/lang/ArrayIndexOutOfBoundsException" px_some := by
  intro p l e R s m args below meth c T locs cells slots ls hC hR X
  obtain ⟨z, hz⟩ := px_arr hR ha hk
  have hA := ((hC.2.2.2.2.2.2.2.2.1.1.2 kd _ (hty G)).1 N z)
  have hout : j < 0 ∨ (arrV (G.2.1 kd) N z).slots.size ≤ j.toNatClampNeg := by rw [arrV_size]; exact Classical.not_not.mp hj
  have hs := X.iastoreOut hC.1 hz hA hout (g := F0 m pc ls ((.int x :: .int j :: .ref a :: rest).map (pj_v G))) rfl (rest := rest.map (pj_v G)) rfl (by rw [hC.2.1]; exact hd)
  refine ⟨T, rest.map (pj_v G), _, rfl, X, by rw [pj_cats]; exact hw, ⟨_, rfl, ?_, ?_⟩, hs⟩
  · exact index_text_modelled j _
  · have := index_text_bytes j (n := (arrV (G.2.1 kd) N z).slots.size) (by rw [arrV_size]; exact hN)
    omega
theorem ro_lastore {G : pj_G} {mt : pj_M} {d pc : Nat} {h : pj_H} {j : Int32} {x : Int64} {a kd N : Nat} {f : (Nat → Int32) ⊕ (Nat → Int64) ⊕ (Nat → UInt32) ⊕ (Nat → UInt64) ⊕ (Nat → Option Nat)} {ty : FieldType} {rest : List Value} (ha : h[a]? = some (.inl (kd, (N, f)))) (hk : kd < 90) (hty : ∀ G : pj_G, (pj_tys G)[kd]? = some (G.2.1 kd, ty)) (hN : N < 2 ^ 31) (hj : ¬ vp_in j N) (hd : decode mt.2.1 pc = .ok (.lastore, 1)) (hw : (rest.map fun v => v.category).sum ≤ 8) : px_rs G mt d pc (.long x :: .int j :: .ref a :: rest) h "java/lang/ArrayIndexOutOfBoundsException" px_some := by
  intro p l e R s m args below meth c T locs cells slots ls hC hR X
  obtain ⟨z, hz⟩ := px_arr hR ha hk
  have hA := ((hC.2.2.2.2.2.2.2.2.1.1.2 kd _ (hty G)).1 N z)
  have hout : j < 0 ∨ (arrV (G.2.1 kd) N z).slots.size ≤ j.toNatClampNeg := by rw [arrV_size]; exact Classical.not_not.mp hj
  have hs := X.lastoreOut hC.1 hz hA hout (g := F0 m pc ls ((.long x :: .int j :: .ref a :: rest).map (pj_v G))) rfl (rest := rest.map (pj_v G)) rfl (by rw [hC.2.1]; exact hd)
  refine ⟨T, rest.map (pj_v G), _, rfl, X, by rw [pj_cats]; exact hw, ⟨_, rfl, ?_, ?_⟩, hs⟩
  · exact index_text_modelled j _
  · have := index_text_bytes j (n := (arrV (G.2.1 kd) N z).slots.size) (by rw [arrV_size]; exact hN)
    omega
theorem ro_bastore {G : pj_G} {mt : pj_M} {d pc : Nat} {h : pj_H} {j : Int32} {x : Int32} {a kd N : Nat} {f : (Nat → Int32) ⊕ (Nat → Int64) ⊕ (Nat → UInt32) ⊕ (Nat → UInt64) ⊕ (Nat → Option Nat)} {ty : FieldType} {rest : List Value} (ha : h[a]? = some (.inl (kd, (N, f)))) (hk : kd < 90) (hty : ∀ G : pj_G, (pj_tys G)[kd]? = some (G.2.1 kd, ty)) (hN : N < 2 ^ 31) (hj : ¬ vp_in j N) (hd : decode mt.2.1 pc = .ok (.bastore, 1)) (hw : (rest.map fun v => v.category).sum ≤ 8) : px_rs G mt d pc (.int x :: .int j :: .ref a :: rest) h "java/lang/ArrayIndexOutOfBoundsException" px_some := by
  intro p l e R s m args below meth c T locs cells slots ls hC hR X
  obtain ⟨z, hz⟩ := px_arr hR ha hk
  have hA := ((hC.2.2.2.2.2.2.2.2.1.1.2 kd _ (hty G)).1 N z)
  have hout : j < 0 ∨ (arrV (G.2.1 kd) N z).slots.size ≤ j.toNatClampNeg := by rw [arrV_size]; exact Classical.not_not.mp hj
  have hs := X.bastoreOut hC.1 hz hA hout (g := F0 m pc ls ((.int x :: .int j :: .ref a :: rest).map (pj_v G))) rfl (rest := rest.map (pj_v G)) rfl (by rw [hC.2.1]; exact hd)
  refine ⟨T, rest.map (pj_v G), _, rfl, X, by rw [pj_cats]; exact hw, ⟨_, rfl, ?_, ?_⟩, hs⟩
  · exact index_text_modelled j _
  · have := index_text_bytes j (n := (arrV (G.2.1 kd) N z).slots.size) (by rw [arrV_size]; exact hN)
    omega
theorem ro_sastore {G : pj_G} {mt : pj_M} {d pc : Nat} {h : pj_H} {j : Int32} {x : Int32} {a kd N : Nat} {f : (Nat → Int32) ⊕ (Nat → Int64) ⊕ (Nat → UInt32) ⊕ (Nat → UInt64) ⊕ (Nat → Option Nat)} {ty : FieldType} {rest : List Value} (ha : h[a]? = some (.inl (kd, (N, f)))) (hk : kd < 90) (hty : ∀ G : pj_G, (pj_tys G)[kd]? = some (G.2.1 kd, ty)) (hN : N < 2 ^ 31) (hj : ¬ vp_in j N) (hd : decode mt.2.1 pc = .ok (.sastore, 1)) (hw : (rest.map fun v => v.category).sum ≤ 8) : px_rs G mt d pc (.int x :: .int j :: .ref a :: rest) h "java/lang/ArrayIndexOutOfBoundsException" px_some := by
  intro p l e R s m args below meth c T locs cells slots ls hC hR X
  obtain ⟨z, hz⟩ := px_arr hR ha hk
  have hA := ((hC.2.2.2.2.2.2.2.2.1.1.2 kd _ (hty G)).1 N z)
  have hout : j < 0 ∨ (arrV (G.2.1 kd) N z).slots.size ≤ j.toNatClampNeg := by rw [arrV_size]; exact Classical.not_not.mp hj
  have hs := X.sastoreOut hC.1 hz hA hout (g := F0 m pc ls ((.int x :: .int j :: .ref a :: rest).map (pj_v G))) rfl (rest := rest.map (pj_v G)) rfl (by rw [hC.2.1]; exact hd)
  refine ⟨T, rest.map (pj_v G), _, rfl, X, by rw [pj_cats]; exact hw, ⟨_, rfl, ?_, ?_⟩, hs⟩
  · exact index_text_modelled j _
  · have := index_text_bytes j (n := (arrV (G.2.1 kd) N z).slots.size) (by rw [arrV_size]; exact hN)
    omega
