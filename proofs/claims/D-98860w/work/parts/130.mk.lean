/-! 130: arrays are made -/
set_option maxRecDepth 100000
/-- the word for arrays of int arrays, as a state holds it -/
def vA2 (U : State) : Prop := (Cond.arrayOver (.array .int)).before #[] U = true
theorem vA2.use {U : State} {A : Array Value} (h : vA2 U) : (Cond.arrayOver (.array .int)).before A U = true := h
theorem vA2.moved {u U : State} (hvm : u.vm.Alike U.vm) (h : vA2 u) : vA2 U := by
  unfold vA2 Cond.before Cond.holds at h ⊢
  simp only [Cond.value, beq_iff_eq] at h ⊢
  rw [hvm.findClass]
  cases hc : u.vm.findClass (FieldType.array .int).toString with
  | none => rw [hc] at h; cases h
  | some comp =>
    rw [hc, Option.bind_some] at h
    rw [Option.bind_some]
    obtain ⟨c, h2, h3⟩ := Option.bind_eq_some_iff.mp h
    refine Option.bind_eq_some_iff.mpr ⟨c, ?_, ?_⟩
    · refine Eq.trans ?_ h2
      refine (va_idx_bare U.vm comp).symm.trans ?_
      refine Eq.trans ?_ (va_idx_bare u.vm comp)
      first | rw [hvm.bare_eq] | rw [← hvm.bare_eq]
    · obtain ⟨k, hk, h4⟩ := Option.map_eq_some_iff.mp h3
      obtain ⟨k', hk', he⟩ := hvm.2.2 _ _ hk
      refine Option.map_eq_some_iff.mpr ⟨k', hk', ?_⟩
      rw [he, hvm.findClass]
      exact h4
theorem arrV_is {cA : ClassId} {n : Nat} {f : Nat → Value} {ce : Cell} (h1 : ce.cls = cA) (h2 : ce.vm = .none) (h5 : ce.monitor = {}) (h6 : ce.hash = none) (h3 : ce.slots.size = n) (h4 : ∀ j, j < n → ce.slots[j]? = some (f j)) : ce = arrV cA n f := by
  have hs : ce.slots = (arrV cA n f).slots := by
    apply Array.ext_getElem?
    intro j
    by_cases hj : j < n
    · rw [h4 j hj, arrV_read _ _ hj]
    · rw [Array.getElem?_eq_none (by omega), Array.getElem?_eq_none (by rw [arrV_size]; omega)]
  cases ce
  cases h1
  cases h2
  cases h5
  cases h6
  cases hs
  rfl
theorem outer_mh (c : ClassId) (N h0 : Nat) : ∀ i, (Jvm.Free.Multi.outerC c N h0 i).monitor = {} ∧ (Jvm.Free.Multi.outerC c N h0 i).hash = none := by
  intro i
  induction i with
  | zero => exact ⟨rfl, rfl⟩
  | succ i ih => exact ⟨by rw [← ih.1]; rfl, by rw [← ih.2]; rfl⟩
section MK
variable {p : Program} {l : Launch} {e : Env} {R : Room} {s : State} {m : MethodId} {args : Array Value} {below : List Frame} {meth : Method} {c : Code} {H : Heap} {locs : List Loc} {cells slots : Nat} {Q : State → Prop}
variable {cc : ByteArray} {pc nL : Nat} {ls : Array Slot} {rest : List Value} {own : String} {A : Nat → Prop} {D : va_G} {dT : Nat → ClassId}
theorem n_newI (E : CallFix p m c cc nL s args lw_all own) (hK : va_K D nwCl (nwT dT) s) {n : Nat} (hn : n ≤ 100000) (hcells : cells + 1 ≤ R.cells) (hslots : slots + n ≤ R.slots) (hdg : decode cc pc = .ok (.newarray .int, 2))
    (kk : ∀ (H1 : Heap), H1[H.size]? = some (arrV (dT 0) n (fun _ => .int 0)) → H1.size = H.size + 1 → (∀ q, q < H.size → H1[q]? = H[q]?) → W p l e R s m args below meth c H1 locs (cells + 1) (slots + n) Q (F0 m (pc + 2) ls (.ref H.size :: rest))) : W p l e R s m args below meth c H locs cells slots Q (F0 m pc ls (.int (nI n) :: rest)) := by
  have hcl : (nI n).toNatClampNeg = n := nI_clamp (by omega)
  refine va_newaK (atype := .int) E.1 E.2.1 (E.2.2.2.2 _ q238) rfl hdg rfl (nI_pos (by omega)) hcl (show n * 4 ≤ _ by omega) hcells hslots rfl fun H1 cA e1 z1 o1 hAr hNm => ?_
  have hcA : cA = dT 0 := Option.some.inj (hNm.symm.trans (hK.2 0 (dT 0, .int) rfl).2)
  subst hcA
  exact kk H1 e1 z1 o1
theorem n_newB (E : CallFix p m c cc nL s args lw_all own) (hK : va_K D nwCl (nwT dT) s) {n : Nat} (hn : n ≤ 100000) (hcells : cells + 1 ≤ R.cells) (hslots : slots + n ≤ R.slots) (hdg : decode cc pc = .ok (.newarray .byte, 2))
    (kk : ∀ (H1 : Heap), H1[H.size]? = some (arrV (dT 1) n (fun _ => .int 0)) → H1.size = H.size + 1 → (∀ q, q < H.size → H1[q]? = H[q]?) → W p l e R s m args below meth c H1 locs (cells + 1) (slots + n) Q (F0 m (pc + 2) ls (.ref H.size :: rest))) : W p l e R s m args below meth c H locs cells slots Q (F0 m pc ls (.int (nI n) :: rest)) := by
  have hcl : (nI n).toNatClampNeg = n := nI_clamp (by omega)
  refine va_newaK (atype := .byte) E.1 E.2.1 (E.2.2.2.2 _ q237) rfl hdg rfl (nI_pos (by omega)) hcl (show n * 1 ≤ _ by omega) hcells hslots rfl fun H1 cA e1 z1 o1 hAr hNm => ?_
  have hcA : cA = dT 1 := Option.some.inj (hNm.symm.trans (hK.2 1 (dT 1, .byte) rfl).2)
  subst hcA
  exact kk H1 e1 z1 o1
/-- an array of Skies -/
theorem n_newS (E : CallFix p m c cc nL s args lw_all own) (hK : va_K D nwCl (nwT dT) s) (hAO : va_AO "NamesWeather$Skies" s) {index n : Nat} (hq : Cond.classLink own index "NamesWeather$Skies" ∈ lw_all) (hn : n ≤ 1000) (hcells : cells + 1 ≤ R.cells) (hslots : slots + n ≤ R.slots) (hdg : decode cc pc = .ok (.anewarray index, 3))
    (kk : ∀ (H1 : Heap), H1[H.size]? = some (arrV (dT 3) n (fun _ => .null)) → H1.size = H.size + 1 → (∀ q, q < H.size → H1[q]? = H[q]?) → W p l e R s m args below meth c H1 locs (cells + 1) (slots + n) Q (F0 m (pc + 3) ls (.ref H.size :: rest))) : W p l e R s m args below meth c H locs cells slots Q (F0 m pc ls (.int (nI n) :: rest)) := by
  have hcl : (nI n).toNatClampNeg = n := nI_clamp (by omega)
  refine W.anew E.1 E.2.1 E.2.2.2.1 (E.2.2.2.2 _ hq) (va_AO.use hAO) rfl hdg rfl (nI_pos (by omega)) (by rw [hcl]; omega) hcells (by rw [hcl]; omega) fun cA kA comp f1 f2 f3 f4 => ?_
  rw [hcl]
  have hcA : cA = dT 3 := by
    obtain ⟨kA', comp', -, -, -, h4⟩ := (hK.2 3 (dT 3, .object "NamesWeather$Skies") rfl).2
    exact Option.some.inj (f1.symm.trans h4)
  subst hcA
  refine kk _ ?_ (by rw [Array.size_push]) (fun q hq => by rw [Array.getElem?_push, if_neg (Nat.ne_of_lt hq)])
  rw [Array.getElem?_push_size, ← arrV_new]
/-- arrays of ints in an array -/
theorem n_multi (E : CallFix p m c cc nL s args lw_all own) (hK : va_K D nwCl (nwT dT) s) (hA2 : vA2 s) {index n k : Nat} (hq : Cond.classLink own index "[[I" ∈ lw_all) (hn : n ≤ 1000) (hk : k ≤ 1000) (hcells : cells + (1 + n) ≤ R.cells) (hslots : slots + (n + n * k) ≤ R.slots) (hdg : decode cc pc = .ok (.multianewarray index 2, 4))
    (kk : ∀ (H1 : Heap), H1[H.size]? = some (arrV (dT 2) n (fun j => .ref (H.size + 1 + j))) → (∀ j, j < n → H1[H.size + 1 + j]? = some (arrV (dT 0) k (fun _ => .int 0))) → H1.size = H.size + 1 + n → (∀ q, q < H.size → H1[q]? = H[q]?) → W p l e R s m args below meth c H1 locs (cells + (1 + n)) (slots + (n + n * k)) Q (F0 m (pc + 4) ls (.ref H.size :: rest))) : W p l e R s m args below meth c H locs cells slots Q (F0 m pc ls (.int (nI k) :: .int (nI n) :: rest)) := by
  have hcn : (nI n).toNatClampNeg = n := nI_clamp (by omega)
  have hck : (nI k).toNatClampNeg = k := nI_clamp (by omega)
  intro T hT X
  obtain ⟨vm₁, cA, comp, hW, hfA, hfC, hO, hI, X1, st⟩ := X.multianewarray2F E.1 (ty := .int) E.2.2.2.1 (E.2.2.2.2 _ hq) (vA2.use hA2) (E.2.2.2.2 _ q238) (g := F0 m pc ls (.int (nI k) :: .int (nI n) :: rest)) rfl (by rw [E.2.1]; exact hdg) (n := nI n) (k := nI k) (rest := rest) rfl (nI_pos (by omega)) (nI_pos (by omega)) (by rw [hcn]; omega) (by rw [hck]; show k * 4 ≤ _; omega) (by rw [hck]; omega) rfl rfl (by rw [hcn]; exact hcells) (by rw [hcn, hck]; exact hslots)
  rw [hcn, hck] at X1 st
  have hcC : comp = dT 0 := Option.some.inj (hfC.symm.trans (hK.2 0 (dT 0, .int) rfl).2)
  have hcA : cA = dT 2 := by
    have h4 := (hK.2 2 (dT 2, .array .int) rfl).2
    exact Option.some.inj (hfA.symm.trans h4)
  subst hcC
  subst hcA
  obtain ⟨f1, f2, f3, f4⟩ := Jvm.Free.Multi.fill_facts (T.setVm vm₁) (dT 2) (dT 0) n k (defaultValue .int) n
  have hT2 : (T.setVm vm₁).heap = H := hT
  rw [hT2] at f1 f2
  obtain ⟨o1, o2, o3⟩ := Jvm.Free.Multi.outerC_facts (dT 2) n H.size n
  have os := fun (j : Nat) (hj : j < n) => Jvm.Free.Multi.outerC_slot (dT 2) n H.size n j hj
  have hcell : Jvm.Free.Multi.outerC (dT 2) n H.size n = arrV (dT 2) n (fun j => .ref (H.size + 1 + j)) := arrV_is o1 o2 (outer_mh _ _ _ _).1 (outer_mh _ _ _ _).2 o3 (fun j hj => by rw [os j hj, if_pos hj])
  obtain ⟨t2, a1, b1⟩ := kk _ (by rw [← hcell]; exact f2) (fun j hj => by
    have := Jvm.Free.Multi.fill_inner (T.setVm vm₁) (dT 2) (dT 0) n k (defaultValue .int) n j hj
    rw [hT2] at this
    rw [this]
    show some (Jvm.Free.Multi.innerC (dT 0) k (.int 0)) = _
    rw [← arrV_new]
    rfl) f1 (fun q hq => by
    have := Jvm.Free.Multi.fill_old (T.setVm vm₁) (dT 2) (dT 0) n k (defaultValue .int) (a := q) (by rw [hT2]; exact hq) n
    rw [hT2] at this
    exact this) _ rfl (by
    have h9 : cells + 1 + n = cells + (1 + n) := by omega
    have h8 : slots + n + n * k = slots + (n + n * k) := by omega
    rw [h9, h8] at X1
    exact X1)
  refine ⟨t2, st t2 ?_, b1⟩
  rw [hT]
  exact a1
end MK
