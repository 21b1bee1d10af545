/-! 103: objects made and filled -/
set_option maxRecDepth 100000
theorem ls_upd (vs : List Value) {k : Nat} (v : Value) (hk : k < vs.length) (j : Nat) : updV (fun k => vs.getD k .null) k v j = (vs.set k v).getD j .null := by
  unfold updV
  by_cases e : j = k
  · subst e
    rw [if_pos rfl, List.getD_eq_getElem?_getD, List.getElem?_set_self hk]
    rfl
  · rw [if_neg e]
    show vs.getD j .null = _
    rw [List.getD_eq_getElem?_getD, List.getD_eq_getElem?_getD, List.getElem?_set_ne (fun z => e z.symm)]
/-- an object of class ci with the fields vs, at a -/
def oF (D : va_G) (ci N : Nat) (vs : List Value) (a : Nat) (H : Heap) : Prop := t_OB a (D.1 ci) N (D.2 ci) H (fun k => vs.getD k .null)
theorem oF.same {D : va_G} {ci N a : Nat} {vs : List Value} {H H1 : Heap} (h : oF D ci N vs a H) (hq : H1[a]? = H[a]?) : oF D ci N vs a H1 := t_OB.kept h hq
theorem oF.lt {D : va_G} {ci N a : Nat} {vs : List Value} {H : Heap} (h : oF D ci N vs a H) : a < H.size := by
  obtain ⟨cell, h1, -⟩ := h
  exact (Array.getElem?_eq_some_iff.mp h1).1
theorem oF.oO {D : va_G} {ci N a : Nat} {vs : List Value} {Nn : Nat → Prop} {H : Heap} (h : oF D ci N vs a H) (hn : ¬ Nn a) : oO D ci N vs Nn a H := ⟨hn, h⟩
def nA (a sz : Nat) : Nat → Prop := fun q => q = a ∨ sz ≤ q
section NEW
variable {p : Program} {l : Launch} {e : Env} {R : Room} {s : State} {m : MethodId} {args : Array Value} {below : List Frame} {meth : Method} {c : Code} {H : Heap} {locs : List Loc} {cells slots : Nat} {Q : State → Prop}
variable {cc : ByteArray} {pc nL : Nat} {ls : Array Slot} {rest : List Value} {D : va_G} {dT : Nat → ClassId} {A : Nat → Prop} {H0 : Heap} {own : String} {sh : nwS} {V : Nat → Nat → Value}
/-- a final field, in a constructor -/
theorem gp_putF (E : CallFix p m c cc nL s args lw_all own) (hK : va_K D nwCl (nwT dT) s) (hG : GP D dT sh V H) (hS0 : va_S A H0 H locs) {a ci N index : Nat} {C ref : String} {T : u_T} (hA : A a) (hs : sh a = some (.inl (ci, N))) (hc : nwCl[ci]? = some (C, T, N)) (hin : ∀ w ∈ u_ws C T N, w ∈ lw_all) (ty0 : Nat → FieldType) (hty : ∀ k, k < N → parseFieldDescriptor (T k).2.2.1 = some (ty0 k)) (hnm : ∀ a, a < N → ∀ b, b < N → a ≠ b → (T a).2.1 ≠ (T b).2.1) (k : Nat) (hk : k < N) (hlink : (Cond.fieldLink own index ref (T k).2.1 (T k).2.2.1).before args s = true) (hsame : ∀ x, s.fieldFound? (T k).1 (T k).2.1 (T k).2.2.1 = some x → s.fieldFound? ref (T k).2.1 (T k).2.2.1 = some x) (hfin : (T k).2.2.2 = true) (hin2 : meth.name = "<init>") (hdecl : (T k).1 = own) {ty : FieldType} {v : Value} (hd : parseFieldDescriptor (T k).2.2.1 = some ty) (hn : narrow ty v = v) (hfit : fits ty v = true) (hdg : decode cc pc = .ok (.putfield index, 3))
    (kk : ∀ (H1 : Heap) (locs1 : List Loc), GP D dT sh (upV V a (updV (V a) k v)) H1 → (∀ q, q ≠ a → H1[q]? = H[q]?) → va_S A H0 H1 locs1 → W p l e R s m args below meth c H1 locs1 cells slots Q (F0 m (pc + 3) ls rest)) : W p l e R s m args below meth c H locs cells slots Q (F0 m pc ls (v :: .ref a :: rest)) := by
  obtain ⟨hexec, hb, -, hown, hts⟩ := E
  have hap := va_apart (own := own) hts hin ty0 hty hnm hK hc
  obtain ⟨cell, q1, q2, q3, q4⟩ := hG.1 a ci N hs
  obtain ⟨hS, hfc, kC, hkC, hkind⟩ := hK.1 ci _ hc
  obtain ⟨cf, kf, fi, f, hi, hsl⟩ := hS k hk
  have hlay := hts _ (hin _ (u_in_lay hk))
  unfold u_lay at hlay
  rw [if_pos hfin] at hlay
  have hst := (u_facts hfc hkC (u_lays hts hin hk) hi).1
  have hcf : m.cls = cf := by
    obtain ⟨_, _, c', _, _, _, -, -, hf', -, -, -, hown2, -⟩ := Cond.laysFinal_spec hlay
    have e1 : c' = cf := by have := hi.symm.trans hf'; simp at this; exact this.1.symm
    rw [hdecl] at hown2
    rw [← e1]; exact Option.some.inj (hown.symm.trans hown2)
  have h6 := u_fits hfc hkC hkind (Or.inr hlay) hi hd hn hfit
  refine W.putFinK hexec hb hown hlink (hsame _ hi) hst hcf hin2 (by rw [q2]; exact h6) q1 q3 (by rw [hsl]; exact k2_hasslot (q4 k hk)) rfl rfl hdg fun H' e1 e2 e3 => ?_
  rw [hsl] at e1 ⊢
  exact kk H' _ (hG.putO hs ⟨_, e1, q2, q3, t_set q4 hap hk v⟩ e3) e3 (hS0.put e2 e3 hA)
theorem cf_put {a ci N k : Nat} {vs : List Value} {v : Value} {H1 : Heap} (hk : k < vs.length) (hG : GP D dT (fun b => if b = a then some (.inl (ci, N)) else none) (upV (fun _ => fun k => vs.getD k .null) a (updV (fun k => vs.getD k .null) k v)) H1) : oF D ci N (vs.set k v) a H1 := by
  have h := hG.1 a ci N (if_pos rfl)
  rw [upV_self] at h
  exact h.to (fun j _ => ls_upd vs v hk j)
/-- an object is made -/
theorem x_new (E : CallFix p m c cc nL s args lw_all own) (hK : va_K D nwCl (nwT dT) s) {ci N index B : Nat} {C : String} {T : u_T} (hc : nwCl[ci]? = some (C, T, N)) (hin : ∀ w ∈ u_ws C T N, w ∈ lw_all) (ty : Nat → FieldType) (hty : ∀ k, k < N → parseFieldDescriptor (T k).2.2.1 = some (ty k)) (hq1 : Cond.classLink own index C ∈ lw_all) (hq2 : Cond.instantiable C N ∈ lw_all) (hq3 : Cond.initialized C ∈ lw_all) (vs : List Value) (hvs : ∀ j, j < N → defaultValue (ty j) = vs.getD j .null) (hB : N ≤ B) (hcells : cells + 1 ≤ R.cells) (hslots : slots + B ≤ R.slots) (hdg : decode cc pc = .ok (.new index, 3))
    (kk : ∀ (H1 : Heap), oF D ci N vs H.size H1 → H1.size = H.size + 1 → (∀ q, q < H.size → H1[q]? = H[q]?) → W p l e R s m args below meth c H1 locs (cells + 1) (slots + B) Q (F0 m (pc + 3) ls (.ref H.size :: rest))) : W p l e R s m args below meth c H locs cells slots Q (F0 m pc ls rest) := by
  obtain ⟨hexec, hb, -, hown, hts⟩ := E
  have hKn := hK.1 ci _ hc
  refine W.newcK hexec hb hown (hts _ hq1) (hts _ hq2) (hts _ hq3) rfl hdg hcells (by omega) hKn.2.1 rfl fun H1 kC hkC e1 z1 o1 => ?_
  refine W.widen (Nat.le_refl _) (Nat.add_le_add_left hB slots) (kk H1 ?_ z1 o1)
  exact (u_born ty hts hin hKn hkC e1 hty).to hvs
/-- a Fault is made -/
theorem x_newF (E : CallFix p m c cc nL s args lw_all own) (hK : va_K D nwCl (nwT dT) s) {index B : Nat} (hq1 : Cond.classLink own index RX4 ∈ lw_all) (hB : 8 ≤ B) (hcells : cells + 1 ≤ R.cells) (hslots : slots + B ≤ R.slots) (hdg : decode cc pc = .ok (.new index, 3))
    (kk : ∀ (H1 : Heap), FB D H.size H1 → H1.size = H.size + 1 → (∀ q, q < H.size → H1[q]? = H[q]?) → W p l e R s m args below meth c H1 locs (cells + 1) (slots + B) Q (F0 m (pc + 3) ls (.ref H.size :: rest))) : W p l e R s m args below meth c H locs cells slots Q (F0 m pc ls rest) := by
  obtain ⟨hexec, hb, -, hown, hts⟩ := E
  have hKn := hK.1 4 (RX4, TX4, 8) rfl
  refine W.newcK hexec hb hown (hts _ hq1) (hts _ q566) (hts _ q174) rfl hdg hcells (by omega) hKn.2.1 rfl fun H1 kC hkC e1 z1 o1 => ?_
  refine W.widen (Nat.le_refl _) (Nat.add_le_add_left hB slots) (kk H1 ?_ z1 o1)
  obtain ⟨cell, h1, h2, h3, h4⟩ := u_born tyX4 hts in_X4 hKn hkC e1 tyX4_ok
  have hce : cell = blank (D.1 4) kC := Option.some.inj (h1.symm.trans e1)
  subst hce
  exact ⟨_, h1, h2, h3, rfl, rfl, h4⟩
end NEW
