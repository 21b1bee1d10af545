/-! BASE 7: the four lists of a Skies; calls of size and get on them -/
set_option maxRecDepth 100000
def oLn (D : va_G) (ln : nwLn) (Nn : Nat → Prop) (a : Nat) (H : Heap) : Prop := ∃ ct, TR D 400 ln.2.1 Nn ct H ∧ ((ln.2.2 = none ∧ oO D 9 3 [.int ln.1, .ref ct, .null] Nn a H) ∨ ∃ Tw w, ln.2.2 = some Tw ∧ TR D 400 Tw Nn w H ∧ oO D 9 3 [.int ln.1, .ref ct, .ref w] Nn a H)
def oQu (D : va_G) (q : nwQ) (Nn : Nat → Prop) (a : Nat) (H : Heap) : Prop := oO D 10 3 [.int q.1, .int q.2.1, .int q.2.2] Nn a H
def oWa (D : va_G) (w : nwW) (Nn : Nat → Prop) (a : Nat) (H : Heap) : Prop := (w.1 = -1 ∧ w.2.1 = nI 0 ∧ oO D 11 3 [.int w.2.2.1, .int w.2.2.2.1, .int w.2.2.2.2] Nn a H) ∨ (¬ w.1 = -1 ∧ oO D 12 5 [.int w.2.2.1, .int w.2.2.2.1, .int w.2.2.2.2, .int w.1, .int w.2.1] Nn a H)
def oDe (D : va_G) (t : nwD) (Nn : Nat → Prop) (a : Nat) (H : Heap) : Prop := (t.1 = 0 ∧ oO D 14 3 [.int t.2.1, .int t.2.2.1, .int t.2.2.2] Nn a H) ∨ (t.1 = 1 ∧ oO D 15 3 [.int t.2.1, .int t.2.2.1, .int t.2.2.2] Nn a H) ∨ (t.1 = 2 ∧ oO D 13 2 [.int t.2.1, .int t.2.2.1] Nn a H)
/-- a list of such things -/
def nLS {α : Type} (D : va_G) (dT : Nat → ClassId) (P : α → (Nat → Prop) → Nat → Heap → Prop) (xs : List α) (Nn : Nat → Prop) (a : Nat) (H : Heap) : Prop := ∃ els : List Nat, AL D dT Nn a els H ∧ els.length = xs.length ∧ ∀ (i : Nat) (x : α) (b : Nat), xs[i]? = some x → els[i]? = some b → P x Nn b H
def LR (D : va_G) (dT : Nat → ClassId) (Nn : Nat → Prop) (ρ : Nat → Nat) (L : nwL) (H : Heap) : Prop := nLS D dT (oLn D) L.1 Nn (ρ (9 - 9)) H ∧ nLS D dT (oQu D) L.2.1 Nn (ρ (10 - 9)) H ∧ nLS D dT (oWa D) L.2.2.1 Nn (ρ (11 - 9)) H ∧ nLS D dT (oDe D) L.2.2.2 Nn (ρ (12 - 9)) H
section NW7k
variable {D : va_G} {dT : Nat → ClassId} {Nn N2 A : Nat → Prop} {H0 H : Heap} {locs : List Loc} {a : Nat}
theorem oLn.keep {x : nwLn} (h : oLn D x Nn a H0) (hS : va_S A H0 H locs) (hA : ∀ q, A q → Nn q) : oLn D x Nn a H := by
  obtain ⟨ct, h1, h2⟩ := h
  refine ⟨ct, TR.keep hS hA _ _ _ h1, ?_⟩
  rcases h2 with ⟨h2, h3⟩ | ⟨Tw, w, h2, h3, h4⟩
  · exact Or.inl ⟨h2, h3.keep hS hA⟩
  · exact Or.inr ⟨Tw, w, h2, TR.keep hS hA _ _ _ h3, h4.keep hS hA⟩
theorem oLn.weak {x : nwLn} (h : oLn D x Nn a H) (hA : ∀ q, N2 q → Nn q) : oLn D x N2 a H := by
  obtain ⟨ct, h1, h2⟩ := h
  refine ⟨ct, TR.weak hA _ _ _ h1, ?_⟩
  rcases h2 with ⟨h2, h3⟩ | ⟨Tw, w, h2, h3, h4⟩
  · exact Or.inl ⟨h2, h3.weak hA⟩
  · exact Or.inr ⟨Tw, w, h2, TR.weak hA _ _ _ h3, h4.weak hA⟩
theorem oQu.keep {x : nwQ} (h : oQu D x Nn a H0) (hS : va_S A H0 H locs) (hA : ∀ q, A q → Nn q) : oQu D x Nn a H := oO.keep h hS hA
theorem oQu.weak {x : nwQ} (h : oQu D x Nn a H) (hA : ∀ q, N2 q → Nn q) : oQu D x N2 a H := oO.weak h hA
theorem oWa.keep {x : nwW} (h : oWa D x Nn a H0) (hS : va_S A H0 H locs) (hA : ∀ q, A q → Nn q) : oWa D x Nn a H := by
  rcases h with ⟨h1, h2, h3⟩ | ⟨h1, h2⟩
  · exact Or.inl ⟨h1, h2, h3.keep hS hA⟩
  · exact Or.inr ⟨h1, h2.keep hS hA⟩
theorem oWa.weak {x : nwW} (h : oWa D x Nn a H) (hA : ∀ q, N2 q → Nn q) : oWa D x N2 a H := by
  rcases h with ⟨h1, h2, h3⟩ | ⟨h1, h2⟩
  · exact Or.inl ⟨h1, h2, h3.weak hA⟩
  · exact Or.inr ⟨h1, h2.weak hA⟩
theorem oDe.keep {x : nwD} (h : oDe D x Nn a H0) (hS : va_S A H0 H locs) (hA : ∀ q, A q → Nn q) : oDe D x Nn a H := by
  rcases h with ⟨h1, h2⟩ | ⟨h1, h2⟩ | ⟨h1, h2⟩
  · exact Or.inl ⟨h1, h2.keep hS hA⟩
  · exact Or.inr (Or.inl ⟨h1, h2.keep hS hA⟩)
  · exact Or.inr (Or.inr ⟨h1, h2.keep hS hA⟩)
theorem oDe.weak {x : nwD} (h : oDe D x Nn a H) (hA : ∀ q, N2 q → Nn q) : oDe D x N2 a H := by
  rcases h with ⟨h1, h2⟩ | ⟨h1, h2⟩ | ⟨h1, h2⟩
  · exact Or.inl ⟨h1, h2.weak hA⟩
  · exact Or.inr (Or.inl ⟨h1, h2.weak hA⟩)
  · exact Or.inr (Or.inr ⟨h1, h2.weak hA⟩)
theorem nLS.keep {α : Type} {P : α → (Nat → Prop) → Nat → Heap → Prop} {xs : List α} (hP : ∀ x b, P x Nn b H0 → P x Nn b H) (h : nLS D dT P xs Nn a H0) (hS : va_S A H0 H locs) (hA : ∀ q, A q → Nn q) : nLS D dT P xs Nn a H := by
  obtain ⟨els, h1, h2, h3⟩ := h
  exact ⟨els, h1.keep hS hA, h2, fun i x b e1 e2 => hP x b (h3 i x b e1 e2)⟩
theorem nLS.weak {α : Type} {P : α → (Nat → Prop) → Nat → Heap → Prop} {xs : List α} (hP : ∀ x b, P x Nn b H → P x N2 b H) (h : nLS D dT P xs Nn a H) (hA : ∀ q, N2 q → Nn q) : nLS D dT P xs N2 a H := by
  obtain ⟨els, h1, h2, h3⟩ := h
  exact ⟨els, h1.weak hA, h2, fun i x b e1 e2 => hP x b (h3 i x b e1 e2)⟩
theorem LR.keep {ρ : Nat → Nat} {L : nwL} (h : LR D dT Nn ρ L H0) (hS : va_S A H0 H locs) (hA : ∀ q, A q → Nn q) : LR D dT Nn ρ L H :=
  ⟨h.1.keep (fun _ _ z => z.keep hS hA) hS hA, h.2.1.keep (fun _ _ z => z.keep hS hA) hS hA, h.2.2.1.keep (fun _ _ z => z.keep hS hA) hS hA, h.2.2.2.keep (fun _ _ z => z.keep hS hA) hS hA⟩
theorem LR.weak {ρ : Nat → Nat} {L : nwL} (h : LR D dT Nn ρ L H) (hA : ∀ q, N2 q → Nn q) : LR D dT N2 ρ L H :=
  ⟨h.1.weak (fun _ _ z => z.weak hA) hA, h.2.1.weak (fun _ _ z => z.weak hA) hA, h.2.2.1.weak (fun _ _ z => z.weak hA) hA, h.2.2.2.weak (fun _ _ z => z.weak hA) hA⟩
end NW7k
theorem nf_use {U : State} {A : Array Value} (h : NW U) {a b n d k : String} {i : Nat} (hm : (a, i, b, n, d, k) ∈ nwNF) : (Cond.fieldLinkNest a i b n d k).before A U = true := va_Nw.use rfl (h.1 _ hm)
/-- get -/
def lg_ {α : Type} (xs : List α) (i : Int32) : Option α := if inb i xs.length = true then xs[i.toNatClampNeg]? else none
theorem lg_in {α : Type} {xs : List α} {i : Int32} {x : α} (h : lg_ xs i = some x) : vp_in i xs.length ∧ xs[i.toNatClampNeg]? = some x := by
  unfold lg_ at h
  split at h
  · rename_i q; exact ⟨inb_in q, h⟩
  · cases h
section NW7
variable {p : Program} {l : Launch} {e : Env} {R : Room} {s : State} {m : MethodId} {args : Array Value} {below : List Frame} {meth : Method} {c : Code} {H : Heap} {locs : List Loc} {cells slots : Nat} {Q : State → Prop}
variable {cc : ByteArray} {pc nL : Nat} {ls : Array Slot} {rest : List Value} {D : va_G} {dT : Nat → ClassId} {H0 : Heap} {own : String} {A : Nat → Prop} {Nn : Nat → Prop}
theorem ls_size {α : Type} {P : α → (Nat → Prop) → Nat → Heap → Prop} {xs : List α} {a d index : Nat} (E : CallFix p m c cc nL s args lw_all own) (hE : EV D dT s) (h0 : nLS D dT P xs Nn a s.heap) (hS : va_S A s.heap H locs) (hA : ∀ q, A q → Nn q) (hw : GoodIn lw_all (wsV own index RJ2 yJ2_size (ws_ yJ2_size cJ2_size 1 (some .int)))) (hd : 0 < d) {lv : List (Nat × Value)} (hl : lv_has ls nL lv) (hrm : (rest.map fun v => v.category).sum ≤ 8) (hdg : decode cc pc = .ok (.invokevirtual index, 3))
    (kk : ∀ (H1 : Heap) (locs1 : List Loc), (∀ q, q < H.size → H1[q]? = H[q]?) → va_S A s.heap H1 locs1 → W p l e (rmd d) s m args below meth c H1 locs1 0 0 Q (F0 m (pc + 3) ls (.int (nI xs.length) :: rest))) : W p l e (rmd d) s m args below meth c H locs 0 0 Q (F0 m pc ls (.ref a :: rest)) := by
  obtain ⟨els, h1, h2, -⟩ := h0
  have h3 : AL D dT nN a els H := (h1.keep hS hA).weak (fun _ z => z.elim)
  rw [← h2] at kk
  obtain ⟨-, _, _, ho, -⟩ := id h3
  exact g_callp E hE (Pic := fun H => AL D dT nN a els H) h3 hS (As := []) (tj_size l D dT a els) (o_recv hE.1 ho rfl) hw dj_size rfl hd (by decide) hl rfl hrm hdg kk
theorem ls_get {α : Type} {P : α → (Nat → Prop) → Nat → Heap → Prop} {xs : List α} {x : α} {i : Int32} {a d index : Nat} (E : CallFix p m c cc nL s args lw_all own) (hE : EV D dT s) (h0 : nLS D dT P xs Nn a s.heap) (hx : lg_ xs i = some x) (hS : va_S A s.heap H locs) (hA : ∀ q, A q → Nn q) (hw : GoodIn lw_all (wsV own index RJ2 yJ2_get (ws_ yJ2_get cJ2_get 2 (some (.object "java/lang/Object"))))) (hd : 2 < d) {lv : List (Nat × Value)} (hl : lv_has ls nL lv) (hrm : (rest.map fun v => v.category).sum ≤ 8) (hdg : decode cc pc = .ok (.invokevirtual index, 3))
    (kk : ∀ (b : Nat) (H1 : Heap) (locs1 : List Loc), P x Nn b s.heap → (∀ q, q < H.size → H1[q]? = H[q]?) → va_S A s.heap H1 locs1 → W p l e (rmd d) s m args below meth c H1 locs1 0 0 Q (F0 m (pc + 3) ls (.ref b :: rest))) : W p l e (rmd d) s m args below meth c H locs 0 0 Q (F0 m pc ls (.int i :: .ref a :: rest)) := by
  obtain ⟨els, h1, h2, h5⟩ := h0
  obtain ⟨hi, hx⟩ := lg_in hx
  have hlen := h1.1
  obtain ⟨j, hj, rfl⟩ := vp_in_of hi (by rw [← h2]; exact hlen)
  rw [nI_clamp (by omega)] at hx
  have hj2 : j < els.length := by omega
  have hb : els[j]? = some els[j] := List.getElem?_eq_getElem hj2
  have h3 : AL D dT nN a els H := (h1.keep hS hA).weak (fun _ z => z.elim)
  obtain ⟨-, _, _, ho, -⟩ := id h3
  exact g_callr E hE (Pic := fun H => AL D dT nN a els H) h3 hS (As := [.int (nI j)]) (tj_get l D dT a els j _ hb) (o_recv hE.1 ho rfl) hw dj_get rfl hd (by decide) hl rfl hrm hdg (fun H1 locs1 hq hS1 => kk _ H1 locs1 (h5 j x _ hx hb) hq hS1)
theorem o_castS {ci N a index : Nat} {vs : List Value} {C : String} {T : u_T} (E : CallFix p m c cc nL s args lw_all own) (hK : va_K D nwCl (nwT dT) s) (ho : oO D ci N vs Nn a H) (hc : nwCl[ci]? = some (C, T, N)) (hq : Cond.classLink own index C ∈ lw_all) (hdg : decode cc pc = .ok (.checkcast index, 3))
    (k : W p l e R s m args below meth c H locs cells slots Q (F0 m (pc + 3) ls (.ref a :: rest))) : W p l e R s m args below meth c H locs cells slots Q (F0 m pc ls (.ref a :: rest)) :=
  va_castS E.1 E.2.1 E.2.2.2.1 (E.2.2.2.2 _ hq) (hK.1 ci _ hc).2 (o_recv hK ho hc) hdg k
theorem o_castY {ci N a index : Nat} {vs : List Value} {C nm : String} {T : u_T} (E : CallFix p m c cc nL s args lw_all own) (hE : EV D dT s) (ho : oO D ci N vs Nn a H) (hc : nwCl[ci]? = some (C, T, N)) (hq : Cond.classLink own index nm ∈ lw_all) (hm : (C, nm) ∈ nwNC) (hdg : decode cc pc = .ok (.checkcast index, 3))
    (k : W p l e R s m args below meth c H locs cells slots Q (F0 m (pc + 3) ls (.ref a :: rest))) : W p l e R s m args below meth c H locs cells slots Q (F0 m pc ls (.ref a :: rest)) :=
  va_castY E.1 E.2.1 E.2.2.2.1 (E.2.2.2.2 _ hq) (hE.2.2.2.1 _ hm) (o_recv hE.1 ho hc) hdg k
end NW7
/-! Quench.isOf -/
