/-! BASE 5: lists and what lies in them (cells that are never written again), outside N -/
set_option maxRecDepth 100000
theorem oneO {D : va_G} {dT : Nat → ClassId} {a ci N : Nat} {V : Nat → Value} {H : Heap} (h : t_OB a (D.1 ci) N (D.2 ci) H V) : GP D dT (fun b => if b = a then some (.inl (ci, N)) else none) (fun _ => V) H := by
  refine ⟨fun b cj M e => ?_, fun b t n e => ?_⟩
  · dsimp only at e
    split at e
    · rename_i q; subst q; cases e; exact h
    · cases e
  · dsimp only at e
    split at e <;> cases e
theorem oneA {D : va_G} {dT : Nat → ClassId} {a t n : Nat} {V : Nat → Value} {H : Heap} (h : H[a]? = some (arrV (dT t) n V)) : GP D dT (fun b => if b = a then some (.inr (t, n)) else none) (fun _ => V) H := by
  refine ⟨fun b cj M e => ?_, fun b t' n' e => ?_⟩
  · dsimp only at e
    split at e <;> cases e
  · dsimp only at e
    split at e
    · rename_i q; subst q; cases e; exact h
    · cases e
/-- an object of class ci with N fields vs -/
def oO (D : va_G) (ci N : Nat) (vs : List Value) (Nn : Nat → Prop) (a : Nat) (H : Heap) : Prop := ¬ Nn a ∧ t_OB a (D.1 ci) N (D.2 ci) H (fun k => vs.getD k .null)
theorem oO.keep {D : va_G} {ci N a : Nat} {vs : List Value} {Nn A : Nat → Prop} {H0 H : Heap} {locs : List Loc} (h : oO D ci N vs Nn a H0) (hS : va_S A H0 H locs) (hA : ∀ q, A q → Nn q) : oO D ci N vs Nn a H := by
  obtain ⟨h1, cell, h2, h3⟩ := h
  exact ⟨h1, cell, by rw [hS.2.1 a (Array.getElem?_eq_some_iff.mp h2).1 (fun z => h1 (hA a z))]; exact h2, h3⟩
theorem oO.weak {D : va_G} {ci N a : Nat} {vs : List Value} {Nn N2 : Nat → Prop} {H : Heap} (h : oO D ci N vs Nn a H) (hA : ∀ q, N2 q → Nn q) : oO D ci N vs N2 a H := ⟨fun z => h.1 (hA a z), h.2⟩
/-- an ArrayList at a with the elements els -/
def AL (D : va_G) (dT : Nat → ClassId) (Nn : Nat → Prop) (a : Nat) (els : List Nat) (H : Heap) : Prop :=
  els.length < 2147483648 ∧ ∃ (mc : Int32) (ed : Nat), oO D 16 3 [.int mc, .ref ed, .int (nI els.length)] Nn a H ∧ (els = [] ∨ (¬ Nn ed ∧ ∃ (n : Nat) (f : Nat → Value), H[ed]? = some (arrV (dT 4) n f) ∧ els.length ≤ n ∧ n < 2147483648 ∧ ∀ i x, els[i]? = some x → f i = .ref x))
theorem AL.keep {D : va_G} {dT : Nat → ClassId} {a : Nat} {els : List Nat} {Nn A : Nat → Prop} {H0 H : Heap} {locs : List Loc} (h : AL D dT Nn a els H0) (hS : va_S A H0 H locs) (hA : ∀ q, A q → Nn q) : AL D dT Nn a els H := by
  obtain ⟨hl, mc, ed, h1, h2⟩ := h
  refine ⟨hl, mc, ed, h1.keep hS hA, ?_⟩
  rcases h2 with h2 | ⟨h3, n, f, h4, h5⟩
  · exact Or.inl h2
  · exact Or.inr ⟨h3, n, f, by rw [hS.2.1 ed (Array.getElem?_eq_some_iff.mp h4).1 (fun z => h3 (hA ed z))]; exact h4, h5⟩
theorem AL.weak {D : va_G} {dT : Nat → ClassId} {a : Nat} {els : List Nat} {Nn N2 : Nat → Prop} {H : Heap} (h : AL D dT Nn a els H) (hA : ∀ q, N2 q → Nn q) : AL D dT N2 a els H := by
  obtain ⟨hl, mc, ed, h1, h2⟩ := h
  refine ⟨hl, mc, ed, h1.weak hA, ?_⟩
  rcases h2 with h2 | ⟨h3, h4⟩
  · exact Or.inl h2
  · exact Or.inr ⟨fun z => h3 (hA ed z), h4⟩
abbrev nN : Nat → Prop := fun _ => False
section NW5
variable {p : Program} {l : Launch} {e : Env} {R : Room} {s : State} {m : MethodId} {args : Array Value} {below : List Frame} {meth : Method} {c : Code} {H : Heap} {locs : List Loc} {cells slots : Nat} {Q : State → Prop}
variable {cc : ByteArray} {pc nL : Nat} {ls : Array Slot} {rest : List Value} {D : va_G} {dT : Nat → ClassId} {H0 : Heap} {own : String} {A : Nat → Prop} {Nn : Nat → Prop}
/-- a field of such an object -/
theorem o_get (E : CallFix p m c cc nL s args lw_all own) (hK : va_K D nwCl (nwT dT) s) {ci N a index : Nat} {vs : List Value} {C ref : String} {T : u_T} (ho : oO D ci N vs Nn a H) (hc : nwCl[ci]? = some (C, T, N)) (hin : ∀ w ∈ u_ws C T N, w ∈ lw_all) (k : Nat) (hk : k < N) (hlink : (Cond.fieldLink own index ref (T k).2.1 (T k).2.2.1).before args s = true) (hsame : ∀ x, s.fieldFound? (T k).1 (T k).2.1 (T k).2.2.1 = some x → s.fieldFound? ref (T k).2.1 (T k).2.2.1 = some x) {v : Value} (hv : vs.getD k .null = v) (hdg : decode cc pc = .ok (.getfield index, 3))
    (kk : W p l e R s m args below meth c H locs cells slots Q (F0 m (pc + 3) ls (v :: rest))) : W p l e R s m args below meth c H locs cells slots Q (F0 m pc ls (.ref a :: rest)) :=
  gp_get E hK (oneO ho.2) (if_pos rfl) hc hin k hk hlink hsame hv hdg kk
theorem o_getN (E : CallFix p m c cc nL s args lw_all own) (hK : va_K D nwCl (nwT dT) s) {ci N a index : Nat} {vs : List Value} {C ref host : String} {T : u_T} (ho : oO D ci N vs Nn a H) (hc : nwCl[ci]? = some (C, T, N)) (hin : ∀ w ∈ u_ws C T N, w ∈ lw_all) (k : Nat) (hk : k < N) (hlink : (Cond.fieldLinkNest own index ref (T k).2.1 (T k).2.2.1 host).before args s = true) (hsame : ∀ x, s.fieldFound? (T k).1 (T k).2.1 (T k).2.2.1 = some x → s.fieldFound? ref (T k).2.1 (T k).2.2.1 = some x) {v : Value} (hv : vs.getD k .null = v) (hdg : decode cc pc = .ok (.getfield index, 3))
    (kk : W p l e R s m args below meth c H locs cells slots Q (F0 m (pc + 3) ls (v :: rest))) : W p l e R s m args below meth c H locs cells slots Q (F0 m pc ls (.ref a :: rest)) :=
  gp_getN E hK (oneO ho.2) (if_pos rfl) hc hin k hk hlink hsame hv hdg kk
theorem o_recv (hK : va_K D nwCl (nwT dT) s) {ci N a : Nat} {vs : List Value} {C : String} {T : u_T} (ho : oO D ci N vs Nn a H) (hc : nwCl[ci]? = some (C, T, N)) : ∃ cell : Cell, H[a]? = some cell ∧ cell.vm.isStatics = false ∧ s.vm.findClass C = some cell.cls :=
  g_recv hK (oneO (dT := dT) ho.2) (if_pos rfl) hc
end NW5
/-! Preconditions.checkIndex, Objects.checkIndex -/
theorem tj_pre (l : Launch) (i n : Int32) (h1 : ¬ i < 0) (h2 : i < n) : Met l yJ5_checkIndex (ws_ yJ5_checkIndex cJ5_checkIndex 3 (some .int)) (rmd 0) (pPc [.int i, .int n, .null]) (pQi i) 0 0 (fun _ => False) := by
  refine p_met (by decide) rfl (Nat.le_of_ble_eq_true rfl) ?_
  intro p e s m below meth c ls E hr hlk hl
  have hP := trivial
  have hS : va_S (fun _ => False) s.heap s.heap [] := va_S.rf
  obtain ⟨hx, hb, hml, hown, hts⟩ := id E
  have hl : lv_has ls 3 [(0, .int i), (1, .int n), (2, .null)] := hl
  refine lv_iload_n hx hb dJ5_checkIndex_0 rfl (lv_at hl 0 rfl) ?_
  refine lv_if_lt (tgt := 9) hx hb dJ5_checkIndex_1 (by decide) (fun k => absurd k h1) (fun k => ?_)
  refine lv_iload_n hx hb dJ5_checkIndex_4 rfl (lv_at hl 0 rfl) ?_
  refine lv_iload_n hx hb dJ5_checkIndex_5 rfl (lv_at hl 1 rfl) ?_
  refine lv_icmp_lt (tgt := 16) hx hb dJ5_checkIndex_6 (by decide) (fun k => ?_) (fun k => absurd h2 k)
  refine lv_iload_n hx hb dJ5_checkIndex_16 rfl (lv_at hl 0 rfl) ?_
  exact g_iret (Pic := fun _ => True) E hr hlk hP hS rfl dJ5_checkIndex_17
theorem dj_pre : yJ5_checkIndex.cls ≠ "java/lang/invoke/MethodHandle" ∧ yJ5_checkIndex.cls ≠ "java/lang/invoke/VarHandle" ∧ (parseMethodDescriptor yJ5_checkIndex.desc).map (fun d => d.parameters.length) = some 3 := ⟨by decide +kernel, by decide +kernel, by decide +kernel⟩
theorem dj_obj : yJ12_checkIndex.cls ≠ "java/lang/invoke/MethodHandle" ∧ yJ12_checkIndex.cls ≠ "java/lang/invoke/VarHandle" ∧ (parseMethodDescriptor yJ12_checkIndex.desc).map (fun d => d.parameters.length) = some 2 := ⟨by decide +kernel, by decide +kernel, by decide +kernel⟩
theorem tj_obj (l : Launch) (i n : Int32) (h1 : ¬ i < 0) (h2 : i < n) : Met l yJ12_checkIndex (ws_ yJ12_checkIndex cJ12_checkIndex 2 (some .int)) (rmd 1) (pPc [.int i, .int n]) (pQi i) 0 0 (fun _ => False) := by
  refine p_met (by decide) rfl (Nat.le_of_ble_eq_true rfl) ?_
  intro p e s m below meth c ls E hr hlk hl
  have hP := trivial
  have hS : va_S (fun _ => False) s.heap s.heap [] := va_S.rf
  obtain ⟨hx, hb, hml, hown, hts⟩ := id E
  have hl : lv_has ls 2 [(0, .int i), (1, .int n)] := hl
  refine lv_iload_n hx hb dJ12_checkIndex_0 rfl (lv_at hl 0 rfl) ?_
  refine lv_iload_n hx hb dJ12_checkIndex_1 rfl (lv_at hl 1 rfl) ?_
  refine lv_null hx hb dJ12_checkIndex_2 ?_
  refine p_calli E hS (As := [.int i, .int n, .null]) (tj_pre l i n h1 h2) (lw_S q1017 q485 q170 q486) dj_pre rfl (by decide) (by decide) hl rfl (Nat.le_of_ble_eq_true rfl) dJ12_checkIndex_3 (fun H1 locs1 hq1 hS => ?_)
  exact g_iret (Pic := fun _ => True) E hr hlk hP hS rfl dJ12_checkIndex_6
/-! size, elementData, get -/
theorem dj_size : yJ2_size.cls = RJ2 ∧ yJ2_size.cls ≠ "java/lang/invoke/MethodHandle" ∧ yJ2_size.cls ≠ "java/lang/invoke/VarHandle" ∧ (parseMethodDescriptor yJ2_size.desc).map (fun d => d.parameters.length) = some 0 := ⟨rfl, by decide +kernel, by decide +kernel, by decide +kernel⟩
theorem dj_get : yJ2_get.cls = RJ2 ∧ yJ2_get.cls ≠ "java/lang/invoke/MethodHandle" ∧ yJ2_get.cls ≠ "java/lang/invoke/VarHandle" ∧ (parseMethodDescriptor yJ2_get.desc).map (fun d => d.parameters.length) = some 1 := ⟨rfl, by decide +kernel, by decide +kernel, by decide +kernel⟩
theorem dj_ed : yJ2_elementData.cls = RJ2 ∧ yJ2_elementData.cls ≠ "java/lang/invoke/MethodHandle" ∧ yJ2_elementData.cls ≠ "java/lang/invoke/VarHandle" ∧ (parseMethodDescriptor yJ2_elementData.desc).map (fun d => d.parameters.length) = some 1 := ⟨rfl, by decide +kernel, by decide +kernel, by decide +kernel⟩
theorem tj_size (l : Launch) (D : va_G) (dT : Nat → ClassId) (a : Nat) (els : List Nat) : Met l yJ2_size (ws_ yJ2_size cJ2_size 1 (some .int)) (rmd 0) (va_Pc [.ref a] (fun U => AL D dT nN a els U.heap ∧ EV D dT U)) (pQi (nI els.length)) 0 0 nN := by
  refine g_met (D := D) (dT := dT) (A := nN) (own := RJ2) (Pic := fun H => AL D dT nN a els H) (by decide) rfl (Nat.le_of_ble_eq_true rfl) ?_
  intro p e s m below meth c ls E hE hr hlk hl hP
  have hS : va_S nN s.heap s.heap [] := va_S.rf
  obtain ⟨hx, hb, hml, hown, hts⟩ := id E
  have hl : lv_has ls 1 [(0, .ref a)] := hl
  obtain ⟨-, mc, ed, ho, -⟩ := hP
  refine lv_aload_n hx hb dJ2_size_0 rfl (lv_at hl 0 rfl) ?_
  refine o_get (C := RJ2) (T := TJ2) E hE.1 ho rfl in_J2 2 (by decide) (hts _ q226) (fun _ z => z) (v := .int (nI els.length)) rfl dJ2_size_1 ?_
  exact g_iret (Pic := fun _ => True) E hr hlk trivial hS rfl dJ2_size_4
abbrev pQr (r : Nat) : Array Value → State → Outcome → State → Prop := va_Qr (fun (_ : Unit) => True) (fun _ a _ => a = r) nN
theorem tj_ed (l : Launch) (D : va_G) (dT : Nat → ClassId) (a : Nat) (els : List Nat) (i x : Nat) (hi : els[i]? = some x) : Met l yJ2_elementData (ws_ yJ2_elementData cJ2_elementData 2 (some (.object "java/lang/Object"))) (rmd 0) (va_Pc [.ref a, .int (nI i)] (fun U => AL D dT nN a els U.heap ∧ EV D dT U)) (pQr x) 0 0 nN := by
  refine g_met (D := D) (dT := dT) (A := nN) (own := RJ2) (Pic := fun H => AL D dT nN a els H) (by decide) rfl (Nat.le_of_ble_eq_true rfl) ?_
  intro p e s m below meth c ls E hE hr hlk hl hP
  have hS : va_S nN s.heap s.heap [] := va_S.rf
  obtain ⟨hx, hb, hml, hown, hts⟩ := id E
  have hl : lv_has ls 2 [(0, .ref a), (1, .int (nI i))] := hl
  obtain ⟨hlen, mc, ed, ho, h2⟩ := hP
  have hil := (List.getElem?_eq_some_iff.mp hi).1
  rcases h2 with h2 | ⟨-, n, f, h4, h5, h6, h7⟩
  · subst h2; cases hi
  refine lv_aload_n hx hb dJ2_elementData_0 rfl (lv_at hl 0 rfl) ?_
  refine o_get (C := RJ2) (T := TJ2) E hE.1 ho rfl in_J2 1 (by decide) (hts _ q225) (fun _ z => z) (v := .ref ed) rfl dJ2_elementData_1 ?_
  refine lv_iload_n hx hb dJ2_elementData_4 rfl (lv_at hl 1 rfl) ?_
  refine gp_aald (t := 4) (ty := .object "java/lang/Object") E hE.1 (oneA h4) rfl rfl (if_pos rfl) (vp_in_nI (by omega) h6) (v := .ref x) (by rw [nI_clamp (by omega)]; exact h7 i x hi) dJ2_elementData_5 ?_
  exact W.aret hx hb hr (Or.inl ⟨_, rfl⟩) (Or.inr ⟨x, rfl⟩) (fun t ht _ => ⟨⟨(), x, rfl, trivial, rfl⟩, hS.F ht⟩) hS.2.2 dJ2_elementData_6 hlk
section NW5b
variable {p : Program} {l : Launch} {e : Env} {R : Room} {s : State} {m : MethodId} {args : Array Value} {below : List Frame} {meth : Method} {c : Code} {H : Heap} {locs : List Loc} {cells slots : Nat} {Q : State → Prop}
variable {cc : ByteArray} {pc nL : Nat} {ls : Array Slot} {rest : List Value} {D : va_G} {dT : Nat → ClassId} {H0 : Heap} {own : String} {A : Nat → Prop} {Nn : Nat → Prop}
/-- an instance method that answers a reference and changes nothing -/
theorem g_callr {Pic : Heap → Prop} (E : CallFix p m c cc nL s args lw_all own) (hE : EV D dT s) (hP : Pic H) (hS : va_S A s.heap H locs) {d d' maxL index n b x : Nat} {C : String} {y : MethodName} {bytes : ByteArray} {ret : Option FieldType} {As : List Value} (hM : Met l y (ws_ y bytes maxL ret) (rmd d') (va_Pc (.ref b :: As) (fun U => Pic U.heap ∧ EV D dT U)) (pQr x) 0 0 nN) (hrc : ∃ cell : Cell, H[b]? = some cell ∧ cell.vm.isStatics = false ∧ s.vm.findClass C = some cell.cls) (hw : GoodIn lw_all (wsV own index C y (ws_ y bytes maxL ret))) (hd : y.cls = C ∧ y.cls ≠ "java/lang/invoke/MethodHandle" ∧ y.cls ≠ "java/lang/invoke/VarHandle" ∧ (parseMethodDescriptor y.desc).map (fun d => d.parameters.length) = some n) (hlen : As.length = n) (hdd : d' < d) (hL : maxL ≤ 45) {lv : List (Nat × Value)} (hl : lv_has ls nL lv) {st : List Value} (hst : st = As.reverse ++ .ref b :: rest) (hrm : (rest.map fun v => v.category).sum ≤ 8) (hdg : decode cc pc = .ok (.invokevirtual index, 3))
    (kk : ∀ (H1 : Heap) (locs1 : List Loc), (∀ q, q < H.size → H1[q]? = H[q]?) → va_S A s.heap H1 locs1 → W p l e (rmd d) s m args below meth c H1 locs1 0 0 Q (F0 m (pc + 3) ls (.ref x :: rest))) : W p l e (rmd d) s m args below meth c H locs 0 0 Q (F0 m pc ls st) := by
  subst hst
  refine va_callr (va_runV (As := As) (rest := rest) E hM (cwV n E.2.2.2.2 hw rfl rfl rfl hd (rmd_ok hdd hL)) ⟨g_blind, hrc, fun U hU hW => ⟨rfl, by rw [hU]; exact hP, hE.warm hW⟩⟩ rfl hlen hl.1 rfl (lv_room hrm) hdg ⟨Nat.le_refl 0, Nat.le_refl 0⟩) hS (fun q _ z => z.elim) (fun q z => z.elim) (fun u ra t H1 locs1 ht hvm hr hB hz hk hS1 => ?_)
  subst hB
  exact kk H1 locs1 (fun q hq => hk q hq (fun z => z)) hS1
/-- an instance method that answers an int and changes nothing -/
theorem g_callp {Pic : Heap → Prop} (E : CallFix p m c cc nL s args lw_all own) (hE : EV D dT s) (hP : Pic H) (hS : va_S A s.heap H locs) {d d' maxL index n b : Nat} {r : Int32} {C : String} {y : MethodName} {bytes : ByteArray} {ret : Option FieldType} {As : List Value} (hM : Met l y (ws_ y bytes maxL ret) (rmd d') (va_Pc (.ref b :: As) (fun U => Pic U.heap ∧ EV D dT U)) (pQi r) 0 0 nN) (hrc : ∃ cell : Cell, H[b]? = some cell ∧ cell.vm.isStatics = false ∧ s.vm.findClass C = some cell.cls) (hw : GoodIn lw_all (wsV own index C y (ws_ y bytes maxL ret))) (hd : y.cls = C ∧ y.cls ≠ "java/lang/invoke/MethodHandle" ∧ y.cls ≠ "java/lang/invoke/VarHandle" ∧ (parseMethodDescriptor y.desc).map (fun d => d.parameters.length) = some n) (hlen : As.length = n) (hdd : d' < d) (hL : maxL ≤ 45) {lv : List (Nat × Value)} (hl : lv_has ls nL lv) {st : List Value} (hst : st = As.reverse ++ .ref b :: rest) (hrm : (rest.map fun v => v.category).sum ≤ 8) (hdg : decode cc pc = .ok (.invokevirtual index, 3))
    (kk : ∀ (H1 : Heap) (locs1 : List Loc), (∀ q, q < H.size → H1[q]? = H[q]?) → va_S A s.heap H1 locs1 → W p l e (rmd d) s m args below meth c H1 locs1 0 0 Q (F0 m (pc + 3) ls (.int r :: rest))) : W p l e (rmd d) s m args below meth c H locs 0 0 Q (F0 m pc ls st) := by
  refine g_calli (Pic1 := fun _ => True) (A1 := nN) E hE hP hS (fun q z => z.elim) (As := As) hM hrc hw hd hlen hdd hL hl hst hrm hdg (fun H1 locs1 _ hk hS1 => kk H1 locs1 (fun q hq => hk q hq (fun z => z)) hS1)
end NW5b
theorem tj_get (l : Launch) (D : va_G) (dT : Nat → ClassId) (a : Nat) (els : List Nat) (i x : Nat) (hi : els[i]? = some x) : Met l yJ2_get (ws_ yJ2_get cJ2_get 2 (some (.object "java/lang/Object"))) (rmd 2) (va_Pc [.ref a, .int (nI i)] (fun U => AL D dT nN a els U.heap ∧ EV D dT U)) (pQr x) 0 0 nN := by
  refine g_met (D := D) (dT := dT) (A := nN) (own := RJ2) (Pic := fun H => AL D dT nN a els H) (by decide) rfl (Nat.le_of_ble_eq_true rfl) ?_
  intro p e s m below meth c ls E hE hr hlk hl hP
  have hS : va_S nN s.heap s.heap [] := va_S.rf
  obtain ⟨hx, hb, hml, hown, hts⟩ := id E
  have hl : lv_has ls 2 [(0, .ref a), (1, .int (nI i))] := hl
  have hil := (List.getElem?_eq_some_iff.mp hi).1
  obtain ⟨hlen, mc, ed, ho, -⟩ := id hP
  refine lv_iload_n hx hb dJ2_get_0 rfl (lv_at hl 1 rfl) ?_
  refine lv_aload_n hx hb dJ2_get_1 rfl (lv_at hl 0 rfl) ?_
  refine o_get (C := RJ2) (T := TJ2) E hE.1 ho rfl in_J2 2 (by decide) (hts _ q226) (fun _ z => z) (v := .int (nI els.length)) rfl dJ2_get_2 ?_
  refine p_calli E hS (As := [.int (nI i), .int (nI els.length)]) (tj_obj l _ _ (nI_pos (by omega)) (nI_lt hil hlen)) (lw_S q1014 q1015 q193 q1016) dj_obj rfl (by decide) (by decide) hl rfl (Nat.le_of_ble_eq_true rfl) dJ2_get_5 (fun H1 locs1 hq1 hS => ?_)
  refine lv_pop hx hb dJ2_get_8 rfl ?_
  refine lv_aload_n hx hb dJ2_get_9 rfl (lv_at hl 0 rfl) ?_
  refine lv_iload_n hx hb dJ2_get_10 rfl (lv_at hl 1 rfl) ?_
  have hP1 := hP.keep hS (fun _ z => z)
  obtain ⟨-, _, _, ho1, -⟩ := id hP1
  refine g_callr E hE hP1 hS (As := [.int (nI i)]) (tj_ed l D dT a els i x hi) (o_recv hE.1 ho1 rfl) (lw_V q1018 q1019 q1020 q165 q1021) dj_ed rfl (by decide) (by decide) hl rfl (Nat.le_of_ble_eq_true rfl) dJ2_get_11 (fun H2 locs2 hq2 hS => ?_)
  exact W.aret hx hb hr (Or.inl ⟨_, rfl⟩) (Or.inr ⟨x, rfl⟩) (fun t ht _ => ⟨⟨(), x, rfl, trivial, rfl⟩, hS.F ht⟩) hS.2.2 dJ2_get_14 hlk
