/-! BASE 6: terms, and what they come to; the lists of a Skies -/
set_option maxRecDepth 100000
abbrev nwTm : Type := nwM → Option Int32
abbrev nwQ : Type := Int32 × Int32 × Int32
abbrev nwLn : Type := Int32 × nwTm × Option nwTm
/-- kind (-1: clear), much, island, day, worth -/
abbrev nwW : Type := Int32 × Int32 × Int32 × Int32 × Int32
/-- 0 call, 1 move, 2 bury; day, who, island -/
abbrev nwD : Type := Nat × Int32 × Int32 × Int32
abbrev nwL : Type := List nwLn × List nwQ × List nwW × List nwD
def jn_ (how x y : Int32) : Option Int32 :=
  if how = nI 5 then some (x &&& y) else if how = nI 42 then some (x * y) else if how = nI 43 then some (x + y) else if how = nI 45 then some (x - y) else if how = nI 47 then dv_ x y
  else if how = nI 60 then (if y ≤ x then some (nI 0) else some (nI 1)) else if how = nI 61 then (if x = y then some (nI 1) else some (nI 0)) else if how = nI 62 then (if x ≤ y then some (nI 0) else some (nI 1)) else some (x ||| y)
def TR (D : va_G) : Nat → nwTm → (Nat → Prop) → Nat → Heap → Prop
  | 0, _, _, _, _ => False
  | d + 1, T, Nn, a, H => (∃ c, oO D 5 1 [.int c] Nn a H ∧ T = fun _ => some c) ∨ (∃ w, oO D 6 1 [.int w] Nn a H ∧ T = fun μ => fs_fact w μ)
      ∨ (∃ t T1, oO D 8 1 [.ref t] Nn a H ∧ TR D d T1 Nn t H ∧ T = fun μ => (T1 μ).bind fun v => some (nI 1 - v))
      ∨ (∃ x y how T1 T2, oO D 7 3 [.ref x, .ref y, .int how] Nn a H ∧ TR D d T1 Nn x H ∧ TR D d T2 Nn y H ∧ T = fun μ => (T1 μ).bind fun v => (T2 μ).bind fun w => jn_ how v w)
theorem TR.keep {D : va_G} {Nn A : Nat → Prop} {H0 H : Heap} {locs : List Loc} (hS : va_S A H0 H locs) (hA : ∀ q, A q → Nn q) : ∀ (d : Nat) (T : nwTm) (a : Nat), TR D d T Nn a H0 → TR D d T Nn a H := by
  intro d
  induction d with
  | zero => intro T a h; exact h
  | succ d ih =>
    intro T a h
    rcases h with ⟨c, h1, h2⟩ | ⟨w, h1, h2⟩ | ⟨t, T1, h1, h2, h3⟩ | ⟨x, y, how, T1, T2, h1, h2, h3, h4⟩
    · exact Or.inl ⟨c, h1.keep hS hA, h2⟩
    · exact Or.inr (Or.inl ⟨w, h1.keep hS hA, h2⟩)
    · exact Or.inr (Or.inr (Or.inl ⟨t, T1, h1.keep hS hA, ih _ _ h2, h3⟩))
    · exact Or.inr (Or.inr (Or.inr ⟨x, y, how, T1, T2, h1.keep hS hA, ih _ _ h2, ih _ _ h3, h4⟩))
theorem TR.weak {D : va_G} {Nn N2 : Nat → Prop} {H : Heap} (hA : ∀ q, N2 q → Nn q) : ∀ (d : Nat) (T : nwTm) (a : Nat), TR D d T Nn a H → TR D d T N2 a H := by
  intro d
  induction d with
  | zero => intro T a h; exact h
  | succ d ih =>
    intro T a h
    rcases h with ⟨c, h1, h2⟩ | ⟨w, h1, h2⟩ | ⟨t, T1, h1, h2, h3⟩ | ⟨x, y, how, T1, T2, h1, h2, h3, h4⟩
    · exact Or.inl ⟨c, h1.weak hA, h2⟩
    · exact Or.inr (Or.inl ⟨w, h1.weak hA, h2⟩)
    · exact Or.inr (Or.inr (Or.inl ⟨t, T1, h1.weak hA, ih _ _ h2, h3⟩))
    · exact Or.inr (Or.inr (Or.inr ⟨x, y, how, T1, T2, h1.weak hA, ih _ _ h2, ih _ _ h3, h4⟩))
/-- what a call through a superclass asks -/
theorem lw_U {own : String} {idx : Nat} {C owner : String} {x y : MethodName} {b : ByteArray} {L : Nat} {r : Option FieldType} (h1 : Cond.methodLink own idx x ∈ lw_all) (h2 : Cond.sameMethod x.cls owner x.name x.desc ∈ lw_all) (h3 : Cond.selects C x y ∈ lw_all) (h4 : Cond.instanceMethod y ∈ lw_all) (h5 : Cond.initialized y.cls ∈ lw_all) (h6 : Cond.code y b L r ∈ lw_all) : GoodIn lw_all (va_wsU own idx C owner x y (ws_ y b L r)) := by
  refine lw_app ?_ (lw_meth h6)
  intro w hw
  simp only [List.mem_cons, List.not_mem_nil, or_false] at hw
  rcases hw with e | e | e | e | e
  · rw [e]; exact h1
  · rw [e]; exact h2
  · rw [e]; exact h3
  · rw [e]; exact h4
  · rw [e]; exact h5
theorem lw_F {own : String} {idx : Nat} {C : String} {x y : MethodName} {b : ByteArray} {L : Nat} {r : Option FieldType} (h1 : Cond.methodLink own idx x ∈ lw_all) (h3 : Cond.selects C x y ∈ lw_all) (h4 : Cond.instanceMethod y ∈ lw_all) (h5 : Cond.initialized y.cls ∈ lw_all) (h6 : Cond.code y b L r ∈ lw_all) : GoodIn lw_all (va_wsF own idx C x y (ws_ y b L r)) := by
  refine lw_app ?_ (lw_meth h6)
  intro w hw
  simp only [List.mem_cons, List.not_mem_nil, or_false] at hw
  rcases hw with e | e | e | e
  · rw [e]; exact h1
  · rw [e]; exact h3
  · rw [e]; exact h4
  · rw [e]; exact h5
section NW6
variable {p : Program} {l : Launch} {e : Env} {R : Room} {s : State} {m : MethodId} {args : Array Value} {below : List Frame} {meth : Method} {c : Code} {H : Heap} {locs : List Loc} {cells slots : Nat} {Q : State → Prop}
variable {cc : ByteArray} {pc nL : Nat} {ls : Array Slot} {rest : List Value} {D : va_G} {dT : Nat → ClassId} {H0 : Heap} {own : String} {A : Nat → Prop} {Nn : Nat → Prop}
theorem u_calli {Pic Pic1 : Heap → Prop} {A1 : Nat → Prop} (E : CallFix p m c cc nL s args lw_all own) (hE : EV D dT s) (hP : Pic H) (hS : va_S A s.heap H locs) (hAA : ∀ q, A1 q → A q) {d d' maxL index n b : Nat} {C owner : String} {x y : MethodName} {bytes : ByteArray} {ret : Option FieldType} {As : List Value} {r : Int32} (hM : Met l y (ws_ y bytes maxL ret) (rmd d') (va_Pc (.ref b :: As) (fun U => Pic U.heap ∧ EV D dT U)) (va_Qi (fun r' (_ : Unit) => r' = r) (fun _ t => Pic1 t.heap) A1) 0 0 A1) (hrc : ∃ cell : Cell, H[b]? = some cell ∧ cell.vm.isStatics = false ∧ s.vm.findClass C = some cell.cls) (hw : va_CU (rmd d) s args own C owner index x y bytes maxL ret (ws_ y bytes maxL ret) (rmd d') 0 0 n) (hlen : As.length = n) {lv : List (Nat × Value)} (hl : lv_has ls nL lv) {st : List Value} (hst : st = As.reverse ++ .ref b :: rest) (hrm : (rest.map fun v => v.category).sum ≤ 8) (hdg : decode cc pc = .ok (.invokevirtual index, 3))
    (kk : ∀ (H1 : Heap) (locs1 : List Loc), Pic1 H1 → (∀ q, q < H.size → ¬ A1 q → H1[q]? = H[q]?) → va_S A s.heap H1 locs1 → W p l e (rmd d) s m args below meth c H1 locs1 0 0 Q (F0 m (pc + 3) ls (.int r :: rest))) : W p l e (rmd d) s m args below meth c H locs 0 0 Q (F0 m pc ls st) := by
  subst hst
  refine va_calli (va_runU (As := As) (rest := rest) E hM hw ⟨g_blind, hrc, fun U hU hW => ⟨rfl, by rw [hU]; exact hP, hE.warm hW⟩⟩ rfl hlen hl.1 rfl (lv_room hrm) hdg ⟨Nat.le_refl 0, Nat.le_refl 0⟩) hS (fun q _ z => hAA q z) (fun q z => hAA q z) (fun r' u t H1 locs1 ht hvm hr hB hz hk hS1 => ?_)
  subst hr
  exact kk H1 locs1 (by rw [← ht]; exact hB) hk hS1
theorem u_callv {Pic Pic1 : Heap → Prop} {A1 : Nat → Prop} (E : CallFix p m c cc nL s args lw_all own) (hE : EV D dT s) (hP : Pic H) (hS : va_S A s.heap H locs) (hAA : ∀ q, A1 q → A q) {d d' maxL index n b : Nat} {C owner : String} {x y : MethodName} {bytes : ByteArray} {ret : Option FieldType} {As : List Value} (hM : Met l y (ws_ y bytes maxL ret) (rmd d') (va_Pc (.ref b :: As) (fun U => Pic U.heap ∧ EV D dT U)) (va_Qv (fun (_ : Unit) => True) (fun _ t => Pic1 t.heap) A1) 0 0 A1) (hrc : ∃ cell : Cell, H[b]? = some cell ∧ cell.vm.isStatics = false ∧ s.vm.findClass C = some cell.cls) (hw : va_CU (rmd d) s args own C owner index x y bytes maxL ret (ws_ y bytes maxL ret) (rmd d') 0 0 n) (hlen : As.length = n) {lv : List (Nat × Value)} (hl : lv_has ls nL lv) {st : List Value} (hst : st = As.reverse ++ .ref b :: rest) (hrm : (rest.map fun v => v.category).sum ≤ 8) (hdg : decode cc pc = .ok (.invokevirtual index, 3))
    (kk : ∀ (H1 : Heap) (locs1 : List Loc), Pic1 H1 → (∀ q, q < H.size → ¬ A1 q → H1[q]? = H[q]?) → va_S A s.heap H1 locs1 → W p l e (rmd d) s m args below meth c H1 locs1 0 0 Q (F0 m (pc + 3) ls rest)) : W p l e (rmd d) s m args below meth c H locs 0 0 Q (F0 m pc ls st) := by
  subst hst
  refine va_callv (va_runU (As := As) (rest := rest) E hM hw ⟨g_blind, hrc, fun U hU hW => ⟨rfl, by rw [hU]; exact hP, hE.warm hW⟩⟩ rfl hlen hl.1 rfl (lv_room hrm) hdg ⟨Nat.le_refl 0, Nat.le_refl 0⟩) hS (fun q _ z => hAA q z) (fun q z => hAA q z) (fun u t H1 locs1 ht hvm hr hB hz hk hS1 => ?_)
  exact kk H1 locs1 (by rw [← ht]; exact hB) hk hS1
end NW6
/-! Term.of -/
def yTof : MethodName := ⟨"NamesWeather$Term", "of", "(LNamesWeather$Asker;)I"⟩
theorem nw_dof {U : State} (h : NW U) : va_Nw (.declares ⟨"NamesWeather$Term", yTof.name, yTof.desc⟩) U := h.2.2.2.1 _ (List.mem_of_getElem? (i := 9) rfl)
theorem dd_of : "NamesWeather$Term" ≠ "java/lang/invoke/MethodHandle" ∧ "NamesWeather$Term" ≠ "java/lang/invoke/VarHandle" ∧ (parseMethodDescriptor yTof.desc).map (fun d => d.parameters.length) = some 1 := ⟨by decide +kernel, by decide +kernel, by decide +kernel⟩
theorem tt_F (l : Launch) (D : va_G) (dT : Nat → ClassId) (a h : Nat) (v : Int32) : Met l yX6_of (ws_ yX6_of cX6_of 2 (some .int)) (rmd 0) (va_Pc [.ref a, .ref h] (fun U => oO D 5 1 [.int v] nN a U.heap ∧ EV D dT U)) (pQi v) 0 0 nN := by
  refine g_met (D := D) (dT := dT) (A := nN) (own := RX6) (Pic := fun H => oO D 5 1 [.int v] nN a H) (by decide) rfl (Nat.le_of_ble_eq_true rfl) ?_
  intro p e s m below meth c ls E hE hr hlk hl hP
  have hS : va_S nN s.heap s.heap [] := va_S.rf
  obtain ⟨hx, hb, hml, hown, hts⟩ := id E
  have hl : lv_has ls 2 [(0, .ref a), (1, .ref h)] := hl
  refine lv_aload_n hx hb dX6_of_0 rfl (lv_at hl 0 rfl) ?_
  refine o_get (C := RX6) (T := TX6) E hE.1 hP rfl in_X6 0 (by decide) (hts _ q658) (fun _ z => z) (v := .int v) rfl dX6_of_1 ?_
  exact g_iret (Pic := fun _ => True) E hr hlk trivial hS rfl dX6_of_4
theorem tt_K (l : Launch) (D : va_G) (dT : Nat → ClassId) (a h : Nat) (w : Int32) (μ : nwM) (ρ : Nat → Nat) (r : Int32) (hf : fs_fact w μ = some r) : Met l yX7_of (ws_ yX7_of cX7_of 2 (some .int)) (rmd 2) (va_Pc [.ref a, .ref h] (fun U => (oO D 6 1 [.int w] nN a U.heap ∧ PS D dT h μ ρ U.heap) ∧ EV D dT U)) (pQi r) 0 0 nN := by
  refine g_met (D := D) (dT := dT) (A := nN) (own := RX7) (Pic := fun H => oO D 6 1 [.int w] nN a H ∧ PS D dT h μ ρ H) (by decide) rfl (Nat.le_of_ble_eq_true rfl) ?_
  intro p e s m below meth c ls E hE hr hlk hl hP
  obtain ⟨hP, hQ⟩ := hP
  have hS : va_S nN s.heap s.heap [] := va_S.rf
  obtain ⟨hx, hb, hml, hown, hts⟩ := id E
  have hl : lv_has ls 2 [(0, .ref a), (1, .ref h)] := hl
  refine lv_aload_n hx hb dX7_of_0 rfl (lv_at hl 1 rfl) ?_
  refine lv_aload_n hx hb dX7_of_1 rfl (lv_at hl 0 rfl) ?_
  refine o_get (C := RX7) (T := TX7) E hE.1 hP rfl in_X7 0 (by decide) (hts _ q668) (fun _ z => z) (v := .int w) rfl dX7_of_2 ?_
  refine va_callFi (va_runF (As := [.int w]) (rest := []) (hE.1.1 1 (RX1, TX1, 23) rfl).2 E (ts_fact l D dT h ρ w μ r hf) (va_cwF 1 hts (lw_F q1036 q1040 q1042 q162 q1044) rfl rfl rfl hE.2.2.2.2.2 ⟨by decide +kernel, by decide +kernel, by decide +kernel⟩ (rmd_ok (d := 2) (by decide) (by decide))) ⟨g_blind, g_recv hE.1 hQ (shS_h h) rfl, fun U hU hW => ⟨rfl, by rw [hU]; exact hQ, hE.warm hW⟩⟩ rfl rfl hl.1 rfl (lv_room (Nat.le_of_ble_eq_true rfl)) dX7_of_5 ⟨Nat.le_refl 0, Nat.le_refl 0⟩) hS (fun q _ z => z) (fun q z => z) (fun r' u t H1 locs1 ht hvm hr' hB hz hk hS1 => ?_)
  subst hr'
  exact g_iret (Pic := fun _ => True) E hr hlk trivial hS1 rfl dX7_of_10
def MNJ (l : Launch) (D : va_G) (dT : Nat → ClassId) (d : Nat) : Prop :=
  (∀ (a h t : Nat) (T1 : nwTm) (μ : nwM) (ρ : Nat → Nat) (v : Int32), T1 μ = some v → Met l yX9_of (ws_ yX9_of cX9_of 2 (some .int)) (rmd (d + 3)) (va_Pc [.ref a, .ref h] (fun U => (oO D 8 1 [.ref t] nN a U.heap ∧ TR D d T1 nN t U.heap ∧ PS D dT h μ ρ U.heap) ∧ EV D dT U)) (pQi (nI 1 - v)) 0 0 nN) ∧
  (∀ (a h x y : Nat) (how : Int32) (T1 T2 : nwTm) (μ : nwM) (ρ : Nat → Nat) (v w r : Int32), T1 μ = some v → T2 μ = some w → jn_ how v w = some r → Met l yX8_of (ws_ yX8_of cX8_of 4 (some .int)) (rmd (d + 3)) (va_Pc [.ref a, .ref h] (fun U => (oO D 7 3 [.ref x, .ref y, .int how] nN a U.heap ∧ TR D d T1 nN x U.heap ∧ TR D d T2 nN y U.heap ∧ PS D dT h μ ρ U.heap) ∧ EV D dT U)) (pQi r) 0 0 nN)
/-- Term.of, called on a term of depth d -/
theorem td_call {p : Program} {l : Launch} {e : Env} {s : State} {m : MethodId} {args : Array Value} {below : List Frame} {meth : Method} {c : Code} {H : Heap} {locs : List Loc} {Q : State → Prop} {cc : ByteArray} {pc nL : Nat} {ls : Array Slot} {rest : List Value} {D : va_G} {dT : Nat → ClassId} {own : String} {A : Nat → Prop} {d k : Nat} (hNJ : ∀ d', d = d' + 1 → MNJ l D dT d') (hk : d + 2 < k) (E : CallFix p m c cc nL s args lw_all own) (hE : EV D dT s) {T : nwTm} {a h : Nat} {μ : nwM} {ρ : Nat → Nat} {r : Int32} (hT : TR D d T nN a H) (hP : PS D dT h μ ρ H) (hv : T μ = some r) (hS : va_S A s.heap H locs) {index : Nat} (hlk : Cond.methodLink own index yTof ∈ lw_all) {lv : List (Nat × Value)} (hl : lv_has ls nL lv) (hrm : (rest.map fun v => v.category).sum ≤ 8) (hdg : decode cc pc = .ok (.invokevirtual index, 3))
    (kk : ∀ (H1 : Heap) (locs1 : List Loc), (∀ q, q < H.size → H1[q]? = H[q]?) → va_S A s.heap H1 locs1 → W p l e (rmd k) s m args below meth c H1 locs1 0 0 Q (F0 m (pc + 3) ls (.int r :: rest))) : W p l e (rmd k) s m args below meth c H locs 0 0 Q (F0 m pc ls (.ref h :: .ref a :: rest)) := by
  cases d with
  | zero => exact hT.elim
  | succ d =>
    obtain ⟨mN, mJ⟩ := hNJ d rfl
    rcases hT with ⟨c0, h1, rfl⟩ | ⟨w, h1, rfl⟩ | ⟨t, T1, h1, h2, rfl⟩ | ⟨x, y, how, T1, T2, h1, h2, h3, rfl⟩
    · cases hv
      exact u_calli (Pic1 := fun _ => True) (A1 := nN) E hE h1 hS (fun q z => z.elim) (As := [.ref h]) (tt_F l D dT a h r) (o_recv hE.1 h1 rfl) (va_cwA 1 E.2.2.2.2 (lw_U hlk q1025 q1026 q1027 q176 q1028) rfl rfl rfl (nw_dof hE.2) dd_of (rmd_ok (by omega) (by decide))) rfl hl rfl hrm hdg (fun H1 locs1 _ hq hS1 => kk H1 locs1 (fun q z => hq q z (fun y => y)) hS1)
    · exact u_calli (Pic := fun H => oO D 6 1 [.int w] nN a H ∧ PS D dT h μ ρ H) (Pic1 := fun _ => True) (A1 := nN) E hE ⟨h1, hP⟩ hS (fun q z => z.elim) (As := [.ref h]) (tt_K l D dT a h w μ ρ r hv) (o_recv hE.1 h1 rfl) (va_cwA 1 E.2.2.2.2 (lw_U hlk q1025 q1056 q1033 q177 q1034) rfl rfl rfl (nw_dof hE.2) dd_of (rmd_ok (by omega) (by decide))) rfl hl rfl hrm hdg (fun H1 locs1 _ hq hS1 => kk H1 locs1 (fun q z => hq q z (fun y => y)) hS1)
    · obtain ⟨v, hv1, hv2⟩ := ob hv
      cases hv2
      exact u_calli (Pic := fun H => oO D 8 1 [.ref t] nN a H ∧ TR D d T1 nN t H ∧ PS D dT h μ ρ H) (Pic1 := fun _ => True) (A1 := nN) E hE ⟨h1, h2, hP⟩ hS (fun q z => z.elim) (As := [.ref h]) (mN a h t T1 μ ρ v hv1) (o_recv hE.1 h1 rfl) (va_cwA 1 E.2.2.2.2 (lw_U hlk q1025 q1057 q1053 q179 q1054) rfl rfl rfl (nw_dof hE.2) dd_of (rmd_ok (by omega) (by decide))) rfl hl rfl hrm hdg (fun H1 locs1 _ hq hS1 => kk H1 locs1 (fun q z => hq q z (fun y => y)) hS1)
    · obtain ⟨v, hv1, hv2⟩ := ob hv
      obtain ⟨w, hv2, hv3⟩ := ob hv2
      exact u_calli (Pic := fun H => oO D 7 3 [.ref x, .ref y, .int how] nN a H ∧ TR D d T1 nN x H ∧ TR D d T2 nN y H ∧ PS D dT h μ ρ H) (Pic1 := fun _ => True) (A1 := nN) E hE ⟨h1, h2, h3, hP⟩ hS (fun q z => z.elim) (As := [.ref h]) (mJ a h x y how T1 T2 μ ρ v w r hv1 hv2 hv3) (o_recv hE.1 h1 rfl) (va_cwA 1 E.2.2.2.2 (lw_U hlk q1025 q1029 q1030 q178 q1031) rfl rfl rfl (nw_dof hE.2) dd_of (rmd_ok (by omega) (by decide))) rfl hl rfl hrm hdg (fun H1 locs1 _ hq hS1 => kk H1 locs1 (fun q z => hq q z (fun y => y)) hS1)
theorem va_S_nN {H0 H : Heap} {locs : List Loc} (hS : va_S nN H0 H locs) : ∀ q, q < H0.size → H[q]? = H0[q]? := fun q hq => hS.2.1 q hq (fun z => z)
set_option maxHeartbeats 4000000 in
theorem tt_N {l : Launch} {D : va_G} {dT : Nat → ClassId} {d : Nat} (hNJ : ∀ d', d = d' + 1 → MNJ l D dT d') (a h t : Nat) (T1 : nwTm) (μ : nwM) (ρ : Nat → Nat) (v : Int32) (hv : T1 μ = some v) : Met l yX9_of (ws_ yX9_of cX9_of 2 (some .int)) (rmd (d + 3)) (va_Pc [.ref a, .ref h] (fun U => (oO D 8 1 [.ref t] nN a U.heap ∧ TR D d T1 nN t U.heap ∧ PS D dT h μ ρ U.heap) ∧ EV D dT U)) (pQi (nI 1 - v)) 0 0 nN := by
  refine g_met (D := D) (dT := dT) (A := nN) (own := RX9) (Pic := fun H => oO D 8 1 [.ref t] nN a H ∧ TR D d T1 nN t H ∧ PS D dT h μ ρ H) (by decide) rfl (Nat.le_of_ble_eq_true rfl) ?_
  intro p e s m below meth c ls E hE hr hlk hl hP
  obtain ⟨hP, hT, hQ⟩ := hP
  have hS : va_S nN s.heap s.heap [] := va_S.rf
  obtain ⟨hx, hb, hml, hown, hts⟩ := id E
  have hl : lv_has ls 2 [(0, .ref a), (1, .ref h)] := hl
  refine lv_iconst (v := nI 1) hx hb dX9_of_0 rfl ?_
  refine lv_aload_n hx hb dX9_of_1 rfl (lv_at hl 0 rfl) ?_
  refine o_get (C := RX9) (T := TX9) E hE.1 hP rfl in_X9 0 (by decide) (hts _ q710) (fun _ z => z) (v := .ref t) rfl dX9_of_2 ?_
  refine lv_aload_n hx hb dX9_of_5 rfl (lv_at hl 1 rfl) ?_
  refine td_call hNJ (by omega) E hE hT hQ hv hS q1055 hl (Nat.le_of_ble_eq_true rfl) dX9_of_6 (fun H1 locs1 hq1 hS => ?_)
  refine lv_isub hx hb dX9_of_9 ?_
  exact g_iret (Pic := fun _ => True) E hr hlk trivial hS rfl dX9_of_10
set_option maxHeartbeats 4000000 in
theorem tt_J {l : Launch} {D : va_G} {dT : Nat → ClassId} {d : Nat} (hNJ : ∀ d', d = d' + 1 → MNJ l D dT d') (a h x y : Nat) (how : Int32) (T1 T2 : nwTm) (μ : nwM) (ρ : Nat → Nat) (v w r : Int32) (hv : T1 μ = some v) (hw : T2 μ = some w) (hf : jn_ how v w = some r) : Met l yX8_of (ws_ yX8_of cX8_of 4 (some .int)) (rmd (d + 3)) (va_Pc [.ref a, .ref h] (fun U => (oO D 7 3 [.ref x, .ref y, .int how] nN a U.heap ∧ TR D d T1 nN x U.heap ∧ TR D d T2 nN y U.heap ∧ PS D dT h μ ρ U.heap) ∧ EV D dT U)) (pQi r) 0 0 nN := by
  refine g_met (D := D) (dT := dT) (A := nN) (own := RX8) (Pic := fun H => oO D 7 3 [.ref x, .ref y, .int how] nN a H ∧ TR D d T1 nN x H ∧ TR D d T2 nN y H ∧ PS D dT h μ ρ H) (by decide) rfl (Nat.le_of_ble_eq_true rfl) ?_
  intro p e s m below meth c ls E hE hr hlk hl hP
  obtain ⟨hP, hT1, hT2, hQ⟩ := hP
  have hS : va_S nN s.heap s.heap [] := va_S.rf
  obtain ⟨hx, hb, hml, hown, hts⟩ := id E
  have hl : lv_has ls 4 [(0, .ref a), (1, .ref h)] := hl
  refine lv_aload_n hx hb dX8_of_0 rfl (lv_at hl 0 rfl) ?_
  refine o_get (C := RX8) (T := TX8) E hE.1 hP rfl in_X8 0 (by decide) (hts _ q678) (fun _ z => z) (v := .ref x) rfl dX8_of_1 ?_
  refine lv_aload_n hx hb dX8_of_4 rfl (lv_at hl 1 rfl) ?_
  refine td_call hNJ (by omega) E hE hT1 hQ hv hS q1032 hl (Nat.le_of_ble_eq_true rfl) dX8_of_5 (fun H1 locs1 hq1 hS => ?_)
  have hP1 := hP.keep hS (fun _ z => z)
  have hT2 := TR.keep hS (fun _ z => z) _ _ _ hT2
  have hQ1 := GP.same hQ (va_S_nN hS)
  refine lv_istore_n (lv' := [(2, .int v), (0, .ref a), (1, .ref h)]) hx hb dX8_of_8 rfl hl (by decide) rfl (fun ls hl => ?_)
  refine lv_aload_n hx hb dX8_of_9 rfl (lv_at hl 1 rfl) ?_
  refine o_get (C := RX8) (T := TX8) E hE.1 hP1 rfl in_X8 1 (by decide) (hts _ q679) (fun _ z => z) (v := .ref y) rfl dX8_of_10 ?_
  refine lv_aload_n hx hb dX8_of_13 rfl (lv_at hl 2 rfl) ?_
  refine td_call hNJ (by omega) E hE hT2 hQ1 hw hS q1032 hl (Nat.le_of_ble_eq_true rfl) dX8_of_14 (fun H2 locs2 hq2 hS => ?_)
  have hP2 := hP.keep hS (fun _ z => z)
  refine lv_istore_n (lv' := [(3, .int w), (2, .int v), (0, .ref a), (1, .ref h)]) hx hb dX8_of_17 rfl hl (by decide) rfl (fun ls hl => ?_)
  refine lv_aload_n hx hb dX8_of_18 rfl (lv_at hl 2 rfl) ?_
  refine o_get (C := RX8) (T := TX8) E hE.1 hP2 rfl in_X8 2 (by decide) (hts _ q680) (fun _ z => z) (v := .int how) rfl dX8_of_19 ?_
  unfold jn_ at hf
  by_cases k5 : how = nI 5
  · have hf := ite_t k5 hf
    subst k5
    refine lv_lookup (tgt := 145) hx hb dX8_of_22 (by decide) rfl rfl ?_
    refine lv_iload_n hx hb dX8_of_145 rfl (lv_at hl 1 rfl) ?_
    refine lv_iload_n hx hb dX8_of_146 rfl (lv_at hl 0 rfl) ?_
    refine lv_iand hx hb dX8_of_147 ?_
    cases hf
    exact g_iret (Pic := fun _ => True) E hr hlk trivial hS rfl dX8_of_148
  have hf := ite_f k5 hf
  by_cases k42 : how = nI 42
  · have hf := ite_t k42 hf
    subst k42
    refine lv_lookup (tgt := 104) hx hb dX8_of_22 (by decide) rfl rfl ?_
    refine lv_iload_n hx hb dX8_of_104 rfl (lv_at hl 1 rfl) ?_
    refine lv_iload_n hx hb dX8_of_105 rfl (lv_at hl 0 rfl) ?_
    refine lv_imul hx hb dX8_of_106 ?_
    cases hf
    exact g_iret (Pic := fun _ => True) E hr hlk trivial hS rfl dX8_of_107
  have hf := ite_f k42 hf
  by_cases k43 : how = nI 43
  · have hf := ite_t k43 hf
    subst k43
    refine lv_lookup (tgt := 96) hx hb dX8_of_22 (by decide) rfl rfl ?_
    refine lv_iload_n hx hb dX8_of_96 rfl (lv_at hl 1 rfl) ?_
    refine lv_iload_n hx hb dX8_of_97 rfl (lv_at hl 0 rfl) ?_
    refine lv_iadd hx hb dX8_of_98 ?_
    cases hf
    exact g_iret (Pic := fun _ => True) E hr hlk trivial hS rfl dX8_of_99
  have hf := ite_f k43 hf
  by_cases k45 : how = nI 45
  · have hf := ite_t k45 hf
    subst k45
    refine lv_lookup (tgt := 100) hx hb dX8_of_22 (by decide) rfl rfl ?_
    refine lv_iload_n hx hb dX8_of_100 rfl (lv_at hl 1 rfl) ?_
    refine lv_iload_n hx hb dX8_of_101 rfl (lv_at hl 0 rfl) ?_
    refine lv_isub hx hb dX8_of_102 ?_
    cases hf
    exact g_iret (Pic := fun _ => True) E hr hlk trivial hS rfl dX8_of_103
  have hf := ite_f k45 hf
  by_cases k47 : how = nI 47
  · have hf := ite_t k47 hf
    subst k47
    refine lv_lookup (tgt := 108) hx hb dX8_of_22 (by decide) rfl rfl ?_
    refine lv_iload_n hx hb dX8_of_108 rfl (lv_at hl 1 rfl) ?_
    refine lv_iload_n hx hb dX8_of_109 rfl (lv_at hl 0 rfl) ?_
    refine lv_idiv hx hb dX8_of_110 (dv_in hf).1 ?_
    exact g_iret (Pic := fun _ => True) E hr hlk trivial hS (dv_in hf).2 dX8_of_111
  have hf := ite_f k47 hf
  by_cases k60 : how = nI 60
  · have hf := ite_t k60 hf
    subst k60
    refine lv_lookup (tgt := 112) hx hb dX8_of_22 (by decide) rfl rfl ?_
    refine lv_iload_n hx hb dX8_of_112 rfl (lv_at hl 1 rfl) ?_
    refine lv_iload_n hx hb dX8_of_113 rfl (lv_at hl 0 rfl) ?_
    refine lv_icmp_ge (tgt := 121) hx hb dX8_of_114 (by decide) (fun kc => ?_) (fun kc => ?_)
    · have hf := ite_t kc hf
      cases hf
      refine lv_iconst (v := nI 0) hx hb dX8_of_121 rfl ?_
      exact g_iret (Pic := fun _ => True) E hr hlk trivial hS rfl dX8_of_122
    · have hf := ite_f kc hf
      cases hf
      refine lv_iconst (v := nI 1) hx hb dX8_of_117 rfl ?_
      refine lv_goto (tgt := 122) hx hb dX8_of_118 (by decide) ?_
      exact g_iret (Pic := fun _ => True) E hr hlk trivial hS rfl dX8_of_122
  have hf := ite_f k60 hf
  by_cases k61 : how = nI 61
  · have hf := ite_t k61 hf
    subst k61
    refine lv_lookup (tgt := 123) hx hb dX8_of_22 (by decide) rfl rfl ?_
    refine lv_iload_n hx hb dX8_of_123 rfl (lv_at hl 1 rfl) ?_
    refine lv_iload_n hx hb dX8_of_124 rfl (lv_at hl 0 rfl) ?_
    refine lv_icmp_ne (tgt := 132) hx hb dX8_of_125 (by decide) (fun kc => ?_) (fun kc => ?_)
    · have hf := ite_f kc hf
      cases hf
      refine lv_iconst (v := nI 0) hx hb dX8_of_132 rfl ?_
      exact g_iret (Pic := fun _ => True) E hr hlk trivial hS rfl dX8_of_133
    · have hf := ite_t kc hf
      cases hf
      refine lv_iconst (v := nI 1) hx hb dX8_of_128 rfl ?_
      refine lv_goto (tgt := 133) hx hb dX8_of_129 (by decide) ?_
      exact g_iret (Pic := fun _ => True) E hr hlk trivial hS rfl dX8_of_133
  have hf := ite_f k61 hf
  by_cases k62 : how = nI 62
  · have hf := ite_t k62 hf
    subst k62
    refine lv_lookup (tgt := 134) hx hb dX8_of_22 (by decide) rfl rfl ?_
    refine lv_iload_n hx hb dX8_of_134 rfl (lv_at hl 1 rfl) ?_
    refine lv_iload_n hx hb dX8_of_135 rfl (lv_at hl 0 rfl) ?_
    refine lv_icmp_le (tgt := 143) hx hb dX8_of_136 (by decide) (fun kc => ?_) (fun kc => ?_)
    · have hf := ite_t kc hf
      cases hf
      refine lv_iconst (v := nI 0) hx hb dX8_of_143 rfl ?_
      exact g_iret (Pic := fun _ => True) E hr hlk trivial hS rfl dX8_of_144
    · have hf := ite_f kc hf
      cases hf
      refine lv_iconst (v := nI 1) hx hb dX8_of_139 rfl ?_
      refine lv_goto (tgt := 144) hx hb dX8_of_140 (by decide) ?_
      exact g_iret (Pic := fun _ => True) E hr hlk trivial hS rfl dX8_of_144
  have hf := ite_f k62 hf
  cases hf
  refine lv_lookup (off := 127) (tgt := 149) hx hb dX8_of_22 (by decide) ?_ rfl ?_
  · show Op.lookupswitch.offset [((5 : Int), (123 : Int)), (42, 82), (43, 74), (45, 78), (47, 86), (60, 90), (61, 101), (62, 112)] 127 how.toInt = 127
    rw [lv_osw (a := 5) k5 (by decide), lv_osw (a := 42) k42 (by decide), lv_osw (a := 43) k43 (by decide), lv_osw (a := 45) k45 (by decide), lv_osw (a := 47) k47 (by decide), lv_osw (a := 60) k60 (by decide), lv_osw (a := 61) k61 (by decide), lv_osw (a := 62) k62 (by decide)]
    rfl
  refine lv_iload_n hx hb dX8_of_149 rfl (lv_at hl 1 rfl) ?_
  refine lv_iload_n hx hb dX8_of_150 rfl (lv_at hl 0 rfl) ?_
  refine lv_ior hx hb dX8_of_151 ?_
  exact g_iret (Pic := fun _ => True) E hr hlk trivial hS rfl dX8_of_152
theorem tt_all (l : Launch) (D : va_G) (dT : Nat → ClassId) : ∀ d, MNJ l D dT d := by
  intro d
  induction d with
  | zero => exact ⟨tt_N (fun d' z => by cases z), tt_J (fun d' z => by cases z)⟩
  | succ d ih => exact ⟨tt_N (fun d' z => by cases z; exact ih), tt_J (fun d' z => by cases z; exact ih)⟩
