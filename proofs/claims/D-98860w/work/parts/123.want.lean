/-! 123: what is called on a want, whatever its class -/
set_option maxRecDepth 100000
theorem lw_O {own : String} {idx : Nat} {C owner : String} {x y : MethodName} {b : ByteArray} {L : Nat} {r : Option FieldType} (h0 : Cond.instanceMethod ⟨owner, x.name, x.desc⟩ ∈ lw_all) (h1 : Cond.methodLink own idx x ∈ lw_all) (h2 : Cond.sameMethod x.cls owner x.name x.desc ∈ lw_all) (h3 : Cond.selects C x y ∈ lw_all) (h4 : Cond.instanceMethod y ∈ lw_all) (h5 : Cond.initialized y.cls ∈ lw_all) (h6 : Cond.code y b L r ∈ lw_all) : GoodIn lw_all (va_wsO own idx C owner x y (ws_ y b L r)) := by
  refine lw_app ?_ (lw_meth h6)
  intro w hw
  simp only [List.mem_cons, List.not_mem_nil, or_false] at hw
  rcases hw with e | e | e | e | e | e
  · rw [e]; exact h1
  · rw [e]; exact h2
  · rw [e]; exact h0
  · rw [e]; exact h3
  · rw [e]; exact h4
  · rw [e]; exact h5
section WANTS
variable {p : Program} {l : Launch} {e : Env} {R : Room} {s : State} {m : MethodId} {args : Array Value} {below : List Frame} {meth : Method} {c : Code} {H : Heap} {locs : List Loc} {cells slots : Nat} {Q : State → Prop}
variable {cc : ByteArray} {pc nL : Nat} {ls : Array Slot} {rest : List Value} {D : va_G} {dT : Nat → ClassId} {A : Nat → Prop} {Nn : Nat → Prop}
noncomputable def fw_isMet (t : nwW) (μ : nwM) : Option Int32 := if t.1 = -1 then fd_ClearWant_isMet t μ else fd_SkyWant_isMet t μ
theorem wa_cast {t : nwW} {a index : Nat} (E : CallFix p m c cc nL s args lw_all RX0) (hE : EV D dT s) (ho : oWa D t Nn a H) (hq : Cond.classLink RX0 index "NamesWeather$Want" ∈ lw_all) (hdg : decode cc pc = .ok (.checkcast index, 3))
    (k : W p l e R s m args below meth c H locs cells slots Q (F0 m (pc + 3) ls (.ref a :: rest))) : W p l e R s m args below meth c H locs cells slots Q (F0 m pc ls (.ref a :: rest)) := by
  rcases ho with ⟨-, -, ho⟩ | ⟨-, ho⟩
  · exact o_castY (nm := "NamesWeather$Want") E hE ho rfl hq (List.mem_of_getElem? (i := 8) rfl) hdg k
  · exact o_castY (nm := "NamesWeather$Want") E hE ho rfl hq (List.mem_of_getElem? (i := 10) rfl) hdg k
theorem wa_day {t : nwW} {a : Nat} (E : CallFix p m c cc nL s args lw_all RX0) (hE : EV D dT s) (ho : oWa D t Nn a H) (hdg : decode cc pc = .ok (.getfield 236, 3))
    (k : W p l e R s m args below meth c H locs cells slots Q (F0 m (pc + 3) ls (.int t.2.2.2.1 :: rest))) : W p l e R s m args below meth c H locs cells slots Q (F0 m pc ls (.ref a :: rest)) := by
  rcases ho with ⟨-, -, ho⟩ | ⟨-, ho⟩
  · exact o_getN (C := RX13) (T := TX13) E hE.1 ho rfl in_X13 1 (by decide) (nfw_21 hE.2) (fun _ z => z) (v := .int t.2.2.2.1) rfl hdg k
  · exact o_getN (C := RX14) (T := TX14) E hE.1 ho rfl in_X14 1 (by decide) (nfw_21 hE.2) (fun _ z => z) (v := .int t.2.2.2.1) rfl hdg k
theorem wa_worth {t : nwW} {a : Nat} (E : CallFix p m c cc nL s args lw_all RX0) (hE : EV D dT s) (ho : oWa D t Nn a H) (hdg : decode cc pc = .ok (.getfield 252, 3))
    (k : W p l e R s m args below meth c H locs cells slots Q (F0 m (pc + 3) ls (.int t.2.2.2.2 :: rest))) : W p l e R s m args below meth c H locs cells slots Q (F0 m pc ls (.ref a :: rest)) := by
  rcases ho with ⟨-, -, ho⟩ | ⟨-, ho⟩
  · exact o_getN (C := RX13) (T := TX13) E hE.1 ho rfl in_X13 2 (by decide) (nfw_22 hE.2) (fun _ z => z) (v := .int t.2.2.2.2) rfl hdg k
  · exact o_getN (C := RX14) (T := TX14) E hE.1 ho rfl in_X14 2 (by decide) (nfw_22 hE.2) (fun _ z => z) (v := .int t.2.2.2.2) rfl hdg k
theorem wa_island {t : nwW} {a d : Nat} (E : CallFix p m c cc nL s args lw_all RX0) (hE : EV D dT s) (ho : oWa D t Nn a H) (hS : va_S A s.heap H locs) (hd : 0 < d) {lv : List (Nat × Value)} (hl : lv_has ls nL lv) (hrm : (rest.map fun v => v.category).sum ≤ 8) (hdg : decode cc pc = .ok (.invokevirtual 257, 3))
    (kk : ∀ (H1 : Heap) (locs1 : List Loc), (∀ q, q < H.size → H1[q]? = H[q]?) → va_S A s.heap H1 locs1 → W p l e (rmd d) s m args below meth c H1 locs1 0 0 Q (F0 m (pc + 3) ls (.int t.2.2.1 :: rest))) : W p l e (rmd d) s m args below meth c H locs 0 0 Q (F0 m pc ls (.ref a :: rest)) := by
  rcases ho with ⟨h1, h2, ho⟩ | ⟨-, ho⟩
  · exact u_calli (Pic := fun H => oO D 11 3 [.int t.2.2.1, .int t.2.2.2.1, .int t.2.2.2.2] nN a H) (Pic1 := fun _ => True) (A1 := nN) (owner := "NamesWeather$Want") (x := ⟨"NamesWeather$Want", "island", "()I"⟩) E hE (ho.weak (fun _ z => z.elim)) hS (fun _ z => z.elim) (As := []) (to_Want_island l D dT a t _ (rfl)) (o_recv hE.1 ho rfl) (va_cwU 0 E.2.2.2.2 (lw_U q1286 q2105 q2106 q1265 q186 q1266) rfl rfl rfl rfl ⟨by decide +kernel, by decide +kernel, by decide +kernel⟩ (rmd_ok hd (by decide))) rfl hl rfl hrm hdg (fun H1 locs1 _ hq1 hS => kk H1 locs1 (fun q z => hq1 q z (fun y => y)) hS)
  · exact u_calli (Pic := fun H => oO D 12 5 [.int t.2.2.1, .int t.2.2.2.1, .int t.2.2.2.2, .int t.1, .int t.2.1] nN a H) (Pic1 := fun _ => True) (A1 := nN) (owner := "NamesWeather$Want") (x := ⟨"NamesWeather$Want", "island", "()I"⟩) E hE (ho.weak (fun _ z => z.elim)) hS (fun _ z => z.elim) (As := []) (to_Want_island_12 l D dT a t _ rfl) (o_recv hE.1 ho rfl) (va_cwU 0 E.2.2.2.2 (lw_U q1286 q2105 q2107 q1265 q186 q1266) rfl rfl rfl rfl ⟨by decide +kernel, by decide +kernel, by decide +kernel⟩ (rmd_ok hd (by decide))) rfl hl rfl hrm hdg (fun H1 locs1 _ hq1 hS => kk H1 locs1 (fun q z => hq1 q z (fun y => y)) hS)
theorem wa_kind {t : nwW} {a d : Nat} (E : CallFix p m c cc nL s args lw_all RX0) (hE : EV D dT s) (ho : oWa D t Nn a H) (hS : va_S A s.heap H locs) (hd : 0 < d) {lv : List (Nat × Value)} (hl : lv_has ls nL lv) (hrm : (rest.map fun v => v.category).sum ≤ 8) (hdg : decode cc pc = .ok (.invokevirtual 255, 3))
    (kk : ∀ (H1 : Heap) (locs1 : List Loc), (∀ q, q < H.size → H1[q]? = H[q]?) → va_S A s.heap H1 locs1 → W p l e (rmd d) s m args below meth c H1 locs1 0 0 Q (F0 m (pc + 3) ls (.int t.1 :: rest))) : W p l e (rmd d) s m args below meth c H locs 0 0 Q (F0 m pc ls (.ref a :: rest)) := by
  rcases ho with ⟨h1, h2, ho⟩ | ⟨-, ho⟩
  · exact u_calli (Pic := fun H => oO D 11 3 [.int t.2.2.1, .int t.2.2.2.1, .int t.2.2.2.2] nN a H) (Pic1 := fun _ => True) (A1 := nN) (owner := "NamesWeather$Want") (x := ⟨"NamesWeather$Want", "kind", "()I"⟩) E hE (ho.weak (fun _ z => z.elim)) hS (fun _ z => z.elim) (As := []) (to_Want_kind l D dT a t _ (by rw [h1]; rfl)) (o_recv hE.1 ho rfl) (va_cwU 0 E.2.2.2.2 (lw_U q1278 q1280 q1281 q1279 q186 q1285) rfl rfl rfl rfl ⟨by decide +kernel, by decide +kernel, by decide +kernel⟩ (rmd_ok hd (by decide))) rfl hl rfl hrm hdg (fun H1 locs1 _ hq1 hS => kk H1 locs1 (fun q z => hq1 q z (fun y => y)) hS)
  · exact u_calli (Pic := fun H => oO D 12 5 [.int t.2.2.1, .int t.2.2.2.1, .int t.2.2.2.2, .int t.1, .int t.2.1] nN a H) (Pic1 := fun _ => True) (A1 := nN) (owner := "NamesWeather$Want") (x := ⟨"NamesWeather$Want", "kind", "()I"⟩) E hE (ho.weak (fun _ z => z.elim)) hS (fun _ z => z.elim) (As := []) (to_SkyWant_kind l D dT a t _ rfl) (o_recv hE.1 ho rfl) (va_cwO 0 E.2.2.2.2 (lw_O q1279 q1278 q1280 q1282 q1283 q188 q1284) rfl rfl rfl q1285 ⟨by decide +kernel, by decide +kernel, by decide +kernel⟩ (rmd_ok hd (by decide))) rfl hl rfl hrm hdg (fun H1 locs1 _ hq1 hS => kk H1 locs1 (fun q z => hq1 q z (fun y => y)) hS)
theorem wa_much {t : nwW} {a d : Nat} (E : CallFix p m c cc nL s args lw_all RX0) (hE : EV D dT s) (ho : oWa D t Nn a H) (hS : va_S A s.heap H locs) (hd : 0 < d) {lv : List (Nat × Value)} (hl : lv_has ls nL lv) (hrm : (rest.map fun v => v.category).sum ≤ 8) (hdg : decode cc pc = .ok (.invokevirtual 262, 3))
    (kk : ∀ (H1 : Heap) (locs1 : List Loc), (∀ q, q < H.size → H1[q]? = H[q]?) → va_S A s.heap H1 locs1 → W p l e (rmd d) s m args below meth c H1 locs1 0 0 Q (F0 m (pc + 3) ls (.int t.2.1 :: rest))) : W p l e (rmd d) s m args below meth c H locs 0 0 Q (F0 m pc ls (.ref a :: rest)) := by
  rcases ho with ⟨h1, h2, ho⟩ | ⟨-, ho⟩
  · exact u_calli (Pic := fun H => oO D 11 3 [.int t.2.2.1, .int t.2.2.2.1, .int t.2.2.2.2] nN a H) (Pic1 := fun _ => True) (A1 := nN) (owner := "NamesWeather$Want") (x := ⟨"NamesWeather$Want", "much", "()I"⟩) E hE (ho.weak (fun _ z => z.elim)) hS (fun _ z => z.elim) (As := []) (to_Want_much l D dT a t _ (by rw [h2]; rfl)) (o_recv hE.1 ho rfl) (va_cwU 0 E.2.2.2.2 (lw_U q1291 q1293 q1294 q1292 q186 q1298) rfl rfl rfl rfl ⟨by decide +kernel, by decide +kernel, by decide +kernel⟩ (rmd_ok hd (by decide))) rfl hl rfl hrm hdg (fun H1 locs1 _ hq1 hS => kk H1 locs1 (fun q z => hq1 q z (fun y => y)) hS)
  · exact u_calli (Pic := fun H => oO D 12 5 [.int t.2.2.1, .int t.2.2.2.1, .int t.2.2.2.2, .int t.1, .int t.2.1] nN a H) (Pic1 := fun _ => True) (A1 := nN) (owner := "NamesWeather$Want") (x := ⟨"NamesWeather$Want", "much", "()I"⟩) E hE (ho.weak (fun _ z => z.elim)) hS (fun _ z => z.elim) (As := []) (to_SkyWant_much l D dT a t _ rfl) (o_recv hE.1 ho rfl) (va_cwO 0 E.2.2.2.2 (lw_O q1292 q1291 q1293 q1295 q1296 q188 q1297) rfl rfl rfl q1298 ⟨by decide +kernel, by decide +kernel, by decide +kernel⟩ (rmd_ok hd (by decide))) rfl hl rfl hrm hdg (fun H1 locs1 _ hq1 hS => kk H1 locs1 (fun q z => hq1 q z (fun y => y)) hS)
theorem wa_isMet {t : nwW} {a h d : Nat} {ρ : Nat → Nat} {μ : nwM} {r : Int32} (E : CallFix p m c cc nL s args lw_all RX0) (hE : EV D dT s) (ho : oWa D t Nn a H) (hP : PS D dT h μ ρ H) (hf : fw_isMet t μ = some r) (hS : va_S A s.heap H locs) (hd : 1 < d) {lv : List (Nat × Value)} (hl : lv_has ls nL lv) (hrm : (rest.map fun v => v.category).sum ≤ 8) (hdg : decode cc pc = .ok (.invokevirtual 248, 3))
    (kk : ∀ (H1 : Heap) (locs1 : List Loc), (∀ q, q < H.size → H1[q]? = H[q]?) → va_S A s.heap H1 locs1 → W p l e (rmd d) s m args below meth c H1 locs1 0 0 Q (F0 m (pc + 3) ls (.int r :: rest))) : W p l e (rmd d) s m args below meth c H locs 0 0 Q (F0 m pc ls (.ref h :: .ref a :: rest)) := by
  unfold fw_isMet at hf
  rcases ho with ⟨h1, h2, ho⟩ | ⟨h1, ho⟩
  · rw [if_pos h1] at hf
    exact u_calli (Pic := fun H => PS D dT h μ ρ H ∧ oO D 11 3 [.int t.2.2.1, .int t.2.2.2.1, .int t.2.2.2.2] nN a H) (Pic1 := fun H => PS D dT h μ ρ H) (A1 := nN) (owner := "NamesWeather$Want") (x := ⟨"NamesWeather$Want", "isMet", "(LNamesWeather$Skies;)Z"⟩) E hE ⟨hP, ho.weak (fun _ z => z.elim)⟩ hS (fun _ z => z.elim) (As := [.ref h]) (td_ClearWant_isMet l D dT a h ρ t μ _ hf) (o_recv hE.1 ho rfl) (va_cwA 1 E.2.2.2.2 (lw_U q1255 q1257 q1258 q1259 q187 q1260) rfl rfl rfl (ndw_5 hE.2) ⟨by decide +kernel, by decide +kernel, by decide +kernel⟩ (rmd_ok hd (by decide))) rfl hl rfl hrm hdg (fun H1 locs1 _ hq1 hS => kk H1 locs1 (fun q z => hq1 q z (fun y => y)) hS)
  · rw [if_neg h1] at hf
    exact u_calli (Pic := fun H => PS D dT h μ ρ H ∧ oO D 12 5 [.int t.2.2.1, .int t.2.2.2.1, .int t.2.2.2.2, .int t.1, .int t.2.1] nN a H) (Pic1 := fun H => PS D dT h μ ρ H) (A1 := nN) (owner := "NamesWeather$Want") (x := ⟨"NamesWeather$Want", "isMet", "(LNamesWeather$Skies;)Z"⟩) E hE ⟨hP, ho.weak (fun _ z => z.elim)⟩ hS (fun _ z => z.elim) (As := [.ref h]) (td_SkyWant_isMet l D dT a h ρ t μ _ hf) (o_recv hE.1 ho rfl) (va_cwA 1 E.2.2.2.2 (lw_U q1255 q1257 q1268 q1269 q188 q1270) rfl rfl rfl (ndw_5 hE.2) ⟨by decide +kernel, by decide +kernel, by decide +kernel⟩ (rmd_ok hd (by decide))) rfl hl rfl hrm hdg (fun H1 locs1 _ hq1 hS => kk H1 locs1 (fun q z => hq1 q z (fun y => y)) hS)
end WANTS
