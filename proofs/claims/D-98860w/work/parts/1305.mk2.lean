/-! 1305: ArrayList made, the heap's size known -/
set_option maxRecDepth 100000
def rmx (d n S : Nat) : Room := { frames := d, cells := n, slots := S, locals := 64 * d }
theorem rmx_ok {d d' n n' S S' L : Nat} (h : d' < d) (hL : L ≤ 45) : (rmx d' n' S').frames + 1 ≤ (rmx d n S).frames ∧ 8 + (L + 11) + (rmx d' n' S').locals ≤ (rmx d n S).locals := by
  show d' + 1 ≤ d ∧ 8 + (L + 11) + 64 * d' ≤ 64 * d
  omega
theorem rmxd_ok {d d' n S L : Nat} (h : d' < d) (hL : L ≤ 45) : (rmd d').frames + 1 ≤ (rmx d n S).frames ∧ 8 + (L + 11) + (rmd d').locals ≤ (rmx d n S).locals := by
  show d' + 1 ≤ d ∧ 8 + (L + 11) + 64 * d' ≤ 64 * d
  omega
theorem sz_put {H H1 : Heap} {a : Nat} (h0 : a < H.size) (h1 : a < H1.size) (oq : ∀ q, q ≠ a → H1[q]? = H[q]?) : H1.size = H.size := by
  rcases Nat.lt_trichotomy H1.size H.size with h | h | h
  · have := oq H1.size (by omega)
    rw [Array.getElem?_eq_none (Nat.le_refl _), Array.getElem?_eq_getElem h] at this
    cases this
  · exact h
  · have := oq H.size (by omega)
    rw [Array.getElem?_eq_none (xs := H) (Nat.le_refl _), Array.getElem?_eq_getElem h] at this
    cases this
/-- the cells behind h, as they were made -/
def Bl (h n : Nat) (c : Nat → Cell) (H : Heap) : Prop := ∀ i, i < n → H[h + 1 + i]? = some (c i)
theorem Bl_put {h n : Nat} {c : Nat → Cell} {H H1 : Heap} (hB : Bl h n c H) (oq : ∀ q, q ≠ h → H1[q]? = H[q]?) : Bl h n c H1 := fun i hi => by rw [oq _ (by omega)]; exact hB i hi
theorem Bl_old {h n : Nat} {c : Nat → Cell} {H H1 : Heap} (hB : Bl h n c H) (oq : ∀ q, q < H.size → H1[q]? = H[q]?) : Bl h n c H1 := fun i hi => by rw [oq _ (Array.getElem?_eq_some_iff.mp (hB i hi)).1]; exact hB i hi
theorem Bl_eq {h n a : Nat} {c : Nat → Cell} {H H1 : Heap} (hB : Bl h n c H) (ha : h + 1 + n ≤ a) (oq : ∀ q, q < H.size → ¬ eqA a q → H1[q]? = H[q]?) : Bl h n c H1 := fun i hi => by rw [oq _ (Array.getElem?_eq_some_iff.mp (hB i hi)).1 (fun e => by have : h + 1 + i = a := e; omega)]; exact hB i hi
theorem Bl_1 {h n : Nat} {c : Nat → Cell} {H H1 : Heap} (hB : Bl h n c H) (hz : H.size = h + 1 + n) (oq : ∀ q, q < H.size → H1[q]? = H[q]?) (e : H1[H.size]? = some (c n)) : Bl h (n + 1) c H1 := fun i hi => by
  by_cases e1 : i = n
  · subst e1; rw [← hz]; exact e
  · rw [oq _ (by omega)]; exact hB i (by omega)
theorem Bl_m {h n k : Nat} {c : Nat → Cell} {H H1 : Heap} (hB : Bl h n c H) (hz : H.size = h + 1 + n) (oq : ∀ q, q < H.size → H1[q]? = H[q]?) (e : H1[H.size]? = some (c n)) (e2 : ∀ j, j < k → H1[H.size + 1 + j]? = some (c (n + 1 + j))) : Bl h (n + 1 + k) c H1 := fun i hi => by
  rcases Nat.lt_trichotomy i n with e1 | e1 | e1
  · rw [oq _ (by omega)]; exact hB i e1
  · subst e1; rw [← hz]; exact e
  · have := e2 (i - n - 1) (by omega)
    rw [show H.size + 1 + (i - n - 1) = h + 1 + i by omega, show n + 1 + (i - n - 1) = i by omega] at this
    exact this
theorem LB_old {D : va_G} {dT : Nat → ClassId} {e0 al : Nat} {H H1 : Heap} (h : LB D dT e0 al e0 [] H) (hq : H1[al]? = H[al]?) : LB D dT e0 al e0 [] H1 := h.kq hq (fun e => absurd rfl e)
theorem LB_al {D : va_G} {dT : Nat → ClassId} {e0 al : Nat} {H : Heap} (h : LB D dT e0 al e0 [] H) : al < H.size := by
  obtain ⟨⟨mc, ho⟩, -⟩ := h
  exact ho.lt
theorem arrV_to {cA : ClassId} {n : Nat} {f g : Nat → Value} (h : ∀ j, j < n → f j = g j) : arrV cA n f = arrV cA n g := arrV_is (ce := arrV cA n f) rfl rfl rfl rfl (by rw [arrV_size]) (fun j hj => by rw [arrV_read _ _ hj, h j hj])
theorem S_old {A : Nat → Prop} {H0 H H1 : Heap} {locs : List Loc} (hS : va_S A H0 H locs) (z1 : H.size ≤ H1.size) (o1 : ∀ q, q < H.size → H1[q]? = H[q]?) : va_S A H0 H1 locs := ⟨Nat.le_trans hS.1 z1, fun q h1 h2 => (o1 q (Nat.lt_of_lt_of_le h1 hS.1)).trans (hS.2.1 q h1 h2), hS.2.2⟩
theorem tm_ac (l : Launch) (D : va_G) (dT : Nat → ClassId) (q sz : Nat) : Met l yJ0_init (ws_ yJ0_init cJ0_init 1 none) (rmd 1) (va_Pc [.ref q] (fun U => oFP D dT 16 3 [.int 0, .null, .int 0] q U ∧ U.heap.size = sz)) (va_Qv (fun (_ : Unit) => True) (fun _ t => oF D 16 3 [.int 0, .null, .int 0] q t.heap ∧ t.heap.size = sz) (eqA q)) 0 0 (eqA q) := by
  refine k_met (own := RJ0) (by decide) rfl (Nat.le_of_ble_eq_true rfl) ?_
  intro p e s m below meth c ls E hP hr hlk hl hnm
  obtain ⟨⟨hP, hE⟩, hz⟩ := hP
  obtain ⟨hx, hb, hml, hown, hts⟩ := id E
  have hS : va_S (eqA q) s.heap s.heap [] := va_S.rf
  have hl : lv_has ls 1 [(0, .ref q)] := hl
  refine lv_aload_n hx hb dJ0_init_0 rfl (lv_at hl 0 rfl) ?_
  refine W.objInit hx hb hown (hts _ q222) (hts _ q201) (hts _ q202) rfl (by rw [hml]; exact hl.1) rfl dJ0_init_1 (Nat.le_of_ble_eq_true rfl) (Nat.le_of_ble_eq_true rfl) ?_
  exact g_vret (Pic := fun H => oF D 16 3 [.int 0, .null, .int 0] q H ∧ H.size = sz) E hr hlk ⟨hP, hz⟩ hS dJ0_init_4
theorem tm_ab (l : Launch) (D : va_G) (dT : Nat → ClassId) (q sz : Nat) : Met l yJ1_init (ws_ yJ1_init cJ1_init 1 none) (rmd 2) (va_Pc [.ref q] (fun U => oFP D dT 16 3 [.int 0, .null, .int 0] q U ∧ U.heap.size = sz)) (va_Qv (fun (_ : Unit) => True) (fun _ t => oF D 16 3 [.int 0, .null, .int 0] q t.heap ∧ t.heap.size = sz) (eqA q)) 0 0 (eqA q) := by
  refine k_met (own := RJ1) (by decide) rfl (Nat.le_of_ble_eq_true rfl) ?_
  intro p e s m below meth c ls E hP hr hlk hl hnm
  obtain ⟨⟨hP, hE⟩, hz⟩ := hP
  obtain ⟨hx, hb, hml, hown, hts⟩ := id E
  have hS : va_S (eqA q) s.heap s.heap [] := va_S.rf
  have hl : lv_has ls 1 [(0, .ref q)] := hl
  refine lv_aload_n hx hb dJ1_init_0 rfl (lv_at hl 0 rfl) ?_
  refine k_iv (Pic := fun U => oFP D dT 16 3 [.int 0, .null, .int 0] q U ∧ U.heap.size = sz) (Pic1 := fun H => oF D 16 3 [.int 0, .null, .int 0] q H ∧ H.size = sz) (A1 := eqA q) E hS (fun _ _ z => z) (fun _ z => z) (As := []) (tm_ac l D dT q sz) (fun U f mk x h => ⟨oFP_bl U f mk x h.1, h.2⟩) (fun U hU hW => ⟨oFP_pre hP hE U hU hW, by rw [hU]; exact hz⟩) q219 q220 q163 q221 rfl dl_ac rfl ⟨rfl, rfl⟩ (rmd_ok (by decide) (by decide)) ⟨Nat.le_refl 0, Nat.le_refl 0⟩ hl rfl (Nat.le_of_ble_eq_true rfl) dJ1_init_1 (fun H locs hPz _ _ hS => ?_)
  obtain ⟨hP, hz⟩ := hPz
  refine lv_aload_n hx hb dJ1_init_4 rfl (lv_at hl 0 rfl) ?_
  refine lv_iconst (v := 0) hx hb dJ1_init_5 rfl ?_
  have hlo := hP.lt
  refine gp_put (C := RJ2) (T := TJ2) (ty := .int) E hE.1 (oneO (dT := dT) hP) hS rfl (if_pos rfl) rfl in_J2 tyJ2 tyJ2_ok nmJ2 0 (by decide) (hts _ q227) (fun _ z => z) rfl rfl rfl rfl dJ1_init_6 (fun H locs hG oq hS => ?_)
  have hP : oF D 16 3 [.int 0, .null, .int 0] q H := cf_put (Nat.le_of_ble_eq_true rfl) hG
  have hz := (sz_put hlo hP.lt oq).trans hz
  exact g_vret (Pic := fun H => oF D 16 3 [.int 0, .null, .int 0] q H ∧ H.size = sz) E hr hlk ⟨hP, hz⟩ hS dJ1_init_9
theorem tm_init (l : Launch) (D : va_G) (dT : Nat → ClassId) (Z : nwZ) (q sz : Nat) : Met l yJ2_init (ws_ yJ2_init cJ2_init 1 none) (rmd 3) (va_Pc [.ref q] (fun U => aLP D dT Z q U ∧ U.heap.size = sz)) (va_Qv (fun (_ : Unit) => True) (fun _ t => LB D dT Z.2.2.1 q Z.2.2.1 [] t.heap ∧ t.heap.size = sz) (eqA q)) 0 0 (eqA q) := by
  refine k_met (own := RJ2) (by decide) rfl (Nat.le_of_ble_eq_true rfl) ?_
  intro p e s m below meth c ls E hP hr hlk hl hnm
  obtain ⟨⟨hP, hE, hSV, hq⟩, hz⟩ := hP
  obtain ⟨hx, hb, hml, hown, hts⟩ := id E
  have hS : va_S (eqA q) s.heap s.heap [] := va_S.rf
  have hl : lv_has ls 1 [(0, .ref q)] := hl
  have hAB : ∀ z, eqA q z → ge_ Z.1 z := fun z hz => by rw [show z = q from hz]; exact hq
  refine lv_aload_n hx hb dJ2_init_0 rfl (lv_at hl 0 rfl) ?_
  refine k_iv (Pic := fun U => oFP D dT 16 3 [.int 0, .null, .int 0] q U ∧ U.heap.size = sz) (Pic1 := fun H => oF D 16 3 [.int 0, .null, .int 0] q H ∧ H.size = sz) (A1 := eqA q) E hS (fun _ _ z => z) (fun _ z => z) (As := []) (tm_ab l D dT q sz) (fun U f mk x h => ⟨oFP_bl U f mk x h.1, h.2⟩) (fun U hU hW => ⟨oFP_pre hP hE U hU hW, by rw [hU]; exact hz⟩) q216 q217 q164 q218 rfl dl_ab rfl ⟨rfl, rfl⟩ (rmd_ok (by decide) (by decide)) ⟨Nat.le_refl 0, Nat.le_refl 0⟩ hl rfl (Nat.le_of_ble_eq_true rfl) dJ2_init_1 (fun H locs hPz _ _ hS => ?_)
  obtain ⟨hP, hz⟩ := hPz
  refine lv_aload_n hx hb dJ2_init_4 rfl (lv_at hl 0 rfl) ?_
  refine va_gets hx hb (hSV.2.2.2.1.1.narrow hAB) hS hown (hts _ q223) (fun _ z => z) dJ2_init_5 ?_
  have hlo := hP.lt
  refine gp_put (C := RJ2) (T := TJ2) (ty := .array (.object "java/lang/Object")) E hE.1 (oneO (dT := dT) hP) hS rfl (if_pos rfl) rfl in_J2 tyJ2 tyJ2_ok nmJ2 1 (by decide) (hts _ q225) (fun _ z => z) rfl rfl rfl rfl dJ2_init_8 (fun H locs hG oq hS => ?_)
  have hP : oF D 16 3 [.int 0, .ref Z.2.2.1, .int 0] q H := cf_put (Nat.le_of_ble_eq_true rfl) hG
  have hz := (sz_put hlo hP.lt oq).trans hz
  exact g_vret (Pic := fun H => LB D dT Z.2.2.1 q Z.2.2.1 [] H ∧ H.size = sz) E hr hlk ⟨⟨⟨0, hP⟩, Or.inl ⟨rfl, rfl⟩⟩, hz⟩ hS dJ2_init_11
