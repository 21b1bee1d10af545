/-! 112: Arrays.copyOf, grow, add -/
set_option maxRecDepth 100000
section LST
variable {p : Program} {l : Launch} {e : Env} {R : Room} {s : State} {m : MethodId} {args : Array Value} {below : List Frame} {meth : Method} {c : Code} {H : Heap} {locs : List Loc} {cells slots : Nat} {Q : State → Prop}
variable {cc : ByteArray} {pc nL : Nat} {ls : Array Slot} {rest : List Value} {own : String} {A : Nat → Prop} {D : va_G} {dT : Nat → ClassId}
theorem a_new (E : CallFix p m c cc nL s args lw_all own) (hK : va_K D nwCl (nwT dT) s) (hAO : va_AO "java/lang/Object" s) {index n : Nat} (hq : Cond.classLink own index "java/lang/Object" ∈ lw_all) (hn : n ≤ 24) (hcells : cells + 1 ≤ R.cells) (hslots : slots + 24 ≤ R.slots) (hdg : decode cc pc = .ok (.anewarray index, 3))
    (kk : ∀ (H1 : Heap), aO dT H.size n (fun _ => none) H1 → H1.size = H.size + 1 → (∀ q, q < H.size → H1[q]? = H[q]?) → W p l e R s m args below meth c H1 locs (cells + 1) (slots + 24) Q (F0 m (pc + 3) ls (.ref H.size :: rest))) : W p l e R s m args below meth c H locs cells slots Q (F0 m pc ls (.int (nI n) :: rest)) := by
  have hcl : (nI n).toNatClampNeg = n := nI_clamp (by omega)
  refine W.anew E.1 E.2.1 E.2.2.2.1 (E.2.2.2.2 _ hq) (va_AO.use hAO) rfl hdg rfl (nI_pos (by omega)) (by rw [hcl]; omega) hcells (by rw [hcl]; omega) fun cA kA comp f1 f2 f3 f4 => ?_
  rw [hcl]
  have hcA : cA = dT 4 := by
    obtain ⟨kA', comp', -, -, -, h4⟩ := (hK.2 4 (dT 4, .object "java/lang/Object") rfl).2
    exact Option.some.inj (f1.symm.trans h4)
  subst hcA
  refine W.widen (Nat.le_refl _) (show slots + n ≤ slots + 24 by omega) (kk _ ?_ (by rw [Array.size_push]) (fun q hq => by rw [Array.getElem?_push, if_neg (Nat.ne_of_lt hq)]))
  unfold aO
  rw [Array.getElem?_push_size, ← arrV_new]
  rfl
theorem a_len (E : CallFix p m c cc nL s args lw_all own) (hK : va_K D nwCl (nwT dT) s) {ed n : Nat} {f : Nat → Option Nat} (hA : aO dT ed n f H) (hdg : decode cc pc = .ok (.arraylength, 1)) (kk : W p l e R s m args below meth c H locs cells slots Q (F0 m (pc + 1) ls (.int (nI n) :: rest))) : W p l e R s m args below meth c H locs cells slots Q (F0 m pc ls (.ref ed :: rest)) := by
  refine W.alen (n := nI n) E.1 E.2.1 hA ((hK.2 4 (dT 4, .object "java/lang/Object") rfl).1 n _) (by rw [arrV_size]; rfl) rfl rfl hdg kk
theorem a_put (E : CallFix p m c cc nL s args lw_all own) (hE : EV D dT s) {ed n i x : Nat} {f : Nat → Option Nat} (hA : aO dT ed n f H) (hx : isE D x H) (hi : i < n) (hn : n ≤ 24) (hS : va_S A s.heap H locs) (hAed : A ed) (hdg : decode cc pc = .ok (.aastore, 1))
    (kk : ∀ (H1 : Heap) (locs1 : List Loc), aO dT ed n (va_up f i (some x)) H1 → (∀ q, q ≠ ed → H1[q]? = H[q]?) → va_S A s.heap H1 locs1 → W p l e R s m args below meth c H1 locs1 cells slots Q (F0 m (pc + 1) ls rest)) : W p l e R s m args below meth c H locs cells slots Q (F0 m pc ls (.ref x :: .int (nI i) :: .ref ed :: rest)) := by
  obtain ⟨cellV, g1, g3, ⟨kC, hkC⟩, hasg⟩ := hx.any hE
  obtain ⟨kA, comp, k1, k2, k3, -⟩ := (hE.1.2 4 (dT 4, .object "java/lang/Object") rfl).2
  obtain ⟨kE, hkE, -⟩ := Vm.findClass_spec k3
  have hcl : (nI i).toNatClampNeg = i := nI_clamp (by omega)
  refine W.aast E.1 E.2.1 hA (fun q h => by cases h) (fun h => by cases h) k1 k2 rfl hkE ⟨nI_pos (by omega), by rw [arrV_size, hcl]; exact hi⟩ g1 (fun q h => by rw [h] at g3; cases g3) hkC (hasg _ k3) rfl rfl hdg fun H1 e z oq => ?_
  refine kk H1 _ ?_ oq (hS.put z oq hAed)
  unfold aO
  rw [e, arrV_store, hcl]
  congr 2
  funext q
  by_cases hq : q = i
  · subst hq
    simp [updV, va_up, va_rf]
  · simp [updV, va_up, hq]
end LST
def CP (D : va_G) (dT : Nat → ClassId) (Z : nwZ) (ed n : Nat) (f : Nat → Option Nat) (sz : Nat) (U : State) : Prop := aO dT ed n f U.heap ∧ (∀ i x, f i = some x → isE D x U.heap) ∧ EV D dT U ∧ SV Z U U.heap ∧ U.heap.size = sz
theorem CP_bl {D : va_G} {dT : Nat → ClassId} {Z : nwZ} {ed n : Nat} {f : Nat → Option Nat} {sz : Nat} : ∀ (U : State) (g : JFrame) (mk : MethodId) (x : Array Value), CP D dT Z ed n f sz U → CP D dT Z ed n f sz (U.calling g mk x) := fun U g mk x h => ⟨h.1, h.2.1, h.2.2.1.same (u := U) (U := U.calling g mk x) rfl, h.2.2.2.1.same (u := U) (U := U.calling g mk x) rfl, h.2.2.2.2⟩
theorem dl_cp2 : dN yJ11_copyOf_2 3 := ⟨by decide +kernel, by decide +kernel, by decide +kernel⟩
theorem dl_cp : dN yJ11_copyOf 2 := ⟨by decide +kernel, by decide +kernel, by decide +kernel⟩
abbrev rO : Option FieldType := some (.array (.object "java/lang/Object"))
abbrev cpf (f : Nat → Option Nat) (n : Nat) : Nat → Option Nat := va_cpy f (fun _ => none) 0 0 n
abbrev cpQ (dT : Nat → ClassId) (ed n n' : Nat) (f : Nat → Option Nat) (sz : Nat) : Array Value → State → Outcome → State → Prop := va_Qr (fun (_ : Unit) => True) (fun _ b t => b = sz ∧ aO dT b n' (cpf f n) t.heap ∧ aO dT ed n f t.heap) (nA ed sz)
set_option maxHeartbeats 4000000 in
theorem tl_cp2 (l : Launch) (D : va_G) (dT : Nat → ClassId) (Z : nwZ) (ed n n' : Nat) (f : Nat → Option Nat) (sz : Nat) (h1 : n ≤ n') (h2 : n' ≤ 24) (hed : ed < sz) : Met l yJ11_copyOf_2 (ws_ yJ11_copyOf_2 cJ11_copyOf_2 4 rO) (rmc 2 1) (va_Pc [.ref ed, .int (nI n'), .ref Z.2.2.2] (CP D dT Z ed n f sz)) (cpQ dT ed n n' f sz) 1 24 (nA ed sz) := by
  refine k_met (own := RJ11) (by decide) rfl (Nat.le_of_ble_eq_true rfl) ?_
  intro p e s m below meth c ls E hP hr hlk hl hnm
  obtain ⟨hO, hels, hE, hSV, hsz⟩ := hP
  obtain ⟨hx, hb, hml, hown, hts⟩ := id E
  have hS : va_S (nA ed sz) s.heap s.heap [] := va_S.rf
  have hl : lv_has ls 4 [(0, .ref ed), (1, .int (nI n')), (2, .ref Z.2.2.2)] := hl
  refine lv_aload_n hx hb dJ11_copyOf_2_0 rfl (lv_at hl 2 rfl) ?_
  refine va_ldcM hx hb hown (hts _ q790) hSV.2.2.2.2.1 dJ11_copyOf_2_1 ?_
  refine lv_acmp_ne (rx := some Z.2.2.2) (ry := some Z.2.2.2) (tgt := 13) hx hb dJ11_copyOf_2_3 (by decide) (fun k => absurd rfl k) (fun _ => ?_)
  refine lv_iload_n hx hb dJ11_copyOf_2_6 rfl (lv_at hl 1 rfl) ?_
  refine a_new E hE.1 hSV.2.2.2.2.2 q792 h2 (Nat.le_of_ble_eq_true rfl) (Nat.le_of_ble_eq_true rfl) dJ11_copyOf_2_7 (fun H1 hN z1 o1 => ?_)
  have hO1 : aO dT ed n f H1 := by unfold aO; rw [o1 ed (by omega)]; exact hO
  rw [hsz] at z1 hN o1 ⊢
  have hS1 : va_S (nA ed sz) s.heap H1 [] := ⟨by omega, fun q hq _ => o1 q (by omega), fun _ h => nomatch h⟩
  refine lv_goto (tgt := 24) hx hb dJ11_copyOf_2_10 (by decide) ?_
  refine lv_astore_n (lv' := [(3, .ref sz), (0, .ref ed), (1, .int (nI n')), (2, .ref Z.2.2.2)]) hx hb dJ11_copyOf_2_24 rfl hl (by decide) rfl (fun ls hl => ?_)
  refine lv_aload_n hx hb dJ11_copyOf_2_25 rfl (lv_at hl 1 rfl) ?_
  refine lv_iconst (v := nI 0) hx hb dJ11_copyOf_2_26 rfl ?_
  refine lv_aload_n hx hb dJ11_copyOf_2_27 rfl (lv_at hl 0 rfl) ?_
  refine lv_iconst (v := nI 0) hx hb dJ11_copyOf_2_28 rfl ?_
  refine lv_aload_n hx hb dJ11_copyOf_2_29 rfl (lv_at hl 1 rfl) ?_
  refine a_len E hE.1 hO1 dJ11_copyOf_2_30 ?_
  refine lv_iload_n hx hb dJ11_copyOf_2_31 rfl (lv_at hl 2 rfl) ?_
  refine va_mmin hx hb (hml.trans hl.1.symm) hown (hts _ q793) (hts _ q794) (hts _ q182) (hts _ q795) (Nat.le_of_ble_eq_true rfl) (Nat.le_of_ble_eq_true rfl) (Nat.le_of_ble_eq_true rfl) (Nat.le_of_ble_eq_true rfl) dJ11_copyOf_2_32 ?_
  refine lv_nm (y := nI n) (by rw [if_neg (nI_nlt h1 (by omega))]) ?_
  have hcl : (nI n).toNatClampNeg = n := nI_clamp (by omega)
  have hc0 : (nI 0).toNatClampNeg = 0 := nI_clamp (by omega)
  have hWP : va_P D nwCl [(ed, .inl (dT 4, n, .inr (.inr (.inr (.inr f))))), (sz, .inl (dT 4, n', .inr (.inr (.inr (.inr (fun _ => none))))))] H1 := fun k q hk => by
    match k, hk with
    | 0, hk => cases hk; show H1[ed]? = some (vp_cell _ _); rw [vp_cell_q]; exact hO1
    | 1, hk => cases hk; show H1[sz]? = some (vp_cell _ _); rw [vp_cell_q]; exact hN
  have hWD : va_D (nA ed sz) [(ed, (.inl (dT 4, n, .inr (.inr (.inr (.inr f)))) : va_E)), (sz, .inl (dT 4, n', .inr (.inr (.inr (.inr (fun _ => none))))))] := by
    refine ⟨fun i j p q hi hj hpq => ?_, fun k q hk => ?_⟩
    · match i, j, hi, hj with
      | 0, 0, _, _ => rfl
      | 1, 1, _, _ => rfl
      | 0, 1, hi, hj => cases hi; cases hj; exact absurd hpq (by show ¬ ed = sz; omega)
      | 1, 0, hi, hj => cases hi; cases hj; exact absurd hpq (by show ¬ sz = ed; omega)
    · match k, hk with
      | 0, hk => cases hk; exact Or.inl rfl
      | 1, hk => cases hk; exact Or.inr (Nat.le_refl _)
  refine va_copyM (a := sz) hx hb (hml.trans hl.1.symm) hown (hts _ q796) (hts _ q798) (hts _ q797) (hts _ q184) hE.1 hWP hWD hS1 0 1 4 4 rfl rfl rfl rfl (nI_pos (by omega)) (nI_pos (by omega)) (nI_pos (by omega)) (by rw [hcl, hc0]; omega) (by rw [hcl, hc0]; omega) (fun i hi y hy => ?_) (Nat.le_of_ble_eq_true rfl) (Nat.le_of_ble_eq_true rfl) dJ11_copyOf_2_35 (fun H2 locs2 hP2 hD2 hS2 => ?_)
  · refine isE.any hE ((hels _ y hy).kq (o1 y ?_))
    have := (hels _ y hy).lt
    omega
  rw [hcl, hc0] at hP2
  have e0 : H2[ed]? = some (vp_cell (dT 4) (n, .inr (.inr (.inr (.inr f))))) := hP2 0 _ rfl
  have e1 : H2[sz]? = some (vp_cell (dT 4) (n', .inr (.inr (.inr (.inr (va_cpy f (fun _ => none) 0 0 n)))))) := hP2 1 _ rfl
  rw [vp_cell_q] at e0 e1
  refine lv_aload_n hx hb dJ11_copyOf_2_38 rfl (lv_at hl 0 rfl) ?_
  exact W.aret hx hb hr (Or.inr ⟨_, rfl⟩) (Or.inr ⟨sz, rfl⟩) (fun t ht _ => ⟨⟨(), sz, rfl, trivial, rfl, by unfold aO; rw [ht]; exact e1, by unfold aO; rw [ht]; exact e0⟩, hS2.F ht⟩) hS2.2.2 dJ11_copyOf_2_39 hlk
set_option maxHeartbeats 4000000 in
theorem tl_cp (l : Launch) (D : va_G) (dT : Nat → ClassId) (Z : nwZ) (ed n n' : Nat) (f : Nat → Option Nat) (sz : Nat) (h1 : n ≤ n') (h2 : n' ≤ 24) (hed : ed < sz) : Met l yJ11_copyOf (ws_ yJ11_copyOf cJ11_copyOf 2 rO) (rmc 3 1) (va_Pc [.ref ed, .int (nI n')] (CP D dT Z ed n f sz)) (cpQ dT ed n n' f sz) 1 24 (nA ed sz) := by
  refine k_met (own := RJ11) (by decide) rfl (Nat.le_of_ble_eq_true rfl) ?_
  intro p e s m below meth c ls E hP hr hlk hl hnm
  obtain ⟨hO, hels, hE, hSV, hsz⟩ := id hP
  obtain ⟨hx, hb, hml, hown, hts⟩ := id E
  have hS : va_S (nA ed sz) s.heap s.heap [] := va_S.rf
  have hl : lv_has ls 2 [(0, .ref ed), (1, .int (nI n'))] := hl
  refine lv_aload_n hx hb dJ11_copyOf_0 rfl (lv_at hl 0 rfl) ?_
  refine lv_iload_n hx hb dJ11_copyOf_1 rfl (lv_at hl 1 rfl) ?_
  refine lv_aload_n hx hb dJ11_copyOf_2 rfl (lv_at hl 0 rfl) ?_
  refine va_getC (C := "[Ljava/lang/Object;") hx hb (hml.trans hl.1.symm) hown (hts _ q766) (va_Nw.use rfl (ndw_0 hE.2)) (hts _ q2134) (hts _ q767) (hts _ q786) hSV.2.2.2.2.1 ⟨_, hO, rfl, va_nmO (hE.1.2 4 (dT 4, .object "java/lang/Object") rfl).2 (by decide +kernel)⟩ (Nat.le_of_ble_eq_true rfl) (Nat.le_of_ble_eq_true rfl) dJ11_copyOf_3 ?_
  refine k_sr (Pic := CP D dT Z ed n f sz) (PicR := fun b H => b = sz ∧ aO dT b n' (cpf f n) H ∧ aO dT ed n f H) (A1 := nA ed sz) E hS (fun _ _ z => z) (fun _ z => z) (As := [.ref ed, .int (nI n'), .ref Z.2.2.2]) (tl_cp2 l D dT Z ed n n' f sz h1 h2 hed) CP_bl (fun U hU hW => ⟨by rw [hU]; exact hO, by rw [hU]; exact hels, hE.warm hW, by rw [hU]; exact hSV.warm hW, by rw [hU]; exact hsz⟩) (lw_S q787 q788 q183 q789) dl_cp2 rfl ⟨rfl, rfl⟩ (rmc_ok (by decide) (by decide)) ⟨Nat.le_of_ble_eq_true rfl, Nat.le_of_ble_eq_true rfl⟩ hl rfl (Nat.le_of_ble_eq_true rfl) dJ11_copyOf_6 (fun ra H1 locs1 hR _ _ hS => ?_)
  exact W.aret hx hb hr (Or.inr ⟨_, rfl⟩) (Or.inr ⟨ra, rfl⟩) (fun t ht _ => ⟨⟨(), ra, rfl, trivial, by show ra = sz ∧ aO dT ra n' (cpf f n) t.heap ∧ aO dT ed n f t.heap; rw [ht]; exact hR⟩, hS.F ht⟩) hS.2.2 dJ11_copyOf_9 hlk
