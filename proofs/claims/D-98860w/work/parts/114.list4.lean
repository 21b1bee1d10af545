/-! 114: grow(), add -/
set_option maxRecDepth 100000
set_option maxHeartbeats 4000000 in
theorem tl_gr (l : Launch) (D : va_G) (dT : Nat → ClassId) (Z : nwZ) (al ed : Nat) (els : List Nat) (sz : Nat) : Met l yJ2_grow (ws_ yJ2_grow cJ2_grow 1 rO) (rmc 5 1) (va_Pc [.ref al] (GU D dT Z al ed els sz)) (grQ D dT Z al ed els sz) 1 24 (lA Z.2.2.1 al ed sz) := by
  refine k_met (own := RJ2) (by decide) rfl (Nat.le_of_ble_eq_true rfl) ?_
  intro p e s m below meth c ls E hP hr hlk hl hnm
  obtain ⟨⟨mc, ho⟩, hc, hels, hE, hSV, hsz, hz⟩ := id hP
  obtain ⟨hx, hb, hml, hown, hts⟩ := id E
  have hS : va_S (lA Z.2.2.1 al ed sz) s.heap s.heap [] := va_S.rf
  have hl : lv_has ls 1 [(0, .ref al)] := hl
  refine lv_aload_n hx hb dJ2_grow_0 rfl (lv_at hl 0 rfl) ?_
  refine lv_aload_n hx hb dJ2_grow_1 rfl (lv_at hl 0 rfl) ?_
  refine gp_get (C := RJ2) (T := TJ2) E hE.1 (oneO (dT := dT) ho) (if_pos rfl) rfl in_J2 2 (by decide) (hts _ q226) (fun _ z => z) (v := .int (nI els.length)) rfl dJ2_grow_2 ?_
  refine lv_iconst (v := nI 1) hx hb dJ2_grow_5 rfl ?_
  refine lv_iadd hx hb dJ2_grow_6 ?_
  refine lv_nm (nI_add els.length 1) ?_
  refine k_vr (Pic := GU D dT Z al ed els sz) (PicR := fun b H => GR D dT al els sz b H) (A1 := lA Z.2.2.1 al ed sz) E hS (fun _ _ z => z) (fun _ z => z) (As := [.int (nI (els.length + 1))]) (tl_gr2 l D dT Z al ed els sz) GU_bl (fun U hU hW => ⟨by rw [hU]; exact ⟨mc, ho⟩, by rw [hU]; exact hc, by rw [hU]; exact hels, hE.warm hW, by rw [hU]; exact hSV.warm hW, by rw [hU]; exact hsz, hz⟩) (oF_recv hE.1 ho rfl) (lw_V q749 q751 qs27 q165 q752) dl_gr2 rfl ⟨rfl, rfl⟩ (rmc_ok (by decide) (by decide)) ⟨Nat.le_of_ble_eq_true rfl, Nat.le_of_ble_eq_true rfl⟩ hl rfl (Nat.le_of_ble_eq_true rfl) dJ2_grow_7 (fun ra H1 locs1 hR _ _ hS => ?_)
  exact W.aret hx hb hr (Or.inr ⟨_, rfl⟩) (Or.inr ⟨ra, rfl⟩) (fun t ht _ => ⟨⟨(), ra, rfl, trivial, by show GR D dT al els sz ra t.heap; rw [ht]; exact hR⟩, hS.F ht⟩) hS.2.2 dJ2_grow_10 hlk
/-- the list as add finds it, and what is added -/
def AU (D : va_G) (dT : Nat → ClassId) (Z : nwZ) (al ed : Nat) (els : List Nat) (x sz : Nat) (U : State) : Prop := LB D dT Z.2.2.1 al ed els U.heap ∧ els.length ≤ 15 ∧ (∀ y ∈ els, isE D y U.heap ∧ y ≠ al) ∧ isE D x U.heap ∧ EV D dT U ∧ SV Z U U.heap ∧ U.heap.size = sz ∧ Z.1 ≤ al ∧ x ≠ al ∧ x ≠ ed
theorem AU_bl {D : va_G} {dT : Nat → ClassId} {Z : nwZ} {al ed : Nat} {els : List Nat} {x sz : Nat} : ∀ (U : State) (g : JFrame) (mk : MethodId) (y : Array Value), AU D dT Z al ed els x sz U → AU D dT Z al ed els x sz (U.calling g mk y) := fun U g mk y h => ⟨h.1, h.2.1, h.2.2.1, h.2.2.2.1, h.2.2.2.2.1.same (u := U) (U := U.calling g mk y) rfl, h.2.2.2.2.2.1.same (u := U) (U := U.calling g mk y) rfl, h.2.2.2.2.2.2⟩
def AR (D : va_G) (dT : Nat → ClassId) (Z : nwZ) (al ed : Nat) (els : List Nat) (x sz : Nat) (H : Heap) : Prop := ∃ ed', LB D dT Z.2.2.1 al ed' (els ++ [x]) H ∧ (ed' = ed ∨ sz ≤ ed') ∧ ed' ≠ Z.2.2.1
set_option maxHeartbeats 4000000 in
theorem tl_ad2 (l : Launch) (D : va_G) (dT : Nat → ClassId) (Z : nwZ) (al ed : Nat) (els : List Nat) (x sz : Nat) : Met l yJ2_add_2 (ws_ yJ2_add_2 cJ2_add_2 4 none) (rmc 6 1) (va_Pc [.ref al, .ref x, .ref ed, .int (nI els.length)] (AU D dT Z al ed els x sz)) (va_Qv (fun (_ : Unit) => True) (fun _ t => AR D dT Z al ed els x sz t.heap) (lA Z.2.2.1 al ed sz)) 1 24 (lA Z.2.2.1 al ed sz) := by
  refine k_met (own := RJ2) (by decide) rfl (Nat.le_of_ble_eq_true rfl) ?_
  intro p e s m below meth c ls E hP hr hlk hl hnm
  obtain ⟨hLB, hlen, hels, hxE, hE, hSV, hsz, hz, hxa, hxd⟩ := id hP
  obtain ⟨⟨mc, ho⟩, hc⟩ := id hLB
  obtain ⟨hx, hb, hml, hown, hts⟩ := id E
  have hS : va_S (lA Z.2.2.1 al ed sz) s.heap s.heap [] := va_S.rf
  have hl : lv_has ls 4 [(0, .ref al), (1, .ref x), (2, .ref ed), (3, .int (nI els.length))] := hl
  have hal := ho.lt
  -- the end, with the array at b
  have fin : ∀ (b n : Nat) (mc : Int32) (cells slots : Nat) (ls : Array Slot) (H : Heap) (locs : List Loc), cells ≤ 1 → slots ≤ 24 → lv_has ls 4 [(2, .ref b), (0, .ref al), (1, .ref x), (3, .int (nI els.length))] → oF D 16 3 [.int mc, .ref b, .int (nI els.length)] al H → aO dT b n (fun i => els[i]?) H → els.length < n → 10 ≤ n → n ≤ 22 → (b = ed ∧ ed ≠ Z.2.2.1 ∨ sz ≤ b) → b ≠ al → b ≠ Z.2.2.1 → isE D x H → va_S (lA Z.2.2.1 al ed sz) s.heap H locs →
      W p l e (rmc 6 1) s m #[.ref al, .ref x, .ref ed, .int (nI els.length)] below meth c H locs cells slots (MQ below (va_Qv (fun (_ : Unit) => True) (fun _ t => AR D dT Z al ed els x sz t.heap) (lA Z.2.2.1 al ed sz)) #[.ref al, .ref x, .ref ed, .int (nI els.length)] s 1 24 (lA Z.2.2.1 al ed sz)) (F0 m 11 ls []) := by
    intro b n mc cells slots ls H locs hc1 hs1 hl ho hO h1 h2 h3 hb1 hb2 hb3 hxE hS
    refine lv_aload_n hx hb dJ2_add_2_11 rfl (lv_at hl 0 rfl) ?_
    refine lv_iload_n hx hb dJ2_add_2_12 rfl (lv_at hl 3 rfl) ?_
    refine lv_aload_n hx hb dJ2_add_2_13 rfl (lv_at hl 2 rfl) ?_
    refine a_put E hE hO hxE h1 (by omega) hS (hb1.elim (fun h => Or.inr (Or.inl h)) (fun h => Or.inr (Or.inr h))) dJ2_add_2_14 (fun H1 locs1 hO1 oq hS => ?_)
    rw [up_els] at hO1
    have ho := ho.same (oq al (fun z => hb2 z.symm))
    refine lv_aload_n hx hb dJ2_add_2_15 rfl (lv_at hl 1 rfl) ?_
    refine lv_iload_n hx hb dJ2_add_2_16 rfl (lv_at hl 3 rfl) ?_
    refine lv_iconst (v := nI 1) hx hb dJ2_add_2_17 rfl ?_
    refine lv_iadd hx hb dJ2_add_2_18 ?_
    refine lv_nm (nI_add els.length 1) ?_
    refine gp_put (C := RJ2) (T := TJ2) (ty := .int) E hE.1 (oneO (dT := dT) ho) hS (Or.inl rfl) (if_pos rfl) rfl in_J2 tyJ2 tyJ2_ok nmJ2 2 (by decide) (hts _ q226) (fun _ z => z) rfl rfl rfl rfl dJ2_add_2_19 (fun H2 locs2 hG oq hS => ?_)
    have ho : oF D 16 3 [.int mc, .ref b, .int (nI (els.length + 1))] al H2 := cf_put (Nat.le_of_ble_eq_true rfl) hG
    have hO2 : aO dT b n (fun i => (els ++ [x])[i]?) H2 := by unfold aO; rw [oq b hb2]; exact hO1
    have hll : (els ++ [x]).length = els.length + 1 := by rw [List.length_append]; rfl
    refine W.widen hc1 hs1 (W.vret hx hb hr (fun t ht _ => ⟨⟨(), rfl, trivial, ?_⟩, hS.F ht⟩) hS.2.2 dJ2_add_2_22 hlk)
    show AR D dT Z al ed els x sz t.heap
    rw [ht]
    exact ⟨b, ⟨⟨mc, by rw [hll]; exact ho⟩, Or.inr ⟨hb3, hb2, n, _, hO2, by rw [hll]; omega, h2, h3, fun _ => rfl⟩⟩, hb1.imp (fun h => h.1) (fun h => h), hb3⟩
  -- the array is full
  have full : ∀ (ls : Array Slot) (H : Heap) (locs : List Loc), lv_has ls 4 [(0, .ref al), (1, .ref x), (2, .ref ed), (3, .int (nI els.length))] → H = s.heap → locs = [] → ((els = [] ∧ ed = Z.2.2.1) ∨ (ed ≠ Z.2.2.1 ∧ ed ≠ al ∧ aO dT ed els.length (fun i => els[i]?) s.heap ∧ 10 ≤ els.length ∧ els.length ≤ 15)) →
      W p l e (rmc 6 1) s m #[.ref al, .ref x, .ref ed, .int (nI els.length)] below meth c H locs 0 0 (MQ below (va_Qv (fun (_ : Unit) => True) (fun _ t => AR D dT Z al ed els x sz t.heap) (lA Z.2.2.1 al ed sz)) #[.ref al, .ref x, .ref ed, .int (nI els.length)] s 1 24 (lA Z.2.2.1 al ed sz)) (F0 m 6 ls []) := by
    intro ls H locs hl hH hL hcc
    subst hH
    subst hL
    refine lv_aload_n hx hb dJ2_add_2_6 rfl (lv_at hl 0 rfl) ?_
    refine k_vr (Pic := GU D dT Z al ed els sz) (PicR := fun b H => GR D dT al els sz b H) (A1 := lA Z.2.2.1 al ed sz) E hS (fun _ _ z => z) (fun _ z => z) (As := []) (tl_gr l D dT Z al ed els sz) GU_bl (fun U hU hW => ⟨by rw [hU]; exact ⟨mc, ho⟩, by rw [hU]; exact hcc, by rw [hU]; exact fun y hy => (hels y hy).1, hE.warm hW, by rw [hU]; exact hSV.warm hW, by rw [hU]; exact hsz, hz⟩) (oF_recv hE.1 ho rfl) (lw_V q745 q747 qs26 q165 q748) dl_gr rfl ⟨rfl, rfl⟩ (rmc_ok (by decide) (by decide)) ⟨Nat.le_of_ble_eq_true rfl, Nat.le_of_ble_eq_true rfl⟩ hl rfl (Nat.le_of_ble_eq_true rfl) dJ2_add_2_7 (fun ra H1 locs1 hR hz1 hq1 hS => ?_)
    obtain ⟨hR0, ⟨mc1, ho1⟩, n, hO1, n1, n2, n3⟩ := hR
    refine lv_astore_n (lv' := [(2, .ref ra), (0, .ref al), (1, .ref x), (3, .int (nI els.length))]) hx hb dJ2_add_2_10 rfl hl (by decide) rfl (fun ls hl => ?_)
    have hxl := hxE.lt
    have he0 : Z.2.2.1 < sz := by
      obtain ⟨cell, g1, -⟩ := hSV.2.2.2.1.2
      have := (Array.getElem?_eq_some_iff.mp g1).1
      omega
    refine fin ra n mc1 1 24 ls H1 locs1 (by omega) (by omega) hl ho1 hO1 n1 n2 n3 (Or.inr hR0) (by omega) (by omega) ?_ hS
    exact hxE.kq (hq1 x hxl (fun h => h.elim hxa (fun h => h.elim (fun h => hxd h.1) (fun h => by omega))))
  refine lv_iload_n hx hb dJ2_add_2_0 rfl (lv_at hl 3 rfl) ?_
  refine lv_aload_n hx hb dJ2_add_2_1 rfl (lv_at hl 2 rfl) ?_
  rcases hc with ⟨c1, c2⟩ | ⟨c1, c2, n, f, hO, n1, n2, n3, hf⟩
  · have hSn : va_S nN s.heap s.heap [] := va_S.rf
    refine va_tlen (v := nI 0) (t := ed) hx hb (by rw [c2]; exact hSV.2.2.2.1.2.narrow (fun _ z => z.elim)) hSn rfl dJ2_add_2_2 ?_
    refine lv_icmp_ne (tgt := 11) hx hb dJ2_add_2_3 (by decide) (fun k => absurd (by rw [c1]; rfl) k) (fun _ => ?_)
    exact full ls _ _ hl rfl rfl (Or.inl ⟨c1, c2⟩)
  · have hf2 : f = fun i => els[i]? := funext hf
    subst hf2
    refine a_len E hE.1 hO dJ2_add_2_2 ?_
    refine lv_icmp_ne (tgt := 11) hx hb dJ2_add_2_3 (by decide) (fun k => ?_) (fun k => ?_)
    · exact fin ed n mc 0 0 ls _ _ (by omega) (by omega) (lv_sub hl [2, 0, 1, 3] rfl) ho hO (by
        rcases Nat.lt_or_ge els.length n with h | h
        · exact h
        · exact absurd (congrArg nI (Nat.le_antisymm n1 h)) k) n2 n3 (Or.inl ⟨rfl, c1⟩) c2 c1 hxE hS
    · have hn : els.length = n := (nI_eq (by omega) (by omega)).mp k
      subst hn
      exact full ls _ _ hl rfl rfl (Or.inr ⟨c1, c2, hO, n2, by omega⟩)

set_option maxHeartbeats 4000000 in
theorem tl_ad (l : Launch) (D : va_G) (dT : Nat → ClassId) (Z : nwZ) (al ed : Nat) (els : List Nat) (x sz : Nat) : Met l yJ2_add (ws_ yJ2_add cJ2_add 2 (some .boolean)) (rmc 7 1) (va_Pc [.ref al, .ref x] (AU D dT Z al ed els x sz)) (va_Qi (fun r' (_ : Unit) => r' = nI 1) (fun _ t => AR D dT Z al ed els x sz t.heap) (lA Z.2.2.1 al ed sz)) 1 24 (lA Z.2.2.1 al ed sz) := by
  refine k_met (own := RJ2) (by decide) rfl (Nat.le_of_ble_eq_true rfl) ?_
  intro p e s m below meth c ls E hP hr hlk hl hnm
  obtain ⟨hLB, hlen, hels, hxE, hE, hSV, hsz, hz, hxa, hxd⟩ := id hP
  obtain ⟨⟨mc, ho⟩, hc⟩ := id hLB
  obtain ⟨hx, hb, hml, hown, hts⟩ := id E
  have hS : va_S (lA Z.2.2.1 al ed sz) s.heap s.heap [] := va_S.rf
  have hl : lv_has ls 2 [(0, .ref al), (1, .ref x)] := hl
  have hal := ho.lt
  refine lv_aload_n hx hb dJ2_add_0 rfl (lv_at hl 0 rfl) ?_
  refine lv_dup hx hb dJ2_add_1 rfl ?_
  have hsm : ∀ x, s.fieldFound? (TJ2 0).1 (TJ2 0).2.1 (TJ2 0).2.2.1 = some x → s.fieldFound? "java/util/ArrayList" (TJ2 0).2.1 (TJ2 0).2.2.1 = some x := fun _ z => u_same (hts _ q229) _ z
  refine gp_get (C := RJ2) (T := TJ2) E hE.1 (oneO (dT := dT) ho) (if_pos rfl) rfl in_J2 0 (by decide) (hts _ q228) hsm (v := .int mc) rfl dJ2_add_2 ?_
  refine lv_iconst (v := nI 1) hx hb dJ2_add_5 rfl ?_
  refine lv_iadd hx hb dJ2_add_6 ?_
  refine gp_put (C := RJ2) (T := TJ2) (ty := .int) E hE.1 (oneO (dT := dT) ho) hS (Or.inl rfl) (if_pos rfl) rfl in_J2 tyJ2 tyJ2_ok nmJ2 0 (by decide) (hts _ q228) hsm rfl rfl rfl rfl dJ2_add_7 (fun H1 locs1 hG oq hS => ?_)
  have ho1 : oF D 16 3 [.int (mc + nI 1), .ref ed, .int (nI els.length)] al H1 := cf_put (Nat.le_of_ble_eq_true rfl) hG
  have hc1 : (els = [] ∧ ed = Z.2.2.1) ∨ (ed ≠ Z.2.2.1 ∧ ed ≠ al ∧ ∃ n f, aO dT ed n f H1 ∧ els.length ≤ n ∧ 10 ≤ n ∧ n ≤ 22 ∧ (∀ i, f i = els[i]?)) := by
    rcases hc with h | ⟨c1, c2, n, f, hO, hh⟩
    · exact Or.inl h
    · exact Or.inr ⟨c1, c2, n, f, by unfold aO; rw [oq ed c2]; exact hO, hh⟩
  obtain ⟨sz1, hsz1⟩ : ∃ z, z = H1.size := ⟨_, rfl⟩
  have hzz : sz ≤ sz1 := by have := hS.1; omega
  refine lv_aload_n hx hb dJ2_add_10 rfl (lv_at hl 0 rfl) ?_
  refine lv_aload_n hx hb dJ2_add_11 rfl (lv_at hl 1 rfl) ?_
  refine lv_aload_n hx hb dJ2_add_12 rfl (lv_at hl 0 rfl) ?_
  refine gp_get (C := RJ2) (T := TJ2) E hE.1 (oneO (dT := dT) ho1) (if_pos rfl) rfl in_J2 1 (by decide) (hts _ q225) (fun _ z => z) (v := .ref ed) rfl dJ2_add_13 ?_
  refine lv_aload_n hx hb dJ2_add_16 rfl (lv_at hl 0 rfl) ?_
  refine gp_get (C := RJ2) (T := TJ2) E hE.1 (oneO (dT := dT) ho1) (if_pos rfl) rfl in_J2 2 (by decide) (hts _ q226) (fun _ z => z) (v := .int (nI els.length)) rfl dJ2_add_17 ?_
  refine k_vv (Pic := AU D dT Z al ed els x sz1) (Pic1 := fun H => AR D dT Z al ed els x sz1 H) (A1 := lA Z.2.2.1 al ed sz1) E hS (fun _ _ z => z.imp id (fun z => z.imp id (Nat.le_trans hzz))) (fun _ z => z.imp id (fun z => z.imp id (Nat.le_trans hzz))) (As := [.ref x, .ref ed, .int (nI els.length)]) (tl_ad2 l D dT Z al ed els x sz1) AU_bl (fun U hU hW => ⟨by rw [hU]; exact ⟨⟨_, ho1⟩, hc1⟩, hlen, fun y hy => by rw [hU]; exact ⟨(hels y hy).1.kq (oq y (hels y hy).2), (hels y hy).2⟩, by rw [hU]; exact hxE.kq (oq x hxa), hE.warm hW, by rw [hU]; exact (hSV.kept (fun a ha hn => oq a (fun z => hn (z ▸ hz)))).warm hW, by rw [hU]; exact hsz1.symm, hz, hxa, hxd⟩) (oF_recv hE.1 ho1 rfl) (lw_V q741 q743 qs25 q165 q744) dl_ad2 rfl ⟨rfl, rfl⟩ (rmc_ok (by decide) (by decide)) ⟨Nat.le_of_ble_eq_true rfl, Nat.le_of_ble_eq_true rfl⟩ hl rfl (Nat.le_of_ble_eq_true rfl) dJ2_add_20 (fun H2 locs2 hR _ _ hS => ?_)
  refine lv_iconst (v := nI 1) hx hb dJ2_add_23 rfl ?_
  exact W.zret hx hb hr (zb_nar (Or.inr rfl)) (fun t ht _ => ⟨⟨nI 1, (), rfl, rfl, by show AR D dT Z al ed els x sz t.heap; rw [ht]; obtain ⟨ed', r1, r2, r3⟩ := hR; exact ⟨ed', r1, r2.imp id (Nat.le_trans hzz), r3⟩⟩, hS.F ht⟩) hS.2.2 dJ2_add_24 hlk
