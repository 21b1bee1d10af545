/-! 113: grow, add -/
set_option maxRecDepth 100000
theorem shr_1 : ∀ n, n ≤ 22 → nI n >>> (nI 1 &&& 31) = nI (n / 2) := by decide
theorem sub_1 : ∀ n, n ≤ 22 → nI (n + 1) - nI n = nI 1 := by decide
theorem cpf_els (els : List Nat) : cpf (fun i => els[i]?) els.length = fun i => els[i]? := by
  funext i
  unfold cpf va_cpy
  by_cases h : 0 ≤ i ∧ i < 0 + els.length
  · rw [if_pos h]; congr 1; omega
  · rw [if_neg h, List.getElem?_eq_none (by omega)]
theorem up_els (els : List Nat) (x : Nat) : va_up (fun i => els[i]?) els.length (some x) = fun i => (els ++ [x])[i]? := by
  funext i
  unfold va_up
  by_cases h : i = els.length
  · subst h; rw [if_pos rfl, List.getElem?_append_right (Nat.le_refl _), Nat.sub_self]; rfl
  · rw [if_neg h]
    by_cases h2 : i < els.length
    · rw [List.getElem?_append_left h2]
    · show els[i]? = (els ++ [x])[i]?
      rw [List.getElem?_eq_none (l := els) (by omega), List.getElem?_eq_none (l := els ++ [x]) (by rw [List.length_append]; show els.length + 1 ≤ i; omega)]
def lA (e0 al ed sz : Nat) : Nat → Prop := fun q => q = al ∨ (q = ed ∧ ed ≠ e0) ∨ sz ≤ q
/-- the list as grow finds it -/
def GU (D : va_G) (dT : Nat → ClassId) (Z : nwZ) (al ed : Nat) (els : List Nat) (sz : Nat) (U : State) : Prop := (∃ mc : Int32, oF D 16 3 [.int mc, .ref ed, .int (nI els.length)] al U.heap) ∧ ((els = [] ∧ ed = Z.2.2.1) ∨ (ed ≠ Z.2.2.1 ∧ ed ≠ al ∧ aO dT ed els.length (fun i => els[i]?) U.heap ∧ 10 ≤ els.length ∧ els.length ≤ 15)) ∧ (∀ x ∈ els, isE D x U.heap) ∧ EV D dT U ∧ SV Z U U.heap ∧ U.heap.size = sz ∧ Z.1 ≤ al
theorem GU_bl {D : va_G} {dT : Nat → ClassId} {Z : nwZ} {al ed : Nat} {els : List Nat} {sz : Nat} : ∀ (U : State) (g : JFrame) (mk : MethodId) (x : Array Value), GU D dT Z al ed els sz U → GU D dT Z al ed els sz (U.calling g mk x) := fun U g mk x h => ⟨h.1, h.2.1, h.2.2.1, h.2.2.2.1.same (u := U) (U := U.calling g mk x) rfl, h.2.2.2.2.1.same (u := U) (U := U.calling g mk x) rfl, h.2.2.2.2.2⟩
theorem dl_gr2 : yJ2_grow_2.cls = RJ2 ∧ dN yJ2_grow_2 1 := ⟨rfl, by decide +kernel, by decide +kernel, by decide +kernel⟩
theorem dl_gr : yJ2_grow.cls = RJ2 ∧ dN yJ2_grow 0 := ⟨rfl, by decide +kernel, by decide +kernel, by decide +kernel⟩
theorem dl_ad2 : yJ2_add_2.cls = RJ2 ∧ dN yJ2_add_2 3 := ⟨rfl, by decide +kernel, by decide +kernel, by decide +kernel⟩
theorem dl_ad : yJ2_add.cls = RJ2 ∧ dN yJ2_add 1 := ⟨rfl, by decide +kernel, by decide +kernel, by decide +kernel⟩
def GR (D : va_G) (dT : Nat → ClassId) (al : Nat) (els : List Nat) (sz b : Nat) (H : Heap) : Prop := sz ≤ b ∧ (∃ mc : Int32, oF D 16 3 [.int mc, .ref b, .int (nI els.length)] al H) ∧ ∃ n, aO dT b n (fun i => els[i]?) H ∧ els.length < n ∧ 10 ≤ n ∧ n ≤ 22
abbrev grQ (D : va_G) (dT : Nat → ClassId) (Z : nwZ) (al ed : Nat) (els : List Nat) (sz : Nat) : Array Value → State → Outcome → State → Prop := va_Qr (fun (_ : Unit) => True) (fun _ b t => GR D dT al els sz b t.heap) (lA Z.2.2.1 al ed sz)
theorem oF_recv {D : va_G} {dT : Nat → ClassId} {s : State} {H : Heap} {ci N a : Nat} {vs : List Value} {C : String} {T : u_T} (hK : va_K D nwCl (nwT dT) s) (h : oF D ci N vs a H) (hc : nwCl[ci]? = some (C, T, N)) : ∃ cell : Cell, H[a]? = some cell ∧ cell.vm.isStatics = false ∧ s.vm.findClass C = some cell.cls := g_recv hK (oneO (dT := dT) h) (if_pos rfl) hc
set_option maxHeartbeats 4000000 in
theorem tl_gr2 (l : Launch) (D : va_G) (dT : Nat → ClassId) (Z : nwZ) (al ed : Nat) (els : List Nat) (sz : Nat) : Met l yJ2_grow_2 (ws_ yJ2_grow_2 cJ2_grow_2 4 rO) (rmc 4 1) (va_Pc [.ref al, .int (nI (els.length + 1))] (GU D dT Z al ed els sz)) (grQ D dT Z al ed els sz) 1 24 (lA Z.2.2.1 al ed sz) := by
  refine k_met (own := RJ2) (by decide) rfl (Nat.le_of_ble_eq_true rfl) ?_
  intro p e s m below meth c ls E hP hr hlk hl hnm
  obtain ⟨⟨mc, ho⟩, hc, hels, hE, hSV, hsz, hz⟩ := id hP
  obtain ⟨hx, hb, hml, hown, hts⟩ := id E
  have hS : va_S (lA Z.2.2.1 al ed sz) s.heap s.heap [] := va_S.rf
  have hl : lv_has ls 4 [(0, .ref al), (1, .int (nI (els.length + 1)))] := hl
  have hal := ho.lt
  refine lv_aload_n hx hb dJ2_grow_2_0 rfl (lv_at hl 0 rfl) ?_
  refine gp_get (C := RJ2) (T := TJ2) E hE.1 (oneO (dT := dT) ho) (if_pos rfl) rfl in_J2 1 (by decide) (hts _ q225) (fun _ z => z) (v := .ref ed) rfl dJ2_grow_2_1 ?_
  rcases hc with ⟨rfl, rfl⟩ | ⟨c1, c2, hO, c3, c4⟩
  · have hSn : va_S nN s.heap s.heap [] := va_S.rf
    refine va_tlen (v := nI 0) hx hb (hSV.2.2.2.1.2.narrow (fun _ z => z.elim)) hSn rfl dJ2_grow_2_4 ?_
    refine lv_istore_n (lv' := [(2, .int (nI 0)), (0, .ref al), (1, .int (nI 1))]) hx hb dJ2_grow_2_5 rfl hl (by decide) rfl (fun ls hl => ?_)
    refine lv_iload_n hx hb dJ2_grow_2_6 rfl (lv_at hl 0 rfl) ?_
    refine lv_if_gt (tgt := 20) hx hb dJ2_grow_2_7 (by decide) (fun k => absurd k (by decide)) (fun _ => ?_)
    refine lv_aload_n hx hb dJ2_grow_2_10 rfl (lv_at hl 1 rfl) ?_
    refine gp_get (C := RJ2) (T := TJ2) E hE.1 (oneO (dT := dT) ho) (if_pos rfl) rfl in_J2 1 (by decide) (hts _ q225) (fun _ z => z) (v := .ref Z.2.2.1) rfl dJ2_grow_2_11 ?_
    refine va_gets hx hb (hSV.2.2.2.1.1.narrow (fun _ z => z.elim)) hSn hown (hts _ q223) (fun _ z => z) dJ2_grow_2_14 ?_
    refine lv_acmp_eq (rx := some Z.2.2.1) (ry := some Z.2.2.1) (tgt := 45) hx hb dJ2_grow_2_17 (by decide) (fun _ => ?_) (fun k => absurd rfl k)
    refine lv_aload_n hx hb dJ2_grow_2_45 rfl (lv_at hl 1 rfl) ?_
    refine lv_bipush (v := nI 10) hx hb dJ2_grow_2_46 rfl ?_
    refine lv_iload_n hx hb dJ2_grow_2_48 rfl (lv_at hl 2 rfl) ?_
    refine va_mmax hx hb (hml.trans hl.1.symm) hown (hts _ q799) (hts _ q757) (hts _ q182) (hts _ q758) (Nat.le_of_ble_eq_true rfl) (Nat.le_of_ble_eq_true rfl) (Nat.le_of_ble_eq_true rfl) (Nat.le_of_ble_eq_true rfl) dJ2_grow_2_49 ?_
    refine lv_nm (y := nI 10) (by decide) ?_
    refine a_new E hE.1 hSV.2.2.2.2.2 q800 (by decide) (Nat.le_of_ble_eq_true rfl) (Nat.le_of_ble_eq_true rfl) dJ2_grow_2_52 (fun H1 hN z1 o1 => ?_)
    have ho := ho.same (o1 al hal)
    rw [hsz] at z1 hN o1 ⊢
    have hS1 : va_S (lA Z.2.2.1 al Z.2.2.1 sz) s.heap H1 [] := ⟨by omega, fun q hq _ => o1 q (by omega), fun _ h => nomatch h⟩
    refine lv_dup_x1 hx hb dJ2_grow_2_55 rfl rfl ?_
    refine gp_put (C := RJ2) (T := TJ2) (ty := .array (.object "java/lang/Object")) E hE.1 (oneO (dT := dT) ho) hS1 (Or.inl rfl) (if_pos rfl) rfl in_J2 tyJ2 tyJ2_ok nmJ2 1 (by decide) (hts _ q225) (fun _ z => z) rfl rfl rfl rfl dJ2_grow_2_56 (fun H2 locs2 hG oq hS => ?_)
    have ho : oF D 16 3 [.int mc, .ref sz, .int (nI 0)] al H2 := cf_put (Nat.le_of_ble_eq_true rfl) hG
    have hN2 : aO dT sz 10 (fun i => ([] : List Nat)[i]?) H2 := by unfold aO; rw [oq sz (by omega)]; exact hN
    exact W.aret hx hb hr (Or.inr ⟨_, rfl⟩) (Or.inr ⟨sz, rfl⟩) (fun t ht _ => ⟨⟨(), sz, rfl, trivial, by show GR D dT al [] sz sz t.heap; rw [ht]; exact ⟨Nat.le_refl _, ⟨mc, ho⟩, 10, hN2, by decide, by decide, by decide⟩⟩, hS.F ht⟩) hS.2.2 dJ2_grow_2_59 hlk
  · have hedl : ed < s.heap.size := (Array.getElem?_eq_some_iff.mp hO).1
    refine a_len E hE.1 hO dJ2_grow_2_4 ?_
    refine lv_istore_n (lv' := [(2, .int (nI els.length)), (0, .ref al), (1, .int (nI (els.length + 1)))]) hx hb dJ2_grow_2_5 rfl hl (by decide) rfl (fun ls hl => ?_)
    refine lv_iload_n hx hb dJ2_grow_2_6 rfl (lv_at hl 0 rfl) ?_
    refine lv_if_gt (tgt := 20) hx hb dJ2_grow_2_7 (by decide) (fun _ => ?_) (fun k => absurd (show (0 : Int32) < nI els.length by rw [← nI_0]; exact nI_lt (by omega) (by omega)) k)
    refine lv_iload_n hx hb dJ2_grow_2_20 rfl (lv_at hl 0 rfl) ?_
    refine lv_iload_n hx hb dJ2_grow_2_21 rfl (lv_at hl 2 rfl) ?_
    refine lv_iload_n hx hb dJ2_grow_2_22 rfl (lv_at hl 0 rfl) ?_
    refine lv_isub hx hb dJ2_grow_2_23 ?_
    refine lv_nm (sub_1 _ (by omega)) ?_
    refine lv_iload_n hx hb dJ2_grow_2_24 rfl (lv_at hl 0 rfl) ?_
    refine lv_iconst (v := nI 1) hx hb dJ2_grow_2_25 rfl ?_
    refine lv_ishr hx hb dJ2_grow_2_26 ?_
    refine lv_nm (shr_1 _ (by omega)) ?_
    refine k_si (Pic := fun _ => True) (Pic1 := fun _ => True) (A1 := fun _ => False) E hS (fun _ _ z => z.elim) (fun _ z => z.elim) (As := [.int (nI els.length), .int (nI 1), .int (nI (els.length / 2))]) (tl_nl l els.length 1 (els.length / 2) (by omega) (by omega) (by omega) (by omega)) (fun _ _ _ _ h => h) (fun _ _ _ => trivial) (lw_S q753 q754 q181 q755) dl_nl rfl ⟨rfl, rfl⟩ (rmcd_ok (by decide) (by decide)) ⟨Nat.le_of_ble_eq_true rfl, Nat.le_of_ble_eq_true rfl⟩ hl rfl (Nat.le_of_ble_eq_true rfl) dJ2_grow_2_27 (fun H1 locs1 _ hz1 hq1 hS => ?_)
    obtain ⟨n', hn'⟩ : ∃ n', n' = els.length + max 1 (els.length / 2) := ⟨_, rfl⟩
    rw [← hn']
    have hk1 : ∀ q, q < s.heap.size → H1[q]? = s.heap[q]? := fun q h => hq1 q h (fun z => z)
    have hO1 : aO dT ed els.length (fun i => els[i]?) H1 := by unfold aO; rw [hk1 ed hedl]; exact hO
    have ho1 := ho.same (hk1 al hal)
    refine lv_istore_n (lv' := [(3, .int (nI n')), (2, .int (nI els.length)), (0, .ref al), (1, .int (nI (els.length + 1)))]) hx hb dJ2_grow_2_30 rfl hl (by decide) rfl (fun ls hl => ?_)
    refine lv_aload_n hx hb dJ2_grow_2_31 rfl (lv_at hl 2 rfl) ?_
    refine lv_aload_n hx hb dJ2_grow_2_32 rfl (lv_at hl 2 rfl) ?_
    refine gp_get (C := RJ2) (T := TJ2) E hE.1 (oneO (dT := dT) ho1) (if_pos rfl) rfl in_J2 1 (by decide) (hts _ q225) (fun _ z => z) (v := .ref ed) rfl dJ2_grow_2_33 ?_
    refine lv_iload_n hx hb dJ2_grow_2_36 rfl (lv_at hl 0 rfl) ?_
    obtain ⟨sz1, hsz1⟩ : ∃ z, z = H1.size := ⟨_, rfl⟩
    rw [hsz, ← hsz1] at hz1
    refine k_sr (Pic := CP D dT Z ed els.length (fun i => els[i]?) sz1) (PicR := fun b H => b = sz1 ∧ aO dT b n' (cpf (fun i => els[i]?) els.length) H ∧ aO dT ed els.length (fun i => els[i]?) H) (A1 := nA ed sz1) E hS (fun q _ h => h.elim (fun h => Or.inr (Or.inl ⟨h, c1⟩)) (fun h => Or.inr (Or.inr (Nat.le_trans hz1 h)))) (fun q h => h.elim (fun h => Or.inr (Or.inl ⟨h, c1⟩)) (fun h => Or.inr (Or.inr (Nat.le_trans hz1 h)))) (As := [.ref ed, .int (nI n')]) (tl_cp l D dT Z ed els.length n' (fun i => els[i]?) sz1 (by omega) (by omega) (by omega)) CP_bl (fun U hU hW => ⟨by rw [hU]; exact hO1, fun i x hx => by rw [hU]; exact (hels x (List.mem_of_getElem? hx)).kq (hk1 x (hels x (List.mem_of_getElem? hx)).lt), hE.warm hW, by rw [hU]; exact (hSV.kept (fun a ha _ => hk1 a ha)).warm hW, by rw [hU]; exact hsz1.symm⟩) (lw_S q763 q764 q183 q765) dl_cp rfl ⟨rfl, rfl⟩ (rmc_ok (by decide) (by decide)) ⟨Nat.le_of_ble_eq_true rfl, Nat.le_of_ble_eq_true rfl⟩ hl rfl (Nat.le_of_ble_eq_true rfl) dJ2_grow_2_37 (fun ra H2 locs2 hR hz2 hq2 hS => ?_)
    obtain ⟨rfl, hR1, -⟩ := hR
    rw [cpf_els] at hR1
    have ho2 := ho1.same (hq2 al (by omega) (fun h => h.elim (fun h => c2 h.symm) (fun h => by omega)))
    refine lv_dup_x1 hx hb dJ2_grow_2_40 rfl rfl ?_
    refine gp_put (C := RJ2) (T := TJ2) (ty := .array (.object "java/lang/Object")) E hE.1 (oneO (dT := dT) ho2) hS (Or.inl rfl) (if_pos rfl) rfl in_J2 tyJ2 tyJ2_ok nmJ2 1 (by decide) (hts _ q225) (fun _ z => z) rfl rfl rfl rfl dJ2_grow_2_41 (fun H3 locs3 hG oq hS => ?_)
    have ho : oF D 16 3 [.int mc, .ref ra, .int (nI els.length)] al H3 := cf_put (Nat.le_of_ble_eq_true rfl) hG
    have hN2 : aO dT ra n' (fun i => els[i]?) H3 := by unfold aO; rw [oq ra (by omega)]; exact hR1
    exact W.aret hx hb hr (Or.inr ⟨_, rfl⟩) (Or.inr ⟨ra, rfl⟩) (fun t ht _ => ⟨⟨(), ra, rfl, trivial, by show GR D dT al els sz ra t.heap; rw [ht]; exact ⟨hz1, ⟨mc, ho⟩, n', hN2, by omega, by omega, by omega⟩⟩, hS.F ht⟩) hS.2.2 dJ2_grow_2_44 hlk
