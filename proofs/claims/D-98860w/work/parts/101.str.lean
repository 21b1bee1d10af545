/-! 101: String constants: length, charAt -/
set_option maxRecDepth 100000
/-- a String of the bytes bs at a -/
def sC (bs : List Int32) (a : Nat) (A : Nat → Prop) (U : State) (H : Heap) : Prop := bs.length < 2147483648 ∧ ∃ v : Nat, va_O "java/lang/String" a A U H ∧ va_OF "java/lang/String" "coder" "B" (.int 0) a A U H ∧ va_OF "java/lang/String" "value" "[B" (.ref v) a A U H ∧ va_T .byte v bs.length (fun j => .int (bs.getD j 0)) A U H
theorem sC.moved {bs : List Int32} {a : Nat} {A : Nat → Prop} {u U : State} {H : Heap} (hvm : u.vm.Alike U.vm) (h : sC bs a A u H) : sC bs a A U H := by
  obtain ⟨h0, v, h1, h2, h3, h4⟩ := h
  exact ⟨h0, v, va_O.moved hvm h1, va_OF.moved hvm h2, va_OF.moved hvm h3, va_T.moved hvm h4⟩
theorem sC.kept {bs : List Int32} {a : Nat} {A : Nat → Prop} {U : State} {H H1 : Heap} (h : sC bs a A U H) (hq : ∀ a : Nat, a < H.size → ¬ A a → H1[a]? = H[a]?) : sC bs a A U H1 := by
  obtain ⟨h0, v, h1, h2, h3, h4⟩ := h
  exact ⟨h0, v, h1.kept hq, h2.kept hq, h3.kept hq, h4.kept hq⟩
theorem sC.narrow {bs : List Int32} {a : Nat} {A B : Nat → Prop} {U : State} {H : Heap} (h : sC bs a A U H) (hAB : ∀ q, B q → A q) : sC bs a B U H := by
  obtain ⟨h0, v, h1, h2, h3, h4⟩ := h
  exact ⟨h0, v, h1.narrow hAB, h2.narrow hAB, h3.narrow hAB, h4.narrow hAB⟩
abbrev zCS (A : Nat → Prop) (U : State) (H : Heap) : Prop := va_Z "java/lang/String" "COMPACT_STRINGS" "Z" (.int 1) A U H
abbrev zSI (A : Nat → Prop) (U : State) (H : Heap) : Prop := va_Zq "jdk/internal/util/Preconditions" "SIOOBE_FORMATTER" "Ljava/util/function/BiFunction;" A U H
theorem dj_coder : yJ3_coder.cls = RJ3 ∧ dN yJ3_coder 0 := ⟨rfl, by decide +kernel, by decide +kernel, by decide +kernel⟩
theorem dj_length : yJ3_length.cls = RJ3 ∧ dN yJ3_length 0 := ⟨rfl, by decide +kernel, by decide +kernel, by decide +kernel⟩
theorem dj_isLatin1 : yJ3_isLatin1.cls = RJ3 ∧ dN yJ3_isLatin1 0 := ⟨rfl, by decide +kernel, by decide +kernel, by decide +kernel⟩
theorem dj_charAt : yJ3_charAt.cls = RJ3 ∧ dN yJ3_charAt 1 := ⟨rfl, by decide +kernel, by decide +kernel, by decide +kernel⟩
theorem dj_chk : dN yJ3_checkIndex 2 := ⟨by decide +kernel, by decide +kernel, by decide +kernel⟩
theorem dj_lat : dN yJ4_charAt 2 := ⟨by decide +kernel, by decide +kernel, by decide +kernel⟩
abbrev sPic (bs : List Int32) (a : Nat) : State → Prop := fun U => sC bs a nN U U.heap ∧ zCS nN U U.heap ∧ zSI nN U U.heap
theorem sPic_bl {bs : List Int32} {a : Nat} : ∀ (U : State) (g : JFrame) (mk : MethodId) (x : Array Value), sPic bs a U → sPic bs a (U.calling g mk x) := fun U g mk x h =>
  ⟨sC.moved (u := U) (U := U.calling g mk x) (Vm.Alike.refl U.vm) h.1, va_Z.moved (u := U) (U := U.calling g mk x) (Vm.Alike.refl U.vm) h.2.1, va_Zq.moved (u := U) (U := U.calling g mk x) (Vm.Alike.refl U.vm) h.2.2⟩
theorem sPic_pre {bs : List Int32} {a : Nat} {s : State} {H : Heap} (h : sC bs a nN s H ∧ zCS nN s H ∧ zSI nN s H) : ∀ U : State, U.heap = H → s.WarmedH U.vm → sPic bs a U := fun U hU hW => by
  subst hU
  exact ⟨sC.moved hW.alike h.1, va_Z.moved hW.alike h.2.1, va_Zq.moved hW.alike h.2.2⟩
theorem sC_recv {bs : List Int32} {a : Nat} {A : Nat → Prop} {s : State} {H : Heap} (h : sC bs a A s H) : ∃ cell : Cell, H[a]? = some cell ∧ cell.vm.isStatics = false ∧ s.vm.findClass "java/lang/String" = some cell.cls := by
  obtain ⟨-, v, ⟨cell, h1, h2, h3, -⟩, -⟩ := h
  exact ⟨cell, h1, h2, h3⟩
theorem sPic_at {bs : List Int32} {a : Nat} {s : State} {H : Heap} {A : Nat → Prop} {locs : List Loc} (h : sPic bs a s) (hS : va_S A s.heap H locs) (hA : ∀ q, ¬ A q) : sC bs a nN s H ∧ zCS nN s H ∧ zSI nN s H :=
  have hq : ∀ a : Nat, a < s.heap.size → ¬ nN a → H[a]? = s.heap[a]? := fun q hq _ => hS.2.1 q hq (hA q)
  ⟨h.1.kept hq, h.2.1.kept hq, h.2.2.kept hq⟩
theorem tj_coder (l : Launch) (bs : List Int32) (a : Nat) : Met l yJ3_coder (ws_ yJ3_coder cJ3_coder 1 (some .byte)) (rmd 0) (va_Pc [.ref a] (sPic bs a)) (pQi 0) 0 0 nN := by
  refine k_met (own := RJ3) (by decide) rfl (Nat.le_of_ble_eq_true rfl) ?_
  intro p e s m below meth c ls E hP hr hlk hl _
  have hS : va_S nN s.heap s.heap [] := va_S.rf
  obtain ⟨hx, hb, hml, hown, hts⟩ := id E
  have hl : lv_has ls 1 [(0, .ref a)] := hl
  obtain ⟨⟨h0, v, h1, h2, h3, h4⟩, hc, -⟩ := hP
  refine va_gets hx hb hc hS hown (hts _ q466) (fun _ z => z) dJ3_coder_0 ?_
  refine lv_if_eq (tgt := 13) hx hb dJ3_coder_3 (by decide) (fun k => absurd k (by decide)) (fun _ => ?_)
  refine lv_aload_n hx hb dJ3_coder_6 rfl (lv_at hl 0 rfl) ?_
  refine vk_getf hx hb h2 hS hown (hts _ q2142) (fun _ z => z) dJ3_coder_7 ?_
  refine lv_goto (tgt := 14) hx hb dJ3_coder_10 (by decide) ?_
  exact W.zret hx hb hr (by decide) (fun t ht _ => ⟨⟨0, (), rfl, rfl, trivial⟩, hS.F ht⟩) hS.2.2 dJ3_coder_14 hlk
theorem tj_length (l : Launch) (bs : List Int32) (a : Nat) : Met l yJ3_length (ws_ yJ3_length cJ3_length 1 (some .int)) (rmd 1) (va_Pc [.ref a] (sPic bs a)) (pQi (nI bs.length)) 0 0 nN := by
  refine k_met (own := RJ3) (by decide) rfl (Nat.le_of_ble_eq_true rfl) ?_
  intro p e s m below meth c ls E hP hr hlk hl _
  have hS : va_S nN s.heap s.heap [] := va_S.rf
  obtain ⟨hx, hb, hml, hown, hts⟩ := id E
  have hl : lv_has ls 1 [(0, .ref a)] := hl
  obtain ⟨⟨h0, v, h1, h2, h3, h4⟩, hc, -⟩ := id hP
  refine lv_aload_n hx hb dJ3_length_0 rfl (lv_at hl 0 rfl) ?_
  refine vk_getf hx hb h3 hS hown (hts _ q2141) (fun _ z => z) dJ3_length_1 ?_
  refine va_tlen hx hb h4 hS (v := nI bs.length) rfl dJ3_length_4 ?_
  refine lv_aload_n hx hb dJ3_length_5 rfl (lv_at hl 0 rfl) ?_
  refine k_vi (Pic := sPic bs a) (Pic1 := fun _ => True) (A1 := nN) E hS (fun _ _ z => z) (fun _ z => z) (As := []) (tj_coder l bs a) sPic_bl (sPic_pre hP) (sC_recv hP.1) (lw_V q462 q463 q464 q168 q465) dj_coder rfl ⟨rfl, rfl⟩ (rmd_ok (by decide) (by decide)) ⟨Nat.le_refl 0, Nat.le_refl 0⟩ hl rfl (Nat.le_of_ble_eq_true rfl) dJ3_length_6 (fun H1 locs1 _ _ hq1 hS => ?_)
  refine lv_ishr hx hb dJ3_length_9 ?_
  refine lv_nm (y := nI bs.length) (by rw [show ((0 : Int32) &&& 31) = 0 from rfl]; exact Int32.shiftRight_zero) ?_
  exact g_iret (Pic := fun _ => True) E hr hlk trivial hS rfl dJ3_length_10
theorem tj_isLatin1 (l : Launch) (bs : List Int32) (a : Nat) : Met l yJ3_isLatin1 (ws_ yJ3_isLatin1 cJ3_isLatin1 1 (some .boolean)) (rmd 0) (va_Pc [.ref a] (sPic bs a)) (pQi (nI 1)) 0 0 nN := by
  refine k_met (own := RJ3) (by decide) rfl (Nat.le_of_ble_eq_true rfl) ?_
  intro p e s m below meth c ls E hP hr hlk hl _
  have hS : va_S nN s.heap s.heap [] := va_S.rf
  obtain ⟨hx, hb, hml, hown, hts⟩ := id E
  have hl : lv_has ls 1 [(0, .ref a)] := hl
  obtain ⟨⟨h0, v, h1, h2, h3, h4⟩, hc, -⟩ := hP
  refine va_gets hx hb hc hS hown (hts _ q466) (fun _ z => z) dJ3_isLatin1_0 ?_
  refine lv_if_eq (tgt := 17) hx hb dJ3_isLatin1_3 (by decide) (fun k => absurd k (by decide)) (fun _ => ?_)
  refine lv_aload_n hx hb dJ3_isLatin1_6 rfl (lv_at hl 0 rfl) ?_
  refine vk_getf hx hb h2 hS hown (hts _ q2142) (fun _ z => z) dJ3_isLatin1_7 ?_
  refine lv_if_ne (tgt := 17) hx hb dJ3_isLatin1_10 (by decide) (fun k => absurd rfl k) (fun _ => ?_)
  refine lv_iconst (v := nI 1) hx hb dJ3_isLatin1_13 rfl ?_
  refine lv_goto (tgt := 18) hx hb dJ3_isLatin1_14 (by decide) ?_
  exact g_zret (Pic := fun _ => True) E hr hlk trivial hS rfl dJ3_isLatin1_18
/-- Preconditions.checkIndex with some formatter -/
theorem tj_preR (l : Launch) (i n : Int32) (f : Nat) (h1 : ¬ i < 0) (h2 : i < n) : Met l yJ5_checkIndex (ws_ yJ5_checkIndex cJ5_checkIndex 3 (some .int)) (rmd 0) (pPc [.int i, .int n, .ref f]) (pQi i) 0 0 (fun _ => False) := by
  refine p_met (by decide) rfl (Nat.le_of_ble_eq_true rfl) ?_
  intro p e s m below meth c ls E hr hlk hl
  have hP := trivial
  have hS : va_S (fun _ => False) s.heap s.heap [] := va_S.rf
  obtain ⟨hx, hb, hml, hown, hts⟩ := id E
  have hl : lv_has ls 3 [(0, .int i), (1, .int n), (2, .ref f)] := hl
  refine lv_iload_n hx hb dJ5_checkIndex_0 rfl (lv_at hl 0 rfl) ?_
  refine lv_if_lt (tgt := 9) hx hb dJ5_checkIndex_1 (by decide) (fun k => absurd k h1) (fun k => ?_)
  refine lv_iload_n hx hb dJ5_checkIndex_4 rfl (lv_at hl 0 rfl) ?_
  refine lv_iload_n hx hb dJ5_checkIndex_5 rfl (lv_at hl 1 rfl) ?_
  refine lv_icmp_lt (tgt := 16) hx hb dJ5_checkIndex_6 (by decide) (fun k => ?_) (fun k => absurd h2 k)
  refine lv_iload_n hx hb dJ5_checkIndex_16 rfl (lv_at hl 0 rfl) ?_
  exact g_iret (Pic := fun _ => True) E hr hlk hP hS rfl dJ5_checkIndex_17
abbrev pQv : Array Value → State → Outcome → State → Prop := va_Qv (fun (_ : Unit) => True) (fun _ _ => True) nN
theorem tj_chk (l : Launch) (i n : Int32) (h1 : ¬ i < 0) (h2 : i < n) : Met l yJ3_checkIndex (ws_ yJ3_checkIndex cJ3_checkIndex 2 none) (rmd 1) (va_Pc [.int i, .int n] (fun U => zSI nN U U.heap)) pQv 0 0 nN := by
  refine k_met (own := RJ3) (by decide) rfl (Nat.le_of_ble_eq_true rfl) ?_
  intro p e s m below meth c ls E hP hr hlk hl _
  have hS : va_S nN s.heap s.heap [] := va_S.rf
  obtain ⟨hx, hb, hml, hown, hts⟩ := id E
  have hl : lv_has ls 2 [(0, .int i), (1, .int n)] := hl
  refine lv_iload_n hx hb dJ3_checkIndex_0 rfl (lv_at hl 0 rfl) ?_
  refine lv_iload_n hx hb dJ3_checkIndex_1 rfl (lv_at hl 1 rfl) ?_
  rcases hP with hP | ⟨t, hP⟩
  · refine va_gets hx hb hP hS hown (hts _ q482) (fun _ z => z) dJ3_checkIndex_2 ?_
    refine p_calli E hS (As := [.int i, .int n, .null]) (tj_pre l i n h1 h2) (lw_S q484 q485 q170 q486) dj_pre rfl (by decide) (by decide) hl rfl (Nat.le_of_ble_eq_true rfl) dJ3_checkIndex_5 (fun H1 locs1 hq1 hS => ?_)
    refine lv_pop hx hb dJ3_checkIndex_8 rfl ?_
    exact g_vret (Pic := fun _ => True) E hr hlk trivial hS dJ3_checkIndex_9
  · refine va_gets hx hb hP hS hown (hts _ q482) (fun _ z => z) dJ3_checkIndex_2 ?_
    refine p_calli E hS (As := [.int i, .int n, .ref t]) (tj_preR l i n t h1 h2) (lw_S q484 q485 q170 q486) dj_pre rfl (by decide) (by decide) hl rfl (Nat.le_of_ble_eq_true rfl) dJ3_checkIndex_5 (fun H1 locs1 hq1 hS => ?_)
    refine lv_pop hx hb dJ3_checkIndex_8 rfl ?_
    exact g_vret (Pic := fun _ => True) E hr hlk trivial hS dJ3_checkIndex_9
/-- a character -/
def cha (b : Int32) : Int32 := ((b &&& nI 255).toUInt32 % 65536).toInt32
theorem cha_nar (b : Int32) : narrow .char (.int (cha b)) = .int (cha b) := by
  show Value.int _ = Value.int _
  congr 1
  unfold cha
  generalize (b &&& nI 255).toUInt32 = x
  have h : ((x % 65536).toInt32.toUInt32.toUInt16.toUInt32) = x % 65536 := by
    apply UInt32.toNat_inj.mp
    simp
  rw [h]
theorem tj_lat (l : Launch) (bs : List Int32) (v : Nat) (i : Nat) (hi : i < bs.length) (hlen : bs.length < 2147483648) : Met l yJ4_charAt (ws_ yJ4_charAt cJ4_charAt 2 (some .char)) (rmd 2) (va_Pc [.ref v, .int (nI i)] (fun U => va_T .byte v bs.length (fun j => .int (bs.getD j 0)) nN U U.heap ∧ zSI nN U U.heap)) (pQi (cha (bs.getD i 0))) 0 0 nN := by
  refine k_met (own := RJ4) (by decide) rfl (Nat.le_of_ble_eq_true rfl) ?_
  intro p e s m below meth c ls E hP hr hlk hl _
  have hS : va_S nN s.heap s.heap [] := va_S.rf
  obtain ⟨hx, hb, hml, hown, hts⟩ := id E
  have hl : lv_has ls 2 [(0, .ref v), (1, .int (nI i))] := hl
  refine lv_iload_n hx hb dJ4_charAt_0 rfl (lv_at hl 1 rfl) ?_
  refine lv_aload_n hx hb dJ4_charAt_1 rfl (lv_at hl 0 rfl) ?_
  refine va_tlen hx hb hP.1 hS (v := nI bs.length) rfl dJ4_charAt_2 ?_
  refine k_sv (Pic := fun U => zSI nN U U.heap) (Pic1 := fun _ => True) (A1 := nN) E hS (fun _ _ z => z) (fun _ z => z) (As := [.int (nI i), .int (nI bs.length)]) (tj_chk l (nI i) (nI bs.length) (nI_pos (by omega)) (nI_lt hi hlen)) (fun U g mk x h => va_Zq.moved (u := U) (U := U.calling g mk x) (Vm.Alike.refl U.vm) h) (fun U hU hW => by rw [hU]; exact va_Zq.moved hW.alike hP.2) (lw_S q479 q480 q168 q481) dj_chk rfl ⟨rfl, rfl⟩ (rmd_ok (by decide) (by decide)) ⟨Nat.le_refl 0, Nat.le_refl 0⟩ hl rfl (Nat.le_of_ble_eq_true rfl) dJ4_charAt_3 (fun H1 locs1 _ _ hq1 hS => ?_)
  refine lv_aload_n hx hb dJ4_charAt_6 rfl (lv_at hl 0 rfl) ?_
  refine lv_iload_n hx hb dJ4_charAt_7 rfl (lv_at hl 1 rfl) ?_
  refine va_tb hx hb hP.1 hS (vp_in_nI hi hlen) (v := .int (bs.getD i 0)) (by rw [nI_clamp (by omega)]) dJ4_charAt_8 ?_
  refine lv_sipush (v := nI 255) hx hb dJ4_charAt_9 rfl ?_
  refine lv_iand hx hb dJ4_charAt_12 ?_
  refine lv_i2c (v := cha (bs.getD i 0)) hx hb dJ4_charAt_13 rfl ?_
  exact W.zret hx hb hr (cha_nar _) (fun t ht _ => ⟨⟨_, (), rfl, rfl, trivial⟩, hS.F ht⟩) hS.2.2 dJ4_charAt_14 hlk
theorem tj_charAt (l : Launch) (bs : List Int32) (a : Nat) (i : Nat) (hi : i < bs.length) : Met l yJ3_charAt (ws_ yJ3_charAt cJ3_charAt 2 (some .char)) (rmd 3) (va_Pc [.ref a, .int (nI i)] (sPic bs a)) (pQi (cha (bs.getD i 0))) 0 0 nN := by
  refine k_met (own := RJ3) (by decide) rfl (Nat.le_of_ble_eq_true rfl) ?_
  intro p e s m below meth c ls E hP hr hlk hl _
  have hS : va_S nN s.heap s.heap [] := va_S.rf
  obtain ⟨hx, hb, hml, hown, hts⟩ := id E
  have hl : lv_has ls 2 [(0, .ref a), (1, .int (nI i))] := hl
  obtain ⟨⟨h0, v, h1, h2, h3, h4⟩, hc, hz⟩ := id hP
  refine lv_aload_n hx hb dJ3_charAt_0 rfl (lv_at hl 0 rfl) ?_
  refine k_vi (Pic := sPic bs a) (Pic1 := fun _ => True) (A1 := nN) E hS (fun _ _ z => z) (fun _ z => z) (As := []) (tj_isLatin1 l bs a) sPic_bl (sPic_pre hP) (sC_recv hP.1) (lw_V q472 q473 q474 q168 q475) dj_isLatin1 rfl ⟨rfl, rfl⟩ (rmd_ok (by decide) (by decide)) ⟨Nat.le_refl 0, Nat.le_refl 0⟩ hl rfl (Nat.le_of_ble_eq_true rfl) dJ3_charAt_1 (fun H1 locs1 _ _ hq1 hS => ?_)
  refine lv_if_eq (tgt := 16) hx hb dJ3_charAt_4 (by decide) (fun k => absurd k (by decide)) (fun _ => ?_)
  refine lv_aload_n hx hb dJ3_charAt_7 rfl (lv_at hl 0 rfl) ?_
  refine vk_getf hx hb h3 hS hown (hts _ q2141) (fun _ z => z) dJ3_charAt_8 ?_
  refine lv_iload_n hx hb dJ3_charAt_11 rfl (lv_at hl 1 rfl) ?_
  have hq : ∀ a : Nat, a < s.heap.size → ¬ nN a → H1[a]? = s.heap[a]? := fun q hq _ => hS.2.1 q hq (fun z => z)
  refine k_si (Pic := fun U => va_T .byte v bs.length (fun j => .int (bs.getD j 0)) nN U U.heap ∧ zSI nN U U.heap) (Pic1 := fun _ => True) (A1 := nN) E hS (fun _ _ z => z) (fun _ z => z) (As := [.ref v, .int (nI i)]) (tj_lat l bs v i hi h0) (fun U g mk x h => ⟨va_T.moved (u := U) (U := U.calling g mk x) (Vm.Alike.refl U.vm) h.1, va_Zq.moved (u := U) (U := U.calling g mk x) (Vm.Alike.refl U.vm) h.2⟩) (fun U hU hW => by rw [hU]; exact ⟨va_T.moved hW.alike (h4.kept hq), va_Zq.moved hW.alike (hz.kept hq)⟩) (lw_S q476 q477 q169 q478) dj_lat rfl ⟨rfl, rfl⟩ (rmd_ok (by decide) (by decide)) ⟨Nat.le_refl 0, Nat.le_refl 0⟩ hl rfl (Nat.le_of_ble_eq_true rfl) dJ3_charAt_12 (fun H1 locs1 _ _ hq1 hS => ?_)
  exact W.zret hx hb hr (cha_nar _) (fun t ht _ => ⟨⟨_, (), rfl, rfl, trivial⟩, hS.F ht⟩) hS.2.2 dJ3_charAt_15 hlk
