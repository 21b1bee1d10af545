/-! 116: a Fault made and thrown by the Reader, in one row -/
set_option maxRecDepth 100000
abbrev pvG {α : Type} (P : α → (Nat → Prop) → Nat → Heap → Prop) (sz : Nat) : α → Nat → Heap → Prop := fun v b H => P v (fz sz []) b H
theorem S_new {A : Nat → Prop} {H0 H H1 : Heap} {locs : List Loc} (hS : va_S A H0 H locs) (z1 : H1.size = H.size + 1) (o1 : ∀ q, q < H.size → H1[q]? = H[q]?) : va_S A H0 H1 locs := ⟨Nat.le_trans hS.1 (by omega), fun q h1 h2 => (o1 q (Nat.lt_of_lt_of_le h1 hS.1)).trans (hS.2.1 q h1 h2), hS.2.2⟩
set_option maxHeartbeats 4000000 in
theorem r_throw {p : Program} {l : Launch} {e : Env} {s : State} {m : MethodId} {args : Array Value} {below : List Frame} {meth : Method} {c : Code} {H : Heap} {locs : List Loc} {cells slots N d : Nat} {cc : ByteArray} {pc nL : Nat} {ls : Array Slot} {D : va_G} {dT : Nat → ClassId} {a g sz : Nat} {ξ σ : nwM} {β ρ : Nat → Nat} {Z : nwZ} {r : nwM} {α : Type} {Qc : Array Value → State → Outcome → State → Prop} (hst : l.stackTraces = false) (E : CallFix p m c cc nL s args lw_all RX3) (hB : RB D dT a g ξ β σ ρ Z s) (ht : ∀ x ∈ c.exceptionTable.toList, False) (hlk : meth.locks = false) (hP : RD D a g r H) (hS : va_S (nA a sz) s.heap H locs) (hsz : s.heap.size = sz) {lv : List (Nat × Value)} (hl : lv_has ls nL lv) (h0 : ls[0]? = some (.val (.ref a))) {k : Int32} {kn : Int} (hc : cells + 1 ≤ N) (hs : slots + 24 ≤ 24 * N) (hd : 7 ≤ d)
    (d0 : decode cc pc = .ok (.new 137, 3)) (d3 : decode cc (pc + 3) = .ok (.dup, 1)) (d4 : decode cc (pc + 3 + 1) = .ok (.iconst kn, 1)) (hkn : Int32.ofInt kn = k) (d5 : decode cc (pc + 3 + 1 + 1) = .ok (.aload_n 0, 1)) (d6 : decode cc (pc + 3 + 1 + 1 + 1) = .ok (.getfield 37, 3)) (d9 : decode cc (pc + 3 + 1 + 1 + 1 + 3) = .ok (.invokespecial 139, 3)) (d12 : decode cc (pc + 3 + 1 + 1 + 1 + 3 + 3) = .ok (.athrow, 1)) : W p l e (rmc d N) s m args below meth c H locs cells slots (nx_MQ below Qc (XcR (α := α) D (nA a sz) (.inl (k, r 2 0))) args s N (24 * N) (nA a sz)) (F0 m pc ls []) := by
  obtain ⟨hx, hb, hml, hown, hts⟩ := id E
  have hE := hB.2.1
  have hK := hE.1
  have hal := RD_lt hP
  have hss := hS.1
  have hA : ∀ q, nA a sz q → q = a ∨ s.heap.size ≤ q := fun q z => by rw [hsz]; exact z
  have hZa := hB.2.2.2.2.1
  obtain ⟨q, hq⟩ : ∃ z, z = H.size := ⟨_, rfl⟩
  refine x_newF E hK q565 (Nat.le_of_ble_eq_true rfl) (show _ ≤ N by omega) (show slots + 24 ≤ 24 * N by omega) d0 (fun H1 hF z1 o1 => ?_)
  have hP := RD_same hP o1
  have hS := S_new hS z1 o1
  rw [← hq] at hF ⊢
  refine lv_dup hx hb d3 rfl ?_
  refine lv_iconst (v := k) hx hb d4 hkn ?_
  refine lv_aload_n hx hb d5 rfl h0 ?_
  refine gp_get (C := RX3) (T := TX3) E hK (oneO (dT := dT) hP) (if_pos rfl) rfl in_X3 2 (by decide) (hts _ q406) (fun _ z => z) (v := .int (r 2 0)) rfl d6 ?_
  refine k_iv (Pic := FP D dT Z q) (Pic1 := fun H => FO D (k, r 2 0) q H) (A1 := eqA q) E hS (fun z _ ez => Or.inr (by rw [show z = q from ez]; omega)) (fun z ez => Or.inr (by rw [show z = q from ez]; omega)) (As := [.int k, .int (r 2 0)]) (tc_Fault l hst D dT Z q k (r 2 0)) FP_bl (fun U hU hW => ⟨by rw [hU]; exact hF, hE.warm hW, by rw [hU]; exact (RB_sv hB hS hA).warm hW, by omega⟩) q602 q603 q174 q604 rfl dc_Fault rfl ⟨rfl, rfl⟩ (rmcd_ok (by omega) (by decide)) ⟨show _ ≤ N by omega, show _ ≤ 24 * N by omega⟩ hl rfl (Nat.le_of_ble_eq_true rfl) d9 (fun H locs hFO _ _ hS => ?_)
  exact x_athrow E hK ht hlk hFO hS (by omega) (by omega) d12
