/-! BASE 9: lists, told at the heap of now -/
set_option maxRecDepth 100000
section NW9
variable {p : Program} {l : Launch} {e : Env} {R : Room} {s : State} {m : MethodId} {args : Array Value} {below : List Frame} {meth : Method} {c : Code} {H : Heap} {locs : List Loc} {cells slots : Nat} {Q : State → Prop}
variable {cc : ByteArray} {pc nL : Nat} {ls : Array Slot} {rest : List Value} {D : va_G} {dT : Nat → ClassId} {H0 : Heap} {own : String} {A : Nat → Prop} {Nn : Nat → Prop}
theorem lx_size {α : Type} {P : α → (Nat → Prop) → Nat → Heap → Prop} {xs : List α} {a d index : Nat} (E : CallFix p m c cc nL s args lw_all own) (hE : EV D dT s) (h0 : nLS D dT P xs Nn a H) (hS : va_S A s.heap H locs) (hw : GoodIn lw_all (wsV own index RJ2 yJ2_size (ws_ yJ2_size cJ2_size 1 (some .int)))) (hd : 0 < d) {lv : List (Nat × Value)} (hl : lv_has ls nL lv) (hrm : (rest.map fun v => v.category).sum ≤ 8) (hdg : decode cc pc = .ok (.invokevirtual index, 3))
    (kk : ∀ (H1 : Heap) (locs1 : List Loc), (∀ q, q < H.size → H1[q]? = H[q]?) → va_S A s.heap H1 locs1 → W p l e (rmd d) s m args below meth c H1 locs1 0 0 Q (F0 m (pc + 3) ls (.int (nI xs.length) :: rest))) : W p l e (rmd d) s m args below meth c H locs 0 0 Q (F0 m pc ls (.ref a :: rest)) := by
  obtain ⟨els, h1, h2, -⟩ := h0
  have h3 : AL D dT nN a els H := h1.weak (fun _ z => z.elim)
  rw [← h2] at kk
  obtain ⟨-, _, _, ho, -⟩ := id h3
  exact g_callp E hE (Pic := fun H => AL D dT nN a els H) h3 hS (As := []) (tj_size l D dT a els) (o_recv hE.1 ho rfl) hw dj_size rfl hd (by decide) hl rfl hrm hdg kk
theorem lx_get {α : Type} {P : α → (Nat → Prop) → Nat → Heap → Prop} {xs : List α} {x : α} {i : Int32} {a d index : Nat} (E : CallFix p m c cc nL s args lw_all own) (hE : EV D dT s) (h0 : nLS D dT P xs Nn a H) (hx : lg_ xs i = some x) (hS : va_S A s.heap H locs) (hw : GoodIn lw_all (wsV own index RJ2 yJ2_get (ws_ yJ2_get cJ2_get 2 (some (.object "java/lang/Object"))))) (hd : 2 < d) {lv : List (Nat × Value)} (hl : lv_has ls nL lv) (hrm : (rest.map fun v => v.category).sum ≤ 8) (hdg : decode cc pc = .ok (.invokevirtual index, 3))
    (kk : ∀ (b : Nat) (H1 : Heap) (locs1 : List Loc), P x Nn b H → (∀ q, q < H.size → H1[q]? = H[q]?) → va_S A s.heap H1 locs1 → W p l e (rmd d) s m args below meth c H1 locs1 0 0 Q (F0 m (pc + 3) ls (.ref b :: rest))) : W p l e (rmd d) s m args below meth c H locs 0 0 Q (F0 m pc ls (.int i :: .ref a :: rest)) := by
  obtain ⟨els, h1, h2, h5⟩ := h0
  obtain ⟨hi, hx⟩ := lg_in hx
  have hlen := h1.1
  obtain ⟨j, hj, rfl⟩ := vp_in_of hi (by rw [← h2]; exact hlen)
  rw [nI_clamp (by omega)] at hx
  have hj2 : j < els.length := by omega
  have hb : els[j]? = some els[j] := List.getElem?_eq_getElem hj2
  have h3 : AL D dT nN a els H := h1.weak (fun _ z => z.elim)
  obtain ⟨-, _, _, ho, -⟩ := id h3
  exact g_callr E hE (Pic := fun H => AL D dT nN a els H) h3 hS (As := [.int (nI j)]) (tj_get l D dT a els j _ hb) (o_recv hE.1 ho rfl) hw dj_get rfl hd (by decide) hl rfl hrm hdg (fun H1 locs1 hq hS1 => kk _ H1 locs1 (h5 j x _ hx hb) hq hS1)
end NW9
