/-! 117: a static call of a nest mate -/
set_option maxRecDepth 100000
section KROWS2
variable {p : Program} {l : Launch} {e : Env} {R : Room} {s : State} {m : MethodId} {args : Array Value} {below : List Frame} {meth : Method} {c : Code} {H : Heap} {locs : List Loc} {cells slots : Nat} {Q : State → Prop}
variable {cc : ByteArray} {pc nL : Nat} {ls : Array Slot} {rest : List Value} {own : String} {A A1 : Nat → Prop} {Pic : State → Prop} {Pic1 : Heap → Prop} {PicR : Nat → Heap → Prop} {rm : Room} {mc ms : Nat}
theorem k_siN (E : CallFix p m c cc nL s args lw_all own) (hS : va_S A s.heap H locs) (hAA : ∀ q, q < H.size → A1 q → A q) (hfr : ∀ q, A1 q → A q) {maxL index n : Nat} {y : MethodName} {host : String} {bytes : ByteArray} {ret : Option FieldType} {As : List Value} {r : Int32} (hM : Met l y (ws_ y bytes maxL ret) rm (va_Pc As Pic) (va_Qi (fun r' (_ : Unit) => r' = r) (fun _ t => Pic1 t.heap) A1) mc ms A1) (hbl : ∀ (U : State) (g : JFrame) (mk : MethodId) (a : Array Value), Pic U → Pic (U.calling g mk a)) (hpre : ∀ U : State, U.heap = H → s.WarmedH U.vm → Pic U) (hw : va_Nw (.methodLinkNest own index y host) s) (hini : (Cond.initialized y.cls) ∈ lw_all) (hst0 : (Cond.static y) ∈ lw_all) (hcode : Cond.code y bytes maxL ret ∈ lw_all) (hd : dN y n) (hlen : As.length = n) (hrm : rm.cells = mc ∧ rm.slots = ms) (hR : rm.frames + 1 ≤ R.frames ∧ 8 + (maxL + 11) + rm.locals ≤ R.locals) (hf : cells + mc ≤ R.cells ∧ slots + ms ≤ R.slots) {lv : List (Nat × Value)} (hl : lv_has ls nL lv) {st : List Value} (hst : st = As.reverse ++ rest) (hrs : (rest.map fun v => v.category).sum ≤ 8) (hdg : decode cc pc = .ok (.invokestatic index, 3))
    (kk : ∀ (H1 : Heap) (locs1 : List Loc), Pic1 H1 → H.size ≤ H1.size → (∀ q, q < H.size → ¬ A1 q → H1[q]? = H[q]?) → va_S A s.heap H1 locs1 → W p l e R s m args below meth c H1 locs1 (cells + mc) (slots + ms) Q (F0 m (pc + 3) ls (.int r :: rest))) : W p l e R s m args below meth c H locs cells slots Q (F0 m pc ls st) := by
  subst hst
  refine va_calli (va_runSN (As := As) (rest := rest) E hM ⟨va_cnB n E.2.2.2.2 (lw_meth hcode) rfl hrm.1 hrm.2 hw (E.2.2.2.2 _ hini) hd hR, E.2.2.2.2 _ hst0, trivial⟩ ⟨fun a U g mk q => ⟨q.1, hbl U g mk a q.2⟩, fun U hU hW => ⟨rfl, hpre U hU hW⟩⟩ rfl hlen hl.1 rfl (lv_room hrs) hdg hf) hS hAA hfr (fun r' u t H1 locs1 ht hvm hr hB hz hk hS1 => ?_)
  subst hr
  exact kk H1 locs1 (by rw [← ht]; exact hB) hz hk hS1
end KROWS2
theorem SV_e0 {Z : nwZ} {s : State} {sz : Nat} (h : SV Z s s.heap) (hsz : s.heap.size = sz) : Z.2.2.1 < sz := by
  obtain ⟨cell, h1, -⟩ := h.2.2.2.1.2
  rw [← hsz]
  exact (Array.getElem?_eq_some_iff.mp h1).1
/-- the elements -/
def PE {α : Type} (P : α → (Nat → Prop) → Nat → Heap → Prop) (els : List Nat) : List α → (Nat → Prop) → Nat → Heap → Prop := fun vs Nn _ H => els.length = vs.length ∧ ∀ (i : Nat) (v : α) (b : Nat), vs[i]? = some v → els[i]? = some b → P v Nn b H
theorem gK_E {α : Type} {P : α → (Nat → Prop) → Nat → Heap → Prop} {els : List Nat} (hg : gK P) : gK (PE P els) :=
  ⟨fun v Nn b H H1 hk h => ⟨h.1, fun i v b e1 e2 => hg.1 _ _ _ _ _ hk (h.2 i v b e1 e2)⟩, fun v Nn N2 b H hA h => ⟨h.1, fun i v b e1 e2 => hg.2.1 _ _ _ _ _ hA (h.2 i v b e1 e2)⟩, fun v Nn b H x hx h => ⟨h.1, fun i v b e1 e2 => hg.2.2 _ _ _ _ _ hx (h.2 i v b e1 e2)⟩⟩
/-- what lies in a list, lies off Nn -/
def gI {α : Type} (D : va_G) (P : α → (Nat → Prop) → Nat → Heap → Prop) : Prop := ∀ v Nn b H, P v Nn b H → isE D b H ∧ ¬ Nn b
theorem oO_isE {D : va_G} {ci N b : Nat} {vs : List Value} {Nn : Nat → Prop} {H : Heap} (h1 : 9 ≤ ci) (h2 : ci ≤ 15) (h : oO D ci N vs Nn b H) : isE D b H ∧ ¬ Nn b := by
  obtain ⟨h3, cell, h4, h5, h6, -⟩ := h
  exact ⟨⟨ci, cell, h1, h2, h4, h5, h6⟩, h3⟩
theorem gI_Q (D : va_G) : gI D (oQu D) := fun _ _ _ _ h => oO_isE (by decide) (by decide) h
theorem gI_W (D : va_G) : gI D (oWa D) := fun _ _ _ _ h => h.elim (fun h => oO_isE (by decide) (by decide) h.2.2) (fun h => oO_isE (by decide) (by decide) h.2)
theorem gI_D (D : va_G) : gI D (oDe D) := fun _ _ _ _ h => h.elim (fun h => oO_isE (by decide) (by decide) h.2) (fun h => h.elim (fun h => oO_isE (by decide) (by decide) h.2) (fun h => oO_isE (by decide) (by decide) h.2))
theorem gI_L (D : va_G) : gI D (PL D) := fun _ _ _ _ h => by
  obtain ⟨ct, -, h⟩ := h
  rcases h with ⟨-, h⟩ | ⟨_, _, -, -, h⟩
  · exact oO_isE (by decide) (by decide) h
  · exact oO_isE (by decide) (by decide) h
/-- a list that the Reader fills -/
def LF {α : Type} (D : va_G) (dT : Nat → ClassId) (Z : nwZ) (P : α → (Nat → Prop) → Nat → Heap → Prop) (sz : Nat) (vs : List α) (al : Nat) (H : Heap) : Prop := ∃ ed els, LB D dT Z.2.2.1 al ed els H ∧ (ed = Z.2.2.1 ∨ sz ≤ ed) ∧ sz ≤ al ∧ PE P els vs (fz sz [ed, al]) 0 H
theorem LB_kp {D : va_G} {dT : Nat → ClassId} {e0 al ed x : Nat} {els : List Nat} {H H1 : Heap} (h : LB D dT e0 al ed els H) (hk : KP x H H1) (h1 : al ≠ x) (h2 : ed ≠ e0 → ed ≠ x) : LB D dT e0 al ed els H1 := by
  obtain ⟨⟨mc, ho⟩, hh⟩ := id h
  refine h.kq (hk al ho.lt h1) (fun hn => ?_)
  rcases hh with hh | ⟨g1, g2, n, f, g3, g4⟩
  · exact absurd hh.2 hn
  · exact hk ed (Array.getElem?_eq_some_iff.mp g3).1 (h2 hn)
theorem LB_lt {D : va_G} {dT : Nat → ClassId} {e0 al ed : Nat} {els : List Nat} {H : Heap} (h : LB D dT e0 al ed els H) (he : e0 < H.size) : al < H.size ∧ ed < H.size := by
  obtain ⟨⟨mc, ho⟩, hh⟩ := h
  refine ⟨ho.lt, ?_⟩
  rcases hh with hh | ⟨g1, g2, n, f, g3, g4⟩
  · rw [hh.2]; exact he
  · exact (Array.getElem?_eq_some_iff.mp g3).1
theorem LF_kp {α : Type} {D : va_G} {dT : Nat → ClassId} {Z : nwZ} {P : α → (Nat → Prop) → Nat → Heap → Prop} {sz x al : Nat} {vs : List α} {H H1 : Heap} (hg : gK P) (hx : x < sz) (hk : KP x H H1) (h : LF D dT Z P sz vs al H) : LF D dT Z P sz vs al H1 := by
  obtain ⟨ed, els, h1, h2, h3, h4⟩ := h
  exact ⟨ed, els, LB_kp h1 hk (by omega) (fun h => by omega), h2, h3, kpG (gK_E hg) (Or.inl hx) hk h4⟩
theorem LF_nil {α : Type} {D : va_G} {dT : Nat → ClassId} {Z : nwZ} {P : α → (Nat → Prop) → Nat → Heap → Prop} {sz al : Nat} {H : Heap} (h : LB D dT Z.2.2.1 al Z.2.2.1 [] H) (hs : sz ≤ al) : LF D dT Z P sz [] al H := ⟨_, _, h, Or.inl rfl, hs, rfl, fun i v b e => nomatch e⟩
theorem LF_add {α : Type} {D : va_G} {dT : Nat → ClassId} {Z : nwZ} {P : α → (Nat → Prop) → Nat → Heap → Prop} {sz al ed x : Nat} {els : List Nat} {vs : List α} {v : α} {H H1 : Heap} (hg : gK P) (he : PE P els vs (fz sz [ed, al]) 0 H) (hx : P v (fz sz [ed, al]) x H) (hR : AR D dT Z al ed els x H.size H1) (hq : ∀ q, q < H.size → ¬ lA Z.2.2.1 al ed H.size q → H1[q]? = H[q]?) (hed : ed = Z.2.2.1 ∨ sz ≤ ed) (hal : sz ≤ al) (hzs : sz ≤ H.size) : LF D dT Z P sz (vs ++ [v]) al H1 := by
  obtain ⟨ed', h1, h2, h3⟩ := hR
  have tr : ∀ (w : α) (b : Nat), P w (fz sz [ed, al]) b H → P w (fz sz [ed', al]) b H1 := by
    intro w b hb
    have hq2 : ∀ q, q < H.size → ¬ fz sz [ed, al] q → H1[q]? = H[q]? := fun q hz hn => hq q hz (fun hl => hn (by
      rcases hl with e | ⟨e, -⟩ | e
      · exact Or.inr (by rw [e]; exact List.mem_cons_of_mem _ List.mem_cons_self)
      · exact Or.inr (by rw [e]; exact List.mem_cons_self)
      · omega))
    rcases h2 with h2 | h2
    · rw [h2]; exact hg.1 _ _ _ _ _ hq2 hb
    · refine hg.2.1 _ _ _ _ _ ?_ (hg.1 _ _ _ _ _ (fun q hz hn => hq2 q hz (fun y => hn (Or.inl y))) (hg.2.2 _ _ _ _ ed' h2 hb))
      intro q hz
      rcases hz with e | e
      · exact Or.inl (Or.inl e)
      · rcases List.mem_cons.mp e with e | e
        · exact Or.inr e
        · exact Or.inl (Or.inr (List.mem_cons_of_mem _ e))
  refine ⟨ed', _, h1, ?_, hal, ?_, ?_⟩
  · rcases h2 with h2 | h2
    · rw [h2]; exact hed
    · exact Or.inr (by omega)
  · simp only [List.length_append, List.length_cons, List.length_nil, he.1]
  · intro i w b e1 e2
    rcases Nat.lt_or_ge i vs.length with hi | hi
    · rw [List.getElem?_append_left hi] at e1
      rw [List.getElem?_append_left (by rw [he.1]; exact hi)] at e2
      exact tr _ _ (he.2 i w b e1 e2)
    · have hi2 : i = vs.length := by
        have := (List.getElem?_eq_some_iff.mp e1).1
        simp only [List.length_append, List.length_cons, List.length_nil] at this
        omega
      subst hi2
      rw [List.getElem?_append_right (Nat.le_refl _), Nat.sub_self] at e1
      rw [List.getElem?_append_right (by rw [he.1]; exact Nat.le_refl _), he.1, Nat.sub_self] at e2
      cases e1
      cases e2
      exact tr _ _ hx
abbrev pvL {α : Type} (D : va_G) (dT : Nat → ClassId) (Z : nwZ) (P : α → (Nat → Prop) → Nat → Heap → Prop) (sz : Nat) : List α → Nat → Heap → Prop := fun vs b H => LF D dT Z P sz vs b H
theorem LB_AL {D : va_G} {dT : Nat → ClassId} {e0 al ed : Nat} {els : List Nat} {H : Heap} (h : LB D dT e0 al ed els H) : AL D dT nN al els H := by
  obtain ⟨⟨mc, ho⟩, hh⟩ := h
  rcases hh with hh | ⟨g1, g2, n, f, g3, g4, g5, g6, g7⟩
  · exact ⟨by rw [hh.1]; decide, mc, ed, ⟨fun z => z, ho⟩, Or.inl hh.1⟩
  · exact ⟨by omega, mc, ed, ⟨fun z => z, ho⟩, Or.inr ⟨fun z => z, n, _, g3, g4, by omega, fun i x e => by show va_rf (f i) = _; rw [g7, e]; rfl⟩⟩
theorem LB_recv {D : va_G} {dT : Nat → ClassId} {e0 al ed : Nat} {els : List Nat} {H : Heap} {s : State} (hK : va_K D nwCl (nwT dT) s) (h : LB D dT e0 al ed els H) : ∃ cell : Cell, H[al]? = some cell ∧ cell.vm.isStatics = false ∧ s.vm.findClass RJ2 = some cell.cls := by
  obtain ⟨⟨mc, ho⟩, hh⟩ := h
  exact o_recv (Nn := nN) (N := 3) (T := TJ2) hK ⟨fun z => z, ho⟩ rfl
theorem ite_n {α : Type} {c : Prop} [Decidable c] {x : Option α} {y : α} (h : (if c then none else x) = some y) : ¬ c ∧ x = some y := by
  split at h
  · cases h
  · rename_i k; exact ⟨k, h⟩
theorem ite_s {α : Type} {c : Prop} [Decidable c] {x : Option α} {y : α} (h : (if c then x else none) = some y) : c ∧ x = some y := by
  split at h
  · rename_i k; exact ⟨k, h⟩
  · cases h
theorem RD_q {D : va_G} {a g : Nat} {r : nwM} {H H1 : Heap} (hP : RD D a g r H) (h : H1[a]? = H[a]?) : RD D a g r H1 := by
  obtain ⟨cell, h1, h2⟩ := hP
  exact ⟨cell, by rw [h]; exact h1, h2⟩
theorem lA_nA {a e0 al ed sz z q : Nat} (hal : sz ≤ al) (hed : ed = e0 ∨ sz ≤ ed) (hz : sz ≤ z) (h : lA e0 al ed z q) : nA a sz q := by
  rcases h with e | ⟨e, f⟩ | e
  · exact Or.inr (by omega)
  · exact Or.inr (by omega)
  · exact Or.inr (by omega)
theorem not_lA {a e0 al ed sz z : Nat} (ha : a < sz) (hal : sz ≤ al) (hed : ed = e0 ∨ sz ≤ ed) (hz : sz ≤ z) : ¬ lA e0 al ed z a := by
  intro h
  rcases h with e | ⟨e, f⟩ | e <;> omega
theorem AU_pre {α : Type} {D : va_G} {dT : Nat → ClassId} {Z : nwZ} {P : α → (Nat → Prop) → Nat → Heap → Prop} {sz al ed x : Nat} {els : List Nat} {vs : List α} {v : α} {H : Heap} {s : State} (hg : gI D P) (hLB : LB D dT Z.2.2.1 al ed els H) (he : PE P els vs (fz sz [ed, al]) 0 H) (hlen : vs.length ≤ 15) (hx : P v (fz sz [ed, al]) x H) (hE : EV D dT s) (hSV : SV Z s H) (hz : Z.1 ≤ al) : ∀ U : State, U.heap = H → s.WarmedH U.vm → AU D dT Z al ed els x H.size U := by
  intro U hU hW
  have h1 := hg _ _ _ _ hx
  refine ⟨by rw [hU]; exact hLB, by rw [he.1]; exact hlen, ?_, by rw [hU]; exact h1.1, hE.warm hW, by rw [hU]; exact hSV.warm hW, by rw [hU], hz, fun e => h1.2 (Or.inr (by rw [e]; exact List.mem_cons_of_mem _ List.mem_cons_self)), fun e => h1.2 (Or.inr (by rw [e]; exact List.mem_cons_self))⟩
  intro y hy
  obtain ⟨i, hi, rfl⟩ := List.getElem_of_mem hy
  have hi2 : i < vs.length := by rw [← he.1]; exact hi
  have hv : vs[i]? = some vs[i] := List.getElem?_eq_getElem hi2
  have h2 := hg _ _ _ _ (he.2 i _ _ hv (List.getElem?_eq_getElem hi))
  exact ⟨by rw [hU]; exact h2.1, fun e => h2.2 (Or.inr (by rw [e]; exact List.mem_cons_of_mem _ List.mem_cons_self))⟩
theorem aLP_pre {D : va_G} {dT : Nat → ClassId} {Z : nwZ} {q : Nat} {s : State} {H : Heap} (h : oF D 16 3 [.int 0, .null, .int 0] q H) (hE : EV D dT s) (hSV : SV Z s H) (hz : Z.1 ≤ q) : ∀ U : State, U.heap = H → s.WarmedH U.vm → aLP D dT Z q U := fun U hU hW => ⟨by rw [hU]; exact h, hE.warm hW, by rw [hU]; exact hSV.warm hW, hz⟩
theorem sz_bl {D : va_G} {dT : Nat → ClassId} {al : Nat} {els : List Nat} : ∀ (U : State) (f : JFrame) (mk : MethodId) (x : Array Value), (AL D dT nN al els U.heap ∧ EV D dT U) → (AL D dT nN al els (U.calling f mk x).heap ∧ EV D dT (U.calling f mk x)) := fun U f mk x h => ⟨h.1, h.2.same (u := U) (U := U.calling f mk x) rfl⟩
