/-! BASE 2: the picture of NamesWeatherModel: its object at h, its arrays behind it in the order in which they are made; μ k i: field k (an int: i = 0; an array: its place i) -/
set_option maxRecDepth 100000
def mArr : List Nat := [1, 2, 4, 7, 8, 9, 15, 16, 17, 18, 19, 20, 21, 22, 26, 33, 35, 37, 38, 39, 40, 41, 42, 48]
def mLens : List Nat := [105, 630, 105, 8, 750, 400, 155, 2, 48, 48, 48, 48, 1200, 1200, 40, 96, 100, 128, 9, 420, 40, 12, 12, 2000]
def mAd (k : Nat) : Nat := mArr.idxOf k + 1
def mLen (k : Nat) : Nat := mLens.getD (mArr.idxOf k) 0
def mA (h : Nat) : Nat → Prop := fun q => h ≤ q ∧ q ≤ h + 24
def shM (h : Nat) : nwS := fun a => if a = h then some (.inl (2, 49)) else if h < a ∧ a ≤ h + 24 then some (.inr (0, mLens.getD (a - h - 1) 0)) else none
def vM (h : Nat) (μ : nwM) : Nat → Nat → Value := fun a => if a = h then (fun k => if mArr.contains k = true then .ref (h + mAd k) else .int (μ k 0)) else fun j => .int (μ (mArr.getD (a - h - 1) 0) j)
def PM (D : va_G) (dT : Nat → ClassId) (h : Nat) (μ : nwM) (H : Heap) : Prop := GP D dT (shM h) (vM h μ) H
theorem m_fact : ∀ k, k < 49 → mArr.contains k = true → mArr.idxOf k < 24 ∧ mArr.getD (mArr.idxOf k) 0 = k := by decide +kernel
theorem shM_h (h : Nat) : shM h h = some (.inl (2, 49)) := if_pos rfl
theorem shM_k {h k : Nat} (hk : k < 49) (hi : mArr.contains k = true) : shM h (h + mAd k) = some (.inr (0, mLen k)) := by
  obtain ⟨h1, -⟩ := m_fact k hk hi
  unfold shM mAd mLen
  rw [if_neg (by omega), if_pos (by omega)]
  congr 3
  congr 1
  omega
theorem vM_i {h k : Nat} {μ : nwM} (hi : mArr.contains k = false) : vM h μ h k = .int (μ k 0) := by
  unfold vM
  rw [if_pos rfl, if_neg (by rw [hi]; decide)]
theorem vM_a {h k : Nat} {μ : nwM} (hi : mArr.contains k = true) : vM h μ h k = .ref (h + mAd k) := by
  unfold vM
  rw [if_pos rfl, if_pos hi]
theorem vM_e {h k j : Nat} {μ : nwM} (hk : k < 49) (hi : mArr.contains k = true) : vM h μ (h + mAd k) j = .int (μ k j) := by
  obtain ⟨h1, h2⟩ := m_fact k hk hi
  unfold vM mAd
  rw [if_neg (by omega)]
  rw [show h + (mArr.idxOf k + 1) - h - 1 = mArr.idxOf k by omega, h2]
theorem mA_h (h : Nat) : mA h h := ⟨Nat.le_refl _, Nat.le_add_right _ _⟩
theorem mA_k {h k : Nat} (hk : k < 49) (hi : mArr.contains k = true) : mA h (h + mAd k) := by
  obtain ⟨h1, -⟩ := m_fact k hk hi
  unfold mA mAd
  omega
theorem up_same (μ : nwM) (k i : Nat) (v : Int32) : up_ μ k i v k i = v := if_pos ⟨rfl, rfl⟩
theorem up_k {μ : nwM} {k i a b : Nat} {v : Int32} (h : a ≠ k) : up_ μ k i v a b = μ a b := if_neg (fun q => h q.1)
theorem up_i {μ : nwM} {k i a b : Nat} {v : Int32} (h : b ≠ i) : up_ μ k i v a b = μ a b := if_neg (fun q => h q.2)
theorem m_getD_mem : ∀ j, j < 24 → mArr.contains (mArr.getD j 0) = true := by decide +kernel
theorem m_getD_inj : ∀ i, i < 24 → ∀ j, j < 24 → mArr.getD i 0 = mArr.getD j 0 → i = j := by decide +kernel
theorem PM_put {D : va_G} {dT : Nat → ClassId} {h k : Nat} {μ : nwM} {x : Int32} {H : Heap} (hi : mArr.contains k = false) (hG : GP D dT (shM h) (upV (vM h μ) h (updV (vM h μ h) k (.int x))) H) : PM D dT h (up_ μ k 0 x) H := by
  refine hG.to (fun _ _ => rfl) (fun a ci N j e hj => ?_) (fun a t n j e hj => ?_)
  · have ha : a = h := by
      unfold shM at e
      split at e
      · assumption
      · split at e <;> cases e
    subst ha
    rw [upV_self]
    unfold updV vM
    rw [if_pos rfl, if_pos rfl]
    by_cases hjk : j = k
    · subst hjk
      rw [if_pos rfl, if_neg (by rw [hi]; decide), up_same]
    · rw [if_neg hjk, up_k hjk]
  · have hb : a ≠ h ∧ h < a ∧ a ≤ h + 24 := by
      unfold shM at e
      split at e
      · cases e
      · rename_i q
        split at e
        · rename_i r; exact ⟨q, r⟩
        · cases e
    rw [upV_ne hb.1]
    unfold vM
    rw [if_neg hb.1, if_neg hb.1]
    have hm := m_getD_mem (a - h - 1) (by omega)
    show Value.int (μ _ j) = Value.int (up_ μ k 0 x _ j)
    rw [up_k (fun z => by rw [z] at hm; rw [hi] at hm; cases hm)]
theorem PM_ast {D : va_G} {dT : Nat → ClassId} {h k i : Nat} {μ : nwM} {x : Int32} {H : Heap} (hk : k < 49) (hi : mArr.contains k = true) (hG : GP D dT (shM h) (upV (vM h μ) (h + mAd k) (updV (vM h μ (h + mAd k)) i (.int x))) H) : PM D dT h (up_ μ k i x) H := by
  obtain ⟨hf1, hf2⟩ := m_fact k hk hi
  refine hG.to (fun _ _ => rfl) (fun a ci N j e hj => ?_) (fun a t n j e hj => ?_)
  · have ha : a = h := by
      unfold shM at e
      split at e
      · assumption
      · split at e <;> cases e
    subst ha
    rw [upV_ne (by unfold mAd; omega)]
    unfold vM
    rw [if_pos rfl, if_pos rfl]
    by_cases hc : mArr.contains j = true
    · rw [if_pos hc, if_pos hc]
    · rw [if_neg hc, if_neg hc, up_k (fun z => by subst z; exact hc hi)]
  · have hb : a ≠ h ∧ h < a ∧ a ≤ h + 24 := by
      unfold shM at e
      split at e
      · cases e
      · rename_i q
        split at e
        · rename_i r; exact ⟨q, r⟩
        · cases e
    by_cases ha : a = h + mAd k
    · subst ha
      rw [upV_self]
      unfold updV
      by_cases hji : j = i
      · subst hji
        rw [if_pos rfl, vM_e hk hi, up_same]
      · rw [if_neg hji, vM_e hk hi, vM_e hk hi, up_i hji]
    · rw [upV_ne ha]
      unfold vM
      rw [if_neg hb.1, if_neg hb.1]
      show Value.int (μ _ j) = Value.int (up_ μ k i x _ j)
      rw [up_k (fun z => ha (by
        have := m_getD_inj (a - h - 1) (by omega) (mArr.idxOf k) hf1 (z.trans hf2.symm)
        unfold mAd
        omega))]
abbrev mPc (D : va_G) (dT : Nat → ClassId) (h : Nat) (μ : nwM) (As : List Value) : Array Value → State → Prop := va_Pc (.ref h :: As) (fun U => PM D dT h μ U.heap ∧ va_K D nwCl (nwT dT) U)
abbrev mQi (D : va_G) (dT : Nat → ClassId) (h : Nat) (μ : nwM) (r : Int32) : Array Value → State → Outcome → State → Prop := va_Qi (fun r' (_ : Unit) => r' = r) (fun _ t => PM D dT h μ t.heap) (mA h)
abbrev mQv (D : va_G) (dT : Nat → ClassId) (h : Nat) (μ : nwM) : Array Value → State → Outcome → State → Prop := va_Qv (fun (_ : Unit) => True) (fun _ t => PM D dT h μ t.heap) (mA h)
section NWM
variable {p : Program} {l : Launch} {e : Env} {R : Room} {s : State} {m : MethodId} {args : Array Value} {below : List Frame} {meth : Method} {c : Code} {H : Heap} {locs : List Loc} {cells slots : Nat} {Q : State → Prop}
variable {cc : ByteArray} {pc nL : Nat} {ls : Array Slot} {rest : List Value} {D : va_G} {dT : Nat → ClassId} {H0 : Heap} {h : Nat} {μ μ1 : nwM}
theorem m_get (E : CallFix p m c cc nL s args lw_all RX2) (hK : va_K D nwCl (nwT dT) s) (hP : PM D dT h μ H) (k : Nat) (hk : k < 49) (hi : mArr.contains k = false) {index : Nat} (hq : (Cond.fieldLink RX2 index RX2 (TX2 k).2.1 (TX2 k).2.2.1) ∈ lw_all) (hT : (TX2 k).1 = RX2) (hdg : decode cc pc = .ok (.getfield index, 3))
    (kk : W p l e R s m args below meth c H locs cells slots Q (F0 m (pc + 3) ls (.int (μ k 0) :: rest))) : W p l e R s m args below meth c H locs cells slots Q (F0 m pc ls (.ref h :: rest)) :=
  gp_get (C := RX2) (T := TX2) E hK hP (shM_h h) rfl in_X2 k hk (E.2.2.2.2 _ hq) (fun _ z => by rw [hT] at z; exact z) (vM_i hi) hdg kk
theorem m_ga (E : CallFix p m c cc nL s args lw_all RX2) (hK : va_K D nwCl (nwT dT) s) (hP : PM D dT h μ H) (k : Nat) (hk : k < 49) (hi : mArr.contains k = true) {index : Nat} (hq : (Cond.fieldLink RX2 index RX2 (TX2 k).2.1 (TX2 k).2.2.1) ∈ lw_all) (hT : (TX2 k).1 = RX2) (hdg : decode cc pc = .ok (.getfield index, 3))
    (kk : W p l e R s m args below meth c H locs cells slots Q (F0 m (pc + 3) ls (.ref (h + mAd k) :: rest))) : W p l e R s m args below meth c H locs cells slots Q (F0 m pc ls (.ref h :: rest)) :=
  gp_get (C := RX2) (T := TX2) E hK hP (shM_h h) rfl in_X2 k hk (E.2.2.2.2 _ hq) (fun _ z => by rw [hT] at z; exact z) (vM_a hi) hdg kk
theorem m_put (E : CallFix p m c cc nL s args lw_all RX2) (hK : va_K D nwCl (nwT dT) s) (hP : PM D dT h μ H) (hS : va_S (mA h) H0 H locs) (k : Nat) (hk : k < 49) (hi : mArr.contains k = false) {index : Nat} (hq : (Cond.fieldLink RX2 index RX2 (TX2 k).2.1 (TX2 k).2.2.1) ∈ lw_all) (hT : (TX2 k).1 = RX2) (hF : (TX2 k).2.2.2 = false) (hd : parseFieldDescriptor (TX2 k).2.2.1 = some .int) {x : Int32} (hw : wf_ μ k x = some μ1) (hdg : decode cc pc = .ok (.putfield index, 3))
    (kk : ∀ (H : Heap) (locs : List Loc), PM D dT h μ1 H → va_S (mA h) H0 H locs → W p l e R s m args below meth c H locs cells slots Q (F0 m (pc + 3) ls rest)) : W p l e R s m args below meth c H locs cells slots Q (F0 m pc ls (.int x :: .ref h :: rest)) := by
  cases hw
  exact gp_put (C := RX2) (T := TX2) E hK hP hS (mA_h h) (shM_h h) rfl in_X2 tyX2 tyX2_ok nmX2 k hk (E.2.2.2.2 _ hq) (fun _ z => by rw [hT] at z; exact z) hF hd rfl rfl hdg (fun H1 l1 g1 _ g2 => kk H1 l1 (PM_put hi g1) g2)
theorem m_putz (E : CallFix p m c cc nL s args lw_all RX2) (hK : va_K D nwCl (nwT dT) s) (hP : PM D dT h μ H) (hS : va_S (mA h) H0 H locs) (k : Nat) (hk : k < 49) (hi : mArr.contains k = false) {index : Nat} (hq : (Cond.fieldLink RX2 index RX2 (TX2 k).2.1 (TX2 k).2.2.1) ∈ lw_all) (hT : (TX2 k).1 = RX2) (hF : (TX2 k).2.2.2 = false) (hd : parseFieldDescriptor (TX2 k).2.2.1 = some .boolean) {x : Int32} (hw : wz_ μ k x = some μ1) (hdg : decode cc pc = .ok (.putfield index, 3))
    (kk : ∀ (H : Heap) (locs : List Loc), PM D dT h μ1 H → va_S (mA h) H0 H locs → W p l e R s m args below meth c H locs cells slots Q (F0 m (pc + 3) ls rest)) : W p l e R s m args below meth c H locs cells slots Q (F0 m pc ls (.int x :: .ref h :: rest)) := by
  obtain ⟨hz, rfl⟩ := wz_in hw
  exact gp_put (C := RX2) (T := TX2) E hK hP hS (mA_h h) (shM_h h) rfl in_X2 tyX2 tyX2_ok nmX2 k hk (E.2.2.2.2 _ hq) (fun _ z => by rw [hT] at z; exact z) hF hd (zb_nar hz) (zb_fit hz) hdg (fun H1 l1 g1 _ g2 => kk H1 l1 (PM_put hi g1) g2)
theorem m_ald (E : CallFix p m c cc nL s args lw_all RX2) (hK : va_K D nwCl (nwT dT) s) (hP : PM D dT h μ H) {k n : Nat} (hk : k < 49) (hi : mArr.contains k = true) (hn : mLen k = n) {i v : Int32} (hr : rd_ μ k n i = some v) (hdg : decode cc pc = .ok (.iaload, 1))
    (kk : W p l e R s m args below meth c H locs cells slots Q (F0 m (pc + 1) ls (.int v :: rest))) : W p l e R s m args below meth c H locs cells slots Q (F0 m pc ls (.int i :: .ref (h + mAd k) :: rest)) := by
  obtain ⟨h1, rfl⟩ := rd_in hr
  subst hn
  exact gp_iald E hK hP (shM_k hk hi) h1 (vM_e hk hi) hdg kk
theorem m_ast (E : CallFix p m c cc nL s args lw_all RX2) (hK : va_K D nwCl (nwT dT) s) (hP : PM D dT h μ H) (hS : va_S (mA h) H0 H locs) {k n : Nat} (hk : k < 49) (hi : mArr.contains k = true) (hn : mLen k = n) {i x : Int32} (hr : wr_ μ k n i x = some μ1) (hdg : decode cc pc = .ok (.iastore, 1))
    (kk : ∀ (H : Heap) (locs : List Loc), PM D dT h μ1 H → va_S (mA h) H0 H locs → W p l e R s m args below meth c H locs cells slots Q (F0 m (pc + 1) ls rest)) : W p l e R s m args below meth c H locs cells slots Q (F0 m pc ls (.int x :: .int i :: .ref (h + mAd k) :: rest)) := by
  obtain ⟨h1, rfl⟩ := wr_in hr
  subst hn
  exact gp_iast E hK hP hS (mA_k hk hi) (shM_k hk hi) h1 hdg (fun H1 l1 g1 _ g2 => kk H1 l1 (PM_ast hk hi g1) g2)
theorem m_iret (E : CallFix p m c cc nL s args lw_all RX2) (hr : meth.sig.returnType = some .int) (hlk : meth.locks = false) (hP : PM D dT h μ H) (hS : va_S (mA h) s.heap H locs) {v r : Int32} (hv : v = r) (hdg : decode cc pc = .ok (.ireturn, 1)) : W p l e R s m args below meth c H locs 0 0 (MQ below (mQi D dT h μ r) args s 0 0 (mA h)) (F0 m pc ls [.int v]) :=
  W.iret E.1 E.2.1 hr (fun t ht _ => ⟨⟨v, (), rfl, hv, by show PM D dT h μ t.heap; rw [ht]; exact hP⟩, hS.F ht⟩) hS.2.2 hdg hlk
theorem m_zret (E : CallFix p m c cc nL s args lw_all RX2) (hr : meth.sig.returnType = some .boolean) (hlk : meth.locks = false) (hP : PM D dT h μ H) (hS : va_S (mA h) s.heap H locs) {v r : Int32} (hz : zr_ v = some r) (hdg : decode cc pc = .ok (.ireturn, 1)) : W p l e R s m args below meth c H locs 0 0 (MQ below (mQi D dT h μ r) args s 0 0 (mA h)) (F0 m pc ls [.int v]) :=
  W.zret E.1 E.2.1 hr (zb_nar (zr_in hz).1) (fun t ht _ => ⟨⟨v, (), rfl, (zr_in hz).2.symm, by show PM D dT h μ t.heap; rw [ht]; exact hP⟩, hS.F ht⟩) hS.2.2 hdg hlk
theorem m_vret (E : CallFix p m c cc nL s args lw_all RX2) (hr : meth.sig.returnType = none) (hlk : meth.locks = false) (hP : PM D dT h μ H) (hS : va_S (mA h) s.heap H locs) (hdg : decode cc pc = .ok (.return_, 1)) : W p l e R s m args below meth c H locs 0 0 (MQ below (mQv D dT h μ) args s 0 0 (mA h)) (F0 m pc ls []) :=
  W.vret E.1 E.2.1 hr (fun t ht _ => ⟨⟨(), rfl, trivial, by show PM D dT h μ t.heap; rw [ht]; exact hP⟩, hS.F ht⟩) hS.2.2 hdg hlk
theorem m_blind {As : List Value} : FrameBlind (mPc D dT h μ As) := fun a U g mk q => by
  obtain ⟨q0, qP, qK⟩ := q
  exact ⟨q0, qP, va_K.moved (u := U) (U := U.calling g mk a) (Vm.Alike.refl U.vm) qK⟩
theorem m_pre (hK : va_K D nwCl (nwT dT) s) (hP : PM D dT h μ H) {As : List Value} : PreV s H RX2 h (mPc D dT h μ As) As := by
  refine ⟨m_blind, ?_, fun U hU hW => ⟨rfl, by rw [hU]; exact hP, va_K.moved hW.alike hK⟩⟩
  obtain ⟨cell, q1, q2, q3, -⟩ := hP.1 h 2 49 (shM_h h)
  exact ⟨cell, q1, by rw [q3]; rfl, by rw [q2]; exact (hK.1 2 (RX2, TX2, 49) rfl).2.1⟩
theorem m_calli (E : CallFix p m c cc nL s args lw_all RX2) (hK : va_K D nwCl (nwT dT) s) (hP : PM D dT h μ H) (hS : va_S (mA h) s.heap H locs) {d d' maxL index n : Nat} {y : MethodName} {bytes : ByteArray} {ret : Option FieldType} {As : List Value} {r : Int32} (hM : Met l y (ws_ y bytes maxL ret) (rmd d') (mPc D dT h μ As) (mQi D dT h μ1 r) 0 0 (mA h)) (hw : GoodIn lw_all (wsV RX2 index RX2 y (ws_ y bytes maxL ret))) (hd : y.cls = RX2 ∧ y.cls ≠ "java/lang/invoke/MethodHandle" ∧ y.cls ≠ "java/lang/invoke/VarHandle" ∧ (parseMethodDescriptor y.desc).map (fun d => d.parameters.length) = some n) (hlen : As.length = n) (hdd : d' < d) (hL : maxL ≤ 45) {lv : List (Nat × Value)} (hl : lv_has ls nL lv) {st : List Value} (hst : st = As.reverse ++ .ref h :: rest) (hrm : (rest.map fun v => v.category).sum ≤ 8) (hdg : decode cc pc = .ok (.invokevirtual index, 3))
    (kk : ∀ (H : Heap) (locs : List Loc), PM D dT h μ1 H → va_S (mA h) s.heap H locs → W p l e (rmd d) s m args below meth c H locs 0 0 Q (F0 m (pc + 3) ls (.int r :: rest))) : W p l e (rmd d) s m args below meth c H locs 0 0 Q (F0 m pc ls st) := by
  subst hst
  refine va_calli (va_runV (As := As) (rest := rest) E hM (cwV n E.2.2.2.2 hw rfl rfl rfl hd (rmd_ok hdd hL)) (m_pre hK hP) rfl hlen hl.1 rfl (lv_room hrm) hdg ⟨Nat.le_refl 0, Nat.le_refl 0⟩) hS (fun q _ z => z) (fun q z => z) (fun r' u t H1 locs1 ht hvm hr hB hz hk hS1 => ?_)
  subst hr
  exact kk H1 locs1 (by rw [← ht]; exact hB) hS1
theorem m_callv (E : CallFix p m c cc nL s args lw_all RX2) (hK : va_K D nwCl (nwT dT) s) (hP : PM D dT h μ H) (hS : va_S (mA h) s.heap H locs) {d d' maxL index n : Nat} {y : MethodName} {bytes : ByteArray} {ret : Option FieldType} {As : List Value} (hM : Met l y (ws_ y bytes maxL ret) (rmd d') (mPc D dT h μ As) (mQv D dT h μ1) 0 0 (mA h)) (hw : GoodIn lw_all (wsV RX2 index RX2 y (ws_ y bytes maxL ret))) (hd : y.cls = RX2 ∧ y.cls ≠ "java/lang/invoke/MethodHandle" ∧ y.cls ≠ "java/lang/invoke/VarHandle" ∧ (parseMethodDescriptor y.desc).map (fun d => d.parameters.length) = some n) (hlen : As.length = n) (hdd : d' < d) (hL : maxL ≤ 45) {lv : List (Nat × Value)} (hl : lv_has ls nL lv) {st : List Value} (hst : st = As.reverse ++ .ref h :: rest) (hrm : (rest.map fun v => v.category).sum ≤ 8) (hdg : decode cc pc = .ok (.invokevirtual index, 3))
    (kk : ∀ (H : Heap) (locs : List Loc), PM D dT h μ1 H → va_S (mA h) s.heap H locs → W p l e (rmd d) s m args below meth c H locs 0 0 Q (F0 m (pc + 3) ls rest)) : W p l e (rmd d) s m args below meth c H locs 0 0 Q (F0 m pc ls st) := by
  subst hst
  refine va_callv (va_runV (As := As) (rest := rest) E hM (cwV n E.2.2.2.2 hw rfl rfl rfl hd (rmd_ok hdd hL)) (m_pre hK hP) rfl hlen hl.1 rfl (lv_room hrm) hdg ⟨Nat.le_refl 0, Nat.le_refl 0⟩) hS (fun q _ z => z) (fun q z => z) (fun u t H1 locs1 ht hvm hr hB hz hk hS1 => ?_)
  exact kk H1 locs1 (by rw [← ht]; exact hB) hS1
/-- a method's contract out of its body's walk -/
theorem m_met {d L : Nat} {y : MethodName} {ret : Option FieldType} {As : List Value} {Qc : Array Value → State → Outcome → State → Prop} (hy : plainName y.cls = true) (hc : y.cls = RX2) (hL : (lg_sl (.ref h :: As)).length ≤ L)
    (body : ∀ (p : Program) (e : Env) (s : State) (m : MethodId) (below : List Frame) (meth : Method) (c : Code) (ls : Array Slot), CallFix p m c cc L s (.ref h :: As : List Value).toArray lw_all RX2 → va_K D nwCl (nwT dT) s → meth.sig.returnType = ret → meth.locks = false → lv_has ls L (lv_args 0 (.ref h :: As)) → PM D dT h μ s.heap → W p l e (rmd d) s m (.ref h :: As : List Value).toArray below meth c s.heap [] 0 0 (MQ below Qc (.ref h :: As : List Value).toArray s 0 0 (mA h)) (F0 m 0 ls [])) :
    Met l y (ws_ y cc L ret) (rmd d) (mPc D dT h μ As) Qc 0 0 (mA h) := by
  refine Met.ofW (cc := cc) (maxL := L) (ret := ret) hy rfl ?_
  intro p e s m args below meth c s₁ B hml hv
  obtain ⟨rfl, hP, hK⟩ := hv
  have hts := atoms_spec (ws := ws_ y cc L ret) B.pre
  have hts : ∀ w ∈ lw_all, w.before _ s = true := fun w h => hts w (List.mem_cons_of_mem _ h)
  have hown : s.vm.findClass RX2 = some m.cls := by rw [← hc]; exact findClass_of_methodNamed B.named
  have hl := lv_entry (.ref h :: As) (n := L) hL
  rw [lg_entry_eq]
  exact body p e s m below meth c _ ⟨B.exec, B.bytes, hml, hown, hts⟩ hK B.returns B.notSynchronized hl hP
end NWM
