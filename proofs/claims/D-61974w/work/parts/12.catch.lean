/-! CATCHES: the catch type may be linked by the search itself -/
section ZFIND
variable {E : CtlPost} {e : Env} {d : Bool} {acts : List Action} {s : State} {f : JFrame} {a : Addr} {Q : Handler → Pre}
theorem zgo_class {x : ExceptionTableEntry} {t : List ExceptionTableEntry} {c : ClassId} {cell : Cell} {vm' : Vm} (hx : covers x f.pc = true) (h0 : x.catchType ≠ 0)
    (hg : (resolveClass f.method.cls x.catchType).Gives e.toSetting s.vm (.ok c) vm') (hsz : vm'.classes.size ≤ s.vm.classes.size) (hcell : s.heap[a]? = some cell) (hobj : ∀ k, cell.vm ≠ .statics k)
    (hk : ∃ k, vm'.classes[cell.cls]? = some k) (hc : ∃ k, vm'.classes[c]? = some k) :
    wp (findHandler.go f a (x :: t)) Q E e d acts s ↔
      if vm'.assignable cell.cls c = true then Q (.found x.handlerPc) d acts (s.setVm vm') else wp (findHandler.go f a t) Q E e d acts (s.setVm vm') := by
  simp only [covers] at hx
  have hop : (VmOp.resolveClass f.method.cls x.catchType).answer e s.vm = .ok c ∧ (VmOp.resolveClass f.method.cls x.catchType).tables e s.vm = vm' := hg.op rfl
  have hs : wp (vmOp (.resolveClass f.method.cls x.catchType)) = wp (vmOp (.resolveClass f.method.cls x.catchType)) := rfl
  cases hfit : vm'.assignable cell.cls c <;>
    simp [findHandler.go, hx, h0, VmOp.lands_same (op := VmOp.resolveClass f.method.cls x.catchType) (e := e) (s := s) (by rw [hop.2]; exact hsz), hop, hcell, hobj, hk, hc, hfit, VmOp.dirties, VmOp.acts]
end ZFIND
def zFinds (e : Env) (s : State) (f : JFrame) (a : Addr) (h : Handler) (vm' : Vm) : Prop := ∀ (Q : Handler → Pre) (E : CtlPost) (d : Bool) (acts : List Action), wp (findHandler f a) Q E e d acts s ↔ Q h d acts (s.setVm vm')
section ZCAUGHT
variable {E : ZE} {C : ZC} {own : String} {cc : ByteArray} {p : Program} {l : Launch} {e : Env} {R : Room} {s : State} {m : MethodId} {args : Array Value} {below : List Frame} {meth : Method} {c : Code} {T : State} {locs : List Loc} {cells slots : Nat}
theorem zcaught_step {u : State} {a : Addr} {f : JFrame} {r : List Frame} {pc : Nat} {vm' : Vm} (hfind : zFinds e u f a (.found pc) vm') :
    (stepThrowing e u a (.java f :: r)).Is ((u.setVm vm').setFrames (.java { f with pc := pc, stack := [.ref a] } :: r)) [] := by
  simp only [stepThrowing, searchFrame, vmDo]
  generalize hr : Sem.go _ e false [] u = res
  obtain ⟨as, rfl, ha⟩ := Sem.eq_ok_of hr (a := Handler.found pc) (s' := u.setVm vm') (acts' := []) (by simp [hfind _ _ _ _])
  exact ⟨rfl, ha⟩
theorem zcaught (X : Stand p l e R s m args below meth c T locs cells slots) {a : Addr} {g : JFrame} (hg : g.method = m) {pc : Nat} {vm' : Vm} (hfind : zFinds e ((T.setTop g).pushFrame (.throwing a)) g a (.found pc) vm') {target : State}
    (hrest : Steps p.tables e below ((T.setVm vm').setTop { g with pc := pc, stack := [.ref a] }) target) : Steps p.tables e below ((T.setTop g).pushFrame (.throwing a)) target := by
  have h : At T g.method c below := by rw [hg]; exact X.here
  obtain ⟨hgo, hw⟩ := h.throwing a
  refine Steps.head hgo hw ?_
  rw [stepThread_throwing (frames_entered h.top _), (zcaught_step hfind).1]
  obtain ⟨g₀, hg0⟩ := Option.isSome_iff_exists.mp h.top
  obtain ⟨r, hr⟩ := State.topJava?_eq_some.mp hg0
  have hr' : (T.setVm vm').frames = .java g₀ :: r := hr
  have e1 : ((T.setTop g).pushFrame (.throwing a)).setVm vm' = ((T.setVm vm').setTop g).pushFrame (.throwing a) := by
    rw [State.pushFrame, State.pushFrame, State.setTop_of_frames _ hr, State.setTop_of_frames _ hr']
    rfl
  rw [e1, State.pushFrame, State.setFrames_setFrames, State.setTop_of_frames _ hr', State.setFrames_setFrames]
  rw [State.setTop_of_frames _ hr'] at hrest
  rw [hr]
  exact hrest
/-- one entry of the table is looked at: its class is linked -/
theorem zlook (X : Stand p l e R s m args below meth c T locs cells slots) (hown : s.vm.findClass own = some m.cls) {ct : Nat} {nm : String} (hlink : (Cond.classLink own ct nm).before args s = true) : ∃ (cT : ClassId) (vm' : Vm), s.vm.findClass nm = some cT ∧ (resolveClass m.cls ct).Gives e.toSetting T.vm (.ok cT) vm' ∧ s.WarmedH vm' := by
  have hpl : e.platform.magicAccessors = ({} : Platform).magicAccessors := by rw [X.admits.platform]
  obtain ⟨cT, hf, hcl⟩ := Cond.classLink_spec hown hlink e.platform hpl
  obtain ⟨hg, hw, -⟩ := State.classEntry (e := e) X.warmed hcl
  exact ⟨cT, _, hf, hg, hw⟩
theorem zfound1 (X : Stand p l e R s m args below meth c T locs cells slots) (hown : s.vm.findClass own = some m.cls) {g : JFrame} (hg : g.method = m) {a : Addr} {ce : Cell} (hce : T.heap[a]? = some ce) (hst : ce.vm.isStatics = false) {nm : String} (hfc : s.vm.findClass nm = some ce.cls)
    {en : ExceptionTableEntry} {rest : List ExceptionTableEntry} (htab : c.exceptionTable.toList = en :: rest) (hcov : covers en g.pc = true) (h0 : en.catchType ≠ 0) (hlink : (Cond.classLink own en.catchType nm).before args s = true) :
    ∃ vm', s.WarmedH vm' ∧ zFinds e ((T.setTop g).pushFrame (.throwing a)) g a (.found en.handlerPc) vm' := by
  obtain ⟨cT, vm', f1, f2, f3⟩ := zlook X hown hlink
  cases hfc.symm.trans f1
  have hal := f3.alike
  obtain ⟨kC, hkC⟩ := Vm.classAt_of_findClass (show vm'.findClass nm = some ce.cls by rw [hal.findClass]; exact hfc)
  refine ⟨vm', f3, fun Q E d acts => ?_⟩
  rw [W.findHandler_eq (meth := meth) (code := c) (by rw [Stand.throwing_vm, hg]; exact X.method') X.code, htab, zgo_class hcov h0 (by rw [Stand.throwing_vm, hg]; exact f2) (by rw [Stand.throwing_vm, hal.2.1, X.warmed.alike.2.1]; exact Nat.le_refl _) (by rw [Stand.throwing_heap]; exact hce) (VmData.ne_statics_of hst) ⟨kC, hkC⟩ ⟨kC, hkC⟩, if_pos (zassign vm' ce.cls)]
theorem zfound2 (X : Stand p l e R s m args below meth c T locs cells slots) (hown : s.vm.findClass own = some m.cls) {g : JFrame} (hg : g.method = m) {a : Addr} {ce : Cell} (hce : T.heap[a]? = some ce) (hst : ce.vm.isStatics = false) {nm nm1 : String} (hfc : s.vm.findClass nm = some ce.cls) (hno : va_Nc nm nm1 s)
    {en1 en : ExceptionTableEntry} {rest : List ExceptionTableEntry} (htab : c.exceptionTable.toList = en1 :: en :: rest) (hcov1 : covers en1 g.pc = true) (h01 : en1.catchType ≠ 0) (hlink1 : (Cond.classLink own en1.catchType nm1).before args s = true) (hcov : covers en g.pc = true) (h0 : en.catchType ≠ 0) (hlink : (Cond.classLink own en.catchType nm).before args s = true) :
    ∃ vm', s.WarmedH vm' ∧ zFinds e ((T.setTop g).pushFrame (.throwing a)) g a (.found en.handlerPc) vm' := by
  obtain ⟨c1, v1, f1, f2, f3⟩ := zlook X hown hlink1
  have X1 := X.noted f3
  obtain ⟨cT, vm', g1, g2, g3⟩ := zlook X1 hown hlink
  cases hfc.symm.trans g1
  have hal1 := f3.alike
  have hal := g3.alike
  obtain ⟨kC, hkC⟩ := Vm.classAt_of_findClass (show vm'.findClass nm = some ce.cls by rw [hal.findClass]; exact hfc)
  obtain ⟨kC1, hkC1⟩ := Vm.classAt_of_findClass (show v1.findClass nm = some ce.cls by rw [hal1.findClass]; exact hfc)
  obtain ⟨kN1, hkN1⟩ := Vm.classAt_of_findClass (show v1.findClass nm1 = some c1 by rw [hal1.findClass]; exact f1)
  obtain ⟨x1, x2, n1, n2, n3⟩ := hno
  cases hfc.symm.trans n1
  cases f1.symm.trans n2
  have hna : ¬ v1.assignable ce.cls c1 = true := by rw [hal1.assignable, n3]; decide
  refine ⟨vm', g3, fun Q E d acts => ?_⟩
  rw [W.findHandler_eq (meth := meth) (code := c) (by rw [Stand.throwing_vm, hg]; exact X.method') X.code, htab, zgo_class hcov1 h01 (by rw [Stand.throwing_vm, hg]; exact f2) (by rw [Stand.throwing_vm, hal1.2.1, X.warmed.alike.2.1]; exact Nat.le_refl _) (by rw [Stand.throwing_heap]; exact hce) (VmData.ne_statics_of hst) ⟨kC1, hkC1⟩ ⟨kN1, hkN1⟩, if_neg hna,
    zgo_class hcov h0 (by rw [hg]; exact g2) (by show vm'.classes.size ≤ v1.classes.size; rw [hal.2.1, hal1.2.1]; exact Nat.le_refl _) (by show ((T.setTop g).pushFrame (.throwing a)).heap[a]? = _; rw [Stand.throwing_heap]; exact hce) (VmData.ne_statics_of hst) ⟨kC, hkC⟩ ⟨kC, hkC⟩, if_pos (zassign vm' ce.cls)]
  rfl
theorem zjunk {E : ZE} {L L' : Array Slot} {vs : List ZV} {i : Nat} {x : Value} (h : zLR E L vs) (hi : i < vs.length) (h' : lv_has L' vs.length ((i, x) :: (zpl E vs).filter (fun q => !(q.1 == i) && !(q.1 + 1 == i && q.2.category == 2)))) : zLR E L' (vs.set i (2, 0)) := by
  refine ⟨⟨by rw [List.length_set]; exact h'.1, h'.2.1, fun q hq => ?_⟩, fun w hw => ?_⟩
  · obtain ⟨j, y⟩ := q
    obtain ⟨w, hw, h2, rfl⟩ := zpl_mem.mp hq
    by_cases e : i = j
    · subst e
      rw [List.getElem?_set_self hi] at hw
      cases hw
      exact absurd rfl h2
    · rw [List.getElem?_set_ne e] at hw
      refine h'.2.2 (j, zcv E w) (List.mem_cons_of_mem _ (List.mem_filter.mpr ⟨zpl_mem.mpr ⟨w, hw, h2, rfl⟩, ?_⟩))
      have hcat := zcv_cat E w (h.2 w (List.mem_of_getElem? hw))
      have e' : ¬ j = i := fun q => e q.symm
      simp [hcat, e']
  · rcases List.mem_or_eq_of_mem_set hw with h1 | h1
    · exact h.2 w h1
    · rw [h1]; decide
/-- the handler's own store -/
def zHst (C : ZC) (hpc h j : Nat) : Prop := (∃ k : Fin 4, C.1 hpc = some (.astore_n k, 1) ∧ k.val = j ∧ h = hpc + 1) ∨ (C.1 hpc = some (.astore j, 2) ∧ h = hpc + 2)
theorem zhandled (hx : p.tables.exec = Jvm.exec) (hb : c.code = cc) (hC : zCode C cc) {Q : State → Prop} {L : Array Slot} {vs : List ZV} {stk : List Value} {a : Addr} {pc hpc h j : Nat} {vm' : Vm} (X : Stand p l e R s m args below meth c T locs cells slots) (hL : zLR E L vs) (hj : j < vs.length) (hs : zHst C hpc h j) (hW : s.WarmedH vm')
    (hfind : zFinds e ((T.setTop (F0 m pc L stk)).pushFrame (.throwing a)) (F0 m pc L stk) a (.found hpc) vm') (hk : ∀ L', zLR E L' (vs.set j (2, 0)) → W p l e R s m args below meth c T.heap locs cells slots Q (F0 m h L' [])) : ∃ t, Steps p.tables e below ((T.setTop (F0 m pc L stk)).pushFrame (.throwing a)) t ∧ Q t := by
  have K : W p l e R s m args below meth c T.heap locs cells slots Q (F0 m hpc L [.ref a]) := by
    rcases hs with ⟨k, hk1, rfl, rfl⟩ | ⟨hk1, rfl⟩
    · obtain ⟨hd, -⟩ := hC _ _ _ hk1
      refine lv_astore_n hx hb hd rfl hL.1 hj rfl (fun L' h' => hk L' ?_)
      exact zjunk hL hj h'
    · obtain ⟨hd, -⟩ := hC _ _ _ hk1
      refine lv_astore hx hb hd hL.1 hj rfl (fun L' h' => hk L' ?_)
      exact zjunk hL hj h'
  obtain ⟨t, b1, b2⟩ := K (T.setVm vm') rfl (X.noted hW)
  exact ⟨t, zcaught X rfl hfind b1, b2⟩
end ZCAUGHT
