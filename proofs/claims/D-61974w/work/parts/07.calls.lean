/-! CONTRACTS; RETURNS; CALLS -/
def zrv (E : ZE) (rt : Nat) (v : Int) : Option Value := if rt = 0 then none else if rt < 4 then some (.int (Int32.ofInt v)) else some (.ref (E.1 rt v))
/-- what a method's end is: G: the exceptions that were left at its start -/
def zQX (E : ZE) (rt G : Nat) (r : ZR) (st : State) (o : Outcome) (t : State) : Prop :=
  (r.1 = 0 → o = .returned (zrv E rt r.2.1) ∧ (4 ≤ rt → zok rt r.2.1)) ∧ (∀ x, r.1 = x + 1 → ∃ (a : Addr) (ce : Cell), o = .threw a ∧ t.heap[a]? = some ce ∧ ce.vm.isStatics = false ∧ st.vm.findClass (zexn x) = some ce.cls) ∧ zHH E r.2.2 t.heap ∧ gh r.2.2 ≤ G ∧
  ∃ L, st.WarmedH t.vm ∧ st.sameButNew ({ t with vm := st.vm } : State) L (G - gh r.2.2) (6 * (G - gh r.2.2)) ∧ ∀ q ∈ L, E.2.2.2.size ≤ q.base
def zFin (E : ZE) (rt G : Nat) (below : List Frame) (s : State) (r : ZR) (t : State) : Prop := ∃ o, t.status = .running ∧ Ended t below o ∧ zQX E rt G r s o t
def zroom (d g : Nat) : Room := { frames := 8 + d, cells := g, slots := 6 * g, locals := 100 + 40 * d }
/-- a method's contract by its function -/
def zMet (E : ZE) (l : Launch) (y : MethodName) (w0 : Cond) (d rt : Nat) (f : List ZV → ZT → Option ZR) : Prop := ∀ (as : List ZV) (σ : ZT) (r : ZR), f as σ = some r → zvs as → MetFree l y (headSpec (w0 :: zTT) (zroom d (gh σ))) (fun a U => a = (as.map (zcv E)).toArray ∧ zHH E σ U.heap ∧ zKK E U) (fun _ _ _ _ _ => True) (fun _ st o t => zQX E rt (gh σ) r st o t)
theorem zKK.moved {E : ZE} {u U : State} (hvm : u.vm.Alike U.vm) (h : zKK E u) : zKK E U := by
  obtain ⟨h1, h2, h3, h4, h5⟩ := h
  have st : ∀ {n d : String}, zSt E n d u → zSt E n d U := by
    intro n d hs
    obtain ⟨cf, kf, fi, f, a, cell, v, g0, g1, g2, g3, g4, g5⟩ := hs
    obtain ⟨k', g6, g7⟩ := State.fieldFound?_setVm hvm g1
    exact ⟨cf, k', fi, f, a, cell, v, by rw [hvm.findClass]; exact g0, g6, g2, by rw [g7]; exact g3, by rw [g7]; exact g4, g5⟩
  refine ⟨fun k hk => u_Kn_moved hvm (h1 k hk), fun k hk => ?_, st h3, st h4, fun e e' a b c => ?_⟩
  · obtain ⟨kA, comp, g1, g2, g3⟩ := h2 k hk
    obtain ⟨k', g4, g5⟩ := hvm.2.2 _ _ g1
    exact ⟨k', comp, g4, by rw [g5]; exact g2, fun q => by rw [hvm.findClass]; exact g3 q⟩
  · exact (h5 e e' a b c).moved hvm
/-- what goes on behind a step: the state that it comes to, or the end -/
def zThen (E : ZE) (G rt : Nat) (p : Program) (l : Launch) (e : Env) (R : Room) (s : State) (m : MethodId) (args : Array Value) (below : List Frame) (meth : Method) (c : Code) (Q : State → Prop) (z : ZS ⊕ ZR) : Prop := match z with
  | .inl y => zW E G p l e R s m args below meth c Q y
  | .inr r => ∀ t, zFin E rt G below s r t → Q t
def zRt (rt : Nat) (ret : Option FieldType) : Prop := (rt = 0 → ret = none) ∧ (rt = 1 → ret = some .int) ∧ (rt = 2 → ret = some .boolean) ∧ (rt = 3 → ret = some .byte) ∧ (4 ≤ rt → ∃ n, ret = some (.object n))
section ZRET
variable {E : ZE} {C : ZC} {own : String} {cc : ByteArray} {G : Nat} {p : Program} {l : Launch} {e : Env} {R : Room} {s : State} {m : MethodId} {args : Array Value} {below : List Frame} {meth : Method} {c : Code} {Q : State → Prop} {pc n : Nat} {ls st : List ZV} {σ : ZT} {z : ZS ⊕ ZR}
theorem W.mono {H : Heap} {locs : List Loc} {cells slots : Nat} {Q' : State → Prop} {g : JFrame} (h : W p l e R s m args below meth c H locs cells slots Q' g) (hQ : ∀ t, Q' t → Q t) : W p l e R s m args below meth c H locs cells slots Q g := fun T hT X => by
  obtain ⟨t, a, b⟩ := h T hT X
  exact ⟨t, a, hQ t b⟩
theorem zfin_of {H : Heap} {locs : List Loc} {cells slots rt : Nat} {L : Array Slot} {v : Int} {t : State} (hR : zRel E G (pc, ls, st, σ) H locs cells slots L) (hv : 4 ≤ rt → zok rt v)
    (h : MQ below (fun _ _ o t => o = .returned (zrv E rt v) ∧ t.heap = H) args s cells slots (fun q => E.2.2.2.size ≤ q) t) : zFin E rt G below s (0, v, σ) t := by
  obtain ⟨o, h1, h2, ⟨rfl, h3⟩, L', ⟨-, h4, h5⟩, h6⟩ := h
  have g1 : cells + gh σ ≤ G := hR.2.2.2.2.2.1
  have g2 : slots + 6 * gh σ ≤ 6 * G := hR.2.2.2.2.2.2
  refine ⟨_, h1, h2, fun _ => ⟨rfl, hv⟩, fun x hx => (by cases hx), by rw [h3]; exact hR.1, by show gh σ ≤ G; omega, L', h4, h5.weaken (fun y hy _ => hy) (by show cells ≤ G - gh σ; omega) (by show slots ≤ 6 * (G - gh σ); omega), h6⟩
theorem zs_ireturn (X : zCx E C own cc p s m args c) (hl : meth.locks = false) (hr : zRt C.2.2.2.2.2.1 meth.sig.returnType) (hq : C.1 pc = some (.ireturn, n)) (hz : (z1 st fun a r => zend r (zret C.2.2.2.2.2.1 a (some (Sum.inr (α := ZS) (0, a, σ))))) = some z) (hy : zThen E G C.2.2.2.2.2.1 p l e R s m args below meth c Q z) : zW E G p l e R s m args below meth c Q (pc, ls, st, σ) := by
  obtain ⟨hV, hx, hb, hown, hts, hK, hC⟩ := X
  obtain ⟨hd, hw⟩ := hC pc _ _ hq
  have hn : n = 1 := by simpa [zwf] using hw
  subst hn
  obtain ⟨a, r, hst, hz1⟩ := z1_inv hz
  subst hst
  intro H locs cells slots L hR
  unfold zend at hz1
  split at hz1
  · generalize hrt : C.2.2.2.2.2.1 = rt at hz1 hr hy
    unfold zret at hz1
    split at hz1
    · cases hz1
      exact W.mono (W.iret (Qc := fun _ _ o t => o = .returned (zrv E 1 a) ∧ t.heap = H) (free := fun q => E.2.2.2.size ≤ q) hx hb (hr.2.1 rfl) (fun t ht _ => ⟨rfl, ht⟩) hR.2.2.2.2.1 hd hl) (fun t ht => hy t (zfin_of hR (fun h => absurd h (by decide)) ht))
    · obtain ⟨h01, hz2⟩ := zif_inv hz1
      cases hz2
      exact W.mono (W.zret (Qc := fun _ _ o t => o = .returned (zrv E 2 a) ∧ t.heap = H) (free := fun q => E.2.2.2.size ≤ q) hx hb (hr.2.2.1 rfl) (zI_fitZ h01).2 (fun t ht _ => ⟨rfl, ht⟩) hR.2.2.2.2.1 hd hl) (fun t ht => hy t (zfin_of hR (fun h => absurd h (by decide)) ht))
    · obtain ⟨h01, hz2⟩ := zif_inv hz1
      cases hz2
      exact W.mono (W.zret (Qc := fun _ _ o t => o = .returned (zrv E 3 a) ∧ t.heap = H) (free := fun q => E.2.2.2.size ≤ q) hx hb (hr.2.2.2.1 rfl) (by rw [zI_narB, znb_id h01.1 h01.2]) (fun t ht _ => ⟨rfl, ht⟩) hR.2.2.2.2.1 hd hl) (fun t ht => hy t (zfin_of hR (fun h => absurd h (by decide)) ht))
    · cases hz1
  · cases hz1
theorem zs_areturn (X : zCx E C own cc p s m args c) (hl : meth.locks = false) (hr : zRt C.2.2.2.2.2.1 meth.sig.returnType) (hq : C.1 pc = some (.areturn, n)) (hz : (zr1 st fun t i r => zend r (if t = C.2.2.2.2.2.1 then some (Sum.inr (α := ZS) (0, i, σ)) else none)) = some z) (hy : zThen E G C.2.2.2.2.2.1 p l e R s m args below meth c Q z) : zW E G p l e R s m args below meth c Q (pc, ls, st, σ) := by
  obtain ⟨hV, hx, hb, hown, hts, hK, hC⟩ := X
  obtain ⟨hd, hw⟩ := hC pc _ _ hq
  have hn : n = 1 := by simpa [zwf] using hw
  subst hn
  obtain ⟨t, i, r, hst, ht, hz1⟩ := zr1_inv hz
  subst hst
  intro H locs cells slots L hR
  unfold zend at hz1
  split at hz1
  · generalize hrt : C.2.2.2.2.2.1 = rt at hz1 hr hy
    obtain ⟨h01, hz2⟩ := zif_inv hz1
    cases hz2
    subst h01
    obtain ⟨nm, hnm⟩ := hr.2.2.2.2 ht
    have hzr : zrv E t i = some (.ref (E.1 t i)) := by
      unfold zrv
      rw [if_neg (by omega), if_neg (by omega)]
    simp only [List.map_cons, List.map_nil, zcv_r E i ht]
    exact W.mono (W.aret (Qc := fun _ _ o u => o = .returned (zrv E t i) ∧ u.heap = H) (free := fun q => E.2.2.2.size ≤ q) hx hb hnm (Or.inl ⟨nm, rfl⟩) (Or.inr ⟨_, rfl⟩) (fun u hu _ => ⟨by rw [hzr], hu⟩) hR.2.2.2.2.1 hd hl) (fun u hu => hy u (zfin_of hR (fun _ => hR.2.2.2.1.hd ht) hu))
  · cases hz1
theorem zs_return (X : zCx E C own cc p s m args c) (hl : meth.locks = false) (hr : zRt C.2.2.2.2.2.1 meth.sig.returnType) (hq : C.1 pc = some (.return_, n)) (hz : zend st (if C.2.2.2.2.2.1 = 0 then some (Sum.inr (α := ZS) (0, 0, σ)) else none) = some z) (hy : zThen E G C.2.2.2.2.2.1 p l e R s m args below meth c Q z) : zW E G p l e R s m args below meth c Q (pc, ls, st, σ) := by
  obtain ⟨hV, hx, hb, hown, hts, hK, hC⟩ := X
  obtain ⟨hd, hw⟩ := hC pc _ _ hq
  have hn : n = 1 := by simpa [zwf] using hw
  subst hn
  intro H locs cells slots L hR
  unfold zend at hz
  split at hz
  · generalize hrt : C.2.2.2.2.2.1 = rt at hz hr hy
    obtain ⟨h01, hz2⟩ := zif_inv hz
    cases hz2
    subst h01
    exact W.mono (W.vret (Qc := fun _ _ o t => o = .returned (zrv E 0 0) ∧ t.heap = H) (free := fun q => E.2.2.2.size ≤ q) hx hb (hr.1 rfl) (fun t ht _ => ⟨rfl, ht⟩) hR.2.2.2.2.1 hd hl) (fun t ht => hy t (zfin_of hR (fun h => absurd h (by decide)) ht))
  · cases hz
end ZRET
section ZCALL
variable {E : ZE} {C : ZC} {own : String} {cc : ByteArray} {G d : Nat} {p : Program} {l : Launch} {e : Env} {R : Room} {s : State} {m : MethodId} {args : Array Value} {below : List Frame} {meth : Method} {c : Code} {Q : State → Prop} {pc n : Nat} {ls st : List ZV} {σ : ZT} {z : ZS ⊕ ZR}
/-- the callee runs, from the frame g over which it is invoked -/
theorem zcore {U : State} {locs : List Loc} {cells slots : Nat} (X : Stand p l e R s m args below meth c U locs cells slots) {g : JFrame} (hg : g.method = m) (hsize : g.locals.size = c.maxLocals) {ig : Instr} {len : Nat} (hdg : decode c.code g.pc = .ok (ig, len)) (hW : 2 * g.monitorRoom + (g.stack.map fun v => v.category).sum ≤ 8)
    {y : MethodName} {w0 : Cond} {d' rt maxL : Nat} {f : List ZV → ZT → Option ZR} {as : List ZV} {r : ZR} (hM : zMet E l y w0 d' rt f) (hf : f as σ = some r) (hv : zvs as) {mk : MethodId} (hn : U.methodNamed? y = some mk) (hw0 : w0.before (as.map (zcv E)).toArray U = true) (hts : ∀ w ∈ zTT, w.before (as.map (zcv E)).toArray U = true)
    (hini : (Cond.initialized y.cls).before (as.map (zcv E)).toArray U = true) (hY : ∃ methY cY, U.vm.method? mk = some methY ∧ methY.code = some cY ∧ cY.maxLocals = maxL) (hmax : maxL ≤ 20) (hRf : 8 + d' + 1 ≤ R.frames) (hRl : 100 + 40 * d' + 40 ≤ R.locals) (hRc : cells + gh σ ≤ R.cells) (hRs : slots + 6 * gh σ ≤ R.slots) (hH : zHH E σ U.heap) (hK : zKK E U) :
    ∃ o s₂, Steps p.tables e below (doInvoke e (U.setTop g) [] mk (as.map (zcv E)).toArray).1 s₂ ∧ Ended s₂ (.java g :: below) o ∧ zQX E rt (gh σ) r (U.calling g mk (as.map (zcv E)).toArray) o s₂ := by
  obtain ⟨methY, cY, hmY, hcY, hlY⟩ := hY
  obtain ⟨kY, hkY, -⟩ := className_of_methodNamed hn
  have hinitY : kY.init = .initialized := Cond.initialized_spec (findClass_of_methodNamed hn) hkY hini
  have h : At U g.method c below := by rw [hg]; exact X.here
  have hpre : (headSpec (w0 :: zTT) (zroom d' (gh σ))).pre.before (as.map (zcv E)).toArray U = true := atoms_intro fun w hw => by
    rcases List.mem_cons.mp hw with rfl | h1
    · exact hw0
    · exact hts w h1
  have happ : (headSpec (w0 :: zTT) (zroom d' (gh σ))).appliesLoose y e.platform (U.calling g mk (as.map (zcv E)).toArray) = true :=
    Spec.appliesLoose_calling (g := g) h hdg hn hkY hinitY
      (X.room_calling (g := g) (R' := zroom d' (gh σ)) hsize hmY hcY hRf (by rw [hlY]; show _ + (100 + 40 * d') ≤ _; omega) hRc hRs) hpre
  obtain ⟨mid, hmid⟩ := h.above
  have hfr : (U.setTop g).frames = (.java g :: mid) ++ below := by rw [State.frames_setTop' g h.top, hmid]; rfl
  obtain ⟨o, s₂, hsteps, -, hend, hq⟩ := Steps.callFree (hM as σ r hf hv) p X.admits X.cas X.clock (acts := []) hfr happ ⟨rfl, hH, hK⟩ trivial
  rw [State.frames_setTop' g h.top, X.tail] at hend
  exact ⟨o, s₂, hsteps, hend, hq⟩
/-- an exception that nobody here catches -/
def zLeave (C : ZC) (c : Code) : Prop := ∀ (pc x : Nat), C.2.2.2.2.1 pc x = none → ∀ h ∈ c.exceptionTable.toList, covers h pc = false
/-- an exception that is caught here: the machine goes on behind the handler's store -/
def zCatch (E : ZE) (C : ZC) (p : Program) (l : Launch) (e : Env) (R : Room) (s : State) (m : MethodId) (args : Array Value) (below : List Frame) (meth : Method) (c : Code) : Prop := ∀ (pc x h j : Nat), C.2.2.2.2.1 pc x = some (h, j) → ∀ (T : State) (locs : List Loc) (cells slots : Nat) (L : Array Slot) (vs : List ZV) (stk : List Value) (a : Addr) (ce : Cell) (Q : State → Prop), Stand p l e R s m args below meth c T locs cells slots → zLR E L vs → j < vs.length → vs.length = c.maxLocals → T.heap[a]? = some ce → ce.vm.isStatics = false → s.vm.findClass (zexn x) = some ce.cls → (∀ L', zLR E L' (vs.set j (2, 0)) → W p l e R s m args below meth c T.heap locs cells slots Q (F0 m h L' [])) → ∃ t, Steps p.tables e below ((T.setTop (F0 m pc L stk)).pushFrame (.throwing a)) t ∧ Q t
/-- behind the callee -/
theorem zback (hl : meth.locks = false) (hV : zLeave C c) (hC : zCatch E C p l e R s m args below meth c) {ix : Instr} {rt' rt : Nat} {U : State} {H : Heap} {locs : List Loc} {cells slots : Nat} {L : Array Slot} {rest : List ZV} {r : ZR} {o : Outcome} {s₂ : State} {mk : MethodId} {a : Array Value}
    (X : Stand p l e R s m args below meth c U locs cells slots) (hUH : U.heap = H) (hdg : decode c.code pc = .ok (ix, 3)) (hR : zRel E G (pc, ls, st, σ) H locs cells slots L) (hrs : zvs rest) (hnl : ls.length = c.maxLocals)
    (hend : Ended s₂ (.java (F0 m pc L (rest.map (zcv E))) :: below) o) (hq : zQX E rt' (gh σ) r (U.calling (F0 m pc L (rest.map (zcv E))) mk a) o s₂)
    (hz : zcall (some r) (fun v τ => some (Sum.inl (β := ZR) (pc + 3, ls, zpush (if rt' = 0 then 2 else if rt' < 4 then 0 else rt') v rest, τ))) (fun x τ => zhd (C.2.2.2.2.1 pc x) (fun hj => zset ls hj.2 (2, 0) fun l => some (Sum.inl (hj.1, l, [], τ))) (some (Sum.inr (x + 1, 0, τ)))) = some z)
    (hy : zThen E G rt p l e R s m args below meth c Q z) : ∃ t, Steps p.tables e below s₂ t ∧ Q t := by
  obtain ⟨h1, h2, h3, h4, L', h5, h6, h7⟩ := hq
  obtain ⟨x, v, τ⟩ := r
  have hc : cells + gh σ ≤ G := hR.2.2.2.2.2.1
  have hsl : slots + 6 * gh σ ≤ 6 * G := hR.2.2.2.2.2.2
  have h4 : gh τ ≤ gh σ := h4
  have hlocs : ∀ q ∈ locs ++ L', E.2.2.2.size ≤ q.base := fun q hq => by
    rcases List.mem_append.mp hq with h | h
    · exact hR.2.2.2.2.1 q h
    · exact h7 q h
  cases x with
  | zero =>
    have hz : some (Sum.inl (β := ZR) (pc + 3, ls, zpush (if rt' = 0 then 2 else if rt' < 4 then 0 else rt') v rest, τ)) = some z := hz
    cases hz
    obtain ⟨rfl, hok⟩ := h1 rfl
    obtain ⟨T', X', hW', -, hs₂⟩ := X.outOf (g := F0 m pc L (rest.map (zcv E))) rfl hdg hend h5 h6
    have hheap : s₂.heap = T'.heap := by rw [hs₂]; rfl
    have hst : (zrv E rt' v).toList ++ rest.map (zcv E) = (zpush (if rt' = 0 then 2 else if rt' < 4 then 0 else rt') v rest).map (zcv E) := by
      unfold zrv zpush
      by_cases a0 : rt' = 0
      · rw [if_pos a0, if_pos a0, if_pos rfl]; rfl
      · rw [if_neg a0, if_neg a0]
        by_cases a1 : rt' < 4
        · rw [if_pos a1, if_pos a1, if_neg (by decide)]; rfl
        · rw [if_neg a1, if_neg a1, if_neg (by omega), List.map_cons, zcv_r E v (by omega)]; rfl
    have hvd : zvs (zpush (if rt' = 0 then 2 else if rt' < 4 then 0 else rt') v rest) := by
      unfold zpush
      by_cases a0 : rt' = 0
      · rw [if_pos a0, if_pos rfl]; exact hrs
      · rw [if_neg a0]
        by_cases a1 : rt' < 4
        · rw [if_pos a1, if_neg (by decide)]; exact hrs.cons (zvd_i v)
        · rw [if_neg a1, if_neg (by omega)]; exact hrs.cons (fun q => hok q)
    have h3 : zHH E τ s₂.heap := h3
    rw [hheap] at h3
    obtain ⟨t, b1, b2⟩ := hy T'.heap (locs ++ L') _ _ L ⟨h3, hR.2.1, hR.2.2.1, hvd, hlocs, by show cells + (gh σ - gh τ) + gh τ ≤ G; omega, by show slots + 6 * (gh σ - gh τ) + 6 * gh τ ≤ 6 * G; omega⟩ T' rfl X'
    rw [hs₂]
    refine ⟨t, ?_, b2⟩
    show Steps p.tables e below (T'.setTop (F0 m (pc + 3) L ((zrv E rt' v).toList ++ rest.map (zcv E)))) t
    rw [hst]
    exact b1
  | succ x =>
    obtain ⟨ad, ce, rfl, he1, he2, he3⟩ := h2 x rfl
    obtain ⟨T', X', hW', -, hs₂⟩ := X.outOfThrown (g := F0 m pc L (rest.map (zcv E))) rfl hend h5 h6
    have hheap : s₂.heap = T'.heap := by rw [hs₂]; exact Stand.throwing_heap _ _ _
    have h3 : zHH E τ s₂.heap := h3
    rw [hheap] at h3 he1
    have he3 : s.vm.findClass (zexn x) = some ce.cls := by
      rw [← X.warmed.alike.findClass]
      exact he3
    have hz : zhd (C.2.2.2.2.1 pc x) (fun hj => zset ls hj.2 (2, 0) fun l => some (Sum.inl (β := ZR) (hj.1, l, [], τ))) (some (Sum.inr (x + 1, 0, τ))) = some z := hz
    cases hh : C.2.2.2.2.1 pc x with
    | none =>
      rw [hh] at hz
      have hz : some (Sum.inr (α := ZS) (x + 1, 0, τ)) = some z := hz
      cases hz
      obtain ⟨g1, g2, g3, g4, g5⟩ := X'.leaveThrown ad (g := F0 m pc L (rest.map (zcv E))) rfl rfl rfl (hV pc x hh) hl
      rw [hs₂]
      refine ⟨_, g1, hy _ ⟨_, g2, g3, fun q => (by cases q), fun x' hx' => ?_, h3, by show gh τ ≤ G; omega, _, g4, g5.weaken (fun y hy _ => hy) (by show cells + (gh σ - gh τ) ≤ G - gh τ; omega) (by show slots + 6 * (gh σ - gh τ) ≤ 6 * (G - gh τ); omega), hlocs⟩⟩
      have : x' = x := by have hx' : x + 1 = x' + 1 := hx'; omega
      subst this
      exact ⟨ad, ce, rfl, he1, he2, he3⟩
    | some hj =>
      obtain ⟨h, j⟩ := hj
      rw [hh] at hz
      have hz : (zset ls j (2, 0) fun l => some (Sum.inl (β := ZR) (h, l, [], τ))) = some z := hz
      obtain ⟨hj, hz⟩ := zset_inv hz
      cases hz
      rw [hs₂]
      refine hC pc x h j hh T' _ _ _ L ls _ ad ce Q X' hR.2.1 hj hnl he1 he2 he3 (fun L2 hL2 => ?_)
      exact hy T'.heap (locs ++ L') _ _ L2 ⟨h3, hL2, hR.2.2.1.set (zvd_u 0), fun v hv => (by cases hv), hlocs, by show cells + (gh σ - gh τ) + gh τ ≤ G; omega, by show slots + 6 * (gh σ - gh τ) + 6 * gh τ ≤ 6 * G; omega⟩
def zrtag (rt : Nat) : Nat := if rt = 0 then 2 else if rt < 4 then 0 else rt
/-- a callee that an invokevirtual of the class own reaches -/
def zVirt (E : ZE) (l : Launch) (own : String) (d ix n t : Nat) (f : List ZV → ZT → Option ZR) : Prop := ∃ (y : MethodName) (k maxL d' rt : Nat) (bytes : ByteArray) (ret : Option FieldType), zobj k = true ∧ Cond.methodLink own ix y ∈ zTT ∧ Cond.instanceMethod y ∈ zTT ∧ Cond.selects (zcl k).1 y y ∈ zTT ∧ Cond.code y bytes maxL ret ∈ zTT ∧ Cond.initialized y.cls ∈ zTT ∧
  (y.cls ≠ "java/lang/invoke/MethodHandle" ∧ y.cls ≠ "java/lang/invoke/VarHandle") ∧ (∀ sig, parseMethodDescriptor y.desc = some sig → n = sig.parameters.length + 1) ∧ maxL ≤ 20 ∧ d' < d ∧ t = zrtag rt ∧ (∀ as σ r, f as σ = some r → ∃ i as', as = (k, i) :: as') ∧ zMet E l y (.code y bytes maxL ret) d' rt f
/-- a callee that an invokestatic reaches -/
def zStat (E : ZE) (l : Launch) (own : String) (d ix n t : Nat) (f : List ZV → ZT → Option ZR) : Prop := ∃ (y : MethodName) (maxL d' rt : Nat) (bytes : ByteArray) (ret : Option FieldType) (w0 : Cond), (w0 = .code y bytes maxL ret ∨ ∃ hh, w0 = .codeWith y bytes maxL ret hh) ∧ Cond.methodLink own ix y ∈ zTT ∧ Cond.static y ∈ zTT ∧ w0 ∈ zTT ∧ Cond.initialized y.cls ∈ zTT ∧
  (y.cls ≠ "java/lang/invoke/MethodHandle" ∧ y.cls ≠ "java/lang/invoke/VarHandle") ∧ (∀ sig, parseMethodDescriptor y.desc = some sig → n = sig.parameters.length) ∧ maxL ≤ 20 ∧ d' < d ∧ t = zrtag rt ∧ zMet E l y w0 d' rt f
theorem zsumcat (rest : List ZV) (h : rest.length ≤ 4) : ((rest.map (zcv E)).map fun v => v.category).sum ≤ 8 := by
  have key : ∀ r : List ZV, ((r.map (zcv E)).map fun v => v.category).sum ≤ 2 * r.length := by
    intro r
    induction r with
    | nil => exact Nat.le_refl _
    | cons v r ih =>
      have := zcv_cat2 E v
      simp only [List.map_cons, List.sum_cons, List.length_cons]
      omega
  have := key rest
  omega
theorem ztakerev (st : List ZV) (n : Nat) : ((st.take n).reverse.map (zcv E)).reverse ++ (st.drop n).map (zcv E) = st.map (zcv E) := by
  rw [List.map_reverse, List.reverse_reverse, ← List.map_append, List.take_append_drop]
theorem zvs.rev {st : List ZV} (h : zvs st) (n : Nat) : zvs (st.take n).reverse := fun v hv => h v (List.mem_of_mem_take (List.mem_reverse.mp hv))
theorem zvs.drop {st : List ZV} (h : zvs st) (n : Nat) : zvs (st.drop n) := fun v hv => h v (List.mem_of_mem_drop hv)
/-- a call's end in the abstract machine -/
def zinv {ρ : Type} (C : ZC) (pc : Nat) (ls st : List ZV) (σ : ZT) (K : ZS → Option ρ) (F : ZR → Option ρ) (c : Nat × Nat × (List ZV → ZT → Option ZR)) : Option ρ := if c.1 ≤ st.length ∧ (st.drop c.1).length ≤ 4 ∧ ls.length = C.2.2.2.2.2.2 then zcall (c.2.2 (st.take c.1).reverse σ) (fun v τ => K (pc + 3, ls, zpush c.2.1 v (st.drop c.1), τ)) (fun e τ => zhd (C.2.2.2.2.1 pc e) (fun hj => zset ls hj.2 (2, 0) fun l => K (hj.1, l, [], τ)) (F (e + 1, 0, τ))) else none
theorem zs_invokevirtual {ix rt : Nat} (X0 : zCx E C own cc p s m args c) (hl : meth.locks = false) (hV : zLeave C c) (hCt : zCatch E C p l e R s m args below meth c) (hRf : 8 + d ≤ R.frames) (hRl : 100 + 40 * d ≤ R.locals) (hRc : G ≤ R.cells) (hRs : 6 * G ≤ R.slots) (hml : c.maxLocals = C.2.2.2.2.2.2)
    (hq : C.1 pc = some (.invokevirtual ix, n)) (hvi : ∀ ca, C.2.2.1 ix = some ca → zVirt E l own d ix ca.1 ca.2.1 ca.2.2)
    (hz : ((C.2.2.1 ix).bind fun ca => zinv C pc ls st σ (fun y => some (Sum.inl y)) (fun r => some (Sum.inr r)) ca) = some z) (hy : zThen E G rt p l e R s m args below meth c Q z) : zW E G p l e R s m args below meth c Q (pc, ls, st, σ) := by
  obtain ⟨hVV, hx, hb, hown, hts, hK, hC⟩ := X0
  obtain ⟨hd, hw⟩ := hC pc _ _ hq
  have hn : n = 3 := by simpa [zwf] using hw
  subst hn
  obtain ⟨⟨na, t, f⟩, hca, hz1⟩ := zop_inv hz
  obtain ⟨⟨hlen, h4, hnl⟩, hz2⟩ := zif_inv hz1
  rw [← hml] at hnl
  obtain ⟨y, k, maxL, d', rt', bytes, ret, hk, w1, w2, w3, w4, w5, hyc, hpar, hmax, hdd, hrt, hrecv, hM⟩ := hvi _ hca
  dsimp only at hlen h4 hz2 hpar hrt hrecv hM
  subst hrt
  intro H locs cells slots L hR
  cases hf : f (st.take na).reverse σ with
  | none => rw [hf] at hz2; cases hz2
  | some r =>
    rw [hf] at hz2
    obtain ⟨i, as', has⟩ := hrecv _ _ _ hf
    have hvs := hR.2.2.2.1.rev na
    have h4k : 4 ≤ k := by rcases zobj_cases hk with rfl | rfl | rfl | rfl | rfl | rfl <;> decide
    have hik : zok k i := hvs (k, i) (by rw [has]; exact List.mem_cons_self) h4k
    intro T hT X
    obtain ⟨mk, methM, hnamed, hmethM, hstM, habM⟩ := Cond.instanceMethod_spec (hts _ w2)
    obtain ⟨methM', cM, hmethM', hcM, -, hlM, -, -, -, hsigM⟩ := Cond.code_spec hnamed (hts _ w4)
    cases hmethM.symm.trans hmethM'
    obtain ⟨c2, r2, m2, q1, q2, q3, q4, kP, hkP, hkPi⟩ := Cond.selects_spec (hts _ w3)
    obtain ⟨cellB, c1, c2', c3, c4, -⟩ := hR.1.1 k i hik
    have hcls : s.vm.findClass (zcl k).1 = some cellB.cls := by rw [c2']; exact (hK.1 k hk).2.1
    cases hcls.symm.trans q1
    cases (State.methodFound?_of_named hnamed hyc).symm.trans q2
    cases hnamed.symm.trans q3
    have hselP : selectMethod e.platform s.vm cellB.cls mk = .method mk := by rw [Launch.admits_selectMethod X.admits]; exact q4
    have hargs : (st.take na).reverse.map (zcv E) = .ref (E.1 k i) :: as'.map (zcv E) := by rw [has, List.map_cons, zcv_r E i h4k]
    have hstk : st.map (zcv E) = (as'.map (zcv E)).reverse ++ .ref (E.1 k i) :: (st.drop na).map (zcv E) := by
      rw [← ztakerev st na, hargs, List.reverse_cons, List.append_assoc]
      rfl
    have hlen' : (as'.map (zcv E)).length = methM.sig.parameters.length := by
      have h1 := hpar _ hsigM
      have h2 : ((st.take na).reverse).length = na := by rw [List.length_reverse, List.length_take]; omega
      rw [has, List.length_cons] at h2
      rw [List.length_map]
      omega
    obtain ⟨vm₁, X₁, hstep₁⟩ := X.invokevirtual hx hown (hts _ w1) hnamed hmethM hstM hkP hkPi hyc (a := E.1 k i) (cell := cellB) (by rw [hT]; exact c1)
      (VmData.ne_statics_of c4) hselP hmethM habM hkP hkPi (g := F0 m pc L (st.map (zcv E))) rfl (argsL := as'.map (zcv E)) (rest := (st.drop na).map (zcv E)) hlen' hstk (by rw [hb]; exact hd)
    have hUH : (T.setVm vm₁).heap = H := hT
    have hal := X₁.warmed
    obtain ⟨o, s₂, k1, k2, k3⟩ := zcore (E := E) (σ := σ) X₁ (g := F0 m pc L ((st.drop na).map (zcv E))) rfl (by show L.size = _; rw [← hnl]; exact hR.2.1.1.1) (by rw [hb]; exact hd) (by have := zsumcat (E := E) (st.drop na) h4; show 2 * 0 + (((st.drop na).map (zcv E)).map fun v => v.category).sum ≤ 8; omega) hM hf hvs (X₁.named hnamed) (zword_at hal (zgood w4) (hts _ w4)) (fun w hw => zword_at hal (zgood hw) (hts w hw)) (zword_at hal (zgood w5) (hts _ w5))
      ⟨methM, cM, by rw [hal.alike.method?]; exact hmethM, hcM, hlM⟩ hmax (by omega) (by omega) (by have : cells + gh σ ≤ G := hR.2.2.2.2.2.1; omega) (by have : slots + 6 * gh σ ≤ 6 * G := hR.2.2.2.2.2.2; omega) (by rw [hUH]; exact hR.1) (hK.moved hal.alike)
    obtain ⟨t, b1, b2⟩ := zback hl hV hCt X₁ hUH (by rw [hb]; exact hd) hR (hR.2.2.2.1.drop na) hnl k2 k3 hz2 hy
    refine ⟨t, hstep₁ t (fun acts => ?_), b2⟩
    rw [doInvoke_state, ← hargs]
    exact k1.trans b1
theorem zs_invokestatic {ix rt : Nat} (X0 : zCx E C own cc p s m args c) (hl : meth.locks = false) (hV : zLeave C c) (hCt : zCatch E C p l e R s m args below meth c) (hRf : 8 + d ≤ R.frames) (hRl : 100 + 40 * d ≤ R.locals) (hRc : G ≤ R.cells) (hRs : 6 * G ≤ R.slots) (hml : c.maxLocals = C.2.2.2.2.2.2)
    (hq : C.1 pc = some (.invokestatic ix, n)) {ca : Nat × Nat × (List ZV → ZT → Option ZR)} (hca : C.2.2.1 ix = some ca) (hvi : zStat E l own d ix ca.1 ca.2.1 ca.2.2)
    (hz1 : zinv C pc ls st σ (fun y => some (Sum.inl y)) (fun r => some (Sum.inr r)) ca = some z) (hy : zThen E G rt p l e R s m args below meth c Q z) : zW E G p l e R s m args below meth c Q (pc, ls, st, σ) := by
  obtain ⟨hVV, hx, hb, hown, hts, hK, hC⟩ := X0
  obtain ⟨hd, hw⟩ := hC pc _ _ hq
  have hn : n = 3 := by simpa [zwf] using hw
  subst hn
  obtain ⟨na, t, f⟩ := ca
  obtain ⟨⟨hlen, h4, hnl⟩, hz2⟩ := zif_inv hz1
  rw [← hml] at hnl
  obtain ⟨y, maxL, d', rt', bytes, ret, w0, hw0, w1, w2, w4, w5, hyc, hpar, hmax, hdd, hrt, hM⟩ := hvi
  dsimp only at hlen h4 hz2 hpar hrt hM
  subst hrt
  intro H locs cells slots L hR
  cases hf : f (st.take na).reverse σ with
  | none => rw [hf] at hz2; cases hz2
  | some r =>
    rw [hf] at hz2
    have hvs := hR.2.2.2.1.rev na
    intro T hT X
    obtain ⟨mk, methM, cM, hnamed, hmethM, hcM, hlM, hsigM⟩ : ∃ mk methM cM, s.methodNamed? y = some mk ∧ s.vm.method? mk = some methM ∧ methM.code = some cM ∧ cM.maxLocals = maxL ∧ parseMethodDescriptor y.desc = some methM.sig := by
      rcases hw0 with rfl | ⟨hh, rfl⟩
      · obtain ⟨mk, hnamed⟩ := Cond.code_named (hts _ w4)
        obtain ⟨methM, cM, h1, h2, -, h3, -, -, -, h4⟩ := Cond.code_spec hnamed (hts _ w4)
        exact ⟨mk, methM, cM, hnamed, h1, h2, h3, h4⟩
      · obtain ⟨mk, methM, cM, hn9, h1, h2, h3, h4, h5, h6, h7, h8⟩ := Cond.codeWith_spec (hts _ w4)
        exact ⟨mk, methM, cM, hn9, h1, h2, by assumption, by assumption⟩
    have hstatic : methM.isStatic = true := Cond.static_spec hnamed hmethM (hts _ w2)
    obtain ⟨kP, hkP, -⟩ := className_of_methodNamed hnamed
    have hinitP : kP.init = .initialized := Cond.initialized_spec (findClass_of_methodNamed hnamed) hkP (hts _ w5)
    have hstk : st.map (zcv E) = ((st.take na).reverse.map (zcv E)).reverse ++ (st.drop na).map (zcv E) := (ztakerev st na).symm
    have hlen' : ((st.take na).reverse.map (zcv E)).length = methM.sig.parameters.length := by
      have h1 := hpar _ hsigM
      rw [List.length_map, List.length_reverse, List.length_take]
      omega
    obtain ⟨vm₁, X₁, hstep₁⟩ := X.invokestatic hx hown (hts _ w1) hnamed hmethM hstatic hkP hinitP hyc (g := F0 m pc L (st.map (zcv E))) rfl (argsL := (st.take na).reverse.map (zcv E)) (rest := (st.drop na).map (zcv E)) hlen' hstk (by rw [hb]; exact hd)
    have hUH : (T.setVm vm₁).heap = H := hT
    have hal := X₁.warmed
    obtain ⟨o, s₂, k1, k2, k3⟩ := zcore (E := E) (σ := σ) X₁ (g := F0 m pc L ((st.drop na).map (zcv E))) rfl (by show L.size = _; rw [← hnl]; exact hR.2.1.1.1) (by rw [hb]; exact hd) (by have := zsumcat (E := E) (st.drop na) h4; show 2 * 0 + (((st.drop na).map (zcv E)).map fun v => v.category).sum ≤ 8; omega) hM hf hvs (X₁.named hnamed) (zword_at hal (zgood w4) (hts _ w4)) (fun w hw => zword_at hal (zgood hw) (hts w hw)) (zword_at hal (zgood w5) (hts _ w5))
      ⟨methM, cM, by rw [hal.alike.method?]; exact hmethM, hcM, hlM⟩ hmax (by omega) (by omega) (by have : cells + gh σ ≤ G := hR.2.2.2.2.2.1; omega) (by have : slots + 6 * gh σ ≤ 6 * G := hR.2.2.2.2.2.2; omega) (by rw [hUH]; exact hR.1) (hK.moved hal.alike)
    obtain ⟨t, b1, b2⟩ := zback hl hV hCt X₁ hUH (by rw [hb]; exact hd) hR (hR.2.2.2.1.drop na) hnl k2 k3 hz2 hy
    refine ⟨t, hstep₁ t (fun acts => ?_), b2⟩
    rw [doInvoke_state]
    exact k1.trans b1
end ZCALL
