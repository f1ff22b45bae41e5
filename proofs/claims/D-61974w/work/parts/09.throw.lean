/-! THROWS -/
theorem zrebase {p : Program} {l : Launch} {e : Env} {R : Room} {s : State} {m : MethodId} {args : Array Value} {below : List Frame} {meth : Method} {c : Code} {T : State} {locs : List Loc} {cells slots : Nat} (X : Stand p l e R s m args below meth c T locs cells slots) {R' : Room} (hf : R'.frames ≤ R.frames) (hl : R'.locals ≤ R.locals) (hc : cells + R'.cells ≤ R.cells) (hs : slots + R'.slots ≤ R.slots) :
    Stand p l e R' ({ s with heap := T.heap, slotsUsed := T.slotsUsed } : State) m args below meth c T [] 0 0 := by
  have h1 := X.heapSize
  have h2 := X.used
  have h3 := X.book
  have h4 := X.room
  refine ⟨X.admits, X.cas, X.clock, X.frames, ?_, X.hears, X.method, X.code, X.here, X.tail, X.warmed, X.limits, X.bytes, ⟨X.same.1, Nat.le_refl _, Nat.le_refl _, ?_, ?_, fun a cell ha => ⟨cell, ha, rfl, rfl, fun _ _ => rfl⟩⟩⟩
  · simp only [State.hasRoom, Bool.and_eq_true, decide_eq_true_eq] at h4 ⊢
    obtain ⟨⟨⟨⟨a1, a2, a3, a4, a5, a6⟩, a7⟩, a8⟩, a9⟩ := h4
    refine ⟨⟨⟨⟨?_, ?_, ?_, ?_, ?_, a6⟩, ?_⟩, ?_⟩, h3⟩
    · show s.localsInUse + R'.locals + stackMargin ≤ realStackBytes / 8; omega
    · show s.frames.length + R'.frames ≤ e.platform.maxFrames; omega
    · show s.frames.length + R'.frames ≤ (e.platform.stackLimits s.me).1; omega
    · show s.localsInUse + R'.locals ≤ e.platform.maxStackSlots; omega
    · show s.localsInUse + R'.locals ≤ (e.platform.stackLimits s.me).2; omega
    · show T.heap.size + R'.cells ≤ _; omega
    · show T.slotsUsed + R'.slots ≤ _; omega
  · show T.slotsUsed = T.slotsUsed + ((T.heap.toList.drop T.heap.size).map (·.slots.size)).sum
    rw [List.drop_eq_nil_of_le (by rw [Array.length_toList]; exact Nat.le_refl _)]
    rfl
  · show ((T.heap.toList.drop T.heap.size).map (·.slots.size)).sum ≤ 0
    rw [List.drop_eq_nil_of_le (by rw [Array.length_toList]; exact Nat.le_refl _)]
    exact Nat.le_refl _
def znames : List String := ["java/lang/RuntimeException", "java/lang/Exception"]
/-- what of an exception's words isn't on the tables alone -/
def zextra (x : Nat) : List Cond := [.castable (zexn x) (zexn x), .laysStatic "java/lang/Throwable" "UNASSIGNED_STACK" "[Ljava/lang/StackTraceElement;", .laysStatic "java/lang/Throwable" "SUPPRESSED_SENTINEL" "Ljava/util/List;", .isRef (.static "java/lang/Throwable" "UNASSIGNED_STACK" "[Ljava/lang/StackTraceElement;"), .isRef (.static "java/lang/Throwable" "SUPPRESSED_SENTINEL" "Ljava/util/List;")]
/-- 'new E; dup; invokespecial; athrow' at pc -/
def zThr (C : ZC) (own : String) (pc x : Nat) : Prop := ∃ ic ii : Nat, C.1 pc = some (.new ic, 3) ∧ C.1 (pc + 3) = some (.dup, 1) ∧ C.1 (pc + 4) = some (.invokespecial ii, 3) ∧ C.1 (pc + 7) = some (.athrow, 1) ∧ Cond.classLink own ic (zexn x) ∈ zTT ∧ Cond.instantiable (zexn x) 6 ∈ zTT ∧ Cond.initialized (zexn x) ∈ zTT ∧ x < 4 ∧ ∀ a ∈ Bundle.ownAtoms0 own ii (zexn x) znames, a ∈ zTT ∨ a ∈ zextra x
section ZTHROW
variable {E : ZE} {C : ZC} {own : String} {cc : ByteArray} {G d : Nat} {p : Program} {l : Launch} {e : Env} {R : Room} {s : State} {m : MethodId} {args : Array Value} {below : List Frame} {meth : Method} {c : Code} {Q : State → Prop} {pc n : Nat} {ls st : List ZV} {σ : ZT} {z : ZS ⊕ ZR}
theorem zSt.words {n d : String} {U : State} {a' : Array Value} (h : zSt E n d U) (hH : ∀ q : Nat, q < E.2.2.2.size → U.heap[q]? = E.2.2.2[q]?) : (Cond.laysStatic "java/lang/Throwable" n d).before a' U = true ∧ (Cond.isRef (.static "java/lang/Throwable" n d)).before a' U = true := by
  obtain ⟨cf, kf, fi, f, a, cell, v, g0, g1, g2, g3, g4, g5, g6, g7, g8, g9, g10⟩ := h
  have hc : U.heap[a]? = some cell := by rw [hH a (Array.getElem?_eq_some_iff.mp g5).1]; exact g5
  refine ⟨?_, ?_⟩
  · simp [Cond.before, Cond.holds, Cond.value, g0, g1, g2, g3, g4, hc, g6, g7, g8]
  · have he : (Term.static "java/lang/Throwable" n d).eval a' U none [] U = some v := by
      simp [Term.eval, State.fieldNamed?, g1, g2, g3, hc, g6, g9]
    simp only [Cond.before, Cond.holds, Cond.value, he]
    cases v <;> first | rfl | (simp [Value.isRef] at g10)
theorem zfit (x : Nat) (h : x < 4) : Bundle.fit (zexn x) = true := by
  rcases (show x = 0 ∨ x = 1 ∨ x = 2 ∨ x = 3 by omega) with rfl | rfl | rfl | rfl <;> decide +kernel
theorem zfits : ∀ n ∈ znames, Bundle.fit n = true := by decide +kernel
theorem zs_new {ic rt : Nat} (X0 : zCx E C own cc p s m args c) (hfl : l.flags = flags0) (hl : meth.locks = false) (hRf : 8 + d ≤ R.frames) (hRl : 100 + 40 * d ≤ R.locals) (hRc : G ≤ R.cells) (hRs : 6 * G ≤ R.slots) (hml : c.maxLocals = C.2.2.2.2.2.2) (hout : ∀ h ∈ c.exceptionTable.toList, covers h (pc + 7) = false)
    (hq : C.1 pc = some (.new ic, n)) (hth : ∀ x, C.2.2.2.1 pc = some x → zThr C own pc x)
    (hz : ((C.2.2.2.1 pc).bind fun x => zend st (if 0 < σ 39 0 0 ∧ ls.length = C.2.2.2.2.2.2 then some (Sum.inr (α := ZS) (x + 1, 0, zsto σ 39 0 0 (σ 39 0 0 - 1))) else none)) = some z) (hy : zThen E G rt p l e R s m args below meth c Q z) : zW E G p l e R s m args below meth c Q (pc, ls, st, σ) := by
  obtain ⟨hVV, hx, hb, hown, hts, hK, hC⟩ := X0
  obtain ⟨x, hx1, hz1⟩ := zop_inv hz
  obtain ⟨ic', ii, k0, k3, k4, k7, w1, w2, w3, hx4, hat⟩ := hth x hx1
  obtain ⟨d0, -⟩ := hC _ _ _ k0
  obtain ⟨d3, -⟩ := hC _ _ _ k3
  obtain ⟨d4, -⟩ := hC _ _ _ k4
  obtain ⟨d7, -⟩ := hC _ _ _ k7
  unfold zend at hz1
  split at hz1
  · obtain ⟨⟨hpos, hls⟩, hz2⟩ := zif_inv hz1
    rw [← hml] at hls
    cases hz2
    intro H locs cells slots L hR
    have gc : cells + gh σ ≤ G := hR.2.2.2.2.2.1
    have gs : slots + 6 * gh σ ≤ 6 * G := hR.2.2.2.2.2.2
    have g1 : 1 ≤ gh σ := by unfold gh; omega
    have gτ : gh (zsto σ 39 0 0 (σ 39 0 0 - 1)) = gh σ - 1 := by
      unfold gh
      rw [zsto_eq]
      omega
    intro T hT X
    have X' := zrebase X (R' := { frames := 8, cells := 1, slots := 6, locals := 100 }) (by show 8 ≤ _; omega) (by show 100 ≤ _; omega) (by show cells + 1 ≤ _; omega) (by show slots + 6 ≤ _; omega)
    generalize hs' : ({ s with heap := T.heap, slotsUsed := T.slotsUsed } : State) = s' at X'
    have hvm : s'.vm = s.vm := by rw [← hs']
    have hheap' : s'.heap = H := by rw [← hs']; exact hT
    have hal : s.WarmedH s'.vm := by rw [hvm]; exact State.WarmedH.refl s
    have hts' : ∀ w ∈ zTT, w.before args s' = true := fun w hw => zword_at hal (zgood hw) (hts w hw)
    have hK' : zKK E s' := hK.moved hal.alike
    have hH0 : ∀ q : Nat, q < E.2.2.2.size → s'.heap[q]? = E.2.2.2[q]? := by rw [hheap']; exact hR.1.2.2.2.1
    obtain ⟨cX, kX, hfX, hkX, hordX, -, -, hnX⟩ := Cond.instantiable_spec (hts' _ w2)
    have hatoms : ∀ a ∈ Bundle.ownAtoms0 own ii (zexn x) znames, a.before args s' = true := fun a ha => by
      rcases hat a ha with h1 | h1
      · exact hts' a h1
      · obtain ⟨u1, u2⟩ := hK'.2.2.1.words (a' := args) hH0
        obtain ⟨u3, u4⟩ := hK'.2.2.2.1.words (a' := args) hH0
        simp only [zextra, List.mem_cons, List.not_mem_nil, or_false] at h1
        rcases h1 with rfl | rfl | rfl | rfl | rfl
        · simp [Cond.before, Cond.holds, Cond.value, hfX, zassign]
        · exact u1
        · exact u3
        · exact u2
        · exact u4
    have hown' : s'.vm.findClass own = some m.cls := by rw [hvm]; exact hown
    have htr : e.platform.stackTraces = false := Launch.traces_off hfl X.admits
    have K : W p l e { frames := 8, cells := 1, slots := 6, locals := 100 } s' m args below meth c H [] 0 0 (fun U => U.status = .running ∧ Ended U below (.threw H.size) ∧ s'.WarmedH U.vm ∧ s'.sameButNew ({ U with vm := s'.vm } : State) [] 1 6 ∧ ∃ ce : Cell, U.heap[H.size]? = some ce ∧ ce.vm = .none ∧ s'.vm.findClass (zexn x) = some ce.cls) (F0 m pc L []) := by
      refine W.newc hx hb hown' (hts' _ w1) (hts' _ w2) (hts' _ w3) rfl d0 (Nat.le_refl _) (Nat.le_refl _) (fun cC kC e1 e2 e3 e4 => ?_)
      refine lv_dup hx hb d3 rfl ?_
      intro T2 hT2 X2
      cases hfX.symm.trans e1
      cases hkX.symm.trans e2
      have hcell : T2.heap[H.size]? = some (freshCell cX kX) := by rw [hT2]; simp
      obtain ⟨U, u1, u2, u3, u4, u5, ce, u6, u7⟩ := X2.ctorThrow0 hx htr hown' (zfit x hx4) zfits hatoms (fun q hq => by cases hq) hfX hkX hcell (by rw [hheap']; exact Nat.le_refl _) (g := F0 m (pc + 4) L [.ref H.size, .ref H.size]) rfl (by show L.size = _; rw [← hls]; exact hR.2.1.1.1) rfl rfl (rest := []) rfl (by rw [hb]; exact d4) (by rw [hb]; exact d7) hout (by decide) (Nat.le_of_ble_eq_true rfl) hl
      exact ⟨U, u1, u2, u3, u4, u5.weaken (fun _ h _ => h) (by decide) (by show 0 + 6 ≤ 6; decide), ce, u6, u7.vm, u7.cls⟩
    obtain ⟨U, u0, u1, u2, u3, u4, ce, u5, u6, u7⟩ := K T hT X'
    have hsame : ∀ q cell, H[q]? = some cell → U.heap[q]? = some cell := fun q cell hq => by
      obtain ⟨c', v1, v2, v3, v4⟩ := u4.2.2.2.2.2 q cell (by rw [hheap']; exact hq)
      have v1 : U.heap[q]? = some c' := v1
      have : c' = cell := by
        rw [v2]
        have : c'.slots = cell.slots := by
          apply Array.ext_getElem?
          intro i
          exact v4 i (by simp)
        rw [this]
      rw [v1, this]
    have hsz : H.size ≤ U.heap.size := by
      have := u4.2.1
      rw [hheap'] at this
      exact this
    have hle : U.heap.size ≤ H.size + 1 := by
      have := u4.2.2.1
      rw [hheap'] at this
      exact this
    refine ⟨U, u0, hy U ⟨_, u1, u2, fun q => (by cases q), fun x' hx' => ?_, ?_, by rw [gτ]; omega, locs, ?_, ?_, hR.2.2.2.2.1⟩⟩
    · have : x' = x := by have hx' : x + 1 = x' + 1 := hx'; omega
      subst this
      exact ⟨H.size, ce, rfl, u5, by rw [u6]; rfl, by rw [← hvm]; exact u7⟩
    · obtain ⟨q1, q2, q3, q4, q5⟩ := hR.1
      have hne : ∀ (k' : Nat) (i' s' : Int), k' ≠ 39 → zsto σ 39 0 0 (σ 39 0 0 - 1) k' i' s' = σ k' i' s' := fun k' i' s' hk' => zsto_ne (fun q => hk' q.1)
      refine ⟨fun k' i' hk' => ?_, fun k' i' s'' he => ?_, Nat.le_trans q3 hsz, fun q hq => ?_, fun q cell hq hc => ?_⟩
      · have hk39 : k' ≠ 39 := fun q => by subst q; exact zok_39 hk'
        obtain ⟨cell, c1, c2, c3, c4, c5, c6, c7⟩ := q1 k' i' hk'
        refine ⟨cell, hsame _ _ c1, c2, c3, c4, c5, fun he => ?_, fun s'' hs'' => ?_⟩
        · rw [zns_congr k' (hne 19 0 (-1) (by decide))]
          exact c6 he
        · rw [zns_congr k' (hne 19 0 (-1) (by decide))] at hs''
          rw [c7 s'' hs'']
          exact congrArg some (zvl_congr E (hne k' i' s'' hk39).symm)
      · show -128 ≤ zsto σ 39 0 0 (σ 39 0 0 - 1) k' i' s'' ∧ zsto σ 39 0 0 (σ 39 0 0 - 1) k' i' s'' < 128
        rw [hne k' i' s'' (fun q => by subst q; cases he)]
        exact q2 k' i' s'' he
      · have h1 : q < H.size := Nat.lt_of_lt_of_le hq q3
        have h2 := hsame q H[q] (Array.getElem?_eq_getElem h1)
        rw [h2, ← q4 q hq]
        exact (Array.getElem?_eq_getElem h1).symm
      · by_cases h1 : q < H.size
        · have h2 := hsame q H[q] (Array.getElem?_eq_getElem h1)
          rw [h2] at hc
          cases hc
          exact q5 q _ hq (Array.getElem?_eq_getElem h1)
        · have h3 : q < U.heap.size := (Array.getElem?_eq_some_iff.mp hc).1
          have h4 : q = H.size := by omega
          subst h4
          rw [u5] at hc
          cases hc
          rw [u6]
          rfl
    · have := u3
      rw [← hs'] at this
      exact this
    · have hTs : T.setVm s.vm = s'.setFrames T.frames := by rw [← hs']; exact X.same.1
      have h1 : (T.setVm s.vm).sameButNew ({ U with vm := s.vm } : State) [] 1 6 := by
        rw [hTs]
        refine ⟨?_, u4.2⟩
        rw [State.setFrames_setFrames, ← hvm]
        exact u4.1
      exact (X.same.trans h1).weaken (fun y hy _ => by simpa using hy) (by rw [gτ]; omega) (by rw [gτ]; omega)
  · cases hz1
end ZTHROW
