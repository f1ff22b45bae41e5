/-! THE LAW's WRAPPERS: methods with handlers -/
/-- one handler: the exception x1, caught at h1 - its store in local j1 -/
def zhdl1 (N x1 h1 j1 : Nat) (pc x : Nat) : Option (Nat × Nat) := cond (Nat.blt pc N) (cond (Nat.beq x x1) (some (h1, j1)) (some (0, 1000))) none
def zhdl2 (N x1 h1 j1 x2 h2 j2 : Nat) (pc x : Nat) : Option (Nat × Nat) := cond (Nat.blt pc N) (cond (Nat.beq x x1) (some (h1, j1)) (cond (Nat.beq x x2) (some (h2, j2)) (some (0, 1000)))) none
theorem zblt_t {a b : Nat} (h : Nat.blt a b = true) : a < b := Nat.blt_eq ▸ h
theorem zblt_f {a b : Nat} (h : b ≤ a) : Nat.blt a b = false := by
  cases hb : Nat.blt a b with
  | false => rfl
  | true => have := Nat.blt_eq.mp hb; omega
/-- what a wrapper's handlers are -/
def zHand (C : ZC) (own : String) (hh : List (Nat × Nat × Nat × Nat)) (maxL : Nat) : Prop := maxL ≤ 1000 ∧
  ((∃ N x1 p1 h1 j1 t1, C.2.2.2.2.1 = zhdl1 N x1 h1 j1 ∧ hh = [(0, N, p1, t1)] ∧ t1 ≠ 0 ∧ x1 < 4 ∧ zHst C p1 h1 j1 ∧ Cond.classLink own t1 (zexn x1) ∈ zTT) ∨
   (∃ N x1 p1 h1 j1 t1 x2 p2 h2 j2 t2, C.2.2.2.2.1 = zhdl2 N x1 h1 j1 x2 h2 j2 ∧ hh = [(0, N, p1, t1), (0, N, p2, t2)] ∧ t1 ≠ 0 ∧ t2 ≠ 0 ∧ x1 < 4 ∧ x2 < 4 ∧ x1 ≠ x2 ∧ zHst C p1 h1 j1 ∧ zHst C p2 h2 j2 ∧ Cond.classLink own t1 (zexn x1) ∈ zTT ∧ Cond.classLink own t2 (zexn x2) ∈ zTT))
section ZWRAP
variable {E : ZE} {C : ZC} {own : String} {cc : ByteArray} {p : Program} {l : Launch} {e : Env} {R : Room} {s : State} {m : MethodId} {args : Array Value} {below : List Frame} {meth : Method} {c : Code}
theorem zmap1 {l : List ExceptionTableEntry} {q : Nat × Nat × Nat × Nat} {r : List (Nat × Nat × Nat × Nat)} (h : l.map (fun h => (h.startPc, h.endPc, h.handlerPc, h.catchType)) = q :: r) : ∃ en rest, l = en :: rest ∧ (en.startPc, en.endPc, en.handlerPc, en.catchType) = q ∧ rest.map (fun h => (h.startPc, h.endPc, h.handlerPc, h.catchType)) = r := by
  cases l with
  | nil => cases h
  | cons en rest =>
    rw [List.map_cons] at h
    exact ⟨en, rest, rfl, (List.cons.inj h).1, (List.cons.inj h).2⟩
theorem zleave_of {hh : List (Nat × Nat × Nat × Nat)} {maxL : Nat} (hH : zHand C own hh maxL) (ht : c.exceptionTable.toList.map (fun h => (h.startPc, h.endPc, h.handlerPc, h.catchType)) = hh) : zLeave C c := by
  intro pc x hn h hm
  obtain ⟨-, hH | hH⟩ := hH
  · obtain ⟨N, x1, p1, h1, j1, t1, e1, rfl, -⟩ := hH
    obtain ⟨en, rest, e2, e3, e4⟩ := zmap1 ht
    have e5 : rest = [] := List.map_eq_nil_iff.mp e4
    subst e5
    rw [e2] at hm
    rw [List.mem_singleton.mp hm]
    simp only [Prod.mk.injEq] at e3
    rw [e1] at hn
    unfold zhdl1 at hn
    cases hb : Nat.blt pc N with
    | true => rw [hb] at hn; cases hx : Nat.beq x x1 <;> rw [hx] at hn <;> cases hn
    | false =>
      have : ¬ pc < N := fun q => by rw [Nat.blt_eq.mpr q] at hb; cases hb
      simp [covers, e3, this]
  · obtain ⟨N, x1, p1, h1, j1, t1, x2, p2, h2, j2, t2, e1, rfl, -⟩ := hH
    obtain ⟨en, rest, e2, e3, e4⟩ := zmap1 ht
    obtain ⟨en', rest', e5, e6, e7⟩ := zmap1 e4
    have e8 : rest' = [] := List.map_eq_nil_iff.mp e7
    subst e8
    subst e5
    rw [e2] at hm
    simp only [Prod.mk.injEq] at e3 e6
    rw [e1] at hn
    unfold zhdl2 at hn
    cases hb : Nat.blt pc N with
    | true =>
      rw [hb] at hn
      cases hx : Nat.beq x x1 <;> rw [hx] at hn
      · cases hx2 : Nat.beq x x2 <;> rw [hx2] at hn <;> cases hn
      · cases hn
    | false =>
      have : ¬ pc < N := fun q => by rw [Nat.blt_eq.mpr q] at hb; cases hb
      rcases List.mem_cons.mp hm with rfl | hm
      · simp [covers, e3, this]
      · rw [List.mem_singleton.mp hm]
        simp [covers, e6, this]
theorem zcatch_of {hh : List (Nat × Nat × Nat × Nat)} {maxL : Nat} (hx : p.tables.exec = Jvm.exec) (hb : c.code = cc) (hC : zCode C cc) (hown : s.vm.findClass own = some m.cls) (hts : ∀ w ∈ zTT, w.before args s = true) (hK : zKK E s) (hmL : c.maxLocals = maxL) (hH : zHand C own hh maxL) (ht : c.exceptionTable.toList.map (fun h => (h.startPc, h.endPc, h.handlerPc, h.catchType)) = hh) : zCatch E C p l e R s m args below meth c := by
  intro pc x h j hq T locs cells slots L vs stk a ce Q X hL hj hvl hce hst hfc hk
  obtain ⟨hm1000, hH | hH⟩ := hH
  · obtain ⟨N, x1, p1, h1, j1, t1, e1, rfl, w1, w2, w3, w4⟩ := hH
    obtain ⟨en, rest, e2, e3, e4⟩ := zmap1 ht
    simp only [Prod.mk.injEq] at e3
    rw [e1] at hq
    unfold zhdl1 at hq
    cases hbl : Nat.blt pc N with
    | false => rw [hbl] at hq; cases hq
    | true =>
      rw [hbl] at hq
      have hpc := Nat.blt_eq.mp hbl
      have hcov : covers en pc = true := by simp [covers, e3, hpc]
      cases hx1 : Nat.beq x x1 with
      | false =>
        rw [hx1] at hq
        cases hq
        omega
      | true =>
        rw [hx1] at hq
        cases hq
        have := Nat.beq_eq ▸ hx1
        subst this
        obtain ⟨vm', f1, f2⟩ := zfound1 X hown (g := F0 m pc L stk) rfl hce hst hfc e2 hcov (by rw [e3.2.2.2]; exact w1) (by rw [e3.2.2.2]; exact hts _ w4)
        rw [e3.2.2.1] at f2
        exact zhandled hx hb hC X hL hj w3 f1 f2 hk
  · obtain ⟨N, x1, p1, h1, j1, t1, x2, p2, h2, j2, t2, e1, rfl, w1, w1', w2, w2', wne, w3, w3', w4, w4'⟩ := hH
    obtain ⟨en, rest, e2, e3, e4⟩ := zmap1 ht
    obtain ⟨en', rest', e5, e6, e7⟩ := zmap1 e4
    subst e5
    simp only [Prod.mk.injEq] at e3 e6
    rw [e1] at hq
    unfold zhdl2 at hq
    cases hbl : Nat.blt pc N with
    | false => rw [hbl] at hq; cases hq
    | true =>
      rw [hbl] at hq
      have hpc := Nat.blt_eq.mp hbl
      have hcov : covers en pc = true := by simp [covers, e3, hpc]
      have hcov' : covers en' pc = true := by simp [covers, e6, hpc]
      cases hx1 : Nat.beq x x1 with
      | true =>
        rw [hx1] at hq
        cases hq
        have := Nat.beq_eq ▸ hx1
        subst this
        obtain ⟨vm', f1, f2⟩ := zfound1 X hown (g := F0 m pc L stk) rfl hce hst hfc e2 hcov (by rw [e3.2.2.2]; exact w1) (by rw [e3.2.2.2]; exact hts _ w4)
        rw [e3.2.2.1] at f2
        exact zhandled hx hb hC X hL hj w3 f1 f2 hk
      | false =>
        rw [hx1] at hq
        cases hx2 : Nat.beq x x2 with
        | false =>
          rw [hx2] at hq
          cases hq
          omega
        | true =>
          rw [hx2] at hq
          cases hq
          have := Nat.beq_eq ▸ hx2
          subst this
          obtain ⟨vm', f1, f2⟩ := zfound2 X hown (g := F0 m pc L stk) rfl hce hst hfc (hK.2.2.2.2 x x1 w2' w2 (Ne.symm wne)) e2 hcov (by rw [e3.2.2.2]; exact w1) (by rw [e3.2.2.2]; exact hts _ w4) hcov' (by rw [e6.2.2.2]; exact w1') (by rw [e6.2.2.2]; exact hts _ w4')
          rw [e6.2.2.1] at f2
          exact zhandled hx hb hC X hL hj w3' f1 f2 hk
end ZWRAP
theorem zmetW {E : ZE} (hV : zEV E) {l : Launch} (hfl : l.flags = flags0) {y : MethodName} {bytes : ByteArray} {maxL d : Nat} {ret : Option FieldType} {hh : List (Nat × Nat × Nat × Nat)} {C : ZC} {ts : List Nat} {pad : List ZV} (hy : plainName y.cls = true) (hM : zMeth E C l y.cls bytes d) (hr : zRt C.2.2.2.2.2.1 ret) (hnl : C.2.2.2.2.2.2 = maxL) (hlen : ts.length + pad.length = maxL) (hp : ∀ v ∈ pad, v = (2, 0)) (ht : ∀ t ∈ ts, t ≠ 1)
    (hH : zHand C y.cls hh maxL) (hno : ∀ pc, C.2.2.2.1 pc = none) : zMet E l y (.codeWith y bytes maxL ret hh) d C.2.2.2.2.2.1 (zfn C ts pad) := by
  intro as σ r hf hvs
  obtain ⟨hts, hrun⟩ := zfn_inv hf
  obtain ⟨n, hn⟩ := zrun_some.mp hrun
  refine MetFree.of_bodyS (code := bytes) (maxLocals := maxL) (ret := ret) hy ?_ ?_
  · intro args s m h hnm
    obtain ⟨m', meth, c, h0, h1, h2, h3, h4, h5, h6, h7, -⟩ := Cond.codeWith_spec (atoms_spec (ws := Cond.codeWith y bytes maxL ret hh :: zTT) h _ List.mem_cons_self)
    cases hnm.symm.trans h0
    exact ⟨meth, c, h1, h2, h3, h4, h6, h7⟩
  · intro p e s m args below meth c s₁ B hml hP _
    obtain ⟨rfl, hHH, hK⟩ := hP
    have hw : ∀ w ∈ Cond.codeWith y bytes maxL ret hh :: zTT, w.before (as.map (zcv E)).toArray s = true := atoms_spec (ws := Cond.codeWith y bytes maxL ret hh :: zTT) B.pre
    have htab : c.exceptionTable.toList.map (fun h => (h.startPc, h.endPc, h.handlerPc, h.catchType)) = hh := by
      obtain ⟨m', meth', c', h0, h1, h2, h3, h4, h5, h6, h7, -⟩ := Cond.codeWith_spec (hw _ List.mem_cons_self)
      cases B.named.symm.trans h0
      cases B.method.symm.trans h1
      cases (Stand.of_body B).code.symm.trans h2
      exact h5
    have hh0 : s₁.heap = s.heap := by rw [B.state]; rfl
    have hta : ∀ v ∈ as, v.1 ≠ 1 := fun v hv => ht v.1 (by rw [← hts]; exact List.mem_map.mpr ⟨v, hv, rfl⟩)
    have hla : as.length + pad.length = maxL := by rw [← hlen, ← hts, List.length_map]
    have hown := findClass_of_methodNamed B.named
    have htt : ∀ w ∈ zTT, w.before (as.map (zcv E)).toArray s = true := fun w hw' => hw w (List.mem_cons_of_mem _ hw')
    have K := zitr_sound (E := E) (C := C) (own := y.cls) (cc := bytes) (G := gh σ) (d := d) (e := e) (R := zroom d (gh σ)) (below := below) (Q := fun t => zFin E C.2.2.2.2.2.1 (gh σ) below s r t) hV B.exec B.bytes hown htt hK hM hfl B.notSynchronized (by rw [B.returns]; exact hr)
      (zleave_of hH htab) (zcatch_of B.exec B.bytes hM.1 hown htt hK hml hH htab) (Nat.le_refl _) (Nat.le_refl _) (Nat.le_refl _) (Nat.le_refl _) (by rw [hml, hnl]) (fun pc x q => by rw [hno] at q; cases q) n _ r hn (fun t h => h)
    have K2 := K s.heap [] 0 0 _ ⟨hHH, zLR.entry (E := E) hta hp hla, fun v hv => ?_, fun v hv => (by cases hv), fun q hq => (by cases hq), by show 0 + gh σ ≤ gh σ; omega, by show 0 + 6 * gh σ ≤ 6 * gh σ; omega⟩ s₁ hh0 (Stand.of_body B)
    · rw [lg_entry_eq]
      obtain ⟨t, a1, o, b1, b2, b3⟩ := K2
      exact ⟨t, o, a1, b1, b2, b3⟩
    · rcases List.mem_append.mp hv with h1 | h1
      · exact hvs v h1
      · rw [hp v h1]; exact zvd_u 0
