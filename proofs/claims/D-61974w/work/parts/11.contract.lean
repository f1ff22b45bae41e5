/-! RUNS AND CONTRACTS -/
section ZRUNS
variable {E : ZE} {C : ZC} {own : String} {cc : ByteArray} {G d : Nat} {p : Program} {l : Launch} {e : Env} {R : Room} {s : State} {m : MethodId} {args : Array Value} {below : List Frame} {meth : Method} {c : Code} {Q : State → Prop}
theorem zitr_sound (hV : zEV E) (hx : p.tables.exec = Jvm.exec) (hb : c.code = cc) (hown : s.vm.findClass own = some m.cls) (hts : ∀ w ∈ zTT, w.before args s = true) (hK : zKK E s) (hM : zMeth E C l own cc d) (hfl : l.flags = flags0) (hl : meth.locks = false) (hr : zRt C.2.2.2.2.2.1 meth.sig.returnType) (hLv : zLeave C c) (hCt : zCatch E C p l e R s m args below meth c)
    (hRf : 8 + d ≤ R.frames) (hRl : 100 + 40 * d ≤ R.locals) (hRc : G ≤ R.cells) (hRs : 6 * G ≤ R.slots) (hml : c.maxLocals = C.2.2.2.2.2.2) (hnew : ∀ pc x, C.2.2.2.1 pc = some x → ∀ h ∈ c.exceptionTable.toList, covers h (pc + 7) = false) :
    ∀ (n : Nat) (x : ZS) (r : ZR), zitr C n x = some r → (∀ t, zFin E C.2.2.2.2.2.1 G below s r t → Q t) → zW E G p l e R s m args below meth c Q x := by
  intro n
  induction n with
  | zero => intro x r h; cases h
  | succ n ih =>
    intro x r h hQ
    rw [zitr] at h
    obtain ⟨z, hz, h1⟩ := zop_inv h
    obtain ⟨pc, ls, st, σ⟩ := x
    unfold znext zstep at hz
    obtain ⟨⟨ins, k⟩, hq, hz1⟩ := zop_inv hz
    refine zarm_sound hV hx hb hown hts hK hM hfl hl hr hLv hCt hRf hRl hRc hRs hml hnew hq hz1 ?_
    cases z with
    | inl y => exact ih y r h1 hQ
    | inr q =>
      cases h1
      exact hQ
end ZRUNS
theorem zargs_mem : ∀ (vs : List Value) (k j : Nat) (v : Value), (∀ w ∈ vs, w.category = 1) → vs[j]? = some v → (k + j, v) ∈ lv_args k vs
  | [], _, j, _, _, h => by simp at h
  | w :: vs, k, j, v, hc, h => by
    have hw := hc w List.mem_cons_self
    rw [lv_args, if_neg (by omega)]
    cases j with
    | zero =>
      rw [List.getElem?_cons_zero] at h
      cases h
      exact List.mem_cons_self
    | succ j =>
      rw [List.getElem?_cons_succ] at h
      have := zargs_mem vs (k + 1) j v (fun w hw => hc w (List.mem_cons_of_mem _ hw)) h
      rw [show k + 1 + j = k + (j + 1) by omega] at this
      exact List.mem_cons_of_mem _ this
theorem zsl_len : ∀ (vs : List Value), (∀ w ∈ vs, w.category = 1) → (lg_sl vs).length = vs.length
  | [], _ => rfl
  | w :: vs, hc => by
    have hw := hc w List.mem_cons_self
    have ih := zsl_len vs (fun w hw => hc w (List.mem_cons_of_mem _ hw))
    unfold lg_sl at ih ⊢
    rw [List.flatMap_cons, if_neg (by omega), List.length_append, ih]
    simp only [List.length_cons, List.length_nil]
    omega
/-- the locals with which a method begins -/
theorem zLR.entry {E : ZE} {as pad : List ZV} {n : Nat} (ht : ∀ v ∈ as, v.1 ≠ 1) (hp : ∀ v ∈ pad, v = (2, 0)) (hn : as.length + pad.length = n) : zLR E ((lg_sl (as.map (zcv E)) ++ List.replicate (n - (lg_sl (as.map (zcv E))).length) Slot.unset).toArray) (as ++ pad) := by
  have hc : ∀ w ∈ as.map (zcv E), w.category = 1 := fun w hw => by
    obtain ⟨v, hv, rfl⟩ := List.mem_map.mp hw
    exact zcv_cat E v (ht v hv)
  have hl : (lg_sl (as.map (zcv E))).length ≤ n := by rw [zsl_len _ hc, List.length_map]; omega
  have h := lv_entry (as.map (zcv E)) hl
  refine ⟨⟨by rw [h.1, List.length_append, hn], h.2.1, fun q hq => ?_⟩, fun v hv => ?_⟩
  · obtain ⟨j, x⟩ := q
    obtain ⟨v, hv, h2, rfl⟩ := zpl_mem.mp hq
    have hj : j < as.length := by
      apply Classical.byContradiction
      intro hj
      rw [List.getElem?_append_right (by omega)] at hv
      rw [hp v (List.mem_of_getElem? hv)] at h2
      exact h2 rfl
    rw [List.getElem?_append_left hj] at hv
    have := zargs_mem (as.map (zcv E)) 0 j (zcv E v) hc (by rw [List.getElem?_map, hv]; rfl)
    rw [Nat.zero_add] at this
    exact h.2.2 _ this
  · rcases List.mem_append.mp hv with h1 | h1
    · exact ht v h1
    · rw [hp v h1]; decide
noncomputable def zfn (C : ZC) (ts : List Nat) (pad : List ZV) (as : List ZV) (σ : ZT) : Option ZR := if as.map Prod.fst = ts then zrun C (0, as ++ pad, [], σ) else none
theorem zfn_inv {C : ZC} {ts : List Nat} {pad as : List ZV} {σ : ZT} {r : ZR} (h : zfn C ts pad as σ = some r) : as.map Prod.fst = ts ∧ zrun C (0, as ++ pad, [], σ) = some r := zif_inv h
theorem zmet {E : ZE} (hV : zEV E) {l : Launch} (hfl : l.flags = flags0) {y : MethodName} {bytes : ByteArray} {maxL d : Nat} {ret : Option FieldType} {C : ZC} {ts : List Nat} {pad : List ZV} (hy : plainFor y = true) (hM : zMeth E C l y.cls bytes d) (hr : zRt C.2.2.2.2.2.1 ret) (hnl : C.2.2.2.2.2.2 = maxL) (hlen : ts.length + pad.length = maxL) (hp : ∀ v ∈ pad, v = (2, 0)) (ht : ∀ t ∈ ts, t ≠ 1)
    (hh : ∀ pc x, C.2.2.2.2.1 pc x = none) : zMet E l y (.code y bytes maxL ret) d C.2.2.2.2.2.1 (zfn C ts pad) := by
  intro as σ r hf hvs
  obtain ⟨hts, hrun⟩ := zfn_inv hf
  obtain ⟨n, hn⟩ := zrun_some.mp hrun
  refine MetFree.of_bodySF (code := bytes) (maxLocals := maxL) (ret := ret) hy ?_ ?_
  · intro args s m h hnm
    obtain ⟨meth, c, h1, h2, h3, h4, h5, h6, -, -⟩ := Cond.code_spec hnm (atoms_spec (ws := Cond.code y bytes maxL ret :: zTT) h _ List.mem_cons_self)
    exact ⟨meth, c, h1, h2, h3, h4, h5, h6⟩
  · intro p e s m args below meth c s₁ B hml hP _
    obtain ⟨rfl, hH, hK⟩ := hP
    have hw : ∀ w ∈ Cond.code y bytes maxL ret :: zTT, w.before (as.map (zcv E)).toArray s = true := atoms_spec (ws := Cond.code y bytes maxL ret :: zTT) B.pre
    have hnoh : c.exceptionTable.isEmpty = true := B.noHandlers (hw _ List.mem_cons_self)
    have hnil : c.exceptionTable.toList = [] := by
      have := Array.isEmpty_iff.mp hnoh
      rw [this]
    have hh0 : s₁.heap = s.heap := by rw [B.state]; rfl
    have hta : ∀ v ∈ as, v.1 ≠ 1 := fun v hv => ht v.1 (by rw [← hts]; exact List.mem_map.mpr ⟨v, hv, rfl⟩)
    have hla : as.length + pad.length = maxL := by rw [← hlen, ← hts, List.length_map]
    have K := zitr_sound (E := E) (C := C) (own := y.cls) (cc := bytes) (G := gh σ) (d := d) (e := e) (R := zroom d (gh σ)) (below := below) (Q := fun t => zFin E C.2.2.2.2.2.1 (gh σ) below s r t) hV B.exec B.bytes (findClass_of_methodNamed B.named) (fun w hw' => hw w (List.mem_cons_of_mem _ hw')) hK hM hfl B.notSynchronized (by rw [B.returns]; exact hr)
      (fun pc x _ h hm => by rw [hnil] at hm; cases hm) (fun pc x h j hq => by rw [hh] at hq; cases hq) (Nat.le_refl _) (Nat.le_refl _) (Nat.le_refl _) (Nat.le_refl _) (by rw [hml, hnl]) (fun pc x _ h hm => by rw [hnil] at hm; cases hm) n _ r hn (fun t h => h)
    have K2 := K s.heap [] 0 0 _ ⟨hH, zLR.entry (E := E) hta hp hla, fun v hv => ?_, fun v hv => (by cases hv), fun q hq => (by cases hq), by show 0 + gh σ ≤ gh σ; omega, by show 0 + 6 * gh σ ≤ 6 * gh σ; omega⟩ s₁ hh0 (Stand.of_body B)
    · rw [lg_entry_eq]
      obtain ⟨t, a1, o, b1, b2, b3⟩ := K2
      exact ⟨t, o, a1, b1, b2, b3⟩
    · rcases List.mem_append.mp hv with h1 | h1
      · exact hvs v h1
      · rw [hp v h1]; exact zvd_u 0
