/-! System.arraycopy -/
def zcopyf (as : List ZV) (σ : ZT) : Option ZR := match as with
  | [(k, i), (0, sp), (k1, i1), (0, dp), (0, n)] => if 4 ≤ k ∧ 4 ≤ k1 ∧ (zet k = 0 ∨ zet k = 1) ∧ zet k = zet k1 ∧ k1 ≠ 19 ∧ 0 ≤ zwr sp ∧ 0 ≤ zwr dp ∧ 0 ≤ zwr n ∧ zwr sp + zwr n ≤ zlen k σ ∧ zwr dp + zwr n ≤ zlen k1 σ then some (0, 0, zcpy σ k i (zwr sp) k1 i1 (zwr dp) (zwr n)) else none
  | _ => none
theorem zcopyf_inv {as : List ZV} {σ : ZT} {r : ZR} (h : zcopyf as σ = some r) : ∃ k i sp k1 i1 dp n, as = [(k, i), (0, sp), (k1, i1), (0, dp), (0, n)] ∧ (4 ≤ k ∧ 4 ≤ k1 ∧ (zet k = 0 ∨ zet k = 1) ∧ zet k = zet k1 ∧ k1 ≠ 19 ∧ 0 ≤ zwr sp ∧ 0 ≤ zwr dp ∧ 0 ≤ zwr n ∧ zwr sp + zwr n ≤ zlen k σ ∧ zwr dp + zwr n ≤ zlen k1 σ) ∧ r = (0, 0, zcpy σ k i (zwr sp) k1 i1 (zwr dp) (zwr n)) := by
  unfold zcopyf at h
  split at h
  · obtain ⟨h1, h2⟩ := zif_inv h
    exact ⟨_, _, _, _, _, _, _, rfl, h1, (Option.some.inj h2).symm⟩
  · cases h
theorem zcpy_out {σ : ZT} {k k1 k' : Nat} {i sp i1 dp n i' s' : Int} (h : ¬ (k' = k1 ∧ i' = i1 ∧ dp ≤ s' ∧ s' < dp + n)) : zcpy σ k i sp k1 i1 dp n k' i' s' = σ k' i' s' := if_neg h
theorem zcpy_in {σ : ZT} {k k1 : Nat} {i sp i1 dp n s' : Int} (h : dp ≤ s' ∧ s' < dp + n) : zcpy σ k i sp k1 i1 dp n k1 i1 s' = σ k i (sp + (s' - dp)) := if_pos ⟨rfl, rfl, h⟩
theorem zHH.cpy {E : ZE} {σ : ZT} {H H' : Heap} {k k1 : Nat} {i i1 : Int} {sp dp n : Nat} (hV : zEV E) (h : zHH E σ H) (hk : zok k i) (hk1 : zok k1 i1) (he : zet k = 0 ∨ zet k = 1) (he1 : zet k = zet k1) (h19 : k1 ≠ 19) (hs : ((sp : Int) + n) ≤ zlen k σ) (hd : ((dp : Int) + n) ≤ zlen k1 σ) {cs cd : Cell} (hcs : H[E.1 k i]? = some cs) (hcd : H[E.1 k1 i1]? = some cd)
    (h1 : H'[E.1 k1 i1]? = some (cd.storeRun dp (cs.stretch sp n))) (h2 : H'.size = H.size) (h3 : ∀ q : Nat, q ≠ E.1 k1 i1 → H'[q]? = H[q]?) : zHH E (zcpy σ k i sp k1 i1 dp n) H' := by
  obtain ⟨g1, g2, g3, g4, g5⟩ := h
  have e9 : zet k ≠ 9 := by rcases he with he | he <;> rw [he] <;> decide
  have e9' : zet k1 ≠ 9 := by rw [← he1]; exact e9
  have hlen : (zcpy σ k i sp k1 i1 dp n) 19 0 (-1) = σ 19 0 (-1) := zcpy_out (fun q => h19 q.1.symm)
  have had : E.2.2.2.size ≤ E.1 k1 i1 := hV.2.1 k1 i1 hk1 h19
  have hn0 : zns k σ = (zlen k σ).toNat := by unfold zns; rw [if_neg e9]
  have hn1 : zns k1 σ = (zlen k1 σ).toNat := by unfold zns; rw [if_neg e9']
  obtain ⟨cs', s1, s2, s3, s4, s5, s6, s7⟩ := g1 k i hk
  cases hcs.symm.trans s1
  obtain ⟨cd', d1, d2, d3, d4, d5, d6, d7⟩ := g1 k1 i1 hk1
  cases hcd.symm.trans d1
  have hf := Cell.storeRun_facts cd dp (cs.stretch sp n)
  refine ⟨fun k' i' hk' => ?_, fun k' i' s' hb => ?_, by rw [h2]; exact g3, fun q hq => ?_, fun q cell' hq hc' => ?_⟩
  · by_cases hki : k' = k1 ∧ i' = i1
    · obtain ⟨rfl, rfl⟩ := hki
      refine ⟨_, h1, by rw [hf.1]; exact d2, by rw [hf.2.1]; exact d3, by rw [hf.2.1]; exact d4, fun q => by rw [hf.2.1]; exact d5 q, fun q => ?_, fun s' hs' => ?_⟩
      · rw [hf.2.2.1, zns_congr k' hlen]
        exact d6 q
      · rw [zns_congr k' hlen] at hs'
        have hsz : cd.slots.size = (zlen k' σ).toNat := by rw [d6 e9', hn1]
        rw [hV.2.2 k' s' e9', Cell.storeRun_get cd dp _ s' (by rw [Cell.stretch_length, hsz]; omega), Cell.stretch_length]
        have hv : ∀ τ : ZT, zvl E τ k' i' s' = .int (Int32.ofInt (τ k' i' s')) := fun τ => by
          unfold zvl
          rcases he with he | he <;> rw [← he1, he] <;> rfl
        by_cases hin : dp ≤ s' ∧ s' < dp + n
        · rw [if_pos hin, hv, zcpy_in (by omega)]
          have e1 : (cs.stretch sp n)[s' - dp]? = some (cs.slots.getD (sp + (s' - dp)) .null) := by
            unfold Cell.stretch
            rw [List.getElem?_map, List.getElem?_range (by omega)]
            rfl
          rw [e1]
          have e2 := s7 (sp + (s' - dp)) (by rw [hn0]; omega)
          rw [hV.2.2 k _ e9] at e2
          rw [Array.getD_eq_getD_getElem?, e2]
          show some (zvl E σ k i (sp + (s' - dp))) = _
          have e3 : zvl E σ k i (sp + (s' - dp)) = .int (Int32.ofInt (σ k i ((sp + (s' - dp) : Nat) : Int))) := by
            unfold zvl
            rcases he with he | he <;> rw [he] <;> rfl
          rw [e3, show (((sp + (s' - dp) : Nat)) : Int) = (sp : Int) + ((s' : Int) - dp) by omega]
        · rw [if_neg hin]
          have e2 := d7 s' hs'
          rw [hV.2.2 k' _ e9'] at e2
          rw [e2]
          exact congrArg some (zvl_congr E (zcpy_out (fun q => hin (by omega))).symm)
    · obtain ⟨cell0, c1, c2, c3, c4, c5, c6, c7⟩ := g1 k' i' hk'
      have hne : E.1 k' i' ≠ E.1 k1 i1 := fun q => hki (hV.1 k' i' k1 i1 hk' hk1 q)
      refine ⟨cell0, by rw [h3 _ hne]; exact c1, c2, c3, c4, c5, fun q => ?_, fun s' hs' => ?_⟩
      · rw [zns_congr k' hlen]
        exact c6 q
      · rw [zns_congr k' hlen] at hs'
        rw [c7 s' hs']
        exact congrArg some (zvl_congr E (zcpy_out (fun q => hki ⟨q.1, q.2.1⟩)).symm)
  · by_cases e : k' = k1 ∧ i' = i1 ∧ (dp : Int) ≤ s' ∧ s' < dp + n
    · obtain ⟨rfl, rfl, e3⟩ := e
      rw [zcpy_in e3]
      exact g2 k i _ (by rw [he1]; exact hb)
    · rw [zcpy_out e]
      exact g2 k' i' s' hb
  · rw [h3 q (by omega)]
    exact g4 q hq
  · by_cases e : q = E.1 k1 i1
    · subst e
      rw [h1] at hc'
      cases hc'
      rw [hf.2.1]
      exact d4
    · rw [h3 q e] at hc'
      exact g5 q cell' hq hc'
theorem zcw_nat : Cond.native arraycopyName ∈ zTT := by decide +kernel
theorem zcw_sta : Cond.static arraycopyName ∈ zTT := by decide +kernel
theorem zcw_ini : Cond.initialized "java/lang/System" ∈ zTT := by decide +kernel
theorem zcw_words : nativeFrameWords "java/lang/System" "arraycopy" 5 ≤ 60 := by decide +kernel
section ZCOPY
variable {E : ZE} {C : ZC} {own : String} {cc : ByteArray} {G d : Nat} {p : Program} {l : Launch} {e : Env} {R : Room} {s : State} {m : MethodId} {args : Array Value} {below : List Frame} {meth : Method} {c : Code} {Q : State → Prop} {pc n : Nat} {ls st : List ZV} {σ : ZT} {z : ZS ⊕ ZR}
theorem zs_copy {ix rt : Nat} (X0 : zCx E C own cc p s m args c) (hRf : 8 + d ≤ R.frames) (hRl : 100 + 40 * d ≤ R.locals) (hml : c.maxLocals = C.2.2.2.2.2.2)
    (hq : C.1 pc = some (.invokestatic ix, n)) (hlk : Cond.methodLink own ix arraycopyName ∈ zTT)
    (hz1 : zinv C pc ls st σ (fun y => some (Sum.inl y)) (fun r => some (Sum.inr r)) (5, 2, zcopyf) = some z) (hy : zThen E G rt p l e R s m args below meth c Q z) : zW E G p l e R s m args below meth c Q (pc, ls, st, σ) := by
  obtain ⟨hV, hx, hb, hown, hts, hK, hC⟩ := X0
  obtain ⟨hd, hw⟩ := hC pc _ _ hq
  have hn : n = 3 := by simpa [zwf] using hw
  subst hn
  obtain ⟨⟨hlen, h4, hnl⟩, hz2⟩ := zif_inv hz1
  rw [← hml] at hnl
  dsimp only at hlen h4 hz2
  intro H locs cells slots L hR
  cases hf : zcopyf (st.take 5).reverse σ with
  | none => rw [hf] at hz2; cases hz2
  | some r =>
    rw [hf] at hz2
    obtain ⟨k, i, sp, k1, i1, dp, n, has, ⟨a1, a2, a3, a4, a5, a6, a7, a8, a9, a10⟩, hr⟩ := zcopyf_inv hf
    subst hr
    have hz2 : some (Sum.inl (β := ZR) (pc + 3, ls, zpush 2 0 (st.drop 5), zcpy σ k i (zwr sp) k1 i1 (zwr dp) (zwr n))) = some z := hz2
    cases hz2
    have hst : st = (0, n) :: (0, dp) :: (k1, i1) :: (0, sp) :: (k, i) :: st.drop 5 := by
      have h1 := congrArg List.reverse has
      rw [List.reverse_reverse] at h1
      have h2 := List.take_append_drop 5 st
      rw [h1] at h2
      exact h2.symm
    have hvs := hR.2.2.2.1
    have hvs : zvs st := hvs
    have hk : zok k i := hvs (k, i) (by rw [hst]; simp) a1
    have hk1 : zok k1 i1 := hvs (k1, i1) (by rw [hst]; simp) a2
    have e9 : zet k ≠ 9 := by rcases a3 with he | he <;> rw [he] <;> decide
    have e9' : zet k1 ≠ 9 := by rw [← a4]; exact e9
    have hty : zty k = zty k1 := by unfold zty; rw [a4]
    obtain ⟨cs, s1, s2, s3, s4, s5⟩ := zarr (σ := σ) hV hK hR.1 hk e9
    obtain ⟨cd, d1, d2, d3, d4, d5⟩ := zarr (σ := σ) hV hK hR.1 hk1 e9'
    obtain ⟨s2a, ks, s2b, sc, s2c⟩ := s2
    obtain ⟨d2a, kd, d2b, dc, d2c⟩ := d2
    rw [← hty] at d2c
    have hvi : ∀ j : Nat, zvl E σ k i j = .int (Int32.ofInt (σ k i j)) := fun j => zvl_i (by rcases a3 with he | he <;> simp [he])
    intro T hT X
    have hget : ∀ j : Nat, j < (zwr n).toNat → cs.slots.getD ((Int32.ofInt sp).toNatClampNeg + j) .null = .int (Int32.ofInt (σ k i (((zwr sp).toNat + j : Nat) : Int))) := fun j hj => by
      rw [zI_clamp, Array.getD_eq_getD_getElem?, s5 _ (by omega), hvi]
      rfl
    obtain ⟨vm', X', step⟩ := X.arraycopy hx hown (hts _ hlk) (hts _ zcw_nat) (hts _ zcw_sta) (hts _ zcw_ini) (src := E.1 k i) (dst := E.1 k1 i1) (cs := cs) (cd := cd) (srcPos := Int32.ofInt sp) (destPos := Int32.ofInt dp) (n := Int32.ofInt n) (by rw [hT]; exact s1) (by rw [hT]; exact d1)
      s2a d2a s3 d3 s2b d2b s2c d2c (by simp) (by rw [zI_lt0]; omega) (by rw [zI_lt0]; omega) (by rw [zI_lt0]; omega)
      (by rw [zI_toInt, zI_toInt, s4]; omega) (by rw [zI_toInt, zI_toInt, d4]; omega)
      (fun vm₁ _ j hj => by
        rw [zI_clamp] at hj
        rw [hget j hj]
        refine ⟨?_, trivial⟩
        rcases a3 with he | he
        · rw [zty_0 he]; rfl
        · rw [zty_1 he]
          have := hR.1.2.1 k i (((zwr sp).toNat + j : Nat) : Int) he
          exact zI_fitB this.1 this.2)
      (g := F0 m pc L (st.map (zcv E))) rfl (by show L.size = _; rw [← hnl]; exact hR.2.1.1.1) (rest := (st.drop 5).map (zcv E))
      (by show st.map (zcv E) = _; rw [hst]; simp only [List.map_cons, zcv_r E i a1, zcv_r E i1 a2, zcv_i]; rfl) (by rw [hb]; exact hd) (by omega)
      (by have := zsumcat (E := E) (st.drop 5) h4; have := zcw_words; show 2 * 0 + (((st.drop 5).map (zcv E)).map fun v => v.category).sum + _ ≤ _; omega)
    have hl : E.1 k1 i1 < H.size := (Array.getElem?_eq_some_iff.mp d1).1
    have hheap : ((T.setVm vm').setCell (E.1 k1 i1) (copied cs cd (Int32.ofInt sp) (Int32.ofInt dp) (Int32.ofInt n))).heap = H.setIfInBounds (E.1 k1 i1) (cd.storeRun (zwr dp).toNat (cs.stretch (zwr sp).toNat (zwr n).toNat)) := by
      rw [← hT, ← zI_clamp dp, ← zI_clamp sp, ← zI_clamp n]
      rfl
    have hH : zHH E (zcpy σ k i (zwr sp) k1 i1 (zwr dp) (zwr n)) (H.setIfInBounds (E.1 k1 i1) (cd.storeRun (zwr dp).toNat (cs.stretch (zwr sp).toNat (zwr n).toNat))) := by
      have := zHH.cpy (sp := (zwr sp).toNat) (dp := (zwr dp).toNat) (n := (zwr n).toNat) hV hR.1 hk hk1 a3 a4 a5 (by show _ ≤ zlen k σ; omega) (by show _ ≤ zlen k1 σ; omega) s1 d1 (H' := H.setIfInBounds (E.1 k1 i1) (cd.storeRun (zwr dp).toNat (cs.stretch (zwr sp).toNat (zwr n).toNat))) (by simp [Array.getElem?_setIfInBounds, hl]) (by simp) (fun q hq => by simp [Array.getElem?_setIfInBounds, Ne.symm hq])
      rw [show (((zwr sp).toNat : Nat) : Int) = zwr sp by omega, show (((zwr dp).toNat : Nat) : Int) = zwr dp by omega, show (((zwr n).toNat : Nat) : Int) = zwr n by omega] at this
      exact this
    have hg : gh (zcpy σ k i (zwr sp) k1 i1 (zwr dp) (zwr n)) = gh σ := by
      unfold gh
      rw [zcpy_out (fun q => by have h := q.1; subst h; exact zok_39 hk1)]
    have hlo : ∀ q ∈ locs ++ (cs.stretch (Int32.ofInt sp).toNatClampNeg (Int32.ofInt n).toNatClampNeg).zipIdx.map (fun q => (⟨E.1 k1 i1, (Int32.ofInt dp).toNatClampNeg + q.2⟩ : Loc)), E.2.2.2.size ≤ q.base := fun q hq => by
      rcases List.mem_append.mp hq with h | h
      · exact hR.2.2.2.2.1 q h
      · obtain ⟨w, -, hw⟩ := List.mem_map.mp h
        rw [← hw]
        exact hV.2.1 k1 i1 hk1 a5
    obtain ⟨t, b1, b2⟩ := hy _ _ cells slots L ⟨hH, hR.2.1, hR.2.2.1, hvs.drop 5, hlo, by show cells + gh _ ≤ G; rw [hg]; exact hR.2.2.2.2.2.1, by show slots + 6 * gh _ ≤ 6 * G; rw [hg]; exact hR.2.2.2.2.2.2⟩ _ hheap X'
    exact ⟨t, step t b1, b2⟩
end ZCOPY
