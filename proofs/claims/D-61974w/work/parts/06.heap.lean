/-! A STEP OF THE ABSTRACT MACHINE IS A STEP OF THE JVM: fields and arrays -/
theorem zobj_cases {k : Nat} (h : zobj k = true) : k = 4 ∨ k = 6 ∨ k = 9 ∨ k = 13 ∨ k = 15 ∨ k = 20 := by
  simpa [zobj, or_assoc] using h
theorem i_W : ∀ w ∈ u_ws R_W F_W 14, w ∈ zTT := by decide +kernel
theorem i_R : ∀ w ∈ u_ws R_R F_R 2, w ∈ zTT := by decide +kernel
theorem i_L : ∀ w ∈ u_ws R_L F_L 5, w ∈ zTT := by decide +kernel
theorem i_T : ∀ w ∈ u_ws R_T F_T 6, w ∈ zTT := by decide +kernel
theorem i_V : ∀ w ∈ u_ws R_V F_V 4, w ∈ zTT := by decide +kernel
theorem i_M : ∀ w ∈ u_ws R_M F_M 32, w ∈ zTT := by decide +kernel
theorem zcl_in {k : Nat} (h : zobj k = true) : ∀ w ∈ u_ws (zcl k).1 (zcl k).2.1 (zcl k).2.2, w ∈ zTT := by
  rcases zobj_cases h with rfl | rfl | rfl | rfl | rfl | rfl
  · exact i_W
  · exact i_R
  · exact i_L
  · exact i_T
  · exact i_V
  · exact i_M
theorem zobj_et {k : Nat} (h : zobj k = true) : zet k = 9 := by
  rcases zobj_cases h with rfl | rfl | rfl | rfl | rfl | rfl <;> rfl
theorem zobj_nf {k : Nat} (h : zobj k = true) : (zcl k).2.2 = znf k := by
  rcases zobj_cases h with rfl | rfl | rfl | rfl | rfl | rfl <;> rfl
theorem zobj_ns {k : Nat} (h : zobj k = true) (σ : ZT) : zns k σ = znf k := by
  unfold zns
  rw [if_pos (zobj_et h)]
/-- a field's type -/
def zfty (k s : Nat) : FieldType := (parseFieldDescriptor ((zcl k).2.1 s).2.2.1).getD .int
theorem zfty_ok {k : Nat} (h : zobj k = true) : ∀ s, s < znf k → parseFieldDescriptor ((zcl k).2.1 s).2.2.1 = some (zfty k s) := by
  rcases zobj_cases h with rfl | rfl | rfl | rfl | rfl | rfl <;> decide +kernel
theorem zfty_nm {k : Nat} (h : zobj k = true) : ∀ a, a < znf k → ∀ b, b < znf k → a ≠ b → ((zcl k).2.1 a).2.1 ≠ ((zcl k).2.1 b).2.1 := by
  rcases zobj_cases h with rfl | rfl | rfl | rfl | rfl | rfl <;> decide +kernel
theorem zft_4 {k : Nat} (h : zobj k = true) : ∀ s, s < znf k → (zft k s).1 = 4 → zlo (zft k s).2 = zlo k ∧ zhi (zft k s).2 = zhi k ∧ 4 ≤ (zft k s).2 := by
  rcases zobj_cases h with rfl | rfl | rfl | rfl | rfl | rfl <;> decide +kernel
theorem zft_5 {k : Nat} (h : zobj k = true) : ∀ s, s < znf k → (zft k s).1 = 5 → 4 ≤ (zft k s).2 ∧ zfty k s = .object R_R ∧ ((zcl k).2.1 s).2.2.2 = false := by
  rcases zobj_cases h with rfl | rfl | rfl | rfl | rfl | rfl <;> decide +kernel
theorem zft_0 {k : Nat} (h : zobj k = true) : ∀ s, s < znf k → (zft k s).1 = 0 → zfty k s = .int ∧ ((zcl k).2.1 s).2.2.2 = false := by
  rcases zobj_cases h with rfl | rfl | rfl | rfl | rfl | rfl <;> decide +kernel
theorem zft_2 {k : Nat} (h : zobj k = true) : ∀ s, s < znf k → (zft k s).1 = 2 → zfty k s = .boolean ∧ ((zcl k).2.1 s).2.2.2 = false := by
  rcases zobj_cases h with rfl | rfl | rfl | rfl | rfl | rfl <;> decide +kernel
/-- the fields that a class's pool names -/
def zFld (C : ZC) (own : String) : Prop := ∀ (ix k : Nat) (s : Int), C.2.1 ix = some (k, s) → zobj k = true ∧ 0 ≤ s ∧ s.toNat < znf k ∧ Cond.fieldLink own ix ((zcl k).2.1 s.toNat).1 ((zcl k).2.1 s.toNat).2.1 ((zcl k).2.1 s.toNat).2.2.1 ∈ zTT
theorem zfld_inv {ρ : Type} {E : ZE} {σ : ZT} {k : Nat} {i s : Int} {c : Nat → Int → Option ρ} {z : ρ} (h : zfld σ k i s c = some z) (hk : zobj k = true) (hs : 0 ≤ s) (hs' : s.toNat < znf k) (hi : zok k i) : ∃ u v, c u v = some z ∧ zcv E (u, v) = zvl E σ k i s.toNat ∧ zvd (u, v) := by
  have he := zobj_et hk
  have hc : ((s.toNat : Nat) : Int) = s := by omega
  unfold zfld at h
  unfold zvl
  rw [if_pos he, hc]
  split at h
  · rename_i hz
    exact ⟨_, _, h, by rw [hz]; rfl, zvd_i _⟩
  · rename_i hz
    exact ⟨_, _, h, by rw [hz]; rfl, zvd_i _⟩
  · rename_i k' hz
    obtain ⟨h1, h2, h3⟩ := zft_4 hk s.toNat hs' (by rw [hz])
    rw [hz] at h1 h2 h3
    refine ⟨_, _, h, by rw [hz]; exact zcv_r E i h3, fun _ => ?_⟩
    show zlo k' ≤ i ∧ i < zhi k'
    rw [h1, h2]
    exact hi
  · rename_i k' hz
    obtain ⟨h1, h2⟩ := zif_inv h
    obtain ⟨h3, -⟩ := zft_5 hk s.toNat hs' (by rw [hz])
    rw [hz] at h3
    exact ⟨_, _, h2, by rw [hz]; show _ = zrf E k' _; unfold zrf; rw [if_pos h1]; exact zcv_r E _ h3, fun _ => h1⟩
  · cases h
theorem zput_inv {ρ : Type} {E : ZE} {σ : ZT} {k : Nat} {i s : Int} {u : Nat} {v : Int} {c : ZT → Option ρ} {z : ρ} (h : zput σ k i s u v c = some z) (hk : zobj k = true) (hs : 0 ≤ s) (hs' : s.toNat < znf k) (hv : zvd (u, v)) :
    c (zsto σ k i s v) = some z ∧ ((zcl k).2.1 s.toNat).2.2.2 = false ∧ narrow (zfty k s.toNat) (zcv E (u, v)) = zcv E (u, v) ∧ fits (zfty k s.toNat) (zcv E (u, v)) = true ∧ zvl E (zsto σ k i s v) k i s.toNat = zcv E (u, v) := by
  have he := zobj_et hk
  have hc : ((s.toNat : Nat) : Int) = s := by omega
  unfold zput at h
  unfold zvl
  rw [if_pos he, hc, zsto_eq]
  split at h
  · rename_i hz
    obtain ⟨rfl, h2⟩ := zif_inv h
    obtain ⟨h3, h4⟩ := zft_0 hk s.toNat hs' (by rw [hz])
    rw [hz, h3]
    exact ⟨h2, h4, rfl, rfl, rfl⟩
  · rename_i hz
    obtain ⟨⟨rfl, hb⟩, h2⟩ := zif_inv h
    obtain ⟨h3, h4⟩ := zft_2 hk s.toNat hs' (by rw [hz])
    rw [hz, h3]
    exact ⟨h2, h4, (zI_fitZ hb).2, (zI_fitZ hb).1, rfl⟩
  · rename_i k' hz
    obtain ⟨rfl, h2⟩ := zif_inv h
    obtain ⟨h5, h3, h4⟩ := zft_5 hk s.toNat hs' (by rw [hz])
    rw [hz] at h5
    rw [hz, h3, zcv_r E v h5]
    refine ⟨h2, h4, rfl, rfl, ?_⟩
    show zrf E u v = _
    unfold zrf
    rw [if_pos (hv h5)]
  · cases h
theorem zassign (vm : Vm) (c : ClassId) : vm.assignable c c = true := by
  show vm.assignableAux (255 + 1) c c = true
  rw [Vm.assignableAux]
  simp
section ZHEAP
variable {E : ZE} {C : ZC} {own : String} {cc : ByteArray} {G : Nat} {p : Program} {l : Launch} {e : Env} {R : Room} {s : State} {m : MethodId} {args : Array Value} {below : List Frame} {meth : Method} {c : Code} {Q : State → Prop} {pc n : Nat} {ls st : List ZV} {σ : ZT} {y : ZS}
theorem zap (hts : ∀ w ∈ zTT, w.before args s = true) (hK : zKK E s) {k : Nat} (hk : zobj k = true) : ∀ a b, a < znf k → b < znf k → a ≠ b → E.2.2.1 k a ≠ E.2.2.1 k b := by
  intro x y hx hy hne
  obtain ⟨hS, -⟩ := hK.1 k hk
  rw [zobj_nf hk] at hS
  have hin := zcl_in hk
  rw [zobj_nf hk] at hin
  obtain ⟨_, _, _, fa, hia, ea⟩ := hS x hx
  obtain ⟨_, _, _, fb, hib, eb⟩ := hS y hy
  rw [← ea, ← eb]
  refine u_apart (u_lays hts hin hx) (u_lays hts hin hy) hia hib ?_
  rw [(State.fieldFound?_type hia (zfty_ok hk x hx)).1, (State.fieldFound?_type hib (zfty_ok hk y hy)).1]
  exact zfty_nm hk x hx y hy hne
theorem zs_getfield {ix : Nat} (X : zCx E C own cc p s m args c) (hF : zFld C own) (hq : C.1 pc = some (.getfield ix, n)) (hz : ((C.2.1 ix).bind fun ks => zr1 st fun t i r => if t = ks.1 then zfld σ ks.1 i ks.2 fun u v => some (Sum.inl (β := ZR) (pc + 3, ls, (u, v) :: r, σ)) else none) = some (.inl y)) (hy : zW E G p l e R s m args below meth c Q y) : zW E G p l e R s m args below meth c Q (pc, ls, st, σ) := by
  obtain ⟨hV, hx, hb, hown, hts, hK, hC⟩ := X
  obtain ⟨hd, hw⟩ := hC pc _ _ hq
  have hn : n = 3 := by simpa [zwf] using hw
  subst hn
  obtain ⟨⟨k, sl⟩, hix, hz1⟩ := zop_inv hz
  obtain ⟨t, i, r, hst, ht, hz2⟩ := zr1_inv hz1
  subst hst
  obtain ⟨hk, hz3⟩ := zif_inv hz2
  dsimp only at hk hz3
  subst hk
  obtain ⟨ho, h0, hs, hl⟩ := hF ix t sl hix
  intro H locs cells slots L hR
  have hi : zok t i := hR.2.2.2.1.hd ht
  obtain ⟨u, v, hz4, hv, hvd⟩ := zfld_inv (E := E) hz3 ho h0 hs hi
  cases hz4
  obtain ⟨cell, c1, c2, c3, c4, c5, c6, c7⟩ := hR.1.1 t i hi
  obtain ⟨hS, hfc, kC, hkC, hkind⟩ := hK.1 t ho
  rw [zobj_nf ho] at hS
  have hin := zcl_in ho
  rw [zobj_nf ho] at hin
  obtain ⟨cf, kf, fi, f, hi', hsl⟩ := hS sl.toNat hs
  simp only [List.map_cons, zcv_r E i ht]
  refine W.getf hx hb hown (hts _ hl) hi' (u_facts hfc hkC (u_lays hts hin hs) hi').1 c1 c3 (v := zcv E (u, v)) (by rw [hsl, hv]; exact c7 _ (by rw [zobj_ns ho]; exact hs)) rfl rfl hd ?_
  exact hy H locs cells slots L (hR.stk (hR.2.2.2.1.tl.cons hvd))
theorem zRel.put {k : Nat} {i sl x : Int} {ls st' : List ZV} {H H' : Heap} {locs : List Loc} {cells slots : Nat} {L : Array Slot} {pc' j : Nat} (hR : zRel E G (pc, ls, st, σ) H locs cells slots L) (hH : zHH E (zsto σ k i sl x) H') (hV : zEV E) (hi : zok k i) (h19 : k ≠ 19) (hs : zvs st') : zRel E G (pc', ls, st', zsto σ k i sl x) H' (locs ++ [⟨E.1 k i, j⟩]) cells slots L := by
  have hg : gh (zsto σ k i sl x) = gh σ := gh_sto (fun q => by subst q; exact zok_39 hi)
  refine ⟨hH, hR.2.1, hR.2.2.1, hs, fun q hq => ?_, ?_, ?_⟩
  · rcases List.mem_append.mp hq with h | h
    · exact hR.2.2.2.2.1 q h
    · rw [List.mem_singleton.mp h]
      exact hV.2.1 k i hi h19
  · show cells + gh (zsto σ k i sl x) ≤ G
    rw [hg]
    exact hR.2.2.2.2.2.1
  · show slots + 6 * gh (zsto σ k i sl x) ≤ 6 * G
    rw [hg]
    exact hR.2.2.2.2.2.2
theorem zs_putfield {ix : Nat} (X : zCx E C own cc p s m args c) (hF : zFld C own) (hq : C.1 pc = some (.putfield ix, n)) (hz : ((C.2.1 ix).bind fun ks => zn1 st fun u v r => zr1 r fun t i r' => if t = ks.1 then zput σ ks.1 i ks.2 u v fun τ => some (Sum.inl (β := ZR) (pc + 3, ls, r', τ)) else none) = some (.inl y)) (hy : zW E G p l e R s m args below meth c Q y) : zW E G p l e R s m args below meth c Q (pc, ls, st, σ) := by
  obtain ⟨hV, hx, hb, hown, hts, hK, hC⟩ := X
  obtain ⟨hd, hw⟩ := hC pc _ _ hq
  have hn : n = 3 := by simpa [zwf] using hw
  subst hn
  obtain ⟨⟨k, sl⟩, hix, hz1⟩ := zop_inv hz
  obtain ⟨u, v, r, hst, hu, hz2⟩ := zn1_inv hz1
  subst hst
  obtain ⟨t, i, r', hst, ht, hz3⟩ := zr1_inv hz2
  subst hst
  obtain ⟨hk, hz4⟩ := zif_inv hz3
  dsimp only at hk hz4
  subst hk
  obtain ⟨ho, h0, hs, hl⟩ := hF ix t sl hix
  intro H locs cells slots L hR
  have hi : zok t i := hR.2.2.2.1.tl.hd ht
  obtain ⟨hz5, hfin, hnar, hfit, hval⟩ := zput_inv (E := E) hz4 ho h0 hs hR.2.2.2.1.hd
  cases hz5
  obtain ⟨cell, c1, c2, c3, c4, c5, c6, c7⟩ := hR.1.1 t i hi
  obtain ⟨hS, hfc, kC, hkC, hkind⟩ := hK.1 t ho
  rw [zobj_nf ho] at hS
  have hin := zcl_in ho
  rw [zobj_nf ho] at hin
  obtain ⟨cf, kf, fi, f, hi', hsl⟩ := hS sl.toNat hs
  have hlay := hts _ (hin _ (u_in_lay hs))
  unfold u_lay at hlay
  rw [if_neg (by rw [hfin]; decide)] at hlay
  have hst := (u_facts hfc hkC (u_lays hts hin hs) hi').1
  have h6 := u_store hfc hkC hkind hlay hi' (zfty_ok ho _ hs) hnar hfit
  have hns : sl.toNat < zns t σ := by rw [zobj_ns ho]; exact hs
  have hc : ((sl.toNat : Nat) : Int) = sl := by omega
  have h19 : t ≠ 19 := fun q => by subst q; exact absurd ho (by decide)
  simp only [List.map_cons, zcv_r E i ht]
  refine W.putK hx hb (f := f) ⟨hown, hts _ hl, ⟨_, _, _, hi'⟩, hst⟩ (by rw [c2]; exact h6) c1 (c5 (zobj_et ho)) (by rw [hsl]; exact k2_hasslot (c7 _ hns)) rfl rfl hd fun H' e1 e2 e3 => ?_
  rw [hsl] at e1
  have hH : zHH E (zsto σ t i sl v) H' := by
    have := zHH.sto hV hR.1 hi h19 sl.toNat hns v (v := zcv E (u, v)) (by rw [hc]; exact hval) c1 e1 e2 e3 (by rw [zobj_ns ho]; exact zap hts hK ho) (fun h => by rw [zobj_et ho] at h; cases h)
    rw [hc] at this
    exact this
  exact hy H' _ cells slots L (hR.put hH hV hi h19 hR.2.2.2.1.tl.tl)
/-- an array cell -/
theorem zarr (hV : zEV E) (hK : zKK E s) {H : Heap} {t : Nat} {i : Int} (hH : zHH E σ H) (hi : zok t i) (he : zet t ≠ 9) : ∃ cell : Cell, H[E.1 t i]? = some cell ∧ s.isArrayOf cell (zty t) ∧ cell.vm ≠ .unknown ∧ cell.slots.size = (zlen t σ).toNat ∧ ∀ j : Nat, j < (zlen t σ).toNat → cell.slots[j]? = some (zvl E σ t i j) := by
  obtain ⟨cell, c1, c2, c3, c4, c5, c6, c7⟩ := hH.1 t i hi
  obtain ⟨kA, comp, h1, h2, -⟩ := hK.2.1 t he
  have hns : zns t σ = (zlen t σ).toNat := by unfold zns; rw [if_neg he]
  rw [hns] at c6 c7
  refine ⟨cell, c1, ⟨VmData.ne_statics_of c4, kA, by rw [c2]; exact h1, comp, h2⟩, c3, c6 he, fun j hj => ?_⟩
  have := c7 j hj
  rw [hV.2.2 t j he] at this
  exact this
theorem zvl_i {t : Nat} {i : Int} {j : Nat} (h : zet t = 0 ∨ zet t = 1 ∨ zet t = 2) : zvl E σ t i j = .int (Int32.ofInt (σ t i j)) := by
  unfold zvl
  rcases h with h | h | h <;> rw [h] <;> rfl
theorem zvl_l {t : Nat} {i : Int} {j : Nat} (h : zet t = 3) : zvl E σ t i j = .long (Int64.ofInt (σ t i j)) := by
  unfold zvl
  rw [h]
  rfl
theorem zvl_t {t : Nat} {i : Int} {j : Nat} (h : zet t = 4) : zvl E σ t i j = zrf E 13 j := by
  unfold zvl
  rw [h]
  rfl
theorem zvl_v {t : Nat} {i : Int} {j : Nat} (h : zet t = 5) : zvl E σ t i j = zrf E 15 (σ t i j) := by
  unfold zvl
  rw [h]
  rfl
theorem zty_0 {t : Nat} (h : zet t = 0) : zty t = .int := by unfold zty; rw [h]; rfl
theorem zty_1 {t : Nat} (h : zet t = 1) : zty t = .byte := by unfold zty; rw [h]; rfl
theorem zty_2 {t : Nat} (h : zet t = 2) : zty t = .boolean := by unfold zty; rw [h]; rfl
theorem zty_3 {t : Nat} (h : zet t = 3) : zty t = .long := by unfold zty; rw [h]; rfl
theorem zty_4 {t : Nat} (h : zet t = 4) : zty t = .object R_T := by unfold zty; rw [h]; rfl
theorem zty_5 {t : Nat} (h : zet t = 5) : zty t = .object R_V := by unfold zty; rw [h]; rfl
theorem zs_iaload (X : zCx E C own cc p s m args c) (hq : C.1 pc = some (.iaload, n)) (hz : (z1 st fun j r => zr1 r fun t i r' => if zet t = 0 then zbd t σ j (some (Sum.inl (β := ZR) (pc + 1, ls, (0, σ t i (zwr j)) :: r', σ))) else none) = some (.inl y)) (hy : zW E G p l e R s m args below meth c Q y) : zW E G p l e R s m args below meth c Q (pc, ls, st, σ) := by
  obtain ⟨hV, hx, hb, hown, hts, hK, hC⟩ := X
  obtain ⟨hd, hw⟩ := hC pc _ _ hq
  have hn : n = 1 := by simpa [zwf] using hw
  subst hn
  obtain ⟨j, r, hst, hz1⟩ := z1_inv hz
  subst hst
  obtain ⟨t, i, r', hst, ht, hz2⟩ := zr1_inv hz1
  subst hst
  obtain ⟨he, hz3⟩ := zif_inv hz2
  obtain ⟨h0, h1, hz4⟩ := zbd_inv hz3
  cases hz4
  intro H locs cells slots L hR
  have hi : zok t i := hR.2.2.2.1.tl.hd ht
  obtain ⟨cell, c1, c2, c3, c4, c5⟩ := zarr (σ := σ) hV hK hR.1 hi (by rw [he]; decide)
  rw [zty_0 he] at c2
  have hj : (((zwr j).toNat : Nat) : Int) = zwr j := by omega
  simp only [List.map_cons, zcv_r E i ht]
  refine W.iald hx hb c1 c2 c3 (zI_in h0 (by rw [c4]; show zwr j < _; omega)) (v := zcv E (0, σ t i (zwr j))) ?_ rfl rfl hd ?_
  · rw [zI_clamp]
    show cell.slots[(zwr j).toNat]? = _
    rw [c5 _ (by omega), zvl_i (Or.inl he), hj]
    rfl
  · exact hy H locs cells slots L (hR.stk (hR.2.2.2.1.tl.tl.cons (zvd_i _)))
theorem zs_baload (X : zCx E C own cc p s m args c) (hq : C.1 pc = some (.baload, n)) (hz : (z1 st fun j r => zr1 r fun t i r' => if zet t = 1 ∨ zet t = 2 then zbd t σ j (some (Sum.inl (β := ZR) (pc + 1, ls, (0, σ t i (zwr j)) :: r', σ))) else none) = some (.inl y)) (hy : zW E G p l e R s m args below meth c Q y) : zW E G p l e R s m args below meth c Q (pc, ls, st, σ) := by
  obtain ⟨hV, hx, hb, hown, hts, hK, hC⟩ := X
  obtain ⟨hd, hw⟩ := hC pc _ _ hq
  have hn : n = 1 := by simpa [zwf] using hw
  subst hn
  obtain ⟨j, r, hst, hz1⟩ := z1_inv hz
  subst hst
  obtain ⟨t, i, r', hst, ht, hz2⟩ := zr1_inv hz1
  subst hst
  obtain ⟨he, hz3⟩ := zif_inv hz2
  obtain ⟨h0, h1, hz4⟩ := zbd_inv hz3
  cases hz4
  intro H locs cells slots L hR
  have hi : zok t i := hR.2.2.2.1.tl.hd ht
  obtain ⟨cell, c1, c2, c3, c4, c5⟩ := zarr (σ := σ) hV hK hR.1 hi (by rcases he with he | he <;> rw [he] <;> decide)
  have hj : (((zwr j).toNat : Nat) : Int) = zwr j := by omega
  have hv : cell.slots[(Int32.ofInt j).toNatClampNeg]? = some (zcv E (0, σ t i (zwr j))) := by
    rw [zI_clamp, c5 _ (by omega), zvl_i (Or.inr he), hj]
    rfl
  have hin : ¬ (Int32.ofInt j < 0 ∨ cell.slots.size ≤ (Int32.ofInt j).toNatClampNeg) := zI_in h0 (by rw [c4]; omega)
  simp only [List.map_cons, zcv_r E i ht]
  rcases he with he | he
  · rw [zty_1 he] at c2
    exact W.bald hx hb c1 c2 c3 hin hv rfl rfl hd (hy H locs cells slots L (hR.stk (hR.2.2.2.1.tl.tl.cons (zvd_i _))))
  · rw [zty_2 he] at c2
    exact W.zald hx hb c1 c2 c3 hin hv rfl rfl hd (hy H locs cells slots L (hR.stk (hR.2.2.2.1.tl.tl.cons (zvd_i _))))
theorem zs_laload (X : zCx E C own cc p s m args c) (hq : C.1 pc = some (.laload, n)) (hz : (z1 st fun j r => zr1 r fun t i r' => if zet t = 3 then zbd t σ j (some (Sum.inl (β := ZR) (pc + 1, ls, (1, σ t i (zwr j)) :: r', σ))) else none) = some (.inl y)) (hy : zW E G p l e R s m args below meth c Q y) : zW E G p l e R s m args below meth c Q (pc, ls, st, σ) := by
  obtain ⟨hV, hx, hb, hown, hts, hK, hC⟩ := X
  obtain ⟨hd, hw⟩ := hC pc _ _ hq
  have hn : n = 1 := by simpa [zwf] using hw
  subst hn
  obtain ⟨j, r, hst, hz1⟩ := z1_inv hz
  subst hst
  obtain ⟨t, i, r', hst, ht, hz2⟩ := zr1_inv hz1
  subst hst
  obtain ⟨he, hz3⟩ := zif_inv hz2
  obtain ⟨h0, h1, hz4⟩ := zbd_inv hz3
  cases hz4
  intro H locs cells slots L hR
  have hi : zok t i := hR.2.2.2.1.tl.hd ht
  obtain ⟨cell, c1, c2, c3, c4, c5⟩ := zarr (σ := σ) hV hK hR.1 hi (by rw [he]; decide)
  rw [zty_3 he] at c2
  have hj : (((zwr j).toNat : Nat) : Int) = zwr j := by omega
  simp only [List.map_cons, zcv_r E i ht]
  refine W.lald hx hb c1 c2 c3 (zI_in h0 (by rw [c4]; show zwr j < _; omega)) (v := zcv E (1, σ t i (zwr j))) ?_ rfl rfl hd ?_
  · rw [zI_clamp]
    show cell.slots[(zwr j).toNat]? = _
    rw [c5 _ (by omega), zvl_l he, hj]
    rfl
  · exact hy H locs cells slots L (hR.stk (hR.2.2.2.1.tl.tl.cons (zvd_l _)))
theorem zs_aaload (X : zCx E C own cc p s m args c) (hq : C.1 pc = some (.aaload, n)) (hz : (z1 st fun j r => zr1 r fun t i r' => if zet t = 4 then (if zok 13 (zwr j) then some (Sum.inl (β := ZR) (pc + 1, ls, (13, zwr j) :: r', σ)) else none) else if zet t = 5 then zbd t σ j (if zok 15 (σ t i (zwr j)) then some (Sum.inl (pc + 1, ls, (15, σ t i (zwr j)) :: r', σ)) else none) else none) = some (.inl y)) (hy : zW E G p l e R s m args below meth c Q y) : zW E G p l e R s m args below meth c Q (pc, ls, st, σ) := by
  obtain ⟨hV, hx, hb, hown, hts, hK, hC⟩ := X
  obtain ⟨hd, hw⟩ := hC pc _ _ hq
  have hn : n = 1 := by simpa [zwf] using hw
  subst hn
  obtain ⟨j, r, hst, hz1⟩ := z1_inv hz
  subst hst
  obtain ⟨t, i, r', hst, ht, hz2⟩ := zr1_inv hz1
  subst hst
  intro H locs cells slots L hR
  have hi : zok t i := hR.2.2.2.1.tl.hd ht
  simp only [List.map_cons, zcv_r E i ht]
  by_cases he : zet t = 4
  · rw [if_pos he] at hz2
    obtain ⟨h13, hz3⟩ := zif_inv hz2
    cases hz3
    obtain ⟨cell, c1, c2, c3, c4, c5⟩ := zarr (σ := σ) hV hK hR.1 hi (by rw [he]; decide)
    rw [zty_4 he] at c2
    have h5 : t = 5 := by
      unfold zet at he
      split at he <;> first | rfl | cases he
    subst h5
    have hlen : zlen 5 σ = 41 := rfl
    rw [hlen] at c4 c5
    obtain ⟨g1, g2⟩ := h13
    have g1 : 1 ≤ zwr j := g1
    have g2 : zwr j < 41 := g2
    have hj : (((zwr j).toNat : Nat) : Int) = zwr j := by omega
    refine W.aald hx hb c1 c2 rfl c3 (zI_in (by show 0 ≤ zwr j; omega) (by rw [c4]; show zwr j < _; omega)) (v := zcv E (13, zwr j)) ?_ rfl rfl hd ?_
    · rw [zI_clamp]
      show cell.slots[(zwr j).toNat]? = _
      rw [c5 _ (by omega), zvl_t he, hj]
      unfold zrf
      rw [if_pos ⟨g1, g2⟩]
      exact congrArg some (zcv_r E _ (by decide)).symm
    · exact hy H locs cells slots L (hR.stk (hR.2.2.2.1.tl.tl.cons (fun _ => ⟨g1, g2⟩)))
  · rw [if_neg he] at hz2
    obtain ⟨he, hz3⟩ := zif_inv hz2
    obtain ⟨h0, h1, hz4⟩ := zbd_inv hz3
    obtain ⟨h15, hz5⟩ := zif_inv hz4
    cases hz5
    obtain ⟨cell, c1, c2, c3, c4, c5⟩ := zarr (σ := σ) hV hK hR.1 hi (by rw [he]; decide)
    rw [zty_5 he] at c2
    have hj : (((zwr j).toNat : Nat) : Int) = zwr j := by omega
    refine W.aald hx hb c1 c2 rfl c3 (zI_in h0 (by rw [c4]; show zwr j < _; omega)) (v := zcv E (15, σ t i (zwr j))) ?_ rfl rfl hd ?_
    · rw [zI_clamp]
      show cell.slots[(zwr j).toNat]? = _
      rw [c5 _ (by omega), zvl_v he, hj]
      unfold zrf
      rw [if_pos h15]
      exact congrArg some (zcv_r E _ (by decide)).symm
    · exact hy H locs cells slots L (hR.stk (hR.2.2.2.1.tl.tl.cons (fun _ => h15)))
theorem zHH.ast (hV : zEV E) {H H' : Heap} {t : Nat} {i j x : Int} {v : Value} {cell : Cell} (h : zHH E σ H) (hi : zok t i) (h19 : t ≠ 19) (he : zet t ≠ 9) (h0 : 0 ≤ j) (h1 : j < zlen t σ) (hv : zvl E (zsto σ t i j x) t i j.toNat = v) (hc : H[E.1 t i]? = some cell)
    (e1 : H'[E.1 t i]? = some (cell.setSlot j.toNat v)) (e2 : H'.size = H.size) (e3 : ∀ q : Nat, q ≠ E.1 t i → H'[q]? = H[q]?) (hb : zet t = 1 → -128 ≤ x ∧ x < 128) : zHH E (zsto σ t i j x) H' := by
  have hj : ((j.toNat : Nat) : Int) = j := by omega
  have hns : zns t σ = (zlen t σ).toNat := by unfold zns; rw [if_neg he]
  have := zHH.sto hV h hi h19 j.toNat (by rw [hns]; omega) x (v := v) (by rw [hj]; exact hv) hc (by rw [hV.2.2 t _ he]; exact e1) e2 e3 (fun a b _ _ hab => by rw [hV.2.2 t _ he, hV.2.2 t _ he]; exact hab) hb
  rw [hj] at this
  exact this
theorem zs_iastore (X : zCx E C own cc p s m args c) (hq : C.1 pc = some (.iastore, n)) (hz : (z2 st fun j v r => zr1 r fun t i r' => if zet t = 0 ∧ t ≠ 19 then zbd t σ j (some (Sum.inl (β := ZR) (pc + 1, ls, r', zsto σ t i (zwr j) v))) else none) = some (.inl y)) (hy : zW E G p l e R s m args below meth c Q y) : zW E G p l e R s m args below meth c Q (pc, ls, st, σ) := by
  obtain ⟨hV, hx, hb, hown, hts, hK, hC⟩ := X
  obtain ⟨hd, hw⟩ := hC pc _ _ hq
  have hn : n = 1 := by simpa [zwf] using hw
  subst hn
  obtain ⟨j, v, r, hst, hz1⟩ := z2_inv hz
  subst hst
  obtain ⟨t, i, r', hst, ht, hz2⟩ := zr1_inv hz1
  subst hst
  obtain ⟨⟨he, h19⟩, hz3⟩ := zif_inv hz2
  obtain ⟨h0, h1, hz4⟩ := zbd_inv hz3
  cases hz4
  intro H locs cells slots L hR
  have hi : zok t i := hR.2.2.2.1.tl.tl.hd ht
  have he9 : zet t ≠ 9 := by rw [he]; decide
  obtain ⟨cell, c1, c2, c3, c4, c5⟩ := zarr (σ := σ) hV hK hR.1 hi he9
  rw [zty_0 he] at c2
  have hj : (((zwr j).toNat : Nat) : Int) = zwr j := by omega
  simp only [List.map_cons, zcv_r E i ht]
  refine W.iast hx hb c1 c2 c3 (zI_in h0 (by rw [c4]; show zwr j < _; omega)) rfl rfl hd fun H' e1 e2 e3 => ?_
  rw [zI_clamp] at e1
  exact hy H' _ cells slots L (hR.put (zHH.ast hV hR.1 hi h19 he9 h0 h1 (by rw [zvl_i (Or.inl he), hj, zsto_eq]) c1 e1 e2 e3 (fun h => by rw [he] at h; cases h)) hV hi h19 hR.2.2.2.1.tl.tl.tl)
theorem zs_bastore (X : zCx E C own cc p s m args c) (hq : C.1 pc = some (.bastore, n)) (hz : (z2 st fun j v r => zr1 r fun t i r' => if zet t = 1 then zbd t σ j (some (Sum.inl (β := ZR) (pc + 1, ls, r', zsto σ t i (zwr j) (znb v)))) else if zet t = 2 then zbd t σ j (some (Sum.inl (pc + 1, ls, r', zsto σ t i (zwr j) (v % 2)))) else none) = some (.inl y)) (hy : zW E G p l e R s m args below meth c Q y) : zW E G p l e R s m args below meth c Q (pc, ls, st, σ) := by
  obtain ⟨hV, hx, hb, hown, hts, hK, hC⟩ := X
  obtain ⟨hd, hw⟩ := hC pc _ _ hq
  have hn : n = 1 := by simpa [zwf] using hw
  subst hn
  obtain ⟨j, v, r, hst, hz1⟩ := z2_inv hz
  subst hst
  obtain ⟨t, i, r', hst, ht, hz2⟩ := zr1_inv hz1
  subst hst
  intro H locs cells slots L hR
  have hi : zok t i := hR.2.2.2.1.tl.tl.hd ht
  have h19 : zet t ≠ 0 → t ≠ 19 := fun q z => by subst z; exact q rfl
  simp only [List.map_cons, zcv_r E i ht]
  by_cases he : zet t = 1
  · rw [if_pos he] at hz2
    obtain ⟨h0, h1, hz4⟩ := zbd_inv hz2
    cases hz4
    have he9 : zet t ≠ 9 := by rw [he]; decide
    obtain ⟨cell, c1, c2, c3, c4, c5⟩ := zarr (σ := σ) hV hK hR.1 hi he9
    rw [zty_1 he] at c2
    have hj : (((zwr j).toNat : Nat) : Int) = zwr j := by omega
    refine W.bast hx hb c1 c2 c3 (zI_in h0 (by rw [c4]; show zwr j < _; omega)) rfl rfl hd fun H' e1 e2 e3 => ?_
    rw [zI_clamp, zI_narB] at e1
    exact hy H' _ cells slots L (hR.put (zHH.ast hV hR.1 hi (h19 (by rw [he]; decide)) he9 h0 h1 (by rw [zvl_i (Or.inr (Or.inl he)), hj, zsto_eq]) c1 e1 e2 e3 (fun _ => ⟨znb_ge _, znb_lt _⟩)) hV hi (h19 (by rw [he]; decide)) hR.2.2.2.1.tl.tl.tl)
  · rw [if_neg he] at hz2
    obtain ⟨he, hz3⟩ := zif_inv hz2
    obtain ⟨h0, h1, hz4⟩ := zbd_inv hz3
    cases hz4
    have he9 : zet t ≠ 9 := by rw [he]; decide
    obtain ⟨cell, c1, c2, c3, c4, c5⟩ := zarr (σ := σ) hV hK hR.1 hi he9
    rw [zty_2 he] at c2
    have hj : (((zwr j).toNat : Nat) : Int) = zwr j := by omega
    refine W.zast hx hb c1 c2 c3 (zI_in h0 (by rw [c4]; show zwr j < _; omega)) rfl rfl hd fun H' e1 e2 e3 => ?_
    rw [zI_clamp, zI_narZ] at e1
    exact hy H' _ cells slots L (hR.put (zHH.ast hV hR.1 hi (h19 (by rw [he]; decide)) he9 h0 h1 (by rw [zvl_i (Or.inr (Or.inr he)), hj, zsto_eq]) c1 e1 e2 e3 (fun h => by rw [he] at h; cases h)) hV hi (h19 (by rw [he]; decide)) hR.2.2.2.1.tl.tl.tl)
theorem zs_lastore (X : zCx E C own cc p s m args c) (hq : C.1 pc = some (.lastore, n)) (hz : (zl1 st fun v r => z1 r fun j r' => zr1 r' fun t i r'' => if zet t = 3 then zbd t σ j (some (Sum.inl (β := ZR) (pc + 1, ls, r'', zsto σ t i (zwr j) v))) else none) = some (.inl y)) (hy : zW E G p l e R s m args below meth c Q y) : zW E G p l e R s m args below meth c Q (pc, ls, st, σ) := by
  obtain ⟨hV, hx, hb, hown, hts, hK, hC⟩ := X
  obtain ⟨hd, hw⟩ := hC pc _ _ hq
  have hn : n = 1 := by simpa [zwf] using hw
  subst hn
  obtain ⟨v, r, hst, hz1⟩ := zl1_inv hz
  subst hst
  obtain ⟨j, r', hst, hz2⟩ := z1_inv hz1
  subst hst
  obtain ⟨t, i, r'', hst, ht, hz3⟩ := zr1_inv hz2
  subst hst
  obtain ⟨he, hz4⟩ := zif_inv hz3
  obtain ⟨h0, h1, hz5⟩ := zbd_inv hz4
  cases hz5
  intro H locs cells slots L hR
  have hi : zok t i := hR.2.2.2.1.tl.tl.hd ht
  have he9 : zet t ≠ 9 := by rw [he]; decide
  have h19 : t ≠ 19 := fun z => by subst z; cases he
  obtain ⟨cell, c1, c2, c3, c4, c5⟩ := zarr (σ := σ) hV hK hR.1 hi he9
  rw [zty_3 he] at c2
  have hj : (((zwr j).toNat : Nat) : Int) = zwr j := by omega
  simp only [List.map_cons, zcv_r E i ht]
  refine W.last hx hb c1 c2 c3 (zI_in h0 (by rw [c4]; show zwr j < _; omega)) rfl rfl hd fun H' e1 e2 e3 => ?_
  rw [zI_clamp] at e1
  exact hy H' _ cells slots L (hR.put (zHH.ast hV hR.1 hi h19 he9 h0 h1 (by rw [zvl_l he, hj, zsto_eq]) c1 e1 e2 e3 (fun h => by rw [he] at h; cases h)) hV hi h19 hR.2.2.2.1.tl.tl.tl)
theorem zs_aastore (X : zCx E C own cc p s m args c) (hq : C.1 pc = some (.aastore, n)) (hz : (zr1 st fun u v r => z1 r fun j r' => zr1 r' fun t i r'' => if zet t = 5 ∧ u = 15 then zbd t σ j (some (Sum.inl (β := ZR) (pc + 1, ls, r'', zsto σ t i (zwr j) v))) else none) = some (.inl y)) (hy : zW E G p l e R s m args below meth c Q y) : zW E G p l e R s m args below meth c Q (pc, ls, st, σ) := by
  obtain ⟨hV, hx, hb, hown, hts, hK, hC⟩ := X
  obtain ⟨hd, hw⟩ := hC pc _ _ hq
  have hn : n = 1 := by simpa [zwf] using hw
  subst hn
  obtain ⟨u, v, r, hst, hu, hz1⟩ := zr1_inv hz
  subst hst
  obtain ⟨j, r', hst, hz2⟩ := z1_inv hz1
  subst hst
  obtain ⟨t, i, r'', hst, ht, hz3⟩ := zr1_inv hz2
  subst hst
  obtain ⟨⟨he, hu15⟩, hz4⟩ := zif_inv hz3
  subst hu15
  obtain ⟨h0, h1, hz5⟩ := zbd_inv hz4
  cases hz5
  intro H locs cells slots L hR
  have hi : zok t i := hR.2.2.2.1.tl.tl.hd ht
  have hv : zok 15 v := hR.2.2.2.1.hd hu
  have he9 : zet t ≠ 9 := by rw [he]; decide
  have h19 : t ≠ 19 := fun z => by subst z; cases he
  obtain ⟨cell, c1, c2, c3, c4, c5⟩ := zarr (σ := σ) hV hK hR.1 hi he9
  obtain ⟨kA, comp, a1, a2, a3⟩ := hK.2.1 t he9
  have a3 := a3 he
  obtain ⟨cellV, d1, d2, d3, d4, -⟩ := hR.1.1 15 v hv
  obtain ⟨-, hfc, kC, hkC, hkind⟩ := hK.1 15 rfl
  have hcomp : comp = E.2.1 15 := Option.some.inj (a3.symm.trans hfc)
  have hj : (((zwr j).toNat : Nat) : Int) = zwr j := by omega
  have hcls : cell.cls = E.2.1 t := by
    obtain ⟨cell0, g1, g2, -⟩ := hR.1.1 t i hi
    cases c1.symm.trans g1
    exact g2
  simp only [List.map_cons, zcv_r E i ht, zcv_r E v hu]
  refine W.aast hx hb c1 c2.1 c3 (by rw [hcls]; exact a1) a2 (by rw [zty_5 he]; rfl) (by rw [hcomp]; exact hkC) ⟨by rw [zI_lt0]; show ¬ zwr j < 0; omega, by rw [zI_clamp, c4]; show (zwr j).toNat < _; omega⟩ d1 (VmData.ne_statics_of d4) (by rw [d2]; exact hkC) (by rw [d2, hcomp]; exact zassign s.vm _) rfl rfl hd fun H' e1 e2 e3 => ?_
  rw [zI_clamp] at e1
  refine hy H' _ cells slots L (hR.put (zHH.ast hV hR.1 hi h19 he9 h0 h1 (v := .ref (E.1 15 v)) ?_ c1 e1 e2 e3 (fun h => by rw [he] at h; cases h)) hV hi h19 hR.2.2.2.1.tl.tl.tl)
  rw [zvl_v he, hj, zsto_eq]
  unfold zrf
  rw [if_pos hv]
theorem zs_arraylength (X : zCx E C own cc p s m args c) (hq : C.1 pc = some (.arraylength, n)) (hz : (zr1 st fun t i r => if t = 19 ∧ 0 ≤ zlen t σ then some (Sum.inl (β := ZR) (pc + 1, ls, (0, zlen t σ) :: r, σ)) else none) = some (.inl y)) (hy : zW E G p l e R s m args below meth c Q y) : zW E G p l e R s m args below meth c Q (pc, ls, st, σ) := by
  obtain ⟨hV, hx, hb, hown, hts, hK, hC⟩ := X
  obtain ⟨hd, hw⟩ := hC pc _ _ hq
  have hn : n = 1 := by simpa [zwf] using hw
  subst hn
  obtain ⟨t, i, r, hst, ht, hz1⟩ := zr1_inv hz
  subst hst
  obtain ⟨⟨h19, hpos⟩, hz2⟩ := zif_inv hz1
  subst h19
  cases hz2
  intro H locs cells slots L hR
  have hi : zok 19 i := hR.2.2.2.1.hd ht
  obtain ⟨cell, c1, c2, c3, c4, c5⟩ := zarr (σ := σ) hV hK hR.1 hi (by decide)
  simp only [List.map_cons, zcv_r E i ht]
  refine W.alen hx hb c1 c2 (n := Int32.ofInt (zlen 19 σ)) ?_ rfl rfl hd (hy H locs cells slots L (hR.stk (hR.2.2.2.1.tl.cons (zvd_i _))))
  rw [c4]
  have : zlen 19 σ = (((zlen 19 σ).toNat : Nat) : Int) := by omega
  rw [this, Int32.ofInt_eq_ofNat]
  rfl
end ZHEAP
