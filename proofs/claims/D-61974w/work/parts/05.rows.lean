/-! A STEP OF THE ABSTRACT MACHINE IS A STEP OF THE JVM: straight instructions -/
section ZINV
variable {ρ : Type}
theorem z1_inv {st : List ZV} {k : Int → List ZV → Option ρ} {z : ρ} (h : z1 st k = some z) : ∃ a r, st = (0, a) :: r ∧ k a r = some z := by
  unfold z1 at h
  split at h
  · exact ⟨_, _, rfl, h⟩
  · cases h
theorem z2_inv {st : List ZV} {k : Int → Int → List ZV → Option ρ} {z : ρ} (h : z2 st k = some z) : ∃ a b r, st = (0, b) :: (0, a) :: r ∧ k a b r = some z := by
  unfold z2 at h
  split at h
  · exact ⟨_, _, _, rfl, h⟩
  · cases h
theorem zl1_inv {st : List ZV} {k : Int → List ZV → Option ρ} {z : ρ} (h : zl1 st k = some z) : ∃ a r, st = (1, a) :: r ∧ k a r = some z := by
  unfold zl1 at h
  split at h
  · exact ⟨_, _, rfl, h⟩
  · cases h
theorem zif_inv {c : Prop} [Decidable c] {a : Option ρ} {z : ρ} (h : (if c then a else none) = some z) : c ∧ a = some z := by
  split at h
  · exact ⟨by assumption, h⟩
  · cases h
theorem zifn_inv {c : Prop} [Decidable c] {a : Option ρ} {z : ρ} (h : (if c then none else a) = some z) : ¬ c ∧ a = some z := by
  split at h
  · cases h
  · exact ⟨by assumption, h⟩
theorem zr1_inv {st : List ZV} {k : Nat → Int → List ZV → Option ρ} {z : ρ} (h : zr1 st k = some z) : ∃ t a r, st = (t, a) :: r ∧ 4 ≤ t ∧ k t a r = some z := by
  unfold zr1 at h
  split at h
  · obtain ⟨h1, h2⟩ := zif_inv h
    exact ⟨_, _, _, rfl, h1, h2⟩
  · cases h
theorem zn1_inv {st : List ZV} {k : Nat → Int → List ZV → Option ρ} {z : ρ} (h : zn1 st k = some z) : ∃ t a r, st = (t, a) :: r ∧ t ≠ 1 ∧ k t a r = some z := by
  unfold zn1 at h
  split at h
  · obtain ⟨h1, h2⟩ := zifn_inv h
    exact ⟨_, _, _, rfl, h1, h2⟩
  · cases h
theorem zldI_inv {ls : List ZV} {i : Nat} {k : Int → Option ρ} {z : ρ} (h : zldI ls i k = some z) : ∃ a, ls[i]? = some (0, a) ∧ k a = some z := by
  unfold zldI at h
  split at h
  · exact ⟨_, by assumption, h⟩
  · cases h
theorem zldR_inv {ls : List ZV} {i : Nat} {k : Nat → Int → Option ρ} {z : ρ} (h : zldR ls i k = some z) : ∃ t a, ls[i]? = some (t, a) ∧ 4 ≤ t ∧ k t a = some z := by
  unfold zldR at h
  split at h
  · obtain ⟨h1, h2⟩ := zif_inv h
    exact ⟨_, _, by assumption, h1, h2⟩
  · cases h
theorem zset_inv {ls : List ZV} {i : Nat} {v : ZV} {k : List ZV → Option ρ} {z : ρ} (h : zset ls i v k = some z) : i < ls.length ∧ k (ls.set i v) = some z := zif_inv h
theorem zbd_inv {t : Nat} {σ : ZT} {j : Int} {c : Option ρ} {z : ρ} (h : zbd t σ j c = some z) : 0 ≤ zwr j ∧ zwr j < zlen t σ ∧ c = some z := by
  obtain ⟨⟨h1, h2⟩, h3⟩ := zif_inv h
  exact ⟨h1, h2, h3⟩
theorem zop_inv {α : Type} {o : Option α} {k : α → Option ρ} {z : ρ} (h : o.bind k = some z) : ∃ a, o = some a ∧ k a = some z := by
  cases o with
  | none => cases h
  | some a => exact ⟨a, rfl, h⟩
end ZINV
def zwf (pc : Nat) (i : Instr) (n : Nat) : Bool := match i with
  | .bipush v => n == 2 && decide (-128 ≤ v ∧ v < 128)
  | .sipush v => n == 3 && decide (-32768 ≤ v ∧ v < 32768)
  | .iload _ => n == 2
  | .istore _ => n == 2
  | .aload _ => n == 2
  | .astore _ => n == 2
  | .iinc _ _ => n == 3
  | .ifCond _ o => n == 3 && decide (0 ≤ (pc : Int) + o)
  | .if_icmp _ o => n == 3 && decide (0 ≤ (pc : Int) + o)
  | .goto o => n == 3 && decide (0 ≤ (pc : Int) + o)
  | .tableswitch d lo hi offs => decide (0 ≤ (pc : Int) + d) && offs.toList.all (fun o => decide (0 ≤ (pc : Int) + o)) && decide (hi = lo + offs.size - 1)
  | .getfield _ => n == 3
  | .putfield _ => n == 3
  | .invokevirtual _ => n == 3
  | .invokestatic _ => n == 3
  | .invokespecial _ => n == 3
  | .new _ => n == 3
  | _ => n == 1
def zCode (C : ZC) (cc : ByteArray) : Prop := ∀ (pc : Nat) (i : Instr) (n : Nat), C.1 pc = some (i, n) → decode cc pc = .ok (i, n) ∧ zwf pc i n = true
/-- the words that ride along from a method to its callee -/
def zgoodB (w : Cond) : Bool := (w.onTables && w.keeps) || (match w with
  | .arrayClass _ => true
  | .declares _ => true
  | _ => false)
def zTT : List Cond := lw_tbl.filter zgoodB
theorem zgood {w : Cond} (h : w ∈ zTT) : ((w.onTables && w.keeps) = true ∨ ∃ ty, w = .arrayClass ty) ∨ ∃ x, w = .declares x := by
  have h1 := (List.mem_filter.mp h).2
  unfold zgoodB at h1
  rcases Bool.or_eq_true_iff.mp h1 with h2 | h2
  · exact Or.inl (Or.inl h2)
  · split at h2
    · exact Or.inl (Or.inr ⟨_, rfl⟩)
    · exact Or.inr ⟨_, rfl⟩
    · cases h2
theorem zword_at {args a' : Array Value} {s U : State} (hW : s.WarmedH U.vm) {c : Cond} (hc : ((c.onTables && c.keeps) = true ∨ ∃ ty, c = .arrayClass ty) ∨ ∃ x, c = .declares x) (h : c.before args s = true) : c.before a' U = true := by
  rcases hc with hc | ⟨x, rfl⟩
  · exact word_at hW hc h
  · have h1 : (Cond.declares x).before args (s.setVm U.vm) = true := Cond.before_shiftedFace (State.Shifted.of_warmed hW) _ rfl h
    exact h1
/-- where the walk stands: the machine, the code, the tables -/
def zCx (E : ZE) (C : ZC) (own : String) (cc : ByteArray) (p : Program) (s : State) (m : MethodId) (args : Array Value) (c : Code) : Prop :=
  zEV E ∧ p.tables.exec = Jvm.exec ∧ c.code = cc ∧ s.vm.findClass own = some m.cls ∧ (∀ w ∈ zTT, w.before args s = true) ∧ zKK E s ∧ zCode C cc
def zRel (E : ZE) (G : Nat) (x : ZS) (H : Heap) (locs : List Loc) (cells slots : Nat) (L : Array Slot) : Prop := zHH E x.2.2.2 H ∧ zLR E L x.2.1 ∧ zvs x.2.1 ∧ zvs x.2.2.1 ∧ (∀ q ∈ locs, E.2.2.2.size ≤ q.base) ∧ cells + gh x.2.2.2 ≤ G ∧ slots + 6 * gh x.2.2.2 ≤ 6 * G
theorem zRel.stk {E : ZE} {G : Nat} {pc pc' : Nat} {ls st st' : List ZV} {σ : ZT} {H : Heap} {locs : List Loc} {cells slots : Nat} {L : Array Slot} (h : zRel E G (pc, ls, st, σ) H locs cells slots L) (h' : zvs st') : zRel E G (pc', ls, st', σ) H locs cells slots L := ⟨h.1, h.2.1, h.2.2.1, h', h.2.2.2.2⟩
theorem zRel.loc {E : ZE} {G : Nat} {pc pc' : Nat} {ls ls' st st' : List ZV} {σ : ZT} {H : Heap} {locs : List Loc} {cells slots : Nat} {L L' : Array Slot} (h : zRel E G (pc, ls, st, σ) H locs cells slots L) (h' : zvs st') (hl : zLR E L' ls') (hv : zvs ls') : zRel E G (pc', ls', st', σ) H locs cells slots L' := ⟨h.1, hl, hv, h', h.2.2.2.2⟩
def zW (E : ZE) (G : Nat) (p : Program) (l : Launch) (e : Env) (R : Room) (s : State) (m : MethodId) (args : Array Value) (below : List Frame) (meth : Method) (c : Code) (Q : State → Prop) (x : ZS) : Prop := ∀ (H : Heap) (locs : List Loc) (cells slots : Nat) (L : Array Slot), zRel E G x H locs cells slots L → W p l e R s m args below meth c H locs cells slots Q (F0 m x.1 L (x.2.2.1.map (zcv E)))
section ZROWS
variable {E : ZE} {C : ZC} {own : String} {cc : ByteArray} {G : Nat} {p : Program} {l : Launch} {e : Env} {R : Room} {s : State} {m : MethodId} {args : Array Value} {below : List Frame} {meth : Method} {c : Code} {Q : State → Prop} {pc n : Nat} {ls st : List ZV} {σ : ZT} {y : ZS}
theorem zs_iconst {v : Int} (X : zCx E C own cc p s m args c) (hq : C.1 pc = some (.iconst v, n)) (hy : zW E G p l e R s m args below meth c Q (pc + 1, ls, (0, v) :: st, σ)) : zW E G p l e R s m args below meth c Q (pc, ls, st, σ) := by
  obtain ⟨hV, hx, hb, hown, hts, hK, hC⟩ := X
  obtain ⟨hd, hw⟩ := hC pc _ _ hq
  have hn : n = 1 := by simpa [zwf] using hw
  subst hn
  intro H locs cells slots L hR
  exact lv_iconst hx hb hd rfl (hy H locs cells slots L (hR.stk (hR.2.2.2.1.cons (zvd_i v))))
theorem zs_bipush {v : Int} (X : zCx E C own cc p s m args c) (hq : C.1 pc = some (.bipush v, n)) (hy : zW E G p l e R s m args below meth c Q (pc + 2, ls, (0, v) :: st, σ)) : zW E G p l e R s m args below meth c Q (pc, ls, st, σ) := by
  obtain ⟨hV, hx, hb, hown, hts, hK, hC⟩ := X
  obtain ⟨hd, hw⟩ := hC pc _ _ hq
  have hw : n = 2 ∧ -128 ≤ v ∧ v < 128 := by simpa [zwf] using hw
  obtain ⟨rfl, h1, h2⟩ := hw
  intro H locs cells slots L hR
  exact lv_bipush hx hb hd (zI_bi h1 h2) (hy H locs cells slots L (hR.stk (hR.2.2.2.1.cons (zvd_i v))))
theorem zs_sipush {v : Int} (X : zCx E C own cc p s m args c) (hq : C.1 pc = some (.sipush v, n)) (hy : zW E G p l e R s m args below meth c Q (pc + 3, ls, (0, v) :: st, σ)) : zW E G p l e R s m args below meth c Q (pc, ls, st, σ) := by
  obtain ⟨hV, hx, hb, hown, hts, hK, hC⟩ := X
  obtain ⟨hd, hw⟩ := hC pc _ _ hq
  have hw : n = 3 ∧ -32768 ≤ v ∧ v < 32768 := by simpa [zwf] using hw
  obtain ⟨rfl, h1, h2⟩ := hw
  intro H locs cells slots L hR
  exact lv_sipush hx hb hd (zI_si h1 h2) (hy H locs cells slots L (hR.stk (hR.2.2.2.1.cons (zvd_i v))))
theorem zs_lconst {v : Fin 2} (X : zCx E C own cc p s m args c) (hq : C.1 pc = some (.lconst v, n)) (hy : zW E G p l e R s m args below meth c Q (pc + 1, ls, (1, ((v.val : Nat) : Int)) :: st, σ)) : zW E G p l e R s m args below meth c Q (pc, ls, st, σ) := by
  obtain ⟨hV, hx, hb, hown, hts, hK, hC⟩ := X
  obtain ⟨hd, hw⟩ := hC pc _ _ hq
  have hn : n = 1 := by simpa [zwf] using hw
  subst hn
  intro H locs cells slots L hR
  exact lv_lconst hx hb hd Int64.ofInt_eq_ofNat.symm (hy H locs cells slots L (hR.stk (hR.2.2.2.1.cons (zvd_l _))))
theorem zs_iload_n {i : Fin 4} (X : zCx E C own cc p s m args c) (hq : C.1 pc = some (.iload_n i, n)) (hz : zldI ls i.val (fun a => some (Sum.inl (β := ZR) (pc + 1, ls, (0, a) :: st, σ))) = some (.inl y)) (hy : zW E G p l e R s m args below meth c Q y) : zW E G p l e R s m args below meth c Q (pc, ls, st, σ) := by
  obtain ⟨hV, hx, hb, hown, hts, hK, hC⟩ := X
  obtain ⟨hd, hw⟩ := hC pc _ _ hq
  have hn : n = 1 := by simpa [zwf] using hw
  subst hn
  obtain ⟨a, ha, hz1⟩ := zldI_inv hz
  cases hz1
  intro H locs cells slots L hR
  exact lv_iload_n hx hb hd rfl (hR.2.1.get ha (show (0 : Nat) ≠ 2 by decide)) (hy H locs cells slots L (hR.stk (hR.2.2.2.1.cons (zvd_i a))))
theorem zs_iload {i : Nat} (X : zCx E C own cc p s m args c) (hq : C.1 pc = some (.iload i, n)) (hz : zldI ls i (fun a => some (Sum.inl (β := ZR) (pc + 2, ls, (0, a) :: st, σ))) = some (.inl y)) (hy : zW E G p l e R s m args below meth c Q y) : zW E G p l e R s m args below meth c Q (pc, ls, st, σ) := by
  obtain ⟨hV, hx, hb, hown, hts, hK, hC⟩ := X
  obtain ⟨hd, hw⟩ := hC pc _ _ hq
  have hn : n = 2 := by simpa [zwf] using hw
  subst hn
  obtain ⟨a, ha, hz1⟩ := zldI_inv hz
  cases hz1
  intro H locs cells slots L hR
  exact lv_iload hx hb hd (hR.2.1.get ha (show (0 : Nat) ≠ 2 by decide)) (hy H locs cells slots L (hR.stk (hR.2.2.2.1.cons (zvd_i a))))
theorem zs_aload_n {i : Fin 4} (X : zCx E C own cc p s m args c) (hq : C.1 pc = some (.aload_n i, n)) (hz : zldR ls i.val (fun t a => some (Sum.inl (β := ZR) (pc + 1, ls, (t, a) :: st, σ))) = some (.inl y)) (hy : zW E G p l e R s m args below meth c Q y) : zW E G p l e R s m args below meth c Q (pc, ls, st, σ) := by
  obtain ⟨hV, hx, hb, hown, hts, hK, hC⟩ := X
  obtain ⟨hd, hw⟩ := hC pc _ _ hq
  have hn : n = 1 := by simpa [zwf] using hw
  subst hn
  obtain ⟨t, a, ha, ht, hz1⟩ := zldR_inv hz
  cases hz1
  intro H locs cells slots L hR
  have h1 := hR.2.1.get ha (by show t ≠ 2; omega)
  rw [zcv_r E a ht] at h1
  refine lv_aload_n hx hb hd rfl h1 ?_
  have := hy H locs cells slots L (hR.stk (hR.2.2.2.1.cons (hR.2.2.1 _ (List.mem_of_getElem? ha))))
  simpa only [List.map_cons, zcv_r E a ht] using this
theorem zs_aload {i : Nat} (X : zCx E C own cc p s m args c) (hq : C.1 pc = some (.aload i, n)) (hz : zldR ls i (fun t a => some (Sum.inl (β := ZR) (pc + 2, ls, (t, a) :: st, σ))) = some (.inl y)) (hy : zW E G p l e R s m args below meth c Q y) : zW E G p l e R s m args below meth c Q (pc, ls, st, σ) := by
  obtain ⟨hV, hx, hb, hown, hts, hK, hC⟩ := X
  obtain ⟨hd, hw⟩ := hC pc _ _ hq
  have hn : n = 2 := by simpa [zwf] using hw
  subst hn
  obtain ⟨t, a, ha, ht, hz1⟩ := zldR_inv hz
  cases hz1
  intro H locs cells slots L hR
  have h1 := hR.2.1.get ha (by show t ≠ 2; omega)
  rw [zcv_r E a ht] at h1
  refine lv_aload hx hb hd h1 ?_
  have := hy H locs cells slots L (hR.stk (hR.2.2.2.1.cons (hR.2.2.1 _ (List.mem_of_getElem? ha))))
  simpa only [List.map_cons, zcv_r E a ht] using this
theorem zs_istore_n {i : Fin 4} (X : zCx E C own cc p s m args c) (hq : C.1 pc = some (.istore_n i, n)) (hz : (z1 st fun a r => zset ls i.val (0, a) fun l => some (Sum.inl (β := ZR) (pc + 1, l, r, σ))) = some (.inl y)) (hy : zW E G p l e R s m args below meth c Q y) : zW E G p l e R s m args below meth c Q (pc, ls, st, σ) := by
  obtain ⟨hV, hx, hb, hown, hts, hK, hC⟩ := X
  obtain ⟨hd, hw⟩ := hC pc _ _ hq
  have hn : n = 1 := by simpa [zwf] using hw
  subst hn
  obtain ⟨a, r, hst, hz1⟩ := z1_inv hz
  subst hst
  obtain ⟨hi, hz2⟩ := zset_inv hz1
  cases hz2
  intro H locs cells slots L hR
  exact lv_istore_n hx hb hd rfl hR.2.1.1 hi rfl (fun L' h' => hy H locs cells slots L' (hR.loc hR.2.2.2.1.tl (hR.2.1.stored (v := (0, a)) hi (show (0 : Nat) ≠ 1 by decide) h') (hR.2.2.1.set (zvd_i a))))
theorem zs_istore {i : Nat} (X : zCx E C own cc p s m args c) (hq : C.1 pc = some (.istore i, n)) (hz : (z1 st fun a r => zset ls i (0, a) fun l => some (Sum.inl (β := ZR) (pc + 2, l, r, σ))) = some (.inl y)) (hy : zW E G p l e R s m args below meth c Q y) : zW E G p l e R s m args below meth c Q (pc, ls, st, σ) := by
  obtain ⟨hV, hx, hb, hown, hts, hK, hC⟩ := X
  obtain ⟨hd, hw⟩ := hC pc _ _ hq
  have hn : n = 2 := by simpa [zwf] using hw
  subst hn
  obtain ⟨a, r, hst, hz1⟩ := z1_inv hz
  subst hst
  obtain ⟨hi, hz2⟩ := zset_inv hz1
  cases hz2
  intro H locs cells slots L hR
  exact lv_istore hx hb hd hR.2.1.1 hi rfl (fun L' h' => hy H locs cells slots L' (hR.loc hR.2.2.2.1.tl (hR.2.1.stored (v := (0, a)) hi (show (0 : Nat) ≠ 1 by decide) h') (hR.2.2.1.set (zvd_i a))))
theorem zs_astore_n {i : Fin 4} (X : zCx E C own cc p s m args c) (hq : C.1 pc = some (.astore_n i, n)) (hz : (zr1 st fun t a r => zset ls i.val (t, a) fun l => some (Sum.inl (β := ZR) (pc + 1, l, r, σ))) = some (.inl y)) (hy : zW E G p l e R s m args below meth c Q y) : zW E G p l e R s m args below meth c Q (pc, ls, st, σ) := by
  obtain ⟨hV, hx, hb, hown, hts, hK, hC⟩ := X
  obtain ⟨hd, hw⟩ := hC pc _ _ hq
  have hn : n = 1 := by simpa [zwf] using hw
  subst hn
  obtain ⟨t, a, r, hst, ht, hz1⟩ := zr1_inv hz
  subst hst
  obtain ⟨hi, hz2⟩ := zset_inv hz1
  cases hz2
  intro H locs cells slots L hR
  simp only [List.map_cons, zcv_r E a ht]
  exact lv_astore_n hx hb hd rfl hR.2.1.1 hi rfl (fun L' h' => hy H locs cells slots L' (hR.loc hR.2.2.2.1.tl (hR.2.1.stored (v := (t, a)) hi (by show t ≠ 1; omega) (by rw [zcv_r E a ht]; exact h')) (hR.2.2.1.set hR.2.2.2.1.hd)))
theorem zs_astore {i : Nat} (X : zCx E C own cc p s m args c) (hq : C.1 pc = some (.astore i, n)) (hz : (zr1 st fun t a r => zset ls i (t, a) fun l => some (Sum.inl (β := ZR) (pc + 2, l, r, σ))) = some (.inl y)) (hy : zW E G p l e R s m args below meth c Q y) : zW E G p l e R s m args below meth c Q (pc, ls, st, σ) := by
  obtain ⟨hV, hx, hb, hown, hts, hK, hC⟩ := X
  obtain ⟨hd, hw⟩ := hC pc _ _ hq
  have hn : n = 2 := by simpa [zwf] using hw
  subst hn
  obtain ⟨t, a, r, hst, ht, hz1⟩ := zr1_inv hz
  subst hst
  obtain ⟨hi, hz2⟩ := zset_inv hz1
  cases hz2
  intro H locs cells slots L hR
  simp only [List.map_cons, zcv_r E a ht]
  exact lv_astore hx hb hd hR.2.1.1 hi rfl (fun L' h' => hy H locs cells slots L' (hR.loc hR.2.2.2.1.tl (hR.2.1.stored (v := (t, a)) hi (by show t ≠ 1; omega) (by rw [zcv_r E a ht]; exact h')) (hR.2.2.1.set hR.2.2.2.1.hd)))
theorem zs_iinc {i : Nat} {v : Int} (X : zCx E C own cc p s m args c) (hq : C.1 pc = some (.iinc i v, n)) (hz : (zldI ls i fun a => zset ls i (0, a + v) fun l => some (Sum.inl (β := ZR) (pc + 3, l, st, σ))) = some (.inl y)) (hy : zW E G p l e R s m args below meth c Q y) : zW E G p l e R s m args below meth c Q (pc, ls, st, σ) := by
  obtain ⟨hV, hx, hb, hown, hts, hK, hC⟩ := X
  obtain ⟨hd, hw⟩ := hC pc _ _ hq
  have hn : n = 3 := by simpa [zwf] using hw
  subst hn
  obtain ⟨a, ha, hz1⟩ := zldI_inv hz
  obtain ⟨hi, hz2⟩ := zset_inv hz1
  cases hz2
  intro H locs cells slots L hR
  obtain ⟨k, hk⟩ := List.getElem?_of_mem (zpl_mem.mpr ⟨(0, a), ha, show (0 : Nat) ≠ 2 by decide, rfl⟩ : (i, zcv E (0, a)) ∈ zpl E ls)
  exact lv_iinc hx hb hd hR.2.1.1 hk (Int32.ofInt_add a v).symm hi rfl (fun L' h' => hy H locs cells slots L' (hR.loc hR.2.2.2.1 (hR.2.1.stored (v := (0, a + v)) hi (show (0 : Nat) ≠ 1 by decide) h') (hR.2.2.1.set (zvd_i _))))
theorem zs_iadd (X : zCx E C own cc p s m args c) (hq : C.1 pc = some (.iadd, n)) (hz : (z2 st fun a b r => some (Sum.inl (β := ZR) (pc + 1, ls, (0, a + b) :: r, σ))) = some (.inl y)) (hy : zW E G p l e R s m args below meth c Q y) : zW E G p l e R s m args below meth c Q (pc, ls, st, σ) := by
  obtain ⟨hV, hx, hb, hown, hts, hK, hC⟩ := X
  obtain ⟨hd, hw⟩ := hC pc _ _ hq
  have hn : n = 1 := by simpa [zwf] using hw
  subst hn
  obtain ⟨a, b, r, hst, hz1⟩ := z2_inv hz
  subst hst
  cases hz1
  intro H locs cells slots L hR
  refine lv_iadd hx hb hd ?_
  rw [← Int32.ofInt_add]
  exact hy H locs cells slots L (hR.stk (hR.2.2.2.1.tl.tl.cons (zvd_i _)))
theorem zs_isub (X : zCx E C own cc p s m args c) (hq : C.1 pc = some (.isub, n)) (hz : (z2 st fun a b r => some (Sum.inl (β := ZR) (pc + 1, ls, (0, a - b) :: r, σ))) = some (.inl y)) (hy : zW E G p l e R s m args below meth c Q y) : zW E G p l e R s m args below meth c Q (pc, ls, st, σ) := by
  obtain ⟨hV, hx, hb, hown, hts, hK, hC⟩ := X
  obtain ⟨hd, hw⟩ := hC pc _ _ hq
  have hn : n = 1 := by simpa [zwf] using hw
  subst hn
  obtain ⟨a, b, r, hst, hz1⟩ := z2_inv hz
  subst hst
  cases hz1
  intro H locs cells slots L hR
  refine lv_isub hx hb hd ?_
  rw [← Int32.ofInt_sub]
  exact hy H locs cells slots L (hR.stk (hR.2.2.2.1.tl.tl.cons (zvd_i _)))
theorem zs_imul (X : zCx E C own cc p s m args c) (hq : C.1 pc = some (.imul, n)) (hz : (z2 st fun a b r => some (Sum.inl (β := ZR) (pc + 1, ls, (0, a * b) :: r, σ))) = some (.inl y)) (hy : zW E G p l e R s m args below meth c Q y) : zW E G p l e R s m args below meth c Q (pc, ls, st, σ) := by
  obtain ⟨hV, hx, hb, hown, hts, hK, hC⟩ := X
  obtain ⟨hd, hw⟩ := hC pc _ _ hq
  have hn : n = 1 := by simpa [zwf] using hw
  subst hn
  obtain ⟨a, b, r, hst, hz1⟩ := z2_inv hz
  subst hst
  cases hz1
  intro H locs cells slots L hR
  refine lv_imul hx hb hd ?_
  rw [← Int32.ofInt_mul]
  exact hy H locs cells slots L (hR.stk (hR.2.2.2.1.tl.tl.cons (zvd_i _)))
theorem zs_idiv (X : zCx E C own cc p s m args c) (hq : C.1 pc = some (.idiv, n)) (hz : (z2 st fun a b r => if zwr b = 0 then none else some (Sum.inl (β := ZR) (pc + 1, ls, (0, (zwr a).tdiv (zwr b)) :: r, σ))) = some (.inl y)) (hy : zW E G p l e R s m args below meth c Q y) : zW E G p l e R s m args below meth c Q (pc, ls, st, σ) := by
  obtain ⟨hV, hx, hb, hown, hts, hK, hC⟩ := X
  obtain ⟨hd, hw⟩ := hC pc _ _ hq
  have hn : n = 1 := by simpa [zwf] using hw
  subst hn
  obtain ⟨a, b, r, hst, hz1⟩ := z2_inv hz
  subst hst
  obtain ⟨h0, hz2⟩ := zifn_inv hz1
  cases hz2
  intro H locs cells slots L hR
  refine lv_idiv hx hb hd (fun q => h0 (zI_eq0.mp q)) ?_
  rw [zI_div]
  exact hy H locs cells slots L (hR.stk (hR.2.2.2.1.tl.tl.cons (zvd_i _)))
theorem zs_irem (X : zCx E C own cc p s m args c) (hq : C.1 pc = some (.irem, n)) (hz : (z2 st fun a b r => if zwr b = 0 then none else some (Sum.inl (β := ZR) (pc + 1, ls, (0, zwr a - (zwr a).tdiv (zwr b) * zwr b) :: r, σ))) = some (.inl y)) (hy : zW E G p l e R s m args below meth c Q y) : zW E G p l e R s m args below meth c Q (pc, ls, st, σ) := by
  obtain ⟨hV, hx, hb, hown, hts, hK, hC⟩ := X
  obtain ⟨hd, hw⟩ := hC pc _ _ hq
  have hn : n = 1 := by simpa [zwf] using hw
  subst hn
  obtain ⟨a, b, r, hst, hz1⟩ := z2_inv hz
  subst hst
  obtain ⟨h0, hz2⟩ := zifn_inv hz1
  cases hz2
  intro H locs cells slots L hR
  refine lv_irem hx hb hd (fun q => h0 (zI_eq0.mp q)) ?_
  rw [zI_rem]
  exact hy H locs cells slots L (hR.stk (hR.2.2.2.1.tl.tl.cons (zvd_i _)))
theorem zs_iand (X : zCx E C own cc p s m args c) (hq : C.1 pc = some (.iand, n)) (hz : (z2 st fun a b r => some (Sum.inl (β := ZR) (pc + 1, ls, (0, zand a b) :: r, σ))) = some (.inl y)) (hy : zW E G p l e R s m args below meth c Q y) : zW E G p l e R s m args below meth c Q (pc, ls, st, σ) := by
  obtain ⟨hV, hx, hb, hown, hts, hK, hC⟩ := X
  obtain ⟨hd, hw⟩ := hC pc _ _ hq
  have hn : n = 1 := by simpa [zwf] using hw
  subst hn
  obtain ⟨a, b, r, hst, hz1⟩ := z2_inv hz
  subst hst
  cases hz1
  intro H locs cells slots L hR
  refine lv_iand hx hb hd ?_
  rw [zI_and]
  exact hy H locs cells slots L (hR.stk (hR.2.2.2.1.tl.tl.cons (zvd_i _)))
theorem zs_ior (X : zCx E C own cc p s m args c) (hq : C.1 pc = some (.ior, n)) (hz : (z2 st fun a b r => some (Sum.inl (β := ZR) (pc + 1, ls, (0, zor a b) :: r, σ))) = some (.inl y)) (hy : zW E G p l e R s m args below meth c Q y) : zW E G p l e R s m args below meth c Q (pc, ls, st, σ) := by
  obtain ⟨hV, hx, hb, hown, hts, hK, hC⟩ := X
  obtain ⟨hd, hw⟩ := hC pc _ _ hq
  have hn : n = 1 := by simpa [zwf] using hw
  subst hn
  obtain ⟨a, b, r, hst, hz1⟩ := z2_inv hz
  subst hst
  cases hz1
  intro H locs cells slots L hR
  refine lv_ior hx hb hd ?_
  rw [zI_or]
  exact hy H locs cells slots L (hR.stk (hR.2.2.2.1.tl.tl.cons (zvd_i _)))
theorem zs_i2b (X : zCx E C own cc p s m args c) (hq : C.1 pc = some (.i2b, n)) (hz : (z1 st fun a r => some (Sum.inl (β := ZR) (pc + 1, ls, (0, znb a) :: r, σ))) = some (.inl y)) (hy : zW E G p l e R s m args below meth c Q y) : zW E G p l e R s m args below meth c Q (pc, ls, st, σ) := by
  obtain ⟨hV, hx, hb, hown, hts, hK, hC⟩ := X
  obtain ⟨hd, hw⟩ := hC pc _ _ hq
  have hn : n = 1 := by simpa [zwf] using hw
  subst hn
  obtain ⟨a, r, hst, hz1⟩ := z1_inv hz
  subst hst
  cases hz1
  intro H locs cells slots L hR
  exact lv_i2b hx hb hd (zI_b a) (hy H locs cells slots L (hR.stk (hR.2.2.2.1.tl.cons (zvd_i _))))
theorem zs_i2l (X : zCx E C own cc p s m args c) (hq : C.1 pc = some (.i2l, n)) (hz : (z1 st fun a r => some (Sum.inl (β := ZR) (pc + 1, ls, (1, zwr a) :: r, σ))) = some (.inl y)) (hy : zW E G p l e R s m args below meth c Q y) : zW E G p l e R s m args below meth c Q (pc, ls, st, σ) := by
  obtain ⟨hV, hx, hb, hown, hts, hK, hC⟩ := X
  obtain ⟨hd, hw⟩ := hC pc _ _ hq
  have hn : n = 1 := by simpa [zwf] using hw
  subst hn
  obtain ⟨a, r, hst, hz1⟩ := z1_inv hz
  subst hst
  cases hz1
  intro H locs cells slots L hR
  exact lv_i2l hx hb hd (zI_l a) (hy H locs cells slots L (hR.stk (hR.2.2.2.1.tl.cons (zvd_l _))))
theorem zs_lcmp (X : zCx E C own cc p s m args c) (hq : C.1 pc = some (.lcmp, n)) (hz : (zl1 st fun b r => zl1 r fun a r' => some (Sum.inl (β := ZR) (pc + 1, ls, (0, zlc a b) :: r', σ))) = some (.inl y)) (hy : zW E G p l e R s m args below meth c Q y) : zW E G p l e R s m args below meth c Q (pc, ls, st, σ) := by
  obtain ⟨hV, hx, hb, hown, hts, hK, hC⟩ := X
  obtain ⟨hd, hw⟩ := hC pc _ _ hq
  have hn : n = 1 := by simpa [zwf] using hw
  subst hn
  obtain ⟨b, r, hst, hz1⟩ := zl1_inv hz
  subst hst
  obtain ⟨a, r', hst, hz2⟩ := zl1_inv hz1
  subst hst
  cases hz2
  intro H locs cells slots L hR
  refine W.lcmp hx hb hd ?_
  rw [zL_cmp]
  exact hy H locs cells slots L (hR.stk (hR.2.2.2.1.tl.tl.cons (zvd_i _)))
theorem zs_dup (X : zCx E C own cc p s m args c) (hq : C.1 pc = some (.dup, n)) (hz : (zn1 st fun t a r => some (Sum.inl (β := ZR) (pc + 1, ls, (t, a) :: (t, a) :: r, σ))) = some (.inl y)) (hy : zW E G p l e R s m args below meth c Q y) : zW E G p l e R s m args below meth c Q (pc, ls, st, σ) := by
  obtain ⟨hV, hx, hb, hown, hts, hK, hC⟩ := X
  obtain ⟨hd, hw⟩ := hC pc _ _ hq
  have hn : n = 1 := by simpa [zwf] using hw
  subst hn
  obtain ⟨t, a, r, hst, ht, hz1⟩ := zn1_inv hz
  subst hst
  cases hz1
  intro H locs cells slots L hR
  exact lv_dup hx hb hd (zcv_cat E (t, a) ht) (hy H locs cells slots L (hR.stk (hR.2.2.2.1.cons hR.2.2.2.1.hd)))
theorem zs_dup_x1 (X : zCx E C own cc p s m args c) (hq : C.1 pc = some (.dup_x1, n)) (hz : (zn1 st fun t a r => zn1 r fun u b r' => some (Sum.inl (β := ZR) (pc + 1, ls, (t, a) :: (u, b) :: (t, a) :: r', σ))) = some (.inl y)) (hy : zW E G p l e R s m args below meth c Q y) : zW E G p l e R s m args below meth c Q (pc, ls, st, σ) := by
  obtain ⟨hV, hx, hb, hown, hts, hK, hC⟩ := X
  obtain ⟨hd, hw⟩ := hC pc _ _ hq
  have hn : n = 1 := by simpa [zwf] using hw
  subst hn
  obtain ⟨t, a, r, hst, ht, hz1⟩ := zn1_inv hz
  subst hst
  obtain ⟨u, b, r', hst, hu, hz2⟩ := zn1_inv hz1
  subst hst
  cases hz2
  intro H locs cells slots L hR
  exact lv_dup_x1 hx hb hd (zcv_cat E (t, a) ht) (zcv_cat E (u, b) hu) (hy H locs cells slots L (hR.stk (((hR.2.2.2.1.tl.tl.cons hR.2.2.2.1.hd).cons hR.2.2.2.1.tl.hd).cons hR.2.2.2.1.hd)))
theorem zs_pop (X : zCx E C own cc p s m args c) (hq : C.1 pc = some (.pop, n)) (hz : (zn1 st fun _ _ r => some (Sum.inl (β := ZR) (pc + 1, ls, r, σ))) = some (.inl y)) (hy : zW E G p l e R s m args below meth c Q y) : zW E G p l e R s m args below meth c Q (pc, ls, st, σ) := by
  obtain ⟨hV, hx, hb, hown, hts, hK, hC⟩ := X
  obtain ⟨hd, hw⟩ := hC pc _ _ hq
  have hn : n = 1 := by simpa [zwf] using hw
  subst hn
  obtain ⟨t, a, r, hst, ht, hz1⟩ := zn1_inv hz
  subst hst
  cases hz1
  intro H locs cells slots L hR
  exact lv_pop hx hb hd (zcv_cat E (t, a) ht) (hy H locs cells slots L (hR.stk hR.2.2.2.1.tl))
theorem ztg_eq {pc : Nat} {o : Int} (h : 0 ≤ (pc : Int) + o) : (pc : Int) + o = (ztg pc o : Int) := by unfold ztg; omega
theorem zs_goto {o : Int} (X : zCx E C own cc p s m args c) (hq : C.1 pc = some (.goto o, n)) (hy : zW E G p l e R s m args below meth c Q (ztg pc o, ls, st, σ)) : zW E G p l e R s m args below meth c Q (pc, ls, st, σ) := by
  obtain ⟨hV, hx, hb, hown, hts, hK, hC⟩ := X
  obtain ⟨hd, hw⟩ := hC pc _ _ hq
  have hw : n = 3 ∧ 0 ≤ (pc : Int) + o := by simpa [zwf] using hw
  obtain ⟨rfl, h1⟩ := hw
  intro H locs cells slots L hR
  exact lv_goto hx hb hd (ztg_eq h1) (hy H locs cells slots L (hR.stk hR.2.2.2.1))
theorem zs_ifCond {k : ClassFile.Cond} {o : Int} (X : zCx E C own cc p s m args c) (hq : C.1 pc = some (.ifCond k o, n)) (hz : (z1 st fun a r => zcmp k (zwr a) 0 (some (Sum.inl (β := ZR) (ztg pc o, ls, r, σ))) (some (Sum.inl (pc + 3, ls, r, σ)))) = some (.inl y)) (hy : zW E G p l e R s m args below meth c Q y) : zW E G p l e R s m args below meth c Q (pc, ls, st, σ) := by
  obtain ⟨hV, hx, hb, hown, hts, hK, hC⟩ := X
  obtain ⟨hd, hw⟩ := hC pc _ _ hq
  have hw : n = 3 ∧ 0 ≤ (pc : Int) + o := by simpa [zwf] using hw
  obtain ⟨rfl, h1⟩ := hw
  obtain ⟨a, r, hst, hz1⟩ := z1_inv hz
  subst hst
  intro H locs cells slots L hR
  cases k with
  | eq =>
    simp only [zcmp] at hz1
    by_cases h : zwr a = 0
    · rw [if_pos h] at hz1
      cases hz1
      exact lv_if_eq hx hb hd (ztg_eq h1) (fun _ => hy H locs cells slots L (hR.stk hR.2.2.2.1.tl)) (fun q => absurd (zI_eq0.mpr h) q)
    · rw [if_neg h] at hz1
      cases hz1
      exact lv_if_eq hx hb hd (ztg_eq h1) (fun q => absurd (zI_eq0.mp q) h) (fun _ => hy H locs cells slots L (hR.stk hR.2.2.2.1.tl))
  | ne =>
    simp only [zcmp] at hz1
    by_cases h : zwr a = 0
    · rw [if_pos h] at hz1
      cases hz1
      exact lv_if_ne hx hb hd (ztg_eq h1) (fun q => absurd (zI_eq0.mpr h) q) (fun _ => hy H locs cells slots L (hR.stk hR.2.2.2.1.tl))
    · rw [if_neg h] at hz1
      cases hz1
      exact lv_if_ne hx hb hd (ztg_eq h1) (fun _ => hy H locs cells slots L (hR.stk hR.2.2.2.1.tl)) (fun q => absurd (zI_eq0.mp q) h)
  | lt =>
    simp only [zcmp] at hz1
    by_cases h : zwr a < 0
    · rw [if_pos h] at hz1
      cases hz1
      exact lv_if_lt hx hb hd (ztg_eq h1) (fun _ => hy H locs cells slots L (hR.stk hR.2.2.2.1.tl)) (fun q => absurd (zI_lt0.mpr h) q)
    · rw [if_neg h] at hz1
      cases hz1
      exact lv_if_lt hx hb hd (ztg_eq h1) (fun q => absurd (zI_lt0.mp q) h) (fun _ => hy H locs cells slots L (hR.stk hR.2.2.2.1.tl))
  | ge =>
    simp only [zcmp] at hz1
    by_cases h : zwr a < 0
    · rw [if_pos h] at hz1
      cases hz1
      exact lv_if_ge hx hb hd (ztg_eq h1) (fun q => absurd (zI_0le.mp q) (show ¬ 0 ≤ zwr a by omega)) (fun _ => hy H locs cells slots L (hR.stk hR.2.2.2.1.tl))
    · rw [if_neg h] at hz1
      cases hz1
      exact lv_if_ge hx hb hd (ztg_eq h1) (fun _ => hy H locs cells slots L (hR.stk hR.2.2.2.1.tl)) (fun q => absurd (zI_0le.mpr (show 0 ≤ zwr a by omega)) q)
  | gt =>
    simp only [zcmp] at hz1
    by_cases h : 0 < zwr a
    · rw [if_pos h] at hz1
      cases hz1
      exact lv_if_gt hx hb hd (ztg_eq h1) (fun _ => hy H locs cells slots L (hR.stk hR.2.2.2.1.tl)) (fun q => absurd (zI_0lt.mpr h) q)
    · rw [if_neg h] at hz1
      cases hz1
      exact lv_if_gt hx hb hd (ztg_eq h1) (fun q => absurd (zI_0lt.mp q) h) (fun _ => hy H locs cells slots L (hR.stk hR.2.2.2.1.tl))
  | le =>
    simp only [zcmp] at hz1
    by_cases h : 0 < zwr a
    · rw [if_pos h] at hz1
      cases hz1
      exact lv_if_le hx hb hd (ztg_eq h1) (fun q => absurd (zI_le0.mp q) (show ¬ zwr a ≤ 0 by omega)) (fun _ => hy H locs cells slots L (hR.stk hR.2.2.2.1.tl))
    · rw [if_neg h] at hz1
      cases hz1
      exact lv_if_le hx hb hd (ztg_eq h1) (fun _ => hy H locs cells slots L (hR.stk hR.2.2.2.1.tl)) (fun q => absurd (zI_le0.mpr (show zwr a ≤ 0 by omega)) q)
theorem zs_if_icmp {k : ClassFile.Cond} {o : Int} (X : zCx E C own cc p s m args c) (hq : C.1 pc = some (.if_icmp k o, n)) (hz : (z2 st fun a b r => zcmp k (zwr a) (zwr b) (some (Sum.inl (β := ZR) (ztg pc o, ls, r, σ))) (some (Sum.inl (pc + 3, ls, r, σ)))) = some (.inl y)) (hy : zW E G p l e R s m args below meth c Q y) : zW E G p l e R s m args below meth c Q (pc, ls, st, σ) := by
  obtain ⟨hV, hx, hb, hown, hts, hK, hC⟩ := X
  obtain ⟨hd, hw⟩ := hC pc _ _ hq
  have hw : n = 3 ∧ 0 ≤ (pc : Int) + o := by simpa [zwf] using hw
  obtain ⟨rfl, h1⟩ := hw
  obtain ⟨a, b, r, hst, hz1⟩ := z2_inv hz
  subst hst
  intro H locs cells slots L hR
  cases k with
  | eq =>
    simp only [zcmp] at hz1
    by_cases h : zwr a = zwr b
    · rw [if_pos h] at hz1
      cases hz1
      exact lv_icmp_eq hx hb hd (ztg_eq h1) (fun _ => hy H locs cells slots L (hR.stk hR.2.2.2.1.tl.tl)) (fun q => absurd (zI_eq.mpr h) q)
    · rw [if_neg h] at hz1
      cases hz1
      exact lv_icmp_eq hx hb hd (ztg_eq h1) (fun q => absurd (zI_eq.mp q) h) (fun _ => hy H locs cells slots L (hR.stk hR.2.2.2.1.tl.tl))
  | ne =>
    simp only [zcmp] at hz1
    by_cases h : zwr a = zwr b
    · rw [if_pos h] at hz1
      cases hz1
      exact lv_icmp_ne hx hb hd (ztg_eq h1) (fun q => absurd (zI_eq.mpr h) q) (fun _ => hy H locs cells slots L (hR.stk hR.2.2.2.1.tl.tl))
    · rw [if_neg h] at hz1
      cases hz1
      exact lv_icmp_ne hx hb hd (ztg_eq h1) (fun _ => hy H locs cells slots L (hR.stk hR.2.2.2.1.tl.tl)) (fun q => absurd (zI_eq.mp q) h)
  | lt =>
    simp only [zcmp] at hz1
    by_cases h : zwr a < zwr b
    · rw [if_pos h] at hz1
      cases hz1
      exact lv_icmp_lt hx hb hd (ztg_eq h1) (fun _ => hy H locs cells slots L (hR.stk hR.2.2.2.1.tl.tl)) (fun q => absurd (zI_lt.mpr h) q)
    · rw [if_neg h] at hz1
      cases hz1
      exact lv_icmp_lt hx hb hd (ztg_eq h1) (fun q => absurd (zI_lt.mp q) h) (fun _ => hy H locs cells slots L (hR.stk hR.2.2.2.1.tl.tl))
  | ge =>
    simp only [zcmp] at hz1
    by_cases h : zwr a < zwr b
    · rw [if_pos h] at hz1
      cases hz1
      exact lv_icmp_ge hx hb hd (ztg_eq h1) (fun q => absurd (zI_le.mp q) (show ¬ zwr b ≤ zwr a by omega)) (fun _ => hy H locs cells slots L (hR.stk hR.2.2.2.1.tl.tl))
    · rw [if_neg h] at hz1
      cases hz1
      exact lv_icmp_ge hx hb hd (ztg_eq h1) (fun _ => hy H locs cells slots L (hR.stk hR.2.2.2.1.tl.tl)) (fun q => absurd (zI_le.mpr (show zwr b ≤ zwr a by omega)) q)
  | gt =>
    simp only [zcmp] at hz1
    by_cases h : zwr b < zwr a
    · rw [if_pos h] at hz1
      cases hz1
      exact lv_icmp_gt hx hb hd (ztg_eq h1) (fun _ => hy H locs cells slots L (hR.stk hR.2.2.2.1.tl.tl)) (fun q => absurd (zI_lt.mpr h) q)
    · rw [if_neg h] at hz1
      cases hz1
      exact lv_icmp_gt hx hb hd (ztg_eq h1) (fun q => absurd (zI_lt.mp q) h) (fun _ => hy H locs cells slots L (hR.stk hR.2.2.2.1.tl.tl))
  | le =>
    simp only [zcmp] at hz1
    by_cases h : zwr b < zwr a
    · rw [if_pos h] at hz1
      cases hz1
      exact lv_icmp_le hx hb hd (ztg_eq h1) (fun q => absurd (zI_le.mp q) (show ¬ zwr a ≤ zwr b by omega)) (fun _ => hy H locs cells slots L (hR.stk hR.2.2.2.1.tl.tl))
    · rw [if_neg h] at hz1
      cases hz1
      exact lv_icmp_le hx hb hd (ztg_eq h1) (fun _ => hy H locs cells slots L (hR.stk hR.2.2.2.1.tl.tl)) (fun q => absurd (zI_le.mpr (show zwr a ≤ zwr b by omega)) q)
theorem zsw_inv {ρ : Type} {k : Nat → Option ρ} {pc : Nat} {d a : Int} {z : ρ} : ∀ (os : List Int) (lo : Int), zsw k pc d a os lo = some z →
    ((a < lo ∨ lo + os.length - 1 < a) ∧ k (ztg pc d) = some z) ∨ ∃ o, lo ≤ a ∧ os[(a - lo).toNat]? = some o ∧ k (ztg pc o) = some z
  | [], lo, h => Or.inl ⟨by simp only [List.length_nil]; omega, h⟩
  | o :: r, lo, h => by
    rw [zsw] at h
    split at h
    · rename_i e
      refine Or.inr ⟨o, by omega, ?_, h⟩
      rw [e, Int.sub_self]
      rfl
    · rename_i e
      rcases zsw_inv r (lo + 1) h with ⟨h1, h2⟩ | ⟨o', h1, h2, h3⟩
      · exact Or.inl ⟨by simp only [List.length_cons]; omega, h2⟩
      · refine Or.inr ⟨o', by omega, ?_, h3⟩
        rw [show (a - lo).toNat = (a - (lo + 1)).toNat + 1 by omega, List.getElem?_cons_succ]
        exact h2
theorem zs_tableswitch {d lo hi : Int} {offs : Array Int} (X : zCx E C own cc p s m args c) (hq : C.1 pc = some (.tableswitch d lo hi offs, n)) (hz : (z1 st fun a r => zsw (fun g => some (Sum.inl (β := ZR) (g, ls, r, σ))) pc d (zwr a) offs.toList lo) = some (.inl y)) (hy : zW E G p l e R s m args below meth c Q y) : zW E G p l e R s m args below meth c Q (pc, ls, st, σ) := by
  obtain ⟨hV, hx, hb, hown, hts, hK, hC⟩ := X
  obtain ⟨hd, hw⟩ := hC pc _ _ hq
  simp only [zwf, Bool.and_eq_true, decide_eq_true_eq, List.all_eq_true] at hw
  obtain ⟨⟨h1, h2⟩, h3⟩ := hw
  obtain ⟨a, r, hst, hz1⟩ := z1_inv hz
  subst hst
  intro H locs cells slots L hR
  rcases zsw_inv _ _ hz1 with ⟨g1, g2⟩ | ⟨o, g1, g2, g3⟩
  · cases g2
    exact lv_tableOut hx hb hd (by rw [zI_toInt, h3]; simpa using g1) (ztg_eq h1) (hy H locs cells slots L (hR.stk hR.2.2.2.1.tl))
  · cases g3
    have hl := (List.getElem?_eq_some_iff.mp g2).1
    rw [Array.length_toList] at hl
    exact lv_tableIn hx hb hd (by rw [zI_toInt]; show ¬ zwr a < lo; omega) (by rw [zI_toInt, h3]; show ¬ _ < zwr a; omega) (by rw [zI_toInt, ← Array.getElem?_toList]; exact g2) (ztg_eq (h2 o (List.mem_of_getElem? g2))) (hy H locs cells slots L (hR.stk hR.2.2.2.1.tl))
end ZROWS
