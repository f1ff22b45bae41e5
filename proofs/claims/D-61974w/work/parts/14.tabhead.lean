/-! TABLES OF THE METHODS, by program -/
def zchk (cc : ByteArray) (k : Nat → Option (Instr × Nat)) (N : Nat) : Bool := (List.range N).all fun pc => match k pc with
  | none => true
  | some q => (match decode cc pc with
    | .ok q' => decide (q' = q)
    | .error _ => false) && zwf pc q.1 q.2
theorem zcode_of {C : ZC} {cc : ByteArray} {N : Nat} (h : zchk cc C.1 N = true) (hN : ∀ pc, N ≤ pc → C.1 pc = none) : zCode C cc := by
  intro pc i n hq
  have hlt : pc < N := by
    apply Classical.byContradiction
    intro q
    rw [hN pc (by omega)] at hq
    cases hq
  have h1 := List.all_eq_true.mp h pc (List.mem_range.mpr hlt)
  simp only [hq, Bool.and_eq_true] at h1
  obtain ⟨h2, h3⟩ := h1
  refine ⟨?_, h3⟩
  split at h2
  · rename_i q' hd
    rw [hd, of_decide_eq_true h2]
  · cases h2
def zck (k : Nat → Option (Instr × Nat)) (N : Nat) (vl sl : List Nat) : Bool := (List.range N).all fun pc => match k pc with
  | some (.invokevirtual ix, _) => vl.contains ix
  | some (.invokestatic ix, _) => sl.contains ix
  | _ => true
theorem zck_v {k : Nat → Option (Instr × Nat)} {N : Nat} {vl sl : List Nat} (h : zck k N vl sl = true) (hN : ∀ pc, N ≤ pc → k pc = none) {pc ix n : Nat} (hq : k pc = some (.invokevirtual ix, n)) : ix ∈ vl := by
  have hlt : pc < N := by
    apply Classical.byContradiction
    intro q
    rw [hN pc (by omega)] at hq
    cases hq
  have h1 := List.all_eq_true.mp h pc (List.mem_range.mpr hlt)
  simp only [hq] at h1
  exact List.contains_iff_mem.mp h1
theorem zck_s {k : Nat → Option (Instr × Nat)} {N : Nat} {vl sl : List Nat} (h : zck k N vl sl = true) (hN : ∀ pc, N ≤ pc → k pc = none) {pc ix n : Nat} (hq : k pc = some (.invokestatic ix, n)) : ix ∈ sl := by
  have hlt : pc < N := by
    apply Classical.byContradiction
    intro q
    rw [hN pc (by omega)] at hq
    cases hq
  have h1 := List.all_eq_true.mp h pc (List.mem_range.mpr hlt)
  simp only [hq] at h1
  exact List.contains_iff_mem.mp h1
theorem zcond_inv {α : Type} {a b : Nat} {v w : α} {r : Option α} (h : cond (Nat.beq a b) (some v) r = some w) : (a = b ∧ v = w) ∨ r = some w := by
  cases hb : Nat.beq a b with
  | true => rw [hb] at h; exact Or.inl ⟨Nat.eq_of_beq_eq_true hb, Option.some.inj h⟩
  | false => rw [hb] at h; exact Or.inr h
def zlk {α : Type} : List (Nat × α) → Nat → Option α
  | [], _ => none
  | (k, v) :: r, q => cond (Nat.beq q k) (some v) (zlk r q)
theorem zlk_mem {α : Type} : ∀ (l : List (Nat × α)) (q : Nat) (v : α), zlk l q = some v → (q, v) ∈ l
  | [], _, _, h => by cases h
  | (k, w) :: r, q, v, h => by
    rcases zcond_inv h with ⟨rfl, rfl⟩ | h
    · exact List.mem_cons_self
    · exact List.mem_cons_of_mem _ (zlk_mem r q v h)
def zfchk (own : String) (e : Nat × Nat × Int) : Bool := zobj e.2.1 && decide (0 ≤ e.2.2) && decide (e.2.2.toNat < znf e.2.1) && zTT.contains (Cond.fieldLink own e.1 ((zcl e.2.1).2.1 e.2.2.toNat).1 ((zcl e.2.1).2.1 e.2.2.toNat).2.1 ((zcl e.2.1).2.1 e.2.2.toNat).2.2.1)
theorem zfld_of {own : String} {fl : Nat → Option (Nat × Int)} {l : List (Nat × Nat × Int)} (hfl : fl = zlk l) (h : l.all (zfchk own) = true) : ∀ (ix k : Nat) (s : Int), fl ix = some (k, s) → zobj k = true ∧ 0 ≤ s ∧ s.toNat < znf k ∧ Cond.fieldLink own ix ((zcl k).2.1 s.toNat).1 ((zcl k).2.1 s.toNat).2.1 ((zcl k).2.1 s.toNat).2.2.1 ∈ zTT := by
  intro ix k s hf
  rw [hfl] at hf
  have h1 := List.all_eq_true.mp h _ (zlk_mem l ix (k, s) hf)
  simp only [zfchk, Bool.and_eq_true, decide_eq_true_eq] at h1
  exact ⟨h1.1.1.1, h1.1.1.2, h1.1.2, List.contains_iff_mem.mp h1.2⟩
theorem zrt0 : zRt 0 none := ⟨fun _ => rfl, fun h => absurd h (by decide), fun h => absurd h (by decide), fun h => absurd h (by decide), fun h => absurd h (by decide)⟩
theorem zrt1 : zRt 1 (some .int) := ⟨fun h => absurd h (by decide), fun _ => rfl, fun h => absurd h (by decide), fun h => absurd h (by decide), fun h => absurd h (by decide)⟩
theorem zrt2 : zRt 2 (some .boolean) := ⟨fun h => absurd h (by decide), fun h => absurd h (by decide), fun _ => rfl, fun h => absurd h (by decide), fun h => absurd h (by decide)⟩
theorem zrt3 : zRt 3 (some .byte) := ⟨fun h => absurd h (by decide), fun h => absurd h (by decide), fun h => absurd h (by decide), fun _ => rfl, fun h => absurd h (by decide)⟩
theorem zrtR {k : Nat} (h : 4 ≤ k) (n : String) : zRt k (some (.object n)) := ⟨fun q => by omega, fun q => by omega, fun q => by omega, fun q => by omega, fun _ => ⟨n, rfl⟩⟩
theorem zpar_of {ds : String} {k : Nat} (h : (parseMethodDescriptor ds).map (fun s => s.parameters.length) = some k) : ∀ sig, parseMethodDescriptor ds = some sig → k = sig.parameters.length := by
  intro sig hs
  rw [hs] at h
  exact (Option.some.inj h).symm
theorem zpar_of1 {ds : String} {k : Nat} (h : (parseMethodDescriptor ds).map (fun s => s.parameters.length + 1) = some k) : ∀ sig, parseMethodDescriptor ds = some sig → k = sig.parameters.length + 1 := by
  intro sig hs
  rw [hs] at h
  exact (Option.some.inj h).symm
theorem zfn_recv {C : ZC} {k : Nat} {ts : List Nat} {pad as : List ZV} {σ : ZT} {r : ZR} (h : zfn C (k :: ts) pad as σ = some r) : ∃ i as', as = (k, i) :: as' := by
  have h1 := (zfn_inv h).1
  cases as with
  | nil => cases h1
  | cons v as' =>
    obtain ⟨t, i⟩ := v
    rw [List.map_cons] at h1
    have h2 := (List.cons.inj h1).1
    have h2 : t = k := h2
    subst h2
    exact ⟨i, as', rfl⟩

def fl_W (q : Nat) : Option (Nat × Int) := cond (Nat.beq q 17) (some (4, 0)) (cond (Nat.beq q 24) (some (4, 1)) (cond (Nat.beq q 28) (some (4, 2)) (cond (Nat.beq q 33) (some (4, 4)) (cond (Nat.beq q 37) (some (4, 5)) (cond (Nat.beq q 43) (some (4, 7)) (cond (Nat.beq q 47) (some (4, 8)) (cond (Nat.beq q 51) (some (4, 10)) (cond (Nat.beq q 54) (some (4, 11)) (cond (Nat.beq q 71) (some (13, 2)) (cond (Nat.beq q 85) (some (13, 1)) (cond (Nat.beq q 89) (some (13, 0)) (cond (Nat.beq q 93) (some (13, 5)) (cond (Nat.beq q 96) (some (13, 3)) (cond (Nat.beq q 99) (some (15, 0)) (cond (Nat.beq q 102) (some (6, 1)) (cond (Nat.beq q 103) (some (15, 1)) (cond (Nat.beq q 113) (some (15, 3)) (cond (Nat.beq q 123) (some (15, 2)) (cond (Nat.beq q 130) (some (4, 6)) (cond (Nat.beq q 133) (some (4, 3)) (cond (Nat.beq q 169) (some (6, 0)) (cond (Nat.beq q 180) (some (4, 12)) (cond (Nat.beq q 183) (some (4, 13)) (cond (Nat.beq q 189) (some (9, 1)) (cond (Nat.beq q 195) (some (9, 3)) (cond (Nat.beq q 198) (some (9, 4)) (cond (Nat.beq q 243) (some (4, 9)) (none))))))))))))))))))))))))))))
theorem ff_W : ∀ (ix k : Nat) (s : Int), fl_W ix = some (k, s) → zobj k = true ∧ 0 ≤ s ∧ s.toNat < znf k ∧ Cond.fieldLink "RevisionWrite" ix ((zcl k).2.1 s.toNat).1 ((zcl k).2.1 s.toNat).2.1 ((zcl k).2.1 s.toNat).2.2.1 ∈ zTT := zfld_of (l := [(17, 4, 0), (24, 4, 1), (28, 4, 2), (33, 4, 4), (37, 4, 5), (43, 4, 7), (47, 4, 8), (51, 4, 10), (54, 4, 11), (71, 13, 2), (85, 13, 1), (89, 13, 0), (93, 13, 5), (96, 13, 3), (99, 15, 0), (102, 6, 1), (103, 15, 1), (113, 15, 3), (123, 15, 2), (130, 4, 6), (133, 4, 3), (169, 6, 0), (180, 4, 12), (183, 4, 13), (189, 9, 1), (195, 9, 3), (198, 9, 4), (243, 4, 9)]) rfl (by decide +kernel)
def fl_R (q : Nat) : Option (Nat × Int) := cond (Nat.beq q 9) (some (6, 0)) (cond (Nat.beq q 15) (some (6, 1)) (none))
theorem ff_R : ∀ (ix k : Nat) (s : Int), fl_R ix = some (k, s) → zobj k = true ∧ 0 ≤ s ∧ s.toNat < znf k ∧ Cond.fieldLink "RevisionWrite$Row" ix ((zcl k).2.1 s.toNat).1 ((zcl k).2.1 s.toNat).2.1 ((zcl k).2.1 s.toNat).2.2.1 ∈ zTT := zfld_of (l := [(9, 6, 0), (15, 6, 1)]) rfl (by decide +kernel)
def fl_L (q : Nat) : Option (Nat × Int) := cond (Nat.beq q 9) (some (9, 0)) (cond (Nat.beq q 15) (some (9, 1)) (cond (Nat.beq q 19) (some (9, 2)) (cond (Nat.beq q 23) (some (6, 1)) (cond (Nat.beq q 28) (some (6, 0)) (cond (Nat.beq q 44) (some (9, 3)) (cond (Nat.beq q 47) (some (9, 4)) (none)))))))
theorem ff_L : ∀ (ix k : Nat) (s : Int), fl_L ix = some (k, s) → zobj k = true ∧ 0 ≤ s ∧ s.toNat < znf k ∧ Cond.fieldLink "RevisionWrite$Lines" ix ((zcl k).2.1 s.toNat).1 ((zcl k).2.1 s.toNat).2.1 ((zcl k).2.1 s.toNat).2.2.1 ∈ zTT := zfld_of (l := [(9, 9, 0), (15, 9, 1), (19, 9, 2), (23, 6, 1), (28, 6, 0), (44, 9, 3), (47, 9, 4)]) rfl (by decide +kernel)
def fl_T (q : Nat) : Option (Nat × Int) := cond (Nat.beq q 9) (some (13, 0)) (cond (Nat.beq q 15) (some (13, 2)) (cond (Nat.beq q 19) (some (13, 5)) (cond (Nat.beq q 22) (some (13, 4)) (cond (Nat.beq q 25) (some (13, 1)) (cond (Nat.beq q 29) (some (13, 3)) (none))))))
theorem ff_T : ∀ (ix k : Nat) (s : Int), fl_T ix = some (k, s) → zobj k = true ∧ 0 ≤ s ∧ s.toNat < znf k ∧ Cond.fieldLink "RevisionWrite$Thing" ix ((zcl k).2.1 s.toNat).1 ((zcl k).2.1 s.toNat).2.1 ((zcl k).2.1 s.toNat).2.2.1 ∈ zTT := zfld_of (l := [(9, 13, 0), (15, 13, 2), (19, 13, 5), (22, 13, 4), (25, 13, 1), (29, 13, 3)]) rfl (by decide +kernel)
def fl_V (q : Nat) : Option (Nat × Int) := cond (Nat.beq q 9) (some (15, 0)) (cond (Nat.beq q 15) (some (15, 1)) (none))
theorem ff_V : ∀ (ix k : Nat) (s : Int), fl_V ix = some (k, s) → zobj k = true ∧ 0 ≤ s ∧ s.toNat < znf k ∧ Cond.fieldLink "RevisionWrite$Revision" ix ((zcl k).2.1 s.toNat).1 ((zcl k).2.1 s.toNat).2.1 ((zcl k).2.1 s.toNat).2.2.1 ∈ zTT := zfld_of (l := [(9, 15, 0), (15, 15, 1)]) rfl (by decide +kernel)
def fl_M (q : Nat) : Option (Nat × Int) := cond (Nat.beq q 7) (some (20, 1)) (cond (Nat.beq q 13) (some (20, 2)) (cond (Nat.beq q 16) (some (20, 3)) (cond (Nat.beq q 19) (some (20, 4)) (cond (Nat.beq q 22) (some (20, 5)) (cond (Nat.beq q 26) (some (20, 6)) (cond (Nat.beq q 30) (some (20, 8)) (cond (Nat.beq q 33) (some (20, 11)) (cond (Nat.beq q 36) (some (20, 12)) (cond (Nat.beq q 39) (some (20, 13)) (cond (Nat.beq q 42) (some (20, 14)) (cond (Nat.beq q 45) (some (20, 15)) (cond (Nat.beq q 48) (some (20, 18)) (cond (Nat.beq q 51) (some (20, 19)) (cond (Nat.beq q 54) (some (20, 25)) (cond (Nat.beq q 57) (some (20, 30)) (cond (Nat.beq q 60) (some (20, 31)) (cond (Nat.beq q 63) (some (20, 0)) (cond (Nat.beq q 78) (some (20, 17)) (cond (Nat.beq q 82) (some (20, 16)) (cond (Nat.beq q 110) (some (20, 10)) (cond (Nat.beq q 113) (some (20, 26)) (cond (Nat.beq q 116) (some (20, 7)) (cond (Nat.beq q 123) (some (20, 9)) (cond (Nat.beq q 141) (some (20, 21)) (cond (Nat.beq q 144) (some (20, 20)) (cond (Nat.beq q 147) (some (20, 22)) (cond (Nat.beq q 163) (some (20, 27)) (cond (Nat.beq q 166) (some (20, 23)) (cond (Nat.beq q 175) (some (20, 24)) (cond (Nat.beq q 204) (some (20, 29)) (cond (Nat.beq q 207) (some (20, 28)) (none))))))))))))))))))))))))))))))))
theorem ff_M : ∀ (ix k : Nat) (s : Int), fl_M ix = some (k, s) → zobj k = true ∧ 0 ≤ s ∧ s.toNat < znf k ∧ Cond.fieldLink "RevisionWriteModel" ix ((zcl k).2.1 s.toNat).1 ((zcl k).2.1 s.toNat).2.1 ((zcl k).2.1 s.toNat).2.2.1 ∈ zTT := zfld_of (l := [(7, 20, 1), (13, 20, 2), (16, 20, 3), (19, 20, 4), (22, 20, 5), (26, 20, 6), (30, 20, 8), (33, 20, 11), (36, 20, 12), (39, 20, 13), (42, 20, 14), (45, 20, 15), (48, 20, 18), (51, 20, 19), (54, 20, 25), (57, 20, 30), (60, 20, 31), (63, 20, 0), (78, 20, 17), (82, 20, 16), (110, 20, 10), (113, 20, 26), (116, 20, 7), (123, 20, 9), (141, 20, 21), (144, 20, 20), (147, 20, 22), (163, 20, 27), (166, 20, 23), (175, 20, 24), (204, 20, 29), (207, 20, 28)]) rfl (by decide +kernel)
