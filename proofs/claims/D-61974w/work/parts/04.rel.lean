/-! THE STORE AND THE HEAP: classes, where a kind's cells lie, what it is that the heap holds the store -/
def R_law : String := "RevisionWriteLaw"
def R_W : String := "RevisionWrite"
def R_R : String := "RevisionWrite$Row"
def R_L : String := "RevisionWrite$Lines"
def R_T : String := "RevisionWrite$Thing"
def R_V : String := "RevisionWrite$Revision"
def R_M : String := "RevisionWriteModel"
def F_W : u_T := fun k => match k with
  | 0 => ("RevisionWrite", "things", "[LRevisionWrite$Thing;", true)
  | 1 => ("RevisionWrite", "file", "LRevisionWrite$Row;", false)
  | 2 => ("RevisionWrite", "spare", "LRevisionWrite$Row;", false)
  | 3 => ("RevisionWrite", "isAltered", "Z", false)
  | 4 => ("RevisionWrite", "revisions", "[LRevisionWrite$Revision;", false)
  | 5 => ("RevisionWrite", "others", "[LRevisionWrite$Revision;", false)
  | 6 => ("RevisionWrite", "many", "I", false)
  | 7 => ("RevisionWrite", "lines", "LRevisionWrite$Lines;", true)
  | 8 => ("RevisionWrite", "differing", "[I", true)
  | 9 => ("RevisionWrite", "differences", "I", false)
  | 10 => ("RevisionWrite", "rowsAt", "[I", true)
  | 11 => ("RevisionWrite", "ends", "[I", true)
  | 12 => ("RevisionWrite", "parts", "I", false)
  | _ => ("RevisionWrite", "before", "I", false)
def F_R : u_T := fun k => match k with
  | 0 => ("RevisionWrite$Row", "bytes", "[B", true)
  | _ => ("RevisionWrite$Row", "size", "I", false)
def F_L : u_T := fun k => match k with
  | 0 => ("RevisionWrite$Lines", "row", "LRevisionWrite$Row;", false)
  | 1 => ("RevisionWrite$Lines", "at", "I", false)
  | 2 => ("RevisionWrite$Lines", "isRight", "Z", false)
  | 3 => ("RevisionWrite$Lines", "first", "I", false)
  | _ => ("RevisionWrite$Lines", "second", "I", false)
def F_T : u_T := fun k => match k with
  | 0 => ("RevisionWrite$Thing", "bytes", "[B", true)
  | 1 => ("RevisionWrite$Thing", "size", "I", false)
  | 2 => ("RevisionWrite$Thing", "isThere", "Z", false)
  | 3 => ("RevisionWrite$Thing", "isFirst", "Z", false)
  | 4 => ("RevisionWrite$Thing", "wasThere", "Z", false)
  | _ => ("RevisionWrite$Thing", "isOther", "Z", false)
def F_V : u_T := fun k => match k with
  | 0 => ("RevisionWrite$Revision", "places", "[I", true)
  | 1 => ("RevisionWrite$Revision", "lengths", "[I", true)
  | 2 => ("RevisionWrite$Revision", "size", "I", false)
  | _ => ("RevisionWrite$Revision", "rows", "I", false)
def F_M : u_T := fun k => match k with
  | 0 => ("RevisionWriteModel", "refusal", "I", false)
  | 1 => ("RevisionWriteModel", "isThere", "[Z", true)
  | 2 => ("RevisionWriteModel", "isFirst", "[Z", true)
  | 3 => ("RevisionWriteModel", "isChanged", "[Z", true)
  | 4 => ("RevisionWriteModel", "wasThere", "[Z", true)
  | 5 => ("RevisionWriteModel", "sizes", "[I", true)
  | 6 => ("RevisionWriteModel", "octets", "[B", true)
  | 7 => ("RevisionWriteModel", "size", "I", false)
  | 8 => ("RevisionWriteModel", "file", "[B", true)
  | 9 => ("RevisionWriteModel", "isAltered", "Z", false)
  | 10 => ("RevisionWriteModel", "revisions", "I", false)
  | 11 => ("RevisionWriteModel", "ends", "[I", true)
  | 12 => ("RevisionWriteModel", "marks", "[I", true)
  | 13 => ("RevisionWriteModel", "places", "[I", true)
  | 14 => ("RevisionWriteModel", "starts", "[I", true)
  | 15 => ("RevisionWriteModel", "counts", "[I", true)
  | 16 => ("RevisionWriteModel", "next", "I", false)
  | 17 => ("RevisionWriteModel", "isCounted", "Z", false)
  | 18 => ("RevisionWriteModel", "recordAt", "[I", true)
  | 19 => ("RevisionWriteModel", "bytesAt", "[I", true)
  | 20 => ("RevisionWriteModel", "lineEnd", "I", false)
  | 21 => ("RevisionWriteModel", "cursor", "I", false)
  | 22 => ("RevisionWriteModel", "number", "I", false)
  | 23 => ("RevisionWriteModel", "fault", "I", false)
  | 24 => ("RevisionWriteModel", "parts", "I", false)
  | 25 => ("RevisionWriteModel", "xs", "[I", true)
  | 26 => ("RevisionWriteModel", "first", "I", false)
  | 27 => ("RevisionWriteModel", "second", "I", false)
  | 28 => ("RevisionWriteModel", "hasDiffered", "Z", false)
  | 29 => ("RevisionWriteModel", "rows", "I", false)
  | 30 => ("RevisionWriteModel", "rowObject", "[I", true)
  | _ => ("RevisionWriteModel", "rowKind", "[I", true)
/-- an object kind's class -/
def zcl (k : Nat) : vw_C := match k with
  | 4 => (R_W, F_W, 14)
  | 6 => (R_R, F_R, 2)
  | 9 => (R_L, F_L, 5)
  | 13 => (R_T, F_T, 6)
  | 15 => (R_V, F_V, 4)
  | _ => (R_M, F_M, 32)
def zobj (k : Nat) : Bool := k == 4 || k == 6 || k == 9 || k == 13 || k == 15 || k == 20
/-- an array kind's component type -/
def zty (k : Nat) : FieldType := match zet k with
  | 0 => .int
  | 1 => .byte
  | 2 => .boolean
  | 3 => .long
  | 4 => .object R_T
  | _ => .object R_V
/-- where cells lie; a kind's class; where a kind's slots lie; the heap at the law's entry -/
abbrev ZE : Type := (Nat → Int → Nat) × (Nat → ClassId) × (Nat → Nat → Nat) × Heap
def zcv (E : ZE) (v : ZV) : Value := if v.1 = 0 then .int (Int32.ofInt v.2) else if v.1 = 1 then .long (Int64.ofInt v.2) else if 4 ≤ v.1 then .ref (E.1 v.1 v.2) else .null
theorem zcv_i (E : ZE) (a : Int) : zcv E (0, a) = .int (Int32.ofInt a) := rfl
theorem zcv_l (E : ZE) (a : Int) : zcv E (1, a) = .long (Int64.ofInt a) := rfl
theorem zcv_r (E : ZE) {t : Nat} (a : Int) (h : 4 ≤ t) : zcv E (t, a) = .ref (E.1 t a) := by
  unfold zcv
  rw [if_neg (by show ¬ t = 0; omega), if_neg (by show ¬ t = 1; omega), if_pos (by show 4 ≤ t; exact h)]
theorem zcv_cat (E : ZE) (v : ZV) (h : v.1 ≠ 1) : (zcv E v).category = 1 := by
  unfold zcv
  split
  · rfl
  · split <;> rfl
theorem zcv_cat2 (E : ZE) (v : ZV) : (zcv E v).category ≤ 2 := by
  rcases lv_cat (zcv E v) with h | h <;> omega
def zrf (E : ZE) (k : Nat) (a : Int) : Value := if zok k a then .ref (E.1 k a) else .null
/-- what a slot holds -/
def zvl (E : ZE) (σ : ZT) (k : Nat) (i : Int) (s : Nat) : Value :=
  if zet k = 9 then (match zft k s with
    | (0, _) => .int (Int32.ofInt (σ k i s))
    | (2, _) => .int (Int32.ofInt (σ k i s))
    | (4, k') => .ref (E.1 k' i)
    | (5, k') => zrf E k' (σ k i s)
    | _ => .null)
  else if zet k = 3 then .long (Int64.ofInt (σ k i s)) else if zet k = 4 then zrf E 13 s else if zet k = 5 then zrf E 15 (σ k i s) else .int (Int32.ofInt (σ k i s))
theorem zvl_congr (E : ZE) {σ τ : ZT} {k : Nat} {i : Int} {s : Nat} (h : σ k i s = τ k i s) : zvl E σ k i s = zvl E τ k i s := by
  unfold zvl
  rw [h]
def znf (k : Nat) : Nat := match k with
  | 4 => 14
  | 6 => 2
  | 9 => 5
  | 13 => 6
  | 15 => 4
  | 20 => 32
  | _ => 0
def zns (k : Nat) (σ : ZT) : Nat := if zet k = 9 then znf k else (zlen k σ).toNat
theorem zlen_congr {σ τ : ZT} (k : Nat) (h : σ 19 0 (-1) = τ 19 0 (-1)) : zlen k σ = zlen k τ := by
  by_cases hk : k = 19
  · subst hk
    exact h
  · unfold zlen
    split <;> first | rfl | (exact absurd rfl hk)
theorem zns_congr {σ τ : ZT} (k : Nat) (h : σ 19 0 (-1) = τ 19 0 (-1)) : zns k σ = zns k τ := by
  unfold zns
  rw [zlen_congr k h]
def zce (E : ZE) (σ : ZT) (H : Heap) (k : Nat) (i : Int) : Prop := ∃ cell : Cell, H[E.1 k i]? = some cell ∧ cell.cls = E.2.1 k ∧ cell.vm ≠ .unknown ∧ cell.vm.isStatics = false ∧ (zet k = 9 → cell.vm = .none) ∧ (zet k ≠ 9 → cell.slots.size = zns k σ) ∧ ∀ s : Nat, s < zns k σ → cell.slots[E.2.2.1 k s]? = some (zvl E σ k i s)
/-- the heap holds the store -/
def zHH (E : ZE) (σ : ZT) (H : Heap) : Prop := (∀ (k : Nat) (i : Int), zok k i → zce E σ H k i) ∧ (∀ (k : Nat) (i s : Int), zet k = 1 → -128 ≤ σ k i s ∧ σ k i s < 128) ∧ E.2.2.2.size ≤ H.size ∧ (∀ q : Nat, q < E.2.2.2.size → H[q]? = E.2.2.2[q]?) ∧ ∀ (q : Nat) (cell : Cell), E.2.2.2.size ≤ q → H[q]? = some cell → cell.vm.isStatics = false
/-- cells are apart; all but the script are new; arrays' slots lie in order -/
def zEV (E : ZE) : Prop := (∀ (k : Nat) (i : Int) (k' : Nat) (i' : Int), zok k i → zok k' i' → E.1 k i = E.1 k' i' → k = k' ∧ i = i') ∧ (∀ (k : Nat) (i : Int), zok k i → k ≠ 19 → E.2.2.2.size ≤ E.1 k i) ∧ ∀ (k s : Nat), zet k ≠ 9 → E.2.2.1 k s = s
theorem zok_39 {i : Int} : ¬ zok 39 i := fun h => by
  have h1 : zlo 39 = 0 := rfl
  have h2 : zhi 39 = 0 := rfl
  obtain ⟨a, b⟩ := h
  rw [h1] at a
  rw [h2] at b
  omega
theorem zsto_ne {σ : ZT} {k k' : Nat} {i i' s s' v : Int} (h : ¬ (k' = k ∧ i' = i ∧ s' = s)) : zsto σ k i s v k' i' s' = σ k' i' s' := if_neg h
theorem zsto_eq {σ : ZT} {k : Nat} {i s v : Int} : zsto σ k i s v k i s = v := if_pos ⟨rfl, rfl, rfl⟩
def gh (σ : ZT) : Nat := (σ 39 0 0).toNat
theorem gh_sto {σ : ZT} {k : Nat} {i s v : Int} (h : k ≠ 39) : gh (zsto σ k i s v) = gh σ := by
  unfold gh
  rw [zsto_ne (fun q => h q.1.symm)]
theorem zHH.sto {E : ZE} {σ : ZT} {H H' : Heap} {k : Nat} {i : Int} (hV : zEV E) (h : zHH E σ H) (hk : zok k i) (h19 : k ≠ 19) (s : Nat) (hs : s < zns k σ) (x : Int) {v : Value} (hv : zvl E (zsto σ k i s x) k i s = v) {cell : Cell} (hc : H[E.1 k i]? = some cell)
    (h1 : H'[E.1 k i]? = some (cell.setSlot (E.2.2.1 k s) v)) (h2 : H'.size = H.size) (h3 : ∀ q : Nat, q ≠ E.1 k i → H'[q]? = H[q]?) (hap : ∀ a b, a < zns k σ → b < zns k σ → a ≠ b → E.2.2.1 k a ≠ E.2.2.1 k b) (hb : zet k = 1 → -128 ≤ x ∧ x < 128) : zHH E (zsto σ k i s x) H' := by
  obtain ⟨g1, g2, g3, g4, g5⟩ := h
  have hlen : (zsto σ k i s x) 19 0 (-1) = σ 19 0 (-1) := zsto_ne (fun q => h19 q.1.symm)
  have had : E.2.2.2.size ≤ E.1 k i := hV.2.1 k i hk h19
  refine ⟨fun k' i' hk' => ?_, fun k' i' s' he => ?_, by rw [h2]; exact g3, fun q hq => ?_, fun q cell' hq hc' => ?_⟩
  · by_cases hki : k' = k ∧ i' = i
    · obtain ⟨rfl, rfl⟩ := hki
      obtain ⟨cell0, c1, c2, c3, c4, c5, c6, c7⟩ := g1 k' i' hk'
      cases hc.symm.trans c1
      refine ⟨_, h1, c2, c3, c4, c5, fun he => ?_, fun s' hs' => ?_⟩
      · rw [k2_slotsz, zns_congr k' hlen]
        exact c6 he
      · rw [zns_congr k' hlen] at hs'
        by_cases e : s' = s
        · subst e
          rw [hv]
          have hl : E.2.2.1 k' s' < cell.slots.size := k2_hasslot (c7 s' hs')
          simp [Cell.setSlot, hl]
        · rw [slot_ne cell v (hap s s' hs hs' (Ne.symm e)), c7 s' hs']
          exact congrArg some (zvl_congr E (zsto_ne (fun q => e (by have := q.2.2; omega))).symm)
    · obtain ⟨cell0, c1, c2, c3, c4, c5, c6, c7⟩ := g1 k' i' hk'
      have hne : E.1 k' i' ≠ E.1 k i := fun q => hki (hV.1 k' i' k i hk' hk q)
      refine ⟨cell0, by rw [h3 _ hne]; exact c1, c2, c3, c4, c5, fun he => ?_, fun s' hs' => ?_⟩
      · rw [zns_congr k' hlen]
        exact c6 he
      · rw [zns_congr k' hlen] at hs'
        rw [c7 s' hs']
        exact congrArg some (zvl_congr E (zsto_ne (fun q => hki ⟨q.1, q.2.1⟩)).symm)
  · by_cases e : k' = k ∧ i' = i ∧ s' = s
    · obtain ⟨rfl, rfl, rfl⟩ := e
      rw [zsto_eq]
      exact hb he
    · rw [zsto_ne e]
      exact g2 k' i' s' he
  · rw [h3 q (by omega)]
    exact g4 q hq
  · by_cases e : q = E.1 k i
    · subst e
      rw [h1] at hc'
      cases hc'
      exact g5 (E.1 k i) cell hq hc
    · rw [h3 q e] at hc'
      exact g5 q cell' hq hc'
/-! locals -/
def zpl (E : ZE) (vs : List ZV) : List (Nat × Value) := (List.range vs.length).filterMap fun j => match vs[j]? with
  | some v => if v.1 = 2 then none else some (j, zcv E v)
  | none => none
theorem zpl_mem {E : ZE} {vs : List ZV} {j : Nat} {x : Value} : (j, x) ∈ zpl E vs ↔ ∃ v : ZV, vs[j]? = some v ∧ v.1 ≠ 2 ∧ x = zcv E v := by
  unfold zpl
  rw [List.mem_filterMap]
  constructor
  · rintro ⟨j', hj', h⟩
    cases hv : vs[j']? with
    | none => rw [hv] at h; cases h
    | some v =>
      rw [hv] at h
      by_cases h2 : v.1 = 2
      · simp [h2] at h
      · simp [h2] at h
        obtain ⟨rfl, rfl⟩ := h
        exact ⟨v, hv, h2, rfl⟩
  · rintro ⟨v, hv, h2, rfl⟩
    refine ⟨j, List.mem_range.mpr (List.getElem?_eq_some_iff.mp hv).1, ?_⟩
    rw [hv]
    simp [h2]
def zLR (E : ZE) (L : Array Slot) (vs : List ZV) : Prop := lv_has L vs.length (zpl E vs) ∧ ∀ v ∈ vs, v.1 ≠ 1
theorem zLR.get {E : ZE} {L : Array Slot} {vs : List ZV} (h : zLR E L vs) {j : Nat} {v : ZV} (hj : vs[j]? = some v) (ht : v.1 ≠ 2) : L[j]? = some (.val (zcv E v)) := h.1.2.2 (j, zcv E v) (zpl_mem.mpr ⟨v, hj, ht, rfl⟩)
theorem zLR.stored {E : ZE} {L L' : Array Slot} {vs : List ZV} {i : Nat} {v : ZV} (h : zLR E L vs) (hi : i < vs.length) (ht : v.1 ≠ 1) (h' : lv_has L' vs.length ((i, zcv E v) :: (zpl E vs).filter (fun q => !(q.1 == i) && !(q.1 + 1 == i && q.2.category == 2)))) : zLR E L' (vs.set i v) := by
  refine ⟨⟨by rw [List.length_set]; exact h'.1, h'.2.1, fun q hq => ?_⟩, fun w hw => ?_⟩
  · obtain ⟨j, x⟩ := q
    obtain ⟨w, hw, h2, rfl⟩ := zpl_mem.mp hq
    by_cases e : i = j
    · subst e
      rw [List.getElem?_set_self hi] at hw
      cases hw
      exact h'.2.2 _ List.mem_cons_self
    · rw [List.getElem?_set_ne e] at hw
      refine h'.2.2 (j, zcv E w) (List.mem_cons_of_mem _ (List.mem_filter.mpr ⟨zpl_mem.mpr ⟨w, hw, h2, rfl⟩, ?_⟩))
      have hcat := zcv_cat E w (h.2 w (List.mem_of_getElem? hw))
      have e' : ¬ j = i := fun q => e q.symm
      simp [hcat, e']
  · rcases List.mem_or_eq_of_mem_set hw with h1 | h1
    · exact h.2 w h1
    · rw [h1]; exact ht
theorem zLR.junk {E : ZE} {L : Array Slot} {vs : List ZV} {i : Nat} {v : ZV} (h : zLR E L (vs.set i v)) : zLR E L (vs.set i (2, 0)) := by
  refine ⟨⟨by rw [List.length_set]; have := h.1.1; rw [List.length_set] at this; exact this, h.1.2.1, fun q hq => ?_⟩, fun w hw => ?_⟩
  · obtain ⟨j, x⟩ := q
    obtain ⟨w, hw, h2, rfl⟩ := zpl_mem.mp hq
    have hj : j < vs.length := by
      have := (List.getElem?_eq_some_iff.mp hw).1
      rwa [List.length_set] at this
    by_cases e : i = j
    · subst e
      rw [List.getElem?_set_self hj] at hw
      cases hw
      exact absurd rfl h2
    · refine h.1.2.2 _ (zpl_mem.mpr ⟨w, ?_, h2, rfl⟩)
      rw [List.getElem?_set_ne e] at hw ⊢
      exact hw
  · rcases List.mem_or_eq_of_mem_set hw with h1 | h1
    · obtain ⟨j, hj⟩ := List.getElem?_of_mem hw
      by_cases e : i = j
      · subst e
        have hl : i < vs.length := by
          have := (List.getElem?_eq_some_iff.mp hj).1
          rwa [List.length_set] at this
        rw [List.getElem?_set_self hl] at hj
        cases hj
        decide
      · refine h.2 w (List.mem_of_getElem? (i := j) ?_)
        rw [List.getElem?_set_ne e] at hj ⊢
        exact hj
    · rw [h1]; decide
/-- references name cells -/
def zvd (v : ZV) : Prop := 4 ≤ v.1 → zok v.1 v.2
def zvs (st : List ZV) : Prop := ∀ v ∈ st, zvd v
theorem zvd_i (a : Int) : zvd (0, a) := fun h => absurd h (by show ¬ 4 ≤ 0; decide)
theorem zvd_l (a : Int) : zvd (1, a) := fun h => absurd h (by show ¬ 4 ≤ 1; decide)
theorem zvd_u (a : Int) : zvd (2, a) := fun h => absurd h (by show ¬ 4 ≤ 2; decide)
theorem zvs.cons {v : ZV} {st : List ZV} (h : zvd v) (h' : zvs st) : zvs (v :: st) := fun w hw => by
  rcases List.mem_cons.mp hw with rfl | h1
  · exact h
  · exact h' w h1
theorem zvs.hd {v : ZV} {st : List ZV} (h : zvs (v :: st)) : zvd v := h v List.mem_cons_self
theorem zvs.tl {v : ZV} {st : List ZV} (h : zvs (v :: st)) : zvs st := fun w hw => h w (List.mem_cons_of_mem _ hw)
theorem zvs.set {vs : List ZV} {i : Nat} {v : ZV} (h : zvs vs) (hv : zvd v) : zvs (vs.set i v) := fun w hw => by
  rcases List.mem_or_eq_of_mem_set hw with h1 | h1
  · exact h w h1
  · rw [h1]; exact hv
/-- what the tables say -/
def zSt (E : ZE) (n d : String) (U : State) : Prop := ∃ (cf : ClassId) (kf : Class) (fi : Nat) (f : Field) (a : Nat) (cell : Cell) (v : Value), U.vm.findClass "java/lang/Throwable" = some cf ∧ U.fieldFound? "java/lang/Throwable" n d = some (cf, kf, fi, f) ∧ f.isStatic = true ∧ kf.statics = some a ∧ kf.staticTypes[f.slot]? = some f.type ∧ E.2.2.2[a]? = some cell ∧ cell.vm.isStatics = true ∧ cell.cls = cf ∧ f.slot < cell.slots.size ∧ cell.slots[f.slot]? = some v ∧ v.isRef = true
def zexn (e : Nat) : String := match e with
  | 0 => "java/lang/IndexOutOfBoundsException"
  | 1 => "java/lang/IllegalArgumentException"
  | 2 => "java/lang/UnsupportedOperationException"
  | _ => "java/lang/IllegalStateException"
def zKK (E : ZE) (U : State) : Prop := (∀ k, zobj k = true → u_Kn U (zcl k).1 (zcl k).2.1 (zcl k).2.2 (E.2.1 k) (E.2.2.1 k)) ∧
  (∀ k, zet k ≠ 9 → ∃ (kA : Class) (comp : ClassId), U.vm.classes[E.2.1 k]? = some kA ∧ kA.kind = .array comp (zty k) ∧ (zet k = 5 → U.vm.findClass R_V = some comp)) ∧
  zSt E "UNASSIGNED_STACK" "[Ljava/lang/StackTraceElement;" U ∧ zSt E "SUPPRESSED_SENTINEL" "Ljava/util/List;" U ∧
  ∀ e e', e < 4 → e' < 4 → e ≠ e' → va_Nc (zexn e) (zexn e') U
