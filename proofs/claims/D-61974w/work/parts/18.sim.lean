/-! WHAT IS ALIKE IN THE CLASS AND ITS REFERENCE -/
def zTh (σ : ZT) (n : Int) : Prop := (σ 13 n 2 = 0 ∨ σ 13 n 2 = 1) ∧ σ 21 0 n = σ 13 n 2 ∧ (σ 13 n 4 = 0 ∨ σ 13 n 4 = 1) ∧ σ 24 0 n = σ 13 n 4 ∧ (σ 13 n 5 = 0 ∨ σ 13 n 5 = 1) ∧ (σ 13 n 2 = 0 → σ 23 0 n = σ 13 n 4) ∧ (σ 13 n 2 = 1 → (σ 13 n 5 = 1 ∨ σ 13 n 4 = 0) → σ 23 0 n = 1) ∧ (σ 13 n 2 = 1 → σ 13 n 5 = 0 → σ 13 n 4 = 1 → σ 23 0 n = 0) ∧ (σ 13 n 2 = 1 → σ 25 0 n = σ 13 n 1 ∧ 0 ≤ σ 13 n 1 ∧ σ 13 n 1 ≤ 120 ∧ σ 22 0 n = σ 13 n 3 ∧ (σ 13 n 3 = 0 ∨ σ 13 n 3 = 1) ∧ ∀ i, 0 ≤ i → i < σ 13 n 1 → σ 26 0 (120 * n + i) = σ 14 n i)
def zSimT (σ : ZT) : Prop := ∀ n, 1 ≤ n → n ≤ 40 → zTh σ n
def zSimB (σ : ZT) : Prop := ∀ i j, (-128 ≤ σ 7 i j ∧ σ 7 i j < 128) ∧ (-128 ≤ σ 14 i j ∧ σ 14 i j < 128) ∧ (-128 ≤ σ 26 i j ∧ σ 26 i j < 128) ∧ (-128 ≤ σ 27 i j ∧ σ 27 i j < 128)
def zSimD (σ : ZT) : Prop := 0 ≤ σ 4 0 9 ∧ σ 4 0 9 ≤ 40 ∧ ((σ 20 0 28 = 1 ∧ σ 20 0 29 = σ 4 0 9) ∨ (σ 20 0 28 = 0 ∧ σ 4 0 9 = 0)) ∧ ∀ i, 0 ≤ i → i < σ 4 0 9 → σ 10 0 (2 * i) = σ 36 0 i ∧ σ 10 0 (2 * i + 1) = σ 37 0 i ∧ 0 ≤ σ 36 0 i ∧ σ 36 0 i ≤ 40 ∧ 0 ≤ σ 37 0 i ∧ σ 37 0 i ≤ 3
def zSimF (σ : ZT) (E : Int) : Prop := ((σ 4 0 1 = 0 ∧ σ 4 0 2 = 1) ∨ (σ 4 0 1 = 1 ∧ σ 4 0 2 = 0)) ∧ 0 ≤ σ 6 (σ 4 0 1) 1 ∧ σ 6 (σ 4 0 1) 1 ≤ E ∧ E ≤ 12000 ∧ σ 20 0 7 = σ 6 (σ 4 0 1) 1 ∧ (σ 4 0 3 = 0 ∨ σ 4 0 3 = 1) ∧ σ 20 0 9 = σ 4 0 3 ∧ (σ 4 0 3 = 0 → σ 6 (σ 4 0 1) 1 = E) ∧ ∀ j, 0 ≤ j → j < E → σ 27 0 j = σ 7 (σ 4 0 1) j
def zbh (p n l : Int) : Int := p + 6 + (if 9 < n then 1 else 0) + (if 9 < l then 1 else 0) + (if 99 < l then 1 else 0)
def zPl (σ : ZT) (E r k n : Int) : Prop := (σ 16 r n = 0 ∧ σ 30 0 (41 * k + n) = -1) ∨ (0 < σ 16 r n ∧ σ 30 0 (41 * k + n) = σ 16 r n ∧ σ 32 0 (41 * k + n) = σ 17 r n ∧ 0 ≤ σ 17 r n ∧ σ 17 r n ≤ 120 ∧ σ 31 0 (41 * k + n) = zbh (σ 16 r n) n (σ 17 r n) ∧ σ 31 0 (41 * k + n) + σ 17 r n < E)
def zRv (σ : ZT) (E k : Int) : Prop := σ 28 0 k = σ 15 (σ 8 0 k) 2 ∧ 0 ≤ σ 15 (σ 8 0 k) 2 ∧ σ 15 (σ 8 0 k) 2 ≤ 12000 ∧ σ 29 0 k = σ 15 (σ 8 0 k) 3 ∧ 0 ≤ σ 15 (σ 8 0 k) 3 ∧ σ 15 (σ 8 0 k) 3 ≤ 12000 ∧ ∀ n, 1 ≤ n → n ≤ 40 → zPl σ E (σ 8 0 k) k n
def zPm (σ : ZT) : Prop := ∀ k, 0 ≤ k → k < 60 → (σ 8 0 k = 2 * k ∧ σ 38 0 k = 2 * k + 1) ∨ (σ 8 0 k = 2 * k + 1 ∧ σ 38 0 k = 2 * k)
def zSimR (σ : ZT) (E : Int) : Prop := σ 20 0 10 = σ 4 0 6 ∧ 0 ≤ σ 4 0 6 ∧ σ 4 0 6 ≤ 60 ∧ (0 < σ 6 (σ 4 0 1) 1 → 1 ≤ σ 4 0 6) ∧ zPm σ ∧ ∀ k, 0 ≤ k → k < σ 4 0 6 → zRv σ E k
def zSim (σ : ZT) : Prop := zSimB σ ∧ zSimT σ ∧ zSimD σ ∧ ∃ E, zSimF σ E ∧ zSimR σ E
/-- alike in all that counts -/
def zAg (σ τ : ZT) : Prop := (∀ k : Nat, k ∈ [6, 7, 8, 10, 13, 14, 15, 16, 17, 21, 22, 23, 24, 25, 26, 27, 28, 29, 30, 31, 32, 36, 37, 38] → τ k = σ k) ∧ (∀ s : Int, s ∈ ([1, 2, 3, 6, 9] : List Int) → τ 4 0 s = σ 4 0 s) ∧ ∀ s : Int, s ∈ ([7, 9, 10, 28, 29] : List Int) → τ 20 0 s = σ 20 0 s
theorem zSim.ag {σ τ : ZT} (h : zSim σ) (a : zAg σ τ) : zSim τ := by
  obtain ⟨a1, a2, a3⟩ := a
  have b6 := a1 6 (by decide)
  have b7 := a1 7 (by decide)
  have b8 := a1 8 (by decide)
  have b10 := a1 10 (by decide)
  have b13 := a1 13 (by decide)
  have b14 := a1 14 (by decide)
  have b15 := a1 15 (by decide)
  have b16 := a1 16 (by decide)
  have b17 := a1 17 (by decide)
  have b21 := a1 21 (by decide)
  have b22 := a1 22 (by decide)
  have b23 := a1 23 (by decide)
  have b24 := a1 24 (by decide)
  have b25 := a1 25 (by decide)
  have b26 := a1 26 (by decide)
  have b27 := a1 27 (by decide)
  have b28 := a1 28 (by decide)
  have b29 := a1 29 (by decide)
  have b30 := a1 30 (by decide)
  have b31 := a1 31 (by decide)
  have b32 := a1 32 (by decide)
  have b36 := a1 36 (by decide)
  have b37 := a1 37 (by decide)
  have b38 := a1 38 (by decide)
  have c1 := a2 1 (by decide)
  have c2 := a2 2 (by decide)
  have c3 := a2 3 (by decide)
  have c6 := a2 6 (by decide)
  have c9 := a2 9 (by decide)
  have d7 := a3 7 (by decide)
  have d9 := a3 9 (by decide)
  have d10 := a3 10 (by decide)
  have d28 := a3 28 (by decide)
  have d29 := a3 29 (by decide)
  simp only [zSim, zSimB, zSimT, zTh, zSimD, zSimF, zSimR, zRv, zPl, zPm, b6, b7, b8, b10, b13, b14, b15, b16, b17, b21, b22, b23, b24, b25, b26, b27, b28, b29, b30, b31, b32, b36, b37, b38, c1, c2, c3, c6, c9, d7, d9, d10, d28, d29] at h ⊢
  exact h
theorem zAg.refl (σ : ZT) : zAg σ σ := ⟨fun _ _ => rfl, fun _ _ => rfl, fun _ _ => rfl⟩
theorem zAg.trans {σ τ υ : ZT} (h : zAg σ τ) (h' : zAg τ υ) : zAg σ υ := ⟨fun k hk => (h'.1 k hk).trans (h.1 k hk), fun k hk => (h'.2.1 k hk).trans (h.2.1 k hk), fun k hk => (h'.2.2 k hk).trans (h.2.2 k hk)⟩
/-- a place that doesn't count -/
def zfree (k : Nat) (s : Int) : Bool := !([6, 7, 8, 10, 13, 14, 15, 16, 17, 21, 22, 23, 24, 25, 26, 27, 28, 29, 30, 31, 32, 36, 37, 38].contains k) && !(k == 4 && [1, 2, 3, 6, 9].contains s) && !(k == 20 && [7, 9, 10, 28, 29].contains s)
theorem zAg.sto {σ τ : ZT} (h : zAg σ τ) {k : Nat} {i s v : Int} (hf : zfree k s = true) : zAg σ (zsto τ k i s v) := by
  simp only [zfree, Bool.and_eq_true, Bool.not_eq_true', Bool.and_eq_false_imp, beq_iff_eq] at hf
  obtain ⟨⟨h1, h2⟩, h3⟩ := hf
  refine ⟨fun k' hk' => ?_, fun s' hs' => ?_, fun s' hs' => ?_⟩
  · rw [zsto_fn, h.1 k' hk']
    intro q
    subst q
    rw [List.contains_iff_mem.mpr hk'] at h1
    cases h1
  · rw [zsto_ne, h.2.1 s' hs']
    rintro ⟨rfl, -, rfl⟩
    have := h2 rfl
    rw [List.contains_iff_mem.mpr hs'] at this
    cases this
  · rw [zsto_ne, h.2.2 s' hs']
    rintro ⟨rfl, -, rfl⟩
    have := h3 rfl
    rw [List.contains_iff_mem.mpr hs'] at this
    cases this
/-- what an operation leaves to the law: the script as it was, at most one throw -/
def zKeep (σ τ : ZT) : Prop := τ 19 = σ 19 ∧ σ 39 0 0 - 1 ≤ τ 39 0 0
/-- an operation of the class (in its wrapper) and then the reference's: alike -/
def zOp (σ : ZT) (w : ZT → Option ZR) (m : ZT → Option ZR) : Prop := ∃ (c v : Int) (τ τ' : ZT), w σ = some (0, c, τ) ∧ m τ = some (0, v, τ') ∧ zSim τ' ∧ zKeep σ τ' ∧ τ' 20 0 0 = c ∧ (c = 0 → τ' 18 0 0 = v) ∧ -2147483648 ≤ c ∧ c < 2147483648 ∧ -2147483648 ≤ v ∧ v < 2147483648
theorem zth_ag (σ : ZT) : zAg σ (zth σ) := (zAg.refl σ).sto (by decide)
/-- both refuse -/
theorem zOp.refuse {σ : ZT} {w m : ZT → Option ZR} {c : Int} (h : zSim σ) (hc : 0 < c ∧ c < 10) (hw : w σ = some (0, c, zth σ)) (hm : m (zth σ) = some (0, 0, zsto (zth σ) 20 0 0 c)) : zOp σ w m := by
  refine ⟨c, 0, _, _, hw, hm, h.ag ((zth_ag σ).sto (by decide)), ⟨?_, ?_⟩, ?_, ?_, by omega, by omega, by omega, by omega⟩
  · rw [zsto_fn (by decide)]; exact zsto_fn (by decide)
  · rw [zsto_ne (by omega)]; show _ ≤ zsto σ 39 0 0 _ 39 0 0; rw [zsto_eq]; omega
  · exact zsto_eq
  · omega
theorem zSimT.fn {σ τ : ZT} (h : zSimT σ) (a : ∀ k : Nat, k ∈ [13, 14, 21, 22, 23, 24, 25, 26] → τ k = σ k) : zSimT τ := by
  have b13 := a 13 (by decide)
  have b14 := a 14 (by decide)
  have b21 := a 21 (by decide)
  have b22 := a 22 (by decide)
  have b23 := a 23 (by decide)
  have b24 := a 24 (by decide)
  have b25 := a 25 (by decide)
  have b26 := a 26 (by decide)
  simp only [zSimT, zTh, b13, b14, b21, b22, b23, b24, b25, b26] at h ⊢
  exact h
theorem zTh.congr {σ τ : ZT} {n : Int} (h : zTh σ n) (h13 : ∀ s, τ 13 n s = σ 13 n s) (h14 : ∀ s, 0 ≤ s → s < 120 → τ 14 n s = σ 14 n s) (h21 : τ 21 0 n = σ 21 0 n) (h22 : τ 22 0 n = σ 22 0 n) (h23 : τ 23 0 n = σ 23 0 n) (h24 : τ 24 0 n = σ 24 0 n) (h25 : τ 25 0 n = σ 25 0 n) (h26 : ∀ i, 0 ≤ i → i < 120 → τ 26 0 (120 * n + i) = σ 26 0 (120 * n + i)) : zTh τ n := by
  simp only [zTh, h13, h21, h22, h23, h24, h25] at h ⊢
  obtain ⟨a1, a2, a3, a4, a5, a6, a7, a8, a9⟩ := h
  refine ⟨a1, a2, a3, a4, a5, a6, a7, a8, fun q => ?_⟩
  obtain ⟨c1, c2, c3, c4, c5, c6⟩ := a9 q
  refine ⟨c1, c2, c3, c4, c5, fun i h0 h1 => ?_⟩
  rw [h26 i h0 (by omega), h14 i h0 (by omega)]
  exact c6 i h0 h1
theorem zSimD.fn {σ τ : ZT} (h : zSimD σ) (a : ∀ k : Nat, k ∈ [10, 36, 37] → τ k = σ k) (c9 : τ 4 0 9 = σ 4 0 9) (d28 : τ 20 0 28 = σ 20 0 28) (d29 : τ 20 0 29 = σ 20 0 29) : zSimD τ := by
  have b10 := a 10 (by decide)
  have b36 := a 36 (by decide)
  have b37 := a 37 (by decide)
  simp only [zSimD, b10, b36, b37, c9, d28, d29] at h ⊢
  exact h
theorem zSimF.fn {σ τ : ZT} {E : Int} (h : zSimF σ E) (a : ∀ k : Nat, k ∈ [6, 7, 27] → τ k = σ k) (c1 : τ 4 0 1 = σ 4 0 1) (c2 : τ 4 0 2 = σ 4 0 2) (c3 : τ 4 0 3 = σ 4 0 3) (d7 : τ 20 0 7 = σ 20 0 7) (d9 : τ 20 0 9 = σ 20 0 9) : zSimF τ E := by
  have b6 := a 6 (by decide)
  have b7 := a 7 (by decide)
  have b27 := a 27 (by decide)
  simp only [zSimF, b6, b7, b27, c1, c2, c3, d7, d9] at h ⊢
  exact h
theorem zSimR.fn {σ τ : ZT} {E : Int} (h : zSimR σ E) (a : ∀ k : Nat, k ∈ [8, 38, 15, 16, 17, 28, 29, 30, 31, 32] → τ k = σ k) (c6 : τ 4 0 6 = σ 4 0 6) (d10 : τ 20 0 10 = σ 20 0 10) (e1 : τ 6 (τ 4 0 1) 1 = σ 6 (σ 4 0 1) 1) : zSimR τ E := by
  have b8 := a 8 (by decide)
  have b38 := a 38 (by decide)
  have b15 := a 15 (by decide)
  have b16 := a 16 (by decide)
  have b17 := a 17 (by decide)
  have b28 := a 28 (by decide)
  have b29 := a 29 (by decide)
  have b30 := a 30 (by decide)
  have b31 := a 31 (by decide)
  have b32 := a 32 (by decide)
  simp only [zSimR, zRv, zPl, zPm, b8, b38, b15, b16, b17, b28, b29, b30, b31, b32, c6, d10, e1] at h ⊢
  exact h
theorem zSimB.sto {σ : ZT} (h : zSimB σ) {k : Nat} {i s v : Int} (hv : (k ≠ 7 ∧ k ≠ 14 ∧ k ≠ 26 ∧ k ≠ 27) ∨ (-128 ≤ v ∧ v < 128)) : zSimB (zsto σ k i s v) := by
  intro a b
  obtain ⟨h1, h2, h3, h4⟩ := h a b
  unfold zsto
  refine ⟨?_, ?_, ?_, ?_⟩
  · split <;> omega
  · split <;> omega
  · split <;> omega
  · split <;> omega
theorem zSimB.rng {σ : ZT} (h : zSimB σ) {k : Nat} {i s t : Int} {f : Int → Int} (hv : (k ≠ 7 ∧ k ≠ 14 ∧ k ≠ 26 ∧ k ≠ 27) ∨ (∀ j, -128 ≤ f j ∧ f j < 128)) : zSimB (zrng σ k i s t f) := by
  intro a b
  obtain ⟨h1, h2, h3, h4⟩ := h a b
  have hv' : (k ≠ 7 ∧ k ≠ 14 ∧ k ≠ 26 ∧ k ≠ 27) ∨ (-128 ≤ f b ∧ f b < 128) := hv.imp_right fun q => q b
  unfold zrng
  refine ⟨?_, ?_, ?_, ?_⟩
  · split <;> omega
  · split <;> omega
  · split <;> omega
  · split <;> omega
theorem zSimB.cpy {σ : ZT} (h : zSimB σ) {k k1 : Nat} {i sp i1 dp n : Int} (hv : (k1 ≠ 7 ∧ k1 ≠ 14 ∧ k1 ≠ 26 ∧ k1 ≠ 27) ∨ k = 7 ∨ k = 14 ∨ k = 26 ∨ k = 27) : zSimB (zcpy σ k i sp k1 i1 dp n) := by
  intro a b
  obtain ⟨h1, h2, h3, h4⟩ := h a b
  have hv' : (k1 ≠ 7 ∧ k1 ≠ 14 ∧ k1 ≠ 26 ∧ k1 ≠ 27) ∨ (-128 ≤ σ k i (sp + (b - dp)) ∧ σ k i (sp + (b - dp)) < 128) := hv.imp_right fun q => by
    obtain ⟨g1, g2, g3, g4⟩ := h i (sp + (b - dp))
    rcases q with rfl | rfl | rfl | rfl
    · exact g1
    · exact g2
    · exact g3
    · exact g4
  unfold zcpy
  refine ⟨?_, ?_, ?_, ?_⟩
  · split <;> omega
  · split <;> omega
  · split <;> omega
  · split <;> omega
theorem zSim.ghost {σ τ : ZT} (hk : zKeep σ τ) : σ 39 0 0 - 1 ≤ τ 39 0 0 := hk.2
