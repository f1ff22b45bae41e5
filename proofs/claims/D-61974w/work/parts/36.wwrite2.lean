/-! THE CLASS's write, whole -/
def zwA (σ : ZT) (s : Int) : ZT := zem s (zsto σ 6 s 1 0) [37, 70, 49, 10]
def zwB (σ : ZT) (s r : Int) : ZT := zrng (zwA σ s) 16 r 0 41 fun _ => 0
def zwD (τ : ZT) (s r c b : Int) : ZT := zsto (zem s (zsto τ 15 r 3 (τ 6 s 1)) (zend1 τ r c b (τ 6 s 1))) 15 r 2 (zem s (zsto τ 15 r 3 (τ 6 s 1)) (zend1 τ r c b (τ 6 s 1)) 6 s 1)
def zwF (τ : ZT) (k r : Int) : ZT := zsto (zsto τ 38 0 k (τ 8 0 k)) 8 0 k r
theorem zwA_fn (σ : ZT) (s : Int) : zSz (zwA σ s) s ∧ zwA σ s 6 s 1 = 4 ∧ (∀ k : Nat, k ≠ 6 → k ≠ 7 → zwA σ s k = σ k) ∧ (∀ j, j ≠ s → zwA σ s 6 j = σ 6 j ∧ zwA σ s 7 j = σ 7 j) ∧ (zSimB σ → zSimB (zwA σ s)) := by
  have h : zSz (zsto σ 6 s 1 0) s := by unfold zSz; rw [zsto_eq]; omega
  obtain ⟨a1, a2, a3, a4, a5⟩ := zem_fn s (zsto σ 6 s 1 0) [37, 70, 49, 10] h
  obtain ⟨b1, b2⟩ := zem_sz [37, 70, 49, 10] h
  rw [zsto_eq] at b2
  unfold zwA
  refine ⟨b1, b2, fun k k1 k2 => ?_, fun j hj => ⟨?_, ?_⟩, fun hB => a5 (zSimB.sto hB (by omega))⟩
  · rw [a1 k k1 k2]; simp (disch := omega) only [zwr_id, zT_lt, zF_lt, zT_le, zF_le, zT_eq, zF_eq, zT_neq, zF_neq, zT_nlt, zT_nle, and_true, true_and, and_false, false_and, and_self, or_true, true_or, or_false, false_or, or_self, not_true_eq_false, not_false_eq_true, ↓reduceIte, implies_true, true_imp_iff, false_imp_iff, zcall0, zcall1, zcall2, zcall3, zcall4, zsto_eq, zsto_ne, zsto_fn, zok13, zok6, zok15, znb_0, zrng_hit, zrng_ne, zrng_fn, zcpy_ne, zcpy_fn]
  · rw [(a2 j hj).1]; funext x; simp (disch := omega) only [zwr_id, zT_lt, zF_lt, zT_le, zF_le, zT_eq, zF_eq, zT_neq, zF_neq, zT_nlt, zT_nle, and_true, true_and, and_false, false_and, and_self, or_true, true_or, or_false, false_or, or_self, not_true_eq_false, not_false_eq_true, ↓reduceIte, implies_true, true_imp_iff, false_imp_iff, zcall0, zcall1, zcall2, zcall3, zcall4, zsto_eq, zsto_ne, zsto_fn, zok13, zok6, zok15, znb_0, zrng_hit, zrng_ne, zrng_fn, zcpy_ne, zcpy_fn]
  · rw [(a2 j hj).2]; simp (disch := omega) only [zwr_id, zT_lt, zF_lt, zT_le, zF_le, zT_eq, zF_eq, zT_neq, zF_neq, zT_nlt, zT_nle, and_true, true_and, and_false, false_and, and_self, or_true, true_or, or_false, false_or, or_self, not_true_eq_false, not_false_eq_true, ↓reduceIte, implies_true, true_imp_iff, false_imp_iff, zcall0, zcall1, zcall2, zcall3, zcall4, zsto_eq, zsto_ne, zsto_fn, zok13, zok6, zok15, znb_0, zrng_hit, zrng_ne, zrng_fn, zcpy_ne, zcpy_fn]
theorem zwD_fn (τ : ZT) {s r c b : Int} (h : zSz τ s) : (∀ k : Nat, k ≠ 6 → k ≠ 7 → k ≠ 15 → zwD τ s r c b k = τ k) ∧ (∀ j, j ≠ s → zwD τ s r c b 6 j = τ 6 j ∧ zwD τ s r c b 7 j = τ 7 j) ∧ (zSimB τ → zSimB (zwD τ s r c b)) ∧ (∀ j, j ≠ r → zwD τ s r c b 15 j = τ 15 j) ∧ zwD τ s r c b 15 r 3 = τ 6 s 1 ∧ zwD τ s r c b 15 r 2 = zwD τ s r c b 6 s 1 ∧ zSz (zwD τ s r c b) s ∧ zwD τ s r c b 6 = zem s (zsto τ 15 r 3 (τ 6 s 1)) (zend1 τ r c b (τ 6 s 1)) 6 ∧ zwD τ s r c b 7 = zem s (zsto τ 15 r 3 (τ 6 s 1)) (zend1 τ r c b (τ 6 s 1)) 7 := by
  generalize hτ' : zsto τ 15 r 3 (τ 6 s 1) = τ'
  have g6 : τ' 6 = τ 6 := by rw [← hτ']; simp (disch := omega) only [zwr_id, zT_lt, zF_lt, zT_le, zF_le, zT_eq, zF_eq, zT_neq, zF_neq, zT_nlt, zT_nle, and_true, true_and, and_false, false_and, and_self, or_true, true_or, or_false, false_or, or_self, not_true_eq_false, not_false_eq_true, ↓reduceIte, implies_true, true_imp_iff, false_imp_iff, zcall0, zcall1, zcall2, zcall3, zcall4, zsto_eq, zsto_ne, zsto_fn, zok13, zok6, zok15, znb_0, zrng_hit, zrng_ne, zrng_fn, zcpy_ne, zcpy_fn]
  have g7 : τ' 7 = τ 7 := by rw [← hτ']; simp (disch := omega) only [zwr_id, zT_lt, zF_lt, zT_le, zF_le, zT_eq, zF_eq, zT_neq, zF_neq, zT_nlt, zT_nle, and_true, true_and, and_false, false_and, and_self, or_true, true_or, or_false, false_or, or_self, not_true_eq_false, not_false_eq_true, ↓reduceIte, implies_true, true_imp_iff, false_imp_iff, zcall0, zcall1, zcall2, zcall3, zcall4, zsto_eq, zsto_ne, zsto_fn, zok13, zok6, zok15, znb_0, zrng_hit, zrng_ne, zrng_fn, zcpy_ne, zcpy_fn]
  have h' : zSz τ' s := by unfold zSz; rw [g6]; exact h
  obtain ⟨a1, a2, a3, a4, a5⟩ := zem_fn s τ' (zend1 τ r c b (τ 6 s 1)) h'
  obtain ⟨b1, b2⟩ := zem_sz (zend1 τ r c b (τ 6 s 1)) h'
  unfold zwD
  rw [hτ']
  have e6 : zsto (zem s τ' (zend1 τ r c b (τ 6 s 1))) 15 r 2 (zem s τ' (zend1 τ r c b (τ 6 s 1)) 6 s 1) 6 = zem s τ' (zend1 τ r c b (τ 6 s 1)) 6 := by simp (disch := omega) only [zwr_id, zT_lt, zF_lt, zT_le, zF_le, zT_eq, zF_eq, zT_neq, zF_neq, zT_nlt, zT_nle, and_true, true_and, and_false, false_and, and_self, or_true, true_or, or_false, false_or, or_self, not_true_eq_false, not_false_eq_true, ↓reduceIte, implies_true, true_imp_iff, false_imp_iff, zcall0, zcall1, zcall2, zcall3, zcall4, zsto_eq, zsto_ne, zsto_fn, zok13, zok6, zok15, znb_0, zrng_hit, zrng_ne, zrng_fn, zcpy_ne, zcpy_fn]
  refine ⟨fun k k1 k2 k3 => ?_, fun j hj => ⟨?_, ?_⟩, fun hB => zSimB.sto (a5 (by rw [← hτ']; exact zSimB.sto hB (by omega))) (by omega), fun j hj => ?_, ?_, ?_, ?_, e6, by simp (disch := omega) only [zwr_id, zT_lt, zF_lt, zT_le, zF_le, zT_eq, zF_eq, zT_neq, zF_neq, zT_nlt, zT_nle, and_true, true_and, and_false, false_and, and_self, or_true, true_or, or_false, false_or, or_self, not_true_eq_false, not_false_eq_true, ↓reduceIte, implies_true, true_imp_iff, false_imp_iff, zcall0, zcall1, zcall2, zcall3, zcall4, zsto_eq, zsto_ne, zsto_fn, zok13, zok6, zok15, znb_0, zrng_hit, zrng_ne, zrng_fn, zcpy_ne, zcpy_fn]⟩
  · simp (disch := omega) only [zwr_id, zT_lt, zF_lt, zT_le, zF_le, zT_eq, zF_eq, zT_neq, zF_neq, zT_nlt, zT_nle, and_true, true_and, and_false, false_and, and_self, or_true, true_or, or_false, false_or, or_self, not_true_eq_false, not_false_eq_true, ↓reduceIte, implies_true, true_imp_iff, false_imp_iff, zcall0, zcall1, zcall2, zcall3, zcall4, zsto_eq, zsto_ne, zsto_fn, zok13, zok6, zok15, znb_0, zrng_hit, zrng_ne, zrng_fn, zcpy_ne, zcpy_fn]
    rw [a1 k k1 k2, ← hτ']
    simp (disch := omega) only [zwr_id, zT_lt, zF_lt, zT_le, zF_le, zT_eq, zF_eq, zT_neq, zF_neq, zT_nlt, zT_nle, and_true, true_and, and_false, false_and, and_self, or_true, true_or, or_false, false_or, or_self, not_true_eq_false, not_false_eq_true, ↓reduceIte, implies_true, true_imp_iff, false_imp_iff, zcall0, zcall1, zcall2, zcall3, zcall4, zsto_eq, zsto_ne, zsto_fn, zok13, zok6, zok15, znb_0, zrng_hit, zrng_ne, zrng_fn, zcpy_ne, zcpy_fn]
  · rw [e6, (a2 j hj).1, g6]
  · simp (disch := omega) only [zwr_id, zT_lt, zF_lt, zT_le, zF_le, zT_eq, zF_eq, zT_neq, zF_neq, zT_nlt, zT_nle, and_true, true_and, and_false, false_and, and_self, or_true, true_or, or_false, false_or, or_self, not_true_eq_false, not_false_eq_true, ↓reduceIte, implies_true, true_imp_iff, false_imp_iff, zcall0, zcall1, zcall2, zcall3, zcall4, zsto_eq, zsto_ne, zsto_fn, zok13, zok6, zok15, znb_0, zrng_hit, zrng_ne, zrng_fn, zcpy_ne, zcpy_fn]
    rw [(a2 j hj).2, g7]
  · funext x
    simp (disch := omega) only [zwr_id, zT_lt, zF_lt, zT_le, zF_le, zT_eq, zF_eq, zT_neq, zF_neq, zT_nlt, zT_nle, and_true, true_and, and_false, false_and, and_self, or_true, true_or, or_false, false_or, or_self, not_true_eq_false, not_false_eq_true, ↓reduceIte, implies_true, true_imp_iff, false_imp_iff, zcall0, zcall1, zcall2, zcall3, zcall4, zsto_eq, zsto_ne, zsto_fn, zok13, zok6, zok15, znb_0, zrng_hit, zrng_ne, zrng_fn, zcpy_ne, zcpy_fn]
    rw [a1 15 (by decide) (by decide), ← hτ']
    simp (disch := omega) only [zwr_id, zT_lt, zF_lt, zT_le, zF_le, zT_eq, zF_eq, zT_neq, zF_neq, zT_nlt, zT_nle, and_true, true_and, and_false, false_and, and_self, or_true, true_or, or_false, false_or, or_self, not_true_eq_false, not_false_eq_true, ↓reduceIte, implies_true, true_imp_iff, false_imp_iff, zcall0, zcall1, zcall2, zcall3, zcall4, zsto_eq, zsto_ne, zsto_fn, zok13, zok6, zok15, znb_0, zrng_hit, zrng_ne, zrng_fn, zcpy_ne, zcpy_fn]
  · simp (disch := omega) only [zwr_id, zT_lt, zF_lt, zT_le, zF_le, zT_eq, zF_eq, zT_neq, zF_neq, zT_nlt, zT_nle, and_true, true_and, and_false, false_and, and_self, or_true, true_or, or_false, false_or, or_self, not_true_eq_false, not_false_eq_true, ↓reduceIte, implies_true, true_imp_iff, false_imp_iff, zcall0, zcall1, zcall2, zcall3, zcall4, zsto_eq, zsto_ne, zsto_fn, zok13, zok6, zok15, znb_0, zrng_hit, zrng_ne, zrng_fn, zcpy_ne, zcpy_fn]
    rw [a1 15 (by decide) (by decide), ← hτ']
    simp (disch := omega) only [zwr_id, zT_lt, zF_lt, zT_le, zF_le, zT_eq, zF_eq, zT_neq, zF_neq, zT_nlt, zT_nle, and_true, true_and, and_false, false_and, and_self, or_true, true_or, or_false, false_or, or_self, not_true_eq_false, not_false_eq_true, ↓reduceIte, implies_true, true_imp_iff, false_imp_iff, zcall0, zcall1, zcall2, zcall3, zcall4, zsto_eq, zsto_ne, zsto_fn, zok13, zok6, zok15, znb_0, zrng_hit, zrng_ne, zrng_fn, zcpy_ne, zcpy_fn]
  · simp (disch := omega) only [zwr_id, zT_lt, zF_lt, zT_le, zF_le, zT_eq, zF_eq, zT_neq, zF_neq, zT_nlt, zT_nle, and_true, true_and, and_false, false_and, and_self, or_true, true_or, or_false, false_or, or_self, not_true_eq_false, not_false_eq_true, ↓reduceIte, implies_true, true_imp_iff, false_imp_iff, zcall0, zcall1, zcall2, zcall3, zcall4, zsto_eq, zsto_ne, zsto_fn, zok13, zok6, zok15, znb_0, zrng_hit, zrng_ne, zrng_fn, zcpy_ne, zcpy_fn]
  · unfold zSz
    rw [e6]
    exact b1
theorem w_write1 (σ : ZT) {how s r : Int} (hh : 0 ≤ how ∧ how ≤ 2) (hs : 0 ≤ s ∧ s < 2) (h4 : σ 4 0 2 = s) (hf : 0 ≤ σ 4 0 1 ∧ σ 4 0 1 < 2) (hr : 0 ≤ r ∧ r < 120) (h38 : σ 38 0 0 = r) (h8 : 0 ≤ σ 8 0 0 ∧ σ 8 0 0 < 120) (hT : zSimT σ) {ns : List Int} (hns : zrem (zwB σ s r) how r ns) (hz : zwD (zwrs s r (zwB σ s r) ns) s r 0 0 6 s 1 ≤ 12000) : f_W_write [(4, 0), (0, how)] σ = some (0, zwF (zbec (zwD (zwrs s r (zwB σ s r) ns) s r 0 0) 1) 0 r 6 (zwF (zbec (zwD (zwrs s r (zwB σ s r) ns) s r 0 0) 1) 0 r 4 0 1) 1, zwF (zbec (zwD (zwrs s r (zwB σ s r) ns) s r 0 0) 1) 0 r) := by
  have hA0 : zSz (zsto σ 6 s 1 0) s := by unfold zSz; rw [zsto_eq]; omega
  have hA1 := (zem_sz [37] hA0).1
  have hA2 := (zem_sz [70] hA1).1
  have hA3 := (zem_sz [49] hA2).1
  have k0 : zsto σ 6 s 1 0 4 = σ 4 := by simp (disch := omega) only [zwr_id, zT_lt, zF_lt, zT_le, zF_le, zT_eq, zF_eq, zT_neq, zF_neq, zT_nlt, zT_nle, and_true, true_and, and_false, false_and, and_self, or_true, true_or, or_false, false_or, or_self, not_true_eq_false, not_false_eq_true, ↓reduceIte, implies_true, true_imp_iff, false_imp_iff, zcall0, zcall1, zcall2, zcall3, zcall4, zsto_eq, zsto_ne, zsto_fn, zok13, zok6, zok15, znb_0, zrng_hit, zrng_ne, zrng_fn, zcpy_ne, zcpy_fn]
  have k1 : zem s (zsto σ 6 s 1 0) [37] 4 = σ 4 := by rw [(zem_fn s _ _ hA0).1 4 (by decide) (by decide), k0]
  have k2 : zem s (zem s (zsto σ 6 s 1 0) [37]) [70] 4 = σ 4 := by rw [(zem_fn s _ _ hA1).1 4 (by decide) (by decide), k1]
  have k3 : zem s (zem s (zem s (zsto σ 6 s 1 0) [37]) [70]) [49] 4 = σ 4 := by rw [(zem_fn s _ _ hA2).1 4 (by decide) (by decide), k2]
  have kA : zem s (zem s (zem s (zem s (zsto σ 6 s 1 0) [37]) [70]) [49]) [10] = zwA σ s := by
    rw [← zem_app, ← zem_app, ← zem_app]; rfl
  obtain ⟨a1, a2, a3, a4, a5⟩ := zwA_fn σ s
  have g4 : zwB σ s r 4 = σ 4 := by unfold zwB; simp (disch := omega) only [zwr_id, zT_lt, zF_lt, zT_le, zF_le, zT_eq, zF_eq, zT_neq, zF_neq, zT_nlt, zT_nle, and_true, true_and, and_false, false_and, and_self, or_true, true_or, or_false, false_or, or_self, not_true_eq_false, not_false_eq_true, ↓reduceIte, implies_true, true_imp_iff, false_imp_iff, zcall0, zcall1, zcall2, zcall3, zcall4, zsto_eq, zsto_ne, zsto_fn, zok13, zok6, zok15, znb_0, zrng_hit, zrng_ne, zrng_fn, zcpy_ne, zcpy_fn]; rw [a3 4 (by decide) (by decide)]
  have g6 : zwB σ s r 6 = zwA σ s 6 := by unfold zwB; simp (disch := omega) only [zwr_id, zT_lt, zF_lt, zT_le, zF_le, zT_eq, zF_eq, zT_neq, zF_neq, zT_nlt, zT_nle, and_true, true_and, and_false, false_and, and_self, or_true, true_or, or_false, false_or, or_self, not_true_eq_false, not_false_eq_true, ↓reduceIte, implies_true, true_imp_iff, false_imp_iff, zcall0, zcall1, zcall2, zcall3, zcall4, zsto_eq, zsto_ne, zsto_fn, zok13, zok6, zok15, znb_0, zrng_hit, zrng_ne, zrng_fn, zcpy_ne, zcpy_fn]
  have zB : zSz (zwB σ s r) s := by unfold zSz; rw [g6]; exact a1
  have TB : zSimT (zwB σ s r) := hT.fn fun k hk => by
    simp only [List.mem_cons, List.not_mem_nil, or_false] at hk
    unfold zwB
    simp (disch := omega) only [zwr_id, zT_lt, zF_lt, zT_le, zF_le, zT_eq, zF_eq, zT_neq, zF_neq, zT_nlt, zT_nle, and_true, true_and, and_false, false_and, and_self, or_true, true_or, or_false, false_or, or_self, not_true_eq_false, not_false_eq_true, ↓reduceIte, implies_true, true_imp_iff, false_imp_iff, zcall0, zcall1, zcall2, zcall3, zcall4, zsto_eq, zsto_ne, zsto_fn, zok13, zok6, zok15, znb_0, zrng_hit, zrng_ne, zrng_fn, zcpy_ne, zcpy_fn]
    rw [a3 k (by omega) (by omega)]
  have h16 : ∀ n, 1 ≤ n → n ≤ 40 → zI (zwB σ s r 16 r n) := fun n n1 n2 => by
    unfold zwB
    rw [zrng_hit (by omega)]
    omega
  have hnx := w_next (zwB σ s r) TB hh h16 hns
  have hlp := w_write_loop hh hs ns (zwB σ s r) hns TB zB (by rw [g6]; omega) h16 (by rw [g4]; exact h4)
  obtain ⟨c1, c2, c3, c4, c5, c6, c7⟩ := zwrs_fn s r ns (zwB σ s r) zB
  generalize hτ : zwrs s r (zwB σ s r) ns = τ at hlp c1 c2 c3 c4 c5 c6 c7 hz ⊢
  have t4 : τ 4 = σ 4 := by rw [c1 4 (by decide) (by decide) (by decide) (by decide), g4]
  have t8 : τ 8 = σ 8 := by rw [c1 8 (by decide) (by decide) (by decide) (by decide)]; unfold zwB; simp (disch := omega) only [zwr_id, zT_lt, zF_lt, zT_le, zF_le, zT_eq, zF_eq, zT_neq, zF_neq, zT_nlt, zT_nle, and_true, true_and, and_false, false_and, and_self, or_true, true_or, or_false, false_or, or_self, not_true_eq_false, not_false_eq_true, ↓reduceIte, implies_true, true_imp_iff, false_imp_iff, zcall0, zcall1, zcall2, zcall3, zcall4, zsto_eq, zsto_ne, zsto_fn, zok13, zok6, zok15, znb_0, zrng_hit, zrng_ne, zrng_fn, zcpy_ne, zcpy_fn]; rw [a3 8 (by decide) (by decide)]
  have Tτ : zSimT τ := TB.fn fun k hk => by
    simp only [List.mem_cons, List.not_mem_nil, or_false] at hk
    exact c1 k (by omega) (by omega) (by omega) (by omega)
  have hpl : ∀ j, 1 ≤ j → j ≤ 40 → τ 13 j 2 = 1 → zme1 τ 0 j ≠ 0 → 0 ≤ τ 16 r j ∧ τ 16 r j ≤ 99999 := by
    have gen : ∀ (ns : List Int) (σ : ZT), zSz σ s → (∀ n, 1 ≤ n → n ≤ 40 → 0 ≤ σ 16 r n ∧ σ 16 r n ≤ 99999) → ∀ n, 1 ≤ n → n ≤ 40 → 0 ≤ zwrs s r σ ns 16 r n ∧ zwrs s r σ ns 16 r n ≤ 99999 := fun ns => by
      induction ns with
      | nil => intro σ _ h; exact h
      | cons a ns ih =>
        intro σ hz h
        obtain ⟨d1, d2, d3, d4, d5, d6, d7, d8⟩ := zwr1_fn σ (s := s) (r := r) (n := a) hz
        refine ih (zwr1 σ s r a) d4 fun n n1 n2 => ?_
        have := h n n1 n2
        rw [d2]
        unfold zSz at hz
        by_cases q : n = a
        · subst q; rw [zsto_eq]; omega
        · rw [zsto_ne (by omega)]; exact this
    intro j j1 j2 _ _
    rw [← hτ]
    exact gen ns (zwB σ s r) zB (fun n n1 n2 => by unfold zwB; rw [zrng_hit (by omega)]; omega) j j1 j2
  have hrows : f_W_putRows [(4, 0), (15, r), (0, 0), (0, 0)] τ = some (0, 0, zwD τ s r 0 0) := w_putRows τ hs (Or.inl rfl) (by omega) (by rw [t4]; exact h4) Tτ hpl c2
  obtain ⟨e1, e2, e3, e4, e5, e6, e7, e8, e9⟩ := zwD_fn τ (s := s) (r := r) (c := 0) (b := 0) c2
  have d4 : zwD τ s r 0 0 4 = σ 4 := by rw [e1 4 (by decide) (by decide) (by decide), t4]
  have d8 : zwD τ s r 0 0 8 = σ 8 := by rw [e1 8 (by decide) (by decide) (by decide), t8]
  have d13 : zwD τ s r 0 0 13 = τ 13 := e1 13 (by decide) (by decide) (by decide)
  have hbc := w_become1 (zwD τ s r 0 0) (p := 1) (by rw [d4]; exact hf) (by rw [d4, h4]; exact hs) (by rw [d4, h4]; unfold zSz at e7; omega) (fun k k1 k2 => by rw [d13]; exact (Tτ k k1 k2).1)
  have b8 : zbec (zwD τ s r 0 0) 1 8 = σ 8 := by
    rw [← d8]
    unfold zbec zsv
    funext i x
    rw [if_neg (by omega), if_neg (by omega)]
    simp (disch := omega) only [zwr_id, zT_lt, zF_lt, zT_le, zF_le, zT_eq, zF_eq, zT_neq, zF_neq, zT_nlt, zT_nle, and_true, true_and, and_false, false_and, and_self, or_true, true_or, or_false, false_or, or_self, not_true_eq_false, not_false_eq_true, ↓reduceIte, implies_true, true_imp_iff, false_imp_iff, zcall0, zcall1, zcall2, zcall3, zcall4, zsto_eq, zsto_ne, zsto_fn, zok13, zok6, zok15, znb_0, zrng_hit, zrng_ne, zrng_fn, zcpy_ne, zcpy_fn]
  have b4 : zbec (zwD τ s r 0 0) 1 4 0 1 = s := by
    unfold zbec zsv
    rw [if_neg (by omega), if_neg (by omega)]
    simp (disch := omega) only [zwr_id, zT_lt, zF_lt, zT_le, zF_le, zT_eq, zF_eq, zT_neq, zF_neq, zT_nlt, zT_nle, and_true, true_and, and_false, false_and, and_self, or_true, true_or, or_false, false_or, or_self, not_true_eq_false, not_false_eq_true, ↓reduceIte, implies_true, true_imp_iff, false_imp_iff, zcall0, zcall1, zcall2, zcall3, zcall4, zsto_eq, zsto_ne, zsto_fn, zok13, zok6, zok15, znb_0, zrng_hit, zrng_ne, zrng_fn, zcpy_ne, zcpy_fn]
    rw [d4, h4]
  have f4 : zwF (zbec (zwD τ s r 0 0) 1) 0 r 4 0 1 = s := by
    unfold zwF
    simp (disch := omega) only [zwr_id, zT_lt, zF_lt, zT_le, zF_le, zT_eq, zF_eq, zT_neq, zF_neq, zT_nlt, zT_nle, and_true, true_and, and_false, false_and, and_self, or_true, true_or, or_false, false_or, or_self, not_true_eq_false, not_false_eq_true, ↓reduceIte, implies_true, true_imp_iff, false_imp_iff, zcall0, zcall1, zcall2, zcall3, zcall4, zsto_eq, zsto_ne, zsto_fn, zok13, zok6, zok15, znb_0, zrng_hit, zrng_ne, zrng_fn, zcpy_ne, zcpy_fn]
  rw [u_W_write, e_W_write_0]
  simp (disch := omega) only [e_W_write_14, w_want1, zwr_id, zT_lt, zF_lt, zT_le, zF_le, zT_eq, zF_eq, zT_neq, zF_neq, zT_nlt, zT_nle, and_true, true_and, and_false, false_and, and_self, or_true, true_or, or_false, false_or, or_self, not_true_eq_false, not_false_eq_true, ↓reduceIte, implies_true, true_imp_iff, false_imp_iff, zcall0, zcall1, zcall2, zcall3, zcall4, zsto_eq, zsto_ne, zsto_fn, zok13, zok6, zok15, znb_0, zrng_hit, zrng_ne, zrng_fn, zcpy_ne, zcpy_fn]
  rw [h4]
  simp (disch := omega) only [r_put _ _ hA0, zwr_id, zT_lt, zF_lt, zT_le, zF_le, zT_eq, zF_eq, zT_neq, zF_neq, zT_nlt, zT_nle, and_true, true_and, and_false, false_and, and_self, or_true, true_or, or_false, false_or, or_self, not_true_eq_false, not_false_eq_true, ↓reduceIte, implies_true, true_imp_iff, false_imp_iff, zcall0, zcall1, zcall2, zcall3, zcall4, zsto_eq, zsto_ne, zsto_fn, zok13, zok6, zok15, znb_0, zrng_hit, zrng_ne, zrng_fn, zcpy_ne, zcpy_fn]
  rw [k1, h4]
  simp (disch := omega) only [r_put _ _ hA1, zwr_id, zT_lt, zF_lt, zT_le, zF_le, zT_eq, zF_eq, zT_neq, zF_neq, zT_nlt, zT_nle, and_true, true_and, and_false, false_and, and_self, or_true, true_or, or_false, false_or, or_self, not_true_eq_false, not_false_eq_true, ↓reduceIte, implies_true, true_imp_iff, false_imp_iff, zcall0, zcall1, zcall2, zcall3, zcall4, zsto_eq, zsto_ne, zsto_fn, zok13, zok6, zok15, znb_0, zrng_hit, zrng_ne, zrng_fn, zcpy_ne, zcpy_fn]
  rw [k2, h4]
  simp (disch := omega) only [r_put _ _ hA2, zwr_id, zT_lt, zF_lt, zT_le, zF_le, zT_eq, zF_eq, zT_neq, zF_neq, zT_nlt, zT_nle, and_true, true_and, and_false, false_and, and_self, or_true, true_or, or_false, false_or, or_self, not_true_eq_false, not_false_eq_true, ↓reduceIte, implies_true, true_imp_iff, false_imp_iff, zcall0, zcall1, zcall2, zcall3, zcall4, zsto_eq, zsto_ne, zsto_fn, zok13, zok6, zok15, znb_0, zrng_hit, zrng_ne, zrng_fn, zcpy_ne, zcpy_fn]
  rw [k3, h4]
  simp (disch := omega) only [r_put _ _ hA3, zwr_id, zT_lt, zF_lt, zT_le, zF_le, zT_eq, zF_eq, zT_neq, zF_neq, zT_nlt, zT_nle, and_true, true_and, and_false, false_and, and_self, or_true, true_or, or_false, false_or, or_self, not_true_eq_false, not_false_eq_true, ↓reduceIte, implies_true, true_imp_iff, false_imp_iff, zcall0, zcall1, zcall2, zcall3, zcall4, zsto_eq, zsto_ne, zsto_fn, zok13, zok6, zok15, znb_0, zrng_hit, zrng_ne, zrng_fn, zcpy_ne, zcpy_fn]
  rw [kA]
  rw [a3 38 (by decide) (by decide), h38]
  simp (disch := omega) only [v_clear, zwr_id, zT_lt, zF_lt, zT_le, zF_le, zT_eq, zF_eq, zT_neq, zF_neq, zT_nlt, zT_nle, and_true, true_and, and_false, false_and, and_self, or_true, true_or, or_false, false_or, or_self, not_true_eq_false, not_false_eq_true, ↓reduceIte, implies_true, true_imp_iff, false_imp_iff, zcall0, zcall1, zcall2, zcall3, zcall4, zsto_eq, zsto_ne, zsto_fn, zok13, zok6, zok15, znb_0, zrng_hit, zrng_ne, zrng_fn, zcpy_ne, zcpy_fn]
  have eB : zrng (zwA σ s) 16 r 0 41 (fun _ => 0) = zwB σ s r := rfl
  rw [eB, hnx, zcall0, hlp, e_W_write_79]
  simp (disch := omega) only [hrows, hbc, zwr_id, zT_lt, zF_lt, zT_le, zF_le, zT_eq, zF_eq, zT_neq, zF_neq, zT_nlt, zT_nle, and_true, true_and, and_false, false_and, and_self, or_true, true_or, or_false, false_or, or_self, not_true_eq_false, not_false_eq_true, ↓reduceIte, implies_true, true_imp_iff, false_imp_iff, zcall0, zcall1, zcall2, zcall3, zcall4, zsto_eq, zsto_ne, zsto_fn, zok13, zok6, zok15, znb_0, zrng_hit, zrng_ne, zrng_fn, zcpy_ne, zcpy_fn]
  rw [b8]
  simp (disch := omega) only [zwr_id, zT_lt, zF_lt, zT_le, zF_le, zT_eq, zF_eq, zT_neq, zF_neq, zT_nlt, zT_nle, and_true, true_and, and_false, false_and, and_self, or_true, true_or, or_false, false_or, or_self, not_true_eq_false, not_false_eq_true, ↓reduceIte, implies_true, true_imp_iff, false_imp_iff, zcall0, zcall1, zcall2, zcall3, zcall4, zsto_eq, zsto_ne, zsto_fn, zok13, zok6, zok15, znb_0, zrng_hit, zrng_ne, zrng_fn, zcpy_ne, zcpy_fn]
  have eF : zsto (zsto (zbec (zwD τ s r 0 0) 1) 38 0 0 (σ 8 0 0)) 8 0 0 r = zwF (zbec (zwD τ s r 0 0) 1) 0 r := by unfold zwF; rw [b8]
  have e6F : zwF (zbec (zwD τ s r 0 0) 1) 0 r 6 = zbec (zwD τ s r 0 0) 1 6 := by unfold zwF; simp (disch := omega) only [zwr_id, zT_lt, zF_lt, zT_le, zF_le, zT_eq, zF_eq, zT_neq, zF_neq, zT_nlt, zT_nle, and_true, true_and, and_false, false_and, and_self, or_true, true_or, or_false, false_or, or_self, not_true_eq_false, not_false_eq_true, ↓reduceIte, implies_true, true_imp_iff, false_imp_iff, zcall0, zcall1, zcall2, zcall3, zcall4, zsto_eq, zsto_ne, zsto_fn, zok13, zok6, zok15, znb_0, zrng_hit, zrng_ne, zrng_fn, zcpy_ne, zcpy_fn]
  have e4F : zwF (zbec (zwD τ s r 0 0) 1) 0 r 4 = zbec (zwD τ s r 0 0) 1 4 := by unfold zwF; simp (disch := omega) only [zwr_id, zT_lt, zF_lt, zT_le, zF_le, zT_eq, zF_eq, zT_neq, zF_neq, zT_nlt, zT_nle, and_true, true_and, and_false, false_and, and_self, or_true, true_or, or_false, false_or, or_self, not_true_eq_false, not_false_eq_true, ↓reduceIte, implies_true, true_imp_iff, false_imp_iff, zcall0, zcall1, zcall2, zcall3, zcall4, zsto_eq, zsto_ne, zsto_fn, zok13, zok6, zok15, znb_0, zrng_hit, zrng_ne, zrng_fn, zcpy_ne, zcpy_fn]
  rw [eF, e6F, e4F]
