/-! poke; counting; told -/
theorem w_poke1 (σ : ZT) {i b : Int} (hf : 0 ≤ σ 4 0 1 ∧ σ 4 0 1 < 2) (hi : 0 ≤ i ∧ i < σ 6 (σ 4 0 1) 1) (hs : σ 6 (σ 4 0 1) 1 ≤ 12000) (hB : -128 ≤ σ 7 (σ 4 0 1) i ∧ σ 7 (σ 4 0 1) i < 128) (hb : -128 ≤ b ∧ b < 128) : f_W_poke [(4, 0), (0, i), (0, b)] σ = some (0, σ 7 (σ 4 0 1) i, zsto (zsto σ 7 (σ 4 0 1) i b) 4 0 3 1) := by
  rw [u_W_poke, e_W_poke_0, w_at1 σ hf hi hs hB]
  simp (disch := omega) only [znb_id, zwr_id, zT_lt, zF_lt, zT_le, zF_le, zT_eq, zF_eq, zT_neq, zF_neq, zT_nlt, zT_nle, and_true, true_and, and_false, false_and, and_self, or_true, true_or, or_false, false_or, or_self, not_true_eq_false, not_false_eq_true, ↓reduceIte, implies_true, true_imp_iff, false_imp_iff, zcall0, zcall1, zcall2, zcall3, zcall4, zsto_eq, zsto_ne, zsto_fn, zok13, zok6, zok15, znb_0, zrng_hit, zrng_ne, zrng_fn, zcpy_ne, zcpy_fn]
theorem w_poke0 (σ : ZT) {i b : Int} (hf : 0 ≤ σ 4 0 1 ∧ σ 4 0 1 < 2) (hn : zI i) (hi : ¬ (0 ≤ i ∧ i < σ 6 (σ 4 0 1) 1)) (hs : 0 ≤ σ 6 (σ 4 0 1) 1 ∧ σ 6 (σ 4 0 1) 1 ≤ 12000) (hg : 0 < σ 39 0 0) : f_W_poke [(4, 0), (0, i), (0, b)] σ = some (1, 0, zth σ) := by
  rw [u_W_poke, e_W_poke_0, w_at0 σ hf hn hi hs hg]
  simp (disch := omega) only [zwr_id, zT_lt, zF_lt, zT_le, zF_le, zT_eq, zF_eq, zT_neq, zF_neq, zT_nlt, zT_nle, and_true, true_and, and_false, false_and, and_self, or_true, true_or, or_false, false_or, or_self, not_true_eq_false, not_false_eq_true, ↓reduceIte, implies_true, true_imp_iff, false_imp_iff, zcall0, zcall1, zcall2, zcall3, zcall4, zsto_eq, zsto_ne, zsto_fn, zok13, zok6, zok15, znb_0, zrng_hit, zrng_ne, zrng_fn, zcpy_ne, zcpy_fn]
theorem m_poke1 (σ : ZT) {i b : Int} (hi : 0 ≤ i ∧ i < σ 20 0 7) (hs : σ 20 0 7 ≤ 12000) (hB : -128 ≤ σ 27 0 i ∧ σ 27 0 i < 128) (hb : -128 ≤ b ∧ b < 128) : f_M_poke [(20, 0), (0, i), (0, b)] σ = some (0, σ 27 0 i, zsto (zsto (zsto σ 20 0 0 0) 27 0 i b) 20 0 9 1) := by
  rw [u_M_poke, e_M_poke_0]
  simp (disch := omega) only [e_M_poke_18, znb_id, zwr_id, zT_lt, zF_lt, zT_le, zF_le, zT_eq, zF_eq, zT_neq, zF_neq, zT_nlt, zT_nle, and_true, true_and, and_false, false_and, and_self, or_true, true_or, or_false, false_or, or_self, not_true_eq_false, not_false_eq_true, ↓reduceIte, implies_true, true_imp_iff, false_imp_iff, zcall0, zcall1, zcall2, zcall3, zcall4, zsto_eq, zsto_ne, zsto_fn, zok13, zok6, zok15, znb_0, zrng_hit, zrng_ne, zrng_fn, zcpy_ne, zcpy_fn]
theorem m_poke0 (σ : ZT) {i b : Int} (hn : zI i) (hi : ¬ (0 ≤ i ∧ i < σ 20 0 7)) (hs : 0 ≤ σ 20 0 7 ∧ σ 20 0 7 ≤ 12000) : f_M_poke [(20, 0), (0, i), (0, b)] σ = some (0, 0, zsto σ 20 0 0 1) := by
  rw [u_M_poke, e_M_poke_0]
  by_cases h : i < 0
  · simp (disch := omega) only [e_M_poke_13, e_M_poke_18, zwr_id, zT_lt, zF_lt, zT_le, zF_le, zT_eq, zF_eq, zT_neq, zF_neq, zT_nlt, zT_nle, and_true, true_and, and_false, false_and, and_self, or_true, true_or, or_false, false_or, or_self, not_true_eq_false, not_false_eq_true, ↓reduceIte, implies_true, true_imp_iff, false_imp_iff, zcall0, zcall1, zcall2, zcall3, zcall4, zsto_eq, zsto_ne, zsto_fn, zok13, zok6, zok15, znb_0, zrng_hit, zrng_ne, zrng_fn, zcpy_ne, zcpy_fn]
  · simp (disch := omega) only [e_M_poke_13, e_M_poke_18, zwr_id, zT_lt, zF_lt, zT_le, zF_le, zT_eq, zF_eq, zT_neq, zF_neq, zT_nlt, zT_nle, and_true, true_and, and_false, false_and, and_self, or_true, true_or, or_false, false_or, or_self, not_true_eq_false, not_false_eq_true, ↓reduceIte, implies_true, true_imp_iff, false_imp_iff, zcall0, zcall1, zcall2, zcall3, zcall4, zsto_eq, zsto_ne, zsto_fn, zok13, zok6, zok15, znb_0, zrng_hit, zrng_ne, zrng_fn, zcpy_ne, zcpy_fn]
theorem op_poke {σ : ZT} (hS : zSim σ) (hg : 0 < σ 39 0 0) {i b : Int} (hi : zI i) (hb : -128 ≤ b ∧ b < 128) : zOp σ (f_Z_poke [(4, 0), (0, i), (0, b), (18, 0)]) (f_M_poke [(20, 0), (0, i), (0, b)]) := by
  have hS' := hS
  obtain ⟨hB, hT, hD, E, ⟨f1, f2, f3, f4, f5, f6, f7, f8, f9⟩, hR⟩ := hS'
  have hBi := (hB (σ 4 0 1) i).1
  by_cases h : 0 ≤ i ∧ i < σ 6 (σ 4 0 1) 1
  · have e := f9 i h.1 (by omega)
    refine zOp.give (τ := zsto (zsto σ 7 (σ 4 0 1) i b) 4 0 3 1) (v := σ 7 (σ 4 0 1) i) (τ' := zsto (zsto (zsto (zsto (zsto (zsto σ 7 (σ 4 0 1) i b) 4 0 3 1) 18 0 0 (σ 7 (σ 4 0 1) i)) 20 0 0 0) 27 0 i b) 20 0 9 1) ?_ ?_ ⟨?_, ?_, ?_, E, ?_, ?_⟩ ?_ ?_ ?_ ?_ (by omega)
    · rw [u_Z_poke, e_Z_poke_0_ok _ _ _ _ _ _ _ _ (w_poke1 σ (by omega) h (by omega) hBi hb)]
      simp (disch := omega) only [zwr_id, zT_lt, zF_lt, zT_le, zF_le, zT_eq, zF_eq, zT_neq, zF_neq, zT_nlt, zT_nle, and_true, true_and, and_false, false_and, and_self, or_true, true_or, or_false, false_or, or_self, not_true_eq_false, not_false_eq_true, ↓reduceIte, implies_true, true_imp_iff, false_imp_iff, zcall0, zcall1, zcall2, zcall3, zcall4, zsto_eq, zsto_ne, zsto_fn, zok13, zok6, zok15, znb_0, zrng_hit, zrng_ne, zrng_fn, zcpy_ne, zcpy_fn]
    · rw [m_poke1 _ (by (simp (disch := omega) only [zwr_id, zT_lt, zF_lt, zT_le, zF_le, zT_eq, zF_eq, zT_neq, zF_neq, zT_nlt, zT_nle, and_true, true_and, and_false, false_and, and_self, or_true, true_or, or_false, false_or, or_self, not_true_eq_false, not_false_eq_true, ↓reduceIte, implies_true, true_imp_iff, false_imp_iff, zcall0, zcall1, zcall2, zcall3, zcall4, zsto_eq, zsto_ne, zsto_fn, zok13, zok6, zok15, znb_0, zrng_hit, zrng_ne, zrng_fn, zcpy_ne, zcpy_fn] <;> omega)) (by (simp (disch := omega) only [zwr_id, zT_lt, zF_lt, zT_le, zF_le, zT_eq, zF_eq, zT_neq, zF_neq, zT_nlt, zT_nle, and_true, true_and, and_false, false_and, and_self, or_true, true_or, or_false, false_or, or_self, not_true_eq_false, not_false_eq_true, ↓reduceIte, implies_true, true_imp_iff, false_imp_iff, zcall0, zcall1, zcall2, zcall3, zcall4, zsto_eq, zsto_ne, zsto_fn, zok13, zok6, zok15, znb_0, zrng_hit, zrng_ne, zrng_fn, zcpy_ne, zcpy_fn] <;> omega)) (by (simp (disch := omega) only [zwr_id, zT_lt, zF_lt, zT_le, zF_le, zT_eq, zF_eq, zT_neq, zF_neq, zT_nlt, zT_nle, and_true, true_and, and_false, false_and, and_self, or_true, true_or, or_false, false_or, or_self, not_true_eq_false, not_false_eq_true, ↓reduceIte, implies_true, true_imp_iff, false_imp_iff, zcall0, zcall1, zcall2, zcall3, zcall4, zsto_eq, zsto_ne, zsto_fn, zok13, zok6, zok15, znb_0, zrng_hit, zrng_ne, zrng_fn, zcpy_ne, zcpy_fn] <;> omega)) hb]
      simp (disch := omega) only [zwr_id, zT_lt, zF_lt, zT_le, zF_le, zT_eq, zF_eq, zT_neq, zF_neq, zT_nlt, zT_nle, and_true, true_and, and_false, false_and, and_self, or_true, true_or, or_false, false_or, or_self, not_true_eq_false, not_false_eq_true, ↓reduceIte, implies_true, true_imp_iff, false_imp_iff, zcall0, zcall1, zcall2, zcall3, zcall4, zsto_eq, zsto_ne, zsto_fn, zok13, zok6, zok15, znb_0, zrng_hit, zrng_ne, zrng_fn, zcpy_ne, zcpy_fn]
      rw [e]
    · exact zSimB.sto (zSimB.sto (zSimB.sto (zSimB.sto (zSimB.sto (zSimB.sto hB (by omega)) (by omega)) (by omega)) (by omega)) (by omega)) (by omega)
    · exact hT.fn (fun k hk => by
      simp only [List.mem_cons, List.not_mem_nil, or_false] at hk
      simp (disch := omega) only [zsto_fn, zrng_fn, zcpy_fn])
    · refine hD.fn (fun k hk => by
      simp only [List.mem_cons, List.not_mem_nil, or_false] at hk
      simp (disch := omega) only [zsto_fn, zrng_fn, zcpy_fn]) ?_ ?_ ?_
      all_goals simp (disch := omega) only [zwr_id, zT_lt, zF_lt, zT_le, zF_le, zT_eq, zF_eq, zT_neq, zF_neq, zT_nlt, zT_nle, and_true, true_and, and_false, false_and, and_self, or_true, true_or, or_false, false_or, or_self, not_true_eq_false, not_false_eq_true, ↓reduceIte, implies_true, true_imp_iff, false_imp_iff, zcall0, zcall1, zcall2, zcall3, zcall4, zsto_eq, zsto_ne, zsto_fn, zok13, zok6, zok15, znb_0, zrng_hit, zrng_ne, zrng_fn, zcpy_ne, zcpy_fn]
    · generalize hω : zsto (zsto (zsto (zsto (zsto (zsto σ 7 (σ 4 0 1) i b) 4 0 3 1) 18 0 0 (σ 7 (σ 4 0 1) i)) 20 0 0 0) 27 0 i b) 20 0 9 1 = ω
      have g1 : ω 4 0 1 = σ 4 0 1 := by rw [← hω]; simp (disch := omega) only [zwr_id, zT_lt, zF_lt, zT_le, zF_le, zT_eq, zF_eq, zT_neq, zF_neq, zT_nlt, zT_nle, and_true, true_and, and_false, false_and, and_self, or_true, true_or, or_false, false_or, or_self, not_true_eq_false, not_false_eq_true, ↓reduceIte, implies_true, true_imp_iff, false_imp_iff, zcall0, zcall1, zcall2, zcall3, zcall4, zsto_eq, zsto_ne, zsto_fn, zok13, zok6, zok15, znb_0, zrng_hit, zrng_ne, zrng_fn, zcpy_ne, zcpy_fn]
      have g2 : ω 4 0 2 = σ 4 0 2 := by rw [← hω]; simp (disch := omega) only [zwr_id, zT_lt, zF_lt, zT_le, zF_le, zT_eq, zF_eq, zT_neq, zF_neq, zT_nlt, zT_nle, and_true, true_and, and_false, false_and, and_self, or_true, true_or, or_false, false_or, or_self, not_true_eq_false, not_false_eq_true, ↓reduceIte, implies_true, true_imp_iff, false_imp_iff, zcall0, zcall1, zcall2, zcall3, zcall4, zsto_eq, zsto_ne, zsto_fn, zok13, zok6, zok15, znb_0, zrng_hit, zrng_ne, zrng_fn, zcpy_ne, zcpy_fn]
      have g3 : ω 4 0 3 = 1 := by rw [← hω]; simp (disch := omega) only [zwr_id, zT_lt, zF_lt, zT_le, zF_le, zT_eq, zF_eq, zT_neq, zF_neq, zT_nlt, zT_nle, and_true, true_and, and_false, false_and, and_self, or_true, true_or, or_false, false_or, or_self, not_true_eq_false, not_false_eq_true, ↓reduceIte, implies_true, true_imp_iff, false_imp_iff, zcall0, zcall1, zcall2, zcall3, zcall4, zsto_eq, zsto_ne, zsto_fn, zok13, zok6, zok15, znb_0, zrng_hit, zrng_ne, zrng_fn, zcpy_ne, zcpy_fn]
      have g4 : ω 20 0 7 = σ 20 0 7 := by rw [← hω]; simp (disch := omega) only [zwr_id, zT_lt, zF_lt, zT_le, zF_le, zT_eq, zF_eq, zT_neq, zF_neq, zT_nlt, zT_nle, and_true, true_and, and_false, false_and, and_self, or_true, true_or, or_false, false_or, or_self, not_true_eq_false, not_false_eq_true, ↓reduceIte, implies_true, true_imp_iff, false_imp_iff, zcall0, zcall1, zcall2, zcall3, zcall4, zsto_eq, zsto_ne, zsto_fn, zok13, zok6, zok15, znb_0, zrng_hit, zrng_ne, zrng_fn, zcpy_ne, zcpy_fn]
      have g5 : ω 20 0 9 = 1 := by rw [← hω]; simp (disch := omega) only [zwr_id, zT_lt, zF_lt, zT_le, zF_le, zT_eq, zF_eq, zT_neq, zF_neq, zT_nlt, zT_nle, and_true, true_and, and_false, false_and, and_self, or_true, true_or, or_false, false_or, or_self, not_true_eq_false, not_false_eq_true, ↓reduceIte, implies_true, true_imp_iff, false_imp_iff, zcall0, zcall1, zcall2, zcall3, zcall4, zsto_eq, zsto_ne, zsto_fn, zok13, zok6, zok15, znb_0, zrng_hit, zrng_ne, zrng_fn, zcpy_ne, zcpy_fn]
      have g6 : ω 6 = σ 6 := by rw [← hω]; simp (disch := omega) only [zwr_id, zT_lt, zF_lt, zT_le, zF_le, zT_eq, zF_eq, zT_neq, zF_neq, zT_nlt, zT_nle, and_true, true_and, and_false, false_and, and_self, or_true, true_or, or_false, false_or, or_self, not_true_eq_false, not_false_eq_true, ↓reduceIte, implies_true, true_imp_iff, false_imp_iff, zcall0, zcall1, zcall2, zcall3, zcall4, zsto_eq, zsto_ne, zsto_fn, zok13, zok6, zok15, znb_0, zrng_hit, zrng_ne, zrng_fn, zcpy_ne, zcpy_fn]
      unfold zSimF
      rw [g1, g6]
      refine ⟨by omega, by omega, by omega, by omega, by omega, by omega, by omega, by omega, fun j j1 j2 => ?_⟩
      have j3 := f9 j j1 j2
      rw [← hω]
      by_cases hj : j = i
      · subst hj
        simp (disch := omega) only [zwr_id, zT_lt, zF_lt, zT_le, zF_le, zT_eq, zF_eq, zT_neq, zF_neq, zT_nlt, zT_nle, and_true, true_and, and_false, false_and, and_self, or_true, true_or, or_false, false_or, or_self, not_true_eq_false, not_false_eq_true, ↓reduceIte, implies_true, true_imp_iff, false_imp_iff, zcall0, zcall1, zcall2, zcall3, zcall4, zsto_eq, zsto_ne, zsto_fn, zok13, zok6, zok15, znb_0, zrng_hit, zrng_ne, zrng_fn, zcpy_ne, zcpy_fn]
      · (simp (disch := omega) only [zwr_id, zT_lt, zF_lt, zT_le, zF_le, zT_eq, zF_eq, zT_neq, zF_neq, zT_nlt, zT_nle, and_true, true_and, and_false, false_and, and_self, or_true, true_or, or_false, false_or, or_self, not_true_eq_false, not_false_eq_true, ↓reduceIte, implies_true, true_imp_iff, false_imp_iff, zcall0, zcall1, zcall2, zcall3, zcall4, zsto_eq, zsto_ne, zsto_fn, zok13, zok6, zok15, znb_0, zrng_hit, zrng_ne, zrng_fn, zcpy_ne, zcpy_fn] <;> omega)
    · refine hR.fn (fun k hk => by
      simp only [List.mem_cons, List.not_mem_nil, or_false] at hk
      simp (disch := omega) only [zsto_fn, zrng_fn, zcpy_fn]) ?_ ?_ ?_
      all_goals simp (disch := omega) only [zwr_id, zT_lt, zF_lt, zT_le, zF_le, zT_eq, zF_eq, zT_neq, zF_neq, zT_nlt, zT_nle, and_true, true_and, and_false, false_and, and_self, or_true, true_or, or_false, false_or, or_self, not_true_eq_false, not_false_eq_true, ↓reduceIte, implies_true, true_imp_iff, false_imp_iff, zcall0, zcall1, zcall2, zcall3, zcall4, zsto_eq, zsto_ne, zsto_fn, zok13, zok6, zok15, znb_0, zrng_hit, zrng_ne, zrng_fn, zcpy_ne, zcpy_fn]
    · simp (disch := omega) only [zwr_id, zT_lt, zF_lt, zT_le, zF_le, zT_eq, zF_eq, zT_neq, zF_neq, zT_nlt, zT_nle, and_true, true_and, and_false, false_and, and_self, or_true, true_or, or_false, false_or, or_self, not_true_eq_false, not_false_eq_true, ↓reduceIte, implies_true, true_imp_iff, false_imp_iff, zcall0, zcall1, zcall2, zcall3, zcall4, zsto_eq, zsto_ne, zsto_fn, zok13, zok6, zok15, znb_0, zrng_hit, zrng_ne, zrng_fn, zcpy_ne, zcpy_fn]
    · simp (disch := omega) only [zwr_id, zT_lt, zF_lt, zT_le, zF_le, zT_eq, zF_eq, zT_neq, zF_neq, zT_nlt, zT_nle, and_true, true_and, and_false, false_and, and_self, or_true, true_or, or_false, false_or, or_self, not_true_eq_false, not_false_eq_true, ↓reduceIte, implies_true, true_imp_iff, false_imp_iff, zcall0, zcall1, zcall2, zcall3, zcall4, zsto_eq, zsto_ne, zsto_fn, zok13, zok6, zok15, znb_0, zrng_hit, zrng_ne, zrng_fn, zcpy_ne, zcpy_fn]
    · simp (disch := omega) only [zwr_id, zT_lt, zF_lt, zT_le, zF_le, zT_eq, zF_eq, zT_neq, zF_neq, zT_nlt, zT_nle, and_true, true_and, and_false, false_and, and_self, or_true, true_or, or_false, false_or, or_self, not_true_eq_false, not_false_eq_true, ↓reduceIte, implies_true, true_imp_iff, false_imp_iff, zcall0, zcall1, zcall2, zcall3, zcall4, zsto_eq, zsto_ne, zsto_fn, zok13, zok6, zok15, znb_0, zrng_hit, zrng_ne, zrng_fn, zcpy_ne, zcpy_fn]
    · simp (disch := omega) only [zwr_id, zT_lt, zF_lt, zT_le, zF_le, zT_eq, zF_eq, zT_neq, zF_neq, zT_nlt, zT_nle, and_true, true_and, and_false, false_and, and_self, or_true, true_or, or_false, false_or, or_self, not_true_eq_false, not_false_eq_true, ↓reduceIte, implies_true, true_imp_iff, false_imp_iff, zcall0, zcall1, zcall2, zcall3, zcall4, zsto_eq, zsto_ne, zsto_fn, zok13, zok6, zok15, znb_0, zrng_hit, zrng_ne, zrng_fn, zcpy_ne, zcpy_fn]
  · refine zOp.refuse hS (c := 1) (by omega) (by rw [u_Z_poke, e_Z_poke_0_x0 _ _ _ _ _ _ _ _ (w_poke0 σ (by omega) hi h (by omega) hg)]) (m_poke0 _ hi ?_ ?_)
    · unfold zth; (simp (disch := omega) only [zwr_id, zT_lt, zF_lt, zT_le, zF_le, zT_eq, zF_eq, zT_neq, zF_neq, zT_nlt, zT_nle, and_true, true_and, and_false, false_and, and_self, or_true, true_or, or_false, false_or, or_self, not_true_eq_false, not_false_eq_true, ↓reduceIte, implies_true, true_imp_iff, false_imp_iff, zcall0, zcall1, zcall2, zcall3, zcall4, zsto_eq, zsto_ne, zsto_fn, zok13, zok6, zok15, znb_0, zrng_hit, zrng_ne, zrng_fn, zcpy_ne, zcpy_fn] <;> omega)
    · unfold zth; (simp (disch := omega) only [zwr_id, zT_lt, zF_lt, zT_le, zF_le, zT_eq, zF_eq, zT_neq, zF_neq, zT_nlt, zT_nle, and_true, true_and, and_false, false_and, and_self, or_true, true_or, or_false, false_or, or_self, not_true_eq_false, not_false_eq_true, ↓reduceIte, implies_true, true_imp_iff, false_imp_iff, zcall0, zcall1, zcall2, zcall3, zcall4, zsto_eq, zsto_ne, zsto_fn, zok13, zok6, zok15, znb_0, zrng_hit, zrng_ne, zrng_fn, zcpy_ne, zcpy_fn] <;> omega)
/-- how many are not 0 -/
def zct (f : Int → Int) : Nat → Int → Int → Int
  | 0, _, a => a
  | m + 1, k, a => zct f m (k + 1) (if f k = 0 then a else a + 1)
theorem zct_bd (f : Int → Int) : ∀ (m : Nat) (k a : Int), a ≤ zct f m k a ∧ zct f m k a ≤ a + m
  | 0, k, a => by unfold zct; omega
  | m + 1, k, a => by
    have := zct_bd f m (k + 1) (if f k = 0 then a else a + 1)
    unfold zct
    split at this <;> rename_i q
    · rw [if_pos q]; omega
    · rw [if_neg q]; omega
theorem t_isChanged (σ : ZT) {n : Int} (h : zTh σ n) : f_T_isChanged [(13, n)] σ = some (0, σ 23 0 n, σ) := by
  obtain ⟨a1, a2, a3, a4, a5, a6, a7, a8, a9⟩ := h
  rw [u_T_isChanged, e_T_isChanged_0, e_T_isChanged_21]
  rcases a1 with a1 | a1
  · have := a6 a1
    simp (disch := omega) only [zwr_id, zT_lt, zF_lt, zT_le, zF_le, zT_eq, zF_eq, zT_neq, zF_neq, zT_nlt, zT_nle, and_true, true_and, and_false, false_and, and_self, or_true, true_or, or_false, false_or, or_self, not_true_eq_false, not_false_eq_true, ↓reduceIte, implies_true, true_imp_iff, false_imp_iff, zcall0, zcall1, zcall2, zcall3, zcall4, zsto_eq, zsto_ne, zsto_fn, zok13, zok6, zok15, znb_0, zrng_hit, zrng_ne, zrng_fn, zcpy_ne, zcpy_fn]
    rcases a3 with a3 | a3
    · simp (disch := omega) only [this, zwr_id, zT_lt, zF_lt, zT_le, zF_le, zT_eq, zF_eq, zT_neq, zF_neq, zT_nlt, zT_nle, and_true, true_and, and_false, false_and, and_self, or_true, true_or, or_false, false_or, or_self, not_true_eq_false, not_false_eq_true, ↓reduceIte, implies_true, true_imp_iff, false_imp_iff, zcall0, zcall1, zcall2, zcall3, zcall4, zsto_eq, zsto_ne, zsto_fn, zok13, zok6, zok15, znb_0, zrng_hit, zrng_ne, zrng_fn, zcpy_ne, zcpy_fn]
    · simp (disch := omega) only [this, zwr_id, zT_lt, zF_lt, zT_le, zF_le, zT_eq, zF_eq, zT_neq, zF_neq, zT_nlt, zT_nle, and_true, true_and, and_false, false_and, and_self, or_true, true_or, or_false, false_or, or_self, not_true_eq_false, not_false_eq_true, ↓reduceIte, implies_true, true_imp_iff, false_imp_iff, zcall0, zcall1, zcall2, zcall3, zcall4, zsto_eq, zsto_ne, zsto_fn, zok13, zok6, zok15, znb_0, zrng_hit, zrng_ne, zrng_fn, zcpy_ne, zcpy_fn]
  · rcases a5 with a5 | a5
    · rcases a3 with a3 | a3
      · have := a7 a1 (Or.inr a3)
        simp (disch := omega) only [this, zwr_id, zT_lt, zF_lt, zT_le, zF_le, zT_eq, zF_eq, zT_neq, zF_neq, zT_nlt, zT_nle, and_true, true_and, and_false, false_and, and_self, or_true, true_or, or_false, false_or, or_self, not_true_eq_false, not_false_eq_true, ↓reduceIte, implies_true, true_imp_iff, false_imp_iff, zcall0, zcall1, zcall2, zcall3, zcall4, zsto_eq, zsto_ne, zsto_fn, zok13, zok6, zok15, znb_0, zrng_hit, zrng_ne, zrng_fn, zcpy_ne, zcpy_fn]
      · have := a8 a1 a5 a3
        simp (disch := omega) only [this, zwr_id, zT_lt, zF_lt, zT_le, zF_le, zT_eq, zF_eq, zT_neq, zF_neq, zT_nlt, zT_nle, and_true, true_and, and_false, false_and, and_self, or_true, true_or, or_false, false_or, or_self, not_true_eq_false, not_false_eq_true, ↓reduceIte, implies_true, true_imp_iff, false_imp_iff, zcall0, zcall1, zcall2, zcall3, zcall4, zsto_eq, zsto_ne, zsto_fn, zok13, zok6, zok15, znb_0, zrng_hit, zrng_ne, zrng_fn, zcpy_ne, zcpy_fn]
    · have := a7 a1 (Or.inl a5)
      simp (disch := omega) only [this, zwr_id, zT_lt, zF_lt, zT_le, zF_le, zT_eq, zF_eq, zT_neq, zF_neq, zT_nlt, zT_nle, and_true, true_and, and_false, false_and, and_self, or_true, true_or, or_false, false_or, or_self, not_true_eq_false, not_false_eq_true, ↓reduceIte, implies_true, true_imp_iff, false_imp_iff, zcall0, zcall1, zcall2, zcall3, zcall4, zsto_eq, zsto_ne, zsto_fn, zok13, zok6, zok15, znb_0, zrng_hit, zrng_ne, zrng_fn, zcpy_ne, zcpy_fn]
theorem zTh.ch {σ : ZT} {n : Int} (h : zTh σ n) : σ 23 0 n = 0 ∨ σ 23 0 n = 1 := by
  obtain ⟨a1, a2, a3, a4, a5, a6, a7, a8, a9⟩ := h
  omega
theorem w_changed_loop (σ : ZT) (hT : zSimT σ) : ∀ (m : Nat) (k a : Int), 1 ≤ k → 41 - k = m → 0 ≤ a → a ≤ k → zrun C_W_changedCount (4, [(4, 0), (0, a), (0, k)], [], σ) = some (0, zct (σ 23 0) m k a, σ)
  | 0, k, a, h1, hk, h2, h3 => by
    rw [e_W_changedCount_4]
    simp (disch := omega) only [zwr_id, zT_lt, zF_lt, zT_le, zF_le, zT_eq, zF_eq, zT_neq, zF_neq, zT_nlt, zT_nle, and_true, true_and, and_false, false_and, and_self, or_true, true_or, or_false, false_or, or_self, not_true_eq_false, not_false_eq_true, ↓reduceIte, implies_true, true_imp_iff, false_imp_iff, zcall0, zcall1, zcall2, zcall3, zcall4, zsto_eq, zsto_ne, zsto_fn, zok13, zok6, zok15, znb_0, zrng_hit, zrng_ne, zrng_fn, zcpy_ne, zcpy_fn]
    rfl
  | m + 1, k, a, h1, hk, h2, h3 => by
    have hc := (hT k h1 (by omega)).ch
    rw [e_W_changedCount_4]
    simp (disch := omega) only [t_isChanged _ (hT k h1 (by omega)), e_W_changedCount_28, zwr_id, zT_lt, zF_lt, zT_le, zF_le, zT_eq, zF_eq, zT_neq, zF_neq, zT_nlt, zT_nle, and_true, true_and, and_false, false_and, and_self, or_true, true_or, or_false, false_or, or_self, not_true_eq_false, not_false_eq_true, ↓reduceIte, implies_true, true_imp_iff, false_imp_iff, zcall0, zcall1, zcall2, zcall3, zcall4, zsto_eq, zsto_ne, zsto_fn, zok13, zok6, zok15, znb_0, zrng_hit, zrng_ne, zrng_fn, zcpy_ne, zcpy_fn]
    unfold zct
    rcases hc with hc | hc
    · simp (disch := omega) only [hc, zwr_id, zT_lt, zF_lt, zT_le, zF_le, zT_eq, zF_eq, zT_neq, zF_neq, zT_nlt, zT_nle, and_true, true_and, and_false, false_and, and_self, or_true, true_or, or_false, false_or, or_self, not_true_eq_false, not_false_eq_true, ↓reduceIte, implies_true, true_imp_iff, false_imp_iff, zcall0, zcall1, zcall2, zcall3, zcall4, zsto_eq, zsto_ne, zsto_fn, zok13, zok6, zok15, znb_0, zrng_hit, zrng_ne, zrng_fn, zcpy_ne, zcpy_fn]
      rw [Int.add_zero]
      exact w_changed_loop σ hT m (k + 1) a (by omega) (by omega) (by omega) (by omega)
    · simp (disch := omega) only [hc, zwr_id, zT_lt, zF_lt, zT_le, zF_le, zT_eq, zF_eq, zT_neq, zF_neq, zT_nlt, zT_nle, and_true, true_and, and_false, false_and, and_self, or_true, true_or, or_false, false_or, or_self, not_true_eq_false, not_false_eq_true, ↓reduceIte, implies_true, true_imp_iff, false_imp_iff, zcall0, zcall1, zcall2, zcall3, zcall4, zsto_eq, zsto_ne, zsto_fn, zok13, zok6, zok15, znb_0, zrng_hit, zrng_ne, zrng_fn, zcpy_ne, zcpy_fn]
      exact w_changed_loop σ hT m (k + 1) (a + 1) (by omega) (by omega) (by omega) (by omega)
theorem w_changedCount (σ : ZT) (hT : zSimT σ) : f_W_changedCount [(4, 0)] σ = some (0, zct (σ 23 0) 40 1 0, σ) := by
  rw [u_W_changedCount, e_W_changedCount_0, w_changed_loop σ hT 40 1 0 (by omega) (by omega) (by omega) (by omega)]
theorem m_changed_loop (σ : ZT) (hc : ∀ k, 1 ≤ k → k ≤ 40 → σ 23 0 k = 0 ∨ σ 23 0 k = 1) : ∀ (m : Nat) (k a : Int), 1 ≤ k → 41 - k = m → 0 ≤ a → a ≤ k → zrun C_M_changed (4, [(20, 0), (0, a), (0, k)], [], σ) = some (0, zct (σ 23 0) m k a, σ)
  | 0, k, a, h1, hk, h2, h3 => by
    rw [e_M_changed_4]
    simp (disch := omega) only [zwr_id, zT_lt, zF_lt, zT_le, zF_le, zT_eq, zF_eq, zT_neq, zF_neq, zT_nlt, zT_nle, and_true, true_and, and_false, false_and, and_self, or_true, true_or, or_false, false_or, or_self, not_true_eq_false, not_false_eq_true, ↓reduceIte, implies_true, true_imp_iff, false_imp_iff, zcall0, zcall1, zcall2, zcall3, zcall4, zsto_eq, zsto_ne, zsto_fn, zok13, zok6, zok15, znb_0, zrng_hit, zrng_ne, zrng_fn, zcpy_ne, zcpy_fn]
    rfl
  | m + 1, k, a, h1, hk, h2, h3 => by
    have hck := hc k h1 (by omega)
    rw [e_M_changed_4]
    simp (disch := omega) only [e_M_changed_26, zwr_id, zT_lt, zF_lt, zT_le, zF_le, zT_eq, zF_eq, zT_neq, zF_neq, zT_nlt, zT_nle, and_true, true_and, and_false, false_and, and_self, or_true, true_or, or_false, false_or, or_self, not_true_eq_false, not_false_eq_true, ↓reduceIte, implies_true, true_imp_iff, false_imp_iff, zcall0, zcall1, zcall2, zcall3, zcall4, zsto_eq, zsto_ne, zsto_fn, zok13, zok6, zok15, znb_0, zrng_hit, zrng_ne, zrng_fn, zcpy_ne, zcpy_fn]
    unfold zct
    rcases hck with hck | hck
    · simp (disch := omega) only [hck, zwr_id, zT_lt, zF_lt, zT_le, zF_le, zT_eq, zF_eq, zT_neq, zF_neq, zT_nlt, zT_nle, and_true, true_and, and_false, false_and, and_self, or_true, true_or, or_false, false_or, or_self, not_true_eq_false, not_false_eq_true, ↓reduceIte, implies_true, true_imp_iff, false_imp_iff, zcall0, zcall1, zcall2, zcall3, zcall4, zsto_eq, zsto_ne, zsto_fn, zok13, zok6, zok15, znb_0, zrng_hit, zrng_ne, zrng_fn, zcpy_ne, zcpy_fn]
      exact m_changed_loop σ hc m (k + 1) a (by omega) (by omega) (by omega) (by omega)
    · simp (disch := omega) only [hck, zwr_id, zT_lt, zF_lt, zT_le, zF_le, zT_eq, zF_eq, zT_neq, zF_neq, zT_nlt, zT_nle, and_true, true_and, and_false, false_and, and_self, or_true, true_or, or_false, false_or, or_self, not_true_eq_false, not_false_eq_true, ↓reduceIte, implies_true, true_imp_iff, false_imp_iff, zcall0, zcall1, zcall2, zcall3, zcall4, zsto_eq, zsto_ne, zsto_fn, zok13, zok6, zok15, znb_0, zrng_hit, zrng_ne, zrng_fn, zcpy_ne, zcpy_fn]
      exact m_changed_loop σ hc m (k + 1) (a + 1) (by omega) (by omega) (by omega) (by omega)
theorem m_changed (σ : ZT) (hc : ∀ k, 1 ≤ k → k ≤ 40 → σ 23 0 k = 0 ∨ σ 23 0 k = 1) : f_M_changed [(20, 0)] σ = some (0, zct (σ 23 0) 40 1 0, σ) := by
  rw [u_M_changed, e_M_changed_0, m_changed_loop σ hc 40 1 0 (by omega) (by omega) (by omega) (by omega)]
/-- both answer alike, no wrapper -/
def zOpQ (σ : ZT) (w m : ZT → Option ZR) : Prop := ∃ (v : Int) (τ τ' : ZT), w σ = some (0, v, τ) ∧ m τ = some (0, v, τ') ∧ zSim τ' ∧ zKeep σ τ' ∧ zI v
/-- what is told -/
def ztl (Z R A : Int) (f c : Int → Int) (w : Int) : Int := if w = 0 then Z else if w = 1 then R else if w = 2 then zct f 40 1 0 else if w = 3 then zct c 40 1 0 else if w = 4 then A else -1
theorem w_told_loop (σ : ZT) (hS : zSim σ) (w : Int) (hw : zI w) : ∀ (m : Nat) (k a : Int), 1 ≤ k → 41 - k = m → 0 ≤ a → a ≤ k → zrun C_W_told (4, [(4, 0), (0, w), (0, a), (0, k)], [], σ) = some (0, (if w = 0 then σ 6 (σ 4 0 1) 1 else if w = 1 then σ 4 0 6 else if w = 2 then zct (fun n => σ 13 n 2) m k a else if w = 3 then zct (σ 23 0) 40 1 0 else if w = 4 then σ 4 0 3 else -1), σ)
  | 0, k, a, h1, hk, h2, h3 => by
    obtain ⟨hB, hT, hD, E, ⟨f1, f2, f3, f4, f5, f6, f7, f8, f9⟩, hR⟩ := hS
    rw [e_W_told_4]
    simp (disch := omega) only [w_changedCount σ hT, zwr_id, zT_lt, zF_lt, zT_le, zF_le, zT_eq, zF_eq, zT_neq, zF_neq, zT_nlt, zT_nle, and_true, true_and, and_false, false_and, and_self, or_true, true_or, or_false, false_or, or_self, not_true_eq_false, not_false_eq_true, ↓reduceIte, implies_true, true_imp_iff, false_imp_iff, zcall0, zcall1, zcall2, zcall3, zcall4, zsto_eq, zsto_ne, zsto_fn, zok13, zok6, zok15, znb_0, zrng_hit, zrng_ne, zrng_fn, zcpy_ne, zcpy_fn]
    split
    · rfl
    · split
      · rfl
      · split
        · rfl
        · split
          · rfl
          · split
            · rcases f6 with f6 | f6
              · simp (disch := omega) only [f6, zwr_id, zT_lt, zF_lt, zT_le, zF_le, zT_eq, zF_eq, zT_neq, zF_neq, zT_nlt, zT_nle, and_true, true_and, and_false, false_and, and_self, or_true, true_or, or_false, false_or, or_self, not_true_eq_false, not_false_eq_true, ↓reduceIte, implies_true, true_imp_iff, false_imp_iff, zcall0, zcall1, zcall2, zcall3, zcall4, zsto_eq, zsto_ne, zsto_fn, zok13, zok6, zok15, znb_0, zrng_hit, zrng_ne, zrng_fn, zcpy_ne, zcpy_fn]
              · simp (disch := omega) only [f6, zwr_id, zT_lt, zF_lt, zT_le, zF_le, zT_eq, zF_eq, zT_neq, zF_neq, zT_nlt, zT_nle, and_true, true_and, and_false, false_and, and_self, or_true, true_or, or_false, false_or, or_self, not_true_eq_false, not_false_eq_true, ↓reduceIte, implies_true, true_imp_iff, false_imp_iff, zcall0, zcall1, zcall2, zcall3, zcall4, zsto_eq, zsto_ne, zsto_fn, zok13, zok6, zok15, znb_0, zrng_hit, zrng_ne, zrng_fn, zcpy_ne, zcpy_fn]
            · rfl
  | m + 1, k, a, h1, hk, h2, h3 => by
    have hS' := hS
    obtain ⟨hB, hT, hD, E, hF, hR⟩ := hS'
    obtain ⟨a1, a2, a3, a4, a5, a6, a7, a8, a9⟩ := hT k h1 (by omega)
    have ih0 := w_told_loop σ hS w hw m (k + 1) a (by omega) (by omega) (by omega) (by omega)
    have ih1 := w_told_loop σ hS w hw m (k + 1) (a + 1) (by omega) (by omega) (by omega) (by omega)
    rw [e_W_told_4]
    rcases a1 with a1 | a1
    · have hz : zct (fun n => σ 13 n 2) (m + 1) k a = zct (fun n => σ 13 n 2) m (k + 1) a := congrArg (zct (fun n => σ 13 n 2) m (k + 1)) (if_pos a1)
      rw [hz, ← ih0]
      simp (disch := omega) only [e_W_told_28, Int.add_zero, zwr_id, zT_lt, zF_lt, zT_le, zF_le, zT_eq, zF_eq, zT_neq, zF_neq, zT_nlt, zT_nle, and_true, true_and, and_false, false_and, and_self, or_true, true_or, or_false, false_or, or_self, not_true_eq_false, not_false_eq_true, ↓reduceIte, implies_true, true_imp_iff, false_imp_iff, zcall0, zcall1, zcall2, zcall3, zcall4, zsto_eq, zsto_ne, zsto_fn, zok13, zok6, zok15, znb_0, zrng_hit, zrng_ne, zrng_fn, zcpy_ne, zcpy_fn]
    · have hz : zct (fun n => σ 13 n 2) (m + 1) k a = zct (fun n => σ 13 n 2) m (k + 1) (a + 1) := congrArg (zct (fun n => σ 13 n 2) m (k + 1)) (if_neg (show ¬ σ 13 k 2 = 0 by omega))
      rw [hz, ← ih1]
      simp (disch := omega) only [e_W_told_28, zwr_id, zT_lt, zF_lt, zT_le, zF_le, zT_eq, zF_eq, zT_neq, zF_neq, zT_nlt, zT_nle, and_true, true_and, and_false, false_and, and_self, or_true, true_or, or_false, false_or, or_self, not_true_eq_false, not_false_eq_true, ↓reduceIte, implies_true, true_imp_iff, false_imp_iff, zcall0, zcall1, zcall2, zcall3, zcall4, zsto_eq, zsto_ne, zsto_fn, zok13, zok6, zok15, znb_0, zrng_hit, zrng_ne, zrng_fn, zcpy_ne, zcpy_fn]
theorem m_told_loop (σ : ZT) (w : Int) (hw : zI w) (hA : σ 20 0 9 = 0 ∨ σ 20 0 9 = 1) (hc : ∀ k, 1 ≤ k → k ≤ 40 → σ 23 0 k = 0 ∨ σ 23 0 k = 1) (ht : ∀ k, 1 ≤ k → k ≤ 40 → σ 21 0 k = 0 ∨ σ 21 0 k = 1) : ∀ (m : Nat) (k a : Int), 1 ≤ k → 41 - k = m → 0 ≤ a → a ≤ k → zrun C_M_told (9, [(20, 0), (0, w), (0, a), (0, k)], [], σ) = some (0, (if w = 0 then σ 20 0 7 else if w = 1 then σ 20 0 10 else if w = 2 then zct (σ 21 0) m k a else if w = 3 then zct (σ 23 0) 40 1 0 else if w = 4 then σ 20 0 9 else -1), σ)
  | 0, k, a, h1, hk, h2, h3 => by
    rw [e_M_told_9]
    simp (disch := omega) only [m_changed σ hc, zwr_id, zT_lt, zF_lt, zT_le, zF_le, zT_eq, zF_eq, zT_neq, zF_neq, zT_nlt, zT_nle, and_true, true_and, and_false, false_and, and_self, or_true, true_or, or_false, false_or, or_self, not_true_eq_false, not_false_eq_true, ↓reduceIte, implies_true, true_imp_iff, false_imp_iff, zcall0, zcall1, zcall2, zcall3, zcall4, zsto_eq, zsto_ne, zsto_fn, zok13, zok6, zok15, znb_0, zrng_hit, zrng_ne, zrng_fn, zcpy_ne, zcpy_fn]
    split
    · rfl
    · split
      · rfl
      · split
        · rfl
        · split
          · rfl
          · split
            · rcases hA with f6 | f6
              · simp (disch := omega) only [f6, zwr_id, zT_lt, zF_lt, zT_le, zF_le, zT_eq, zF_eq, zT_neq, zF_neq, zT_nlt, zT_nle, and_true, true_and, and_false, false_and, and_self, or_true, true_or, or_false, false_or, or_self, not_true_eq_false, not_false_eq_true, ↓reduceIte, implies_true, true_imp_iff, false_imp_iff, zcall0, zcall1, zcall2, zcall3, zcall4, zsto_eq, zsto_ne, zsto_fn, zok13, zok6, zok15, znb_0, zrng_hit, zrng_ne, zrng_fn, zcpy_ne, zcpy_fn]
              · simp (disch := omega) only [f6, zwr_id, zT_lt, zF_lt, zT_le, zF_le, zT_eq, zF_eq, zT_neq, zF_neq, zT_nlt, zT_nle, and_true, true_and, and_false, false_and, and_self, or_true, true_or, or_false, false_or, or_self, not_true_eq_false, not_false_eq_true, ↓reduceIte, implies_true, true_imp_iff, false_imp_iff, zcall0, zcall1, zcall2, zcall3, zcall4, zsto_eq, zsto_ne, zsto_fn, zok13, zok6, zok15, znb_0, zrng_hit, zrng_ne, zrng_fn, zcpy_ne, zcpy_fn]
            · rfl
  | m + 1, k, a, h1, hk, h2, h3 => by
    have a1 := ht k h1 (by omega)
    have ih0 := m_told_loop σ w hw hA hc ht m (k + 1) a (by omega) (by omega) (by omega) (by omega)
    have ih1 := m_told_loop σ w hw hA hc ht m (k + 1) (a + 1) (by omega) (by omega) (by omega) (by omega)
    rw [e_M_told_9]
    rcases a1 with a1 | a1
    · have hz : zct (σ 21 0) (m + 1) k a = zct (σ 21 0) m (k + 1) a := congrArg (zct (σ 21 0) m (k + 1)) (if_pos a1)
      rw [hz, ← ih0]
      simp (disch := omega) only [e_M_told_31, zwr_id, zT_lt, zF_lt, zT_le, zF_le, zT_eq, zF_eq, zT_neq, zF_neq, zT_nlt, zT_nle, and_true, true_and, and_false, false_and, and_self, or_true, true_or, or_false, false_or, or_self, not_true_eq_false, not_false_eq_true, ↓reduceIte, implies_true, true_imp_iff, false_imp_iff, zcall0, zcall1, zcall2, zcall3, zcall4, zsto_eq, zsto_ne, zsto_fn, zok13, zok6, zok15, znb_0, zrng_hit, zrng_ne, zrng_fn, zcpy_ne, zcpy_fn]
    · have hz : zct (σ 21 0) (m + 1) k a = zct (σ 21 0) m (k + 1) (a + 1) := congrArg (zct (σ 21 0) m (k + 1)) (if_neg (by omega))
      rw [hz, ← ih1]
      simp (disch := omega) only [e_M_told_31, zwr_id, zT_lt, zF_lt, zT_le, zF_le, zT_eq, zF_eq, zT_neq, zF_neq, zT_nlt, zT_nle, and_true, true_and, and_false, false_and, and_self, or_true, true_or, or_false, false_or, or_self, not_true_eq_false, not_false_eq_true, ↓reduceIte, implies_true, true_imp_iff, false_imp_iff, zcall0, zcall1, zcall2, zcall3, zcall4, zsto_eq, zsto_ne, zsto_fn, zok13, zok6, zok15, znb_0, zrng_hit, zrng_ne, zrng_fn, zcpy_ne, zcpy_fn]
theorem zct_congr {f g : Int → Int} : ∀ (m : Nat) (k a : Int), (∀ j, k ≤ j → j < k + m → f j = g j) → zct f m k a = zct g m k a
  | 0, _, _, _ => rfl
  | m + 1, k, a, h => by
    unfold zct
    rw [h k (by omega) (by omega)]
    exact zct_congr m (k + 1) _ fun j h1 h2 => h j (by omega) (by omega)
theorem op_told {σ : ZT} (hS : zSim σ) {w : Int} (hw : zI w) : zOpQ σ (f_W_told [(4, 0), (0, w)]) (f_M_told [(20, 0), (0, w)]) := by
  have hS' := hS
  obtain ⟨hB, hT, hD, E, ⟨f1, f2, f3, f4, f5, f6, f7, f8, f9⟩, r1, r2, r3, r4, r5, r6⟩ := hS'
  refine ⟨(if w = 0 then σ 6 (σ 4 0 1) 1 else if w = 1 then σ 4 0 6 else if w = 2 then zct (fun n => σ 13 n 2) 40 1 0 else if w = 3 then zct (σ 23 0) 40 1 0 else if w = 4 then σ 4 0 3 else -1), σ, zsto σ 20 0 0 0, ?_, ?_, hS.ag ((zAg.refl σ).sto (by decide)), ⟨zsto_fn (by decide), ?_⟩, ?_⟩
  · rw [u_W_told, e_W_told_0, w_told_loop σ hS w hw 40 1 0 (by omega) (by omega) (by omega) (by omega)]
  · rw [u_M_told, e_M_told_0, m_told_loop _ w hw (by (simp (disch := omega) only [zwr_id, zT_lt, zF_lt, zT_le, zF_le, zT_eq, zF_eq, zT_neq, zF_neq, zT_nlt, zT_nle, and_true, true_and, and_false, false_and, and_self, or_true, true_or, or_false, false_or, or_self, not_true_eq_false, not_false_eq_true, ↓reduceIte, implies_true, true_imp_iff, false_imp_iff, zcall0, zcall1, zcall2, zcall3, zcall4, zsto_eq, zsto_ne, zsto_fn, zok13, zok6, zok15, znb_0, zrng_hit, zrng_ne, zrng_fn, zcpy_ne, zcpy_fn] <;> omega)) (fun k h1 h2 => by have := (hT k h1 h2).ch; (simp (disch := omega) only [zwr_id, zT_lt, zF_lt, zT_le, zF_le, zT_eq, zF_eq, zT_neq, zF_neq, zT_nlt, zT_nle, and_true, true_and, and_false, false_and, and_self, or_true, true_or, or_false, false_or, or_self, not_true_eq_false, not_false_eq_true, ↓reduceIte, implies_true, true_imp_iff, false_imp_iff, zcall0, zcall1, zcall2, zcall3, zcall4, zsto_eq, zsto_ne, zsto_fn, zok13, zok6, zok15, znb_0, zrng_hit, zrng_ne, zrng_fn, zcpy_ne, zcpy_fn] <;> omega)) (fun k h1 h2 => by have := hT k h1 h2; unfold zTh at this; (simp (disch := omega) only [zwr_id, zT_lt, zF_lt, zT_le, zF_le, zT_eq, zF_eq, zT_neq, zF_neq, zT_nlt, zT_nle, and_true, true_and, and_false, false_and, and_self, or_true, true_or, or_false, false_or, or_self, not_true_eq_false, not_false_eq_true, ↓reduceIte, implies_true, true_imp_iff, false_imp_iff, zcall0, zcall1, zcall2, zcall3, zcall4, zsto_eq, zsto_ne, zsto_fn, zok13, zok6, zok15, znb_0, zrng_hit, zrng_ne, zrng_fn, zcpy_ne, zcpy_fn] <;> omega)) 40 1 0 (by omega) (by omega) (by omega) (by omega)]
    simp (disch := omega) only [zwr_id, zT_lt, zF_lt, zT_le, zF_le, zT_eq, zF_eq, zT_neq, zF_neq, zT_nlt, zT_nle, and_true, true_and, and_false, false_and, and_self, or_true, true_or, or_false, false_or, or_self, not_true_eq_false, not_false_eq_true, ↓reduceIte, implies_true, true_imp_iff, false_imp_iff, zcall0, zcall1, zcall2, zcall3, zcall4, zsto_eq, zsto_ne, zsto_fn, zok13, zok6, zok15, znb_0, zrng_hit, zrng_ne, zrng_fn, zcpy_ne, zcpy_fn]
    rw [f5, r1, f7, zct_congr (f := fun n => σ 13 n 2) (g := σ 21 0) 40 1 0 fun j j1 j2 => (hT j j1 (by omega)).2.1.symm]
  · (simp (disch := omega) only [zwr_id, zT_lt, zF_lt, zT_le, zF_le, zT_eq, zF_eq, zT_neq, zF_neq, zT_nlt, zT_nle, and_true, true_and, and_false, false_and, and_self, or_true, true_or, or_false, false_or, or_self, not_true_eq_false, not_false_eq_true, ↓reduceIte, implies_true, true_imp_iff, false_imp_iff, zcall0, zcall1, zcall2, zcall3, zcall4, zsto_eq, zsto_ne, zsto_fn, zok13, zok6, zok15, znb_0, zrng_hit, zrng_ne, zrng_fn, zcpy_ne, zcpy_fn] <;> omega)
  · have h1 := zct_bd (fun n => σ 13 n 2) 40 1 0
    have h2 := zct_bd (σ 23 0) 40 1 0
    split
    · omega
    · split
      · omega
      · split
        · omega
        · split
          · omega
          · split <;> omega
