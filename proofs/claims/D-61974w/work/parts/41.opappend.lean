/-! append: what is alike stays alike -/
theorem zPl.mono {σ : ZT} {E E' r k n : Int} (h : zPl σ E r k n) (hE : E ≤ E') : zPl σ E' r k n := by
  unfold zPl at h ⊢
  omega
theorem zRv.keep {σ μ : ZT} {E E' k : Int} (h : zRv σ E k) (hE : E ≤ E') (h8 : μ 8 0 k = σ 8 0 k) (h15 : μ 15 (σ 8 0 k) = σ 15 (σ 8 0 k)) (h16 : μ 16 (σ 8 0 k) = σ 16 (σ 8 0 k)) (h17 : μ 17 (σ 8 0 k) = σ 17 (σ 8 0 k)) (h28 : μ 28 0 k = σ 28 0 k) (h29 : μ 29 0 k = σ 29 0 k) (h3 : ∀ n, 1 ≤ n → n ≤ 40 → μ 30 0 (41 * k + n) = σ 30 0 (41 * k + n) ∧ μ 31 0 (41 * k + n) = σ 31 0 (41 * k + n) ∧ μ 32 0 (41 * k + n) = σ 32 0 (41 * k + n)) : zRv μ E' k := by
  unfold zRv at h ⊢
  rw [h8, h15, h28, h29]
  obtain ⟨a1, a2, a3, a4, a5, a6, a7⟩ := h
  refine ⟨a1, a2, a3, a4, a5, a6, fun n n1 n2 => ?_⟩
  have := (a7 n n1 n2).mono hE
  obtain ⟨g1, g2, g3⟩ := h3 n n1 n2
  unfold zPl at this ⊢
  rw [h16, h17, g1, g2, g3]
  exact this
theorem zPl.bd {σ : ZT} {E r k n : Int} (h : zPl σ E r k n) (hE : E ≤ 12000) : 0 ≤ σ 16 r n ∧ σ 16 r n ≤ 99999 := by
  have := zbh_bd (σ 16 r n) n (σ 17 r n)
  unfold zPl at h
  omega
theorem op_append {σ : ZT} (hS : zSim σ) (hg : 0 < σ 39 0 0) : zOp σ (f_Z_append [(4, 0), (18, 0)]) (f_M_append [(20, 0)]) := by
  have hS' := hS
  obtain ⟨hB, hT, hD, E, ⟨f1, f2, f3, f4, f5, f6, f7, f8, f9⟩, r1, r2, r3, r4, r5, r6⟩ := hS'
  generalize hs : σ 4 0 2 = s at f1
  generalize hf : σ 4 0 1 = f at f1 f2 f3 f5 f8 f9 r4
  generalize had' : σ 6 f 1 = had at f2 f3 f5 f8 r4
  generalize hk : σ 4 0 6 = k at r1 r2 r3 r4 r6
  have hzc := zct_bd (σ 23 0) 40 1 0
  have hch : ∀ k, 1 ≤ k → k ≤ 40 → σ 23 0 k = 0 ∨ σ 23 0 k = 1 := fun k k1 k2 => (hT k k1 k2).ch
  by_cases hbad : had = 0 ∨ σ 4 0 3 = 1
  · have hw : f_W_append [(4, 0)] σ = some (4, 0, zth σ) := by
      rw [u_W_append, e_W_append_0]
      by_cases h0 : had = 0
      · simp (disch := omega) only [hf, had', h0, e_W_append_17, zwr_id, zT_lt, zF_lt, zT_le, zF_le, zT_eq, zF_eq, zT_neq, zF_neq, zT_nlt, zT_nle, and_true, true_and, and_false, false_and, and_self, or_true, true_or, or_false, false_or, or_self, not_true_eq_false, not_false_eq_true, ↓reduceIte, implies_true, true_imp_iff, false_imp_iff, zcall0, zcall1, zcall2, zcall3, zcall4, zsto_eq, zsto_ne, zsto_fn, zok13, zok6, zok15, znb_0, zrng_hit, zrng_ne, zrng_fn, zcpy_ne, zcpy_fn]
        rfl
      · simp (disch := omega) only [hf, had', e_W_append_17, zwr_id, zT_lt, zF_lt, zT_le, zF_le, zT_eq, zF_eq, zT_neq, zF_neq, zT_nlt, zT_nle, and_true, true_and, and_false, false_and, and_self, or_true, true_or, or_false, false_or, or_self, not_true_eq_false, not_false_eq_true, ↓reduceIte, implies_true, true_imp_iff, false_imp_iff, zcall0, zcall1, zcall2, zcall3, zcall4, zsto_eq, zsto_ne, zsto_fn, zok13, zok6, zok15, znb_0, zrng_hit, zrng_ne, zrng_fn, zcpy_ne, zcpy_fn]
        rfl
    have z : ∀ x, zth σ 20 0 x = σ 20 0 x := fun x => by unfold zth; simp (disch := omega) only [zwr_id, zT_lt, zF_lt, zT_le, zF_le, zT_eq, zF_eq, zT_neq, zF_neq, zT_nlt, zT_nle, and_true, true_and, and_false, false_and, and_self, or_true, true_or, or_false, false_or, or_self, not_true_eq_false, not_false_eq_true, ↓reduceIte, implies_true, true_imp_iff, false_imp_iff, zcall0, zcall1, zcall2, zcall3, zcall4, zsto_eq, zsto_ne, zsto_fn, zok13, zok6, zok15, znb_0, zrng_hit, zrng_ne, zrng_fn, zcpy_ne, zcpy_fn]
    exact zOp.refuse hS (c := 1) (by omega) (by rw [u_Z_append, e_Z_append_0_x3 _ _ _ _ _ _ hw]) (m_append0 _ (by rw [z]; omega) (by rw [z]; omega) (by rw [z, z]; omega))
  have ha0 : σ 4 0 3 = 0 := by omega
  have hh : 0 < had ∧ had ≤ 12000 := by omega
  have hE := f8 ha0
  have hk1 := r4 (by omega)
  by_cases h0 : zct (σ 23 0) 40 1 0 = 0
  · have hw : f_W_append [(4, 0)] σ = some (0, 0, σ) := by
      rw [u_W_append, e_W_append_0]
      simp (disch := omega) only [hf, had', w_changedCount σ hT, h0, zwr_id, zT_lt, zF_lt, zT_le, zF_le, zT_eq, zF_eq, zT_neq, zF_neq, zT_nlt, zT_nle, and_true, true_and, and_false, false_and, and_self, or_true, true_or, or_false, false_or, or_self, not_true_eq_false, not_false_eq_true, ↓reduceIte, implies_true, true_imp_iff, false_imp_iff, zcall0, zcall1, zcall2, zcall3, zcall4, zsto_eq, zsto_ne, zsto_fn, zok13, zok6, zok15, znb_0, zrng_hit, zrng_ne, zrng_fn, zcpy_ne, zcpy_fn]
    have z : ∀ x, zsto σ 18 0 0 0 20 0 x = σ 20 0 x := fun x => by simp (disch := omega) only [zwr_id, zT_lt, zF_lt, zT_le, zF_le, zT_eq, zF_eq, zT_neq, zF_neq, zT_nlt, zT_nle, and_true, true_and, and_false, false_and, and_self, or_true, true_or, or_false, false_or, or_self, not_true_eq_false, not_false_eq_true, ↓reduceIte, implies_true, true_imp_iff, false_imp_iff, zcall0, zcall1, zcall2, zcall3, zcall4, zsto_eq, zsto_ne, zsto_fn, zok13, zok6, zok15, znb_0, zrng_hit, zrng_ne, zrng_fn, zcpy_ne, zcpy_fn]
    have z23 : zsto σ 18 0 0 0 23 = σ 23 := by simp (disch := omega) only [zwr_id, zT_lt, zF_lt, zT_le, zF_le, zT_eq, zF_eq, zT_neq, zF_neq, zT_nlt, zT_nle, and_true, true_and, and_false, false_and, and_self, or_true, true_or, or_false, false_or, or_self, not_true_eq_false, not_false_eq_true, ↓reduceIte, implies_true, true_imp_iff, false_imp_iff, zcall0, zcall1, zcall2, zcall3, zcall4, zsto_eq, zsto_ne, zsto_fn, zok13, zok6, zok15, znb_0, zrng_hit, zrng_ne, zrng_fn, zcpy_ne, zcpy_fn]
    have hm := m_append_no (zsto σ 18 0 0 0) (by rw [z]; omega) (by rw [z]; omega) (by rw [z23]; exact hch) (by rw [z23]; exact h0)
    refine zOp.give (τ := σ) (v := 0) ?_ hm (hS.ag (((zAg.refl σ).sto (by decide)).sto (by decide))) (by simp (disch := omega) only [zwr_id, zT_lt, zF_lt, zT_le, zF_le, zT_eq, zF_eq, zT_neq, zF_neq, zT_nlt, zT_nle, and_true, true_and, and_false, false_and, and_self, or_true, true_or, or_false, false_or, or_self, not_true_eq_false, not_false_eq_true, ↓reduceIte, implies_true, true_imp_iff, false_imp_iff, zcall0, zcall1, zcall2, zcall3, zcall4, zsto_eq, zsto_ne, zsto_fn, zok13, zok6, zok15, znb_0, zrng_hit, zrng_ne, zrng_fn, zcpy_ne, zcpy_fn]) (by simp (disch := omega) only [zwr_id, zT_lt, zF_lt, zT_le, zF_le, zT_eq, zF_eq, zT_neq, zF_neq, zT_nlt, zT_nle, and_true, true_and, and_false, false_and, and_self, or_true, true_or, or_false, false_or, or_self, not_true_eq_false, not_false_eq_true, ↓reduceIte, implies_true, true_imp_iff, false_imp_iff, zcall0, zcall1, zcall2, zcall3, zcall4, zsto_eq, zsto_ne, zsto_fn, zok13, zok6, zok15, znb_0, zrng_hit, zrng_ne, zrng_fn, zcpy_ne, zcpy_fn]) (by simp (disch := omega) only [zwr_id, zT_lt, zF_lt, zT_le, zF_le, zT_eq, zF_eq, zT_neq, zF_neq, zT_nlt, zT_nle, and_true, true_and, and_false, false_and, and_self, or_true, true_or, or_false, false_or, or_self, not_true_eq_false, not_false_eq_true, ↓reduceIte, implies_true, true_imp_iff, false_imp_iff, zcall0, zcall1, zcall2, zcall3, zcall4, zsto_eq, zsto_ne, zsto_fn, zok13, zok6, zok15, znb_0, zrng_hit, zrng_ne, zrng_fn, zcpy_ne, zcpy_fn]) (by simp (disch := omega) only [zwr_id, zT_lt, zF_lt, zT_le, zF_le, zT_eq, zF_eq, zT_neq, zF_neq, zT_nlt, zT_nle, and_true, true_and, and_false, false_and, and_self, or_true, true_or, or_false, false_or, or_self, not_true_eq_false, not_false_eq_true, ↓reduceIte, implies_true, true_imp_iff, false_imp_iff, zcall0, zcall1, zcall2, zcall3, zcall4, zsto_eq, zsto_ne, zsto_fn, zok13, zok6, zok15, znb_0, zrng_hit, zrng_ne, zrng_fn, zcpy_ne, zcpy_fn]) (by omega)
    rw [u_Z_append, e_Z_append_0_ok _ _ _ _ _ _ hw]
    simp (disch := omega) only [zwr_id, zT_lt, zF_lt, zT_le, zF_le, zT_eq, zF_eq, zT_neq, zF_neq, zT_nlt, zT_nle, and_true, true_and, and_false, false_and, and_self, or_true, true_or, or_false, false_or, or_self, not_true_eq_false, not_false_eq_true, ↓reduceIte, implies_true, true_imp_iff, false_imp_iff, zcall0, zcall1, zcall2, zcall3, zcall4, zsto_eq, zsto_ne, zsto_fn, zok13, zok6, zok15, znb_0, zrng_hit, zrng_ne, zrng_fn, zcpy_ne, zcpy_fn]
  by_cases h60 : k = 60
  · have hw : f_W_append [(4, 0)] σ = some (3, 0, zth σ) := by
      rw [u_W_append, e_W_append_0]
      simp (disch := omega) only [hf, had', w_changedCount σ hT, hk, zwr_id, zT_lt, zF_lt, zT_le, zF_le, zT_eq, zF_eq, zT_neq, zF_neq, zT_nlt, zT_nle, and_true, true_and, and_false, false_and, and_self, or_true, true_or, or_false, false_or, or_self, not_true_eq_false, not_false_eq_true, ↓reduceIte, implies_true, true_imp_iff, false_imp_iff, zcall0, zcall1, zcall2, zcall3, zcall4, zsto_eq, zsto_ne, zsto_fn, zok13, zok6, zok15, znb_0, zrng_hit, zrng_ne, zrng_fn, zcpy_ne, zcpy_fn]
      rfl
    have z : ∀ x, zth σ 20 0 x = σ 20 0 x := fun x => by unfold zth; simp (disch := omega) only [zwr_id, zT_lt, zF_lt, zT_le, zF_le, zT_eq, zF_eq, zT_neq, zF_neq, zT_nlt, zT_nle, and_true, true_and, and_false, false_and, and_self, or_true, true_or, or_false, false_or, or_self, not_true_eq_false, not_false_eq_true, ↓reduceIte, implies_true, true_imp_iff, false_imp_iff, zcall0, zcall1, zcall2, zcall3, zcall4, zsto_eq, zsto_ne, zsto_fn, zok13, zok6, zok15, znb_0, zrng_hit, zrng_ne, zrng_fn, zcpy_ne, zcpy_fn]
    have z23 : zth σ 23 = σ 23 := by unfold zth; simp (disch := omega) only [zwr_id, zT_lt, zF_lt, zT_le, zF_le, zT_eq, zF_eq, zT_neq, zF_neq, zT_nlt, zT_nle, and_true, true_and, and_false, false_and, and_self, or_true, true_or, or_false, false_or, or_self, not_true_eq_false, not_false_eq_true, ↓reduceIte, implies_true, true_imp_iff, false_imp_iff, zcall0, zcall1, zcall2, zcall3, zcall4, zsto_eq, zsto_ne, zsto_fn, zok13, zok6, zok15, znb_0, zrng_hit, zrng_ne, zrng_fn, zcpy_ne, zcpy_fn]
    have hm := m_append60 (zth σ) (by rw [z]; omega) (by rw [z]; omega) (by rw [z23]; exact hch) (by rw [z23]; exact h0) (by rw [z]; omega)
    refine ⟨2, 0, _, _, by rw [u_Z_append, e_Z_append_0_x2 _ _ _ _ _ _ hw], hm, hS.ag ((((zth_ag σ).sto (by decide)).sto (by decide)).sto (by decide)), ⟨?_, ?_⟩, ?_, ?_, by omega, by omega, by omega, by omega⟩
    · unfold zth; simp (disch := omega) only [zwr_id, zT_lt, zF_lt, zT_le, zF_le, zT_eq, zF_eq, zT_neq, zF_neq, zT_nlt, zT_nle, and_true, true_and, and_false, false_and, and_self, or_true, true_or, or_false, false_or, or_self, not_true_eq_false, not_false_eq_true, ↓reduceIte, implies_true, true_imp_iff, false_imp_iff, zcall0, zcall1, zcall2, zcall3, zcall4, zsto_eq, zsto_ne, zsto_fn, zok13, zok6, zok15, znb_0, zrng_hit, zrng_ne, zrng_fn, zcpy_ne, zcpy_fn]
    · unfold zth; simp (disch := omega) only [zwr_id, zT_lt, zF_lt, zT_le, zF_le, zT_eq, zF_eq, zT_neq, zF_neq, zT_nlt, zT_nle, and_true, true_and, and_false, false_and, and_self, or_true, true_or, or_false, false_or, or_self, not_true_eq_false, not_false_eq_true, ↓reduceIte, implies_true, true_imp_iff, false_imp_iff, zcall0, zcall1, zcall2, zcall3, zcall4, zsto_eq, zsto_ne, zsto_fn, zok13, zok6, zok15, znb_0, zrng_hit, zrng_ne, zrng_fn, zcpy_ne, zcpy_fn]
      omega
    · simp (disch := omega) only [zwr_id, zT_lt, zF_lt, zT_le, zF_le, zT_eq, zF_eq, zT_neq, zF_neq, zT_nlt, zT_nle, and_true, true_and, and_false, false_and, and_self, or_true, true_or, or_false, false_or, or_self, not_true_eq_false, not_false_eq_true, ↓reduceIte, implies_true, true_imp_iff, false_imp_iff, zcall0, zcall1, zcall2, zcall3, zcall4, zsto_eq, zsto_ne, zsto_fn, zok13, zok6, zok15, znb_0, zrng_hit, zrng_ne, zrng_fn, zcpy_ne, zcpy_fn]
    · omega
  have hk2 : 1 ≤ k ∧ k < 60 := by omega
  have pk := r5 k (by omega) (by omega)
  have pq := r5 (k - 1) (by omega) (by omega)
  have rq := r6 (k - 1) (by omega) (by omega)
  generalize hr : σ 38 0 k = r at pk
  generalize hq : σ 8 0 (k - 1) = q at pq
  have rq' := rq
  unfold zRv at rq'
  rw [hq] at rq'
  obtain ⟨v1, v2, v3, v4, v5, v6, v7⟩ := rq'
  have hwr := w_append_ok σ hf hs (by omega) (by omega) hk hk2 hr hq (by omega) (by omega) (by omega) had' hh ha0 hT h0 (by omega) (fun n n1 n2 => (v7 n n1 n2).bd (by omega))
  obtain ⟨c1, c2, c3, c4, c5, c6, c7⟩ := zpC_fn σ (f := f) (s := s) (r := r) (q := q) (had := had) (by omega)
  obtain ⟨e1, e2, e3, e4, e5, e6, e7, e8, e9⟩ := zwD_fn (zpC σ f s r q had) (s := s) (r := r) (c := 1) (b := σ 15 q 3) c2
  have hδ : zwD (zpC σ f s r q had) s r 1 (σ 15 q 3) = zpD σ f s r q had := rfl
  have hlock : ∀ υ : ZT, υ 21 = σ 21 → υ 22 = σ 22 → υ 23 = σ 23 → υ 25 = σ 25 → υ 26 = σ 26 → (∀ j, 0 ≤ j → j < had → υ 27 0 j = σ 7 f j) → zbef υ 0 = σ 15 q 3 → _ := fun υ h21 h22 h23 h25 h26 h27 hb => append_lock (υ := υ) hT (f := f) (s := s) (r := r) (q := q) hh h21 h22 h23 h25 h26 h27 hb
  rw [hδ] at e1 e2 e3 e4 e5 e6 e7
  generalize hτ : zpC σ f s r q had = τ at *
  generalize hδ' : zpD σ f s r q had = δ at *
  have δσ : ∀ k : Nat, k ≠ 6 → k ≠ 7 → k ≠ 15 → k ≠ 16 → k ≠ 17 → δ k = σ k := fun k k1 k2 k3 k4 k5 => (e1 k k1 k2 k3).trans (c1 k k1 k2 k4 k5)
  have δB : zSimB δ := e3 (c5 hB)
  have δ6f : δ 6 f = σ 6 f := ((e2 f (by omega)).1).trans (c3 f (by omega)).1
  have δ7f : δ 7 f = σ 7 f := ((e2 f (by omega)).2).trans (c3 f (by omega)).2
  have δ16 : δ 16 = τ 16 := e1 16 (by decide) (by decide) (by decide)
  have δ17 : δ 17 = τ 17 := e1 17 (by decide) (by decide) (by decide)
  have δold : ∀ j, j ≠ r → δ 15 j = σ 15 j ∧ δ 16 j = σ 16 j ∧ δ 17 j = σ 17 j := fun j hj => ⟨(e4 j hj).trans (by rw [c1 15 (by decide) (by decide) (by decide) (by decide)]), by rw [δ16]; exact (c4 j hj).1, by rw [δ17]; exact (c4 j hj).2⟩
  have hne : ∀ i, 0 ≤ i → i < k → σ 8 0 i ≠ r := fun i i0 i1 => by
    have := r5 i i0 (by omega)
    omega
  -- what the reference counts is what the class wrote
  have hmid : ∀ υ : ZT, υ 21 = σ 21 → υ 22 = σ 22 → υ 23 = σ 23 → υ 25 = σ 25 → υ 26 = σ 26 → υ 27 = σ 27 → υ 29 = σ 29 → υ 20 0 10 = k → _ := fun υ h21 h22 h23 h25 h26 h27 h29 h10 => hlock υ h21 h22 h23 h25 h26 (fun j j0 j1 => by rw [h27]; exact f9 j j0 (by omega)) (by
    unfold zbef
    rw [if_pos rfl, h29, h10]
    exact v4)
  have hm : ∀ υ : ZT, υ 21 = σ 21 → υ 22 = σ 22 → υ 23 = σ 23 → υ 25 = σ 25 → υ 29 = σ 29 → υ 20 0 7 = had → υ 20 0 9 = 0 → υ 20 0 10 = k → _ := fun υ h21 h22 h23 h25 h29 h7 h9 h10 => m_append1 υ (hT.bs.fn h21 h22 h23 h25) hh h7 h9 (by rw [h23]; exact h0) (by omega) (by rw [h29, h10, v4]; omega)
  have hcnt : ∀ υ : ZT, (∀ k : Nat, k ≠ 20 → k ≠ 33 → k ≠ 34 → zcnt υ 0 0 had k = υ k) ∧ (∀ x, x ≠ 0 → x ≠ 16 → x ≠ 17 → x ≠ 26 → zcnt υ 0 0 had 20 0 x = υ 20 0 x) ∧ zcnt υ 0 0 had 20 0 0 = 0 ∧ (zSimB υ → zSimB (zcnt υ 0 0 had)) := fun υ => by
    obtain ⟨g1, g2, g3, g4, g5, g6⟩ := zpt_fn (zsto (zsto υ 20 0 0 0) 20 0 17 1) 0 0 had
    unfold zcnt
    refine ⟨fun k k1 k2 k3 => ?_, fun x x0 x1 x2 x3 => ?_, ?_, fun h => g3 (zSimB.sto (zSimB.sto h (by omega)) (by omega))⟩
    · by_cases k27 : k = 27
      · subst k27
        rw [g6 (by rw [zsto_eq]; decide)]
        simp (disch := omega) only [zwr_id, zT_lt, zF_lt, zT_le, zF_le, zT_eq, zF_eq, zT_neq, zF_neq, zT_nlt, zT_nle, and_true, true_and, and_false, false_and, and_self, or_true, true_or, or_false, false_or, or_self, not_true_eq_false, not_false_eq_true, ↓reduceIte, implies_true, true_imp_iff, false_imp_iff, zcall0, zcall1, zcall2, zcall3, zcall4, zsto_eq, zsto_ne, zsto_fn, zok13, zok6, zok15, znb_0, zrng_hit, zrng_ne, zrng_fn, zcpy_ne, zcpy_fn]
      · rw [g1 k k1 k27 k2 k3]
        simp (disch := omega) only [zwr_id, zT_lt, zF_lt, zT_le, zF_le, zT_eq, zF_eq, zT_neq, zF_neq, zT_nlt, zT_nle, and_true, true_and, and_false, false_and, and_self, or_true, true_or, or_false, false_or, or_self, not_true_eq_false, not_false_eq_true, ↓reduceIte, implies_true, true_imp_iff, false_imp_iff, zcall0, zcall1, zcall2, zcall3, zcall4, zsto_eq, zsto_ne, zsto_fn, zok13, zok6, zok15, znb_0, zrng_hit, zrng_ne, zrng_fn, zcpy_ne, zcpy_fn]
    · rw [g2 x x1 x3]
      simp (disch := omega) only [zwr_id, zT_lt, zF_lt, zT_le, zF_le, zT_eq, zF_eq, zT_neq, zF_neq, zT_nlt, zT_nle, and_true, true_and, and_false, false_and, and_self, or_true, true_or, or_false, false_or, or_self, not_true_eq_false, not_false_eq_true, ↓reduceIte, implies_true, true_imp_iff, false_imp_iff, zcall0, zcall1, zcall2, zcall3, zcall4, zsto_eq, zsto_ne, zsto_fn, zok13, zok6, zok15, znb_0, zrng_hit, zrng_ne, zrng_fn, zcpy_ne, zcpy_fn]
    · rw [g2 0 (by decide) (by decide)]
      simp (disch := omega) only [zwr_id, zT_lt, zF_lt, zT_le, zF_le, zT_eq, zF_eq, zT_neq, zF_neq, zT_nlt, zT_nle, and_true, true_and, and_false, false_and, and_self, or_true, true_or, or_false, false_or, or_self, not_true_eq_false, not_false_eq_true, ↓reduceIte, implies_true, true_imp_iff, false_imp_iff, zcall0, zcall1, zcall2, zcall3, zcall4, zsto_eq, zsto_ne, zsto_fn, zok13, zok6, zok15, znb_0, zrng_hit, zrng_ne, zrng_fn, zcpy_ne, zcpy_fn]
  have hcl : ∀ υ : ZT, υ 21 = σ 21 → υ 22 = σ 22 → υ 23 = σ 23 → υ 25 = σ 25 → υ 26 = σ 26 → υ 27 = σ 27 → υ 29 = σ 29 → υ 20 0 10 = k → zLk δ (zcnt υ 0 0 had) s := fun υ h21 h22 h23 h25 h26 h27 h29 h10 => (hmid (zsto (zsto υ 20 0 0 0) 20 0 17 1) (by simp (disch := omega) only [zwr_id, zT_lt, zF_lt, zT_le, zF_le, zT_eq, zF_eq, zT_neq, zF_neq, zT_nlt, zT_nle, and_true, true_and, and_false, false_and, and_self, or_true, true_or, or_false, false_or, or_self, not_true_eq_false, not_false_eq_true, ↓reduceIte, implies_true, true_imp_iff, false_imp_iff, zcall0, zcall1, zcall2, zcall3, zcall4, zsto_eq, zsto_ne, zsto_fn, zok13, zok6, zok15, znb_0, zrng_hit, zrng_ne, zrng_fn, zcpy_ne, zcpy_fn]; exact h21) (by simp (disch := omega) only [zwr_id, zT_lt, zF_lt, zT_le, zF_le, zT_eq, zF_eq, zT_neq, zF_neq, zT_nlt, zT_nle, and_true, true_and, and_false, false_and, and_self, or_true, true_or, or_false, false_or, or_self, not_true_eq_false, not_false_eq_true, ↓reduceIte, implies_true, true_imp_iff, false_imp_iff, zcall0, zcall1, zcall2, zcall3, zcall4, zsto_eq, zsto_ne, zsto_fn, zok13, zok6, zok15, znb_0, zrng_hit, zrng_ne, zrng_fn, zcpy_ne, zcpy_fn]; exact h22) (by simp (disch := omega) only [zwr_id, zT_lt, zF_lt, zT_le, zF_le, zT_eq, zF_eq, zT_neq, zF_neq, zT_nlt, zT_nle, and_true, true_and, and_false, false_and, and_self, or_true, true_or, or_false, false_or, or_self, not_true_eq_false, not_false_eq_true, ↓reduceIte, implies_true, true_imp_iff, false_imp_iff, zcall0, zcall1, zcall2, zcall3, zcall4, zsto_eq, zsto_ne, zsto_fn, zok13, zok6, zok15, znb_0, zrng_hit, zrng_ne, zrng_fn, zcpy_ne, zcpy_fn]; exact h23) (by simp (disch := omega) only [zwr_id, zT_lt, zF_lt, zT_le, zF_le, zT_eq, zF_eq, zT_neq, zF_neq, zT_nlt, zT_nle, and_true, true_and, and_false, false_and, and_self, or_true, true_or, or_false, false_or, or_self, not_true_eq_false, not_false_eq_true, ↓reduceIte, implies_true, true_imp_iff, false_imp_iff, zcall0, zcall1, zcall2, zcall3, zcall4, zsto_eq, zsto_ne, zsto_fn, zok13, zok6, zok15, znb_0, zrng_hit, zrng_ne, zrng_fn, zcpy_ne, zcpy_fn]; exact h25) (by simp (disch := omega) only [zwr_id, zT_lt, zF_lt, zT_le, zF_le, zT_eq, zF_eq, zT_neq, zF_neq, zT_nlt, zT_nle, and_true, true_and, and_false, false_and, and_self, or_true, true_or, or_false, false_or, or_self, not_true_eq_false, not_false_eq_true, ↓reduceIte, implies_true, true_imp_iff, false_imp_iff, zcall0, zcall1, zcall2, zcall3, zcall4, zsto_eq, zsto_ne, zsto_fn, zok13, zok6, zok15, znb_0, zrng_hit, zrng_ne, zrng_fn, zcpy_ne, zcpy_fn]; exact h26) (by simp (disch := omega) only [zwr_id, zT_lt, zF_lt, zT_le, zF_le, zT_eq, zF_eq, zT_neq, zF_neq, zT_nlt, zT_nle, and_true, true_and, and_false, false_and, and_self, or_true, true_or, or_false, false_or, or_self, not_true_eq_false, not_false_eq_true, ↓reduceIte, implies_true, true_imp_iff, false_imp_iff, zcall0, zcall1, zcall2, zcall3, zcall4, zsto_eq, zsto_ne, zsto_fn, zok13, zok6, zok15, znb_0, zrng_hit, zrng_ne, zrng_fn, zcpy_ne, zcpy_fn]; exact h27) (by simp (disch := omega) only [zwr_id, zT_lt, zF_lt, zT_le, zF_le, zT_eq, zF_eq, zT_neq, zF_neq, zT_nlt, zT_nle, and_true, true_and, and_false, false_and, and_self, or_true, true_or, or_false, false_or, or_self, not_true_eq_false, not_false_eq_true, ↓reduceIte, implies_true, true_imp_iff, false_imp_iff, zcall0, zcall1, zcall2, zcall3, zcall4, zsto_eq, zsto_ne, zsto_fn, zok13, zok6, zok15, znb_0, zrng_hit, zrng_ne, zrng_fn, zcpy_ne, zcpy_fn]; exact h29) (by simp (disch := omega) only [zwr_id, zT_lt, zF_lt, zT_le, zF_le, zT_eq, zF_eq, zT_neq, zF_neq, zT_nlt, zT_nle, and_true, true_and, and_false, false_and, and_self, or_true, true_or, or_false, false_or, or_self, not_true_eq_false, not_false_eq_true, ↓reduceIte, implies_true, true_imp_iff, false_imp_iff, zcall0, zcall1, zcall2, zcall3, zcall4, zsto_eq, zsto_ne, zsto_fn, zok13, zok6, zok15, znb_0, zrng_hit, zrng_ne, zrng_fn, zcpy_ne, zcpy_fn]; exact h10)).1
  by_cases hover : δ 6 s 1 = 12001
  · have hw := hwr.2 hover hg
    have z : ∀ k : Nat, k ≠ 39 → zth δ k = δ k := fun k hk => by unfold zth; simp (disch := omega) only [zwr_id, zT_lt, zF_lt, zT_le, zF_le, zT_eq, zF_eq, zT_neq, zF_neq, zT_nlt, zT_nle, and_true, true_and, and_false, false_and, and_self, or_true, true_or, or_false, false_or, or_self, not_true_eq_false, not_false_eq_true, ↓reduceIte, implies_true, true_imp_iff, false_imp_iff, zcall0, zcall1, zcall2, zcall3, zcall4, zsto_eq, zsto_ne, zsto_fn, zok13, zok6, zok15, znb_0, zrng_hit, zrng_ne, zrng_fn, zcpy_ne, zcpy_fn]
    have z1 : ∀ k : Nat, k = 4 ∨ k = 8 ∨ k = 10 ∨ k = 13 ∨ k = 14 ∨ k = 19 ∨ (20 ≤ k ∧ k < 39) → zth δ k = σ k := fun k hk => (z k (by omega)).trans (δσ k (by omega) (by omega) (by omega) (by omega) (by omega))
    have l := hcl (zth δ) (z1 21 (by omega)) (z1 22 (by omega)) (z1 23 (by omega)) (z1 25 (by omega)) (z1 26 (by omega)) (z1 27 (by omega)) (z1 29 (by omega)) (by rw [z1 20 (by omega)]; exact r1)
    have hpos : 12000 < zcnt (zth δ) 0 0 had 20 0 16 := by
      rcases l with ⟨q1, q2, _⟩ | ⟨q1, _⟩ <;> omega
    have hmm := (hm (zth δ) (z1 21 (by omega)) (z1 22 (by omega)) (z1 23 (by omega)) (z1 25 (by omega)) (z1 29 (by omega)) (by rw [z1 20 (by omega)]; exact f5) (by rw [z1 20 (by omega)]; omega) (by rw [z1 20 (by omega)]; exact r1)).1 hpos
    obtain ⟨m1, m2, m3, m4⟩ := hcnt (zth δ)
    generalize hμ : zsto (zcnt (zth δ) 0 0 had) 20 0 0 2 = μ at hmm
    have μz : ∀ k : Nat, k ≠ 20 → k ≠ 33 → k ≠ 34 → μ k = zth δ k := fun k k1 k2 k3 => by rw [← hμ, zsto_fn k1]; exact m1 k k1 k2 k3
    have μσ : ∀ k : Nat, k = 4 ∨ k = 8 ∨ k = 10 ∨ k = 13 ∨ k = 14 ∨ k = 19 ∨ (21 ≤ k ∧ k < 33) ∨ (34 < k ∧ k < 39) → μ k = σ k := fun k hk => (μz k (by omega) (by omega) (by omega)).trans (z1 k (by omega))
    have μδ : ∀ k : Nat, k = 6 ∨ k = 7 ∨ k = 15 ∨ k = 16 ∨ k = 17 → μ k = δ k := fun k hk => (μz k (by omega) (by omega) (by omega)).trans (z k (by omega))
    have μ20 : ∀ x, x ≠ 0 → x ≠ 16 → x ≠ 17 → x ≠ 26 → μ 20 0 x = σ 20 0 x := fun x x0 x1 x2 x3 => by
      rw [← hμ, zsto_ne (by omega), m2 x x0 x1 x2 x3, z1 20 (by omega)]
    refine ⟨2, 0, _, _, by rw [u_Z_append, e_Z_append_0_x2 _ _ _ _ _ _ hw], hmm, ⟨?_, ?_, ?_, E, ?_, ?_⟩, ⟨μσ 19 (by omega), ?_⟩, by rw [← hμ, zsto_eq], by omega, by omega, by omega, by omega, by omega⟩
    · rw [← hμ]
      refine zSimB.sto (m4 ?_) (by omega)
      unfold zth
      exact zSimB.sto δB (by omega)
    · exact hT.fn (fun k hk => by
        simp only [List.mem_cons, List.not_mem_nil, or_false] at hk
        exact μσ k (by omega))
    · exact hD.fn (fun k hk => by
        simp only [List.mem_cons, List.not_mem_nil, or_false] at hk
        exact μσ k (by omega)) (by rw [μσ 4 (by omega)]) (μ20 28 (by decide) (by decide) (by decide) (by decide)) (μ20 29 (by decide) (by decide) (by decide) (by decide))
    · unfold zSimF
      rw [μσ 4 (by omega), μσ 27 (by omega), μδ 6 (by omega), μδ 7 (by omega), hf, hs, δ6f, δ7f, had', μ20 7 (by decide) (by decide) (by decide) (by decide), μ20 9 (by decide) (by decide) (by decide) (by decide)]
      exact ⟨f1, by omega, by omega, by omega, f5, f6, f7, f8, f9⟩
    · refine ⟨by rw [μ20 10 (by decide) (by decide) (by decide) (by decide), μσ 4 (by omega), hk]; exact r1, by rw [μσ 4 (by omega), hk]; omega, by rw [μσ 4 (by omega), hk]; omega, fun _ => by rw [μσ 4 (by omega), hk]; omega, by unfold zPm; rw [μσ 8 (by omega), μσ 38 (by omega)]; exact r5, fun i i0 i1 => ?_⟩
      rw [μσ 4 (by omega), hk] at i1
      have hi := hne i i0 i1
      obtain ⟨o1, o2, o3⟩ := δold _ hi
      refine (r6 i i0 i1).keep (Int.le_refl E) (by rw [μσ 8 (by omega)]) (by rw [μδ 15 (by omega)]; exact o1) (by rw [μδ 16 (by omega)]; exact o2) (by rw [μδ 17 (by omega)]; exact o3) (by rw [μσ 28 (by omega)]) (by rw [μσ 29 (by omega)]) (fun n n1 n2 => by rw [μσ 30 (by omega), μσ 31 (by omega), μσ 32 (by omega)]; exact ⟨rfl, rfl, rfl⟩)
    · rw [μz 39 (by decide) (by decide) (by decide)]
      unfold zth
      rw [zsto_eq, δσ 39 (by decide) (by decide) (by decide) (by decide) (by decide)]
      omega
  · have hsz : δ 6 s 1 ≤ 12000 := by unfold zSz at e7; omega
    have hw := hwr.1 hsz
    obtain ⟨b1, b2, b3, b4, b5, b6, b7, b8, b9⟩ := zbec_fn δ (k + 1)
    have δ4 : δ 4 = σ 4 := δσ 4 (by decide) (by decide) (by decide) (by decide) (by decide)
    have δ8 : δ 8 = σ 8 := δσ 8 (by decide) (by decide) (by decide) (by decide) (by decide)
    have δ13 : δ 13 = σ 13 := δσ 13 (by decide) (by decide) (by decide) (by decide) (by decide)
    have δ38 : δ 38 = σ 38 := δσ 38 (by decide) (by decide) (by decide) (by decide) (by decide)
    generalize hω : zwF (zbec δ (k + 1)) k r = ω at hw
    have ωk : ∀ k : Nat, k ≠ 4 → k ≠ 8 → k ≠ 13 → k ≠ 38 → ω k = δ k := fun k k1 k2 k3 k4 => by
      rw [← hω]
      unfold zwF
      simp (disch := omega) only [zwr_id, zT_lt, zF_lt, zT_le, zF_le, zT_eq, zF_eq, zT_neq, zF_neq, zT_nlt, zT_nle, and_true, true_and, and_false, false_and, and_self, or_true, true_or, or_false, false_or, or_self, not_true_eq_false, not_false_eq_true, ↓reduceIte, implies_true, true_imp_iff, false_imp_iff, zcall0, zcall1, zcall2, zcall3, zcall4, zsto_eq, zsto_ne, zsto_fn, zok13, zok6, zok15, znb_0, zrng_hit, zrng_ne, zrng_fn, zcpy_ne, zcpy_fn]
      exact b1 k k3 k1
    have ω4 : ∀ x, ω 4 0 x = zbec δ (k + 1) 4 0 x := fun x => by rw [← hω]; unfold zwF; simp (disch := omega) only [zwr_id, zT_lt, zF_lt, zT_le, zF_le, zT_eq, zF_eq, zT_neq, zF_neq, zT_nlt, zT_nle, and_true, true_and, and_false, false_and, and_self, or_true, true_or, or_false, false_or, or_self, not_true_eq_false, not_false_eq_true, ↓reduceIte, implies_true, true_imp_iff, false_imp_iff, zcall0, zcall1, zcall2, zcall3, zcall4, zsto_eq, zsto_ne, zsto_fn, zok13, zok6, zok15, znb_0, zrng_hit, zrng_ne, zrng_fn, zcpy_ne, zcpy_fn]
    have ω13 : ω 13 = zbec δ (k + 1) 13 := by rw [← hω]; unfold zwF; simp (disch := omega) only [zwr_id, zT_lt, zF_lt, zT_le, zF_le, zT_eq, zF_eq, zT_neq, zF_neq, zT_nlt, zT_nle, and_true, true_and, and_false, false_and, and_self, or_true, true_or, or_false, false_or, or_self, not_true_eq_false, not_false_eq_true, ↓reduceIte, implies_true, true_imp_iff, false_imp_iff, zcall0, zcall1, zcall2, zcall3, zcall4, zsto_eq, zsto_ne, zsto_fn, zok13, zok6, zok15, znb_0, zrng_hit, zrng_ne, zrng_fn, zcpy_ne, zcpy_fn]
    generalize hυ : zsto ω 18 0 0 (δ 6 s 1 - had) = υ
    have υm : ∀ k : Nat, k ≠ 18 → υ k = ω k := fun k hk => by rw [← hυ]; simp (disch := omega) only [zwr_id, zT_lt, zF_lt, zT_le, zF_le, zT_eq, zF_eq, zT_neq, zF_neq, zT_nlt, zT_nle, and_true, true_and, and_false, false_and, and_self, or_true, true_or, or_false, false_or, or_self, not_true_eq_false, not_false_eq_true, ↓reduceIte, implies_true, true_imp_iff, false_imp_iff, zcall0, zcall1, zcall2, zcall3, zcall4, zsto_eq, zsto_ne, zsto_fn, zok13, zok6, zok15, znb_0, zrng_hit, zrng_ne, zrng_fn, zcpy_ne, zcpy_fn]
    have υB : zSimB υ := by
      rw [← hυ, ← hω]
      unfold zwF
      exact zSimB.sto (zSimB.sto (zSimB.sto (b4 δB) (by omega)) (by omega)) (by omega)
    have υσ : ∀ k : Nat, k = 10 ∨ k = 14 ∨ k = 19 ∨ (20 ≤ k ∧ k < 38) ∨ k = 39 → υ k = σ k := fun k hk => (υm k (by omega)).trans ((ωk k (by omega) (by omega) (by omega) (by omega)).trans (δσ k (by omega) (by omega) (by omega) (by omega) (by omega)))
    have υ10 : υ 20 0 10 = k := by rw [υσ 20 (by omega)]; exact r1
    have υ7 : υ 20 0 7 = had := by rw [υσ 20 (by omega)]; exact f5
    have l := hcl υ (υσ 21 (by omega)) (υσ 22 (by omega)) (υσ 23 (by omega)) (υσ 25 (by omega)) (υσ 26 (by omega)) (υσ 27 (by omega)) (υσ 29 (by omega)) υ10
    have hmm := (hm υ (υσ 21 (by omega)) (υσ 22 (by omega)) (υσ 23 (by omega)) (υσ 25 (by omega)) (υσ 29 (by omega)) υ7 (by rw [υσ 20 (by omega)]; omega) υ10).2 (by rcases l with ⟨q1, q2, _⟩ | ⟨q1, _⟩ <;> omega)
    obtain ⟨hz1, hz20, hz0, hzB⟩ := hcnt υ
    have hzB := hzB υB
    generalize hκ : zcnt υ 0 0 had = κ at *
    have bk : ∀ k : Nat, k ≠ 20 → k ≠ 33 → k ≠ 34 → zsto κ 20 0 17 0 k = υ k := fun k k1 k2 k3 => by rw [zsto_fn k1]; exact hz1 k k1 k2 k3
    have bσ : ∀ k : Nat, k = 10 ∨ k = 14 ∨ k = 19 ∨ (21 ≤ k ∧ k < 33) ∨ (34 < k ∧ k < 38) ∨ k = 39 → zsto κ 20 0 17 0 k = σ k := fun k hk => (bk k (by omega) (by omega) (by omega)).trans (υσ k (by omega))
    have b10 : zsto κ 20 0 17 0 20 0 10 = k := by rw [zsto_ne (by omega), hz20 10 (by decide) (by decide) (by decide) (by decide)]; exact υ10
    have hb0 : zbef (zsto κ 20 0 17 0) 0 = σ 15 q 3 := by
      unfold zbef
      rw [if_pos rfl, bσ 29 (by omega), b10]
      exact v4
    obtain ⟨k1, k2, k2c⟩ := hmid (zsto κ 20 0 17 0) (bσ 21 (by omega)) (bσ 22 (by omega)) (bσ 23 (by omega)) (bσ 25 (by omega)) (bσ 26 (by omega)) (bσ 27 (by omega)) (bσ 29 (by omega)) b10
    have hBk : zBs (zsto κ 20 0 17 0) := hT.bs.fn (bσ 21 (by omega)) (bσ 22 (by omega)) (bσ 23 (by omega)) (bσ 25 (by omega))
    have n1 := zptl_bd hBk (w := 0) (how := 0) (by omega)
    have n3 := zpt_pos (zsto κ 20 0 17 0) 0 0 had
    obtain ⟨g1, g2, g3, g4, g5, g6⟩ := zpt_fn (zsto κ 20 0 17 0) 0 0 had
    obtain ⟨q1, q2, q3, q4, q5, q6⟩ := zpt1_fn (zsto κ 20 0 17 0) 0 0 had
    have hPle : zpt (zsto κ 20 0 17 0) 0 0 had 20 0 16 ≤ 12000 := by
      rcases k1 with ⟨z1, z2, _⟩ | ⟨z1, z2⟩ <;> omega
    have hmm := hmm hPle
    have hzpa : zpa κ 0 0 had = zmsv (zrmb (zpaC κ 0 0 had) 0 (κ 20 0 10)) 1 := by unfold zpa; rw [if_pos rfl]
    have κ10 : κ 20 0 10 = k := by rw [hz20 10 (by decide) (by decide) (by decide) (by decide)]; exact υ10
    rw [κ10] at hzpa
    generalize hP1 : zpt1 (zsto κ 20 0 17 0) 0 0 had = π at *
    generalize hP : zpt (zsto κ 20 0 17 0) 0 0 had = P at *
    have hC : zpaC κ 0 0 had = zsto (zsto P 20 0 7 (P 20 0 16)) 20 0 9 0 := by unfold zpaC; rw [hP]
    have P17 : P 20 0 17 = 0 := by rw [g2 17 (by decide) (by decide), zsto_eq]
    obtain ⟨k3, k4⟩ := k2 (by omega)
    rcases k1 with ⟨k5, k6, k7⟩ | ⟨k5, k6⟩
    · have k7 := k7 P17
      generalize hζ : zpaC κ 0 0 had = ζ at *
      obtain ⟨m1, m2, m3⟩ := zrmb_fn ζ 0 k
      obtain ⟨o1, o2, o3, o4, o5, o6⟩ := zrmb_at ζ (w := 0) (r := k)
      generalize hρ : zrmb ζ 0 k = ρ at *
      obtain ⟨s1, s2, s3⟩ := zmsv_fn ρ
      rw [← hzpa] at s1 s2 s3
      generalize hμ : zpa κ 0 0 had = μ at *
      have ζP : ∀ k : Nat, k ≠ 20 → ζ k = P k := fun k hk => by rw [hC]; simp (disch := omega) only [zwr_id, zT_lt, zF_lt, zT_le, zF_le, zT_eq, zF_eq, zT_neq, zF_neq, zT_nlt, zT_nle, and_true, true_and, and_false, false_and, and_self, or_true, true_or, or_false, false_or, or_self, not_true_eq_false, not_false_eq_true, ↓reduceIte, implies_true, true_imp_iff, false_imp_iff, zcall0, zcall1, zcall2, zcall3, zcall4, zsto_eq, zsto_ne, zsto_fn, zok13, zok6, zok15, znb_0, zrng_hit, zrng_ne, zrng_fn, zcpy_ne, zcpy_fn]
      have ζ20 : ∀ x, x ≠ 7 → x ≠ 9 → ζ 20 0 x = P 20 0 x := fun x x1 x2 => by rw [hC]; simp (disch := omega) only [zwr_id, zT_lt, zF_lt, zT_le, zF_le, zT_eq, zF_eq, zT_neq, zF_neq, zT_nlt, zT_nle, and_true, true_and, and_false, false_and, and_self, or_true, true_or, or_false, false_or, or_self, not_true_eq_false, not_false_eq_true, ↓reduceIte, implies_true, true_imp_iff, false_imp_iff, zcall0, zcall1, zcall2, zcall3, zcall4, zsto_eq, zsto_ne, zsto_fn, zok13, zok6, zok15, znb_0, zrng_hit, zrng_ne, zrng_fn, zcpy_ne, zcpy_fn]
      have ζ7 : ζ 20 0 7 = P 20 0 16 := by rw [hC]; simp (disch := omega) only [zwr_id, zT_lt, zF_lt, zT_le, zF_le, zT_eq, zF_eq, zT_neq, zF_neq, zT_nlt, zT_nle, and_true, true_and, and_false, false_and, and_self, or_true, true_or, or_false, false_or, or_self, not_true_eq_false, not_false_eq_true, ↓reduceIte, implies_true, true_imp_iff, false_imp_iff, zcall0, zcall1, zcall2, zcall3, zcall4, zsto_eq, zsto_ne, zsto_fn, zok13, zok6, zok15, znb_0, zrng_hit, zrng_ne, zrng_fn, zcpy_ne, zcpy_fn]
      have ζ9 : ζ 20 0 9 = 0 := by rw [hC]; simp (disch := omega) only [zwr_id, zT_lt, zF_lt, zT_le, zF_le, zT_eq, zF_eq, zT_neq, zF_neq, zT_nlt, zT_nle, and_true, true_and, and_false, false_and, and_self, or_true, true_or, or_false, false_or, or_self, not_true_eq_false, not_false_eq_true, ↓reduceIte, implies_true, true_imp_iff, false_imp_iff, zcall0, zcall1, zcall2, zcall3, zcall4, zsto_eq, zsto_ne, zsto_fn, zok13, zok6, zok15, znb_0, zrng_hit, zrng_ne, zrng_fn, zcpy_ne, zcpy_fn]
      have μυ : ∀ k : Nat, k < 20 ∨ k = 21 ∨ k = 22 ∨ k = 25 ∨ k = 26 ∨ 35 ≤ k → μ k = υ k := fun k hk => by
        rw [s1 k (by omega) (by omega), m1 k (by omega) (by omega) (by omega) (by omega) (by omega) (by omega), ζP k (by omega), g1 k (by omega) (by omega) (by omega) (by omega)]
        exact bk k (by omega) (by omega) (by omega)
      have μ20 : ∀ x, x ≠ 0 → x ≠ 7 → x ≠ 9 → x ≠ 10 → x ≠ 16 → x ≠ 17 → x ≠ 26 → μ 20 0 x = σ 20 0 x := fun x x0 x1 x2 x3 x4 x5 x6 => by
        rw [s1 20 (by decide) (by decide), m2 x x3, ζ20 x x1 x2, g2 x x4 x6, zsto_ne (by omega), hz20 x x0 x4 x5 x6, υσ 20 (by omega)]
      have μσ : ∀ k : Nat, k = 10 ∨ k = 14 ∨ k = 19 ∨ k = 21 ∨ k = 22 ∨ k = 25 ∨ k = 26 ∨ k = 36 ∨ k = 37 ∨ k = 39 → μ k = σ k := fun k hk => (μυ k (by omega)).trans (υσ k (by omega))
      have μω : ∀ k : Nat, k < 18 ∨ k = 38 → μ k = ω k := fun k hk => (μυ k (by omega)).trans (υm k (by omega))
      have μ7 : μ 20 0 7 = P 20 0 16 := by rw [s1 20 (by decide) (by decide), m2 7 (by decide), ζ7]
      have μ9 : μ 20 0 9 = 0 := by rw [s1 20 (by decide) (by decide), m2 9 (by decide), ζ9]
      have μ10 : μ 20 0 10 = k + 1 := by rw [s1 20 (by decide) (by decide), m3]
      have μ0 : μ 20 0 0 = 0 := by rw [s1 20 (by decide) (by decide), m2 0 (by decide), ζ20 0 (by decide) (by decide), g2 0 (by decide) (by decide), zsto_ne (by omega), hz0]
      have μ4 : ∀ x, μ 4 0 x = zbec δ (k + 1) 4 0 x := fun x => by rw [μω 4 (by omega), ω4]
      have μ13 : μ 13 = zbec δ (k + 1) 13 := by rw [μω 13 (by omega), ω13]
      have μ27 : μ 27 = P 27 := by rw [s1 27 (by decide) (by decide), m1 27 (by decide) (by decide) (by decide) (by decide) (by decide) (by decide), ζP 27 (by decide)]
      have μd : ∀ k : Nat, k = 6 ∨ k = 7 ∨ k = 15 ∨ k = 16 ∨ k = 17 → μ k = δ k := fun k hk => (μω k (by omega)).trans (ωk k (by omega) (by omega) (by omega) (by omega))
      have μ8 : ∀ x, μ 8 0 x = if x = k then r else σ 8 0 x := fun x => by
        rw [μω 8 (by omega), ← hω]
        unfold zwF
        by_cases hx : x = k
        · subst hx; rw [if_pos rfl, zsto_eq]
        · rw [if_neg hx, zsto_ne (by omega), zsto_fn (by decide), b1 8 (by decide) (by decide), δ8]
      have μ38 : ∀ x, μ 38 0 x = if x = k then σ 8 0 k else σ 38 0 x := fun x => by
        rw [μω 38 (by omega), ← hω]
        unfold zwF
        by_cases hx : x = k
        · subst hx; rw [if_pos rfl, zsto_fn (by decide), zsto_eq, b1 8 (by decide) (by decide), δ8]
        · rw [if_neg hx, zsto_fn (by decide), zsto_ne (by omega), b1 38 (by decide) (by decide), δ38]
      have hζt : ∀ x, ζ 30 0 x = σ 30 0 x ∧ ζ 31 0 x = σ 31 0 x ∧ ζ 32 0 x = σ 32 0 x := fun x => by
        rw [ζP 30 (by decide), ζP 31 (by decide), ζP 32 (by decide), g1 30 (by decide) (by decide) (by decide) (by decide), g1 31 (by decide) (by decide) (by decide) (by decide), g1 32 (by decide) (by decide) (by decide) (by decide), bσ 30 (by omega), bσ 31 (by omega), bσ 32 (by omega)]
        exact ⟨rfl, rfl, rfl⟩
      have hEle : E ≤ P 20 0 16 := by omega
      have w30 := (s1 30 (by decide) (by decide))
      have w31 := (s1 31 (by decide) (by decide))
      have w32 := (s1 32 (by decide) (by decide))
      refine zOp.give (τ := ω) (v := δ 6 s 1 - had) (τ' := μ) ?_ ?_ ⟨?_, ?_, ?_, P 20 0 16, ?_, ?_⟩ ?_ ?_ μ0 ?_ (by omega)
      · rw [u_Z_append, e_Z_append_0_ok _ _ _ _ _ _ hw]
        simp (disch := omega) only [zwr_id, zT_lt, zF_lt, zT_le, zF_le, zT_eq, zF_eq, zT_neq, zF_neq, zT_nlt, zT_nle, and_true, true_and, and_false, false_and, and_self, or_true, true_or, or_false, false_or, or_self, not_true_eq_false, not_false_eq_true, ↓reduceIte, implies_true, true_imp_iff, false_imp_iff, zcall0, zcall1, zcall2, zcall3, zcall4, zsto_eq, zsto_ne, zsto_fn, zok13, zok6, zok15, znb_0, zrng_hit, zrng_ne, zrng_fn, zcpy_ne, zcpy_fn]
      · rw [hυ, hmm, μ7, k6]
      · refine s3 (o6 ?_)
        rw [hC]
        exact zSimB.sto (zSimB.sto (g3 (zSimB.sto hzB (by omega))) (by omega)) (by omega)
      · intro n j1 j2
        obtain ⟨a1, a2, a3, a4, a5, a6, a7, a8, a9⟩ := hT n j1 j2
        have x1 : μ 13 n 1 = σ 13 n 1 := by rw [μ13, b2 n 1 (by decide) (by decide), δ13]
        have x2 : μ 13 n 2 = σ 13 n 2 := by rw [μ13, b2 n 2 (by decide) (by decide), δ13]
        have x3 : μ 13 n 3 = σ 13 n 3 := by rw [μ13, b2 n 3 (by decide) (by decide), δ13]
        have x4 : μ 13 n 4 = σ 13 n 2 := by rw [μ13, (b3 n j1 j2).1, δ13]
        have x5 : μ 13 n 5 = 0 := by rw [μ13, (b3 n j1 j2).2]
        have y21 : μ 21 0 n = σ 21 0 n := by rw [μσ 21 (by omega)]
        have y22 : μ 22 0 n = σ 22 0 n := by rw [μσ 22 (by omega)]
        have y25 : μ 25 0 n = σ 25 0 n := by rw [μσ 25 (by omega)]
        have y23 : μ 23 0 n = 0 := (s2 n j1 j2).1
        have y24 : μ 24 0 n = σ 21 0 n := by rw [(s2 n j1 j2).2, ← y21, s1 21 (by decide) (by decide)]
        refine ⟨by omega, by omega, by omega, by omega, by omega, by omega, by omega, by omega, fun q => ?_⟩
        obtain ⟨c1, c2, c3, c4, c5, c6⟩ := a9 (by omega)
        refine ⟨by omega, by omega, by omega, by omega, by omega, fun i i1 i2 => ?_⟩
        rw [μσ 26 (by omega), μσ 14 (by omega)]
        exact c6 i i1 (by omega)
      · exact hD.fn (fun k hk => by
          simp only [List.mem_cons, List.not_mem_nil, or_false] at hk
          exact μσ k (by omega)) (by rw [μ4, b9 9 (by decide) (by decide) (by decide) (by decide), δ4]) (μ20 28 (by decide) (by decide) (by decide) (by decide) (by decide) (by decide) (by decide)) (μ20 29 (by decide) (by decide) (by decide) (by decide) (by decide) (by decide) (by decide))
      · have z1 : μ 4 0 1 = s := by rw [μ4, b5, δ4, hs]
        have z2 : μ 4 0 2 = f := by rw [μ4, b6, δ4, hf]
        have z3 : μ 4 0 3 = 0 := by rw [μ4, b7]
        unfold zSimF
        rw [z1, z2, z3, μd 6 (by omega), μd 7 (by omega), μ27, μ7, μ9]
        exact ⟨by omega, by omega, by omega, by omega, by omega, by omega, rfl, fun _ => by omega, k7⟩
      · have z6 : μ 4 0 6 = k + 1 := by rw [μ4, b8]
        refine ⟨by rw [μ10, z6], by omega, by omega, fun _ => by omega, fun i i0 ii => ?_, fun i i0 ii => ?_⟩
        · have := r5 i i0 ii
          rw [μ8, μ38]
          by_cases hi : i = k
          · subst hi; rw [if_pos rfl, if_pos rfl]; omega
          · rw [if_neg hi, if_neg hi]; exact this
        · by_cases hi : i = k
          · subst hi
            have w28 : μ 28 0 i = P 20 0 16 := by rw [s1 28 (by decide) (by decide), o3, ζ7]
            have w29 : μ 29 0 i = P 20 0 26 := by rw [s1 29 (by decide) (by decide), o4, ζ20 26 (by decide) (by decide)]
            unfold zRv
            rw [μ8, if_pos rfl, μd 15 (by omega), w28, w29, e5, e6]
            refine ⟨by omega, by omega, by omega, by omega, by omega, by omega, fun n j1 j2 => ?_⟩
            obtain ⟨u1, u2, u3⟩ := o1 n j1 j2
            have P33 : P 33 = π 33 := by
              rw [← hP, ← hP1]
              unfold zpt
              rw [zsto_fn (by decide), (zme_fn _ _).2.1 33 (by decide) (by decide)]
            have P34 : P 34 = π 34 := by
              rw [← hP, ← hP1]
              unfold zpt
              rw [zsto_fn (by decide), (zme_fn _ _).2.1 34 (by decide) (by decide)]
            have ζ21 : ζ 21 = σ 21 := by rw [ζP 21 (by decide), g1 21 (by decide) (by decide) (by decide) (by decide)]; exact bσ 21 (by omega)
            have ζ23 : ζ 23 = σ 23 := by rw [ζP 23 (by decide), g1 23 (by decide) (by decide) (by decide) (by decide)]; exact bσ 23 (by omega)
            have ζ25 : ζ 25 = σ 25 := by rw [ζP 25 (by decide), g1 25 (by decide) (by decide) (by decide) (by decide)]; exact bσ 25 (by omega)
            have π25 : π 25 = σ 25 := by rw [q1 25 (by decide) (by decide) (by decide) (by decide)]; exact bσ 25 (by omega)
            have hx0 : 41 * i + n - 41 * i = n := by omega
            have hx1 : 41 * i + n - 41 = 41 * (i - 1) + n := by omega
            have hme : zmean ζ 0 n = σ 23 0 n := by show ζ 23 0 n = _; rw [ζ23]
            have ht := (hT n j1 j2).1
            have ht2 := (hT n j1 j2).2.1
            have x16 : μ 16 r n = τ 16 r n := by rw [μd 16 (by omega), δ16]
            have x17 : μ 17 r n = τ 17 r n := by rw [μd 17 (by omega), δ17]
            unfold zPl
            rw [w30, w31, w32, u1, u2, u3, x16, x17]
            unfold zfA zfB zfC
            rw [hx0, hx1, hme, ζ21, ζ25]
            by_cases hc : σ 23 0 n = 0
            · rw [if_pos hc, if_pos hc, if_pos hc, if_pos rfl, if_pos rfl, if_pos rfl]
              obtain ⟨y1, y2⟩ := c6 n j1 j2 hc
              obtain ⟨y3, y4, y5⟩ := hζt (41 * (i - 1) + n)
              rw [y1, y2, y3, y4, y5]
              exact (v7 n j1 j2).mono hEle
            · rw [if_neg hc, if_neg hc, if_neg hc]
              by_cases hq' : σ 21 0 n = 0
              · left
                exact ⟨k2c n j1 j2 hc (by omega), by rw [if_pos hq']⟩
              · right
                obtain ⟨v1, v2, v3, v4, v5⟩ := k4 n j1 j2 hc (by omega)
                have hsz25 := ((hT n j1 j2).2.2.2.2.2.2.2.2 (by omega))
                rw [if_neg hq', ζP 33 (by decide), ζP 34 (by decide), P33, P34]
                rw [π25] at v3 v4 v5
                refine ⟨v2, v1.symm, v3.symm, by omega, by omega, ?_, ?_⟩
                · rw [v4, v1, v3]
                · rw [v3]; omega
          · have hi1 : i < k := by omega
            have hin := hne i i0 hi1
            obtain ⟨y1, y2, y3⟩ := δold _ hin
            obtain ⟨y4, y5⟩ := o5 i hi
            refine (r6 i i0 hi1).keep hEle (by rw [μ8, if_neg hi]) (by rw [μd 15 (by omega)]; exact y1) (by rw [μd 16 (by omega)]; exact y2) (by rw [μd 17 (by omega)]; exact y3) ?_ ?_ (fun n j1 j2 => ?_)
            · rw [s1 28 (by decide) (by decide), y4, ζP 28 (by decide), g1 28 (by decide) (by decide) (by decide) (by decide), bσ 28 (by omega)]
            · rw [s1 29 (by decide) (by decide), y5, ζP 29 (by decide), g1 29 (by decide) (by decide) (by decide) (by decide), bσ 29 (by omega)]
            · obtain ⟨y6, y7, y8⟩ := o2 (41 * i + n) (by omega)
              obtain ⟨y9, ya, yb⟩ := hζt (41 * i + n)
              rw [w30, w31, w32, y6, y7, y8]
              exact ⟨y9, ya, yb⟩
      · exact μσ 19 (by omega)
      · rw [μσ 39 (by omega)]; exact Int.le_refl _
      · rw [μυ 18 (by omega), ← hυ, zsto_eq]
    · omega
