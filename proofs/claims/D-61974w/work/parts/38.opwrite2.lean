/-! write: what is alike stays alike -/
/-- what the class's write and append leave -/
theorem zsv_fn (σ : ZT) : (∀ k : Nat, k ≠ 13 → zsv σ 1 k = σ k) ∧ (∀ i s, s ≠ 4 → s ≠ 5 → zsv σ 1 13 i s = σ 13 i s) ∧ (∀ i, 1 ≤ i → i ≤ 40 → zsv σ 1 13 i 4 = σ 13 i 2 ∧ zsv σ 1 13 i 5 = 0) := by
  refine ⟨fun k hk => ?_, fun i s h4 h5 => ?_, fun i i1 i2 => ⟨?_, ?_⟩⟩
  · funext i s
    unfold zsv
    rw [if_neg (by omega), if_neg (by omega)]
  · unfold zsv
    rw [if_neg (by omega), if_neg (by omega)]
  · unfold zsv
    rw [if_pos (by omega)]
  · unfold zsv
    rw [if_neg (by omega), if_pos (by omega)]
theorem zSimB.sv {σ : ZT} (h : zSimB σ) : zSimB (zsv σ 1) := by
  unfold zSimB at h ⊢
  rw [(zsv_fn σ).1 7 (by decide), (zsv_fn σ).1 14 (by decide), (zsv_fn σ).1 26 (by decide), (zsv_fn σ).1 27 (by decide)]
  exact h
theorem zbec_fn (σ : ZT) (p : Int) : (∀ k : Nat, k ≠ 13 → k ≠ 4 → zbec σ p k = σ k) ∧ (∀ i s, s ≠ 4 → s ≠ 5 → zbec σ p 13 i s = σ 13 i s) ∧ (∀ i, 1 ≤ i → i ≤ 40 → zbec σ p 13 i 4 = σ 13 i 2 ∧ zbec σ p 13 i 5 = 0) ∧ (zSimB σ → zSimB (zbec σ p)) ∧ zbec σ p 4 0 1 = σ 4 0 2 ∧ zbec σ p 4 0 2 = σ 4 0 1 ∧ zbec σ p 4 0 3 = 0 ∧ zbec σ p 4 0 6 = p ∧ (∀ s, s ≠ 1 → s ≠ 2 → s ≠ 3 → s ≠ 6 → zbec σ p 4 0 s = σ 4 0 s) := by
  obtain ⟨a1, a2, a3⟩ := zsv_fn (zsto (zsto (zsto (zsto σ 4 0 1 (σ 4 0 2)) 4 0 2 (σ 4 0 1)) 4 0 6 p) 4 0 3 0)
  unfold zbec
  refine ⟨fun k k1 k2 => ?_, fun i s h4 h5 => ?_, fun i i1 i2 => ?_, fun hB => zSimB.sv (zSimB.sto (zSimB.sto (zSimB.sto (zSimB.sto hB (by omega)) (by omega)) (by omega)) (by omega)), ?_, ?_, ?_, ?_, fun s s1 s2 s3 s4 => ?_⟩
  · rw [a1 k k1]; simp (disch := omega) only [zwr_id, zT_lt, zF_lt, zT_le, zF_le, zT_eq, zF_eq, zT_neq, zF_neq, zT_nlt, zT_nle, and_true, true_and, and_false, false_and, and_self, or_true, true_or, or_false, false_or, or_self, not_true_eq_false, not_false_eq_true, ↓reduceIte, implies_true, true_imp_iff, false_imp_iff, zcall0, zcall1, zcall2, zcall3, zcall4, zsto_eq, zsto_ne, zsto_fn, zok13, zok6, zok15, znb_0, zrng_hit, zrng_ne, zrng_fn, zcpy_ne, zcpy_fn]
  · rw [a2 i s h4 h5]; simp (disch := omega) only [zwr_id, zT_lt, zF_lt, zT_le, zF_le, zT_eq, zF_eq, zT_neq, zF_neq, zT_nlt, zT_nle, and_true, true_and, and_false, false_and, and_self, or_true, true_or, or_false, false_or, or_self, not_true_eq_false, not_false_eq_true, ↓reduceIte, implies_true, true_imp_iff, false_imp_iff, zcall0, zcall1, zcall2, zcall3, zcall4, zsto_eq, zsto_ne, zsto_fn, zok13, zok6, zok15, znb_0, zrng_hit, zrng_ne, zrng_fn, zcpy_ne, zcpy_fn]
  · rw [(a3 i i1 i2).1, (a3 i i1 i2).2]; exact ⟨by simp (disch := omega) only [zwr_id, zT_lt, zF_lt, zT_le, zF_le, zT_eq, zF_eq, zT_neq, zF_neq, zT_nlt, zT_nle, and_true, true_and, and_false, false_and, and_self, or_true, true_or, or_false, false_or, or_self, not_true_eq_false, not_false_eq_true, ↓reduceIte, implies_true, true_imp_iff, false_imp_iff, zcall0, zcall1, zcall2, zcall3, zcall4, zsto_eq, zsto_ne, zsto_fn, zok13, zok6, zok15, znb_0, zrng_hit, zrng_ne, zrng_fn, zcpy_ne, zcpy_fn], rfl⟩
  · rw [a1 4 (by decide)]; simp (disch := omega) only [zwr_id, zT_lt, zF_lt, zT_le, zF_le, zT_eq, zF_eq, zT_neq, zF_neq, zT_nlt, zT_nle, and_true, true_and, and_false, false_and, and_self, or_true, true_or, or_false, false_or, or_self, not_true_eq_false, not_false_eq_true, ↓reduceIte, implies_true, true_imp_iff, false_imp_iff, zcall0, zcall1, zcall2, zcall3, zcall4, zsto_eq, zsto_ne, zsto_fn, zok13, zok6, zok15, znb_0, zrng_hit, zrng_ne, zrng_fn, zcpy_ne, zcpy_fn]
  · rw [a1 4 (by decide)]; simp (disch := omega) only [zwr_id, zT_lt, zF_lt, zT_le, zF_le, zT_eq, zF_eq, zT_neq, zF_neq, zT_nlt, zT_nle, and_true, true_and, and_false, false_and, and_self, or_true, true_or, or_false, false_or, or_self, not_true_eq_false, not_false_eq_true, ↓reduceIte, implies_true, true_imp_iff, false_imp_iff, zcall0, zcall1, zcall2, zcall3, zcall4, zsto_eq, zsto_ne, zsto_fn, zok13, zok6, zok15, znb_0, zrng_hit, zrng_ne, zrng_fn, zcpy_ne, zcpy_fn]
  · rw [a1 4 (by decide)]; simp (disch := omega) only [zwr_id, zT_lt, zF_lt, zT_le, zF_le, zT_eq, zF_eq, zT_neq, zF_neq, zT_nlt, zT_nle, and_true, true_and, and_false, false_and, and_self, or_true, true_or, or_false, false_or, or_self, not_true_eq_false, not_false_eq_true, ↓reduceIte, implies_true, true_imp_iff, false_imp_iff, zcall0, zcall1, zcall2, zcall3, zcall4, zsto_eq, zsto_ne, zsto_fn, zok13, zok6, zok15, znb_0, zrng_hit, zrng_ne, zrng_fn, zcpy_ne, zcpy_fn]
  · rw [a1 4 (by decide)]; simp (disch := omega) only [zwr_id, zT_lt, zF_lt, zT_le, zF_le, zT_eq, zF_eq, zT_neq, zF_neq, zT_nlt, zT_nle, and_true, true_and, and_false, false_and, and_self, or_true, true_or, or_false, false_or, or_self, not_true_eq_false, not_false_eq_true, ↓reduceIte, implies_true, true_imp_iff, false_imp_iff, zcall0, zcall1, zcall2, zcall3, zcall4, zsto_eq, zsto_ne, zsto_fn, zok13, zok6, zok15, znb_0, zrng_hit, zrng_ne, zrng_fn, zcpy_ne, zcpy_fn]
  · rw [a1 4 (by decide)]; simp (disch := omega) only [zwr_id, zT_lt, zF_lt, zT_le, zF_le, zT_eq, zF_eq, zT_neq, zF_neq, zT_nlt, zT_nle, and_true, true_and, and_false, false_and, and_self, or_true, true_or, or_false, false_or, or_self, not_true_eq_false, not_false_eq_true, ↓reduceIte, implies_true, true_imp_iff, false_imp_iff, zcall0, zcall1, zcall2, zcall3, zcall4, zsto_eq, zsto_ne, zsto_fn, zok13, zok6, zok15, znb_0, zrng_hit, zrng_ne, zrng_fn, zcpy_ne, zcpy_fn]
theorem zmsv_fn (σ : ZT) : (∀ k : Nat, k ≠ 23 → k ≠ 24 → zmsv σ 1 k = σ k) ∧ (∀ n, 1 ≤ n → n ≤ 40 → zmsv σ 1 23 0 n = 0 ∧ zmsv σ 1 24 0 n = σ 21 0 n) ∧ (zSimB σ → zSimB (zmsv σ 1)) := by
  unfold zmsv
  refine ⟨fun k k1 k2 => by simp (disch := omega) only [zwr_id, zT_lt, zF_lt, zT_le, zF_le, zT_eq, zF_eq, zT_neq, zF_neq, zT_nlt, zT_nle, and_true, true_and, and_false, false_and, and_self, or_true, true_or, or_false, false_or, or_self, not_true_eq_false, not_false_eq_true, ↓reduceIte, implies_true, true_imp_iff, false_imp_iff, zcall0, zcall1, zcall2, zcall3, zcall4, zsto_eq, zsto_ne, zsto_fn, zok13, zok6, zok15, znb_0, zrng_hit, zrng_ne, zrng_fn, zcpy_ne, zcpy_fn], fun n n1 n2 => ⟨by simp (disch := omega) only [zwr_id, zT_lt, zF_lt, zT_le, zF_le, zT_eq, zF_eq, zT_neq, zF_neq, zT_nlt, zT_nle, and_true, true_and, and_false, false_and, and_self, or_true, true_or, or_false, false_or, or_self, not_true_eq_false, not_false_eq_true, ↓reduceIte, implies_true, true_imp_iff, false_imp_iff, zcall0, zcall1, zcall2, zcall3, zcall4, zsto_eq, zsto_ne, zsto_fn, zok13, zok6, zok15, znb_0, zrng_hit, zrng_ne, zrng_fn, zcpy_ne, zcpy_fn], by simp (disch := omega) only [zwr_id, zT_lt, zF_lt, zT_le, zF_le, zT_eq, zF_eq, zT_neq, zF_neq, zT_nlt, zT_nle, and_true, true_and, and_false, false_and, and_self, or_true, true_or, or_false, false_or, or_self, not_true_eq_false, not_false_eq_true, ↓reduceIte, implies_true, true_imp_iff, false_imp_iff, zcall0, zcall1, zcall2, zcall3, zcall4, zsto_eq, zsto_ne, zsto_fn, zok13, zok6, zok15, znb_0, zrng_hit, zrng_ne, zrng_fn, zcpy_ne, zcpy_fn]⟩, fun h => zSimB.rng (zSimB.rng h (by omega)) (by omega)⟩
theorem zrmb_at (σ : ZT) {w r : Int} : (∀ n, 1 ≤ n → n ≤ 40 → zrmb σ w r 30 0 (41 * r + n) = zfA σ w r (41 * r + n) ∧ zrmb σ w r 31 0 (41 * r + n) = zfB σ w r (41 * r + n) ∧ zrmb σ w r 32 0 (41 * r + n) = zfC σ w r (41 * r + n)) ∧ (∀ x, ¬ (41 * r + 1 ≤ x ∧ x < 41 * r + 41) → zrmb σ w r 30 0 x = σ 30 0 x ∧ zrmb σ w r 31 0 x = σ 31 0 x ∧ zrmb σ w r 32 0 x = σ 32 0 x) ∧ zrmb σ w r 28 0 r = σ 20 0 7 ∧ zrmb σ w r 29 0 r = σ 20 0 26 ∧ (∀ k, k ≠ r → zrmb σ w r 28 0 k = σ 28 0 k ∧ zrmb σ w r 29 0 k = σ 29 0 k) ∧ (zSimB σ → zSimB (zrmb σ w r)) := by
  obtain ⟨a1, a2, a3⟩ := zr3_fn σ (41 * r + 1) (41 * r + 41) (zfA σ w r) (zfB σ w r) (zfC σ w r)
  have b20 := a1 20 (by decide) (by decide) (by decide)
  have b28 := a1 28 (by decide) (by decide) (by decide)
  have b29 := a1 29 (by decide) (by decide) (by decide)
  unfold zrmb zrm9
  refine ⟨fun n n1 n2 => ?_, fun x hx => ?_, ?_, ?_, fun k hk => ⟨?_, ?_⟩, fun h => zSimB.sto (zSimB.sto (zSimB.sto ?_ (by omega)) (by omega)) (by omega)⟩
  · have := a3 (41 * r + n) (by omega) (by omega)
    simp (disch := omega) only [zwr_id, zT_lt, zF_lt, zT_le, zF_le, zT_eq, zF_eq, zT_neq, zF_neq, zT_nlt, zT_nle, and_true, true_and, and_false, false_and, and_self, or_true, true_or, or_false, false_or, or_self, not_true_eq_false, not_false_eq_true, ↓reduceIte, implies_true, true_imp_iff, false_imp_iff, zcall0, zcall1, zcall2, zcall3, zcall4, zsto_eq, zsto_ne, zsto_fn, zok13, zok6, zok15, znb_0, zrng_hit, zrng_ne, zrng_fn, zcpy_ne, zcpy_fn]
  · have := a2 x hx
    simp (disch := omega) only [zwr_id, zT_lt, zF_lt, zT_le, zF_le, zT_eq, zF_eq, zT_neq, zF_neq, zT_nlt, zT_nle, and_true, true_and, and_false, false_and, and_self, or_true, true_or, or_false, false_or, or_self, not_true_eq_false, not_false_eq_true, ↓reduceIte, implies_true, true_imp_iff, false_imp_iff, zcall0, zcall1, zcall2, zcall3, zcall4, zsto_eq, zsto_ne, zsto_fn, zok13, zok6, zok15, znb_0, zrng_hit, zrng_ne, zrng_fn, zcpy_ne, zcpy_fn]
  · simp (disch := omega) only [zwr_id, zT_lt, zF_lt, zT_le, zF_le, zT_eq, zF_eq, zT_neq, zF_neq, zT_nlt, zT_nle, and_true, true_and, and_false, false_and, and_self, or_true, true_or, or_false, false_or, or_self, not_true_eq_false, not_false_eq_true, ↓reduceIte, implies_true, true_imp_iff, false_imp_iff, zcall0, zcall1, zcall2, zcall3, zcall4, zsto_eq, zsto_ne, zsto_fn, zok13, zok6, zok15, znb_0, zrng_hit, zrng_ne, zrng_fn, zcpy_ne, zcpy_fn]
    rw [b20]
  · simp (disch := omega) only [zwr_id, zT_lt, zF_lt, zT_le, zF_le, zT_eq, zF_eq, zT_neq, zF_neq, zT_nlt, zT_nle, and_true, true_and, and_false, false_and, and_self, or_true, true_or, or_false, false_or, or_self, not_true_eq_false, not_false_eq_true, ↓reduceIte, implies_true, true_imp_iff, false_imp_iff, zcall0, zcall1, zcall2, zcall3, zcall4, zsto_eq, zsto_ne, zsto_fn, zok13, zok6, zok15, znb_0, zrng_hit, zrng_ne, zrng_fn, zcpy_ne, zcpy_fn]
    rw [b20]
  · simp (disch := omega) only [zwr_id, zT_lt, zF_lt, zT_le, zF_le, zT_eq, zF_eq, zT_neq, zF_neq, zT_nlt, zT_nle, and_true, true_and, and_false, false_and, and_self, or_true, true_or, or_false, false_or, or_self, not_true_eq_false, not_false_eq_true, ↓reduceIte, implies_true, true_imp_iff, false_imp_iff, zcall0, zcall1, zcall2, zcall3, zcall4, zsto_eq, zsto_ne, zsto_fn, zok13, zok6, zok15, znb_0, zrng_hit, zrng_ne, zrng_fn, zcpy_ne, zcpy_fn]
    rw [b28]
  · simp (disch := omega) only [zwr_id, zT_lt, zF_lt, zT_le, zF_le, zT_eq, zF_eq, zT_neq, zF_neq, zT_nlt, zT_nle, and_true, true_and, and_false, false_and, and_self, or_true, true_or, or_false, false_or, or_self, not_true_eq_false, not_false_eq_true, ↓reduceIte, implies_true, true_imp_iff, false_imp_iff, zcall0, zcall1, zcall2, zcall3, zcall4, zsto_eq, zsto_ne, zsto_fn, zok13, zok6, zok15, znb_0, zrng_hit, zrng_ne, zrng_fn, zcpy_ne, zcpy_fn]
    rw [b29]
  · unfold zr3
    exact zSimB.rng (zSimB.rng (zSimB.rng h (by omega)) (by omega)) (by omega)
/-- the store behind the class's part: nothing of the reference moved -/
theorem zwrsD_fn (σ : ZT) (s r : Int) (ns : List Int) : (∀ k : Nat, k ≠ 6 → k ≠ 7 → k ≠ 15 → k ≠ 16 → k ≠ 17 → zwD (zwrs s r (zwB σ s r) ns) s r 0 0 k = σ k) ∧ (∀ j, j ≠ s → zwD (zwrs s r (zwB σ s r) ns) s r 0 0 6 j = σ 6 j ∧ zwD (zwrs s r (zwB σ s r) ns) s r 0 0 7 j = σ 7 j) ∧ (zSimB σ → zSimB (zwD (zwrs s r (zwB σ s r) ns) s r 0 0)) ∧ zSz (zwrs s r (zwB σ s r) ns) s ∧ (∀ n, n ∉ ns → 0 ≤ n → n ≤ 40 → zwrs s r (zwB σ s r) ns 16 r n = 0) := by
  obtain ⟨a1, a2, a3, a4, a5⟩ := zwA_fn σ s
  have g : ∀ k : Nat, k ≠ 16 → zwB σ s r k = zwA σ s k := fun k k3 => by
    unfold zwB
    simp (disch := omega) only [zwr_id, zT_lt, zF_lt, zT_le, zF_le, zT_eq, zF_eq, zT_neq, zF_neq, zT_nlt, zT_nle, and_true, true_and, and_false, false_and, and_self, or_true, true_or, or_false, false_or, or_self, not_true_eq_false, not_false_eq_true, ↓reduceIte, implies_true, true_imp_iff, false_imp_iff, zcall0, zcall1, zcall2, zcall3, zcall4, zsto_eq, zsto_ne, zsto_fn, zok13, zok6, zok15, znb_0, zrng_hit, zrng_ne, zrng_fn, zcpy_ne, zcpy_fn]
  have zB : zSz (zwB σ s r) s := by unfold zSz; rw [g 6 (by decide)]; exact a1
  obtain ⟨c1, c2, c3, c4, c5, c6, c7⟩ := zwrs_fn s r ns (zwB σ s r) zB
  obtain ⟨e1, e2, e3, e4, e5, e6, e7, e8, e9⟩ := zwD_fn (zwrs s r (zwB σ s r) ns) (s := s) (r := r) (c := 0) (b := 0) c2
  refine ⟨fun k k1 k2 k3 k4 k5 => ?_, fun j hj => ⟨?_, ?_⟩, fun hB => e3 (c5 ?_), c2, fun n hn n0 n1 => ?_⟩
  · rw [e1 k k1 k2 k3, c1 k k1 k2 k4 k5, g k k4, a3 k k1 k2]
  · rw [(e2 j hj).1, (c3 j hj).1, g 6 (by decide), (a4 j hj).1]
  · rw [(e2 j hj).2, (c3 j hj).2, g 7 (by decide), (a4 j hj).2]
  · unfold zwB
    exact zSimB.rng (a5 hB) (by omega)
  · rw [(c6 n hn).1]
    unfold zwB
    rw [zrng_hit (by omega)]
theorem op_write {σ : ZT} (hS : zSim σ) (hg : 0 < σ 39 0 0) {how : Int} (hw : zI how) : zOp σ (f_Z_write [(4, 0), (0, how), (18, 0)]) (f_M_write [(20, 0), (0, how)]) := by
  have hS' := hS
  obtain ⟨hB, hT, hD, E, ⟨f1, f2, f3, f4, f5, f6, f7, f8, f9⟩, r1, r2, r3, r4, r5, r6⟩ := hS'
  by_cases hh : 0 ≤ how ∧ how ≤ 2
  · have p0 := r5 0 (by omega) (by omega)
    generalize hs : σ 4 0 2 = s at f1
    generalize hr : σ 38 0 0 = r at p0
    have hs2 : 0 ≤ s ∧ s < 2 := by omega
    obtain ⟨d1, d2, d3, d4, d5⟩ := zwrsD_fn σ s r (znl σ 1 how)
    have hrem := zwB_rem (σ := σ) hT (s := s) (r := r) hh
    have hlock : ∀ υ : ZT, υ 21 = σ 21 → υ 22 = σ 22 → υ 23 = σ 23 → υ 25 = σ 25 → υ 26 = σ 26 → _ := fun υ h21 h22 h23 h25 h26 => write_lock (υ := υ) hT (s := s) (r := r) hh h21 h22 h23 h25 h26
    have hlen : ∀ υ : ZT, υ 21 = σ 21 → υ 22 = σ 22 → υ 23 = σ 23 → υ 25 = σ 25 → 0 ≤ zptl υ 1 how ∧ zptl υ 1 how ≤ 5604 ∧ zpt υ 1 how 0 20 0 16 ≤ 6108 ∧ zpt1 υ 1 how 0 20 0 16 = zptl υ 1 how ∧ 0 ≤ zpt υ 1 how 0 20 0 16 ∧ zptl υ 1 how ≤ zpt υ 1 how 0 20 0 16 := fun υ h21 h22 h23 h25 => by
      have hBυ : zBs υ := hT.bs.fn h21 h22 h23 h25
      have q1 := zptl_bd hBυ (w := 1) hh
      have q2 := zendM_bd hBυ (w := 1) (how := how) (from' := 0) hh (by omega) (by show (0 : Int) ≤ 0 ∧ (0 : Int) ≤ 12000; omega)
      have q3 := zpt_pos υ 1 how 0
      have q4 := (zpt1_fn υ 1 how 0).2.2.2.2.2
      omega
    obtain ⟨e1, e2, e3, e4, e5, e6, e7, e8, e9⟩ := zwD_fn (zwrs s r (zwB σ s r) (znl σ 1 how)) (s := s) (r := r) (c := 0) (b := 0) d4
    have hsz : zwD (zwrs s r (zwB σ s r) (znl σ 1 how)) s r 0 0 6 s 1 ≤ 12000 := by
      have l := (hlock σ rfl rfl rfl rfl rfl).1
      have q := hlen σ rfl rfl rfl rfl
      rcases l with ⟨z1, z2, z3⟩ | ⟨z1, z2⟩ <;> omega
    have hwr := w_write1 σ hh hs2 hs (by omega) (by omega) hr (by omega) hT hrem hsz
    generalize hτ : zwrs s r (zwB σ s r) (znl σ 1 how) = τ at *
    generalize hD' : zwD τ s r 0 0 = δ at *
    obtain ⟨b1, b2, b3, b4, b5, b6, b7, b8, b9⟩ := zbec_fn δ 1
    have δ4 : δ 4 = σ 4 := d1 4 (by decide) (by decide) (by decide) (by decide) (by decide)
    have δ8 : δ 8 = σ 8 := d1 8 (by decide) (by decide) (by decide) (by decide) (by decide)
    have δ13 : δ 13 = σ 13 := d1 13 (by decide) (by decide) (by decide) (by decide) (by decide)
    have δ38 : δ 38 = σ 38 := d1 38 (by decide) (by decide) (by decide) (by decide) (by decide)
    generalize hω : zwF (zbec δ 1) 0 r = ω at hwr
    have ωk : ∀ k : Nat, k ≠ 4 → k ≠ 8 → k ≠ 13 → k ≠ 38 → ω k = δ k := fun k k1 k2 k3 k4 => by
      rw [← hω]
      unfold zwF
      simp (disch := omega) only [zwr_id, zT_lt, zF_lt, zT_le, zF_le, zT_eq, zF_eq, zT_neq, zF_neq, zT_nlt, zT_nle, and_true, true_and, and_false, false_and, and_self, or_true, true_or, or_false, false_or, or_self, not_true_eq_false, not_false_eq_true, ↓reduceIte, implies_true, true_imp_iff, false_imp_iff, zcall0, zcall1, zcall2, zcall3, zcall4, zsto_eq, zsto_ne, zsto_fn, zok13, zok6, zok15, znb_0, zrng_hit, zrng_ne, zrng_fn, zcpy_ne, zcpy_fn]
      exact b1 k k3 k1
    have ω4 : ∀ x, ω 4 0 x = zbec δ 1 4 0 x := fun x => by rw [← hω]; unfold zwF; simp (disch := omega) only [zwr_id, zT_lt, zF_lt, zT_le, zF_le, zT_eq, zF_eq, zT_neq, zF_neq, zT_nlt, zT_nle, and_true, true_and, and_false, false_and, and_self, or_true, true_or, or_false, false_or, or_self, not_true_eq_false, not_false_eq_true, ↓reduceIte, implies_true, true_imp_iff, false_imp_iff, zcall0, zcall1, zcall2, zcall3, zcall4, zsto_eq, zsto_ne, zsto_fn, zok13, zok6, zok15, znb_0, zrng_hit, zrng_ne, zrng_fn, zcpy_ne, zcpy_fn]
    have ω13 : ω 13 = zbec δ 1 13 := by rw [← hω]; unfold zwF; simp (disch := omega) only [zwr_id, zT_lt, zF_lt, zT_le, zF_le, zT_eq, zF_eq, zT_neq, zF_neq, zT_nlt, zT_nle, and_true, true_and, and_false, false_and, and_self, or_true, true_or, or_false, false_or, or_self, not_true_eq_false, not_false_eq_true, ↓reduceIte, implies_true, true_imp_iff, false_imp_iff, zcall0, zcall1, zcall2, zcall3, zcall4, zsto_eq, zsto_ne, zsto_fn, zok13, zok6, zok15, znb_0, zrng_hit, zrng_ne, zrng_fn, zcpy_ne, zcpy_fn]
    have ωm : ∀ k : Nat, k ≠ 4 → k ≠ 8 → k ≠ 13 → k ≠ 38 → k ≠ 6 → k ≠ 7 → k ≠ 15 → k ≠ 16 → k ≠ 17 → ω k = σ k := fun k k1 k2 k3 k4 k5 k6 k7 k8 k9 => (ωk k k1 k2 k3 k4).trans (d1 k k5 k6 k7 k8 k9)
    have ωf : ω 4 0 1 = s := by rw [ω4, b5, δ4, hs]
    have ω6 : ω 6 = δ 6 := ωk 6 (by decide) (by decide) (by decide) (by decide)
    rw [ωf, ω6] at hwr
    have hv0 : 0 ≤ δ 6 s 1 := by unfold zSz at e7; omega
    generalize hυ : zsto ω 18 0 0 (δ 6 s 1) = υ
    have υm : ∀ k : Nat, k ≠ 18 → υ k = ω k := fun k hk => by rw [← hυ]; simp (disch := omega) only [zwr_id, zT_lt, zF_lt, zT_le, zF_le, zT_eq, zF_eq, zT_neq, zF_neq, zT_nlt, zT_nle, and_true, true_and, and_false, false_and, and_self, or_true, true_or, or_false, false_or, or_self, not_true_eq_false, not_false_eq_true, ↓reduceIte, implies_true, true_imp_iff, false_imp_iff, zcall0, zcall1, zcall2, zcall3, zcall4, zsto_eq, zsto_ne, zsto_fn, zok13, zok6, zok15, znb_0, zrng_hit, zrng_ne, zrng_fn, zcpy_ne, zcpy_fn]
    have υB : zSimB υ := by
      rw [← hυ, ← hω]
      unfold zwF
      exact zSimB.sto (zSimB.sto (zSimB.sto (b4 (d3 hB)) (by omega)) (by omega)) (by omega)
    have υσ : ∀ k : Nat, k ≠ 4 → k ≠ 8 → k ≠ 13 → k ≠ 38 → k ≠ 6 → k ≠ 7 → k ≠ 15 → k ≠ 16 → k ≠ 17 → k ≠ 18 → υ k = σ k := fun k k1 k2 k3 k4 k5 k6 k7 k8 k9 k10 => (υm k k10).trans (ωm k k1 k2 k3 k4 k5 k6 k7 k8 k9)
    have υBs : zBs υ := hT.bs.fn (υσ 21 (by decide) (by decide) (by decide) (by decide) (by decide) (by decide) (by decide) (by decide) (by decide) (by decide)) (υσ 22 (by decide) (by decide) (by decide) (by decide) (by decide) (by decide) (by decide) (by decide) (by decide) (by decide)) (υσ 23 (by decide) (by decide) (by decide) (by decide) (by decide) (by decide) (by decide) (by decide) (by decide) (by decide)) (υσ 25 (by decide) (by decide) (by decide) (by decide) (by decide) (by decide) (by decide) (by decide) (by decide) (by decide))
    have hm := m_write1 υ υBs hh
    have hzc : ∀ k : Nat, k ≠ 20 → k ≠ 33 → k ≠ 34 → zcnt υ 1 how 0 k = υ k := fun k k1 k2 k3 => by
      unfold zcnt
      obtain ⟨g1, g2, g3, g4, g5, g6⟩ := zpt_fn (zsto (zsto υ 20 0 0 0) 20 0 17 1) 1 how 0
      by_cases k27 : k = 27
      · subst k27
        rw [g6 (by rw [zsto_eq]; decide)]
        simp (disch := omega) only [zwr_id, zT_lt, zF_lt, zT_le, zF_le, zT_eq, zF_eq, zT_neq, zF_neq, zT_nlt, zT_nle, and_true, true_and, and_false, false_and, and_self, or_true, true_or, or_false, false_or, or_self, not_true_eq_false, not_false_eq_true, ↓reduceIte, implies_true, true_imp_iff, false_imp_iff, zcall0, zcall1, zcall2, zcall3, zcall4, zsto_eq, zsto_ne, zsto_fn, zok13, zok6, zok15, znb_0, zrng_hit, zrng_ne, zrng_fn, zcpy_ne, zcpy_fn]
      · rw [g1 k k1 k27 k2 k3]
        simp (disch := omega) only [zwr_id, zT_lt, zF_lt, zT_le, zF_le, zT_eq, zF_eq, zT_neq, zF_neq, zT_nlt, zT_nle, and_true, true_and, and_false, false_and, and_self, or_true, true_or, or_false, false_or, or_self, not_true_eq_false, not_false_eq_true, ↓reduceIte, implies_true, true_imp_iff, false_imp_iff, zcall0, zcall1, zcall2, zcall3, zcall4, zsto_eq, zsto_ne, zsto_fn, zok13, zok6, zok15, znb_0, zrng_hit, zrng_ne, zrng_fn, zcpy_ne, zcpy_fn]
    have hzc20 : ∀ x, x ≠ 0 → x ≠ 16 → x ≠ 17 → x ≠ 26 → zcnt υ 1 how 0 20 0 x = υ 20 0 x := fun x x0 x1 x2 x3 => by
      unfold zcnt
      rw [(zpt_fn (zsto (zsto υ 20 0 0 0) 20 0 17 1) 1 how 0).2.1 x x1 x3]
      simp (disch := omega) only [zwr_id, zT_lt, zF_lt, zT_le, zF_le, zT_eq, zF_eq, zT_neq, zF_neq, zT_nlt, zT_nle, and_true, true_and, and_false, false_and, and_self, or_true, true_or, or_false, false_or, or_self, not_true_eq_false, not_false_eq_true, ↓reduceIte, implies_true, true_imp_iff, false_imp_iff, zcall0, zcall1, zcall2, zcall3, zcall4, zsto_eq, zsto_ne, zsto_fn, zok13, zok6, zok15, znb_0, zrng_hit, zrng_ne, zrng_fn, zcpy_ne, zcpy_fn]
    have hzc0 : zcnt υ 1 how 0 20 0 0 = 0 := by
      unfold zcnt
      rw [(zpt_fn (zsto (zsto υ 20 0 0 0) 20 0 17 1) 1 how 0).2.1 0 (by decide) (by decide)]
      simp (disch := omega) only [zwr_id, zT_lt, zF_lt, zT_le, zF_le, zT_eq, zF_eq, zT_neq, zF_neq, zT_nlt, zT_nle, and_true, true_and, and_false, false_and, and_self, or_true, true_or, or_false, false_or, or_self, not_true_eq_false, not_false_eq_true, ↓reduceIte, implies_true, true_imp_iff, false_imp_iff, zcall0, zcall1, zcall2, zcall3, zcall4, zsto_eq, zsto_ne, zsto_fn, zok13, zok6, zok15, znb_0, zrng_hit, zrng_ne, zrng_fn, zcpy_ne, zcpy_fn]
    have hzcB : zSimB (zcnt υ 1 how 0) := by
      unfold zcnt
      exact (zpt_fn (zsto (zsto υ 20 0 0 0) 20 0 17 1) 1 how 0).2.2.1 (zSimB.sto (zSimB.sto υB (by omega)) (by omega))
    generalize hκ : zcnt υ 1 how 0 = κ at *
    have bk : ∀ k : Nat, k ≠ 20 → k ≠ 33 → k ≠ 34 → zsto κ 20 0 17 0 k = υ k := fun k k1 k2 k3 => by simp (disch := omega) only [zwr_id, zT_lt, zF_lt, zT_le, zF_le, zT_eq, zF_eq, zT_neq, zF_neq, zT_nlt, zT_nle, and_true, true_and, and_false, false_and, and_self, or_true, true_or, or_false, false_or, or_self, not_true_eq_false, not_false_eq_true, ↓reduceIte, implies_true, true_imp_iff, false_imp_iff, zcall0, zcall1, zcall2, zcall3, zcall4, zsto_eq, zsto_ne, zsto_fn, zok13, zok6, zok15, znb_0, zrng_hit, zrng_ne, zrng_fn, zcpy_ne, zcpy_fn]; exact hzc k k1 k2 k3
    have l21 : zsto κ 20 0 17 0 21 = σ 21 := (bk 21 (by decide) (by decide) (by decide)).trans (υσ 21 (by decide) (by decide) (by decide) (by decide) (by decide) (by decide) (by decide) (by decide) (by decide) (by decide))
    have l22 : zsto κ 20 0 17 0 22 = σ 22 := (bk 22 (by decide) (by decide) (by decide)).trans (υσ 22 (by decide) (by decide) (by decide) (by decide) (by decide) (by decide) (by decide) (by decide) (by decide) (by decide))
    have l23 : zsto κ 20 0 17 0 23 = σ 23 := (bk 23 (by decide) (by decide) (by decide)).trans (υσ 23 (by decide) (by decide) (by decide) (by decide) (by decide) (by decide) (by decide) (by decide) (by decide) (by decide))
    have l25 : zsto κ 20 0 17 0 25 = σ 25 := (bk 25 (by decide) (by decide) (by decide)).trans (υσ 25 (by decide) (by decide) (by decide) (by decide) (by decide) (by decide) (by decide) (by decide) (by decide) (by decide))
    have l26 : zsto κ 20 0 17 0 26 = σ 26 := (bk 26 (by decide) (by decide) (by decide)).trans (υσ 26 (by decide) (by decide) (by decide) (by decide) (by decide) (by decide) (by decide) (by decide) (by decide) (by decide))
    obtain ⟨n1, n2, n3, n4, n5, n6⟩ := hlen (zsto κ 20 0 17 0) l21 l22 l23 l25
    obtain ⟨k1, k2⟩ := hlock (zsto κ 20 0 17 0) l21 l22 l23 l25 l26
    obtain ⟨k3, k4⟩ := k2 (by omega)
    obtain ⟨g1, g2, g3, g4, g5, g6⟩ := zpt_fn (zsto κ 20 0 17 0) 1 how 0
    obtain ⟨q1, q2, q3, q4, q5, q6⟩ := zpt1_fn (zsto κ 20 0 17 0) 1 how 0
    have hzpa : zpa κ 1 how 0 = zmsv (zrmb (zpaC κ 1 how 0) 1 0) 1 := rfl
    generalize hP1 : zpt1 (zsto κ 20 0 17 0) 1 how 0 = π at *
    generalize hP : zpt (zsto κ 20 0 17 0) 1 how 0 = P at *
    have hC : zpaC κ 1 how 0 = zsto (zsto P 20 0 7 (P 20 0 16)) 20 0 9 0 := by unfold zpaC; rw [hP]
    have P17 : P 20 0 17 = 0 := by rw [g2 17 (by decide) (by decide), zsto_eq]
    rcases k1 with ⟨k5, k6, k7⟩ | ⟨k5, k6⟩
    · have k7 := k7 P17
      generalize hζ : zpaC κ 1 how 0 = ζ at *
      obtain ⟨m1, m2, m3⟩ := zrmb_fn ζ 1 0
      obtain ⟨o1, o2, o3, o4, o5, o6⟩ := zrmb_at ζ (w := 1) (r := 0)
      generalize hρ : zrmb ζ 1 0 = ρ at *
      obtain ⟨s1, s2, s3⟩ := zmsv_fn ρ
      rw [← hzpa] at s1 s2 s3
      generalize hμ : zpa κ 1 how 0 = μ at *
      have ζP : ∀ k : Nat, k ≠ 20 → ζ k = P k := fun k hk => by rw [hC]; simp (disch := omega) only [zwr_id, zT_lt, zF_lt, zT_le, zF_le, zT_eq, zF_eq, zT_neq, zF_neq, zT_nlt, zT_nle, and_true, true_and, and_false, false_and, and_self, or_true, true_or, or_false, false_or, or_self, not_true_eq_false, not_false_eq_true, ↓reduceIte, implies_true, true_imp_iff, false_imp_iff, zcall0, zcall1, zcall2, zcall3, zcall4, zsto_eq, zsto_ne, zsto_fn, zok13, zok6, zok15, znb_0, zrng_hit, zrng_ne, zrng_fn, zcpy_ne, zcpy_fn]
      have ζ20 : ∀ x, x ≠ 7 → x ≠ 9 → ζ 20 0 x = P 20 0 x := fun x x1 x2 => by rw [hC]; simp (disch := omega) only [zwr_id, zT_lt, zF_lt, zT_le, zF_le, zT_eq, zF_eq, zT_neq, zF_neq, zT_nlt, zT_nle, and_true, true_and, and_false, false_and, and_self, or_true, true_or, or_false, false_or, or_self, not_true_eq_false, not_false_eq_true, ↓reduceIte, implies_true, true_imp_iff, false_imp_iff, zcall0, zcall1, zcall2, zcall3, zcall4, zsto_eq, zsto_ne, zsto_fn, zok13, zok6, zok15, znb_0, zrng_hit, zrng_ne, zrng_fn, zcpy_ne, zcpy_fn]
      have ζ7 : ζ 20 0 7 = P 20 0 16 := by rw [hC]; simp (disch := omega) only [zwr_id, zT_lt, zF_lt, zT_le, zF_le, zT_eq, zF_eq, zT_neq, zF_neq, zT_nlt, zT_nle, and_true, true_and, and_false, false_and, and_self, or_true, true_or, or_false, false_or, or_self, not_true_eq_false, not_false_eq_true, ↓reduceIte, implies_true, true_imp_iff, false_imp_iff, zcall0, zcall1, zcall2, zcall3, zcall4, zsto_eq, zsto_ne, zsto_fn, zok13, zok6, zok15, znb_0, zrng_hit, zrng_ne, zrng_fn, zcpy_ne, zcpy_fn]
      have ζ9 : ζ 20 0 9 = 0 := by rw [hC]; simp (disch := omega) only [zwr_id, zT_lt, zF_lt, zT_le, zF_le, zT_eq, zF_eq, zT_neq, zF_neq, zT_nlt, zT_nle, and_true, true_and, and_false, false_and, and_self, or_true, true_or, or_false, false_or, or_self, not_true_eq_false, not_false_eq_true, ↓reduceIte, implies_true, true_imp_iff, false_imp_iff, zcall0, zcall1, zcall2, zcall3, zcall4, zsto_eq, zsto_ne, zsto_fn, zok13, zok6, zok15, znb_0, zrng_hit, zrng_ne, zrng_fn, zcpy_ne, zcpy_fn]
      have μυ : ∀ k : Nat, k < 20 ∨ k = 21 ∨ k = 22 ∨ k = 25 ∨ k = 26 ∨ 35 ≤ k → μ k = υ k := fun k hk => by
        rw [s1 k (by omega) (by omega), m1 k (by omega) (by omega) (by omega) (by omega) (by omega) (by omega), ζP k (by omega), g1 k (by omega) (by omega) (by omega) (by omega)]
        exact bk k (by omega) (by omega) (by omega)
      have μ20 : ∀ x, x ≠ 0 → x ≠ 7 → x ≠ 9 → x ≠ 10 → x ≠ 16 → x ≠ 17 → x ≠ 26 → μ 20 0 x = σ 20 0 x := fun x x0 x1 x2 x3 x4 x5 x6 => by
        rw [s1 20 (by decide) (by decide), m2 x x3, ζ20 x x1 x2, g2 x x4 x6, zsto_ne (by omega), hzc20 x x0 x4 x5 x6, υσ 20 (by decide) (by decide) (by decide) (by decide) (by decide) (by decide) (by decide) (by decide) (by decide) (by decide)]
      have μσ : ∀ k : Nat, k = 10 ∨ k = 14 ∨ k = 19 ∨ k = 21 ∨ k = 22 ∨ k = 25 ∨ k = 26 ∨ k = 36 ∨ k = 37 ∨ k = 39 → μ k = σ k := fun k hk => (μυ k (by omega)).trans (υσ k (by omega) (by omega) (by omega) (by omega) (by omega) (by omega) (by omega) (by omega) (by omega) (by omega))
      have μω : ∀ k : Nat, k < 18 ∨ k = 38 → μ k = ω k := fun k hk => (μυ k (by omega)).trans (υm k (by omega))
      have μ7 : μ 20 0 7 = P 20 0 16 := by rw [s1 20 (by decide) (by decide), m2 7 (by decide), ζ7]
      have μ9 : μ 20 0 9 = 0 := by rw [s1 20 (by decide) (by decide), m2 9 (by decide), ζ9]
      have μ10 : μ 20 0 10 = 1 := by rw [s1 20 (by decide) (by decide), m3]; rfl
      have μ0 : μ 20 0 0 = 0 := by rw [s1 20 (by decide) (by decide), m2 0 (by decide), ζ20 0 (by decide) (by decide), g2 0 (by decide) (by decide), zsto_ne (by omega), hzc0]
      have μ4 : ∀ x, μ 4 0 x = zbec δ 1 4 0 x := fun x => by rw [μω 4 (by omega), ω4]
      have μ13 : μ 13 = zbec δ 1 13 := by rw [μω 13 (by omega), ω13]
      have μ27 : μ 27 = P 27 := by rw [s1 27 (by decide) (by decide), m1 27 (by decide) (by decide) (by decide) (by decide) (by decide) (by decide), ζP 27 (by decide)]
      have μd : ∀ k : Nat, k = 6 ∨ k = 7 ∨ k = 15 ∨ k = 16 ∨ k = 17 → μ k = δ k := fun k hk => (μω k (by omega)).trans (ωk k (by omega) (by omega) (by omega) (by omega))
      have μ8 : ∀ x, μ 8 0 x = if x = 0 then r else σ 8 0 x := fun x => by
        rw [μω 8 (by omega), ← hω]
        unfold zwF
        by_cases hx : x = 0
        · subst hx; rw [if_pos rfl, zsto_eq]
        · rw [if_neg hx, zsto_ne (by omega), zsto_fn (by decide), b1 8 (by decide) (by decide), δ8]
      have μ38 : ∀ x, μ 38 0 x = if x = 0 then σ 8 0 0 else σ 38 0 x := fun x => by
        rw [μω 38 (by omega), ← hω]
        unfold zwF
        by_cases hx : x = 0
        · subst hx; rw [if_pos rfl, zsto_fn (by decide), zsto_eq, b1 8 (by decide) (by decide), δ8]
        · rw [if_neg hx, zsto_fn (by decide), zsto_ne (by omega), b1 38 (by decide) (by decide), δ38]
      refine zOp.give (τ := ω) (v := δ 6 s 1) (τ' := μ) ?_ ?_ ⟨?_, ?_, ?_, P 20 0 16, ?_, ?_⟩ ?_ ?_ μ0 ?_ (by omega)
      · rw [u_Z_write, e_Z_write_0_ok _ _ _ _ _ _ _ hwr]
        simp (disch := omega) only [zwr_id, zT_lt, zF_lt, zT_le, zF_le, zT_eq, zF_eq, zT_neq, zF_neq, zT_nlt, zT_nle, and_true, true_and, and_false, false_and, and_self, or_true, true_or, or_false, false_or, or_self, not_true_eq_false, not_false_eq_true, ↓reduceIte, implies_true, true_imp_iff, false_imp_iff, zcall0, zcall1, zcall2, zcall3, zcall4, zsto_eq, zsto_ne, zsto_fn, zok13, zok6, zok15, znb_0, zrng_hit, zrng_ne, zrng_fn, zcpy_ne, zcpy_fn]
      · rw [hυ, hm, μ7, k6]
      · refine s3 (o6 ?_)
        rw [hC]
        exact zSimB.sto (zSimB.sto (g3 (zSimB.sto hzcB (by omega))) (by omega)) (by omega)
      · intro n j1 j2
        obtain ⟨a1, a2, a3, a4, a5, a6, a7, a8, a9⟩ := hT n j1 j2
        have x1 : μ 13 n 1 = σ 13 n 1 := by rw [μ13, b2 n 1 (by decide) (by decide), δ13]
        have x2 : μ 13 n 2 = σ 13 n 2 := by rw [μ13, b2 n 2 (by decide) (by decide), δ13]
        have x3 : μ 13 n 3 = σ 13 n 3 := by rw [μ13, b2 n 3 (by decide) (by decide), δ13]
        have x4 : μ 13 n 4 = σ 13 n 2 := by rw [μ13, (b3 n j1 j2).1, δ13]
        have x5 : μ 13 n 5 = 0 := by rw [μ13, (b3 n j1 j2).2]
        have y21 : μ 21 0 n = σ 21 0 n := by rw [μσ 21 (by omega)]
        have y22 : μ 22 0 n = σ 22 0 n := by rw [μσ 22 (by omega)]
        have y25 : μ 25 0 n = σ 25 0 n := by rw [μσ 25 (by omega)]
        have y23 : μ 23 0 n = 0 := (s2 n j1 j2).1
        have y24 : μ 24 0 n = σ 21 0 n := by rw [(s2 n j1 j2).2, ← y21, s1 21 (by decide) (by decide)]
        refine ⟨by omega, by omega, by omega, by omega, by omega, by omega, by omega, by omega, fun q => ?_⟩
        obtain ⟨c1, c2, c3, c4, c5, c6⟩ := a9 (by omega)
        refine ⟨by omega, by omega, by omega, by omega, by omega, fun i i1 i2 => ?_⟩
        rw [μσ 26 (by omega), μσ 14 (by omega)]
        exact c6 i i1 (by omega)
      · exact hD.fn (fun k hk => by
          simp only [List.mem_cons, List.not_mem_nil, or_false] at hk
          exact μσ k (by omega)) (by rw [μ4, b9 9 (by decide) (by decide) (by decide) (by decide), δ4]) (μ20 28 (by decide) (by decide) (by decide) (by decide) (by decide) (by decide) (by decide)) (μ20 29 (by decide) (by decide) (by decide) (by decide) (by decide) (by decide) (by decide))
      · have z1 : μ 4 0 1 = s := by rw [μ4, b5, δ4, hs]
        have z2 : μ 4 0 2 = σ 4 0 1 := by rw [μ4, b6, δ4]
        have z3 : μ 4 0 3 = 0 := by rw [μ4, b7]
        unfold zSimF
        rw [z1, z2, z3, μd 6 (by omega), μd 7 (by omega), μ27, μ7, μ9]
        exact ⟨by omega, by omega, by omega, by omega, by omega, by omega, rfl, fun _ => by omega, k7⟩
      · have z6 : μ 4 0 6 = 1 := by rw [μ4, b8]
        refine ⟨by rw [μ10, z6], by omega, by omega, fun _ => by omega, fun k k0 kk => ?_, fun k k0 kk => ?_⟩
        · have := r5 k k0 kk
          rw [μ8, μ38]
          by_cases hk : k = 0
          · subst hk; rw [if_pos rfl, if_pos rfl]; omega
          · rw [if_neg hk, if_neg hk]; exact this
        · have hk : k = 0 := by omega
          subst hk
          have w28 : μ 28 0 0 = P 20 0 16 := by rw [s1 28 (by decide) (by decide), o3, ζ7]
          have w29 : μ 29 0 0 = P 20 0 26 := by rw [s1 29 (by decide) (by decide), o4, ζ20 26 (by decide) (by decide)]
          unfold zRv
          rw [μ8, if_pos rfl, μd 15 (by omega), w28, w29, e5, e6]
          refine ⟨by omega, by omega, by omega, by omega, by omega, by omega, fun n j1 j2 => ?_⟩
          obtain ⟨u1, u2, u3⟩ := o1 n j1 j2
          have P33 : P 33 = π 33 := by
            rw [← hP, ← hP1]
            unfold zpt
            rw [zsto_fn (by decide), (zme_fn _ _).2.1 33 (by decide) (by decide)]
          have P34 : P 34 = π 34 := by
            rw [← hP, ← hP1]
            unfold zpt
            rw [zsto_fn (by decide), (zme_fn _ _).2.1 34 (by decide) (by decide)]
          have ζ21 : ζ 21 = σ 21 := by rw [ζP 21 (by decide), g1 21 (by decide) (by decide) (by decide) (by decide)]; exact l21
          have ζ25 : ζ 25 = σ 25 := by rw [ζP 25 (by decide), g1 25 (by decide) (by decide) (by decide) (by decide)]; exact l25
          have π25 : π 25 = σ 25 := by rw [q1 25 (by decide) (by decide) (by decide) (by decide)]; exact l25
          have hx0 : 41 * (0 : Int) + n - 41 * 0 = n := by omega
          have hme : zmean ζ 1 n = σ 21 0 n := by show ζ 21 0 n = _; rw [ζ21]
          have w30 := (s1 30 (by decide) (by decide))
          have w31 := (s1 31 (by decide) (by decide))
          have w32 := (s1 32 (by decide) (by decide))
          have ht := (hT n j1 j2).1
          have ht2 := (hT n j1 j2).2.1
          have x16 : μ 16 r n = τ 16 r n := by rw [μd 16 (by omega), e1 16 (by decide) (by decide) (by decide)]
          have x17 : μ 17 r n = τ 17 r n := by rw [μd 17 (by omega), e1 17 (by decide) (by decide) (by decide)]
          unfold zPl
          rw [w30, w31, w32, u1, u2, u3, x16, x17]
          unfold zfA zfB zfC
          rw [hx0, hme, ζ21, ζ25]
          by_cases hq : σ 21 0 n = 0
          · left
            refine ⟨d5 n (fun hm => ?_) (by omega) j2, by rw [if_pos hq, if_neg (by decide)]⟩
            have := (znl_mem hT.bs hh).mp hm
            exact this.2.2.2 hq
          · right
            have hmem : n ∈ znl σ 1 how := (znl_mem hT.bs hh).mpr ⟨j1, j2, hq, hq⟩
            obtain ⟨v1, v2, v3, v4, v5⟩ := k4 n hmem
            have hsz25 := ((hT n j1 j2).2.2.2.2.2.2.2.2 (by omega))
            rw [if_neg hq, if_neg hq, if_neg hq, if_neg hq, ζP 33 (by decide), ζP 34 (by decide), P33, P34]
            rw [π25] at v3 v4 v5
            refine ⟨v2, v1.symm, v3.symm, by omega, by omega, ?_, ?_⟩
            · rw [v4, v1, v3]
            · rw [v3]; omega
      · exact μσ 19 (by omega)
      · rw [μσ 39 (by omega)]; exact Int.le_refl _
      · rw [μυ 18 (by omega), ← hυ, zsto_eq]
    · omega
  · have hf : f_W_write [(4, 0), (0, how)] σ = some (2, 0, zth σ) := by
      rw [u_W_write, e_W_write_0]
      by_cases h1 : how < 0
      · simp (disch := omega) only [e_W_write_13, e_W_write_14, w_want0, zwr_id, zT_lt, zF_lt, zT_le, zF_le, zT_eq, zF_eq, zT_neq, zF_neq, zT_nlt, zT_nle, and_true, true_and, and_false, false_and, and_self, or_true, true_or, or_false, false_or, or_self, not_true_eq_false, not_false_eq_true, ↓reduceIte, implies_true, true_imp_iff, false_imp_iff, zcall0, zcall1, zcall2, zcall3, zcall4, zsto_eq, zsto_ne, zsto_fn, zok13, zok6, zok15, znb_0, zrng_hit, zrng_ne, zrng_fn, zcpy_ne, zcpy_fn]
      · simp (disch := omega) only [e_W_write_13, e_W_write_14, w_want0, zwr_id, zT_lt, zF_lt, zT_le, zF_le, zT_eq, zF_eq, zT_neq, zF_neq, zT_nlt, zT_nle, and_true, true_and, and_false, false_and, and_self, or_true, true_or, or_false, false_or, or_self, not_true_eq_false, not_false_eq_true, ↓reduceIte, implies_true, true_imp_iff, false_imp_iff, zcall0, zcall1, zcall2, zcall3, zcall4, zsto_eq, zsto_ne, zsto_fn, zok13, zok6, zok15, znb_0, zrng_hit, zrng_ne, zrng_fn, zcpy_ne, zcpy_fn]
    exact zOp.refuse hS (c := 1) (by omega) (by rw [u_Z_write, e_Z_write_0_x1 _ _ _ _ _ _ _ hf]) (m_write0 _ hw hh)
