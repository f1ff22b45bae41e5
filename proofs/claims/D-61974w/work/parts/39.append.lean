/-! append, the class's side -/
theorem r_copy (σ : ZT) {s f n : Int} (hn : 0 ≤ n ∧ n ≤ 12000) : f_R_copy [(6, s), (6, f), (0, n)] σ = some (0, 0, zsto (zcpy σ 7 f 0 7 s 0 n) 6 s 1 n) := by
  have h := zcopyf_ok (σ := σ) (k := 7) (k1 := 7) (i := f) (i1 := s) (sp := 0) (dp := 0) (n := n) (by decide) (by show 0 ≤ (0 : Int) ∧ 0 ≤ (0 : Int) ∧ 0 ≤ n ∧ 0 + n ≤ 12001 ∧ 0 + n ≤ 12001; omega) (by omega)
  rw [u_R_copy, e_R_copy_0, h, zcall0]
theorem v_become (σ : ZT) (r q : Int) : f_V_become [(15, r), (15, q)] σ = some (0, 0, zcpy (zcpy σ 16 q 0 16 r 0 41) 17 q 0 17 r 0 41) := by
  have h1 := zcopyf_ok (σ := σ) (k := 16) (k1 := 16) (i := q) (i1 := r) (sp := 0) (dp := 0) (n := 41) (by decide) (by show 0 ≤ (0 : Int) ∧ 0 ≤ (0 : Int) ∧ 0 ≤ (41 : Int) ∧ (0 : Int) + 41 ≤ 41 ∧ (0 : Int) + 41 ≤ 41; omega) (by omega)
  have h2 := zcopyf_ok (σ := zcpy σ 16 q 0 16 r 0 41) (k := 17) (k1 := 17) (i := q) (i1 := r) (sp := 0) (dp := 0) (n := 41) (by decide) (by show 0 ≤ (0 : Int) ∧ 0 ≤ (0 : Int) ∧ 0 ≤ (41 : Int) ∧ (0 : Int) + 41 ≤ 41 ∧ (0 : Int) + 41 ≤ 41; omega) (by omega)
  rw [u_V_become, e_V_become_0, h1, zcall0, h2, zcall0]
/-- one object at an append -/
def zap1 (σ : ZT) (s r n : Int) : ZT := if σ 23 0 n = 0 then σ else if σ 13 n 2 = 0 then zsto σ 16 r n 0 else zwr1 (zsto σ 16 r n 0) s r n
def zaps (s r : Int) : Nat → Int → ZT → ZT
  | 0, _, σ => σ
  | m + 1, n, σ => zaps s r m (n + 1) (zap1 σ s r n)
theorem zap1_fn (σ : ZT) {s r n : Int} (h : zSz σ s) : (∀ k : Nat, k ≠ 6 → k ≠ 7 → k ≠ 16 → k ≠ 17 → zap1 σ s r n k = σ k) ∧ zSz (zap1 σ s r n) s ∧ (∀ j, j ≠ s → zap1 σ s r n 6 j = σ 6 j ∧ zap1 σ s r n 7 j = σ 7 j) ∧ (∀ j, j ≠ r → zap1 σ s r n 16 j = σ 16 j ∧ zap1 σ s r n 17 j = σ 17 j) ∧ (zSimB σ → zSimB (zap1 σ s r n)) ∧ (∀ m, m ≠ n → zap1 σ s r n 16 r m = σ 16 r m ∧ zap1 σ s r n 17 r m = σ 17 r m) ∧ (σ 23 0 n = 0 → zap1 σ s r n = σ) := by
  have h' : zSz (zsto σ 16 r n 0) s := by unfold zSz; rw [zsto_fn (by decide)]; exact h
  obtain ⟨a1, a2, a3, a4, a5, a6, a7, a8⟩ := zwr1_fn (zsto σ 16 r n 0) (s := s) (r := r) (n := n) h'
  unfold zap1
  by_cases h1 : σ 23 0 n = 0
  · rw [if_pos h1]
    exact ⟨fun _ _ _ _ _ => rfl, h, fun _ _ => ⟨rfl, rfl⟩, fun _ _ => ⟨rfl, rfl⟩, fun h => h, fun _ _ => ⟨rfl, rfl⟩, fun _ => rfl⟩
  · rw [if_neg h1]
    by_cases h2 : σ 13 n 2 = 0
    · rw [if_pos h2]
      refine ⟨fun k k1 k2 k3 k4 => by simp (disch := omega) only [zwr_id, zT_lt, zF_lt, zT_le, zF_le, zT_eq, zF_eq, zT_neq, zF_neq, zT_nlt, zT_nle, and_true, true_and, and_false, false_and, and_self, or_true, true_or, or_false, false_or, or_self, not_true_eq_false, not_false_eq_true, ↓reduceIte, implies_true, true_imp_iff, false_imp_iff, zcall0, zcall1, zcall2, zcall3, zcall4, zsto_eq, zsto_ne, zsto_fn, zok13, zok6, zok15, znb_0, zrng_hit, zrng_ne, zrng_fn, zcpy_ne, zcpy_fn], h', fun j hj => ⟨by simp (disch := omega) only [zwr_id, zT_lt, zF_lt, zT_le, zF_le, zT_eq, zF_eq, zT_neq, zF_neq, zT_nlt, zT_nle, and_true, true_and, and_false, false_and, and_self, or_true, true_or, or_false, false_or, or_self, not_true_eq_false, not_false_eq_true, ↓reduceIte, implies_true, true_imp_iff, false_imp_iff, zcall0, zcall1, zcall2, zcall3, zcall4, zsto_eq, zsto_ne, zsto_fn, zok13, zok6, zok15, znb_0, zrng_hit, zrng_ne, zrng_fn, zcpy_ne, zcpy_fn], by simp (disch := omega) only [zwr_id, zT_lt, zF_lt, zT_le, zF_le, zT_eq, zF_eq, zT_neq, zF_neq, zT_nlt, zT_nle, and_true, true_and, and_false, false_and, and_self, or_true, true_or, or_false, false_or, or_self, not_true_eq_false, not_false_eq_true, ↓reduceIte, implies_true, true_imp_iff, false_imp_iff, zcall0, zcall1, zcall2, zcall3, zcall4, zsto_eq, zsto_ne, zsto_fn, zok13, zok6, zok15, znb_0, zrng_hit, zrng_ne, zrng_fn, zcpy_ne, zcpy_fn]⟩, fun j hj => ⟨?_, by simp (disch := omega) only [zwr_id, zT_lt, zF_lt, zT_le, zF_le, zT_eq, zF_eq, zT_neq, zF_neq, zT_nlt, zT_nle, and_true, true_and, and_false, false_and, and_self, or_true, true_or, or_false, false_or, or_self, not_true_eq_false, not_false_eq_true, ↓reduceIte, implies_true, true_imp_iff, false_imp_iff, zcall0, zcall1, zcall2, zcall3, zcall4, zsto_eq, zsto_ne, zsto_fn, zok13, zok6, zok15, znb_0, zrng_hit, zrng_ne, zrng_fn, zcpy_ne, zcpy_fn]⟩, fun hB => zSimB.sto hB (by omega), fun m hm => ⟨by simp (disch := omega) only [zwr_id, zT_lt, zF_lt, zT_le, zF_le, zT_eq, zF_eq, zT_neq, zF_neq, zT_nlt, zT_nle, and_true, true_and, and_false, false_and, and_self, or_true, true_or, or_false, false_or, or_self, not_true_eq_false, not_false_eq_true, ↓reduceIte, implies_true, true_imp_iff, false_imp_iff, zcall0, zcall1, zcall2, zcall3, zcall4, zsto_eq, zsto_ne, zsto_fn, zok13, zok6, zok15, znb_0, zrng_hit, zrng_ne, zrng_fn, zcpy_ne, zcpy_fn], by simp (disch := omega) only [zwr_id, zT_lt, zF_lt, zT_le, zF_le, zT_eq, zF_eq, zT_neq, zF_neq, zT_nlt, zT_nle, and_true, true_and, and_false, false_and, and_self, or_true, true_or, or_false, false_or, or_self, not_true_eq_false, not_false_eq_true, ↓reduceIte, implies_true, true_imp_iff, false_imp_iff, zcall0, zcall1, zcall2, zcall3, zcall4, zsto_eq, zsto_ne, zsto_fn, zok13, zok6, zok15, znb_0, zrng_hit, zrng_ne, zrng_fn, zcpy_ne, zcpy_fn]⟩, fun q => absurd q h1⟩
      funext x
      simp (disch := omega) only [zwr_id, zT_lt, zF_lt, zT_le, zF_le, zT_eq, zF_eq, zT_neq, zF_neq, zT_nlt, zT_nle, and_true, true_and, and_false, false_and, and_self, or_true, true_or, or_false, false_or, or_self, not_true_eq_false, not_false_eq_true, ↓reduceIte, implies_true, true_imp_iff, false_imp_iff, zcall0, zcall1, zcall2, zcall3, zcall4, zsto_eq, zsto_ne, zsto_fn, zok13, zok6, zok15, znb_0, zrng_hit, zrng_ne, zrng_fn, zcpy_ne, zcpy_fn]
    · rw [if_neg h2]
      refine ⟨fun k k1 k2 k3 k4 => ?_, a4, fun j hj => ⟨?_, ?_⟩, fun j hj => ⟨?_, ?_⟩, fun hB => a8 (zSimB.sto hB (by omega)), fun m hm => ⟨?_, ?_⟩, fun q => absurd q h1⟩
      · rw [a1 k k1 k2 k3 k4]; simp (disch := omega) only [zwr_id, zT_lt, zF_lt, zT_le, zF_le, zT_eq, zF_eq, zT_neq, zF_neq, zT_nlt, zT_nle, and_true, true_and, and_false, false_and, and_self, or_true, true_or, or_false, false_or, or_self, not_true_eq_false, not_false_eq_true, ↓reduceIte, implies_true, true_imp_iff, false_imp_iff, zcall0, zcall1, zcall2, zcall3, zcall4, zsto_eq, zsto_ne, zsto_fn, zok13, zok6, zok15, znb_0, zrng_hit, zrng_ne, zrng_fn, zcpy_ne, zcpy_fn]
      · rw [(a6 j hj).1]; simp (disch := omega) only [zwr_id, zT_lt, zF_lt, zT_le, zF_le, zT_eq, zF_eq, zT_neq, zF_neq, zT_nlt, zT_nle, and_true, true_and, and_false, false_and, and_self, or_true, true_or, or_false, false_or, or_self, not_true_eq_false, not_false_eq_true, ↓reduceIte, implies_true, true_imp_iff, false_imp_iff, zcall0, zcall1, zcall2, zcall3, zcall4, zsto_eq, zsto_ne, zsto_fn, zok13, zok6, zok15, znb_0, zrng_hit, zrng_ne, zrng_fn, zcpy_ne, zcpy_fn]
      · rw [(a6 j hj).2]; simp (disch := omega) only [zwr_id, zT_lt, zF_lt, zT_le, zF_le, zT_eq, zF_eq, zT_neq, zF_neq, zT_nlt, zT_nle, and_true, true_and, and_false, false_and, and_self, or_true, true_or, or_false, false_or, or_self, not_true_eq_false, not_false_eq_true, ↓reduceIte, implies_true, true_imp_iff, false_imp_iff, zcall0, zcall1, zcall2, zcall3, zcall4, zsto_eq, zsto_ne, zsto_fn, zok13, zok6, zok15, znb_0, zrng_hit, zrng_ne, zrng_fn, zcpy_ne, zcpy_fn]
      · rw [a2]; funext x; simp (disch := omega) only [zwr_id, zT_lt, zF_lt, zT_le, zF_le, zT_eq, zF_eq, zT_neq, zF_neq, zT_nlt, zT_nle, and_true, true_and, and_false, false_and, and_self, or_true, true_or, or_false, false_or, or_self, not_true_eq_false, not_false_eq_true, ↓reduceIte, implies_true, true_imp_iff, false_imp_iff, zcall0, zcall1, zcall2, zcall3, zcall4, zsto_eq, zsto_ne, zsto_fn, zok13, zok6, zok15, znb_0, zrng_hit, zrng_ne, zrng_fn, zcpy_ne, zcpy_fn]
      · rw [a3]; funext x; simp (disch := omega) only [zwr_id, zT_lt, zF_lt, zT_le, zF_le, zT_eq, zF_eq, zT_neq, zF_neq, zT_nlt, zT_nle, and_true, true_and, and_false, false_and, and_self, or_true, true_or, or_false, false_or, or_self, not_true_eq_false, not_false_eq_true, ↓reduceIte, implies_true, true_imp_iff, false_imp_iff, zcall0, zcall1, zcall2, zcall3, zcall4, zsto_eq, zsto_ne, zsto_fn, zok13, zok6, zok15, znb_0, zrng_hit, zrng_ne, zrng_fn, zcpy_ne, zcpy_fn]
      · rw [a2]; simp (disch := omega) only [zwr_id, zT_lt, zF_lt, zT_le, zF_le, zT_eq, zF_eq, zT_neq, zF_neq, zT_nlt, zT_nle, and_true, true_and, and_false, false_and, and_self, or_true, true_or, or_false, false_or, or_self, not_true_eq_false, not_false_eq_true, ↓reduceIte, implies_true, true_imp_iff, false_imp_iff, zcall0, zcall1, zcall2, zcall3, zcall4, zsto_eq, zsto_ne, zsto_fn, zok13, zok6, zok15, znb_0, zrng_hit, zrng_ne, zrng_fn, zcpy_ne, zcpy_fn]
      · rw [a3]; simp (disch := omega) only [zwr_id, zT_lt, zF_lt, zT_le, zF_le, zT_eq, zF_eq, zT_neq, zF_neq, zT_nlt, zT_nle, and_true, true_and, and_false, false_and, and_self, or_true, true_or, or_false, false_or, or_self, not_true_eq_false, not_false_eq_true, ↓reduceIte, implies_true, true_imp_iff, false_imp_iff, zcall0, zcall1, zcall2, zcall3, zcall4, zsto_eq, zsto_ne, zsto_fn, zok13, zok6, zok15, znb_0, zrng_hit, zrng_ne, zrng_fn, zcpy_ne, zcpy_fn]
theorem zaps_fn (s r : Int) : ∀ (m : Nat) (n : Int) (σ : ZT), zSz σ s → (∀ k : Nat, k ≠ 6 → k ≠ 7 → k ≠ 16 → k ≠ 17 → zaps s r m n σ k = σ k) ∧ zSz (zaps s r m n σ) s ∧ (∀ j, j ≠ s → zaps s r m n σ 6 j = σ 6 j ∧ zaps s r m n σ 7 j = σ 7 j) ∧ (∀ j, j ≠ r → zaps s r m n σ 16 j = σ 16 j ∧ zaps s r m n σ 17 j = σ 17 j) ∧ (zSimB σ → zSimB (zaps s r m n σ)) ∧ (∀ x, x < n → zaps s r m n σ 16 r x = σ 16 r x ∧ zaps s r m n σ 17 r x = σ 17 r x) ∧ (∀ x, σ 23 0 x = 0 → zaps s r m n σ 16 r x = σ 16 r x ∧ zaps s r m n σ 17 r x = σ 17 r x)
  | 0, _, σ, h => ⟨fun _ _ _ _ _ => rfl, h, fun _ _ => ⟨rfl, rfl⟩, fun _ _ => ⟨rfl, rfl⟩, fun h => h, fun _ _ => ⟨rfl, rfl⟩, fun _ _ => ⟨rfl, rfl⟩⟩
  | m + 1, n, σ, h => by
    obtain ⟨a1, a2, a3, a4, a5, a6, a7⟩ := zap1_fn σ (s := s) (r := r) (n := n) h
    obtain ⟨c1, c2, c3, c4, c5, c6, c7⟩ := zaps_fn s r m (n + 1) (zap1 σ s r n) a2
    refine ⟨fun k k1 k2 k3 k4 => (c1 k k1 k2 k3 k4).trans (a1 k k1 k2 k3 k4), c2, fun j hj => ⟨(c3 j hj).1.trans (a3 j hj).1, (c3 j hj).2.trans (a3 j hj).2⟩, fun j hj => ⟨(c4 j hj).1.trans (a4 j hj).1, (c4 j hj).2.trans (a4 j hj).2⟩, fun hB => c5 (a5 hB), fun x hx => ?_, fun x hx => ?_⟩
    · exact ⟨(c6 x (by omega)).1.trans (a6 x (by omega)).1, (c6 x (by omega)).2.trans (a6 x (by omega)).2⟩
    · have e := c7 x (by rw [a1 23 (by decide) (by decide) (by decide) (by decide)]; exact hx)
      show zaps s r m (n + 1) (zap1 σ s r n) 16 r x = _ ∧ zaps s r m (n + 1) (zap1 σ s r n) 17 r x = _
      rw [e.1, e.2]
      by_cases hxn : x = n
      · subst hxn
        rw [a7 hx]
        exact ⟨rfl, rfl⟩
      · exact a6 x hxn
theorem w_append_loop {s r h0 : Int} (hs : 0 ≤ s ∧ s < 2) : ∀ (m : Nat) (n : Int) (σ : ZT), zSimT σ → zSz σ s → σ 4 0 2 = s → 1 ≤ n → 41 - n = m → zrun C_W_append (98, [(4, 0), (0, h0), (15, r), (0, n)], [], σ) = zrun C_W_append (98, [(4, 0), (0, h0), (15, r), (0, 41)], [], zaps s r m n σ)
  | 0, n, σ, hT, h, h4, h1, hm => by
    have : n = 41 := by omega
    subst this
    rfl
  | m + 1, n, σ, hT, h, h4, h1, hm => by
    have hTn := hT n h1 (by omega)
    have hch := hTn.ch
    have ht := hTn.1
    obtain ⟨a1, a2, a3, a4, a5, a6, a7⟩ := zap1_fn σ (s := s) (r := r) (n := n) h
    have ih := w_append_loop (r := r) (h0 := h0) hs m (n + 1) (zap1 σ s r n) (hT.fn fun k hk => by
      simp only [List.mem_cons, List.not_mem_nil, or_false] at hk
      exact a1 k (by omega) (by omega) (by omega) (by omega)) a2 (by rw [a1 4 (by decide) (by decide) (by decide) (by decide)]; exact h4) (by omega) (by omega)
    show _ = zrun C_W_append (98, [(4, 0), (0, h0), (15, r), (0, 41)], [], zaps s r m (n + 1) (zap1 σ s r n))
    rw [← ih, e_W_append_98]
    unfold zap1
    rcases hch with hch | hch
    · rw [if_pos hch]
      simp (disch := omega) only [t_isChanged σ hTn, e_W_append_144, zwr_id, zT_lt, zF_lt, zT_le, zF_le, zT_eq, zF_eq, zT_neq, zF_neq, zT_nlt, zT_nle, and_true, true_and, and_false, false_and, and_self, or_true, true_or, or_false, false_or, or_self, not_true_eq_false, not_false_eq_true, ↓reduceIte, implies_true, true_imp_iff, false_imp_iff, zcall0, zcall1, zcall2, zcall3, zcall4, zsto_eq, zsto_ne, zsto_fn, zok13, zok6, zok15, znb_0, zrng_hit, zrng_ne, zrng_fn, zcpy_ne, zcpy_fn]
    · rw [if_neg (show ¬ σ 23 0 n = 0 by omega)]
      rcases ht with ht | ht
      · rw [if_pos ht]
        simp (disch := omega) only [t_isChanged σ hTn, e_W_append_144, zwr_id, zT_lt, zF_lt, zT_le, zF_le, zT_eq, zF_eq, zT_neq, zF_neq, zT_nlt, zT_nle, and_true, true_and, and_false, false_and, and_self, or_true, true_or, or_false, false_or, or_self, not_true_eq_false, not_false_eq_true, ↓reduceIte, implies_true, true_imp_iff, false_imp_iff, zcall0, zcall1, zcall2, zcall3, zcall4, zsto_eq, zsto_ne, zsto_fn, zok13, zok6, zok15, znb_0, zrng_hit, zrng_ne, zrng_fn, zcpy_ne, zcpy_fn]
      · rw [if_neg (show ¬ σ 13 n 2 = 0 by omega)]
        have h9 := hTn.2.2.2.2.2.2.2.2 ht
        have hrec := w_putRecord (zsto σ 16 r n 0) (n := n) (r := r) (s := s) ⟨h1, by omega⟩ hs (by rw [zsto_fn (by decide)]; exact h4) (by rw [zsto_fn (by decide)]; omega) (by unfold zSz; rw [zsto_fn (by decide)]; exact h)
        simp (disch := omega) only [t_isChanged σ hTn, e_W_append_144, hrec, zwr_id, zT_lt, zF_lt, zT_le, zF_le, zT_eq, zF_eq, zT_neq, zF_neq, zT_nlt, zT_nle, and_true, true_and, and_false, false_and, and_self, or_true, true_or, or_false, false_or, or_self, not_true_eq_false, not_false_eq_true, ↓reduceIte, implies_true, true_imp_iff, false_imp_iff, zcall0, zcall1, zcall2, zcall3, zcall4, zsto_eq, zsto_ne, zsto_fn, zok13, zok6, zok15, znb_0, zrng_hit, zrng_ne, zrng_fn, zcpy_ne, zcpy_fn]
