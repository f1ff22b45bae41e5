/-! append: the class's records and the reference's are alike -/
theorem zaps_lock {s r : Int} {f : Int → Int} : ∀ (m : Nat) (n : Int) (σ υ : ZT), zLk σ υ s → zSz σ s → 0 < υ 20 0 16 → (∀ j, 1 ≤ j → j ≤ 40 → σ 13 j 2 = 1 → zTw σ υ j) → (∀ j, 1 ≤ j → j ≤ 40 → σ 13 j 2 = 0 ∨ σ 13 j 2 = 1) → (∀ j, 1 ≤ j → j ≤ 40 → (f j = 0 ↔ σ 23 0 j = 0 ∨ σ 13 j 2 = 0)) → 1 ≤ n → 41 - n = m → (υ 20 0 16 ≤ 12000 → ∀ j, 1 ≤ j → j < n → σ 23 0 j ≠ 0 → σ 13 j 2 = 1 → zLn σ υ r j) → (∀ j, 1 ≤ j → j < n → σ 23 0 j ≠ 0 → σ 13 j 2 = 0 → σ 16 r j = 0) → zLk (zaps s r m n σ) (zmrs υ (zin f m n)) s ∧ (zmrs υ (zin f m n) 20 0 16 ≤ 12000 → ∀ j, 1 ≤ j → j ≤ 40 → σ 23 0 j ≠ 0 → σ 13 j 2 = 1 → zLn (zaps s r m n σ) (zmrs υ (zin f m n)) r j) ∧ (∀ j, 1 ≤ j → j ≤ 40 → σ 23 0 j ≠ 0 → σ 13 j 2 = 0 → zaps s r m n σ 16 r j = 0)
  | 0, n, σ, υ, hL, hz, h0, hw, ht, hf, h1, hm, hA, hG => ⟨hL, fun q j j1 j2 => hA q j j1 (by omega), fun j j1 j2 => hG j j1 (by omega)⟩
  | m + 1, n, σ, υ, hL, hz, h0, hw, ht, hf, h1, hm, hA, hG => by
    have hfn := hf n h1 (by omega)
    by_cases hc : σ 23 0 n = 0
    · have e : zap1 σ s r n = σ := by unfold zap1; rw [if_pos hc]
      rw [zaps, zin, if_pos (hfn.mpr (Or.inl hc)), List.nil_append, e]
      refine zaps_lock m (n + 1) σ υ hL hz h0 hw ht hf (by omega) (by omega) (fun q j j1 j2 q1 q2 => hA q j j1 ?_ q1 q2) (fun j j1 j2 q1 q2 => hG j j1 ?_ q1 q2)
      · by_cases hj : j = n
        · subst hj; exact absurd hc q1
        · omega
      · by_cases hj : j = n
        · subst hj; exact absurd hc q1
        · omega
    · have g : ∀ k : Nat, k ≠ 16 → zsto σ 16 r n 0 k = σ k := fun k hk => zsto_fn hk
      have L' : zLk (zsto σ 16 r n 0) υ s := hL.congr (g 6 (by decide)) (g 7 (by decide)) rfl rfl
      have Z' : zSz (zsto σ 16 r n 0) s := by unfold zSz; rw [g 6 (by decide)]; exact hz
      have W' : ∀ j, 1 ≤ j → j ≤ 40 → σ 13 j 2 = 1 → zTw (zsto σ 16 r n 0) υ j := fun j j1 j2 q => by
        have := hw j j1 j2 q
        unfold zTw at this ⊢
        rw [g 13 (by decide), g 14 (by decide)]
        exact this
      have A' : υ 20 0 16 ≤ 12000 → ∀ j, 1 ≤ j → j < n → σ 23 0 j ≠ 0 → σ 13 j 2 = 1 → zLn (zsto σ 16 r n 0) υ r j := fun q j j1 j2 q1 q2 => by
        have := hA q j j1 j2 q1 q2
        unfold zLn at this ⊢
        rw [zsto_ne (show ¬ (16 = 16 ∧ r = r ∧ j = n) by omega), g 17 (by decide)]
        exact this
      by_cases hg : σ 13 n 2 = 0
      · have e : zap1 σ s r n = zsto σ 16 r n 0 := by unfold zap1; rw [if_neg hc, if_pos hg]
        rw [zaps, zin, if_pos (hfn.mpr (Or.inr hg)), List.nil_append, e]
        have ih := zaps_lock (s := s) (r := r) (f := f) m (n + 1) (zsto σ 16 r n 0) υ L' Z' h0 (by rw [g 13 (by decide)]; exact W') (by rw [g 13 (by decide)]; exact ht) (by rw [g 13 (by decide), g 23 (by decide)]; exact hf) (by omega) (by omega) (by
          rw [g 13 (by decide), g 23 (by decide)]
          intro q j j1 j2 q1 q2
          refine A' q j j1 ?_ q1 q2
          by_cases hj : j = n
          · subst hj; omega
          · omega) (by
          rw [g 13 (by decide), g 23 (by decide)]
          intro j j1 j2 q1 q2
          by_cases hj : j = n
          · subst hj; exact zsto_eq
          · rw [zsto_ne (by omega)]; exact hG j j1 (by omega) q1 q2)
        rw [g 13 (by decide), g 23 (by decide)] at ih
        exact ih
      · have hn1 : σ 13 n 2 = 1 := by have := ht n h1 (by omega); omega
        have e : zap1 σ s r n = zwr1 (zsto σ 16 r n 0) s r n := by unfold zap1; rw [if_neg hc, if_neg hg]
        have hfz : ¬ f n = 0 := fun q => by rcases hfn.mp q with q | q <;> omega
        have e2 : zmrs υ ([n] ++ zin f m (n + 1)) = zmrs (zmr υ n) (zin f m (n + 1)) := rfl
        rw [zaps, zin, if_neg hfz, e, e2]
        obtain ⟨c1, c2, c3, c4, c5, c6, c7, c8⟩ := zwr1_fn (zsto σ 16 r n 0) (s := s) (r := r) (n := n) Z'
        have e16 := (zmr_fn υ n).2.2.1
        have d13 : zwr1 (zsto σ 16 r n 0) s r n 13 = σ 13 := (c1 13 (by decide) (by decide) (by decide) (by decide)).trans (g 13 (by decide))
        have d23 : zwr1 (zsto σ 16 r n 0) s r n 23 = σ 23 := (c1 23 (by decide) (by decide) (by decide) (by decide)).trans (g 23 (by decide))
        have ih := zaps_lock (s := s) (r := r) (f := f) m (n + 1) (zwr1 (zsto σ 16 r n 0) s r n) (zmr υ n) (L'.rec (r := r) Z' (by omega) ⟨h1, by omega⟩ (W' n h1 (by omega) hn1)) c4 (by omega) (by
          rw [d13]
          exact fun j j1 j2 q => (W' j j1 j2 q).keep Z') (by rw [d13]; exact ht) (by rw [d13, d23]; exact hf) (by omega) (by omega) (by
          rw [d13, d23]
          intro q j j1 j2 q1 q2
          by_cases hj : j = n
          · subst hj
            exact zLn.rec L' Z' h0 ⟨h1, by omega⟩ (W' j h1 (by omega) hn1) q
          · exact (A' (by omega) j j1 (by omega) q1 q2).keep Z' hj) (by
          rw [d13, d23, c2]
          intro j j1 j2 q1 q2
          by_cases hj : j = n
          · subst hj; omega
          · rw [zsto_ne (by omega), zsto_ne (by omega)]; exact hG j j1 (by omega) q1 q2)
        rw [d13, d23] at ih
        exact ih
/-- the class's store before an append's records -/
def zpB (σ : ZT) (f s r q had : Int) : ZT := zcpy (zcpy (zsto (zcpy σ 7 f 0 7 s 0 had) 6 s 1 had) 16 q 0 16 r 0 41) 17 q 0 17 r 0 41
theorem zpB_fn (σ : ZT) (f s r q had : Int) : (∀ k : Nat, k ≠ 6 → k ≠ 7 → k ≠ 16 → k ≠ 17 → zpB σ f s r q had k = σ k) ∧ (∀ j, j ≠ s → zpB σ f s r q had 6 j = σ 6 j ∧ zpB σ f s r q had 7 j = σ 7 j) ∧ zpB σ f s r q had 6 s 1 = had ∧ (∀ j, 0 ≤ j → j < had → zpB σ f s r q had 7 s j = σ 7 f j) ∧ (∀ j, j ≠ r → zpB σ f s r q had 16 j = σ 16 j ∧ zpB σ f s r q had 17 j = σ 17 j) ∧ (∀ n, 0 ≤ n → n ≤ 40 → zpB σ f s r q had 16 r n = σ 16 q n ∧ zpB σ f s r q had 17 r n = σ 17 q n) ∧ (zSimB σ → zSimB (zpB σ f s r q had)) := by
  unfold zpB
  refine ⟨fun k k1 k2 k3 k4 => by simp (disch := omega) only [zwr_id, zT_lt, zF_lt, zT_le, zF_le, zT_eq, zF_eq, zT_neq, zF_neq, zT_nlt, zT_nle, and_true, true_and, and_false, false_and, and_self, or_true, true_or, or_false, false_or, or_self, not_true_eq_false, not_false_eq_true, ↓reduceIte, implies_true, true_imp_iff, false_imp_iff, zcall0, zcall1, zcall2, zcall3, zcall4, zsto_eq, zsto_ne, zsto_fn, zok13, zok6, zok15, znb_0, zrng_hit, zrng_ne, zrng_fn, zcpy_ne, zcpy_fn], fun j hj => ⟨?_, ?_⟩, by simp (disch := omega) only [zwr_id, zT_lt, zF_lt, zT_le, zF_le, zT_eq, zF_eq, zT_neq, zF_neq, zT_nlt, zT_nle, and_true, true_and, and_false, false_and, and_self, or_true, true_or, or_false, false_or, or_self, not_true_eq_false, not_false_eq_true, ↓reduceIte, implies_true, true_imp_iff, false_imp_iff, zcall0, zcall1, zcall2, zcall3, zcall4, zsto_eq, zsto_ne, zsto_fn, zok13, zok6, zok15, znb_0, zrng_hit, zrng_ne, zrng_fn, zcpy_ne, zcpy_fn], fun j j0 j1 => ?_, fun j hj => ⟨?_, ?_⟩, fun n n0 n1 => ⟨?_, ?_⟩, fun hB => zSimB.cpy (zSimB.cpy (zSimB.sto (zSimB.cpy hB (Or.inr (Or.inl rfl))) (by omega)) (by omega)) (by omega)⟩
  · funext x; simp (disch := omega) only [zwr_id, zT_lt, zF_lt, zT_le, zF_le, zT_eq, zF_eq, zT_neq, zF_neq, zT_nlt, zT_nle, and_true, true_and, and_false, false_and, and_self, or_true, true_or, or_false, false_or, or_self, not_true_eq_false, not_false_eq_true, ↓reduceIte, implies_true, true_imp_iff, false_imp_iff, zcall0, zcall1, zcall2, zcall3, zcall4, zsto_eq, zsto_ne, zsto_fn, zok13, zok6, zok15, znb_0, zrng_hit, zrng_ne, zrng_fn, zcpy_ne, zcpy_fn]
  · funext x; simp (disch := omega) only [zwr_id, zT_lt, zF_lt, zT_le, zF_le, zT_eq, zF_eq, zT_neq, zF_neq, zT_nlt, zT_nle, and_true, true_and, and_false, false_and, and_self, or_true, true_or, or_false, false_or, or_self, not_true_eq_false, not_false_eq_true, ↓reduceIte, implies_true, true_imp_iff, false_imp_iff, zcall0, zcall1, zcall2, zcall3, zcall4, zsto_eq, zsto_ne, zsto_fn, zok13, zok6, zok15, znb_0, zrng_hit, zrng_ne, zrng_fn, zcpy_ne, zcpy_fn]
  · rw [zcpy_fn (by decide), zcpy_fn (by decide), zsto_fn (by decide), zcpy_hit (by omega), show 0 + (j - 0) = j by omega]
  · funext x; simp (disch := omega) only [zwr_id, zT_lt, zF_lt, zT_le, zF_le, zT_eq, zF_eq, zT_neq, zF_neq, zT_nlt, zT_nle, and_true, true_and, and_false, false_and, and_self, or_true, true_or, or_false, false_or, or_self, not_true_eq_false, not_false_eq_true, ↓reduceIte, implies_true, true_imp_iff, false_imp_iff, zcall0, zcall1, zcall2, zcall3, zcall4, zsto_eq, zsto_ne, zsto_fn, zok13, zok6, zok15, znb_0, zrng_hit, zrng_ne, zrng_fn, zcpy_ne, zcpy_fn]
  · funext x; simp (disch := omega) only [zwr_id, zT_lt, zF_lt, zT_le, zF_le, zT_eq, zF_eq, zT_neq, zF_neq, zT_nlt, zT_nle, and_true, true_and, and_false, false_and, and_self, or_true, true_or, or_false, false_or, or_self, not_true_eq_false, not_false_eq_true, ↓reduceIte, implies_true, true_imp_iff, false_imp_iff, zcall0, zcall1, zcall2, zcall3, zcall4, zsto_eq, zsto_ne, zsto_fn, zok13, zok6, zok15, znb_0, zrng_hit, zrng_ne, zrng_fn, zcpy_ne, zcpy_fn]
  · rw [zcpy_fn (by decide), zcpy_hit (by omega), show 0 + (n - 0) = n by omega]; simp (disch := omega) only [zwr_id, zT_lt, zF_lt, zT_le, zF_le, zT_eq, zF_eq, zT_neq, zF_neq, zT_nlt, zT_nle, and_true, true_and, and_false, false_and, and_self, or_true, true_or, or_false, false_or, or_self, not_true_eq_false, not_false_eq_true, ↓reduceIte, implies_true, true_imp_iff, false_imp_iff, zcall0, zcall1, zcall2, zcall3, zcall4, zsto_eq, zsto_ne, zsto_fn, zok13, zok6, zok15, znb_0, zrng_hit, zrng_ne, zrng_fn, zcpy_ne, zcpy_fn]
  · rw [zcpy_hit (by omega), show 0 + (n - 0) = n by omega]; simp (disch := omega) only [zwr_id, zT_lt, zF_lt, zT_le, zF_le, zT_eq, zF_eq, zT_neq, zF_neq, zT_nlt, zT_nle, and_true, true_and, and_false, false_and, and_self, or_true, true_or, or_false, false_or, or_self, not_true_eq_false, not_false_eq_true, ↓reduceIte, implies_true, true_imp_iff, false_imp_iff, zcall0, zcall1, zcall2, zcall3, zcall4, zsto_eq, zsto_ne, zsto_fn, zok13, zok6, zok15, znb_0, zrng_hit, zrng_ne, zrng_fn, zcpy_ne, zcpy_fn]
theorem zaps_16 (s r : Int) : ∀ (m : Nat) (n : Int) (σ : ZT), zSz σ s → (∀ j, 1 ≤ j → j ≤ 40 → 0 ≤ σ 16 r j ∧ σ 16 r j ≤ 99999) → ∀ j, 1 ≤ j → j ≤ 40 → 0 ≤ zaps s r m n σ 16 r j ∧ zaps s r m n σ 16 r j ≤ 99999
  | 0, _, σ, _, h => h
  | m + 1, n, σ, hz, h => by
    obtain ⟨a1, a2, a3, a4, a5, a6, a7⟩ := zap1_fn σ (s := s) (r := r) (n := n) hz
    refine zaps_16 s r m (n + 1) (zap1 σ s r n) a2 fun j j1 j2 => ?_
    by_cases hj : j = n
    · subst hj
      unfold zap1
      by_cases h1 : σ 23 0 j = 0
      · rw [if_pos h1]; exact h j j1 j2
      · rw [if_neg h1]
        by_cases h2 : σ 13 j 2 = 0
        · rw [if_pos h2, zsto_eq]; omega
        · rw [if_neg h2]
          have Z' : zSz (zsto σ 16 r j 0) s := by unfold zSz; rw [zsto_fn (by decide)]; exact hz
          rw [(zwr1_fn (zsto σ 16 r j 0) (s := s) (r := r) (n := j) Z').2.1, zsto_eq]
          unfold zSz at Z'
          omega
    · rw [(a6 j hj).1]; exact h j j1 j2
/-- the class's store behind an append's part -/
def zpC (σ : ZT) (f s r q had : Int) : ZT := zaps s r 40 1 (zpB σ f s r q had)
def zpD (σ : ZT) (f s r q had : Int) : ZT := zwD (zpC σ f s r q had) s r 1 (σ 15 q 3)
theorem zpC_fn (σ : ZT) {f s r q had : Int} (hh : 0 ≤ had ∧ had ≤ 12000) : (∀ k : Nat, k ≠ 6 → k ≠ 7 → k ≠ 16 → k ≠ 17 → zpC σ f s r q had k = σ k) ∧ zSz (zpC σ f s r q had) s ∧ (∀ j, j ≠ s → zpC σ f s r q had 6 j = σ 6 j ∧ zpC σ f s r q had 7 j = σ 7 j) ∧ (∀ j, j ≠ r → zpC σ f s r q had 16 j = σ 16 j ∧ zpC σ f s r q had 17 j = σ 17 j) ∧ (zSimB σ → zSimB (zpC σ f s r q had)) ∧ (∀ n, 1 ≤ n → n ≤ 40 → σ 23 0 n = 0 → zpC σ f s r q had 16 r n = σ 16 q n ∧ zpC σ f s r q had 17 r n = σ 17 q n) ∧ ((∀ j, 1 ≤ j → j ≤ 40 → 0 ≤ σ 16 q j ∧ σ 16 q j ≤ 99999) → ∀ j, 1 ≤ j → j ≤ 40 → 0 ≤ zpC σ f s r q had 16 r j ∧ zpC σ f s r q had 16 r j ≤ 99999) := by
  obtain ⟨a1, a2, a3, a4, a5, a6, a7⟩ := zpB_fn σ f s r q had
  have hz : zSz (zpB σ f s r q had) s := by unfold zSz; rw [a3]; omega
  obtain ⟨c1, c2, c3, c4, c5, c6, c7⟩ := zaps_fn s r 40 1 (zpB σ f s r q had) hz
  unfold zpC
  refine ⟨fun k k1 k2 k3 k4 => (c1 k k1 k2 k3 k4).trans (a1 k k1 k2 k3 k4), c2, fun j hj => ⟨(c3 j hj).1.trans (a2 j hj).1, (c3 j hj).2.trans (a2 j hj).2⟩, fun j hj => ⟨(c4 j hj).1.trans (a5 j hj).1, (c4 j hj).2.trans (a5 j hj).2⟩, fun hB => c5 (a7 hB), fun n n1 n2 hn => ?_, fun h => zaps_16 s r 40 1 _ hz fun j j1 j2 => ?_⟩
  · have e := c7 n (by rw [a1 23 (by decide) (by decide) (by decide) (by decide)]; exact hn)
    rw [e.1, e.2]
    exact a6 n (by omega) n2
  · rw [(a6 j (by omega) j2).1]; exact h j j1 j2
theorem w_append_go (σ : ZT) {f s r q had k : Int} (h1 : σ 4 0 1 = f) (h2 : σ 4 0 2 = s) (hf : 0 ≤ f ∧ f < 2) (hs : 0 ≤ s ∧ s < 2) (hk : σ 4 0 6 = k) (hk1 : 1 ≤ k ∧ k < 60) (h38 : σ 38 0 k = r) (h8 : σ 8 0 (k - 1) = q) (hr : 0 ≤ r ∧ r < 120) (hq : 0 ≤ q ∧ q < 120) (h6 : σ 6 f 1 = had) (hh : 0 < had ∧ had ≤ 12000) (ha : σ 4 0 3 = 0) (hT : zSimT σ) (hc : zct (σ 23 0) 40 1 0 ≠ 0) : f_W_append [(4, 0)] σ = zrun C_W_append (98, [(4, 0), (0, had), (15, r), (0, 41)], [], zpC σ f s r q had) := by
  have hcc := w_changedCount σ hT
  have hz := zct_bd (σ 23 0) 40 1 0
  have hcp : f_R_copy [(6, s), (6, f), (0, had)] σ = some (0, 0, zsto (zcpy σ 7 f 0 7 s 0 had) 6 s 1 had) := r_copy σ (by omega)
  have hvb : f_V_become [(15, r), (15, q)] (zsto (zcpy σ 7 f 0 7 s 0 had) 6 s 1 had) = some (0, 0, zpB σ f s r q had) := v_become _ r q
  obtain ⟨a1, a2, a3, a4, a5, a6, a7⟩ := zpB_fn σ f s r q had
  have hlp := w_append_loop (r := r) (h0 := had) hs 40 1 (zpB σ f s r q had) (hT.fn fun k hk => by
    simp only [List.mem_cons, List.not_mem_nil, or_false] at hk
    exact a1 k (by omega) (by omega) (by omega) (by omega)) (by unfold zSz; rw [a3]; omega) (by rw [a1 4 (by decide) (by decide) (by decide) (by decide)]; exact h2) (by omega) (by omega)
  rw [u_W_append, e_W_append_0]
  unfold zpC
  rw [← hlp]
  simp (disch := omega) only [h1, h6, ha, hcc, hk, h2, hcp, h38, h8, hvb, zwr_id, zT_lt, zF_lt, zT_le, zF_le, zT_eq, zF_eq, zT_neq, zF_neq, zT_nlt, zT_nle, and_true, true_and, and_false, false_and, and_self, or_true, true_or, or_false, false_or, or_self, not_true_eq_false, not_false_eq_true, ↓reduceIte, implies_true, true_imp_iff, false_imp_iff, zcall0, zcall1, zcall2, zcall3, zcall4, zsto_eq, zsto_ne, zsto_fn, zok13, zok6, zok15, znb_0, zrng_hit, zrng_ne, zrng_fn, zcpy_ne, zcpy_fn]
theorem w_append_ok (σ : ZT) {f s r q had k : Int} (h1 : σ 4 0 1 = f) (h2 : σ 4 0 2 = s) (hf : 0 ≤ f ∧ f < 2) (hs : 0 ≤ s ∧ s < 2) (hk : σ 4 0 6 = k) (hk1 : 1 ≤ k ∧ k < 60) (h38 : σ 38 0 k = r) (h8 : σ 8 0 (k - 1) = q) (h8k : 0 ≤ σ 8 0 k ∧ σ 8 0 k < 120) (hr : 0 ≤ r ∧ r < 120) (hq : 0 ≤ q ∧ q < 120) (h6 : σ 6 f 1 = had) (hh : 0 < had ∧ had ≤ 12000) (ha : σ 4 0 3 = 0) (hT : zSimT σ) (hc : zct (σ 23 0) 40 1 0 ≠ 0) (hb : 0 ≤ σ 15 q 3 ∧ σ 15 q 3 ≤ 99999) (h16 : ∀ n, 1 ≤ n → n ≤ 40 → 0 ≤ σ 16 q n ∧ σ 16 q n ≤ 99999) : (zpD σ f s r q had 6 s 1 ≤ 12000 → f_W_append [(4, 0)] σ = some (0, zpD σ f s r q had 6 s 1 - had, zwF (zbec (zpD σ f s r q had) (k + 1)) k r)) ∧ (zpD σ f s r q had 6 s 1 = 12001 → 0 < σ 39 0 0 → f_W_append [(4, 0)] σ = some (3, 0, zth (zpD σ f s r q had))) := by
  obtain ⟨c1, c2, c3, c4, c5, c6, c7⟩ := zpC_fn σ (f := f) (s := s) (r := r) (q := q) (had := had) (by omega)
  have Tτ : zSimT (zpC σ f s r q had) := hT.fn fun k hk => by
    simp only [List.mem_cons, List.not_mem_nil, or_false] at hk
    exact c1 k (by omega) (by omega) (by omega) (by omega)
  have t4 := c1 4 (by decide) (by decide) (by decide) (by decide)
  have t8 := c1 8 (by decide) (by decide) (by decide) (by decide)
  have t15 := c1 15 (by decide) (by decide) (by decide) (by decide)
  have hgo := w_append_go σ h1 h2 hf hs hk hk1 h38 h8 hr hq h6 hh ha hT hc
  have hrows : f_W_putRows [(4, 0), (15, r), (0, 1), (0, σ 15 q 3)] (zpC σ f s r q had) = some (0, 0, zpD σ f s r q had) := w_putRows (zpC σ f s r q had) hs (Or.inr rfl) hb (by rw [t4]; exact h2) Tτ (fun j j1 j2 _ _ => c7 h16 j j1 j2) c2
  obtain ⟨e1, e2, e3, e4, e5, e6, e7, e8, e9⟩ := zwD_fn (zpC σ f s r q had) (s := s) (r := r) (c := 1) (b := σ 15 q 3) c2
  have hδ : zwD (zpC σ f s r q had) s r 1 (σ 15 q 3) = zpD σ f s r q had := rfl
  rw [hδ] at e1 e7
  have d4 : zpD σ f s r q had 4 = σ 4 := by rw [e1 4 (by decide) (by decide) (by decide), t4]
  have d8 : zpD σ f s r q had 8 = σ 8 := by rw [e1 8 (by decide) (by decide) (by decide), t8]
  have d13 : zpD σ f s r q had 13 = σ 13 := by rw [e1 13 (by decide) (by decide) (by decide), c1 13 (by decide) (by decide) (by decide) (by decide)]
  have d39 : zpD σ f s r q had 39 = σ 39 := by rw [e1 39 (by decide) (by decide) (by decide), c1 39 (by decide) (by decide) (by decide) (by decide)]
  rw [hgo]
  generalize zpD σ f s r q had = δ at *
  generalize zpC σ f s r q had = τ at *
  have hkk : k + 1 - 1 = k := by omega
  refine ⟨fun hz => ?_, fun hz hg => ?_⟩
  · have hbec := w_become1 δ (p := k + 1) (by rw [d4, h1]; exact hf) (by rw [d4, h2]; exact hs) (by rw [d4, h2]; exact ⟨e7.1, hz⟩) (by rw [d13]; exact fun k k1 k2 => (hT k k1 k2).1)
    obtain ⟨b1, b2, b3, b4, b5, b6, b7, b8, b9⟩ := zbec_fn δ (k + 1)
    generalize zbec δ (k + 1) = β at *
    have β8 : β 8 = σ 8 := by rw [b1 8 (by decide) (by decide), d8]
    have β6 : β 6 = δ 6 := b1 6 (by decide) (by decide)
    rw [d4, h2] at b5
    rw [e_W_append_98]
    unfold zwF
    simp (disch := omega) only [t4, hk, t8, h8, t15, hrows, d4, hbec, b8, hkk, β8, b5, β6, zwr_id, zT_lt, zF_lt, zT_le, zF_le, zT_eq, zF_eq, zT_neq, zF_neq, zT_nlt, zT_nle, and_true, true_and, and_false, false_and, and_self, or_true, true_or, or_false, false_or, or_self, not_true_eq_false, not_false_eq_true, ↓reduceIte, implies_true, true_imp_iff, false_imp_iff, zcall0, zcall1, zcall2, zcall3, zcall4, zsto_eq, zsto_ne, zsto_fn, zok13, zok6, zok15, znb_0, zrng_hit, zrng_ne, zrng_fn, zcpy_ne, zcpy_fn]
  · have hbec := w_become0 δ (p := k + 1) (by rw [d4, h2]; exact hs) (by rw [d4, h2]; exact hz) (by rw [d39]; exact hg)
    rw [e_W_append_98]
    simp (disch := omega) only [t4, hk, t8, h8, t15, hrows, d4, hbec, zwr_id, zT_lt, zF_lt, zT_le, zF_le, zT_eq, zF_eq, zT_neq, zF_neq, zT_nlt, zT_nle, and_true, true_and, and_false, false_and, and_self, or_true, true_or, or_false, false_or, or_self, not_true_eq_false, not_false_eq_true, ↓reduceIte, implies_true, true_imp_iff, false_imp_iff, zcall0, zcall1, zcall2, zcall3, zcall4, zsto_eq, zsto_ne, zsto_fn, zok13, zok6, zok15, znb_0, zrng_hit, zrng_ne, zrng_fn, zcpy_ne, zcpy_fn]
theorem m_append0 (σ : ZT) (h : 0 ≤ σ 20 0 7 ∧ σ 20 0 7 ≤ 12000) (h9 : σ 20 0 9 = 0 ∨ σ 20 0 9 = 1) (hh : σ 20 0 7 = 0 ∨ σ 20 0 9 = 1) : f_M_append [(20, 0)] σ = some (0, 0, zsto σ 20 0 0 1) := by
  rw [u_M_append, e_M_append_0]
  by_cases h7 : σ 20 0 7 = 0
  · simp (disch := omega) only [e_M_append_15, e_M_append_20, e_M_append_37, zwr_id, zT_lt, zF_lt, zT_le, zF_le, zT_eq, zF_eq, zT_neq, zF_neq, zT_nlt, zT_nle, and_true, true_and, and_false, false_and, and_self, or_true, true_or, or_false, false_or, or_self, not_true_eq_false, not_false_eq_true, ↓reduceIte, implies_true, true_imp_iff, false_imp_iff, zcall0, zcall1, zcall2, zcall3, zcall4, zsto_eq, zsto_ne, zsto_fn, zok13, zok6, zok15, znb_0, zrng_hit, zrng_ne, zrng_fn, zcpy_ne, zcpy_fn]
  · simp (disch := omega) only [e_M_append_15, e_M_append_20, e_M_append_37, zwr_id, zT_lt, zF_lt, zT_le, zF_le, zT_eq, zF_eq, zT_neq, zF_neq, zT_nlt, zT_nle, and_true, true_and, and_false, false_and, and_self, or_true, true_or, or_false, false_or, or_self, not_true_eq_false, not_false_eq_true, ↓reduceIte, implies_true, true_imp_iff, false_imp_iff, zcall0, zcall1, zcall2, zcall3, zcall4, zsto_eq, zsto_ne, zsto_fn, zok13, zok6, zok15, znb_0, zrng_hit, zrng_ne, zrng_fn, zcpy_ne, zcpy_fn]
theorem m_append_no (σ : ZT) (h : 0 < σ 20 0 7 ∧ σ 20 0 7 ≤ 12000) (h9 : σ 20 0 9 = 0) (hc : ∀ k, 1 ≤ k → k ≤ 40 → σ 23 0 k = 0 ∨ σ 23 0 k = 1) (h0 : zct (σ 23 0) 40 1 0 = 0) : f_M_append [(20, 0)] σ = some (0, 0, zsto σ 20 0 0 0) := by
  have hm := m_changed (zsto σ 20 0 0 0) (by rw [zsto_fn (by decide)]; exact hc)
  rw [zsto_fn (by decide)] at hm
  rw [u_M_append, e_M_append_0]
  simp (disch := omega) only [e_M_append_20, e_M_append_37, hm, h0, zwr_id, zT_lt, zF_lt, zT_le, zF_le, zT_eq, zF_eq, zT_neq, zF_neq, zT_nlt, zT_nle, and_true, true_and, and_false, false_and, and_self, or_true, true_or, or_false, false_or, or_self, not_true_eq_false, not_false_eq_true, ↓reduceIte, implies_true, true_imp_iff, false_imp_iff, zcall0, zcall1, zcall2, zcall3, zcall4, zsto_eq, zsto_ne, zsto_fn, zok13, zok6, zok15, znb_0, zrng_hit, zrng_ne, zrng_fn, zcpy_ne, zcpy_fn]
theorem m_append60 (σ : ZT) (h : 0 < σ 20 0 7 ∧ σ 20 0 7 ≤ 12000) (h9 : σ 20 0 9 = 0) (hc : ∀ k, 1 ≤ k → k ≤ 40 → σ 23 0 k = 0 ∨ σ 23 0 k = 1) (h0 : zct (σ 23 0) 40 1 0 ≠ 0) (h10 : σ 20 0 10 = 60) : f_M_append [(20, 0)] σ = some (0, 0, zsto (zsto (zsto σ 20 0 0 0) 20 0 17 1) 20 0 0 2) := by
  have hm := m_changed (zsto σ 20 0 0 0) (by rw [zsto_fn (by decide)]; exact hc)
  rw [zsto_fn (by decide)] at hm
  have hz := zct_bd (σ 23 0) 40 1 0
  rw [u_M_append, e_M_append_0]
  simp (disch := omega) only [e_M_append_20, e_M_append_69, hm, zwr_id, zT_lt, zF_lt, zT_le, zF_le, zT_eq, zF_eq, zT_neq, zF_neq, zT_nlt, zT_nle, and_true, true_and, and_false, false_and, and_self, or_true, true_or, or_false, false_or, or_self, not_true_eq_false, not_false_eq_true, ↓reduceIte, implies_true, true_imp_iff, false_imp_iff, zcall0, zcall1, zcall2, zcall3, zcall4, zsto_eq, zsto_ne, zsto_fn, zok13, zok6, zok15, znb_0, zrng_hit, zrng_ne, zrng_fn, zcpy_ne, zcpy_fn]
theorem m_append1 (σ : ZT) (hB : zBs σ) {had : Int} (h : 0 < had ∧ had ≤ 12000) (h7 : σ 20 0 7 = had) (h9 : σ 20 0 9 = 0) (h0 : zct (σ 23 0) 40 1 0 ≠ 0) (h10 : 1 ≤ σ 20 0 10 ∧ σ 20 0 10 < 60) (hb : 0 ≤ σ 29 0 (σ 20 0 10 - 1) ∧ σ 29 0 (σ 20 0 10 - 1) ≤ 12000) : (12000 < zcnt σ 0 0 had 20 0 16 → f_M_append [(20, 0)] σ = some (0, 0, zsto (zcnt σ 0 0 had) 20 0 0 2)) ∧ (zcnt σ 0 0 had 20 0 16 ≤ 12000 → zpt (zsto (zcnt σ 0 0 had) 20 0 17 0) 0 0 had 20 0 16 ≤ 12000 → f_M_append [(20, 0)] σ = some (0, zpa (zcnt σ 0 0 had) 0 0 had 20 0 7 - had, zpa (zcnt σ 0 0 had) 0 0 had)) := by
  have hm := m_changed (zsto σ 20 0 0 0) (by rw [zsto_fn (by decide)]; exact fun k k1 k2 => (hB k k1 k2).2.1)
  rw [zsto_fn (by decide)] at hm
  have hz := zct_bd (σ 23 0) 40 1 0
  have hB1 : zBs (zsto (zsto σ 20 0 0 0) 20 0 17 1) := hB.fn (by simp (disch := omega) only [zwr_id, zT_lt, zF_lt, zT_le, zF_le, zT_eq, zF_eq, zT_neq, zF_neq, zT_nlt, zT_nle, and_true, true_and, and_false, false_and, and_self, or_true, true_or, or_false, false_or, or_self, not_true_eq_false, not_false_eq_true, ↓reduceIte, implies_true, true_imp_iff, false_imp_iff, zcall0, zcall1, zcall2, zcall3, zcall4, zsto_eq, zsto_ne, zsto_fn, zok13, zok6, zok15, znb_0, zrng_hit, zrng_ne, zrng_fn, zcpy_ne, zcpy_fn]) (by simp (disch := omega) only [zwr_id, zT_lt, zF_lt, zT_le, zF_le, zT_eq, zF_eq, zT_neq, zF_neq, zT_nlt, zT_nle, and_true, true_and, and_false, false_and, and_self, or_true, true_or, or_false, false_or, or_self, not_true_eq_false, not_false_eq_true, ↓reduceIte, implies_true, true_imp_iff, false_imp_iff, zcall0, zcall1, zcall2, zcall3, zcall4, zsto_eq, zsto_ne, zsto_fn, zok13, zok6, zok15, znb_0, zrng_hit, zrng_ne, zrng_fn, zcpy_ne, zcpy_fn]) (by simp (disch := omega) only [zwr_id, zT_lt, zF_lt, zT_le, zF_le, zT_eq, zF_eq, zT_neq, zF_neq, zT_nlt, zT_nle, and_true, true_and, and_false, false_and, and_self, or_true, true_or, or_false, false_or, or_self, not_true_eq_false, not_false_eq_true, ↓reduceIte, implies_true, true_imp_iff, false_imp_iff, zcall0, zcall1, zcall2, zcall3, zcall4, zsto_eq, zsto_ne, zsto_fn, zok13, zok6, zok15, znb_0, zrng_hit, zrng_ne, zrng_fn, zcpy_ne, zcpy_fn]) (by simp (disch := omega) only [zwr_id, zT_lt, zF_lt, zT_le, zF_le, zT_eq, zF_eq, zT_neq, zF_neq, zT_nlt, zT_nle, and_true, true_and, and_false, false_and, and_self, or_true, true_or, or_false, false_or, or_self, not_true_eq_false, not_false_eq_true, ↓reduceIte, implies_true, true_imp_iff, false_imp_iff, zcall0, zcall1, zcall2, zcall3, zcall4, zsto_eq, zsto_ne, zsto_fn, zok13, zok6, zok15, znb_0, zrng_hit, zrng_ne, zrng_fn, zcpy_ne, zcpy_fn])
  have hb1 : zbef (zsto (zsto σ 20 0 0 0) 20 0 17 1) 0 = σ 29 0 (σ 20 0 10 - 1) := by
    unfold zbef
    rw [if_pos rfl]
    simp (disch := omega) only [zwr_id, zT_lt, zF_lt, zT_le, zF_le, zT_eq, zF_eq, zT_neq, zF_neq, zT_nlt, zT_nle, and_true, true_and, and_false, false_and, and_self, or_true, true_or, or_false, false_or, or_self, not_true_eq_false, not_false_eq_true, ↓reduceIte, implies_true, true_imp_iff, false_imp_iff, zcall0, zcall1, zcall2, zcall3, zcall4, zsto_eq, zsto_ne, zsto_fn, zok13, zok6, zok15, znb_0, zrng_hit, zrng_ne, zrng_fn, zcpy_ne, zcpy_fn]
  have e10 : zsto (zsto σ 20 0 0 0) 20 0 17 1 20 0 10 = σ 20 0 10 := by simp (disch := omega) only [zwr_id, zT_lt, zF_lt, zT_le, zF_le, zT_eq, zF_eq, zT_neq, zF_neq, zT_nlt, zT_nle, and_true, true_and, and_false, false_and, and_self, or_true, true_or, or_false, false_or, or_self, not_true_eq_false, not_false_eq_true, ↓reduceIte, implies_true, true_imp_iff, false_imp_iff, zcall0, zcall1, zcall2, zcall3, zcall4, zsto_eq, zsto_ne, zsto_fn, zok13, zok6, zok15, znb_0, zrng_hit, zrng_ne, zrng_fn, zcpy_ne, zcpy_fn]
  have hp := m_part (zsto (zsto σ 20 0 0 0) 20 0 17 1) hB1 (w := 0) (how := 0) (from' := had) (Or.inl rfl) (by omega) (Or.inr zsto_eq) (by omega) (by rw [hb1]; exact hb) (fun q => by rw [e10]; omega) (fun q => by rw [zsto_eq] at q; omega)
  have hl1 := zpt_pos (zsto (zsto σ 20 0 0 0) 20 0 17 1) 0 0 had
  have hl2 := zptl_bd hB1 (w := 0) (how := 0) (by omega)
  have hl3 := zendM_bd hB1 (w := 0) (how := 0) (from' := had) (by omega) (by omega) (by rw [hb1]; exact hb)
  obtain ⟨a1, a2, a3, a4, a5, a6⟩ := zpt_fn (zsto (zsto σ 20 0 0 0) 20 0 17 1) 0 0 had
  have ec : zpt (zsto (zsto σ 20 0 0 0) 20 0 17 1) 0 0 had = zcnt σ 0 0 had := rfl
  rw [ec] at hp hl1 a1 a2 a3 a4
  have hB2 : zBs (zcnt σ 0 0 had) := hB1.fn (a1 21 (by decide) (by decide) (by decide) (by decide)) (a1 22 (by decide) (by decide) (by decide) (by decide)) (a1 23 (by decide) (by decide) (by decide) (by decide)) (a1 25 (by decide) (by decide) (by decide) (by decide))
  have k10 : zcnt σ 0 0 had 20 0 10 = σ 20 0 10 := by rw [a2 10 (by decide) (by decide)]; exact e10
  have k7 : zcnt σ 0 0 had 20 0 7 = had := by rw [a2 7 (by decide) (by decide)]; simp (disch := omega) only [zwr_id, zT_lt, zF_lt, zT_le, zF_le, zT_eq, zF_eq, zT_neq, zF_neq, zT_nlt, zT_nle, and_true, true_and, and_false, false_and, and_self, or_true, true_or, or_false, false_or, or_self, not_true_eq_false, not_false_eq_true, ↓reduceIte, implies_true, true_imp_iff, false_imp_iff, zcall0, zcall1, zcall2, zcall3, zcall4, zsto_eq, zsto_ne, zsto_fn, zok13, zok6, zok15, znb_0, zrng_hit, zrng_ne, zrng_fn, zcpy_ne, zcpy_fn]; exact h7
  have k29 : zcnt σ 0 0 had 29 = σ 29 := by rw [a1 29 (by decide) (by decide) (by decide) (by decide)]; simp (disch := omega) only [zwr_id, zT_lt, zF_lt, zT_le, zF_le, zT_eq, zF_eq, zT_neq, zF_neq, zT_nlt, zT_nle, and_true, true_and, and_false, false_and, and_self, or_true, true_or, or_false, false_or, or_self, not_true_eq_false, not_false_eq_true, ↓reduceIte, implies_true, true_imp_iff, false_imp_iff, zcall0, zcall1, zcall2, zcall3, zcall4, zsto_eq, zsto_ne, zsto_fn, zok13, zok6, zok15, znb_0, zrng_hit, zrng_ne, zrng_fn, zcpy_ne, zcpy_fn]
  have hb2 : zbef (zcnt σ 0 0 had) 0 = σ 29 0 (σ 20 0 10 - 1) := by
    unfold zbef
    rw [if_pos rfl, k10, k29]
  rw [u_M_append, e_M_append_0]
  refine ⟨fun q => ?_, fun q q2 => ?_⟩
  · simp (disch := omega) only [e_M_append_20, e_M_append_69, hm, h7, hp, zwr_id, zT_lt, zF_lt, zT_le, zF_le, zT_eq, zF_eq, zT_neq, zF_neq, zT_nlt, zT_nle, and_true, true_and, and_false, false_and, and_self, or_true, true_or, or_false, false_or, or_self, not_true_eq_false, not_false_eq_true, ↓reduceIte, implies_true, true_imp_iff, false_imp_iff, zcall0, zcall1, zcall2, zcall3, zcall4, zsto_eq, zsto_ne, zsto_fn, zok13, zok6, zok15, znb_0, zrng_hit, zrng_ne, zrng_fn, zcpy_ne, zcpy_fn]
  · have hall := m_putAll (zcnt σ 0 0 had) hB2 (w := 0) (how := 0) (from' := had) (Or.inl rfl) (by omega) (by omega) (by rw [hb2]; exact hb) (fun q => by rw [k10]; exact h10) q2
    simp (disch := omega) only [e_M_append_20, e_M_append_69, hm, h7, hp, k7, hall, zwr_id, zT_lt, zF_lt, zT_le, zF_le, zT_eq, zF_eq, zT_neq, zF_neq, zT_nlt, zT_nle, and_true, true_and, and_false, false_and, and_self, or_true, true_or, or_false, false_or, or_self, not_true_eq_false, not_false_eq_true, ↓reduceIte, implies_true, true_imp_iff, false_imp_iff, zcall0, zcall1, zcall2, zcall3, zcall4, zsto_eq, zsto_ne, zsto_fn, zok13, zok6, zok15, znb_0, zrng_hit, zrng_ne, zrng_fn, zcpy_ne, zcpy_fn]
theorem append_lock {σ υ : ZT} (hT : zSimT σ) {f s r q had : Int} (hh : 0 < had ∧ had ≤ 12000) (h21 : υ 21 = σ 21) (h22 : υ 22 = σ 22) (h23 : υ 23 = σ 23) (h25 : υ 25 = σ 25) (h26 : υ 26 = σ 26) (h27 : ∀ j, 0 ≤ j → j < had → υ 27 0 j = σ 7 f j) (hb : zbef υ 0 = σ 15 q 3) : zLk (zpD σ f s r q had) (zpt υ 0 0 had) s ∧ (zpt1 υ 0 0 had 20 0 16 ≤ 12000 → zpC σ f s r q had 6 s 1 = zpt1 υ 0 0 had 20 0 16 ∧ ∀ j, 1 ≤ j → j ≤ 40 → σ 23 0 j ≠ 0 → σ 13 j 2 = 1 → zLn (zpC σ f s r q had) (zpt1 υ 0 0 had) r j) ∧ (∀ j, 1 ≤ j → j ≤ 40 → σ 23 0 j ≠ 0 → σ 13 j 2 = 0 → zpC σ f s r q had 16 r j = 0) := by
  obtain ⟨a1, a2, a3, a4, a5, a6, a7⟩ := zpB_fn σ f s r q had
  have hzB : zSz (zpB σ f s r q had) s := by unfold zSz; rw [a3]; omega
  have b13 := a1 13 (by decide) (by decide) (by decide) (by decide)
  have b23 := a1 23 (by decide) (by decide) (by decide) (by decide)
  have TB : zSimT (zpB σ f s r q had) := hT.fn fun k hk => by
    simp only [List.mem_cons, List.not_mem_nil, or_false] at hk
    exact a1 k (by omega) (by omega) (by omega) (by omega)
  have l0 : zLk (zpB σ f s r q had) (zsto υ 20 0 16 had) s := by
    left
    rw [zsto_eq, a3]
    refine ⟨by omega, rfl, fun _ j j0 j1 => ?_⟩
    rw [zsto_fn (by decide), a4 j j0 j1]
    exact h27 j j0 j1
  have hf : ∀ j, 1 ≤ j → j ≤ 40 → (zcn υ 0 0 0 j = 0 ↔ zpB σ f s r q had 23 0 j = 0 ∨ zpB σ f s r q had 13 j 2 = 0) := fun j j1 j2 => by
    have t2 := (hT j j1 j2).2.1
    have hn : zcn υ 0 0 0 j ≠ 0 ↔ _ := zcn_ne
    have hm : zmean υ 0 j = υ 23 0 j := rfl
    rw [hm, h23, h21, t2] at hn
    rw [b13, b23]
    have hw : znow υ 0 0 j := ⟨fun q => by omega, fun q => by omega⟩
    refine ⟨fun q => ?_, fun q => ?_⟩
    · by_cases q1 : σ 23 0 j = 0
      · exact Or.inl q1
      · by_cases q2 : σ 13 j 2 = 0
        · exact Or.inr q2
        · exact absurd q (hn.mpr ⟨q1, q2, hw⟩)
    · by_cases hz : zcn υ 0 0 0 j = 0
      · exact hz
      · obtain ⟨z1, z2, z3⟩ := hn.mp hz
        rcases q with q | q
        · exact absurd q z1
        · exact absurd q z2
  have hl := zaps_lock (s := s) (r := r) (f := zcn υ 0 0 0) 40 1 (zpB σ f s r q had) (zsto υ 20 0 16 had) l0 hzB (by rw [zsto_eq]; omega) (fun j j1 j2 ht => TB.tw (by rw [zsto_fn (by decide), a1 25 (by decide) (by decide) (by decide) (by decide)]; exact h25) (by rw [zsto_fn (by decide), a1 26 (by decide) (by decide) (by decide) (by decide)]; exact h26) j1 j2 ht) (fun j j1 j2 => (TB j j1 j2).1) hf (by omega) (by omega) (fun q j j1 j2 => by omega) (fun j j1 j2 => by omega)
  rw [b13, b23] at hl
  have hnl : zou (zcn υ 0 0) (ztn 0) 0 = zin (zcn υ 0 0 0) 40 1 := List.append_nil _
  have hP : zpt1 υ 0 0 had = zmrs (zsto υ 20 0 16 had) (zin (zcn υ 0 0 0) 40 1) := by
    unfold zpt1 znl
    rw [hnl]
    rfl
  rw [← hP] at hl
  have hC : zaps s r 40 1 (zpB σ f s r q had) = zpC σ f s r q had := rfl
  rw [hC] at hl
  obtain ⟨c1, c2, c3, c4, c5, c6, c7⟩ := zpC_fn σ (f := f) (s := s) (r := r) (q := q) (had := had) (by omega)
  obtain ⟨p1, p2, p3, p4, p5, p6⟩ := zpt1_fn υ 0 0 had
  have hpos : 0 ≤ zpt1 υ 0 0 had 20 0 16 := by
    have hz0 := zrl_nn υ (znl υ 0 0)
    rw [p6]; unfold zptl; omega
  obtain ⟨e1, e2, e3, e4, e5, e6, e7, e8, e9⟩ := zwD_fn (zpC σ f s r q had) (s := s) (r := r) (c := 1) (b := σ 15 q 3) c2
  unfold zpD zpt
  rw [hb]
  generalize zpC σ f s r q had = τ at *
  generalize zpt1 υ 0 0 had = π at *
  obtain ⟨hla, hlb, hlc⟩ := hl
  have Tτ : zSimT τ := hT.fn fun k hk => by
    simp only [List.mem_cons, List.not_mem_nil, or_false] at hk
    exact c1 k (by omega) (by omega) (by omega) (by omega)
  have t13 : τ 13 = σ 13 := c1 13 (by decide) (by decide) (by decide) (by decide)
  have t21 : τ 21 = σ 21 := c1 21 (by decide) (by decide) (by decide) (by decide)
  have t23 : τ 23 = σ 23 := c1 23 (by decide) (by decide) (by decide) (by decide)
  have hsz : π 20 0 16 ≤ 12000 → τ 6 s 1 = π 20 0 16 := fun q => by
    rcases hla with ⟨_, q2, _⟩ | ⟨q2, _⟩
    · exact q2
    · omega
  refine ⟨?_, fun q => ⟨hsz q, hlb q⟩, hlc⟩
  have l4 : zLk (zsto τ 15 r 3 (τ 6 s 1)) π s := hla.congr (by simp (disch := omega) only [zwr_id, zT_lt, zF_lt, zT_le, zF_le, zT_eq, zF_eq, zT_neq, zF_neq, zT_nlt, zT_nle, and_true, true_and, and_false, false_and, and_self, or_true, true_or, or_false, false_or, or_self, not_true_eq_false, not_false_eq_true, ↓reduceIte, implies_true, true_imp_iff, false_imp_iff, zcall0, zcall1, zcall2, zcall3, zcall4, zsto_eq, zsto_ne, zsto_fn, zok13, zok6, zok15, znb_0, zrng_hit, zrng_ne, zrng_fn, zcpy_ne, zcpy_fn]) (by simp (disch := omega) only [zwr_id, zT_lt, zF_lt, zT_le, zF_le, zT_eq, zF_eq, zT_neq, zF_neq, zT_nlt, zT_nle, and_true, true_and, and_false, false_and, and_self, or_true, true_or, or_false, false_or, or_self, not_true_eq_false, not_false_eq_true, ↓reduceIte, implies_true, true_imp_iff, false_imp_iff, zcall0, zcall1, zcall2, zcall3, zcall4, zsto_eq, zsto_ne, zsto_fn, zok13, zok6, zok15, znb_0, zrng_hit, zrng_ne, zrng_fn, zcpy_ne, zcpy_fn]) rfl rfl
  have l5 := l4.em (bs := zendM π 0 (σ 15 q 3) (π 20 0 16)) (bs' := zend1 τ r 1 (σ 15 q 3) (τ 6 s 1)) (by unfold zSz; rw [zsto_fn (by decide)]; exact c2) hpos (fun q => by
    rw [hsz q]
    refine zend_eq Tτ (Or.inr ⟨rfl, rfl⟩) (fun j j1 j2 => by rw [t21, p1 21 (by decide) (by decide) (by decide) (by decide), h21]) (fun j j1 j2 => by rw [t23, p1 23 (by decide) (by decide) (by decide) (by decide), h23]) fun j j1 j2 hm ht => ?_
    have hm' : σ 23 0 j ≠ 0 := by rw [← t23]; exact hm
    rw [t13] at ht
    have := (hT j j1 j2).1
    exact (hlb q j j1 j2 hm' (by omega)).1)
  unfold zLk at l5 ⊢
  rw [e8, e9]
  simp (disch := omega) only [zwr_id, zT_lt, zF_lt, zT_le, zF_le, zT_eq, zF_eq, zT_neq, zF_neq, zT_nlt, zT_nle, and_true, true_and, and_false, false_and, and_self, or_true, true_or, or_false, false_or, or_self, not_true_eq_false, not_false_eq_true, ↓reduceIte, implies_true, true_imp_iff, false_imp_iff, zcall0, zcall1, zcall2, zcall3, zcall4, zsto_eq, zsto_ne, zsto_fn, zok13, zok6, zok15, znb_0, zrng_hit, zrng_ne, zrng_fn, zcpy_ne, zcpy_fn]
  exact l5
