/-! differ -/
/-- 1 where two places of a row are alike for m bytes -/
def zal (F : Int → Int) (p q : Int) : Nat → Int → Int
  | 0, _ => 1
  | m + 1, k => if F (p + k) = F (q + k) then zal F p q m (k + 1) else 0
theorem zal_01 (F : Int → Int) (p q : Int) : ∀ (m : Nat) (k : Int), zal F p q m k = 0 ∨ zal F p q m k = 1
  | 0, _ => Or.inr rfl
  | m + 1, k => by
    unfold zal
    split
    · exact zal_01 F p q m (k + 1)
    · exact Or.inl rfl
theorem zal_congr {F G : Int → Int} {p q E : Int} (h : ∀ j, 0 ≤ j → j < E → F j = G j) : ∀ (m : Nat) (k : Int), 0 ≤ p + k → 0 ≤ q + k → p + k + m ≤ E → q + k + m ≤ E → zal F p q m k = zal G p q m k
  | 0, _, _, _, _, _ => rfl
  | m + 1, k, h1, h2, h3, h4 => by
    unfold zal
    rw [h (p + k) h1 (by omega), h (q + k) h2 (by omega), zal_congr h m (k + 1) (by omega) (by omega) (by omega) (by omega)]
theorem w_behindHead (σ : ZT) {r n : Int} (hn : 1 ≤ n ∧ n ≤ 40) (hl : 0 ≤ σ 17 r n ∧ σ 17 r n ≤ 120) : f_W_behindHead [(15, r), (0, n)] σ = some (0, zbh (σ 16 r n) n (σ 17 r n), σ) := by
  rw [u_W_behindHead, e_W_behindHead_0]
  unfold zbh
  by_cases h1 : 9 < n
  · by_cases h2 : 9 < σ 17 r n
    · by_cases h3 : 99 < σ 17 r n
      · simp (disch := omega) only [e_W_behindHead_27, e_W_behindHead_39, e_W_behindHead_51, zwr_id, zT_lt, zF_lt, zT_le, zF_le, zT_eq, zF_eq, zT_neq, zF_neq, zT_nlt, zT_nle, and_true, true_and, and_false, false_and, and_self, or_true, true_or, or_false, false_or, or_self, not_true_eq_false, not_false_eq_true, ↓reduceIte, implies_true, true_imp_iff, false_imp_iff, zcall0, zcall1, zcall2, zcall3, zcall4, zsto_eq, zsto_ne, zsto_fn, zok13, zok6, zok15, znb_0, zrng_hit, zrng_ne, zrng_fn, zcpy_ne, zcpy_fn]
      · simp (disch := omega) only [e_W_behindHead_27, e_W_behindHead_39, e_W_behindHead_51, zwr_id, zT_lt, zF_lt, zT_le, zF_le, zT_eq, zF_eq, zT_neq, zF_neq, zT_nlt, zT_nle, and_true, true_and, and_false, false_and, and_self, or_true, true_or, or_false, false_or, or_self, not_true_eq_false, not_false_eq_true, ↓reduceIte, implies_true, true_imp_iff, false_imp_iff, zcall0, zcall1, zcall2, zcall3, zcall4, zsto_eq, zsto_ne, zsto_fn, zok13, zok6, zok15, znb_0, zrng_hit, zrng_ne, zrng_fn, zcpy_ne, zcpy_fn]
    · simp (disch := omega) only [e_W_behindHead_27, e_W_behindHead_39, e_W_behindHead_51, zwr_id, zT_lt, zF_lt, zT_le, zF_le, zT_eq, zF_eq, zT_neq, zF_neq, zT_nlt, zT_nle, and_true, true_and, and_false, false_and, and_self, or_true, true_or, or_false, false_or, or_self, not_true_eq_false, not_false_eq_true, ↓reduceIte, implies_true, true_imp_iff, false_imp_iff, zcall0, zcall1, zcall2, zcall3, zcall4, zsto_eq, zsto_ne, zsto_fn, zok13, zok6, zok15, znb_0, zrng_hit, zrng_ne, zrng_fn, zcpy_ne, zcpy_fn]
  · by_cases h2 : 9 < σ 17 r n
    · by_cases h3 : 99 < σ 17 r n
      · simp (disch := omega) only [e_W_behindHead_27, e_W_behindHead_39, e_W_behindHead_51, zwr_id, zT_lt, zF_lt, zT_le, zF_le, zT_eq, zF_eq, zT_neq, zF_neq, zT_nlt, zT_nle, and_true, true_and, and_false, false_and, and_self, or_true, true_or, or_false, false_or, or_self, not_true_eq_false, not_false_eq_true, ↓reduceIte, implies_true, true_imp_iff, false_imp_iff, zcall0, zcall1, zcall2, zcall3, zcall4, zsto_eq, zsto_ne, zsto_fn, zok13, zok6, zok15, znb_0, zrng_hit, zrng_ne, zrng_fn, zcpy_ne, zcpy_fn]
      · simp (disch := omega) only [e_W_behindHead_27, e_W_behindHead_39, e_W_behindHead_51, zwr_id, zT_lt, zF_lt, zT_le, zF_le, zT_eq, zF_eq, zT_neq, zF_neq, zT_nlt, zT_nle, and_true, true_and, and_false, false_and, and_self, or_true, true_or, or_false, false_or, or_self, not_true_eq_false, not_false_eq_true, ↓reduceIte, implies_true, true_imp_iff, false_imp_iff, zcall0, zcall1, zcall2, zcall3, zcall4, zsto_eq, zsto_ne, zsto_fn, zok13, zok6, zok15, znb_0, zrng_hit, zrng_ne, zrng_fn, zcpy_ne, zcpy_fn]
    · simp (disch := omega) only [e_W_behindHead_27, e_W_behindHead_39, e_W_behindHead_51, zwr_id, zT_lt, zF_lt, zT_le, zF_le, zT_eq, zF_eq, zT_neq, zF_neq, zT_nlt, zT_nle, and_true, true_and, and_false, false_and, and_self, or_true, true_or, or_false, false_or, or_self, not_true_eq_false, not_false_eq_true, ↓reduceIte, implies_true, true_imp_iff, false_imp_iff, zcall0, zcall1, zcall2, zcall3, zcall4, zsto_eq, zsto_ne, zsto_fn, zok13, zok6, zok15, znb_0, zrng_hit, zrng_ne, zrng_fn, zcpy_ne, zcpy_fn]
theorem w_alike_loop (σ : ZT) (hB : zSimB σ) (hf : 0 ≤ σ 4 0 1 ∧ σ 4 0 1 < 2) {a b n p q : Int} (hn : 1 ≤ n ∧ n ≤ 40) (hl : 0 ≤ σ 17 a n ∧ σ 17 a n ≤ 120) (hp : 0 ≤ p ∧ p + σ 17 a n ≤ 12000) (hq : 0 ≤ q ∧ q + σ 17 a n ≤ 12000) : ∀ (m : Nat) (k : Int), 0 ≤ k → σ 17 a n - k = m → zrun C_W_isAlike (39, [(4, 0), (15, a), (15, b), (0, n), (0, 1), (0, p), (0, q), (0, k)], [], σ) = some (0, zal (σ 7 (σ 4 0 1)) p q m k, σ)
  | 0, k, h1, hk => by
    rw [e_W_isAlike_39]
    simp (disch := omega) only [e_W_isAlike_97, zwr_id, zT_lt, zF_lt, zT_le, zF_le, zT_eq, zF_eq, zT_neq, zF_neq, zT_nlt, zT_nle, and_true, true_and, and_false, false_and, and_self, or_true, true_or, or_false, false_or, or_self, not_true_eq_false, not_false_eq_true, ↓reduceIte, implies_true, true_imp_iff, false_imp_iff, zcall0, zcall1, zcall2, zcall3, zcall4, zsto_eq, zsto_ne, zsto_fn, zok13, zok6, zok15, znb_0, zrng_hit, zrng_ne, zrng_fn, zcpy_ne, zcpy_fn]
    rfl
  | m + 1, k, h1, hk => by
    have b1 := (hB (σ 4 0 1) (p + k)).1
    have b2 := (hB (σ 4 0 1) (q + k)).1
    rw [e_W_isAlike_39]
    unfold zal
    by_cases h : σ 7 (σ 4 0 1) (p + k) = σ 7 (σ 4 0 1) (q + k)
    · rw [if_pos h, ← w_alike_loop σ hB hf (b := b) hn hl hp hq m (k + 1) (by omega) (by omega)]
      simp (disch := omega) only [e_W_isAlike_89, zwr_id, zT_lt, zF_lt, zT_le, zF_le, zT_eq, zF_eq, zT_neq, zF_neq, zT_nlt, zT_nle, and_true, true_and, and_false, false_and, and_self, or_true, true_or, or_false, false_or, or_self, not_true_eq_false, not_false_eq_true, ↓reduceIte, implies_true, true_imp_iff, false_imp_iff, zcall0, zcall1, zcall2, zcall3, zcall4, zsto_eq, zsto_ne, zsto_fn, zok13, zok6, zok15, znb_0, zrng_hit, zrng_ne, zrng_fn, zcpy_ne, zcpy_fn]
    · rw [if_neg h]
      simp (disch := omega) only [e_W_isAlike_89, zwr_id, zT_lt, zF_lt, zT_le, zF_le, zT_eq, zF_eq, zT_neq, zF_neq, zT_nlt, zT_nle, and_true, true_and, and_false, false_and, and_self, or_true, true_or, or_false, false_or, or_self, not_true_eq_false, not_false_eq_true, ↓reduceIte, implies_true, true_imp_iff, false_imp_iff, zcall0, zcall1, zcall2, zcall3, zcall4, zsto_eq, zsto_ne, zsto_fn, zok13, zok6, zok15, znb_0, zrng_hit, zrng_ne, zrng_fn, zcpy_ne, zcpy_fn]
      rw [e_W_isAlike_39]
      by_cases h2 : k + 1 < σ 17 a n
      · simp (disch := omega) only [e_W_isAlike_97, zwr_id, zT_lt, zF_lt, zT_le, zF_le, zT_eq, zF_eq, zT_neq, zF_neq, zT_nlt, zT_nle, and_true, true_and, and_false, false_and, and_self, or_true, true_or, or_false, false_or, or_self, not_true_eq_false, not_false_eq_true, ↓reduceIte, implies_true, true_imp_iff, false_imp_iff, zcall0, zcall1, zcall2, zcall3, zcall4, zsto_eq, zsto_ne, zsto_fn, zok13, zok6, zok15, znb_0, zrng_hit, zrng_ne, zrng_fn, zcpy_ne, zcpy_fn]
      · simp (disch := omega) only [e_W_isAlike_97, zwr_id, zT_lt, zF_lt, zT_le, zF_le, zT_eq, zF_eq, zT_neq, zF_neq, zT_nlt, zT_nle, and_true, true_and, and_false, false_and, and_self, or_true, true_or, or_false, false_or, or_self, not_true_eq_false, not_false_eq_true, ↓reduceIte, implies_true, true_imp_iff, false_imp_iff, zcall0, zcall1, zcall2, zcall3, zcall4, zsto_eq, zsto_ne, zsto_fn, zok13, zok6, zok15, znb_0, zrng_hit, zrng_ne, zrng_fn, zcpy_ne, zcpy_fn]
theorem w_isAlike (σ : ZT) (hB : zSimB σ) (hf : 0 ≤ σ 4 0 1 ∧ σ 4 0 1 < 2) {a b n : Int} (hn : 1 ≤ n ∧ n ≤ 40) (hl : 0 ≤ σ 17 a n ∧ σ 17 a n ≤ 120) (hl' : 0 ≤ σ 17 b n ∧ σ 17 b n ≤ 120) (hp : 0 ≤ zbh (σ 16 a n) n (σ 17 a n) ∧ zbh (σ 16 a n) n (σ 17 a n) + σ 17 a n ≤ 12000) (hq : 0 ≤ zbh (σ 16 b n) n (σ 17 b n) ∧ zbh (σ 16 b n) n (σ 17 b n) + σ 17 b n ≤ 12000) : f_W_isAlike [(4, 0), (15, a), (15, b), (0, n)] σ = some (0, if σ 17 a n = σ 17 b n then zal (σ 7 (σ 4 0 1)) (zbh (σ 16 a n) n (σ 17 a n)) (zbh (σ 16 b n) n (σ 17 b n)) (σ 17 a n).toNat 0 else 0, σ) := by
  rw [u_W_isAlike, e_W_isAlike_0]
  by_cases h : σ 17 a n = σ 17 b n
  · simp (disch := omega) only [e_W_isAlike_20, w_behindHead, zwr_id, zT_lt, zF_lt, zT_le, zF_le, zT_eq, zF_eq, zT_neq, zF_neq, zT_nlt, zT_nle, and_true, true_and, and_false, false_and, and_self, or_true, true_or, or_false, false_or, or_self, not_true_eq_false, not_false_eq_true, ↓reduceIte, implies_true, true_imp_iff, false_imp_iff, zcall0, zcall1, zcall2, zcall3, zcall4, zsto_eq, zsto_ne, zsto_fn, zok13, zok6, zok15, znb_0, zrng_hit, zrng_ne, zrng_fn, zcpy_ne, zcpy_fn]
    rw [w_alike_loop σ hB hf hn hl hp (by omega) (σ 17 a n).toNat 0 (by omega) (by omega)]
  · simp (disch := omega) only [e_W_isAlike_20, w_behindHead, zwr_id, zT_lt, zF_lt, zT_le, zF_le, zT_eq, zF_eq, zT_neq, zF_neq, zT_nlt, zT_nle, and_true, true_and, and_false, false_and, and_self, or_true, true_or, or_false, false_or, or_self, not_true_eq_false, not_false_eq_true, ↓reduceIte, implies_true, true_imp_iff, false_imp_iff, zcall0, zcall1, zcall2, zcall3, zcall4, zsto_eq, zsto_ne, zsto_fn, zok13, zok6, zok15, znb_0, zrng_hit, zrng_ne, zrng_fn, zcpy_ne, zcpy_fn]
    rw [e_W_isAlike_39]
    by_cases h2 : 0 < σ 17 a n
    · simp (disch := omega) only [e_W_isAlike_97, zwr_id, zT_lt, zF_lt, zT_le, zF_le, zT_eq, zF_eq, zT_neq, zF_neq, zT_nlt, zT_nle, and_true, true_and, and_false, false_and, and_self, or_true, true_or, or_false, false_or, or_self, not_true_eq_false, not_false_eq_true, ↓reduceIte, implies_true, true_imp_iff, false_imp_iff, zcall0, zcall1, zcall2, zcall3, zcall4, zsto_eq, zsto_ne, zsto_fn, zok13, zok6, zok15, znb_0, zrng_hit, zrng_ne, zrng_fn, zcpy_ne, zcpy_fn]
    · simp (disch := omega) only [e_W_isAlike_97, zwr_id, zT_lt, zF_lt, zT_le, zF_le, zT_eq, zF_eq, zT_neq, zF_neq, zT_nlt, zT_nle, and_true, true_and, and_false, false_and, and_self, or_true, true_or, or_false, false_or, or_self, not_true_eq_false, not_false_eq_true, ↓reduceIte, implies_true, true_imp_iff, false_imp_iff, zcall0, zcall1, zcall2, zcall3, zcall4, zsto_eq, zsto_ne, zsto_fn, zok13, zok6, zok15, znb_0, zrng_hit, zrng_ne, zrng_fn, zcpy_ne, zcpy_fn]
theorem m_alike_loop (σ : ZT) (hB : zSimB σ) {a b : Int} (ha : 0 ≤ a ∧ a < 2460) (hb : 0 ≤ b ∧ b < 2460) (hl : 0 ≤ σ 32 0 a ∧ σ 32 0 a ≤ 120) (hp : 0 ≤ σ 31 0 a ∧ σ 31 0 a + σ 32 0 a ≤ 12000) (hq : 0 ≤ σ 31 0 b ∧ σ 31 0 b + σ 32 0 a ≤ 12000) : ∀ (m : Nat) (k : Int), 0 ≤ k → σ 32 0 a - k = m → zrun C_M_isAlike (24, [(20, 0), (0, a), (0, b), (0, 1), (0, k)], [], σ) = some (0, zal (σ 27 0) (σ 31 0 a) (σ 31 0 b) m k, σ)
  | 0, k, h1, hk => by
    rw [e_M_isAlike_24]
    simp (disch := omega) only [e_M_isAlike_82, zwr_id, zT_lt, zF_lt, zT_le, zF_le, zT_eq, zF_eq, zT_neq, zF_neq, zT_nlt, zT_nle, and_true, true_and, and_false, false_and, and_self, or_true, true_or, or_false, false_or, or_self, not_true_eq_false, not_false_eq_true, ↓reduceIte, implies_true, true_imp_iff, false_imp_iff, zcall0, zcall1, zcall2, zcall3, zcall4, zsto_eq, zsto_ne, zsto_fn, zok13, zok6, zok15, znb_0, zrng_hit, zrng_ne, zrng_fn, zcpy_ne, zcpy_fn]
    rfl
  | m + 1, k, h1, hk => by
    have b1 := (hB 0 (σ 31 0 a + k)).2.2.2
    have b2 := (hB 0 (σ 31 0 b + k)).2.2.2
    rw [e_M_isAlike_24]
    unfold zal
    by_cases h : σ 27 0 (σ 31 0 a + k) = σ 27 0 (σ 31 0 b + k)
    · rw [if_pos h, ← m_alike_loop σ hB ha hb hl hp hq m (k + 1) (by omega) (by omega)]
      simp (disch := omega) only [e_M_isAlike_75, zwr_id, zT_lt, zF_lt, zT_le, zF_le, zT_eq, zF_eq, zT_neq, zF_neq, zT_nlt, zT_nle, and_true, true_and, and_false, false_and, and_self, or_true, true_or, or_false, false_or, or_self, not_true_eq_false, not_false_eq_true, ↓reduceIte, implies_true, true_imp_iff, false_imp_iff, zcall0, zcall1, zcall2, zcall3, zcall4, zsto_eq, zsto_ne, zsto_fn, zok13, zok6, zok15, znb_0, zrng_hit, zrng_ne, zrng_fn, zcpy_ne, zcpy_fn]
    · rw [if_neg h]
      simp (disch := omega) only [e_M_isAlike_75, zwr_id, zT_lt, zF_lt, zT_le, zF_le, zT_eq, zF_eq, zT_neq, zF_neq, zT_nlt, zT_nle, and_true, true_and, and_false, false_and, and_self, or_true, true_or, or_false, false_or, or_self, not_true_eq_false, not_false_eq_true, ↓reduceIte, implies_true, true_imp_iff, false_imp_iff, zcall0, zcall1, zcall2, zcall3, zcall4, zsto_eq, zsto_ne, zsto_fn, zok13, zok6, zok15, znb_0, zrng_hit, zrng_ne, zrng_fn, zcpy_ne, zcpy_fn]
      rw [e_M_isAlike_24]
      by_cases h2 : k + 1 < σ 32 0 a
      · simp (disch := omega) only [e_M_isAlike_82, zwr_id, zT_lt, zF_lt, zT_le, zF_le, zT_eq, zF_eq, zT_neq, zF_neq, zT_nlt, zT_nle, and_true, true_and, and_false, false_and, and_self, or_true, true_or, or_false, false_or, or_self, not_true_eq_false, not_false_eq_true, ↓reduceIte, implies_true, true_imp_iff, false_imp_iff, zcall0, zcall1, zcall2, zcall3, zcall4, zsto_eq, zsto_ne, zsto_fn, zok13, zok6, zok15, znb_0, zrng_hit, zrng_ne, zrng_fn, zcpy_ne, zcpy_fn]
      · simp (disch := omega) only [e_M_isAlike_82, zwr_id, zT_lt, zF_lt, zT_le, zF_le, zT_eq, zF_eq, zT_neq, zF_neq, zT_nlt, zT_nle, and_true, true_and, and_false, false_and, and_self, or_true, true_or, or_false, false_or, or_self, not_true_eq_false, not_false_eq_true, ↓reduceIte, implies_true, true_imp_iff, false_imp_iff, zcall0, zcall1, zcall2, zcall3, zcall4, zsto_eq, zsto_ne, zsto_fn, zok13, zok6, zok15, znb_0, zrng_hit, zrng_ne, zrng_fn, zcpy_ne, zcpy_fn]
theorem m_isAlike (σ : ZT) (hB : zSimB σ) {a b : Int} (ha : 0 ≤ a ∧ a < 2460) (hb : 0 ≤ b ∧ b < 2460) (hl : 0 ≤ σ 32 0 a ∧ σ 32 0 a ≤ 120) (hl' : 0 ≤ σ 32 0 b ∧ σ 32 0 b ≤ 120) (hp : 0 ≤ σ 31 0 a ∧ σ 31 0 a + σ 32 0 a ≤ 12000) (hq : 0 ≤ σ 31 0 b ∧ σ 31 0 b + σ 32 0 b ≤ 12000) : f_M_isAlike [(20, 0), (0, a), (0, b)] σ = some (0, if σ 32 0 a = σ 32 0 b then zal (σ 27 0) (σ 31 0 a) (σ 31 0 b) (σ 32 0 a).toNat 0 else 0, σ) := by
  rw [u_M_isAlike, e_M_isAlike_0]
  by_cases h : σ 32 0 a = σ 32 0 b
  · simp (disch := omega) only [e_M_isAlike_20, zwr_id, zT_lt, zF_lt, zT_le, zF_le, zT_eq, zF_eq, zT_neq, zF_neq, zT_nlt, zT_nle, and_true, true_and, and_false, false_and, and_self, or_true, true_or, or_false, false_or, or_self, not_true_eq_false, not_false_eq_true, ↓reduceIte, implies_true, true_imp_iff, false_imp_iff, zcall0, zcall1, zcall2, zcall3, zcall4, zsto_eq, zsto_ne, zsto_fn, zok13, zok6, zok15, znb_0, zrng_hit, zrng_ne, zrng_fn, zcpy_ne, zcpy_fn]
    rw [m_alike_loop σ hB ha hb hl hp (by omega) (σ 32 0 a).toNat 0 (by omega) (by omega)]
  · simp (disch := omega) only [e_M_isAlike_20, zwr_id, zT_lt, zF_lt, zT_le, zF_le, zT_eq, zF_eq, zT_neq, zF_neq, zT_nlt, zT_nle, and_true, true_and, and_false, false_and, and_self, or_true, true_or, or_false, false_or, or_self, not_true_eq_false, not_false_eq_true, ↓reduceIte, implies_true, true_imp_iff, false_imp_iff, zcall0, zcall1, zcall2, zcall3, zcall4, zsto_eq, zsto_ne, zsto_fn, zok13, zok6, zok15, znb_0, zrng_hit, zrng_ne, zrng_fn, zcpy_ne, zcpy_fn]
    rw [e_M_isAlike_24]
    by_cases h2 : 0 < σ 32 0 a
    · simp (disch := omega) only [e_M_isAlike_82, zwr_id, zT_lt, zF_lt, zT_le, zF_le, zT_eq, zF_eq, zT_neq, zF_neq, zT_nlt, zT_nle, and_true, true_and, and_false, false_and, and_self, or_true, true_or, or_false, false_or, or_self, not_true_eq_false, not_false_eq_true, ↓reduceIte, implies_true, true_imp_iff, false_imp_iff, zcall0, zcall1, zcall2, zcall3, zcall4, zsto_eq, zsto_ne, zsto_fn, zok13, zok6, zok15, znb_0, zrng_hit, zrng_ne, zrng_fn, zcpy_ne, zcpy_fn]
    · simp (disch := omega) only [e_M_isAlike_82, zwr_id, zT_lt, zF_lt, zT_le, zF_le, zT_eq, zF_eq, zT_neq, zF_neq, zT_nlt, zT_nle, and_true, true_and, and_false, false_and, and_self, or_true, true_or, or_false, false_or, or_self, not_true_eq_false, not_false_eq_true, ↓reduceIte, implies_true, true_imp_iff, false_imp_iff, zcall0, zcall1, zcall2, zcall3, zcall4, zsto_eq, zsto_ne, zsto_fn, zok13, zok6, zok15, znb_0, zrng_hit, zrng_ne, zrng_fn, zcpy_ne, zcpy_fn]
/-- a revision's record of an object, in bounds -/
def zRc (σ : ZT) (a n : Int) : Prop := σ 16 a n = 0 ∨ (0 < σ 16 a n ∧ σ 16 a n ≤ 12000 ∧ 0 ≤ σ 17 a n ∧ σ 17 a n ≤ 120 ∧ 0 ≤ zbh (σ 16 a n) n (σ 17 a n) ∧ zbh (σ 16 a n) n (σ 17 a n) + σ 17 a n ≤ 12000)
def zDh (σ : ZT) (a b : Int) : Prop := zSimB σ ∧ (0 ≤ σ 4 0 1 ∧ σ 4 0 1 < 2) ∧ ∀ n, 1 ≤ n → n ≤ 40 → zRc σ a n ∧ zRc σ b n
/-- how an object differs -/
def zkd (σ : ZT) (a b n : Int) : Int := if 0 < σ 16 a n then (if 0 < σ 16 b n then (if (if σ 17 a n = σ 17 b n then zal (σ 7 (σ 4 0 1)) (zbh (σ 16 a n) n (σ 17 a n)) (zbh (σ 16 b n) n (σ 17 b n)) (σ 17 a n).toNat 0 else 0) = 0 then 3 else 0) else 2) else (if 0 < σ 16 b n then 1 else 0)
theorem zkd_bd (σ : ZT) (a b n : Int) : 0 ≤ zkd σ a b n ∧ zkd σ a b n ≤ 3 := by
  unfold zkd
  split
  · split
    · split <;> omega
    · omega
  · split <;> omega
theorem zDh.fn {σ τ : ZT} {a b : Int} (h : zDh σ a b) (hB : zSimB τ) (h16 : τ 16 = σ 16) (h17 : τ 17 = σ 17) (h4 : τ 4 0 1 = σ 4 0 1) : zDh τ a b := by
  unfold zDh zRc at h ⊢
  rw [h16, h17, h4]
  exact ⟨hB, h.2⟩
theorem zkd.fn {σ τ : ZT} (a b n : Int) (h7 : τ 7 = σ 7) (h16 : τ 16 = σ 16) (h17 : τ 17 = σ 17) (h4 : τ 4 0 1 = σ 4 0 1) : zkd τ a b n = zkd σ a b n := by
  unfold zkd
  rw [h7, h16, h17, h4]
/-- one more row -/
def zadd (σ : ZT) (n k : Int) : ZT := zsto (zsto (zsto σ 10 0 (2 * σ 4 0 9) n) 4 0 9 (σ 4 0 9 + 1)) 10 0 (2 * σ 4 0 9 + 1) k
theorem w_differ_step (σ : ZT) {x1 x2 a b n : Int} {u6 u7 u8 : ZV} (h : zDh σ a b) (hn : 1 ≤ n ∧ n ≤ 40) (hd : 0 ≤ σ 4 0 9 ∧ σ 4 0 9 < n) : ∃ v6 v7 v8 : ZV, zrun C_W_differ (21, [(4, 0), (0, x1), (0, x2), (15, a), (15, b), (0, n), u6, u7, u8], [], σ) = zrun C_W_differ (21, [(4, 0), (0, x1), (0, x2), (15, a), (15, b), (0, n + 1), v6, v7, v8], [], if zkd σ a b n = 0 then σ else zadd σ n (zkd σ a b n)) := by
  obtain ⟨hB, hf, hr⟩ := h
  obtain ⟨r1, r2⟩ := hr n hn.1 hn.2
  unfold zRc at r1 r2
  unfold zadd
  by_cases h1 : 0 < σ 16 a n
  · by_cases h2 : 0 < σ 16 b n
    · have e := w_isAlike σ hB hf (a := a) (b := b) hn (by omega) (by omega) (by omega) (by omega)
      generalize hA : (if σ 17 a n = σ 17 b n then zal (σ 7 (σ 4 0 1)) (zbh (σ 16 a n) n (σ 17 a n)) (zbh (σ 16 b n) n (σ 17 b n)) (σ 17 a n).toNat 0 else 0) = A at e
      have hA1 : A = 0 ∨ A = 1 := by
        rw [← hA]
        split
        · exact zal_01 _ _ _ _ _
        · exact Or.inl rfl
      rcases hA1 with hA1 | hA1
      · have hk : zkd σ a b n = 3 := by unfold zkd; rw [hA, if_pos h1, if_pos h2, if_pos hA1]
        subst hA1
        exact ⟨(0, 1), (0, 1), (0, 3), by rw [hk, e_W_differ_21]; simp (disch := omega) only [e_W_differ_43, e_W_differ_61, e_W_differ_93, e_W_differ_112, e_W_differ_157, e, zwr_id, zT_lt, zF_lt, zT_le, zF_le, zT_eq, zF_eq, zT_neq, zF_neq, zT_nlt, zT_nle, and_true, true_and, and_false, false_and, and_self, or_true, true_or, or_false, false_or, or_self, not_true_eq_false, not_false_eq_true, ↓reduceIte, implies_true, true_imp_iff, false_imp_iff, zcall0, zcall1, zcall2, zcall3, zcall4, zsto_eq, zsto_ne, zsto_fn, zok13, zok6, zok15, znb_0, zrng_hit, zrng_ne, zrng_fn, zcpy_ne, zcpy_fn]⟩
      · have hk : zkd σ a b n = 0 := by unfold zkd; rw [hA, if_pos h1, if_pos h2, if_neg (by omega)]
        subst hA1
        exact ⟨(0, 1), (0, 1), (0, 0), by rw [hk, e_W_differ_21]; simp (disch := omega) only [e_W_differ_43, e_W_differ_61, e_W_differ_93, e_W_differ_112, e_W_differ_157, e, zwr_id, zT_lt, zF_lt, zT_le, zF_le, zT_eq, zF_eq, zT_neq, zF_neq, zT_nlt, zT_nle, and_true, true_and, and_false, false_and, and_self, or_true, true_or, or_false, false_or, or_self, not_true_eq_false, not_false_eq_true, ↓reduceIte, implies_true, true_imp_iff, false_imp_iff, zcall0, zcall1, zcall2, zcall3, zcall4, zsto_eq, zsto_ne, zsto_fn, zok13, zok6, zok15, znb_0, zrng_hit, zrng_ne, zrng_fn, zcpy_ne, zcpy_fn]⟩
    · have hk : zkd σ a b n = 2 := by unfold zkd; rw [if_pos h1, if_neg h2]
      exact ⟨(0, 1), (0, 0), (0, 2), by rw [hk, e_W_differ_21]; simp (disch := omega) only [e_W_differ_43, e_W_differ_61, e_W_differ_93, e_W_differ_112, e_W_differ_157, zwr_id, zT_lt, zF_lt, zT_le, zF_le, zT_eq, zF_eq, zT_neq, zF_neq, zT_nlt, zT_nle, and_true, true_and, and_false, false_and, and_self, or_true, true_or, or_false, false_or, or_self, not_true_eq_false, not_false_eq_true, ↓reduceIte, implies_true, true_imp_iff, false_imp_iff, zcall0, zcall1, zcall2, zcall3, zcall4, zsto_eq, zsto_ne, zsto_fn, zok13, zok6, zok15, znb_0, zrng_hit, zrng_ne, zrng_fn, zcpy_ne, zcpy_fn]⟩
  · by_cases h2 : 0 < σ 16 b n
    · have hk : zkd σ a b n = 1 := by unfold zkd; rw [if_neg h1, if_pos h2]
      exact ⟨(0, 0), (0, 1), (0, 1), by rw [hk, e_W_differ_21]; simp (disch := omega) only [e_W_differ_43, e_W_differ_61, e_W_differ_93, e_W_differ_112, e_W_differ_157, zwr_id, zT_lt, zF_lt, zT_le, zF_le, zT_eq, zF_eq, zT_neq, zF_neq, zT_nlt, zT_nle, and_true, true_and, and_false, false_and, and_self, or_true, true_or, or_false, false_or, or_self, not_true_eq_false, not_false_eq_true, ↓reduceIte, implies_true, true_imp_iff, false_imp_iff, zcall0, zcall1, zcall2, zcall3, zcall4, zsto_eq, zsto_ne, zsto_fn, zok13, zok6, zok15, znb_0, zrng_hit, zrng_ne, zrng_fn, zcpy_ne, zcpy_fn]⟩
    · have hk : zkd σ a b n = 0 := by unfold zkd; rw [if_neg h1, if_neg h2]
      exact ⟨(0, 0), (0, 0), (0, 0), by rw [hk, e_W_differ_21]; simp (disch := omega) only [e_W_differ_43, e_W_differ_61, e_W_differ_93, e_W_differ_112, e_W_differ_157, zwr_id, zT_lt, zF_lt, zT_le, zF_le, zT_eq, zF_eq, zT_neq, zF_neq, zT_nlt, zT_nle, and_true, true_and, and_false, false_and, and_self, or_true, true_or, or_false, false_or, or_self, not_true_eq_false, not_false_eq_true, ↓reduceIte, implies_true, true_imp_iff, false_imp_iff, zcall0, zcall1, zcall2, zcall3, zcall4, zsto_eq, zsto_ne, zsto_fn, zok13, zok6, zok15, znb_0, zrng_hit, zrng_ne, zrng_fn, zcpy_ne, zcpy_fn]⟩
def zdfs (K : Int → Int) : Nat → Int → ZT → ZT
  | 0, _, σ => σ
  | m + 1, n, σ => zdfs K m (n + 1) (if K n = 0 then σ else zadd σ n (K n))
theorem w_differ_loop (K : Int → Int) {x1 x2 a b : Int} : ∀ (m : Nat) (n : Int) (σ : ZT) (u6 u7 u8 : ZV), zDh σ a b → (∀ j, zkd σ a b j = K j) → 1 ≤ n → 41 - n = m → 0 ≤ σ 4 0 9 → σ 4 0 9 < n → zrun C_W_differ (21, [(4, 0), (0, x1), (0, x2), (15, a), (15, b), (0, n), u6, u7, u8], [], σ) = some (0, zdfs K m n σ 4 0 9, zdfs K m n σ)
  | 0, n, σ, u6, u7, u8, h, hK, h1, hm, d0, d1 => by
    rw [e_W_differ_21]
    simp (disch := omega) only [zwr_id, zT_lt, zF_lt, zT_le, zF_le, zT_eq, zF_eq, zT_neq, zF_neq, zT_nlt, zT_nle, and_true, true_and, and_false, false_and, and_self, or_true, true_or, or_false, false_or, or_self, not_true_eq_false, not_false_eq_true, ↓reduceIte, implies_true, true_imp_iff, false_imp_iff, zcall0, zcall1, zcall2, zcall3, zcall4, zsto_eq, zsto_ne, zsto_fn, zok13, zok6, zok15, znb_0, zrng_hit, zrng_ne, zrng_fn, zcpy_ne, zcpy_fn]
    rfl
  | m + 1, n, σ, u6, u7, u8, h, hK, h1, hm, d0, d1 => by
    obtain ⟨v6, v7, v8, e⟩ := w_differ_step σ (x1 := x1) (x2 := x2) (u6 := u6) (u7 := u7) (u8 := u8) h ⟨h1, by omega⟩ ⟨d0, d1⟩
    rw [e, hK n]
    by_cases hk : K n = 0
    · rw [if_pos hk, w_differ_loop K m (n + 1) σ v6 v7 v8 h hK (by omega) (by omega) d0 (by omega)]
      rw [zdfs, if_pos hk]
    · have hB : zSimB (zadd σ n (K n)) := zSimB.sto (zSimB.sto (zSimB.sto h.1 (by omega)) (by omega)) (by omega)
      have e9 : zadd σ n (K n) 4 0 9 = σ 4 0 9 + 1 := by unfold zadd; simp (disch := omega) only [zwr_id, zT_lt, zF_lt, zT_le, zF_le, zT_eq, zF_eq, zT_neq, zF_neq, zT_nlt, zT_nle, and_true, true_and, and_false, false_and, and_self, or_true, true_or, or_false, false_or, or_self, not_true_eq_false, not_false_eq_true, ↓reduceIte, implies_true, true_imp_iff, false_imp_iff, zcall0, zcall1, zcall2, zcall3, zcall4, zsto_eq, zsto_ne, zsto_fn, zok13, zok6, zok15, znb_0, zrng_hit, zrng_ne, zrng_fn, zcpy_ne, zcpy_fn]
      rw [if_neg hk, w_differ_loop K m (n + 1) (zadd σ n (K n)) v6 v7 v8 (h.fn hB (by unfold zadd; simp (disch := omega) only [zwr_id, zT_lt, zF_lt, zT_le, zF_le, zT_eq, zF_eq, zT_neq, zF_neq, zT_nlt, zT_nle, and_true, true_and, and_false, false_and, and_self, or_true, true_or, or_false, false_or, or_self, not_true_eq_false, not_false_eq_true, ↓reduceIte, implies_true, true_imp_iff, false_imp_iff, zcall0, zcall1, zcall2, zcall3, zcall4, zsto_eq, zsto_ne, zsto_fn, zok13, zok6, zok15, znb_0, zrng_hit, zrng_ne, zrng_fn, zcpy_ne, zcpy_fn]) (by unfold zadd; simp (disch := omega) only [zwr_id, zT_lt, zF_lt, zT_le, zF_le, zT_eq, zF_eq, zT_neq, zF_neq, zT_nlt, zT_nle, and_true, true_and, and_false, false_and, and_self, or_true, true_or, or_false, false_or, or_self, not_true_eq_false, not_false_eq_true, ↓reduceIte, implies_true, true_imp_iff, false_imp_iff, zcall0, zcall1, zcall2, zcall3, zcall4, zsto_eq, zsto_ne, zsto_fn, zok13, zok6, zok15, znb_0, zrng_hit, zrng_ne, zrng_fn, zcpy_ne, zcpy_fn]) (by unfold zadd; simp (disch := omega) only [zwr_id, zT_lt, zF_lt, zT_le, zF_le, zT_eq, zF_eq, zT_neq, zF_neq, zT_nlt, zT_nle, and_true, true_and, and_false, false_and, and_self, or_true, true_or, or_false, false_or, or_self, not_true_eq_false, not_false_eq_true, ↓reduceIte, implies_true, true_imp_iff, false_imp_iff, zcall0, zcall1, zcall2, zcall3, zcall4, zsto_eq, zsto_ne, zsto_fn, zok13, zok6, zok15, znb_0, zrng_hit, zrng_ne, zrng_fn, zcpy_ne, zcpy_fn])) (fun j => by rw [← hK j]; exact zkd.fn a b j (by unfold zadd; simp (disch := omega) only [zwr_id, zT_lt, zF_lt, zT_le, zF_le, zT_eq, zF_eq, zT_neq, zF_neq, zT_nlt, zT_nle, and_true, true_and, and_false, false_and, and_self, or_true, true_or, or_false, false_or, or_self, not_true_eq_false, not_false_eq_true, ↓reduceIte, implies_true, true_imp_iff, false_imp_iff, zcall0, zcall1, zcall2, zcall3, zcall4, zsto_eq, zsto_ne, zsto_fn, zok13, zok6, zok15, znb_0, zrng_hit, zrng_ne, zrng_fn, zcpy_ne, zcpy_fn]) (by unfold zadd; simp (disch := omega) only [zwr_id, zT_lt, zF_lt, zT_le, zF_le, zT_eq, zF_eq, zT_neq, zF_neq, zT_nlt, zT_nle, and_true, true_and, and_false, false_and, and_self, or_true, true_or, or_false, false_or, or_self, not_true_eq_false, not_false_eq_true, ↓reduceIte, implies_true, true_imp_iff, false_imp_iff, zcall0, zcall1, zcall2, zcall3, zcall4, zsto_eq, zsto_ne, zsto_fn, zok13, zok6, zok15, znb_0, zrng_hit, zrng_ne, zrng_fn, zcpy_ne, zcpy_fn]) (by unfold zadd; simp (disch := omega) only [zwr_id, zT_lt, zF_lt, zT_le, zF_le, zT_eq, zF_eq, zT_neq, zF_neq, zT_nlt, zT_nle, and_true, true_and, and_false, false_and, and_self, or_true, true_or, or_false, false_or, or_self, not_true_eq_false, not_false_eq_true, ↓reduceIte, implies_true, true_imp_iff, false_imp_iff, zcall0, zcall1, zcall2, zcall3, zcall4, zsto_eq, zsto_ne, zsto_fn, zok13, zok6, zok15, znb_0, zrng_hit, zrng_ne, zrng_fn, zcpy_ne, zcpy_fn]) (by unfold zadd; simp (disch := omega) only [zwr_id, zT_lt, zF_lt, zT_le, zF_le, zT_eq, zF_eq, zT_neq, zF_neq, zT_nlt, zT_nle, and_true, true_and, and_false, false_and, and_self, or_true, true_or, or_false, false_or, or_self, not_true_eq_false, not_false_eq_true, ↓reduceIte, implies_true, true_imp_iff, false_imp_iff, zcall0, zcall1, zcall2, zcall3, zcall4, zsto_eq, zsto_ne, zsto_fn, zok13, zok6, zok15, znb_0, zrng_hit, zrng_ne, zrng_fn, zcpy_ne, zcpy_fn])) (by omega) (by omega) (by omega) (by omega)]
      rw [zdfs, if_neg hk]
theorem zdfs_fn (K : Int → Int) : ∀ (m : Nat) (n : Int) (σ : ZT), (∀ k : Nat, k ≠ 4 → k ≠ 10 → zdfs K m n σ k = σ k) ∧ (∀ s, s ≠ 9 → zdfs K m n σ 4 0 s = σ 4 0 s) ∧ (zSimB σ → zSimB (zdfs K m n σ))
  | 0, _, σ => ⟨fun _ _ _ => rfl, fun _ _ => rfl, fun h => h⟩
  | m + 1, n, σ => by
    unfold zdfs
    by_cases hk : K n = 0
    · rw [if_pos hk]; exact zdfs_fn K m (n + 1) σ
    · rw [if_neg hk]
      obtain ⟨h1, h2, h3⟩ := zdfs_fn K m (n + 1) (zadd σ n (K n))
      refine ⟨fun k k1 k2 => ?_, fun s hs => ?_, fun hB => h3 (zSimB.sto (zSimB.sto (zSimB.sto hB (by omega)) (by omega)) (by omega))⟩
      · rw [h1 k k1 k2]; unfold zadd; simp (disch := omega) only [zwr_id, zT_lt, zF_lt, zT_le, zF_le, zT_eq, zF_eq, zT_neq, zF_neq, zT_nlt, zT_nle, and_true, true_and, and_false, false_and, and_self, or_true, true_or, or_false, false_or, or_self, not_true_eq_false, not_false_eq_true, ↓reduceIte, implies_true, true_imp_iff, false_imp_iff, zcall0, zcall1, zcall2, zcall3, zcall4, zsto_eq, zsto_ne, zsto_fn, zok13, zok6, zok15, znb_0, zrng_hit, zrng_ne, zrng_fn, zcpy_ne, zcpy_fn]
      · rw [h2 s hs]; unfold zadd; simp (disch := omega) only [zwr_id, zT_lt, zF_lt, zT_le, zF_le, zT_eq, zF_eq, zT_neq, zF_neq, zT_nlt, zT_nle, and_true, true_and, and_false, false_and, and_self, or_true, true_or, or_false, false_or, or_self, not_true_eq_false, not_false_eq_true, ↓reduceIte, implies_true, true_imp_iff, false_imp_iff, zcall0, zcall1, zcall2, zcall3, zcall4, zsto_eq, zsto_ne, zsto_fn, zok13, zok6, zok15, znb_0, zrng_hit, zrng_ne, zrng_fn, zcpy_ne, zcpy_fn]
/-- the reference's row -/
def zadm (σ : ZT) (n k : Int) : ZT := zsto (zsto (zsto σ 36 0 (σ 20 0 29) n) 37 0 (σ 20 0 29) k) 20 0 29 (σ 20 0 29 + 1)
def zdfm (K : Int → Int) : Nat → Int → ZT → ZT
  | 0, _, σ => σ
  | m + 1, n, σ => zdfm K m (n + 1) (if K n = 0 then σ else zadm σ n (K n))
/-- rows alike -/
def zdR (σ υ : ZT) (n : Int) : Prop := υ 20 0 29 = σ 4 0 9 ∧ 0 ≤ σ 4 0 9 ∧ σ 4 0 9 < n ∧ ∀ i, 0 ≤ i → i < σ 4 0 9 → σ 10 0 (2 * i) = υ 36 0 i ∧ σ 10 0 (2 * i + 1) = υ 37 0 i ∧ 0 ≤ υ 36 0 i ∧ υ 36 0 i ≤ 40 ∧ 0 ≤ υ 37 0 i ∧ υ 37 0 i ≤ 3
theorem zdR_run (K : Int → Int) (hK : ∀ j, 0 ≤ K j ∧ K j ≤ 3) : ∀ (m : Nat) (n : Int) (σ υ : ZT), 1 ≤ n → 41 - n = m → zdR σ υ n → zdR (zdfs K m n σ) (zdfm K m n υ) 41
  | 0, n, σ, υ, h1, hm, h => by
    have : n = 41 := by omega
    subst this
    exact h
  | m + 1, n, σ, υ, h1, hm, h => by
    obtain ⟨q1, q2, q3, q4⟩ := h
    unfold zdfs zdfm
    by_cases hk : K n = 0
    · rw [if_pos hk, if_pos hk]
      exact zdR_run K hK m (n + 1) σ υ (by omega) (by omega) ⟨q1, q2, by omega, q4⟩
    · rw [if_neg hk, if_neg hk]
      have hb := hK n
      refine zdR_run K hK m (n + 1) _ _ (by omega) (by omega) ⟨?_, ?_, ?_, fun i i1 i2 => ?_⟩
      · unfold zadd zadm; simp (disch := omega) only [zwr_id, zT_lt, zF_lt, zT_le, zF_le, zT_eq, zF_eq, zT_neq, zF_neq, zT_nlt, zT_nle, and_true, true_and, and_false, false_and, and_self, or_true, true_or, or_false, false_or, or_self, not_true_eq_false, not_false_eq_true, ↓reduceIte, implies_true, true_imp_iff, false_imp_iff, zcall0, zcall1, zcall2, zcall3, zcall4, zsto_eq, zsto_ne, zsto_fn, zok13, zok6, zok15, znb_0, zrng_hit, zrng_ne, zrng_fn, zcpy_ne, zcpy_fn]
      · unfold zadd; simp (disch := omega) only [zwr_id, zT_lt, zF_lt, zT_le, zF_le, zT_eq, zF_eq, zT_neq, zF_neq, zT_nlt, zT_nle, and_true, true_and, and_false, false_and, and_self, or_true, true_or, or_false, false_or, or_self, not_true_eq_false, not_false_eq_true, ↓reduceIte, implies_true, true_imp_iff, false_imp_iff, zcall0, zcall1, zcall2, zcall3, zcall4, zsto_eq, zsto_ne, zsto_fn, zok13, zok6, zok15, znb_0, zrng_hit, zrng_ne, zrng_fn, zcpy_ne, zcpy_fn]
      · unfold zadd; simp (disch := omega) only [zwr_id, zT_lt, zF_lt, zT_le, zF_le, zT_eq, zF_eq, zT_neq, zF_neq, zT_nlt, zT_nle, and_true, true_and, and_false, false_and, and_self, or_true, true_or, or_false, false_or, or_self, not_true_eq_false, not_false_eq_true, ↓reduceIte, implies_true, true_imp_iff, false_imp_iff, zcall0, zcall1, zcall2, zcall3, zcall4, zsto_eq, zsto_ne, zsto_fn, zok13, zok6, zok15, znb_0, zrng_hit, zrng_ne, zrng_fn, zcpy_ne, zcpy_fn]
      · have e9 : zadd σ n (K n) 4 0 9 = σ 4 0 9 + 1 := by unfold zadd; simp (disch := omega) only [zwr_id, zT_lt, zF_lt, zT_le, zF_le, zT_eq, zF_eq, zT_neq, zF_neq, zT_nlt, zT_nle, and_true, true_and, and_false, false_and, and_self, or_true, true_or, or_false, false_or, or_self, not_true_eq_false, not_false_eq_true, ↓reduceIte, implies_true, true_imp_iff, false_imp_iff, zcall0, zcall1, zcall2, zcall3, zcall4, zsto_eq, zsto_ne, zsto_fn, zok13, zok6, zok15, znb_0, zrng_hit, zrng_ne, zrng_fn, zcpy_ne, zcpy_fn]
        rw [e9] at i2
        by_cases hi : i = σ 4 0 9
        · subst hi
          unfold zadd zadm
          rw [q1]
          simp (disch := omega) only [zwr_id, zT_lt, zF_lt, zT_le, zF_le, zT_eq, zF_eq, zT_neq, zF_neq, zT_nlt, zT_nle, and_true, true_and, and_false, false_and, and_self, or_true, true_or, or_false, false_or, or_self, not_true_eq_false, not_false_eq_true, ↓reduceIte, implies_true, true_imp_iff, false_imp_iff, zcall0, zcall1, zcall2, zcall3, zcall4, zsto_eq, zsto_ne, zsto_fn, zok13, zok6, zok15, znb_0, zrng_hit, zrng_ne, zrng_fn, zcpy_ne, zcpy_fn]
        · have := q4 i i1 (by omega)
          unfold zadd zadm
          simp (disch := omega) only [zwr_id, zT_lt, zF_lt, zT_le, zF_le, zT_eq, zF_eq, zT_neq, zF_neq, zT_nlt, zT_nle, and_true, true_and, and_false, false_and, and_self, or_true, true_or, or_false, false_or, or_self, not_true_eq_false, not_false_eq_true, ↓reduceIte, implies_true, true_imp_iff, false_imp_iff, zcall0, zcall1, zcall2, zcall3, zcall4, zsto_eq, zsto_ne, zsto_fn, zok13, zok6, zok15, znb_0, zrng_hit, zrng_ne, zrng_fn, zcpy_ne, zcpy_fn]
theorem zdfm_fn (K : Int → Int) : ∀ (m : Nat) (n : Int) (σ : ZT), (∀ k : Nat, k ≠ 20 → k ≠ 36 → k ≠ 37 → zdfm K m n σ k = σ k) ∧ (∀ s, s ≠ 29 → zdfm K m n σ 20 0 s = σ 20 0 s) ∧ (zSimB σ → zSimB (zdfm K m n σ))
  | 0, _, σ => ⟨fun _ _ _ _ => rfl, fun _ _ => rfl, fun h => h⟩
  | m + 1, n, σ => by
    unfold zdfm
    by_cases hk : K n = 0
    · rw [if_pos hk]; exact zdfm_fn K m (n + 1) σ
    · rw [if_neg hk]
      obtain ⟨h1, h2, h3⟩ := zdfm_fn K m (n + 1) (zadm σ n (K n))
      refine ⟨fun k k1 k2 k3 => ?_, fun s hs => ?_, fun hB => h3 (zSimB.sto (zSimB.sto (zSimB.sto hB (by omega)) (by omega)) (by omega))⟩
      · rw [h1 k k1 k2 k3]; unfold zadm; simp (disch := omega) only [zwr_id, zT_lt, zF_lt, zT_le, zF_le, zT_eq, zF_eq, zT_neq, zF_neq, zT_nlt, zT_nle, and_true, true_and, and_false, false_and, and_self, or_true, true_or, or_false, false_or, or_self, not_true_eq_false, not_false_eq_true, ↓reduceIte, implies_true, true_imp_iff, false_imp_iff, zcall0, zcall1, zcall2, zcall3, zcall4, zsto_eq, zsto_ne, zsto_fn, zok13, zok6, zok15, znb_0, zrng_hit, zrng_ne, zrng_fn, zcpy_ne, zcpy_fn]
      · rw [h2 s hs]; unfold zadm; simp (disch := omega) only [zwr_id, zT_lt, zF_lt, zT_le, zF_le, zT_eq, zF_eq, zT_neq, zF_neq, zT_nlt, zT_nle, and_true, true_and, and_false, false_and, and_self, or_true, true_or, or_false, false_or, or_self, not_true_eq_false, not_false_eq_true, ↓reduceIte, implies_true, true_imp_iff, false_imp_iff, zcall0, zcall1, zcall2, zcall3, zcall4, zsto_eq, zsto_ne, zsto_fn, zok13, zok6, zok15, znb_0, zrng_hit, zrng_ne, zrng_fn, zcpy_ne, zcpy_fn]
def zRm (σ : ZT) (a : Int) : Prop := σ 30 0 a = -1 ∨ (0 < σ 30 0 a ∧ σ 30 0 a ≤ 12000 ∧ 0 ≤ σ 32 0 a ∧ σ 32 0 a ≤ 120 ∧ 0 ≤ σ 31 0 a ∧ σ 31 0 a + σ 32 0 a ≤ 12000)
def zDm (σ : ZT) (x1 x2 : Int) : Prop := zSimB σ ∧ (0 ≤ x1 ∧ x1 < 60) ∧ (0 ≤ x2 ∧ x2 < 60) ∧ ∀ n, 1 ≤ n → n ≤ 40 → zRm σ (41 * x1 + n) ∧ zRm σ (41 * x2 + n)
def zkm (σ : ZT) (a b : Int) : Int := if σ 30 0 a = -1 then (if σ 30 0 b = -1 then 0 else 1) else (if σ 30 0 b = -1 then 2 else (if (if σ 32 0 a = σ 32 0 b then zal (σ 27 0) (σ 31 0 a) (σ 31 0 b) (σ 32 0 a).toNat 0 else 0) = 0 then 3 else 0))
theorem zDm.fn {σ τ : ZT} {a b : Int} (h : zDm σ a b) (hB : zSimB τ) (h30 : τ 30 = σ 30) (h31 : τ 31 = σ 31) (h32 : τ 32 = σ 32) : zDm τ a b := by
  unfold zDm zRm at h ⊢
  rw [h30, h31, h32]
  exact ⟨hB, h.2⟩
theorem zkm.fn {σ τ : ZT} (a b : Int) (h27 : τ 27 = σ 27) (h30 : τ 30 = σ 30) (h31 : τ 31 = σ 31) (h32 : τ 32 = σ 32) : zkm τ a b = zkm σ a b := by
  unfold zkm
  rw [h27, h30, h31, h32]
theorem m_differ_step (σ : ZT) {x1 x2 n : Int} {u4 u5 u6 u7 u8 : ZV} (h : zDm σ x1 x2) (hn : 1 ≤ n ∧ n ≤ 40) (hd : 0 ≤ σ 20 0 29 ∧ σ 20 0 29 < n) : ∃ v4 v5 v6 v7 v8 : ZV, zrun C_M_differ (30, [(20, 0), (0, x1), (0, x2), (0, n), u4, u5, u6, u7, u8], [], σ) = zrun C_M_differ (30, [(20, 0), (0, x1), (0, x2), (0, n + 1), v4, v5, v6, v7, v8], [], if zkm σ (41 * x1 + n) (41 * x2 + n) = 0 then σ else zadm σ n (zkm σ (41 * x1 + n) (41 * x2 + n))) := by
  obtain ⟨hB, hx1, hx2, hr⟩ := h
  obtain ⟨r1, r2⟩ := hr n hn.1 hn.2
  unfold zRm at r1 r2
  unfold zadm
  by_cases h1 : σ 30 0 (41 * x1 + n) = -1
  · by_cases h2 : σ 30 0 (41 * x2 + n) = -1
    · have hk : zkm σ (41 * x1 + n) (41 * x2 + n) = 0 := by unfold zkm; rw [if_pos h1, if_pos h2]
      exact ⟨(0, 41 * x1 + n), (0, 41 * x2 + n), (0, 0), (0, 0), (0, 0), by rw [hk, e_M_differ_30]; simp (disch := omega) only [e_M_differ_68, e_M_differ_86, e_M_differ_117, e_M_differ_136, e_M_differ_174, zwr_id, zT_lt, zF_lt, zT_le, zF_le, zT_eq, zF_eq, zT_neq, zF_neq, zT_nlt, zT_nle, and_true, true_and, and_false, false_and, and_self, or_true, true_or, or_false, false_or, or_self, not_true_eq_false, not_false_eq_true, ↓reduceIte, implies_true, true_imp_iff, false_imp_iff, zcall0, zcall1, zcall2, zcall3, zcall4, zsto_eq, zsto_ne, zsto_fn, zok13, zok6, zok15, znb_0, zrng_hit, zrng_ne, zrng_fn, zcpy_ne, zcpy_fn]⟩
    · have hk : zkm σ (41 * x1 + n) (41 * x2 + n) = 1 := by unfold zkm; rw [if_pos h1, if_neg h2]
      exact ⟨(0, 41 * x1 + n), (0, 41 * x2 + n), (0, 0), (0, 1), (0, 1), by rw [hk, e_M_differ_30]; simp (disch := omega) only [e_M_differ_68, e_M_differ_86, e_M_differ_117, e_M_differ_136, e_M_differ_174, zwr_id, zT_lt, zF_lt, zT_le, zF_le, zT_eq, zF_eq, zT_neq, zF_neq, zT_nlt, zT_nle, and_true, true_and, and_false, false_and, and_self, or_true, true_or, or_false, false_or, or_self, not_true_eq_false, not_false_eq_true, ↓reduceIte, implies_true, true_imp_iff, false_imp_iff, zcall0, zcall1, zcall2, zcall3, zcall4, zsto_eq, zsto_ne, zsto_fn, zok13, zok6, zok15, znb_0, zrng_hit, zrng_ne, zrng_fn, zcpy_ne, zcpy_fn]⟩
  · by_cases h2 : σ 30 0 (41 * x2 + n) = -1
    · have hk : zkm σ (41 * x1 + n) (41 * x2 + n) = 2 := by unfold zkm; rw [if_neg h1, if_pos h2]
      exact ⟨(0, 41 * x1 + n), (0, 41 * x2 + n), (0, 1), (0, 0), (0, 2), by rw [hk, e_M_differ_30]; simp (disch := omega) only [e_M_differ_68, e_M_differ_86, e_M_differ_117, e_M_differ_136, e_M_differ_174, zwr_id, zT_lt, zF_lt, zT_le, zF_le, zT_eq, zF_eq, zT_neq, zF_neq, zT_nlt, zT_nle, and_true, true_and, and_false, false_and, and_self, or_true, true_or, or_false, false_or, or_self, not_true_eq_false, not_false_eq_true, ↓reduceIte, implies_true, true_imp_iff, false_imp_iff, zcall0, zcall1, zcall2, zcall3, zcall4, zsto_eq, zsto_ne, zsto_fn, zok13, zok6, zok15, znb_0, zrng_hit, zrng_ne, zrng_fn, zcpy_ne, zcpy_fn]⟩
    · have e := m_isAlike σ hB (a := 41 * x1 + n) (b := 41 * x2 + n) (by omega) (by omega) (by omega) (by omega) (by omega) (by omega)
      generalize hA : (if σ 32 0 (41 * x1 + n) = σ 32 0 (41 * x2 + n) then zal (σ 27 0) (σ 31 0 (41 * x1 + n)) (σ 31 0 (41 * x2 + n)) (σ 32 0 (41 * x1 + n)).toNat 0 else 0) = A at e
      have hA1 : A = 0 ∨ A = 1 := by
        rw [← hA]
        split
        · exact zal_01 _ _ _ _ _
        · exact Or.inl rfl
      rcases hA1 with hA1 | hA1
      · have hk : zkm σ (41 * x1 + n) (41 * x2 + n) = 3 := by unfold zkm; rw [hA, if_neg h1, if_neg h2, if_pos hA1]
        subst hA1
        exact ⟨(0, 41 * x1 + n), (0, 41 * x2 + n), (0, 1), (0, 1), (0, 3), by rw [hk, e_M_differ_30]; simp (disch := omega) only [e_M_differ_68, e_M_differ_86, e_M_differ_117, e_M_differ_136, e_M_differ_174, e, zwr_id, zT_lt, zF_lt, zT_le, zF_le, zT_eq, zF_eq, zT_neq, zF_neq, zT_nlt, zT_nle, and_true, true_and, and_false, false_and, and_self, or_true, true_or, or_false, false_or, or_self, not_true_eq_false, not_false_eq_true, ↓reduceIte, implies_true, true_imp_iff, false_imp_iff, zcall0, zcall1, zcall2, zcall3, zcall4, zsto_eq, zsto_ne, zsto_fn, zok13, zok6, zok15, znb_0, zrng_hit, zrng_ne, zrng_fn, zcpy_ne, zcpy_fn]⟩
      · have hk : zkm σ (41 * x1 + n) (41 * x2 + n) = 0 := by unfold zkm; rw [hA, if_neg h1, if_neg h2, if_neg (by omega)]
        subst hA1
        exact ⟨(0, 41 * x1 + n), (0, 41 * x2 + n), (0, 1), (0, 1), (0, 0), by rw [hk, e_M_differ_30]; simp (disch := omega) only [e_M_differ_68, e_M_differ_86, e_M_differ_117, e_M_differ_136, e_M_differ_174, e, zwr_id, zT_lt, zF_lt, zT_le, zF_le, zT_eq, zF_eq, zT_neq, zF_neq, zT_nlt, zT_nle, and_true, true_and, and_false, false_and, and_self, or_true, true_or, or_false, false_or, or_self, not_true_eq_false, not_false_eq_true, ↓reduceIte, implies_true, true_imp_iff, false_imp_iff, zcall0, zcall1, zcall2, zcall3, zcall4, zsto_eq, zsto_ne, zsto_fn, zok13, zok6, zok15, znb_0, zrng_hit, zrng_ne, zrng_fn, zcpy_ne, zcpy_fn]⟩
theorem m_differ_loop (K : Int → Int) {x1 x2 : Int} : ∀ (m : Nat) (n : Int) (σ : ZT) (u4 u5 u6 u7 u8 : ZV), zDm σ x1 x2 → (∀ j, 1 ≤ j → j ≤ 40 → zkm σ (41 * x1 + j) (41 * x2 + j) = K j) → 1 ≤ n → 41 - n = m → 0 ≤ σ 20 0 29 → σ 20 0 29 < n → zrun C_M_differ (30, [(20, 0), (0, x1), (0, x2), (0, n), u4, u5, u6, u7, u8], [], σ) = some (0, zdfm K m n σ 20 0 29, zdfm K m n σ)
  | 0, n, σ, u4, u5, u6, u7, u8, h, hK, h1, hm, d0, d1 => by
    rw [e_M_differ_30]
    simp (disch := omega) only [zwr_id, zT_lt, zF_lt, zT_le, zF_le, zT_eq, zF_eq, zT_neq, zF_neq, zT_nlt, zT_nle, and_true, true_and, and_false, false_and, and_self, or_true, true_or, or_false, false_or, or_self, not_true_eq_false, not_false_eq_true, ↓reduceIte, implies_true, true_imp_iff, false_imp_iff, zcall0, zcall1, zcall2, zcall3, zcall4, zsto_eq, zsto_ne, zsto_fn, zok13, zok6, zok15, znb_0, zrng_hit, zrng_ne, zrng_fn, zcpy_ne, zcpy_fn]
    rfl
  | m + 1, n, σ, u4, u5, u6, u7, u8, h, hK, h1, hm, d0, d1 => by
    obtain ⟨v4, v5, v6, v7, v8, e⟩ := m_differ_step σ (u4 := u4) (u5 := u5) (u6 := u6) (u7 := u7) (u8 := u8) h ⟨h1, by omega⟩ ⟨d0, d1⟩
    rw [e, hK n h1 (by omega)]
    by_cases hk : K n = 0
    · rw [if_pos hk, m_differ_loop K m (n + 1) σ v4 v5 v6 v7 v8 h hK (by omega) (by omega) d0 (by omega)]
      rw [zdfm, if_pos hk]
    · have hB : zSimB (zadm σ n (K n)) := zSimB.sto (zSimB.sto (zSimB.sto h.1 (by omega)) (by omega)) (by omega)
      have e9 : zadm σ n (K n) 20 0 29 = σ 20 0 29 + 1 := by unfold zadm; simp (disch := omega) only [zwr_id, zT_lt, zF_lt, zT_le, zF_le, zT_eq, zF_eq, zT_neq, zF_neq, zT_nlt, zT_nle, and_true, true_and, and_false, false_and, and_self, or_true, true_or, or_false, false_or, or_self, not_true_eq_false, not_false_eq_true, ↓reduceIte, implies_true, true_imp_iff, false_imp_iff, zcall0, zcall1, zcall2, zcall3, zcall4, zsto_eq, zsto_ne, zsto_fn, zok13, zok6, zok15, znb_0, zrng_hit, zrng_ne, zrng_fn, zcpy_ne, zcpy_fn]
      rw [if_neg hk, m_differ_loop K m (n + 1) (zadm σ n (K n)) v4 v5 v6 v7 v8 (h.fn hB (by unfold zadm; simp (disch := omega) only [zwr_id, zT_lt, zF_lt, zT_le, zF_le, zT_eq, zF_eq, zT_neq, zF_neq, zT_nlt, zT_nle, and_true, true_and, and_false, false_and, and_self, or_true, true_or, or_false, false_or, or_self, not_true_eq_false, not_false_eq_true, ↓reduceIte, implies_true, true_imp_iff, false_imp_iff, zcall0, zcall1, zcall2, zcall3, zcall4, zsto_eq, zsto_ne, zsto_fn, zok13, zok6, zok15, znb_0, zrng_hit, zrng_ne, zrng_fn, zcpy_ne, zcpy_fn]) (by unfold zadm; simp (disch := omega) only [zwr_id, zT_lt, zF_lt, zT_le, zF_le, zT_eq, zF_eq, zT_neq, zF_neq, zT_nlt, zT_nle, and_true, true_and, and_false, false_and, and_self, or_true, true_or, or_false, false_or, or_self, not_true_eq_false, not_false_eq_true, ↓reduceIte, implies_true, true_imp_iff, false_imp_iff, zcall0, zcall1, zcall2, zcall3, zcall4, zsto_eq, zsto_ne, zsto_fn, zok13, zok6, zok15, znb_0, zrng_hit, zrng_ne, zrng_fn, zcpy_ne, zcpy_fn]) (by unfold zadm; simp (disch := omega) only [zwr_id, zT_lt, zF_lt, zT_le, zF_le, zT_eq, zF_eq, zT_neq, zF_neq, zT_nlt, zT_nle, and_true, true_and, and_false, false_and, and_self, or_true, true_or, or_false, false_or, or_self, not_true_eq_false, not_false_eq_true, ↓reduceIte, implies_true, true_imp_iff, false_imp_iff, zcall0, zcall1, zcall2, zcall3, zcall4, zsto_eq, zsto_ne, zsto_fn, zok13, zok6, zok15, znb_0, zrng_hit, zrng_ne, zrng_fn, zcpy_ne, zcpy_fn])) (fun j j1 j2 => by rw [← hK j j1 j2]; exact zkm.fn _ _ (by unfold zadm; simp (disch := omega) only [zwr_id, zT_lt, zF_lt, zT_le, zF_le, zT_eq, zF_eq, zT_neq, zF_neq, zT_nlt, zT_nle, and_true, true_and, and_false, false_and, and_self, or_true, true_or, or_false, false_or, or_self, not_true_eq_false, not_false_eq_true, ↓reduceIte, implies_true, true_imp_iff, false_imp_iff, zcall0, zcall1, zcall2, zcall3, zcall4, zsto_eq, zsto_ne, zsto_fn, zok13, zok6, zok15, znb_0, zrng_hit, zrng_ne, zrng_fn, zcpy_ne, zcpy_fn]) (by unfold zadm; simp (disch := omega) only [zwr_id, zT_lt, zF_lt, zT_le, zF_le, zT_eq, zF_eq, zT_neq, zF_neq, zT_nlt, zT_nle, and_true, true_and, and_false, false_and, and_self, or_true, true_or, or_false, false_or, or_self, not_true_eq_false, not_false_eq_true, ↓reduceIte, implies_true, true_imp_iff, false_imp_iff, zcall0, zcall1, zcall2, zcall3, zcall4, zsto_eq, zsto_ne, zsto_fn, zok13, zok6, zok15, znb_0, zrng_hit, zrng_ne, zrng_fn, zcpy_ne, zcpy_fn]) (by unfold zadm; simp (disch := omega) only [zwr_id, zT_lt, zF_lt, zT_le, zF_le, zT_eq, zF_eq, zT_neq, zF_neq, zT_nlt, zT_nle, and_true, true_and, and_false, false_and, and_self, or_true, true_or, or_false, false_or, or_self, not_true_eq_false, not_false_eq_true, ↓reduceIte, implies_true, true_imp_iff, false_imp_iff, zcall0, zcall1, zcall2, zcall3, zcall4, zsto_eq, zsto_ne, zsto_fn, zok13, zok6, zok15, znb_0, zrng_hit, zrng_ne, zrng_fn, zcpy_ne, zcpy_fn]) (by unfold zadm; simp (disch := omega) only [zwr_id, zT_lt, zF_lt, zT_le, zF_le, zT_eq, zF_eq, zT_neq, zF_neq, zT_nlt, zT_nle, and_true, true_and, and_false, false_and, and_self, or_true, true_or, or_false, false_or, or_self, not_true_eq_false, not_false_eq_true, ↓reduceIte, implies_true, true_imp_iff, false_imp_iff, zcall0, zcall1, zcall2, zcall3, zcall4, zsto_eq, zsto_ne, zsto_fn, zok13, zok6, zok15, znb_0, zrng_hit, zrng_ne, zrng_fn, zcpy_ne, zcpy_fn])) (by omega) (by omega) (by omega) (by omega)]
      rw [zdfm, if_neg hk]
theorem zPl.rc {σ : ZT} {E r k n : Int} (hE : E ≤ 12000) (h : zPl σ E r k n) : zRc σ r n := by
  unfold zRc
  rcases h with h | ⟨h1, h2, h3, h4, h5, h6, h7⟩
  · exact Or.inl h.1
  · right
    rw [h6] at h7
    unfold zbh at h7 ⊢
    split at h7 <;> split at h7 <;> split at h7 <;> omega
theorem zPl.rm {σ : ZT} {E r k n : Int} (hE : E ≤ 12000) (h : zPl σ E r k n) : zRm σ (41 * k + n) := by
  unfold zRm
  rcases h with h | ⟨h1, h2, h3, h4, h5, h6, h7⟩
  · exact Or.inl h.2
  · right
    rw [h6] at h7 ⊢
    unfold zbh at h7 ⊢
    split at h7 <;> split at h7 <;> split at h7 <;> omega
theorem zkd_eq {σ : ZT} {E a b n : Int} (hF : ∀ j, 0 ≤ j → j < E → σ 27 0 j = σ 7 (σ 4 0 1) j) (ha : zPl σ E (σ 8 0 a) a n) (hb : zPl σ E (σ 8 0 b) b n) : zkm σ (41 * a + n) (41 * b + n) = zkd σ (σ 8 0 a) (σ 8 0 b) n := by
  unfold zkm zkd
  rcases ha with ⟨h1, h2⟩ | ⟨h1, h2, h3, h4, h5, h6, h7⟩
  · rcases hb with ⟨k1, k2⟩ | ⟨k1, k2, k3, k4, k5, k6, k7⟩
    · rw [if_pos h2, if_pos k2, if_neg (by omega), if_neg (by omega)]
    · rw [if_pos h2, if_neg (by omega), if_neg (by omega), if_pos k1]
  · rcases hb with ⟨k1, k2⟩ | ⟨k1, k2, k3, k4, k5, k6, k7⟩
    · rw [if_neg (by omega), if_pos k2, if_pos h1, if_neg (by omega)]
    · rw [if_neg (by omega), if_neg (by omega), if_pos h1, if_pos k1, h3, k3]
      by_cases hl : σ 17 (σ 8 0 a) n = σ 17 (σ 8 0 b) n
      · rw [if_pos hl, if_pos hl, ← h6, ← k6, zal_congr (F := σ 27 0) (G := σ 7 (σ 4 0 1)) hF _ 0 ?_ ?_ ?_ ?_]
        · rw [h6]; unfold zbh; split <;> split <;> split <;> omega
        · rw [k6]; unfold zbh; split <;> split <;> split <;> omega
        · omega
        · omega
      · rw [if_neg hl, if_neg hl]
theorem op_differ {σ : ZT} (hS : zSim σ) (hg : 0 < σ 39 0 0) {a b : Int} (ha : zI a) (hb : zI b) : zOp σ (f_Z_differ [(4, 0), (0, a), (0, b), (18, 0)]) (f_M_differ [(20, 0), (0, a), (0, b)]) := by
  have hS' := hS
  obtain ⟨hB, hT, hD, E, ⟨f1, f2, f3, f4, f5, f6, f7, f8, f9⟩, r1, r2, r3, r4, r5, r6⟩ := hS'
  by_cases h1 : 0 ≤ a ∧ a < σ 4 0 6
  · have p1 := r5 a h1.1 (by omega)
    by_cases h2 : 0 ≤ b ∧ b < σ 4 0 6
    · have p2 := r5 b h2.1 (by omega)
      have va := (r6 a h1.1 h1.2).2.2.2.2.2.2
      have vb := (r6 b h2.1 h2.2).2.2.2.2.2.2
      have hKd : ∀ j, zkd (zsto σ 4 0 9 0) (σ 8 0 a) (σ 8 0 b) j = zkd σ (σ 8 0 a) (σ 8 0 b) j := fun j => zkd.fn _ _ _ (by simp (disch := omega) only [zwr_id, zT_lt, zF_lt, zT_le, zF_le, zT_eq, zF_eq, zT_neq, zF_neq, zT_nlt, zT_nle, and_true, true_and, and_false, false_and, and_self, or_true, true_or, or_false, false_or, or_self, not_true_eq_false, not_false_eq_true, ↓reduceIte, implies_true, true_imp_iff, false_imp_iff, zcall0, zcall1, zcall2, zcall3, zcall4, zsto_eq, zsto_ne, zsto_fn, zok13, zok6, zok15, znb_0, zrng_hit, zrng_ne, zrng_fn, zcpy_ne, zcpy_fn]) (by simp (disch := omega) only [zwr_id, zT_lt, zF_lt, zT_le, zF_le, zT_eq, zF_eq, zT_neq, zF_neq, zT_nlt, zT_nle, and_true, true_and, and_false, false_and, and_self, or_true, true_or, or_false, false_or, or_self, not_true_eq_false, not_false_eq_true, ↓reduceIte, implies_true, true_imp_iff, false_imp_iff, zcall0, zcall1, zcall2, zcall3, zcall4, zsto_eq, zsto_ne, zsto_fn, zok13, zok6, zok15, znb_0, zrng_hit, zrng_ne, zrng_fn, zcpy_ne, zcpy_fn]) (by simp (disch := omega) only [zwr_id, zT_lt, zF_lt, zT_le, zF_le, zT_eq, zF_eq, zT_neq, zF_neq, zT_nlt, zT_nle, and_true, true_and, and_false, false_and, and_self, or_true, true_or, or_false, false_or, or_self, not_true_eq_false, not_false_eq_true, ↓reduceIte, implies_true, true_imp_iff, false_imp_iff, zcall0, zcall1, zcall2, zcall3, zcall4, zsto_eq, zsto_ne, zsto_fn, zok13, zok6, zok15, znb_0, zrng_hit, zrng_ne, zrng_fn, zcpy_ne, zcpy_fn]) (by simp (disch := omega) only [zwr_id, zT_lt, zF_lt, zT_le, zF_le, zT_eq, zF_eq, zT_neq, zF_neq, zT_nlt, zT_nle, and_true, true_and, and_false, false_and, and_self, or_true, true_or, or_false, false_or, or_self, not_true_eq_false, not_false_eq_true, ↓reduceIte, implies_true, true_imp_iff, false_imp_iff, zcall0, zcall1, zcall2, zcall3, zcall4, zsto_eq, zsto_ne, zsto_fn, zok13, zok6, zok15, znb_0, zrng_hit, zrng_ne, zrng_fn, zcpy_ne, zcpy_fn])
      have hDh : zDh (zsto σ 4 0 9 0) (σ 8 0 a) (σ 8 0 b) := by
        refine zDh.fn (σ := σ) ⟨hB, by omega, fun n n1 n2 => ⟨(va n n1 n2).rc f4, (vb n n1 n2).rc f4⟩⟩ (zSimB.sto hB (by omega)) (by simp (disch := omega) only [zwr_id, zT_lt, zF_lt, zT_le, zF_le, zT_eq, zF_eq, zT_neq, zF_neq, zT_nlt, zT_nle, and_true, true_and, and_false, false_and, and_self, or_true, true_or, or_false, false_or, or_self, not_true_eq_false, not_false_eq_true, ↓reduceIte, implies_true, true_imp_iff, false_imp_iff, zcall0, zcall1, zcall2, zcall3, zcall4, zsto_eq, zsto_ne, zsto_fn, zok13, zok6, zok15, znb_0, zrng_hit, zrng_ne, zrng_fn, zcpy_ne, zcpy_fn]) (by simp (disch := omega) only [zwr_id, zT_lt, zF_lt, zT_le, zF_le, zT_eq, zF_eq, zT_neq, zF_neq, zT_nlt, zT_nle, and_true, true_and, and_false, false_and, and_self, or_true, true_or, or_false, false_or, or_self, not_true_eq_false, not_false_eq_true, ↓reduceIte, implies_true, true_imp_iff, false_imp_iff, zcall0, zcall1, zcall2, zcall3, zcall4, zsto_eq, zsto_ne, zsto_fn, zok13, zok6, zok15, znb_0, zrng_hit, zrng_ne, zrng_fn, zcpy_ne, zcpy_fn]) (by simp (disch := omega) only [zwr_id, zT_lt, zF_lt, zT_le, zF_le, zT_eq, zF_eq, zT_neq, zF_neq, zT_nlt, zT_nle, and_true, true_and, and_false, false_and, and_self, or_true, true_or, or_false, false_or, or_self, not_true_eq_false, not_false_eq_true, ↓reduceIte, implies_true, true_imp_iff, false_imp_iff, zcall0, zcall1, zcall2, zcall3, zcall4, zsto_eq, zsto_ne, zsto_fn, zok13, zok6, zok15, znb_0, zrng_hit, zrng_ne, zrng_fn, zcpy_ne, zcpy_fn])
      have hw := w_differ_loop (fun n => zkd σ (σ 8 0 a) (σ 8 0 b) n) (x1 := a) (x2 := b) 40 1 (zsto σ 4 0 9 0) (2, 0) (2, 0) (2, 0) hDh hKd (by omega) (by omega) (by simp (disch := omega) only [zwr_id, zT_lt, zF_lt, zT_le, zF_le, zT_eq, zF_eq, zT_neq, zF_neq, zT_nlt, zT_nle, and_true, true_and, and_false, false_and, and_self, or_true, true_or, or_false, false_or, or_self, not_true_eq_false, not_false_eq_true, ↓reduceIte, implies_true, true_imp_iff, false_imp_iff, zcall0, zcall1, zcall2, zcall3, zcall4, zsto_eq, zsto_ne, zsto_fn, zok13, zok6, zok15, znb_0, zrng_hit, zrng_ne, zrng_fn, zcpy_ne, zcpy_fn]) (by simp (disch := omega) only [zwr_id, zT_lt, zF_lt, zT_le, zF_le, zT_eq, zF_eq, zT_neq, zF_neq, zT_nlt, zT_nle, and_true, true_and, and_false, false_and, and_self, or_true, true_or, or_false, false_or, or_self, not_true_eq_false, not_false_eq_true, ↓reduceIte, implies_true, true_imp_iff, false_imp_iff, zcall0, zcall1, zcall2, zcall3, zcall4, zsto_eq, zsto_ne, zsto_fn, zok13, zok6, zok15, znb_0, zrng_hit, zrng_ne, zrng_fn, zcpy_ne, zcpy_fn])
      generalize hK : (fun n => zkd σ (σ 8 0 a) (σ 8 0 b) n) = K at hw
      have hKj : ∀ j, K j = zkd σ (σ 8 0 a) (σ 8 0 b) j := fun j => by rw [← hK]
      obtain ⟨q1, q2, q3⟩ := zdfs_fn K 40 1 (zsto σ 4 0 9 0)
      generalize hτ : zdfs K 40 1 (zsto σ 4 0 9 0) = τ at hw q1 q2 q3
      have hf : f_W_differ [(4, 0), (0, a), (0, b)] σ = some (0, τ 4 0 9, τ) := by
        rw [u_W_differ, e_W_differ_0, w_revision1 σ h1 (by omega) (by omega)]
        simp (disch := omega) only [w_revision1 σ h2 (by omega) (by omega), zwr_id, zT_lt, zF_lt, zT_le, zF_le, zT_eq, zF_eq, zT_neq, zF_neq, zT_nlt, zT_nle, and_true, true_and, and_false, false_and, and_self, or_true, true_or, or_false, false_or, or_self, not_true_eq_false, not_false_eq_true, ↓reduceIte, implies_true, true_imp_iff, false_imp_iff, zcall0, zcall1, zcall2, zcall3, zcall4, zsto_eq, zsto_ne, zsto_fn, zok13, zok6, zok15, znb_0, zrng_hit, zrng_ne, zrng_fn, zcpy_ne, zcpy_fn]
        exact hw
      generalize hυ : zsto τ 18 0 0 (τ 4 0 9) = υ
      generalize hω : zsto (zsto (zsto (zsto υ 20 0 0 0) 20 0 0 0) 20 0 29 0) 20 0 28 1 = ω
      have hωk : ∀ k : Nat, k ≠ 4 → k ≠ 10 → k ≠ 18 → k ≠ 20 → ω k = σ k := fun k k1 k2 k3 k4 => by
        rw [← hω, ← hυ]
        simp (disch := omega) only [zwr_id, zT_lt, zF_lt, zT_le, zF_le, zT_eq, zF_eq, zT_neq, zF_neq, zT_nlt, zT_nle, and_true, true_and, and_false, false_and, and_self, or_true, true_or, or_false, false_or, or_self, not_true_eq_false, not_false_eq_true, ↓reduceIte, implies_true, true_imp_iff, false_imp_iff, zcall0, zcall1, zcall2, zcall3, zcall4, zsto_eq, zsto_ne, zsto_fn, zok13, zok6, zok15, znb_0, zrng_hit, zrng_ne, zrng_fn, zcpy_ne, zcpy_fn]
        rw [q1 k k1 k2]
        simp (disch := omega) only [zwr_id, zT_lt, zF_lt, zT_le, zF_le, zT_eq, zF_eq, zT_neq, zF_neq, zT_nlt, zT_nle, and_true, true_and, and_false, false_and, and_self, or_true, true_or, or_false, false_or, or_self, not_true_eq_false, not_false_eq_true, ↓reduceIte, implies_true, true_imp_iff, false_imp_iff, zcall0, zcall1, zcall2, zcall3, zcall4, zsto_eq, zsto_ne, zsto_fn, zok13, zok6, zok15, znb_0, zrng_hit, zrng_ne, zrng_fn, zcpy_ne, zcpy_fn]
      have hω4 : ω 4 = τ 4 := by rw [← hω, ← hυ]; simp (disch := omega) only [zwr_id, zT_lt, zF_lt, zT_le, zF_le, zT_eq, zF_eq, zT_neq, zF_neq, zT_nlt, zT_nle, and_true, true_and, and_false, false_and, and_self, or_true, true_or, or_false, false_or, or_self, not_true_eq_false, not_false_eq_true, ↓reduceIte, implies_true, true_imp_iff, false_imp_iff, zcall0, zcall1, zcall2, zcall3, zcall4, zsto_eq, zsto_ne, zsto_fn, zok13, zok6, zok15, znb_0, zrng_hit, zrng_ne, zrng_fn, zcpy_ne, zcpy_fn]
      have hω10 : ω 10 = τ 10 := by rw [← hω, ← hυ]; simp (disch := omega) only [zwr_id, zT_lt, zF_lt, zT_le, zF_le, zT_eq, zF_eq, zT_neq, zF_neq, zT_nlt, zT_nle, and_true, true_and, and_false, false_and, and_self, or_true, true_or, or_false, false_or, or_self, not_true_eq_false, not_false_eq_true, ↓reduceIte, implies_true, true_imp_iff, false_imp_iff, zcall0, zcall1, zcall2, zcall3, zcall4, zsto_eq, zsto_ne, zsto_fn, zok13, zok6, zok15, znb_0, zrng_hit, zrng_ne, zrng_fn, zcpy_ne, zcpy_fn]
      have hBω : zSimB ω := by rw [← hω, ← hυ]; exact zSimB.sto (zSimB.sto (zSimB.sto (zSimB.sto (zSimB.sto (q3 (zSimB.sto hB (by omega))) (by omega)) (by omega)) (by omega)) (by omega)) (by omega)
      have hDm : zDm ω a b := zDm.fn (σ := σ) ⟨hB, by omega, by omega, fun n n1 n2 => ⟨(va n n1 n2).rm f4, (vb n n1 n2).rm f4⟩⟩ hBω (hωk 30 (by decide) (by decide) (by decide) (by decide)) (hωk 31 (by decide) (by decide) (by decide) (by decide)) (hωk 32 (by decide) (by decide) (by decide) (by decide))
      have hKm : ∀ j, 1 ≤ j → j ≤ 40 → zkm ω (41 * a + j) (41 * b + j) = K j := fun j j1 j2 => by
        rw [hKj, ← zkd_eq f9 (va j j1 j2) (vb j j1 j2)]
        exact zkm.fn _ _ (hωk 27 (by decide) (by decide) (by decide) (by decide)) (hωk 30 (by decide) (by decide) (by decide) (by decide)) (hωk 31 (by decide) (by decide) (by decide) (by decide)) (hωk 32 (by decide) (by decide) (by decide) (by decide))
      have hm := m_differ_loop K (x1 := a) (x2 := b) 40 1 ω (2, 0) (2, 0) (2, 0) (2, 0) (2, 0) hDm hKm (by omega) (by omega) (by rw [← hω]; simp (disch := omega) only [zwr_id, zT_lt, zF_lt, zT_le, zF_le, zT_eq, zF_eq, zT_neq, zF_neq, zT_nlt, zT_nle, and_true, true_and, and_false, false_and, and_self, or_true, true_or, or_false, false_or, or_self, not_true_eq_false, not_false_eq_true, ↓reduceIte, implies_true, true_imp_iff, false_imp_iff, zcall0, zcall1, zcall2, zcall3, zcall4, zsto_eq, zsto_ne, zsto_fn, zok13, zok6, zok15, znb_0, zrng_hit, zrng_ne, zrng_fn, zcpy_ne, zcpy_fn]) (by rw [← hω]; simp (disch := omega) only [zwr_id, zT_lt, zF_lt, zT_le, zF_le, zT_eq, zF_eq, zT_neq, zF_neq, zT_nlt, zT_nle, and_true, true_and, and_false, false_and, and_self, or_true, true_or, or_false, false_or, or_self, not_true_eq_false, not_false_eq_true, ↓reduceIte, implies_true, true_imp_iff, false_imp_iff, zcall0, zcall1, zcall2, zcall3, zcall4, zsto_eq, zsto_ne, zsto_fn, zok13, zok6, zok15, znb_0, zrng_hit, zrng_ne, zrng_fn, zcpy_ne, zcpy_fn])
      obtain ⟨z1, z2, z3⟩ := zdfm_fn K 40 1 ω
      have hR : zdR τ (zdfm K 40 1 ω) 41 := by
        rw [← hτ]
        refine zdR_run K (fun j => by rw [hKj]; exact zkd_bd _ _ _ _) 40 1 _ _ (by omega) (by omega) ⟨by rw [← hω]; simp (disch := omega) only [zwr_id, zT_lt, zF_lt, zT_le, zF_le, zT_eq, zF_eq, zT_neq, zF_neq, zT_nlt, zT_nle, and_true, true_and, and_false, false_and, and_self, or_true, true_or, or_false, false_or, or_self, not_true_eq_false, not_false_eq_true, ↓reduceIte, implies_true, true_imp_iff, false_imp_iff, zcall0, zcall1, zcall2, zcall3, zcall4, zsto_eq, zsto_ne, zsto_fn, zok13, zok6, zok15, znb_0, zrng_hit, zrng_ne, zrng_fn, zcpy_ne, zcpy_fn], by simp (disch := omega) only [zwr_id, zT_lt, zF_lt, zT_le, zF_le, zT_eq, zF_eq, zT_neq, zF_neq, zT_nlt, zT_nle, and_true, true_and, and_false, false_and, and_self, or_true, true_or, or_false, false_or, or_self, not_true_eq_false, not_false_eq_true, ↓reduceIte, implies_true, true_imp_iff, false_imp_iff, zcall0, zcall1, zcall2, zcall3, zcall4, zsto_eq, zsto_ne, zsto_fn, zok13, zok6, zok15, znb_0, zrng_hit, zrng_ne, zrng_fn, zcpy_ne, zcpy_fn], by simp (disch := omega) only [zwr_id, zT_lt, zF_lt, zT_le, zF_le, zT_eq, zF_eq, zT_neq, zF_neq, zT_nlt, zT_nle, and_true, true_and, and_false, false_and, and_self, or_true, true_or, or_false, false_or, or_self, not_true_eq_false, not_false_eq_true, ↓reduceIte, implies_true, true_imp_iff, false_imp_iff, zcall0, zcall1, zcall2, zcall3, zcall4, zsto_eq, zsto_ne, zsto_fn, zok13, zok6, zok15, znb_0, zrng_hit, zrng_ne, zrng_fn, zcpy_ne, zcpy_fn], fun i i1 i2 => ?_⟩
        rw [zsto_eq] at i2
        omega
      generalize hψ : zdfm K 40 1 ω = ψ at hm z1 z2 z3 hR
      obtain ⟨g1, g2, g3, g4⟩ := hR
      have hψk : ∀ k : Nat, k ≠ 4 → k ≠ 10 → k ≠ 18 → k ≠ 20 → k ≠ 36 → k ≠ 37 → ψ k = σ k := fun k k1 k2 k3 k4 k5 k6 => (z1 k k4 k5 k6).trans (hωk k k1 k2 k3 k4)
      have hψ4 : ψ 4 = τ 4 := (z1 4 (by decide) (by decide) (by decide)).trans hω4
      have hψ10 : ψ 10 = τ 10 := (z1 10 (by decide) (by decide) (by decide)).trans hω10
      have hψ4s : ∀ s, s ≠ 9 → ψ 4 0 s = σ 4 0 s := fun s hs => by
        rw [hψ4, q2 s hs]
        simp (disch := omega) only [zwr_id, zT_lt, zF_lt, zT_le, zF_le, zT_eq, zF_eq, zT_neq, zF_neq, zT_nlt, zT_nle, and_true, true_and, and_false, false_and, and_self, or_true, true_or, or_false, false_or, or_self, not_true_eq_false, not_false_eq_true, ↓reduceIte, implies_true, true_imp_iff, false_imp_iff, zcall0, zcall1, zcall2, zcall3, zcall4, zsto_eq, zsto_ne, zsto_fn, zok13, zok6, zok15, znb_0, zrng_hit, zrng_ne, zrng_fn, zcpy_ne, zcpy_fn]
      have hψ20 : ∀ s, s ≠ 0 → s ≠ 28 → s ≠ 29 → ψ 20 0 s = σ 20 0 s := fun s s1 s2 s3 => by
        rw [z2 s s3, ← hω, ← hυ]
        simp (disch := omega) only [zwr_id, zT_lt, zF_lt, zT_le, zF_le, zT_eq, zF_eq, zT_neq, zF_neq, zT_nlt, zT_nle, and_true, true_and, and_false, false_and, and_self, or_true, true_or, or_false, false_or, or_self, not_true_eq_false, not_false_eq_true, ↓reduceIte, implies_true, true_imp_iff, false_imp_iff, zcall0, zcall1, zcall2, zcall3, zcall4, zsto_eq, zsto_ne, zsto_fn, zok13, zok6, zok15, znb_0, zrng_hit, zrng_ne, zrng_fn, zcpy_ne, zcpy_fn]
        rw [q1 20 (by decide) (by decide)]
        simp (disch := omega) only [zwr_id, zT_lt, zF_lt, zT_le, zF_le, zT_eq, zF_eq, zT_neq, zF_neq, zT_nlt, zT_nle, and_true, true_and, and_false, false_and, and_self, or_true, true_or, or_false, false_or, or_self, not_true_eq_false, not_false_eq_true, ↓reduceIte, implies_true, true_imp_iff, false_imp_iff, zcall0, zcall1, zcall2, zcall3, zcall4, zsto_eq, zsto_ne, zsto_fn, zok13, zok6, zok15, znb_0, zrng_hit, zrng_ne, zrng_fn, zcpy_ne, zcpy_fn]
      refine zOp.give (τ := τ) (v := τ 4 0 9) (τ' := ψ) ?_ ?_ ⟨z3 hBω, ?_, ?_, E, ?_, ?_⟩ ?_ ?_ ?_ ?_ (by omega)
      · rw [u_Z_differ, e_Z_differ_0_ok _ _ _ _ _ _ _ _ hf]
        simp (disch := omega) only [zwr_id, zT_lt, zF_lt, zT_le, zF_le, zT_eq, zF_eq, zT_neq, zF_neq, zT_nlt, zT_nle, and_true, true_and, and_false, false_and, and_self, or_true, true_or, or_false, false_or, or_self, not_true_eq_false, not_false_eq_true, ↓reduceIte, implies_true, true_imp_iff, false_imp_iff, zcall0, zcall1, zcall2, zcall3, zcall4, zsto_eq, zsto_ne, zsto_fn, zok13, zok6, zok15, znb_0, zrng_hit, zrng_ne, zrng_fn, zcpy_ne, zcpy_fn]
      · have q20 : υ 20 = σ 20 := by
          rw [← hυ]
          simp (disch := omega) only [zwr_id, zT_lt, zF_lt, zT_le, zF_le, zT_eq, zF_eq, zT_neq, zF_neq, zT_nlt, zT_nle, and_true, true_and, and_false, false_and, and_self, or_true, true_or, or_false, false_or, or_self, not_true_eq_false, not_false_eq_true, ↓reduceIte, implies_true, true_imp_iff, false_imp_iff, zcall0, zcall1, zcall2, zcall3, zcall4, zsto_eq, zsto_ne, zsto_fn, zok13, zok6, zok15, znb_0, zrng_hit, zrng_ne, zrng_fn, zcpy_ne, zcpy_fn]
          rw [q1 20 (by decide) (by decide)]
          simp (disch := omega) only [zwr_id, zT_lt, zF_lt, zT_le, zF_le, zT_eq, zF_eq, zT_neq, zF_neq, zT_nlt, zT_nle, and_true, true_and, and_false, false_and, and_self, or_true, true_or, or_false, false_or, or_self, not_true_eq_false, not_false_eq_true, ↓reduceIte, implies_true, true_imp_iff, false_imp_iff, zcall0, zcall1, zcall2, zcall3, zcall4, zsto_eq, zsto_ne, zsto_fn, zok13, zok6, zok15, znb_0, zrng_hit, zrng_ne, zrng_fn, zcpy_ne, zcpy_fn]
        have e1 := m_isRevision1 υ (k := a) (by rw [q20]; omega) (by rw [q20]; omega)
        have e2 := m_isRevision1 (zsto υ 20 0 0 0) (k := b) (by rw [zsto_ne (by omega), q20]; omega) (by rw [zsto_ne (by omega), q20]; omega)
        rw [hυ, u_M_differ, e_M_differ_0, e1]
        simp (disch := omega) only [e2, zwr_id, zT_lt, zF_lt, zT_le, zF_le, zT_eq, zF_eq, zT_neq, zF_neq, zT_nlt, zT_nle, and_true, true_and, and_false, false_and, and_self, or_true, true_or, or_false, false_or, or_self, not_true_eq_false, not_false_eq_true, ↓reduceIte, implies_true, true_imp_iff, false_imp_iff, zcall0, zcall1, zcall2, zcall3, zcall4, zsto_eq, zsto_ne, zsto_fn, zok13, zok6, zok15, znb_0, zrng_hit, zrng_ne, zrng_fn, zcpy_ne, zcpy_fn]
        rw [hω, hm, g1]
      · exact hT.fn fun k hk => by
          simp only [List.mem_cons, List.not_mem_nil, or_false] at hk
          exact hψk k (by omega) (by omega) (by omega) (by omega) (by omega) (by omega)
      · refine ⟨by rw [hψ4]; omega, by rw [hψ4]; omega, Or.inl ⟨?_, by rw [hψ4, g1]⟩, fun i i1 i2 => ?_⟩
        · rw [z2 28 (by decide), ← hω]
          simp (disch := omega) only [zwr_id, zT_lt, zF_lt, zT_le, zF_le, zT_eq, zF_eq, zT_neq, zF_neq, zT_nlt, zT_nle, and_true, true_and, and_false, false_and, and_self, or_true, true_or, or_false, false_or, or_self, not_true_eq_false, not_false_eq_true, ↓reduceIte, implies_true, true_imp_iff, false_imp_iff, zcall0, zcall1, zcall2, zcall3, zcall4, zsto_eq, zsto_ne, zsto_fn, zok13, zok6, zok15, znb_0, zrng_hit, zrng_ne, zrng_fn, zcpy_ne, zcpy_fn]
        · rw [hψ4] at i2
          rw [hψ10]
          exact g4 i i1 i2
      · exact zSimF.fn ⟨f1, f2, f3, f4, f5, f6, f7, f8, f9⟩ (fun k hk => by
          simp only [List.mem_cons, List.not_mem_nil, or_false] at hk
          exact hψk k (by omega) (by omega) (by omega) (by omega) (by omega) (by omega)) (hψ4s 1 (by decide)) (hψ4s 2 (by decide)) (hψ4s 3 (by decide)) (hψ20 7 (by decide) (by decide) (by decide)) (hψ20 9 (by decide) (by decide) (by decide))
      · exact zSimR.fn ⟨r1, r2, r3, r4, r5, r6⟩ (fun k hk => by
          simp only [List.mem_cons, List.not_mem_nil, or_false] at hk
          exact hψk k (by omega) (by omega) (by omega) (by omega) (by omega) (by omega)) (hψ4s 6 (by decide)) (hψ20 10 (by decide) (by decide) (by decide)) (by rw [hψ4s 1 (by decide), hψk 6 (by decide) (by decide) (by decide) (by decide) (by decide) (by decide)])
      · exact hψk 19 (by decide) (by decide) (by decide) (by decide) (by decide) (by decide)
      · rw [hψk 39 (by decide) (by decide) (by decide) (by decide) (by decide) (by decide)]; omega
      · rw [z2 0 (by decide), ← hω]
        simp (disch := omega) only [zwr_id, zT_lt, zF_lt, zT_le, zF_le, zT_eq, zF_eq, zT_neq, zF_neq, zT_nlt, zT_nle, and_true, true_and, and_false, false_and, and_self, or_true, true_or, or_false, false_or, or_self, not_true_eq_false, not_false_eq_true, ↓reduceIte, implies_true, true_imp_iff, false_imp_iff, zcall0, zcall1, zcall2, zcall3, zcall4, zsto_eq, zsto_ne, zsto_fn, zok13, zok6, zok15, znb_0, zrng_hit, zrng_ne, zrng_fn, zcpy_ne, zcpy_fn]
      · rw [z1 18 (by decide) (by decide) (by decide), ← hω, ← hυ]
        simp (disch := omega) only [zwr_id, zT_lt, zF_lt, zT_le, zF_le, zT_eq, zF_eq, zT_neq, zF_neq, zT_nlt, zT_nle, and_true, true_and, and_false, false_and, and_self, or_true, true_or, or_false, false_or, or_self, not_true_eq_false, not_false_eq_true, ↓reduceIte, implies_true, true_imp_iff, false_imp_iff, zcall0, zcall1, zcall2, zcall3, zcall4, zsto_eq, zsto_ne, zsto_fn, zok13, zok6, zok15, znb_0, zrng_hit, zrng_ne, zrng_fn, zcpy_ne, zcpy_fn]
    · have hf : f_W_differ [(4, 0), (0, a), (0, b)] σ = some (1, 0, zth σ) := by
        rw [u_W_differ, e_W_differ_0, w_revision1 σ h1 (by omega) (by omega)]
        simp (disch := omega) only [w_revision0 σ hb h2 (by omega) hg, zwr_id, zT_lt, zF_lt, zT_le, zF_le, zT_eq, zF_eq, zT_neq, zF_neq, zT_nlt, zT_nle, and_true, true_and, and_false, false_and, and_self, or_true, true_or, or_false, false_or, or_self, not_true_eq_false, not_false_eq_true, ↓reduceIte, implies_true, true_imp_iff, false_imp_iff, zcall0, zcall1, zcall2, zcall3, zcall4, zsto_eq, zsto_ne, zsto_fn, zok13, zok6, zok15, znb_0, zrng_hit, zrng_ne, zrng_fn, zcpy_ne, zcpy_fn]
      refine zOp.refuse hS (c := 1) (by omega) (by rw [u_Z_differ, e_Z_differ_0_x0 _ _ _ _ _ _ _ _ hf]) ?_
      rw [u_M_differ, e_M_differ_0, m_isRevision1 _ (by unfold zth; (simp (disch := omega) only [zwr_id, zT_lt, zF_lt, zT_le, zF_le, zT_eq, zF_eq, zT_neq, zF_neq, zT_nlt, zT_nle, and_true, true_and, and_false, false_and, and_self, or_true, true_or, or_false, false_or, or_self, not_true_eq_false, not_false_eq_true, ↓reduceIte, implies_true, true_imp_iff, false_imp_iff, zcall0, zcall1, zcall2, zcall3, zcall4, zsto_eq, zsto_ne, zsto_fn, zok13, zok6, zok15, znb_0, zrng_hit, zrng_ne, zrng_fn, zcpy_ne, zcpy_fn] <;> omega)) (by unfold zth; (simp (disch := omega) only [zwr_id, zT_lt, zF_lt, zT_le, zF_le, zT_eq, zF_eq, zT_neq, zF_neq, zT_nlt, zT_nle, and_true, true_and, and_false, false_and, and_self, or_true, true_or, or_false, false_or, or_self, not_true_eq_false, not_false_eq_true, ↓reduceIte, implies_true, true_imp_iff, false_imp_iff, zcall0, zcall1, zcall2, zcall3, zcall4, zsto_eq, zsto_ne, zsto_fn, zok13, zok6, zok15, znb_0, zrng_hit, zrng_ne, zrng_fn, zcpy_ne, zcpy_fn] <;> omega))]
      have e2 := m_isRevision0 (zsto (zth σ) 20 0 0 0) hb (by unfold zth; (simp (disch := omega) only [zwr_id, zT_lt, zF_lt, zT_le, zF_le, zT_eq, zF_eq, zT_neq, zF_neq, zT_nlt, zT_nle, and_true, true_and, and_false, false_and, and_self, or_true, true_or, or_false, false_or, or_self, not_true_eq_false, not_false_eq_true, ↓reduceIte, implies_true, true_imp_iff, false_imp_iff, zcall0, zcall1, zcall2, zcall3, zcall4, zsto_eq, zsto_ne, zsto_fn, zok13, zok6, zok15, znb_0, zrng_hit, zrng_ne, zrng_fn, zcpy_ne, zcpy_fn] <;> omega)) (by unfold zth; (simp (disch := omega) only [zwr_id, zT_lt, zF_lt, zT_le, zF_le, zT_eq, zF_eq, zT_neq, zF_neq, zT_nlt, zT_nle, and_true, true_and, and_false, false_and, and_self, or_true, true_or, or_false, false_or, or_self, not_true_eq_false, not_false_eq_true, ↓reduceIte, implies_true, true_imp_iff, false_imp_iff, zcall0, zcall1, zcall2, zcall3, zcall4, zsto_eq, zsto_ne, zsto_fn, zok13, zok6, zok15, znb_0, zrng_hit, zrng_ne, zrng_fn, zcpy_ne, zcpy_fn] <;> omega))
      simp (disch := omega) only [e2, e_M_differ_16, zwr_id, zT_lt, zF_lt, zT_le, zF_le, zT_eq, zF_eq, zT_neq, zF_neq, zT_nlt, zT_nle, and_true, true_and, and_false, false_and, and_self, or_true, true_or, or_false, false_or, or_self, not_true_eq_false, not_false_eq_true, ↓reduceIte, implies_true, true_imp_iff, false_imp_iff, zcall0, zcall1, zcall2, zcall3, zcall4, zsto_eq, zsto_ne, zsto_fn, zok13, zok6, zok15, znb_0, zrng_hit, zrng_ne, zrng_fn, zcpy_ne, zcpy_fn]
      have e3 : zsto (zsto (zth σ) 20 0 0 0) 20 0 0 1 = zsto (zth σ) 20 0 0 1 := by
        funext k i s
        by_cases hq : k = 20 ∧ i = 0 ∧ s = 0
        · obtain ⟨rfl, rfl, rfl⟩ := hq
          rw [zsto_eq, zsto_eq]
        · rw [zsto_ne hq, zsto_ne hq, zsto_ne hq]
      rw [e3]
  · have hf : f_W_differ [(4, 0), (0, a), (0, b)] σ = some (1, 0, zth σ) := by
      rw [u_W_differ, e_W_differ_0, w_revision0 σ ha h1 (by omega) hg]
      simp (disch := omega) only [zwr_id, zT_lt, zF_lt, zT_le, zF_le, zT_eq, zF_eq, zT_neq, zF_neq, zT_nlt, zT_nle, and_true, true_and, and_false, false_and, and_self, or_true, true_or, or_false, false_or, or_self, not_true_eq_false, not_false_eq_true, ↓reduceIte, implies_true, true_imp_iff, false_imp_iff, zcall0, zcall1, zcall2, zcall3, zcall4, zsto_eq, zsto_ne, zsto_fn, zok13, zok6, zok15, znb_0, zrng_hit, zrng_ne, zrng_fn, zcpy_ne, zcpy_fn]
    refine zOp.refuse hS (c := 1) (by omega) (by rw [u_Z_differ, e_Z_differ_0_x0 _ _ _ _ _ _ _ _ hf]) ?_
    rw [u_M_differ, e_M_differ_0, m_isRevision0 _ ha (by unfold zth; (simp (disch := omega) only [zwr_id, zT_lt, zF_lt, zT_le, zF_le, zT_eq, zF_eq, zT_neq, zF_neq, zT_nlt, zT_nle, and_true, true_and, and_false, false_and, and_self, or_true, true_or, or_false, false_or, or_self, not_true_eq_false, not_false_eq_true, ↓reduceIte, implies_true, true_imp_iff, false_imp_iff, zcall0, zcall1, zcall2, zcall3, zcall4, zsto_eq, zsto_ne, zsto_fn, zok13, zok6, zok15, znb_0, zrng_hit, zrng_ne, zrng_fn, zcpy_ne, zcpy_fn] <;> omega)) (by unfold zth; (simp (disch := omega) only [zwr_id, zT_lt, zF_lt, zT_le, zF_le, zT_eq, zF_eq, zT_neq, zF_neq, zT_nlt, zT_nle, and_true, true_and, and_false, false_and, and_self, or_true, true_or, or_false, false_or, or_self, not_true_eq_false, not_false_eq_true, ↓reduceIte, implies_true, true_imp_iff, false_imp_iff, zcall0, zcall1, zcall2, zcall3, zcall4, zsto_eq, zsto_ne, zsto_fn, zok13, zok6, zok15, znb_0, zrng_hit, zrng_ne, zrng_fn, zcpy_ne, zcpy_fn] <;> omega))]
    simp (disch := omega) only [e_M_differ_16, zwr_id, zT_lt, zF_lt, zT_le, zF_le, zT_eq, zF_eq, zT_neq, zF_neq, zT_nlt, zT_nle, and_true, true_and, and_false, false_and, and_self, or_true, true_or, or_false, false_or, or_self, not_true_eq_false, not_false_eq_true, ↓reduceIte, implies_true, true_imp_iff, false_imp_iff, zcall0, zcall1, zcall2, zcall3, zcall4, zsto_eq, zsto_ne, zsto_fn, zok13, zok6, zok15, znb_0, zrng_hit, zrng_ne, zrng_fn, zcpy_ne, zcpy_fn]
