/-! WRITING, the reference's side -/
def zmp (σ : ZT) (b : Int) : ZT := zsto (if σ 20 0 17 = 0 then zsto σ 27 0 (σ 20 0 16) (znb b) else σ) 20 0 16 (σ 20 0 16 + 1)
def zme : ZT → List Int → ZT
  | σ, [] => σ
  | σ, b :: bs => zme (zmp σ b) bs
theorem zme_app : ∀ (σ : ZT) (as bs : List Int), zme σ (as ++ bs) = zme (zme σ as) bs
  | _, [], _ => rfl
  | σ, a :: as, bs => zme_app (zmp σ a) as bs
def zMok (σ : ZT) (n : Int) : Prop := (σ 20 0 17 = 0 ∨ σ 20 0 17 = 1) ∧ 0 ≤ σ 20 0 16 ∧ σ 20 0 16 + n ≤ 50000 ∧ (σ 20 0 17 = 0 → σ 20 0 16 + n ≤ 12000)
theorem zmp_fn (σ : ZT) (b : Int) : zmp σ b 20 0 16 = σ 20 0 16 + 1 ∧ (∀ k : Nat, k ≠ 20 → k ≠ 27 → zmp σ b k = σ k) ∧ (∀ s, s ≠ 16 → zmp σ b 20 0 s = σ 20 0 s) ∧ (∀ j, j < σ 20 0 16 → zmp σ b 27 0 j = σ 27 0 j) ∧ (σ 20 0 17 ≠ 0 → zmp σ b 27 = σ 27) ∧ (zSimB σ → zSimB (zmp σ b)) := by
  unfold zmp
  split
  · refine ⟨by simp (disch := omega) only [zwr_id, zT_lt, zF_lt, zT_le, zF_le, zT_eq, zF_eq, zT_neq, zF_neq, zT_nlt, zT_nle, and_true, true_and, and_false, false_and, and_self, or_true, true_or, or_false, false_or, or_self, not_true_eq_false, not_false_eq_true, ↓reduceIte, implies_true, true_imp_iff, false_imp_iff, zcall0, zcall1, zcall2, zcall3, zcall4, zsto_eq, zsto_ne, zsto_fn, zok13, zok6, zok15, znb_0, zrng_hit, zrng_ne, zrng_fn, zcpy_ne, zcpy_fn], fun k k1 k2 => by simp (disch := omega) only [zwr_id, zT_lt, zF_lt, zT_le, zF_le, zT_eq, zF_eq, zT_neq, zF_neq, zT_nlt, zT_nle, and_true, true_and, and_false, false_and, and_self, or_true, true_or, or_false, false_or, or_self, not_true_eq_false, not_false_eq_true, ↓reduceIte, implies_true, true_imp_iff, false_imp_iff, zcall0, zcall1, zcall2, zcall3, zcall4, zsto_eq, zsto_ne, zsto_fn, zok13, zok6, zok15, znb_0, zrng_hit, zrng_ne, zrng_fn, zcpy_ne, zcpy_fn], fun s hs => by simp (disch := omega) only [zwr_id, zT_lt, zF_lt, zT_le, zF_le, zT_eq, zF_eq, zT_neq, zF_neq, zT_nlt, zT_nle, and_true, true_and, and_false, false_and, and_self, or_true, true_or, or_false, false_or, or_self, not_true_eq_false, not_false_eq_true, ↓reduceIte, implies_true, true_imp_iff, false_imp_iff, zcall0, zcall1, zcall2, zcall3, zcall4, zsto_eq, zsto_ne, zsto_fn, zok13, zok6, zok15, znb_0, zrng_hit, zrng_ne, zrng_fn, zcpy_ne, zcpy_fn], fun j hj => by simp (disch := omega) only [zwr_id, zT_lt, zF_lt, zT_le, zF_le, zT_eq, zF_eq, zT_neq, zF_neq, zT_nlt, zT_nle, and_true, true_and, and_false, false_and, and_self, or_true, true_or, or_false, false_or, or_self, not_true_eq_false, not_false_eq_true, ↓reduceIte, implies_true, true_imp_iff, false_imp_iff, zcall0, zcall1, zcall2, zcall3, zcall4, zsto_eq, zsto_ne, zsto_fn, zok13, zok6, zok15, znb_0, zrng_hit, zrng_ne, zrng_fn, zcpy_ne, zcpy_fn], fun q => absurd (by assumption) q, fun h => zSimB.sto (zSimB.sto h (Or.inr ⟨znb_ge b, znb_lt b⟩)) (by omega)⟩
  · refine ⟨by simp (disch := omega) only [zwr_id, zT_lt, zF_lt, zT_le, zF_le, zT_eq, zF_eq, zT_neq, zF_neq, zT_nlt, zT_nle, and_true, true_and, and_false, false_and, and_self, or_true, true_or, or_false, false_or, or_self, not_true_eq_false, not_false_eq_true, ↓reduceIte, implies_true, true_imp_iff, false_imp_iff, zcall0, zcall1, zcall2, zcall3, zcall4, zsto_eq, zsto_ne, zsto_fn, zok13, zok6, zok15, znb_0, zrng_hit, zrng_ne, zrng_fn, zcpy_ne, zcpy_fn], fun k k1 k2 => by simp (disch := omega) only [zwr_id, zT_lt, zF_lt, zT_le, zF_le, zT_eq, zF_eq, zT_neq, zF_neq, zT_nlt, zT_nle, and_true, true_and, and_false, false_and, and_self, or_true, true_or, or_false, false_or, or_self, not_true_eq_false, not_false_eq_true, ↓reduceIte, implies_true, true_imp_iff, false_imp_iff, zcall0, zcall1, zcall2, zcall3, zcall4, zsto_eq, zsto_ne, zsto_fn, zok13, zok6, zok15, znb_0, zrng_hit, zrng_ne, zrng_fn, zcpy_ne, zcpy_fn], fun s hs => by simp (disch := omega) only [zwr_id, zT_lt, zF_lt, zT_le, zF_le, zT_eq, zF_eq, zT_neq, zF_neq, zT_nlt, zT_nle, and_true, true_and, and_false, false_and, and_self, or_true, true_or, or_false, false_or, or_self, not_true_eq_false, not_false_eq_true, ↓reduceIte, implies_true, true_imp_iff, false_imp_iff, zcall0, zcall1, zcall2, zcall3, zcall4, zsto_eq, zsto_ne, zsto_fn, zok13, zok6, zok15, znb_0, zrng_hit, zrng_ne, zrng_fn, zcpy_ne, zcpy_fn], fun j hj => by simp (disch := omega) only [zwr_id, zT_lt, zF_lt, zT_le, zF_le, zT_eq, zF_eq, zT_neq, zF_neq, zT_nlt, zT_nle, and_true, true_and, and_false, false_and, and_self, or_true, true_or, or_false, false_or, or_self, not_true_eq_false, not_false_eq_true, ↓reduceIte, implies_true, true_imp_iff, false_imp_iff, zcall0, zcall1, zcall2, zcall3, zcall4, zsto_eq, zsto_ne, zsto_fn, zok13, zok6, zok15, znb_0, zrng_hit, zrng_ne, zrng_fn, zcpy_ne, zcpy_fn], fun q => by simp (disch := omega) only [zwr_id, zT_lt, zF_lt, zT_le, zF_le, zT_eq, zF_eq, zT_neq, zF_neq, zT_nlt, zT_nle, and_true, true_and, and_false, false_and, and_self, or_true, true_or, or_false, false_or, or_self, not_true_eq_false, not_false_eq_true, ↓reduceIte, implies_true, true_imp_iff, false_imp_iff, zcall0, zcall1, zcall2, zcall3, zcall4, zsto_eq, zsto_ne, zsto_fn, zok13, zok6, zok15, znb_0, zrng_hit, zrng_ne, zrng_fn, zcpy_ne, zcpy_fn], fun h => zSimB.sto h (by omega)⟩
theorem zme_fn : ∀ (σ : ZT) (bs : List Int), zme σ bs 20 0 16 = σ 20 0 16 + bs.length ∧ (∀ k : Nat, k ≠ 20 → k ≠ 27 → zme σ bs k = σ k) ∧ (∀ s, s ≠ 16 → zme σ bs 20 0 s = σ 20 0 s) ∧ (∀ j, j < σ 20 0 16 → zme σ bs 27 0 j = σ 27 0 j) ∧ (σ 20 0 17 ≠ 0 → zme σ bs 27 = σ 27) ∧ (zSimB σ → zSimB (zme σ bs))
  | σ, [] => ⟨by show σ 20 0 16 = σ 20 0 16 + ((0 : Nat) : Int); omega, fun _ _ _ => rfl, fun _ _ => rfl, fun _ _ => rfl, fun _ => rfl, fun h => h⟩
  | σ, b :: bs => by
    obtain ⟨a1, a2, a3, a4, a5, a6⟩ := zmp_fn σ b
    obtain ⟨c1, c2, c3, c4, c5, c6⟩ := zme_fn (zmp σ b) bs
    refine ⟨?_, fun k k1 k2 => (c2 k k1 k2).trans (a2 k k1 k2), fun s hs => (c3 s hs).trans (a3 s hs), fun j hj => (c4 j (by omega)).trans (a4 j hj), fun q => (c5 ?_).trans (a5 q), fun hB => c6 (a6 hB)⟩
    · show zme (zmp σ b) bs 20 0 16 = _
      rw [c1, a1, List.length_cons]
      omega
    · rw [a3 17 (by decide)]; exact q
theorem zme_at : ∀ (σ : ZT) (bs : List Int) (n : Nat) (b : Int), σ 20 0 17 = 0 → bs[n]? = some b → zme σ bs 27 0 (σ 20 0 16 + n) = znb b
  | _, [], n, b, _, h => by cases h
  | σ, c :: bs, 0, b, h, hb => by
    cases hb
    obtain ⟨a1, a2, a3, a4, a5, a6⟩ := zmp_fn σ c
    obtain ⟨c1, c2, c3, c4, c5, c6⟩ := zme_fn (zmp σ c) bs
    show zme (zmp σ c) bs 27 0 (σ 20 0 16 + 0) = znb c
    rw [Int.add_zero, c4 _ (by omega)]
    unfold zmp
    rw [if_pos h]
    simp (disch := omega) only [zwr_id, zT_lt, zF_lt, zT_le, zF_le, zT_eq, zF_eq, zT_neq, zF_neq, zT_nlt, zT_nle, and_true, true_and, and_false, false_and, and_self, or_true, true_or, or_false, false_or, or_self, not_true_eq_false, not_false_eq_true, ↓reduceIte, implies_true, true_imp_iff, false_imp_iff, zcall0, zcall1, zcall2, zcall3, zcall4, zsto_eq, zsto_ne, zsto_fn, zok13, zok6, zok15, znb_0, zrng_hit, zrng_ne, zrng_fn, zcpy_ne, zcpy_fn]
  | σ, c :: bs, n + 1, b, h, hb => by
    obtain ⟨a1, a2, a3, a4, a5, a6⟩ := zmp_fn σ c
    have ih := zme_at (zmp σ c) bs n b (by rw [a3 17 (by decide)]; exact h) hb
    rw [a1] at ih
    have e : σ 20 0 16 + ((n + 1 : Nat) : Int) = σ 20 0 16 + 1 + (n : Int) := by omega
    rw [e]
    exact ih
theorem zMok.le {σ : ZT} {n m : Int} (h : zMok σ n) (hm : m ≤ n) : zMok σ m := by
  unfold zMok at h ⊢
  omega
theorem zMok.em {σ : ZT} {n : Int} (bs : List Int) (h : zMok σ (bs.length + n)) : zMok (zme σ bs) n := by
  obtain ⟨c1, c2, c3, c4, c5, c6⟩ := zme_fn σ bs
  unfold zMok at h ⊢
  rw [c1, c3 17 (by decide)]
  omega
theorem m_put (σ : ZT) (b : Int) (h : zMok σ 1) : f_M_put [(20, 0), (0, b)] σ = some (0, 0, zme σ [b]) := by
  obtain ⟨h1, h2, h3, h4⟩ := h
  rw [u_M_put, e_M_put_0]
  show _ = some (0, 0, zmp σ b)
  unfold zmp
  rcases h1 with h1 | h1
  · have := h4 h1
    rw [if_pos h1]
    simp (disch := omega) only [e_M_put_18, znb_nb, zwr_id, zT_lt, zF_lt, zT_le, zF_le, zT_eq, zF_eq, zT_neq, zF_neq, zT_nlt, zT_nle, and_true, true_and, and_false, false_and, and_self, or_true, true_or, or_false, false_or, or_self, not_true_eq_false, not_false_eq_true, ↓reduceIte, implies_true, true_imp_iff, false_imp_iff, zcall0, zcall1, zcall2, zcall3, zcall4, zsto_eq, zsto_ne, zsto_fn, zok13, zok6, zok15, znb_0, zrng_hit, zrng_ne, zrng_fn, zcpy_ne, zcpy_fn]
  · rw [if_neg (show ¬ σ 20 0 17 = 0 by omega)]
    simp (disch := omega) only [e_M_put_18, zwr_id, zT_lt, zF_lt, zT_le, zF_le, zT_eq, zF_eq, zT_neq, zF_neq, zT_nlt, zT_nle, and_true, true_and, and_false, false_and, and_self, or_true, true_or, or_false, false_or, or_self, not_true_eq_false, not_false_eq_true, ↓reduceIte, implies_true, true_imp_iff, false_imp_iff, zcall0, zcall1, zcall2, zcall3, zcall4, zsto_eq, zsto_ne, zsto_fn, zok13, zok6, zok15, znb_0, zrng_hit, zrng_ne, zrng_fn, zcpy_ne, zcpy_fn]
def zds (v : Int) : Nat → List Int
  | 0 => []
  | k + 1 => (48 + v / zp10 k % 10) :: zds v k
theorem zp10_pos : ∀ n, 1 ≤ zp10 n
  | 0 => by decide
  | n + 1 => by have := zp10_pos n; show 1 ≤ 10 * zp10 n; omega
theorem zds_len (v : Int) : ∀ k, (zds v k).length = k
  | 0 => rfl
  | k + 1 => by rw [zds, List.length_cons, zds_len v k]
theorem m_num18 (v : Int) (hv : 0 ≤ v ∧ v < 2147483648) : ∀ (k : Nat) (σ : ZT), zp10 k < 2147483648 → zMok σ (k + 1) → zrun C_M_putNumber (18, [(20, 0), (0, v), (0, zp10 k)], [], σ) = some (0, 0, zme σ (zds v (k + 1)))
  | 0, σ, hk, h => by
    have e1 : v.tdiv 1 = v := by rw [Int.tdiv_eq_ediv_of_nonneg (by omega)]; omega
    have e2 : v - v.tdiv 10 * 10 = v % 10 := by rw [Int.tdiv_eq_ediv_of_nonneg (by omega)]; omega
    have e3 : zds v (0 + 1) = [48 + v % 10] := by
      show [48 + v / 1 % 10] = _
      rw [Int.ediv_one]
    have e4 : (1 : Int).tdiv 10 = 0 := by decide
    show zrun C_M_putNumber (18, [(20, 0), (0, v), (0, 1)], [], σ) = _
    rw [e_M_putNumber_18, e3]
    simp (disch := omega) only [e1, e2, e4, m_put _ _ (h.le (by omega)), e_M_putNumber_18, zwr_id, zT_lt, zF_lt, zT_le, zF_le, zT_eq, zF_eq, zT_neq, zF_neq, zT_nlt, zT_nle, and_true, true_and, and_false, false_and, and_self, or_true, true_or, or_false, false_or, or_self, not_true_eq_false, not_false_eq_true, ↓reduceIte, implies_true, true_imp_iff, false_imp_iff, zcall0, zcall1, zcall2, zcall3, zcall4, zsto_eq, zsto_ne, zsto_fn, zok13, zok6, zok15, znb_0, zrng_hit, zrng_ne, zrng_fn, zcpy_ne, zcpy_fn]
  | k + 1, σ, hk, h => by
    have hp := zp10_pos k
    have hk' : 10 * zp10 k < 2147483648 := hk
    have e1 : v.tdiv (10 * zp10 k) = v / (10 * zp10 k) := Int.tdiv_eq_ediv_of_nonneg (by omega)
    have hq : 0 ≤ v / (10 * zp10 k) ∧ v / (10 * zp10 k) ≤ v := ⟨Int.ediv_nonneg (by omega) (by omega), Int.ediv_le_self _ (by omega)⟩
    have e2 : v / (10 * zp10 k) - (v / (10 * zp10 k)).tdiv 10 * 10 = v / (10 * zp10 k) % 10 := by rw [Int.tdiv_eq_ediv_of_nonneg (by omega)]; omega
    have e3 : (10 * zp10 k).tdiv 10 = zp10 k := by rw [Int.tdiv_eq_ediv_of_nonneg (by omega)]; omega
    have e4 : zds v (k + 1 + 1) = [48 + v / (10 * zp10 k) % 10] ++ zds v (k + 1) := rfl
    show zrun C_M_putNumber (18, [(20, 0), (0, v), (0, 10 * zp10 k)], [], σ) = _
    rw [e_M_putNumber_18, e4, zme_app]
    simp (disch := omega) only [e1, e2, e3, m_put _ _ (h.le (by omega)), zwr_id, zT_lt, zF_lt, zT_le, zF_le, zT_eq, zF_eq, zT_neq, zF_neq, zT_nlt, zT_nle, and_true, true_and, and_false, false_and, and_self, or_true, true_or, or_false, false_or, or_self, not_true_eq_false, not_false_eq_true, ↓reduceIte, implies_true, true_imp_iff, false_imp_iff, zcall0, zcall1, zcall2, zcall3, zcall4, zsto_eq, zsto_ne, zsto_fn, zok13, zok6, zok15, znb_0, zrng_hit, zrng_ne, zrng_fn, zcpy_ne, zcpy_fn]
    exact m_num18 v hv k _ (by omega) (zMok.em [48 + v / (10 * zp10 k) % 10] (h.le (by show ((1 : Nat) : Int) + ((k : Int) + 1) ≤ _; omega)))
theorem zdg_len {v : Int} (hv : 0 ≤ v ∧ v ≤ 99999) : ((zdg v).length : Int) = 1 + (if 9 < v then 1 else 0) + (if 99 < v then 1 else 0) + (if 999 < v then 1 else 0) + (if 9999 < v then 1 else 0) := by
  show ((zdgn 7 v).length : Int) = _
  by_cases h1 : 9 < v
  · by_cases h2 : 99 < v
    · by_cases h3 : 999 < v
      · by_cases h4 : 9999 < v
        · simp only [zdgn, if_pos h1, if_pos h2, if_pos h3, if_pos h4, if_pos (show 9 < v / 10 by omega), if_pos (show 9 < v / 10 / 10 by omega), if_pos (show 9 < v / 10 / 10 / 10 by omega), if_neg (show ¬ 9 < v / 10 / 10 / 10 / 10 by omega), List.length_append, List.length_cons, List.length_nil]
          rfl
        · simp only [zdgn, if_pos h1, if_pos h2, if_pos h3, if_neg h4, if_pos (show 9 < v / 10 by omega), if_pos (show 9 < v / 10 / 10 by omega), if_neg (show ¬ 9 < v / 10 / 10 / 10 by omega), List.length_append, List.length_cons, List.length_nil]
          rfl
      · simp only [zdgn, if_pos h1, if_pos h2, if_neg h3, if_neg (show ¬ 9999 < v by omega), if_pos (show 9 < v / 10 by omega), if_neg (show ¬ 9 < v / 10 / 10 by omega), List.length_append, List.length_cons, List.length_nil]
        rfl
    · simp only [zdgn, if_pos h1, if_neg h2, if_neg (show ¬ 999 < v by omega), if_neg (show ¬ 9999 < v by omega), if_neg (show ¬ 9 < v / 10 by omega), List.length_append, List.length_cons, List.length_nil]
      rfl
  · simp only [zdgn, if_neg h1, if_neg (show ¬ 99 < v by omega), if_neg (show ¬ 999 < v by omega), if_neg (show ¬ 9999 < v by omega), List.length_append, List.length_cons, List.length_nil]
    rfl
theorem m_putNumber (σ : ZT) {v : Int} (hv : 0 ≤ v ∧ v ≤ 99999) (h : zMok σ (zdg v).length) : f_M_putNumber [(20, 0), (0, v)] σ = some (0, 0, zme σ (zdg v)) := by
  have hl := zdg_len hv
  have d1 : v.tdiv 1 = v / 1 := Int.tdiv_eq_ediv_of_nonneg (by omega)
  have d2 : v.tdiv 10 = v / 10 := Int.tdiv_eq_ediv_of_nonneg (by omega)
  have d3 : v.tdiv 100 = v / 100 := Int.tdiv_eq_ediv_of_nonneg (by omega)
  have d4 : v.tdiv 1000 = v / 1000 := Int.tdiv_eq_ediv_of_nonneg (by omega)
  have d5 : v.tdiv 10000 = v / 10000 := Int.tdiv_eq_ediv_of_nonneg (by omega)
  have n1 : (1 : Int) * 10 = 10 := by decide
  have n2 : (10 : Int) * 10 = 100 := by decide
  have n3 : (100 : Int) * 10 = 1000 := by decide
  have n4 : (1000 : Int) * 10 = 10000 := by decide
  rw [u_M_putNumber, e_M_putNumber_0, e_M_putNumber_2]
  by_cases h1 : 9 < v
  · by_cases h2 : 99 < v
    · by_cases h3 : 999 < v
      · by_cases h4 : 9999 < v
        · rw [if_pos h1, if_pos h2, if_pos h3, if_pos h4] at hl
          simp (disch := omega) only [d1, n1, zwr_id, zT_lt, zF_lt, zT_le, zF_le, zT_eq, zF_eq, zT_neq, zF_neq, zT_nlt, zT_nle, and_true, true_and, and_false, false_and, and_self, or_true, true_or, or_false, false_or, or_self, not_true_eq_false, not_false_eq_true, ↓reduceIte, implies_true, true_imp_iff, false_imp_iff, zcall0, zcall1, zcall2, zcall3, zcall4, zsto_eq, zsto_ne, zsto_fn, zok13, zok6, zok15, znb_0, zrng_hit, zrng_ne, zrng_fn, zcpy_ne, zcpy_fn]
          rw [e_M_putNumber_2]
          simp (disch := omega) only [d2, n2, zwr_id, zT_lt, zF_lt, zT_le, zF_le, zT_eq, zF_eq, zT_neq, zF_neq, zT_nlt, zT_nle, and_true, true_and, and_false, false_and, and_self, or_true, true_or, or_false, false_or, or_self, not_true_eq_false, not_false_eq_true, ↓reduceIte, implies_true, true_imp_iff, false_imp_iff, zcall0, zcall1, zcall2, zcall3, zcall4, zsto_eq, zsto_ne, zsto_fn, zok13, zok6, zok15, znb_0, zrng_hit, zrng_ne, zrng_fn, zcpy_ne, zcpy_fn]
          rw [e_M_putNumber_2]
          simp (disch := omega) only [d3, n3, zwr_id, zT_lt, zF_lt, zT_le, zF_le, zT_eq, zF_eq, zT_neq, zF_neq, zT_nlt, zT_nle, and_true, true_and, and_false, false_and, and_self, or_true, true_or, or_false, false_or, or_self, not_true_eq_false, not_false_eq_true, ↓reduceIte, implies_true, true_imp_iff, false_imp_iff, zcall0, zcall1, zcall2, zcall3, zcall4, zsto_eq, zsto_ne, zsto_fn, zok13, zok6, zok15, znb_0, zrng_hit, zrng_ne, zrng_fn, zcpy_ne, zcpy_fn]
          rw [e_M_putNumber_2]
          simp (disch := omega) only [d4, n4, zwr_id, zT_lt, zF_lt, zT_le, zF_le, zT_eq, zF_eq, zT_neq, zF_neq, zT_nlt, zT_nle, and_true, true_and, and_false, false_and, and_self, or_true, true_or, or_false, false_or, or_self, not_true_eq_false, not_false_eq_true, ↓reduceIte, implies_true, true_imp_iff, false_imp_iff, zcall0, zcall1, zcall2, zcall3, zcall4, zsto_eq, zsto_ne, zsto_fn, zok13, zok6, zok15, znb_0, zrng_hit, zrng_ne, zrng_fn, zcpy_ne, zcpy_fn]
          rw [e_M_putNumber_2]
          simp (disch := omega) only [d5, zwr_id, zT_lt, zF_lt, zT_le, zF_le, zT_eq, zF_eq, zT_neq, zF_neq, zT_nlt, zT_nle, and_true, true_and, and_false, false_and, and_self, or_true, true_or, or_false, false_or, or_self, not_true_eq_false, not_false_eq_true, ↓reduceIte, implies_true, true_imp_iff, false_imp_iff, zcall0, zcall1, zcall2, zcall3, zcall4, zsto_eq, zsto_ne, zsto_fn, zok13, zok6, zok15, znb_0, zrng_hit, zrng_ne, zrng_fn, zcpy_ne, zcpy_fn]
          have e : zds v (4 + 1) = zdg v := by
            show [48 + v / (10 * (10 * (10 * (10 * 1)))) % 10, 48 + v / (10 * (10 * (10 * 1))) % 10, 48 + v / (10 * (10 * 1)) % 10, 48 + v / (10 * 1) % 10, 48 + v / 1 % 10] = zdgn 7 v
            simp only [zdgn, if_pos h1, if_pos (show 9 < v / 10 by omega), if_pos (show 9 < v / 10 / 10 by omega), if_pos (show 9 < v / 10 / 10 / 10 by omega), if_neg (show ¬ 9 < v / 10 / 10 / 10 / 10 by omega), List.nil_append, List.cons_append, List.cons.injEq, and_true]
            omega
          rw [← e]
          exact m_num18 v (by omega) 4 σ (by decide) (h.le (by omega))
        · rw [if_pos h1, if_pos h2, if_pos h3, if_neg h4] at hl
          simp (disch := omega) only [d1, n1, zwr_id, zT_lt, zF_lt, zT_le, zF_le, zT_eq, zF_eq, zT_neq, zF_neq, zT_nlt, zT_nle, and_true, true_and, and_false, false_and, and_self, or_true, true_or, or_false, false_or, or_self, not_true_eq_false, not_false_eq_true, ↓reduceIte, implies_true, true_imp_iff, false_imp_iff, zcall0, zcall1, zcall2, zcall3, zcall4, zsto_eq, zsto_ne, zsto_fn, zok13, zok6, zok15, znb_0, zrng_hit, zrng_ne, zrng_fn, zcpy_ne, zcpy_fn]
          rw [e_M_putNumber_2]
          simp (disch := omega) only [d2, n2, zwr_id, zT_lt, zF_lt, zT_le, zF_le, zT_eq, zF_eq, zT_neq, zF_neq, zT_nlt, zT_nle, and_true, true_and, and_false, false_and, and_self, or_true, true_or, or_false, false_or, or_self, not_true_eq_false, not_false_eq_true, ↓reduceIte, implies_true, true_imp_iff, false_imp_iff, zcall0, zcall1, zcall2, zcall3, zcall4, zsto_eq, zsto_ne, zsto_fn, zok13, zok6, zok15, znb_0, zrng_hit, zrng_ne, zrng_fn, zcpy_ne, zcpy_fn]
          rw [e_M_putNumber_2]
          simp (disch := omega) only [d3, n3, zwr_id, zT_lt, zF_lt, zT_le, zF_le, zT_eq, zF_eq, zT_neq, zF_neq, zT_nlt, zT_nle, and_true, true_and, and_false, false_and, and_self, or_true, true_or, or_false, false_or, or_self, not_true_eq_false, not_false_eq_true, ↓reduceIte, implies_true, true_imp_iff, false_imp_iff, zcall0, zcall1, zcall2, zcall3, zcall4, zsto_eq, zsto_ne, zsto_fn, zok13, zok6, zok15, znb_0, zrng_hit, zrng_ne, zrng_fn, zcpy_ne, zcpy_fn]
          rw [e_M_putNumber_2]
          simp (disch := omega) only [d4, zwr_id, zT_lt, zF_lt, zT_le, zF_le, zT_eq, zF_eq, zT_neq, zF_neq, zT_nlt, zT_nle, and_true, true_and, and_false, false_and, and_self, or_true, true_or, or_false, false_or, or_self, not_true_eq_false, not_false_eq_true, ↓reduceIte, implies_true, true_imp_iff, false_imp_iff, zcall0, zcall1, zcall2, zcall3, zcall4, zsto_eq, zsto_ne, zsto_fn, zok13, zok6, zok15, znb_0, zrng_hit, zrng_ne, zrng_fn, zcpy_ne, zcpy_fn]
          have e : zds v (3 + 1) = zdg v := by
            show [48 + v / (10 * (10 * (10 * 1))) % 10, 48 + v / (10 * (10 * 1)) % 10, 48 + v / (10 * 1) % 10, 48 + v / 1 % 10] = zdgn 7 v
            simp only [zdgn, if_pos h1, if_pos (show 9 < v / 10 by omega), if_pos (show 9 < v / 10 / 10 by omega), if_neg (show ¬ 9 < v / 10 / 10 / 10 by omega), List.nil_append, List.cons_append, List.cons.injEq, and_true]
            omega
          rw [← e]
          exact m_num18 v (by omega) 3 σ (by decide) (h.le (by omega))
      · rw [if_pos h1, if_pos h2, if_neg h3, if_neg (by omega)] at hl
        simp (disch := omega) only [d1, n1, zwr_id, zT_lt, zF_lt, zT_le, zF_le, zT_eq, zF_eq, zT_neq, zF_neq, zT_nlt, zT_nle, and_true, true_and, and_false, false_and, and_self, or_true, true_or, or_false, false_or, or_self, not_true_eq_false, not_false_eq_true, ↓reduceIte, implies_true, true_imp_iff, false_imp_iff, zcall0, zcall1, zcall2, zcall3, zcall4, zsto_eq, zsto_ne, zsto_fn, zok13, zok6, zok15, znb_0, zrng_hit, zrng_ne, zrng_fn, zcpy_ne, zcpy_fn]
        rw [e_M_putNumber_2]
        simp (disch := omega) only [d2, n2, zwr_id, zT_lt, zF_lt, zT_le, zF_le, zT_eq, zF_eq, zT_neq, zF_neq, zT_nlt, zT_nle, and_true, true_and, and_false, false_and, and_self, or_true, true_or, or_false, false_or, or_self, not_true_eq_false, not_false_eq_true, ↓reduceIte, implies_true, true_imp_iff, false_imp_iff, zcall0, zcall1, zcall2, zcall3, zcall4, zsto_eq, zsto_ne, zsto_fn, zok13, zok6, zok15, znb_0, zrng_hit, zrng_ne, zrng_fn, zcpy_ne, zcpy_fn]
        rw [e_M_putNumber_2]
        simp (disch := omega) only [d3, zwr_id, zT_lt, zF_lt, zT_le, zF_le, zT_eq, zF_eq, zT_neq, zF_neq, zT_nlt, zT_nle, and_true, true_and, and_false, false_and, and_self, or_true, true_or, or_false, false_or, or_self, not_true_eq_false, not_false_eq_true, ↓reduceIte, implies_true, true_imp_iff, false_imp_iff, zcall0, zcall1, zcall2, zcall3, zcall4, zsto_eq, zsto_ne, zsto_fn, zok13, zok6, zok15, znb_0, zrng_hit, zrng_ne, zrng_fn, zcpy_ne, zcpy_fn]
        have e : zds v (2 + 1) = zdg v := by
          show [48 + v / (10 * (10 * 1)) % 10, 48 + v / (10 * 1) % 10, 48 + v / 1 % 10] = zdgn 7 v
          simp only [zdgn, if_pos h1, if_pos (show 9 < v / 10 by omega), if_neg (show ¬ 9 < v / 10 / 10 by omega), List.nil_append, List.cons_append, List.cons.injEq, and_true]
          omega
        rw [← e]
        exact m_num18 v (by omega) 2 σ (by decide) (h.le (by omega))
    · rw [if_pos h1, if_neg h2, if_neg (by omega), if_neg (by omega)] at hl
      simp (disch := omega) only [d1, n1, zwr_id, zT_lt, zF_lt, zT_le, zF_le, zT_eq, zF_eq, zT_neq, zF_neq, zT_nlt, zT_nle, and_true, true_and, and_false, false_and, and_self, or_true, true_or, or_false, false_or, or_self, not_true_eq_false, not_false_eq_true, ↓reduceIte, implies_true, true_imp_iff, false_imp_iff, zcall0, zcall1, zcall2, zcall3, zcall4, zsto_eq, zsto_ne, zsto_fn, zok13, zok6, zok15, znb_0, zrng_hit, zrng_ne, zrng_fn, zcpy_ne, zcpy_fn]
      rw [e_M_putNumber_2]
      simp (disch := omega) only [d2, zwr_id, zT_lt, zF_lt, zT_le, zF_le, zT_eq, zF_eq, zT_neq, zF_neq, zT_nlt, zT_nle, and_true, true_and, and_false, false_and, and_self, or_true, true_or, or_false, false_or, or_self, not_true_eq_false, not_false_eq_true, ↓reduceIte, implies_true, true_imp_iff, false_imp_iff, zcall0, zcall1, zcall2, zcall3, zcall4, zsto_eq, zsto_ne, zsto_fn, zok13, zok6, zok15, znb_0, zrng_hit, zrng_ne, zrng_fn, zcpy_ne, zcpy_fn]
      have e : zds v (1 + 1) = zdg v := by
        show [48 + v / (10 * 1) % 10, 48 + v / 1 % 10] = zdgn 7 v
        simp only [zdgn, if_pos h1, if_neg (show ¬ 9 < v / 10 by omega), List.nil_append, List.cons_append, List.cons.injEq, and_true]
        omega
      rw [← e]
      exact m_num18 v (by omega) 1 σ (by decide) (h.le (by omega))
  · rw [if_neg h1, if_neg (by omega), if_neg (by omega), if_neg (by omega)] at hl
    simp (disch := omega) only [d1, zwr_id, zT_lt, zF_lt, zT_le, zF_le, zT_eq, zF_eq, zT_neq, zF_neq, zT_nlt, zT_nle, and_true, true_and, and_false, false_and, and_self, or_true, true_or, or_false, false_or, or_self, not_true_eq_false, not_false_eq_true, ↓reduceIte, implies_true, true_imp_iff, false_imp_iff, zcall0, zcall1, zcall2, zcall3, zcall4, zsto_eq, zsto_ne, zsto_fn, zok13, zok6, zok15, znb_0, zrng_hit, zrng_ne, zrng_fn, zcpy_ne, zcpy_fn]
    have e : zds v (0 + 1) = zdg v := by
      show [48 + v / 1 % 10] = zdgn 7 v
      simp only [zdgn, if_neg h1, List.nil_append, List.cons.injEq, and_true]
      omega
    rw [← e]
    exact m_num18 v (by omega) 0 σ (by decide) (h.le (by omega))
theorem m_putTold (σ : ZT) {c v : Int} (hv : 0 ≤ v ∧ v ≤ 99999) (h : zMok σ (c :: 32 :: (zdg v ++ [10])).length) : f_M_putTold [(20, 0), (0, c), (0, v)] σ = some (0, 0, zme σ (c :: 32 :: (zdg v ++ [10]))) := by
  have e : zme σ (c :: 32 :: (zdg v ++ [10])) = zme (zme (zme (zme σ [c]) [32]) (zdg v)) [10] := by
    rw [← zme_app, ← zme_app, ← zme_app]; rfl
  rw [List.length_cons, List.length_cons, List.length_append, List.length_cons, List.length_nil] at h
  have s1 : zMok (zme σ [c]) (2 + (zdg v).length) := zMok.em [c] (h.le (by show ((1 : Nat) : Int) + _ ≤ _; omega))
  have s2 : zMok (zme (zme σ [c]) [32]) (1 + (zdg v).length) := zMok.em [32] (s1.le (by show ((1 : Nat) : Int) + _ ≤ _; omega))
  have s3 : zMok (zme (zme (zme σ [c]) [32]) (zdg v)) 1 := zMok.em (zdg v) (s2.le (by omega))
  rw [u_M_putTold, e_M_putTold_0, m_put σ c (h.le (by omega)), zcall0, m_put _ _ (s1.le (by omega)), zcall0, m_putNumber _ hv (s2.le (by omega)), zcall0, m_put _ _ s3, zcall0, e]
/-- the bytes of an object's record -/
def zoc (f : Int → Int) : Nat → Int → List Int
  | 0, _ => []
  | m + 1, k => f k :: zoc f m (k + 1)
theorem zoc_len (f : Int → Int) : ∀ m k, (zoc f m k).length = m
  | 0, _ => rfl
  | m + 1, k => by rw [zoc, List.length_cons, zoc_len f m (k + 1)]
theorem zoc_congr {f g : Int → Int} : ∀ (m : Nat) (k : Int), (∀ j, k ≤ j → j < k + m → f j = g j) → zoc f m k = zoc g m k
  | 0, _, _ => rfl
  | m + 1, k, h => by
    rw [zoc, zoc, h k (by omega) (by omega), zoc_congr m (k + 1) fun j h1 h2 => h j (by omega) (by omega)]
def zhd1 (n l : Int) : List Int := 111 :: 32 :: (zdg n ++ 32 :: (zdg l ++ [10]))
def zrec (n l : Int) (f : Int → Int) : List Int := zhd1 n l ++ (zoc f l.toNat 0 ++ [10])
theorem zhd1_len {n l : Int} (hn : 1 ≤ n ∧ n ≤ 40) (hl : 0 ≤ l ∧ l ≤ 120) (p : Int) : p + (zhd1 n l).length = zbh p n l := by
  unfold zhd1 zbh
  have h1 := zdg_len (v := n) (by omega)
  have h2 := zdg_len (v := l) (by omega)
  rw [List.length_cons, List.length_cons, List.length_append, List.length_cons, List.length_append, List.length_cons, List.length_nil]
  rw [if_neg (show ¬ 99 < n by omega), if_neg (show ¬ 999 < n by omega), if_neg (show ¬ 9999 < n by omega)] at h1
  rw [if_neg (show ¬ 999 < l by omega), if_neg (show ¬ 9999 < l by omega)] at h2
  omega
theorem m_oct_loop {n l : Int} (hn : 1 ≤ n ∧ n ≤ 40) (hl : 0 ≤ l ∧ l ≤ 120) : ∀ (m : Nat) (k : Int) (σ : ZT), 0 ≤ k → l - k = m → σ 25 0 n = l → zMok σ (m + 1) → zrun C_M_putRecord (61, [(20, 0), (0, n), (0, k)], [], σ) = some (0, 0, zme σ (zoc (fun i => σ 26 0 (120 * n + i)) m k ++ [10]))
  | 0, k, σ, hk, hm, h25, h => by
    rw [e_M_putRecord_61]
    simp (disch := omega) only [m_put _ _ (h.le (by omega)), zwr_id, zT_lt, zF_lt, zT_le, zF_le, zT_eq, zF_eq, zT_neq, zF_neq, zT_nlt, zT_nle, and_true, true_and, and_false, false_and, and_self, or_true, true_or, or_false, false_or, or_self, not_true_eq_false, not_false_eq_true, ↓reduceIte, implies_true, true_imp_iff, false_imp_iff, zcall0, zcall1, zcall2, zcall3, zcall4, zsto_eq, zsto_ne, zsto_fn, zok13, zok6, zok15, znb_0, zrng_hit, zrng_ne, zrng_fn, zcpy_ne, zcpy_fn]
    rfl
  | m + 1, k, σ, hk, hm, h25, h => by
    obtain ⟨a1, a2, a3, a4, a5, a6⟩ := zme_fn σ [σ 26 0 (120 * n + k)]
    have ih := m_oct_loop hn hl m (k + 1) (zme σ [σ 26 0 (120 * n + k)]) (by omega) (by omega) (by rw [a2 25 (by decide) (by decide)]; exact h25) (zMok.em [σ 26 0 (120 * n + k)] (h.le (by show ((1 : Nat) : Int) + _ ≤ _; omega)))
    rw [a2 26 (by decide) (by decide)] at ih
    rw [e_M_putRecord_61]
    simp (disch := omega) only [m_put _ _ (h.le (by omega)), zwr_id, zT_lt, zF_lt, zT_le, zF_le, zT_eq, zF_eq, zT_neq, zF_neq, zT_nlt, zT_nle, and_true, true_and, and_false, false_and, and_self, or_true, true_or, or_false, false_or, or_self, not_true_eq_false, not_false_eq_true, ↓reduceIte, implies_true, true_imp_iff, false_imp_iff, zcall0, zcall1, zcall2, zcall3, zcall4, zsto_eq, zsto_ne, zsto_fn, zok13, zok6, zok15, znb_0, zrng_hit, zrng_ne, zrng_fn, zcpy_ne, zcpy_fn]
    rw [ih]
    rfl
/-- the reference's record -/
def zmr (σ : ZT) (n : Int) : ZT := zme (zsto (zme (zsto σ 33 0 n (σ 20 0 16)) (zhd1 n (σ 25 0 n))) 34 0 n (σ 20 0 16 + (zhd1 n (σ 25 0 n)).length)) (zoc (fun i => σ 26 0 (120 * n + i)) (σ 25 0 n).toNat 0 ++ [10])
theorem m_putRecord (σ : ZT) {n : Int} (hn : 1 ≤ n ∧ n ≤ 40) (hl : 0 ≤ σ 25 0 n ∧ σ 25 0 n ≤ 120) (h : zMok σ (zrec n (σ 25 0 n) fun i => σ 26 0 (120 * n + i)).length) : f_M_putRecord [(20, 0), (0, n)] σ = some (0, 0, zmr σ n) := by
  generalize hL : σ 25 0 n = L at hl h
  have e0 : (zrec n L fun i => σ 26 0 (120 * n + i)).length = (zhd1 n L).length + (L.toNat + 1) := by
    unfold zrec
    rw [List.length_append, List.length_append, zoc_len]
    rfl
  rw [e0] at h
  have e1 : (zhd1 n L).length = 2 + ((zdg n).length + (1 + ((zdg L).length + 1))) := by
    unfold zhd1
    rw [List.length_cons, List.length_cons, List.length_append, List.length_cons, List.length_append, List.length_cons, List.length_nil]
    omega
  rw [e1] at h
  generalize hσ' : zsto σ 33 0 n (σ 20 0 16) = σ'
  have g16 : σ' 20 = σ 20 := by rw [← hσ']; simp (disch := omega) only [zwr_id, zT_lt, zF_lt, zT_le, zF_le, zT_eq, zF_eq, zT_neq, zF_neq, zT_nlt, zT_nle, and_true, true_and, and_false, false_and, and_self, or_true, true_or, or_false, false_or, or_self, not_true_eq_false, not_false_eq_true, ↓reduceIte, implies_true, true_imp_iff, false_imp_iff, zcall0, zcall1, zcall2, zcall3, zcall4, zsto_eq, zsto_ne, zsto_fn, zok13, zok6, zok15, znb_0, zrng_hit, zrng_ne, zrng_fn, zcpy_ne, zcpy_fn]
  have g25 : σ' 25 = σ 25 := by rw [← hσ']; simp (disch := omega) only [zwr_id, zT_lt, zF_lt, zT_le, zF_le, zT_eq, zF_eq, zT_neq, zF_neq, zT_nlt, zT_nle, and_true, true_and, and_false, false_and, and_self, or_true, true_or, or_false, false_or, or_self, not_true_eq_false, not_false_eq_true, ↓reduceIte, implies_true, true_imp_iff, false_imp_iff, zcall0, zcall1, zcall2, zcall3, zcall4, zsto_eq, zsto_ne, zsto_fn, zok13, zok6, zok15, znb_0, zrng_hit, zrng_ne, zrng_fn, zcpy_ne, zcpy_fn]
  have g26 : σ' 26 = σ 26 := by rw [← hσ']; simp (disch := omega) only [zwr_id, zT_lt, zF_lt, zT_le, zF_le, zT_eq, zF_eq, zT_neq, zF_neq, zT_nlt, zT_nle, and_true, true_and, and_false, false_and, and_self, or_true, true_or, or_false, false_or, or_self, not_true_eq_false, not_false_eq_true, ↓reduceIte, implies_true, true_imp_iff, false_imp_iff, zcall0, zcall1, zcall2, zcall3, zcall4, zsto_eq, zsto_ne, zsto_fn, zok13, zok6, zok15, znb_0, zrng_hit, zrng_ne, zrng_fn, zcpy_ne, zcpy_fn]
  have h' : zMok σ' (((2 + ((zdg n).length + (1 + ((zdg L).length + 1))) + (L.toNat + 1) : Nat) : Int)) := by
    unfold zMok at h ⊢
    rw [g16]
    exact h
  have s1 := zMok.em (σ := σ') (n := 1 + ((zdg n).length + (1 + ((zdg L).length + 1))) + (L.toNat + 1)) [111] (h'.le (by show ((1 : Nat) : Int) + _ ≤ _; omega))
  have s2 := zMok.em (n := (zdg n).length + (1 + ((zdg L).length + 1)) + (L.toNat + 1)) [32] (s1.le (by show ((1 : Nat) : Int) + _ ≤ _; omega))
  have s3 := zMok.em (n := 1 + ((zdg L).length + 1) + (L.toNat + 1)) (zdg n) (s2.le (by omega))
  have s4 := zMok.em (n := (zdg L).length + 1 + (L.toNat + 1)) [32] (s3.le (by show ((1 : Nat) : Int) + _ ≤ _; omega))
  have s5 := zMok.em (n := 1 + (L.toNat + 1)) (zdg L) (s4.le (by omega))
  have s6 := zMok.em (n := L.toNat + 1) [10] (s5.le (by show ((1 : Nat) : Int) + _ ≤ _; omega))
  have e : zme (zme (zme (zme (zme (zme σ' [111]) [32]) (zdg n)) [32]) (zdg L)) [10] = zme σ' (zhd1 n L) := by
    rw [← zme_app, ← zme_app, ← zme_app, ← zme_app, ← zme_app]; rfl
  rw [e] at s6
  have q4 : zme (zme (zme (zme σ' [111]) [32]) (zdg n)) [32] 25 = σ 25 := by
    rw [← zme_app, ← zme_app, ← zme_app, (zme_fn _ _).2.1 25 (by decide) (by decide), g25]
  have q6 : zme σ' (zhd1 n L) 25 = σ 25 := by rw [(zme_fn _ _).2.1 25 (by decide) (by decide), g25]
  have q7 : zme σ' (zhd1 n L) 26 = σ 26 := by rw [(zme_fn _ _).2.1 26 (by decide) (by decide), g26]
  have q8 : zme σ' (zhd1 n L) 20 0 16 = σ 20 0 16 + (zhd1 n L).length := by rw [(zme_fn _ _).1, g16]
  rw [u_M_putRecord, e_M_putRecord_0]
  simp (disch := omega) only [zwr_id, zT_lt, zF_lt, zT_le, zF_le, zT_eq, zF_eq, zT_neq, zF_neq, zT_nlt, zT_nle, and_true, true_and, and_false, false_and, and_self, or_true, true_or, or_false, false_or, or_self, not_true_eq_false, not_false_eq_true, ↓reduceIte, implies_true, true_imp_iff, false_imp_iff, zcall0, zcall1, zcall2, zcall3, zcall4, zsto_eq, zsto_ne, zsto_fn, zok13, zok6, zok15, znb_0, zrng_hit, zrng_ne, zrng_fn, zcpy_ne, zcpy_fn]
  rw [hσ', m_put _ _ (h'.le (by omega)), zcall0, m_put _ _ (s1.le (by omega)), zcall0, m_putNumber _ (by omega) (s2.le (by omega)), zcall0, m_put _ _ (s3.le (by omega)), zcall0, q4, hL, m_putNumber _ (by omega) (s4.le (by omega)), zcall0, m_put _ _ (s5.le (by omega)), zcall0, e]
  rw [m_oct_loop hn hl L.toNat 0 _ (by omega) (by omega) (by simp (disch := omega) only [zwr_id, zT_lt, zF_lt, zT_le, zF_le, zT_eq, zF_eq, zT_neq, zF_neq, zT_nlt, zT_nle, and_true, true_and, and_false, false_and, and_self, or_true, true_or, or_false, false_or, or_self, not_true_eq_false, not_false_eq_true, ↓reduceIte, implies_true, true_imp_iff, false_imp_iff, zcall0, zcall1, zcall2, zcall3, zcall4, zsto_eq, zsto_ne, zsto_fn, zok13, zok6, zok15, znb_0, zrng_hit, zrng_ne, zrng_fn, zcpy_ne, zcpy_fn]; rw [q6, hL]) (by
    unfold zMok at s6 ⊢
    rw [zsto_fn (show ¬ 20 = 34 by decide)]
    exact s6)]
  unfold zmr
  rw [hL, hσ', q8]
  have q9 : zsto (zme σ' (zhd1 n L)) 34 0 n (σ 20 0 16 + (zhd1 n L).length) 26 = σ 26 := by rw [zsto_fn (by decide), q7]
  rw [q9]
theorem m_isMeant (σ : ZT) {n w : Int} (hn : 1 ≤ n ∧ n ≤ 40) (hw : w = 0 ∨ w = 1) (h1 : σ 21 0 n = 0 ∨ σ 21 0 n = 1) (h2 : σ 23 0 n = 0 ∨ σ 23 0 n = 1) : f_M_isMeant [(20, 0), (0, n), (0, w)] σ = some (0, if w = 0 then σ 23 0 n else σ 21 0 n, σ) := by
  rw [u_M_isMeant, e_M_isMeant_0]
  rcases hw with hw | hw
  · simp (disch := omega) only [h2, zwr_id, zT_lt, zF_lt, zT_le, zF_le, zT_eq, zF_eq, zT_neq, zF_neq, zT_nlt, zT_nle, and_true, true_and, and_false, false_and, and_self, or_true, true_or, or_false, false_or, or_self, not_true_eq_false, not_false_eq_true, ↓reduceIte, implies_true, true_imp_iff, false_imp_iff, zcall0, zcall1, zcall2, zcall3, zcall4, zsto_eq, zsto_ne, zsto_fn, zok13, zok6, zok15, znb_0, zrng_hit, zrng_ne, zrng_fn, zcpy_ne, zcpy_fn]
  · simp (disch := omega) only [h1, zwr_id, zT_lt, zF_lt, zT_le, zF_le, zT_eq, zF_eq, zT_neq, zF_neq, zT_nlt, zT_nle, and_true, true_and, and_false, false_and, and_self, or_true, true_or, or_false, false_or, or_self, not_true_eq_false, not_false_eq_true, ↓reduceIte, implies_true, true_imp_iff, false_imp_iff, zcall0, zcall1, zcall2, zcall3, zcall4, zsto_eq, zsto_ne, zsto_fn, zok13, zok6, zok15, znb_0, zrng_hit, zrng_ne, zrng_fn, zcpy_ne, zcpy_fn]
/-- a row -/
def zrow (k t p : Int) : List Int := zdg k ++ 32 :: ((if t = 0 then [45] else zdg p) ++ [10])
theorem m_putRow (σ : ZT) {n : Int} (hn : 1 ≤ n ∧ n ≤ 40) (ht : σ 21 0 n = 0 ∨ σ 21 0 n = 1) (hp : σ 21 0 n = 1 → 0 ≤ σ 33 0 n ∧ σ 33 0 n ≤ 99999) (h : zMok σ (zrow n (σ 21 0 n) (σ 33 0 n)).length) : f_M_putRow [(20, 0), (0, n)] σ = some (0, 0, zme σ (zrow n (σ 21 0 n) (σ 33 0 n))) := by
  unfold zrow at h ⊢
  rw [List.length_append, List.length_cons, List.length_append, List.length_cons, List.length_nil] at h
  have s1 := zMok.em (n := 1 + ((if σ 21 0 n = 0 then [45] else zdg (σ 33 0 n)).length + 1)) (zdg n) (h.le (by omega))
  have s2 := zMok.em (n := (if σ 21 0 n = 0 then [45] else zdg (σ 33 0 n)).length + 1) [32] (s1.le (by show ((1 : Nat) : Int) + _ ≤ _; omega))
  have q2 : zme (zme σ (zdg n)) [32] 21 = σ 21 := by rw [← zme_app, (zme_fn _ _).2.1 21 (by decide) (by decide)]
  have q3 : zme (zme σ (zdg n)) [32] 33 = σ 33 := by rw [← zme_app, (zme_fn _ _).2.1 33 (by decide) (by decide)]
  rw [u_M_putRow, e_M_putRow_0, m_putNumber _ (by omega) (h.le (by omega)), zcall0, m_put _ _ (s1.le (by omega)), zcall0, q2, q3]
  rcases ht with ht | ht
  · have e : zme σ (zdg n ++ 32 :: ((if σ 21 0 n = 0 then [45] else zdg (σ 33 0 n)) ++ [10])) = zme (zme (zme (zme σ (zdg n)) [32]) [45]) [10] := by
      rw [if_pos ht, ← zme_app, ← zme_app, ← zme_app]; rfl
    rw [if_pos ht] at s2
    rw [e]
    have s3 := zMok.em (n := 1) [45] (s2.le (by show ((1 : Nat) : Int) + 1 ≤ ((1 : Nat) : Int) + 1; omega))
    simp (disch := omega) only [m_put _ _ (s2.le (by show 1 ≤ ((1 : Nat) : Int) + 1; omega)), e_M_putRow_39, m_put _ _ s3, zwr_id, zT_lt, zF_lt, zT_le, zF_le, zT_eq, zF_eq, zT_neq, zF_neq, zT_nlt, zT_nle, and_true, true_and, and_false, false_and, and_self, or_true, true_or, or_false, false_or, or_self, not_true_eq_false, not_false_eq_true, ↓reduceIte, implies_true, true_imp_iff, false_imp_iff, zcall0, zcall1, zcall2, zcall3, zcall4, zsto_eq, zsto_ne, zsto_fn, zok13, zok6, zok15, znb_0, zrng_hit, zrng_ne, zrng_fn, zcpy_ne, zcpy_fn]
  · have e : zme σ (zdg n ++ 32 :: ((if σ 21 0 n = 0 then [45] else zdg (σ 33 0 n)) ++ [10])) = zme (zme (zme (zme σ (zdg n)) [32]) (zdg (σ 33 0 n))) [10] := by
      rw [if_neg (show ¬ σ 21 0 n = 0 by omega), ← zme_app, ← zme_app, ← zme_app]; rfl
    rw [if_neg (show ¬ σ 21 0 n = 0 by omega)] at s2
    rw [e]
    have s3 := zMok.em (n := 1) (zdg (σ 33 0 n)) (s2.le (by omega))
    have hp' := hp ht
    simp (disch := omega) only [zwr_id, zT_lt, zF_lt, zT_le, zF_le, zT_eq, zF_eq, zT_neq, zF_neq, zT_nlt, zT_nle, and_true, true_and, and_false, false_and, and_self, or_true, true_or, or_false, false_or, or_self, not_true_eq_false, not_false_eq_true, ↓reduceIte, implies_true, true_imp_iff, false_imp_iff, zcall0, zcall1, zcall2, zcall3, zcall4, zsto_eq, zsto_ne, zsto_fn, zok13, zok6, zok15, znb_0, zrng_hit, zrng_ne, zrng_fn, zcpy_ne, zcpy_fn]
    rw [m_putNumber _ hp' (s2.le (by omega)), zcall0, e_M_putRow_39, m_put _ _ s3]
    simp (disch := omega) only [zwr_id, zT_lt, zF_lt, zT_le, zF_le, zT_eq, zF_eq, zT_neq, zF_neq, zT_nlt, zT_nle, and_true, true_and, and_false, false_and, and_self, or_true, true_or, or_false, false_or, or_self, not_true_eq_false, not_false_eq_true, ↓reduceIte, implies_true, true_imp_iff, false_imp_iff, zcall0, zcall1, zcall2, zcall3, zcall4, zsto_eq, zsto_ne, zsto_fn, zok13, zok6, zok15, znb_0, zrng_hit, zrng_ne, zrng_fn, zcpy_ne, zcpy_fn]
