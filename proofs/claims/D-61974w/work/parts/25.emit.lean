/-! WRITING, the class's side: bytes come onto a row -/
theorem znb_nb (a : Int) : znb (znb a) = znb a := znb_id (znb_ge a) (znb_lt a)
/-- a byte behind a row's end, if it is not too long -/
def zpu (σ : ZT) (i b : Int) : ZT := if 12000 < σ 6 i 1 then σ else zsto (zsto σ 6 i 1 (σ 6 i 1 + 1)) 7 i (σ 6 i 1) (znb b)
def zem (i : Int) : ZT → List Int → ZT
  | σ, [] => σ
  | σ, b :: bs => zem i (zpu σ i b) bs
theorem zem_app (i : Int) : ∀ (σ : ZT) (as bs : List Int), zem i σ (as ++ bs) = zem i (zem i σ as) bs
  | _, [], _ => rfl
  | σ, a :: as, bs => zem_app i (zpu σ i a) as bs
abbrev zSz (σ : ZT) (i : Int) : Prop := 0 ≤ σ 6 i 1 ∧ σ 6 i 1 ≤ 12001
theorem zpu_sz {σ : ZT} {i : Int} (b : Int) (h : zSz σ i) : zSz (zpu σ i b) i ∧ zpu σ i b 6 i 1 = (if 12000 < σ 6 i 1 then 12001 else σ 6 i 1 + 1) := by
  unfold zpu
  by_cases hs : 12000 < σ 6 i 1
  · rw [if_pos hs, if_pos hs]; exact ⟨h, by omega⟩
  · rw [if_neg hs, if_neg hs]
    have e : zsto (zsto σ 6 i 1 (σ 6 i 1 + 1)) 7 i (σ 6 i 1) (znb b) 6 i 1 = σ 6 i 1 + 1 := by simp (disch := omega) only [zwr_id, zT_lt, zF_lt, zT_le, zF_le, zT_eq, zF_eq, zT_neq, zF_neq, zT_nlt, zT_nle, and_true, true_and, and_false, false_and, and_self, or_true, true_or, or_false, false_or, or_self, not_true_eq_false, not_false_eq_true, ↓reduceIte, implies_true, true_imp_iff, false_imp_iff, zcall0, zcall1, zcall2, zcall3, zcall4, zsto_eq, zsto_ne, zsto_fn, zok13, zok6, zok15, znb_0, zrng_hit, zrng_ne, zrng_fn, zcpy_ne, zcpy_fn]
    exact ⟨⟨by rw [e]; omega, by rw [e]; omega⟩, e⟩
theorem zem_sz {i : Int} : ∀ {σ : ZT} (bs : List Int), zSz σ i → zSz (zem i σ bs) i ∧ zem i σ bs 6 i 1 = (if 12001 ≤ σ 6 i 1 + bs.length then 12001 else σ 6 i 1 + bs.length)
  | σ, [], h => by
    refine ⟨h, ?_⟩
    unfold zem
    rw [List.length_nil]
    split <;> omega
  | σ, b :: bs, h => by
    obtain ⟨h1, h2⟩ := zpu_sz b h
    obtain ⟨h3, h4⟩ := zem_sz bs h1
    refine ⟨h3, ?_⟩
    unfold zem
    rw [h4, h2, List.length_cons]
    split <;> split <;> split <;> omega
theorem zpu_fn (σ : ZT) (i b : Int) : (∀ k : Nat, k ≠ 6 → k ≠ 7 → zpu σ i b k = σ k) ∧ (∀ j, j ≠ i → zpu σ i b 6 j = σ 6 j ∧ zpu σ i b 7 j = σ 7 j) ∧ (∀ s, s ≠ 1 → zpu σ i b 6 i s = σ 6 i s) ∧ (∀ j, j < σ 6 i 1 → zpu σ i b 7 i j = σ 7 i j) ∧ (zSimB σ → zSimB (zpu σ i b)) := by
  unfold zpu
  split
  · exact ⟨fun _ _ _ => rfl, fun _ _ => ⟨rfl, rfl⟩, fun _ _ => rfl, fun _ _ => rfl, fun h => h⟩
  · refine ⟨fun k k1 k2 => by simp (disch := omega) only [zwr_id, zT_lt, zF_lt, zT_le, zF_le, zT_eq, zF_eq, zT_neq, zF_neq, zT_nlt, zT_nle, and_true, true_and, and_false, false_and, and_self, or_true, true_or, or_false, false_or, or_self, not_true_eq_false, not_false_eq_true, ↓reduceIte, implies_true, true_imp_iff, false_imp_iff, zcall0, zcall1, zcall2, zcall3, zcall4, zsto_eq, zsto_ne, zsto_fn, zok13, zok6, zok15, znb_0, zrng_hit, zrng_ne, zrng_fn, zcpy_ne, zcpy_fn], fun j hj => ⟨?_, ?_⟩, fun s hs => by simp (disch := omega) only [zwr_id, zT_lt, zF_lt, zT_le, zF_le, zT_eq, zF_eq, zT_neq, zF_neq, zT_nlt, zT_nle, and_true, true_and, and_false, false_and, and_self, or_true, true_or, or_false, false_or, or_self, not_true_eq_false, not_false_eq_true, ↓reduceIte, implies_true, true_imp_iff, false_imp_iff, zcall0, zcall1, zcall2, zcall3, zcall4, zsto_eq, zsto_ne, zsto_fn, zok13, zok6, zok15, znb_0, zrng_hit, zrng_ne, zrng_fn, zcpy_ne, zcpy_fn], fun j hj => by simp (disch := omega) only [zwr_id, zT_lt, zF_lt, zT_le, zF_le, zT_eq, zF_eq, zT_neq, zF_neq, zT_nlt, zT_nle, and_true, true_and, and_false, false_and, and_self, or_true, true_or, or_false, false_or, or_self, not_true_eq_false, not_false_eq_true, ↓reduceIte, implies_true, true_imp_iff, false_imp_iff, zcall0, zcall1, zcall2, zcall3, zcall4, zsto_eq, zsto_ne, zsto_fn, zok13, zok6, zok15, znb_0, zrng_hit, zrng_ne, zrng_fn, zcpy_ne, zcpy_fn], fun h => zSimB.sto (zSimB.sto h (by omega)) (Or.inr ⟨znb_ge b, znb_lt b⟩)⟩
    · funext s; simp (disch := omega) only [zwr_id, zT_lt, zF_lt, zT_le, zF_le, zT_eq, zF_eq, zT_neq, zF_neq, zT_nlt, zT_nle, and_true, true_and, and_false, false_and, and_self, or_true, true_or, or_false, false_or, or_self, not_true_eq_false, not_false_eq_true, ↓reduceIte, implies_true, true_imp_iff, false_imp_iff, zcall0, zcall1, zcall2, zcall3, zcall4, zsto_eq, zsto_ne, zsto_fn, zok13, zok6, zok15, znb_0, zrng_hit, zrng_ne, zrng_fn, zcpy_ne, zcpy_fn]
    · funext s; simp (disch := omega) only [zwr_id, zT_lt, zF_lt, zT_le, zF_le, zT_eq, zF_eq, zT_neq, zF_neq, zT_nlt, zT_nle, and_true, true_and, and_false, false_and, and_self, or_true, true_or, or_false, false_or, or_self, not_true_eq_false, not_false_eq_true, ↓reduceIte, implies_true, true_imp_iff, false_imp_iff, zcall0, zcall1, zcall2, zcall3, zcall4, zsto_eq, zsto_ne, zsto_fn, zok13, zok6, zok15, znb_0, zrng_hit, zrng_ne, zrng_fn, zcpy_ne, zcpy_fn]
theorem zem_fn (i : Int) : ∀ (σ : ZT) (bs : List Int), zSz σ i → (∀ k : Nat, k ≠ 6 → k ≠ 7 → zem i σ bs k = σ k) ∧ (∀ j, j ≠ i → zem i σ bs 6 j = σ 6 j ∧ zem i σ bs 7 j = σ 7 j) ∧ (∀ s, s ≠ 1 → zem i σ bs 6 i s = σ 6 i s) ∧ (∀ j, j < σ 6 i 1 → zem i σ bs 7 i j = σ 7 i j) ∧ (zSimB σ → zSimB (zem i σ bs))
  | _, [], _ => ⟨fun _ _ _ => rfl, fun _ _ => ⟨rfl, rfl⟩, fun _ _ => rfl, fun _ _ => rfl, fun h => h⟩
  | σ, b :: bs, h => by
    obtain ⟨a1, a2, a3, a4, a5⟩ := zpu_fn σ i b
    obtain ⟨s1, s2⟩ := zpu_sz b h
    obtain ⟨c1, c2, c3, c4, c5⟩ := zem_fn i (zpu σ i b) bs s1
    refine ⟨fun k k1 k2 => (c1 k k1 k2).trans (a1 k k1 k2), fun j hj => ⟨((c2 j hj).1).trans (a2 j hj).1, ((c2 j hj).2).trans (a2 j hj).2⟩, fun s hs => (c3 s hs).trans (a3 s hs), fun j hj => (c4 j ?_).trans (a4 j hj), fun hB => c5 (a5 hB)⟩
    rw [s2]
    split <;> omega
/-- the bytes that came -/
theorem zem_at (i : Int) : ∀ (σ : ZT) (bs : List Int) (n : Nat) (b : Int), zSz σ i → bs[n]? = some b → σ 6 i 1 + n ≤ 12000 → zem i σ bs 7 i (σ 6 i 1 + n) = znb b
  | _, [], n, b, _, h, _ => by cases h
  | σ, c :: bs, 0, b, h, hb, hn => by
    cases hb
    obtain ⟨s1, s2⟩ := zpu_sz c h
    obtain ⟨c1, c2, c3, c4, c5⟩ := zem_fn i (zpu σ i c) bs s1
    have e : zpu σ i c 7 i (σ 6 i 1) = znb c := by
      unfold zpu
      rw [if_neg (by omega)]
      simp (disch := omega) only [zwr_id, zT_lt, zF_lt, zT_le, zF_le, zT_eq, zF_eq, zT_neq, zF_neq, zT_nlt, zT_nle, and_true, true_and, and_false, false_and, and_self, or_true, true_or, or_false, false_or, or_self, not_true_eq_false, not_false_eq_true, ↓reduceIte, implies_true, true_imp_iff, false_imp_iff, zcall0, zcall1, zcall2, zcall3, zcall4, zsto_eq, zsto_ne, zsto_fn, zok13, zok6, zok15, znb_0, zrng_hit, zrng_ne, zrng_fn, zcpy_ne, zcpy_fn]
    unfold zem
    show zem i (zpu σ i c) bs 7 i (σ 6 i 1 + 0) = znb c
    rw [Int.add_zero, c4 (σ 6 i 1) (by rw [s2]; split <;> omega), e]
  | σ, c :: bs, n + 1, b, h, hb, hn => by
    obtain ⟨s1, s2⟩ := zpu_sz c h
    rw [if_neg (by omega)] at s2
    have ih := zem_at i (zpu σ i c) bs n b s1 hb (by rw [s2]; omega)
    rw [s2] at ih
    unfold zem
    have e : σ 6 i 1 + ((n + 1 : Nat) : Int) = σ 6 i 1 + 1 + (n : Int) := by omega
    rw [e]
    exact ih
theorem r_put (σ : ZT) {i : Int} (b : Int) (h : zSz σ i) : f_R_put [(6, i), (0, b)] σ = some (0, 0, zem i σ [b]) := by
  rw [u_R_put, e_R_put_0]
  show _ = some (0, 0, zpu σ i b)
  unfold zpu
  by_cases hs : 12000 < σ 6 i 1
  · rw [if_pos hs]
    simp (disch := omega) only [zwr_id, zT_lt, zF_lt, zT_le, zF_le, zT_eq, zF_eq, zT_neq, zF_neq, zT_nlt, zT_nle, and_true, true_and, and_false, false_and, and_self, or_true, true_or, or_false, false_or, or_self, not_true_eq_false, not_false_eq_true, ↓reduceIte, implies_true, true_imp_iff, false_imp_iff, zcall0, zcall1, zcall2, zcall3, zcall4, zsto_eq, zsto_ne, zsto_fn, zok13, zok6, zok15, znb_0, zrng_hit, zrng_ne, zrng_fn, zcpy_ne, zcpy_fn]
  · rw [if_neg hs]
    simp (disch := omega) only [znb_nb, zwr_id, zT_lt, zF_lt, zT_le, zF_le, zT_eq, zF_eq, zT_neq, zF_neq, zT_nlt, zT_nle, and_true, true_and, and_false, false_and, and_self, or_true, true_or, or_false, false_or, or_self, not_true_eq_false, not_false_eq_true, ↓reduceIte, implies_true, true_imp_iff, false_imp_iff, zcall0, zcall1, zcall2, zcall3, zcall4, zsto_eq, zsto_ne, zsto_fn, zok13, zok6, zok15, znb_0, zrng_hit, zrng_ne, zrng_fn, zcpy_ne, zcpy_fn]
/-- a number's digits -/
def zdgn : Nat → Int → List Int
  | 0, _ => []
  | n + 1, v => (if 9 < v then zdgn n (v / 10) else []) ++ [48 + v % 10]
abbrev zdg (v : Int) : List Int := zdgn 7 v
def zp10 : Nat → Int
  | 0 => 1
  | n + 1 => 10 * zp10 n
theorem r_num (i : Int) : ∀ (n : Nat) (v : Int) (σ : ZT), zSz σ i → 0 ≤ v → v < zp10 (n + 1) → v < 2147483648 → g_R_putNumber (n + 1) [(6, i), (0, v)] σ = some (0, 0, zem i σ (zdgn (n + 1) v))
  | 0, v, σ, h, h0, h1, h2 => by
    have h1 : v < 10 * 1 := h1
    have e : zwr v - (zwr v).tdiv 10 * 10 = v := by
      rw [zwr_id (by omega) (by omega), Int.tdiv_eq_ediv_of_nonneg (by omega)]
      omega
    have e2 : v % 10 = v := by omega
    rw [u_R_putNumber, e_R_putNumber_0, e_R_putNumber_14, e]
    have hz : zdgn (0 + 1) v = [48 + v] := by
      rw [zdgn, if_neg (by omega), e2]
      rfl
    rw [r_put σ _ h, hz]
    simp (disch := omega) only [zwr_id, zT_lt, zF_lt, zT_le, zF_le, zT_eq, zF_eq, zT_neq, zF_neq, zT_nlt, zT_nle, and_true, true_and, and_false, false_and, and_self, or_true, true_or, or_false, false_or, or_self, not_true_eq_false, not_false_eq_true, ↓reduceIte, implies_true, true_imp_iff, false_imp_iff, zcall0, zcall1, zcall2, zcall3, zcall4, zsto_eq, zsto_ne, zsto_fn, zok13, zok6, zok15, znb_0, zrng_hit, zrng_ne, zrng_fn, zcpy_ne, zcpy_fn]
  | n + 1, v, σ, h, h0, h1, h2 => by
    have h1 : v < 10 * zp10 (n + 1) := h1
    have e : zwr v - (zwr v).tdiv 10 * 10 = v % 10 := by
      rw [zwr_id (by omega) (by omega), Int.tdiv_eq_ediv_of_nonneg (by omega)]
      omega
    have e3 : (zwr v).tdiv 10 = v / 10 := by
      rw [zwr_id (by omega) (by omega), Int.tdiv_eq_ediv_of_nonneg (by omega)]
    rw [u_R_putNumber, e_R_putNumber_0, e_R_putNumber_14, e, e3]
    by_cases hv : 9 < v
    · have ih := r_num i n (v / 10) σ h (by omega) (by omega) (by omega)
      have hz : zdgn (n + 1 + 1) v = zdgn (n + 1) (v / 10) ++ [48 + v % 10] := by rw [zdgn, if_pos hv]
      rw [ih, hz, zem_app]
      simp (disch := omega) only [e_R_putNumber_14, zwr_id, zT_lt, zF_lt, zT_le, zF_le, zT_eq, zF_eq, zT_neq, zF_neq, zT_nlt, zT_nle, and_true, true_and, and_false, false_and, and_self, or_true, true_or, or_false, false_or, or_self, not_true_eq_false, not_false_eq_true, ↓reduceIte, implies_true, true_imp_iff, false_imp_iff, zcall0, zcall1, zcall2, zcall3, zcall4, zsto_eq, zsto_ne, zsto_fn, zok13, zok6, zok15, znb_0, zrng_hit, zrng_ne, zrng_fn, zcpy_ne, zcpy_fn]
      have e' : v - v.tdiv 10 * 10 = v % 10 := by
        rw [Int.tdiv_eq_ediv_of_nonneg (by omega)]
        omega
      rw [e', r_put _ _ (zem_sz _ h).1]
      simp (disch := omega) only [zwr_id, zT_lt, zF_lt, zT_le, zF_le, zT_eq, zF_eq, zT_neq, zF_neq, zT_nlt, zT_nle, and_true, true_and, and_false, false_and, and_self, or_true, true_or, or_false, false_or, or_self, not_true_eq_false, not_false_eq_true, ↓reduceIte, implies_true, true_imp_iff, false_imp_iff, zcall0, zcall1, zcall2, zcall3, zcall4, zsto_eq, zsto_ne, zsto_fn, zok13, zok6, zok15, znb_0, zrng_hit, zrng_ne, zrng_fn, zcpy_ne, zcpy_fn]
    · have hz : zdgn (n + 1 + 1) v = [48 + v % 10] := by rw [zdgn, if_neg hv]; rfl
      rw [hz, r_put σ _ h]
      simp (disch := omega) only [zwr_id, zT_lt, zF_lt, zT_le, zF_le, zT_eq, zF_eq, zT_neq, zF_neq, zT_nlt, zT_nle, and_true, true_and, and_false, false_and, and_self, or_true, true_or, or_false, false_or, or_self, not_true_eq_false, not_false_eq_true, ↓reduceIte, implies_true, true_imp_iff, false_imp_iff, zcall0, zcall1, zcall2, zcall3, zcall4, zsto_eq, zsto_ne, zsto_fn, zok13, zok6, zok15, znb_0, zrng_hit, zrng_ne, zrng_fn, zcpy_ne, zcpy_fn]
theorem r_putNumber (σ : ZT) {i v : Int} (h : zSz σ i) (hv : 0 ≤ v ∧ v ≤ 99999) : f_R_putNumber [(6, i), (0, v)] σ = some (0, 0, zem i σ (zdg v)) := by
  refine r_num i 6 v σ h hv.1 ?_ (by omega)
  have : zp10 (6 + 1) = 10000000 := by decide
  omega
theorem r_line1 (σ : ZT) {i c a : Int} (h : zSz σ i) (ha : 0 ≤ a ∧ a ≤ 99999) : f_R_line [(6, i), (0, c), (0, a), (0, -1)] σ = some (0, 0, zem i σ (c :: 32 :: (zdg a ++ [10]))) := by
  have e : zem i σ (c :: 32 :: (zdg a ++ [10])) = zem i (zem i (zem i (zem i σ [c]) [32]) (zdg a)) [10] := by
    rw [← zem_app, ← zem_app, ← zem_app]; rfl
  rw [u_R_line, e_R_line_0, r_put σ c h, zcall0, r_put _ _ (zem_sz _ h).1, zcall0, r_putNumber _ (zem_sz _ (zem_sz _ h).1).1 ha, zcall0, e]
  simp (disch := omega) only [e_R_line_32, zwr_id, zT_lt, zF_lt, zT_le, zF_le, zT_eq, zF_eq, zT_neq, zF_neq, zT_nlt, zT_nle, and_true, true_and, and_false, false_and, and_self, or_true, true_or, or_false, false_or, or_self, not_true_eq_false, not_false_eq_true, ↓reduceIte, implies_true, true_imp_iff, false_imp_iff, zcall0, zcall1, zcall2, zcall3, zcall4, zsto_eq, zsto_ne, zsto_fn, zok13, zok6, zok15, znb_0, zrng_hit, zrng_ne, zrng_fn, zcpy_ne, zcpy_fn]
  rw [r_put _ _ (zem_sz _ (zem_sz _ (zem_sz _ h).1).1).1]
  simp (disch := omega) only [zwr_id, zT_lt, zF_lt, zT_le, zF_le, zT_eq, zF_eq, zT_neq, zF_neq, zT_nlt, zT_nle, and_true, true_and, and_false, false_and, and_self, or_true, true_or, or_false, false_or, or_self, not_true_eq_false, not_false_eq_true, ↓reduceIte, implies_true, true_imp_iff, false_imp_iff, zcall0, zcall1, zcall2, zcall3, zcall4, zsto_eq, zsto_ne, zsto_fn, zok13, zok6, zok15, znb_0, zrng_hit, zrng_ne, zrng_fn, zcpy_ne, zcpy_fn]
theorem r_line2 (σ : ZT) {i c a b : Int} (h : zSz σ i) (ha : 0 ≤ a ∧ a ≤ 99999) (hb : 0 ≤ b ∧ b ≤ 99999) : f_R_line [(6, i), (0, c), (0, a), (0, b)] σ = some (0, 0, zem i σ (c :: 32 :: (zdg a ++ 32 :: (zdg b ++ [10])))) := by
  have e : zem i σ (c :: 32 :: (zdg a ++ 32 :: (zdg b ++ [10]))) = zem i (zem i (zem i (zem i (zem i (zem i σ [c]) [32]) (zdg a)) [32]) (zdg b)) [10] := by
    rw [← zem_app, ← zem_app, ← zem_app, ← zem_app, ← zem_app]; rfl
  have s1 := (zem_sz [c] h).1
  have s2 := (zem_sz [32] s1).1
  have s3 := (zem_sz (zdg a) s2).1
  have s4 := (zem_sz [32] s3).1
  have s5 := (zem_sz (zdg b) s4).1
  rw [u_R_line, e_R_line_0, r_put σ c h, zcall0, r_put _ _ s1, zcall0, r_putNumber _ s2 ha, zcall0, e]
  simp (disch := omega) only [zwr_id, zT_lt, zF_lt, zT_le, zF_le, zT_eq, zF_eq, zT_neq, zF_neq, zT_nlt, zT_nle, and_true, true_and, and_false, false_and, and_self, or_true, true_or, or_false, false_or, or_self, not_true_eq_false, not_false_eq_true, ↓reduceIte, implies_true, true_imp_iff, false_imp_iff, zcall0, zcall1, zcall2, zcall3, zcall4, zsto_eq, zsto_ne, zsto_fn, zok13, zok6, zok15, znb_0, zrng_hit, zrng_ne, zrng_fn, zcpy_ne, zcpy_fn]
  rw [r_put _ _ s3, zcall0, r_putNumber _ s4 hb, zcall0, e_R_line_32, r_put _ _ s5]
  simp (disch := omega) only [zwr_id, zT_lt, zF_lt, zT_le, zF_le, zT_eq, zF_eq, zT_neq, zF_neq, zT_nlt, zT_nle, and_true, true_and, and_false, false_and, and_self, or_true, true_or, or_false, false_or, or_self, not_true_eq_false, not_false_eq_true, ↓reduceIte, implies_true, true_imp_iff, false_imp_iff, zcall0, zcall1, zcall2, zcall3, zcall4, zsto_eq, zsto_ne, zsto_fn, zok13, zok6, zok15, znb_0, zrng_hit, zrng_ne, zrng_fn, zcpy_ne, zcpy_fn]
