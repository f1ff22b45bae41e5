/-! THE PURE SIDE: rewriting rules for the walks over block equations -/
theorem zT_lt {a b : Int} (h : a < b) : (a < b) = True := eq_true h
theorem zF_lt {a b : Int} (h : ¬ a < b) : (a < b) = False := eq_false h
theorem zT_le {a b : Int} (h : a ≤ b) : (a ≤ b) = True := eq_true h
theorem zF_le {a b : Int} (h : ¬ a ≤ b) : (a ≤ b) = False := eq_false h
theorem zT_eq {a b : Int} (h : a = b) : (a = b) = True := eq_true h
theorem zF_eq {a b : Int} (h : ¬ a = b) : (a = b) = False := eq_false h
theorem zT_neq {a b : Nat} (h : a = b) : (a = b) = True := eq_true h
theorem zF_neq {a b : Nat} (h : ¬ a = b) : (a = b) = False := eq_false h
theorem zT_nlt {a b : Nat} (h : a < b) : (a < b) = True := eq_true h
theorem zT_nle {a b : Nat} (h : a ≤ b) : (a ≤ b) = True := eq_true h
theorem zcall0 {ρ : Type} (v : Int) (τ : ZT) (c : Int → ZT → Option ρ) (x : Nat → ZT → Option ρ) : zcall (some (0, v, τ)) c x = c v τ := rfl
theorem zcall1 {ρ : Type} (v : Int) (τ : ZT) (c : Int → ZT → Option ρ) (x : Nat → ZT → Option ρ) : zcall (some (1, v, τ)) c x = x 0 τ := rfl
theorem zcall2 {ρ : Type} (v : Int) (τ : ZT) (c : Int → ZT → Option ρ) (x : Nat → ZT → Option ρ) : zcall (some (2, v, τ)) c x = x 1 τ := rfl
theorem zcall3 {ρ : Type} (v : Int) (τ : ZT) (c : Int → ZT → Option ρ) (x : Nat → ZT → Option ρ) : zcall (some (3, v, τ)) c x = x 2 τ := rfl
theorem zcall4 {ρ : Type} (v : Int) (τ : ZT) (c : Int → ZT → Option ρ) (x : Nat → ZT → Option ρ) : zcall (some (4, v, τ)) c x = x 3 τ := rfl
theorem zsto_fn {σ : ZT} {k k' : Nat} {i s v : Int} (h : ¬ k' = k) : zsto σ k i s v k' = σ k' := by
  funext i' s'
  exact if_neg fun q => h q.1
theorem zok13 (i : Int) : zok 13 i = (1 ≤ i ∧ i < 41) := rfl
theorem zok6 (i : Int) : zok 6 i = (0 ≤ i ∧ i < 2) := rfl
theorem zok15 (i : Int) : zok 15 i = (0 ≤ i ∧ i < 120) := rfl
theorem znb_0 : znb 0 = 0 := rfl
/-- a throw: the ghost counts down -/
def zth (σ : ZT) : ZT := zsto σ 39 0 0 (σ 39 0 0 - 1)
/-- a range of slots gets new values -/
def zrng (σ : ZT) (k : Nat) (i a b : Int) (f : Int → Int) : ZT := fun k' i' s' => if k' = k ∧ i' = i ∧ a ≤ s' ∧ s' < b then f s' else σ k' i' s'
theorem zrng_hit {σ : ZT} {k k' : Nat} {i i' a b s' : Int} {f : Int → Int} (h : k' = k ∧ i' = i ∧ a ≤ s' ∧ s' < b) : zrng σ k i a b f k' i' s' = f s' := if_pos h
theorem zrng_ne {σ : ZT} {k k' : Nat} {i i' a b s' : Int} {f : Int → Int} (h : ¬ (k' = k ∧ i' = i ∧ a ≤ s' ∧ s' < b)) : zrng σ k i a b f k' i' s' = σ k' i' s' := if_neg h
theorem zrng_fn {σ : ZT} {k k' : Nat} {i a b : Int} {f : Int → Int} (h : ¬ k' = k) : zrng σ k i a b f k' = σ k' := by
  funext i' s'
  exact if_neg fun q => h q.1
theorem zrng_nil {σ : ZT} {k : Nat} {i a b : Int} {f : Int → Int} (h : b ≤ a) : zrng σ k i a b f = σ := by
  funext k' i' s'
  exact if_neg fun q => by omega
theorem zrng_step {σ : ZT} {k : Nat} {i a b v : Int} {f : Int → Int} (h : a < b) (hv : v = f a) : zrng (zsto σ k i a v) k i (a + 1) b f = zrng σ k i a b f := by
  funext k' i' s'
  unfold zrng zsto
  by_cases h1 : k' = k ∧ i' = i
  · by_cases h2 : s' = a
    · subst h2
      rw [if_neg (by omega), if_pos (by omega), if_pos (by omega), hv]
    · by_cases h3 : a ≤ s' ∧ s' < b
      · rw [if_pos (by omega), if_pos (by omega)]
      · rw [if_neg (by omega), if_neg (by omega), if_neg (by omega)]
  · rw [if_neg (fun q => h1 ⟨q.1, q.2.1⟩), if_neg (fun q => h1 ⟨q.1, q.2.1⟩), if_neg (fun q => h1 ⟨q.1, q.2.1⟩)]
theorem zcpy_hit {σ : ZT} {k k1 k' : Nat} {i sp i1 dp n i' s' : Int} (h : k' = k1 ∧ i' = i1 ∧ dp ≤ s' ∧ s' < dp + n) : zcpy σ k i sp k1 i1 dp n k' i' s' = σ k i (sp + (s' - dp)) := if_pos h
theorem zcpy_ne {σ : ZT} {k k1 k' : Nat} {i sp i1 dp n i' s' : Int} (h : ¬ (k' = k1 ∧ i' = i1 ∧ dp ≤ s' ∧ s' < dp + n)) : zcpy σ k i sp k1 i1 dp n k' i' s' = σ k' i' s' := if_neg h
theorem zcpy_fn {σ : ZT} {k k1 k' : Nat} {i sp i1 dp n : Int} (h : ¬ k' = k1) : zcpy σ k i sp k1 i1 dp n k' = σ k' := by
  funext i' s'
  exact if_neg fun q => h q.1
theorem zcopyf_ok {σ : ZT} {k k1 : Nat} {i sp i1 dp n : Int} (hk : 4 ≤ k ∧ 4 ≤ k1 ∧ (zet k = 0 ∨ zet k = 1) ∧ zet k = zet k1 ∧ k1 ≠ 19) (h : 0 ≤ sp ∧ 0 ≤ dp ∧ 0 ≤ n ∧ sp + n ≤ zlen k σ ∧ dp + n ≤ zlen k1 σ) (hs : sp < 2147483648 ∧ dp < 2147483648 ∧ n < 2147483648) : zcopyf [(k, i), (0, sp), (k1, i1), (0, dp), (0, n)] σ = some (0, 0, zcpy σ k i sp k1 i1 dp n) := by
  have e1 : zwr sp = sp := zwr_id (by omega) (by omega)
  have e2 : zwr dp = dp := zwr_id (by omega) (by omega)
  have e3 : zwr n = n := zwr_id (by omega) (by omega)
  simp only [zcopyf, e1, e2, e3]
  exact if_pos ⟨hk.1, hk.2.1, hk.2.2.1, hk.2.2.2.1, hk.2.2.2.2, h⟩
theorem zor01 {a b : Int} (ha : a = 0 ∨ a = 1) (hb : b = 0 ∨ b = 1) : zor a b = if a = 1 ∨ b = 1 then 1 else 0 := by
  rcases ha with rfl | rfl <;> rcases hb with rfl | rfl <;> decide
theorem zand01 {a b : Int} (ha : a = 0 ∨ a = 1) (hb : b = 0 ∨ b = 1) : zand a b = if a = 1 ∧ b = 1 then 1 else 0 := by
  rcases ha with rfl | rfl <;> rcases hb with rfl | rfl <;> decide
theorem w_index1 (σ : ZT) : f_W_index [(0, 1)] σ = some (0, 0, σ) := by
  rw [u_W_index, e_W_index_0]
  simp (disch := omega) only [zwr_id, zT_lt, zF_lt, zT_le, zF_le, zT_eq, zF_eq, zT_neq, zF_neq, zT_nlt, zT_nle, and_true, true_and, and_false, false_and, and_self, or_true, true_or, or_false, false_or, or_self, not_true_eq_false, not_false_eq_true, ↓reduceIte, implies_true, true_imp_iff, false_imp_iff, zcall0, zcall1, zcall2, zcall3, zcall4, zsto_eq, zsto_ne, zsto_fn, zok13, zok6, zok15, znb_0, zrng_hit, zrng_ne, zrng_fn, zcpy_ne, zcpy_fn]
theorem w_index0 (σ : ZT) (hg : 0 < σ 39 0 0) : f_W_index [(0, 0)] σ = some (1, 0, zth σ) := by
  rw [u_W_index, e_W_index_0]
  simp (disch := omega) only [zwr_id, zT_lt, zF_lt, zT_le, zF_le, zT_eq, zF_eq, zT_neq, zF_neq, zT_nlt, zT_nle, and_true, true_and, and_false, false_and, and_self, or_true, true_or, or_false, false_or, or_self, not_true_eq_false, not_false_eq_true, ↓reduceIte, implies_true, true_imp_iff, false_imp_iff, zcall0, zcall1, zcall2, zcall3, zcall4, zsto_eq, zsto_ne, zsto_fn, zok13, zok6, zok15, znb_0, zrng_hit, zrng_ne, zrng_fn, zcpy_ne, zcpy_fn]
  rfl
theorem w_want1 (σ : ZT) : f_W_want [(0, 1)] σ = some (0, 0, σ) := by
  rw [u_W_want, e_W_want_0]
  simp (disch := omega) only [zwr_id, zT_lt, zF_lt, zT_le, zF_le, zT_eq, zF_eq, zT_neq, zF_neq, zT_nlt, zT_nle, and_true, true_and, and_false, false_and, and_self, or_true, true_or, or_false, false_or, or_self, not_true_eq_false, not_false_eq_true, ↓reduceIte, implies_true, true_imp_iff, false_imp_iff, zcall0, zcall1, zcall2, zcall3, zcall4, zsto_eq, zsto_ne, zsto_fn, zok13, zok6, zok15, znb_0, zrng_hit, zrng_ne, zrng_fn, zcpy_ne, zcpy_fn]
theorem w_want0 (σ : ZT) (hg : 0 < σ 39 0 0) : f_W_want [(0, 0)] σ = some (2, 0, zth σ) := by
  rw [u_W_want, e_W_want_0]
  simp (disch := omega) only [zwr_id, zT_lt, zF_lt, zT_le, zF_le, zT_eq, zF_eq, zT_neq, zF_neq, zT_nlt, zT_nle, and_true, true_and, and_false, false_and, and_self, or_true, true_or, or_false, false_or, or_self, not_true_eq_false, not_false_eq_true, ↓reduceIte, implies_true, true_imp_iff, false_imp_iff, zcall0, zcall1, zcall2, zcall3, zcall4, zsto_eq, zsto_ne, zsto_fn, zok13, zok6, zok15, znb_0, zrng_hit, zrng_ne, zrng_fn, zcpy_ne, zcpy_fn]
  rfl
theorem w_isObject1 (σ : ZT) {n : Int} (h : 1 ≤ n ∧ n ≤ 40) : f_W_isObject [(0, n)] σ = some (0, 1, σ) := by
  rw [u_W_isObject, e_W_isObject_0]
  simp (disch := omega) only [zwr_id, zT_lt, zF_lt, zT_le, zF_le, zT_eq, zF_eq, zT_neq, zF_neq, zT_nlt, zT_nle, and_true, true_and, and_false, false_and, and_self, or_true, true_or, or_false, false_or, or_self, not_true_eq_false, not_false_eq_true, ↓reduceIte, implies_true, true_imp_iff, false_imp_iff, zcall0, zcall1, zcall2, zcall3, zcall4, zsto_eq, zsto_ne, zsto_fn, zok13, zok6, zok15, znb_0, zrng_hit, zrng_ne, zrng_fn, zcpy_ne, zcpy_fn]
theorem w_isObject0 (σ : ZT) {n : Int} (h0 : -2147483648 ≤ n ∧ n < 2147483648) (h : ¬ (1 ≤ n ∧ n ≤ 40)) : f_W_isObject [(0, n)] σ = some (0, 0, σ) := by
  rw [u_W_isObject, e_W_isObject_0, e_W_isObject_15]
  by_cases h1 : n < 1
  · simp (disch := omega) only [zwr_id, zT_lt, zF_lt, zT_le, zF_le, zT_eq, zF_eq, zT_neq, zF_neq, zT_nlt, zT_nle, and_true, true_and, and_false, false_and, and_self, or_true, true_or, or_false, false_or, or_self, not_true_eq_false, not_false_eq_true, ↓reduceIte, implies_true, true_imp_iff, false_imp_iff, zcall0, zcall1, zcall2, zcall3, zcall4, zsto_eq, zsto_ne, zsto_fn, zok13, zok6, zok15, znb_0, zrng_hit, zrng_ne, zrng_fn, zcpy_ne, zcpy_fn]
  · simp (disch := omega) only [zwr_id, zT_lt, zF_lt, zT_le, zF_le, zT_eq, zF_eq, zT_neq, zF_neq, zT_nlt, zT_nle, and_true, true_and, and_false, false_and, and_self, or_true, true_or, or_false, false_or, or_self, not_true_eq_false, not_false_eq_true, ↓reduceIte, implies_true, true_imp_iff, false_imp_iff, zcall0, zcall1, zcall2, zcall3, zcall4, zsto_eq, zsto_ne, zsto_fn, zok13, zok6, zok15, znb_0, zrng_hit, zrng_ne, zrng_fn, zcpy_ne, zcpy_fn]
theorem w_thing1 (σ : ZT) {n : Int} (h : 1 ≤ n ∧ n ≤ 40) : f_W_thing [(4, 0), (0, n)] σ = some (0, n, σ) := by
  rw [u_W_thing, e_W_thing_0]
  simp (disch := omega) only [w_isObject1, w_index1, zwr_id, zT_lt, zF_lt, zT_le, zF_le, zT_eq, zF_eq, zT_neq, zF_neq, zT_nlt, zT_nle, and_true, true_and, and_false, false_and, and_self, or_true, true_or, or_false, false_or, or_self, not_true_eq_false, not_false_eq_true, ↓reduceIte, implies_true, true_imp_iff, false_imp_iff, zcall0, zcall1, zcall2, zcall3, zcall4, zsto_eq, zsto_ne, zsto_fn, zok13, zok6, zok15, znb_0, zrng_hit, zrng_ne, zrng_fn, zcpy_ne, zcpy_fn]
theorem w_thing0 (σ : ZT) {n : Int} (h0 : -2147483648 ≤ n ∧ n < 2147483648) (h : ¬ (1 ≤ n ∧ n ≤ 40)) (hg : 0 < σ 39 0 0) : f_W_thing [(4, 0), (0, n)] σ = some (1, 0, zth σ) := by
  rw [u_W_thing, e_W_thing_0, w_isObject0 σ h0 h]
  simp (disch := omega) only [w_index0, zwr_id, zT_lt, zF_lt, zT_le, zF_le, zT_eq, zF_eq, zT_neq, zF_neq, zT_nlt, zT_nle, and_true, true_and, and_false, false_and, and_self, or_true, true_or, or_false, false_or, or_self, not_true_eq_false, not_false_eq_true, ↓reduceIte, implies_true, true_imp_iff, false_imp_iff, zcall0, zcall1, zcall2, zcall3, zcall4, zsto_eq, zsto_ne, zsto_fn, zok13, zok6, zok15, znb_0, zrng_hit, zrng_ne, zrng_fn, zcpy_ne, zcpy_fn]
theorem w_thereOf1 (σ : ZT) {n : Int} (h : 1 ≤ n ∧ n ≤ 40) (ht : σ 13 n 2 = 1) : f_W_thereOf [(4, 0), (0, n)] σ = some (0, n, σ) := by
  rw [u_W_thereOf, e_W_thereOf_0]
  simp (disch := omega) only [w_thing1, ht, w_index1, zwr_id, zT_lt, zF_lt, zT_le, zF_le, zT_eq, zF_eq, zT_neq, zF_neq, zT_nlt, zT_nle, and_true, true_and, and_false, false_and, and_self, or_true, true_or, or_false, false_or, or_self, not_true_eq_false, not_false_eq_true, ↓reduceIte, implies_true, true_imp_iff, false_imp_iff, zcall0, zcall1, zcall2, zcall3, zcall4, zsto_eq, zsto_ne, zsto_fn, zok13, zok6, zok15, znb_0, zrng_hit, zrng_ne, zrng_fn, zcpy_ne, zcpy_fn]
theorem w_thereOf0 (σ : ZT) {n : Int} (h0 : -2147483648 ≤ n ∧ n < 2147483648) (h : ¬ (1 ≤ n ∧ n ≤ 40) ∨ σ 13 n 2 = 0) (hg : 0 < σ 39 0 0) : f_W_thereOf [(4, 0), (0, n)] σ = some (1, 0, zth σ) := by
  rw [u_W_thereOf, e_W_thereOf_0]
  by_cases h1 : 1 ≤ n ∧ n ≤ 40
  · have ht : σ 13 n 2 = 0 := by omega
    simp (disch := omega) only [w_thing1, ht, w_index0, zwr_id, zT_lt, zF_lt, zT_le, zF_le, zT_eq, zF_eq, zT_neq, zF_neq, zT_nlt, zT_nle, and_true, true_and, and_false, false_and, and_self, or_true, true_or, or_false, false_or, or_self, not_true_eq_false, not_false_eq_true, ↓reduceIte, implies_true, true_imp_iff, false_imp_iff, zcall0, zcall1, zcall2, zcall3, zcall4, zsto_eq, zsto_ne, zsto_fn, zok13, zok6, zok15, znb_0, zrng_hit, zrng_ne, zrng_fn, zcpy_ne, zcpy_fn]
  · rw [w_thing0 σ h0 h1 hg]
    simp (disch := omega) only [zwr_id, zT_lt, zF_lt, zT_le, zF_le, zT_eq, zF_eq, zT_neq, zF_neq, zT_nlt, zT_nle, and_true, true_and, and_false, false_and, and_self, or_true, true_or, or_false, false_or, or_self, not_true_eq_false, not_false_eq_true, ↓reduceIte, implies_true, true_imp_iff, false_imp_iff, zcall0, zcall1, zcall2, zcall3, zcall4, zsto_eq, zsto_ne, zsto_fn, zok13, zok6, zok15, znb_0, zrng_hit, zrng_ne, zrng_fn, zcpy_ne, zcpy_fn]
