/-! SMALL OPERATIONS of both sides -/
abbrev zI (n : Int) : Prop := -2147483648 ≤ n ∧ n < 2147483648
theorem t_become_loop (x : Int) (l : Int) (hl : 0 ≤ l ∧ l ≤ 120) : ∀ (m : Nat) (j : Int) (σ : ZT), 0 ≤ j → l - j = m → zrun C_T_become (7, [(13, x), (0, l), (0, j)], [], σ) = some (0, 0, zsto (zsto (zsto (zrng σ 14 x j l fun _ => 0) 13 x 2 1) 13 x 3 0) 13 x 5 1)
  | 0, j, σ, h0, h => by
    rw [e_T_become_7, zrng_nil (by omega)]
    simp (disch := omega) only [zwr_id, zT_lt, zF_lt, zT_le, zF_le, zT_eq, zF_eq, zT_neq, zF_neq, zT_nlt, zT_nle, and_true, true_and, and_false, false_and, and_self, or_true, true_or, or_false, false_or, or_self, not_true_eq_false, not_false_eq_true, ↓reduceIte, implies_true, true_imp_iff, false_imp_iff, zcall0, zcall1, zcall2, zcall3, zcall4, zsto_eq, zsto_ne, zsto_fn, zok13, zok6, zok15, znb_0, zrng_hit, zrng_ne, zrng_fn, zcpy_ne, zcpy_fn]
  | m + 1, j, σ, h0, h => by
    rw [e_T_become_7]
    simp (disch := omega) only [zwr_id, zT_lt, zF_lt, zT_le, zF_le, zT_eq, zF_eq, zT_neq, zF_neq, zT_nlt, zT_nle, and_true, true_and, and_false, false_and, and_self, or_true, true_or, or_false, false_or, or_self, not_true_eq_false, not_false_eq_true, ↓reduceIte, implies_true, true_imp_iff, false_imp_iff, zcall0, zcall1, zcall2, zcall3, zcall4, zsto_eq, zsto_ne, zsto_fn, zok13, zok6, zok15, znb_0, zrng_hit, zrng_ne, zrng_fn, zcpy_ne, zcpy_fn]
    rw [t_become_loop x l hl m (j + 1) _ (by omega) (by omega), zrng_step (v := 0) (by omega) rfl]
/-- an object comes anew -/
def zobA (σ : ZT) (n l : Int) : ZT := zsto (zsto (zsto (zrng (zsto σ 13 n 1 l) 14 n 0 l fun _ => 0) 13 n 2 1) 13 n 3 0) 13 n 5 1
theorem t_become (σ : ZT) (n l : Int) (hl : 0 ≤ l ∧ l ≤ 120) : f_T_become [(13, n), (0, l)] σ = some (0, 0, zobA σ n l) := by
  rw [u_T_become, e_T_become_0, t_become_loop n l hl l.toNat 0 _ (by omega) (by omega)]
  rfl
theorem w_object1 (σ : ZT) {n l : Int} (h : 1 ≤ n ∧ n ≤ 40) (hl : 0 ≤ l ∧ l ≤ 120) : f_W_object [(4, 0), (0, n), (0, l)] σ = some (0, 0, zobA σ n l) := by
  rw [u_W_object, e_W_object_0]
  simp (disch := omega) only [w_thing1, e_W_object_21, w_want1, t_become, zwr_id, zT_lt, zF_lt, zT_le, zF_le, zT_eq, zF_eq, zT_neq, zF_neq, zT_nlt, zT_nle, and_true, true_and, and_false, false_and, and_self, or_true, true_or, or_false, false_or, or_self, not_true_eq_false, not_false_eq_true, ↓reduceIte, implies_true, true_imp_iff, false_imp_iff, zcall0, zcall1, zcall2, zcall3, zcall4, zsto_eq, zsto_ne, zsto_fn, zok13, zok6, zok15, znb_0, zrng_hit, zrng_ne, zrng_fn, zcpy_ne, zcpy_fn]
theorem w_object0 (σ : ZT) {n l : Int} (hn : zI n) (h : ¬ (1 ≤ n ∧ n ≤ 40)) (hg : 0 < σ 39 0 0) : f_W_object [(4, 0), (0, n), (0, l)] σ = some (1, 0, zth σ) := by
  rw [u_W_object, e_W_object_0, w_thing0 σ hn h hg]
  simp (disch := omega) only [zwr_id, zT_lt, zF_lt, zT_le, zF_le, zT_eq, zF_eq, zT_neq, zF_neq, zT_nlt, zT_nle, and_true, true_and, and_false, false_and, and_self, or_true, true_or, or_false, false_or, or_self, not_true_eq_false, not_false_eq_true, ↓reduceIte, implies_true, true_imp_iff, false_imp_iff, zcall0, zcall1, zcall2, zcall3, zcall4, zsto_eq, zsto_ne, zsto_fn, zok13, zok6, zok15, znb_0, zrng_hit, zrng_ne, zrng_fn, zcpy_ne, zcpy_fn]
theorem w_object2 (σ : ZT) {n l : Int} (hl : zI l) (h : 1 ≤ n ∧ n ≤ 40) (h2 : ¬ (0 ≤ l ∧ l ≤ 120)) (hg : 0 < σ 39 0 0) : f_W_object [(4, 0), (0, n), (0, l)] σ = some (2, 0, zth σ) := by
  rw [u_W_object, e_W_object_0]
  by_cases h3 : l < 0
  · simp (disch := omega) only [w_thing1, e_W_object_20, e_W_object_21, w_want0, zwr_id, zT_lt, zF_lt, zT_le, zF_le, zT_eq, zF_eq, zT_neq, zF_neq, zT_nlt, zT_nle, and_true, true_and, and_false, false_and, and_self, or_true, true_or, or_false, false_or, or_self, not_true_eq_false, not_false_eq_true, ↓reduceIte, implies_true, true_imp_iff, false_imp_iff, zcall0, zcall1, zcall2, zcall3, zcall4, zsto_eq, zsto_ne, zsto_fn, zok13, zok6, zok15, znb_0, zrng_hit, zrng_ne, zrng_fn, zcpy_ne, zcpy_fn]
  · simp (disch := omega) only [w_thing1, e_W_object_20, e_W_object_21, w_want0, zwr_id, zT_lt, zF_lt, zT_le, zF_le, zT_eq, zF_eq, zT_neq, zF_neq, zT_nlt, zT_nle, and_true, true_and, and_false, false_and, and_self, or_true, true_or, or_false, false_or, or_self, not_true_eq_false, not_false_eq_true, ↓reduceIte, implies_true, true_imp_iff, false_imp_iff, zcall0, zcall1, zcall2, zcall3, zcall4, zsto_eq, zsto_ne, zsto_fn, zok13, zok6, zok15, znb_0, zrng_hit, zrng_ne, zrng_fn, zcpy_ne, zcpy_fn]
theorem m_isObject1 (σ : ZT) {n : Int} (h : 1 ≤ n ∧ n ≤ 40) : f_M_isObject [(0, n)] σ = some (0, 1, σ) := by
  rw [u_M_isObject, e_M_isObject_0]
  simp (disch := omega) only [zwr_id, zT_lt, zF_lt, zT_le, zF_le, zT_eq, zF_eq, zT_neq, zF_neq, zT_nlt, zT_nle, and_true, true_and, and_false, false_and, and_self, or_true, true_or, or_false, false_or, or_self, not_true_eq_false, not_false_eq_true, ↓reduceIte, implies_true, true_imp_iff, false_imp_iff, zcall0, zcall1, zcall2, zcall3, zcall4, zsto_eq, zsto_ne, zsto_fn, zok13, zok6, zok15, znb_0, zrng_hit, zrng_ne, zrng_fn, zcpy_ne, zcpy_fn]
theorem m_isObject0 (σ : ZT) {n : Int} (h0 : zI n) (h : ¬ (1 ≤ n ∧ n ≤ 40)) : f_M_isObject [(0, n)] σ = some (0, 0, σ) := by
  rw [u_M_isObject, e_M_isObject_0, e_M_isObject_15]
  by_cases h1 : n < 1
  · simp (disch := omega) only [zwr_id, zT_lt, zF_lt, zT_le, zF_le, zT_eq, zF_eq, zT_neq, zF_neq, zT_nlt, zT_nle, and_true, true_and, and_false, false_and, and_self, or_true, true_or, or_false, false_or, or_self, not_true_eq_false, not_false_eq_true, ↓reduceIte, implies_true, true_imp_iff, false_imp_iff, zcall0, zcall1, zcall2, zcall3, zcall4, zsto_eq, zsto_ne, zsto_fn, zok13, zok6, zok15, znb_0, zrng_hit, zrng_ne, zrng_fn, zcpy_ne, zcpy_fn]
  · simp (disch := omega) only [zwr_id, zT_lt, zF_lt, zT_le, zF_le, zT_eq, zF_eq, zT_neq, zF_neq, zT_nlt, zT_nle, and_true, true_and, and_false, false_and, and_self, or_true, true_or, or_false, false_or, or_self, not_true_eq_false, not_false_eq_true, ↓reduceIte, implies_true, true_imp_iff, false_imp_iff, zcall0, zcall1, zcall2, zcall3, zcall4, zsto_eq, zsto_ne, zsto_fn, zok13, zok6, zok15, znb_0, zrng_hit, zrng_ne, zrng_fn, zcpy_ne, zcpy_fn]
theorem m_has1 (σ : ZT) {n : Int} (h : 1 ≤ n ∧ n ≤ 40) (ht : σ 21 0 n = 1) : f_M_has [(20, 0), (0, n)] σ = some (0, 1, σ) := by
  rw [u_M_has, e_M_has_0]
  simp (disch := omega) only [m_isObject1, ht, zwr_id, zT_lt, zF_lt, zT_le, zF_le, zT_eq, zF_eq, zT_neq, zF_neq, zT_nlt, zT_nle, and_true, true_and, and_false, false_and, and_self, or_true, true_or, or_false, false_or, or_self, not_true_eq_false, not_false_eq_true, ↓reduceIte, implies_true, true_imp_iff, false_imp_iff, zcall0, zcall1, zcall2, zcall3, zcall4, zsto_eq, zsto_ne, zsto_fn, zok13, zok6, zok15, znb_0, zrng_hit, zrng_ne, zrng_fn, zcpy_ne, zcpy_fn]
theorem m_has0 (σ : ZT) {n : Int} (h0 : zI n) (h : ¬ (1 ≤ n ∧ n ≤ 40) ∨ σ 21 0 n = 0) : f_M_has [(20, 0), (0, n)] σ = some (0, 0, σ) := by
  rw [u_M_has, e_M_has_0]
  by_cases h1 : 1 ≤ n ∧ n ≤ 40
  · have ht : σ 21 0 n = 0 := by omega
    simp (disch := omega) only [m_isObject1, ht, e_M_has_20, zwr_id, zT_lt, zF_lt, zT_le, zF_le, zT_eq, zF_eq, zT_neq, zF_neq, zT_nlt, zT_nle, and_true, true_and, and_false, false_and, and_self, or_true, true_or, or_false, false_or, or_self, not_true_eq_false, not_false_eq_true, ↓reduceIte, implies_true, true_imp_iff, false_imp_iff, zcall0, zcall1, zcall2, zcall3, zcall4, zsto_eq, zsto_ne, zsto_fn, zok13, zok6, zok15, znb_0, zrng_hit, zrng_ne, zrng_fn, zcpy_ne, zcpy_fn]
  · rw [m_isObject0 σ h0 h1]
    simp (disch := omega) only [e_M_has_20, zwr_id, zT_lt, zF_lt, zT_le, zF_le, zT_eq, zF_eq, zT_neq, zF_neq, zT_nlt, zT_nle, and_true, true_and, and_false, false_and, and_self, or_true, true_or, or_false, false_or, or_self, not_true_eq_false, not_false_eq_true, ↓reduceIte, implies_true, true_imp_iff, false_imp_iff, zcall0, zcall1, zcall2, zcall3, zcall4, zsto_eq, zsto_ne, zsto_fn, zok13, zok6, zok15, znb_0, zrng_hit, zrng_ne, zrng_fn, zcpy_ne, zcpy_fn]
theorem m_object_loop (n l : Int) (h : 1 ≤ n ∧ n ≤ 40) : ∀ (m : Nat) (j : Int) (σ : ZT), 0 ≤ j → 120 - j = m → zrun C_M_object (68, [(20, 0), (0, n), (0, l), (0, j)], [], σ) = some (0, 0, zrng σ 26 0 (120 * n + j) (120 * n + 120) fun _ => 0)
  | 0, j, σ, h0, hj => by
    rw [e_M_object_68, zrng_nil (by omega)]
    simp (disch := omega) only [zwr_id, zT_lt, zF_lt, zT_le, zF_le, zT_eq, zF_eq, zT_neq, zF_neq, zT_nlt, zT_nle, and_true, true_and, and_false, false_and, and_self, or_true, true_or, or_false, false_or, or_self, not_true_eq_false, not_false_eq_true, ↓reduceIte, implies_true, true_imp_iff, false_imp_iff, zcall0, zcall1, zcall2, zcall3, zcall4, zsto_eq, zsto_ne, zsto_fn, zok13, zok6, zok15, znb_0, zrng_hit, zrng_ne, zrng_fn, zcpy_ne, zcpy_fn]
  | m + 1, j, σ, h0, hj => by
    rw [e_M_object_68]
    simp (disch := omega) only [zwr_id, zT_lt, zF_lt, zT_le, zF_le, zT_eq, zF_eq, zT_neq, zF_neq, zT_nlt, zT_nle, and_true, true_and, and_false, false_and, and_self, or_true, true_or, or_false, false_or, or_self, not_true_eq_false, not_false_eq_true, ↓reduceIte, implies_true, true_imp_iff, false_imp_iff, zcall0, zcall1, zcall2, zcall3, zcall4, zsto_eq, zsto_ne, zsto_fn, zok13, zok6, zok15, znb_0, zrng_hit, zrng_ne, zrng_fn, zcpy_ne, zcpy_fn]
    rw [m_object_loop n l h m (j + 1) _ (by omega) (by omega), ← Int.add_assoc, zrng_step (v := 0) (by omega) rfl]
def zobB (σ : ZT) (n l : Int) : ZT := zrng (zsto (zsto (zsto (zsto (zsto σ 20 0 0 0) 21 0 n 1) 22 0 n 0) 23 0 n 1) 25 0 n l) 26 0 (120 * n) (120 * n + 120) fun _ => 0
theorem m_object1 (σ : ZT) {n l : Int} (h : 1 ≤ n ∧ n ≤ 40) (hl : 0 ≤ l ∧ l ≤ 120) : f_M_object [(20, 0), (0, n), (0, l)] σ = some (0, 0, zobB σ n l) := by
  rw [u_M_object, e_M_object_0]
  simp (disch := omega) only [m_isObject1, e_M_object_27, zwr_id, zT_lt, zF_lt, zT_le, zF_le, zT_eq, zF_eq, zT_neq, zF_neq, zT_nlt, zT_nle, and_true, true_and, and_false, false_and, and_self, or_true, true_or, or_false, false_or, or_self, not_true_eq_false, not_false_eq_true, ↓reduceIte, implies_true, true_imp_iff, false_imp_iff, zcall0, zcall1, zcall2, zcall3, zcall4, zsto_eq, zsto_ne, zsto_fn, zok13, zok6, zok15, znb_0, zrng_hit, zrng_ne, zrng_fn, zcpy_ne, zcpy_fn]
  rw [m_object_loop n l h 120 0 _ (by omega) (by omega), Int.add_zero]
  rfl
theorem m_object0 (σ : ZT) {n l : Int} (hn : zI n) (h : ¬ (1 ≤ n ∧ n ≤ 40)) : f_M_object [(20, 0), (0, n), (0, l)] σ = some (0, 0, zsto σ 20 0 0 1) := by
  rw [u_M_object, e_M_object_0, m_isObject0 σ hn h]
  simp (disch := omega) only [e_M_object_27, zwr_id, zT_lt, zF_lt, zT_le, zF_le, zT_eq, zF_eq, zT_neq, zF_neq, zT_nlt, zT_nle, and_true, true_and, and_false, false_and, and_self, or_true, true_or, or_false, false_or, or_self, not_true_eq_false, not_false_eq_true, ↓reduceIte, implies_true, true_imp_iff, false_imp_iff, zcall0, zcall1, zcall2, zcall3, zcall4, zsto_eq, zsto_ne, zsto_fn, zok13, zok6, zok15, znb_0, zrng_hit, zrng_ne, zrng_fn, zcpy_ne, zcpy_fn]
theorem m_object2 (σ : ZT) {n l : Int} (hl : zI l) (h : 1 ≤ n ∧ n ≤ 40) (h2 : ¬ (0 ≤ l ∧ l ≤ 120)) : f_M_object [(20, 0), (0, n), (0, l)] σ = some (0, 0, zsto σ 20 0 0 2) := by
  rw [u_M_object, e_M_object_0]
  by_cases h3 : l < 0
  · simp (disch := omega) only [m_isObject1, e_M_object_22, e_M_object_27, zwr_id, zT_lt, zF_lt, zT_le, zF_le, zT_eq, zF_eq, zT_neq, zF_neq, zT_nlt, zT_nle, and_true, true_and, and_false, false_and, and_self, or_true, true_or, or_false, false_or, or_self, not_true_eq_false, not_false_eq_true, ↓reduceIte, implies_true, true_imp_iff, false_imp_iff, zcall0, zcall1, zcall2, zcall3, zcall4, zsto_eq, zsto_ne, zsto_fn, zok13, zok6, zok15, znb_0, zrng_hit, zrng_ne, zrng_fn, zcpy_ne, zcpy_fn]
  · simp (disch := omega) only [m_isObject1, e_M_object_22, e_M_object_27, zwr_id, zT_lt, zF_lt, zT_le, zF_le, zT_eq, zF_eq, zT_neq, zF_neq, zT_nlt, zT_nle, and_true, true_and, and_false, false_and, and_self, or_true, true_or, or_false, false_or, or_self, not_true_eq_false, not_false_eq_true, ↓reduceIte, implies_true, true_imp_iff, false_imp_iff, zcall0, zcall1, zcall2, zcall3, zcall4, zsto_eq, zsto_ne, zsto_fn, zok13, zok6, zok15, znb_0, zrng_hit, zrng_ne, zrng_fn, zcpy_ne, zcpy_fn]
/-- the operation without an answer -/
def zOp0 (σ : ZT) (w : ZT → Option ZR) (m : ZT → Option ZR) : Prop := ∃ (c v : Int) (τ τ' : ZT), w σ = some (0, c, τ) ∧ m τ = some (0, v, τ') ∧ zSim τ' ∧ zKeep σ τ' ∧ τ' 20 0 0 = c ∧ -2147483648 ≤ c ∧ c < 2147483648
theorem zOp.to0 {σ : ZT} {w m : ZT → Option ZR} (h : zOp σ w m) : zOp0 σ w m := by
  obtain ⟨c, v, τ, τ', h1, h2, h3, h4, h5, h6, h7, h8, h9, h10⟩ := h
  exact ⟨c, v, τ, τ', h1, h2, h3, h4, h5, h7, h8⟩
theorem op_object {σ : ZT} (hS : zSim σ) (hg : 0 < σ 39 0 0) {n l : Int} (hn : zI n) (hl : zI l) : zOp0 σ (f_Z_object [(4, 0), (0, n), (0, l)]) (f_M_object [(20, 0), (0, n), (0, l)]) := by
  by_cases h1 : 1 ≤ n ∧ n ≤ 40
  · by_cases h2 : 0 ≤ l ∧ l ≤ 120
    · refine ⟨0, 0, _, _, by rw [u_Z_object, e_Z_object_0_ok _ _ _ _ _ _ _ (w_object1 σ h1 h2)], m_object1 _ h1 h2, ?_, ⟨?_, ?_⟩, ?_, by omega, by omega⟩
      · obtain ⟨hB, hT, hD, E, hF, hR⟩ := hS
        refine ⟨?_, ?_, ?_, E, ?_, ?_⟩
        · unfold zobB zobA
          refine zSimB.rng (zSimB.sto (zSimB.sto (zSimB.sto (zSimB.sto (zSimB.sto (zSimB.sto (zSimB.sto (zSimB.sto (zSimB.rng (zSimB.sto hB (by omega)) ?_) (by omega)) (by omega)) (by omega)) (by omega)) (by omega)) (by omega)) (by omega)) (by omega)) ?_
          · exact Or.inr fun _ => by omega
          · exact Or.inr fun _ => by omega
        · intro m m1 m2
          by_cases hm : m = n
          · subst hm
            obtain ⟨a1, a2, a3, a4, a5, a6, a7, a8, a9⟩ := hT m m1 m2
            generalize hτ : zobB (zobA σ m l) m l = τ
            have e1 : τ 13 m 1 = l := by rw [← hτ]; unfold zobB zobA; simp (disch := omega) only [zwr_id, zT_lt, zF_lt, zT_le, zF_le, zT_eq, zF_eq, zT_neq, zF_neq, zT_nlt, zT_nle, and_true, true_and, and_false, false_and, and_self, or_true, true_or, or_false, false_or, or_self, not_true_eq_false, not_false_eq_true, ↓reduceIte, implies_true, true_imp_iff, false_imp_iff, zcall0, zcall1, zcall2, zcall3, zcall4, zsto_eq, zsto_ne, zsto_fn, zok13, zok6, zok15, znb_0, zrng_hit, zrng_ne, zrng_fn, zcpy_ne, zcpy_fn]
            have e2 : τ 13 m 2 = 1 := by rw [← hτ]; unfold zobB zobA; simp (disch := omega) only [zwr_id, zT_lt, zF_lt, zT_le, zF_le, zT_eq, zF_eq, zT_neq, zF_neq, zT_nlt, zT_nle, and_true, true_and, and_false, false_and, and_self, or_true, true_or, or_false, false_or, or_self, not_true_eq_false, not_false_eq_true, ↓reduceIte, implies_true, true_imp_iff, false_imp_iff, zcall0, zcall1, zcall2, zcall3, zcall4, zsto_eq, zsto_ne, zsto_fn, zok13, zok6, zok15, znb_0, zrng_hit, zrng_ne, zrng_fn, zcpy_ne, zcpy_fn]
            have e3 : τ 13 m 3 = 0 := by rw [← hτ]; unfold zobB zobA; simp (disch := omega) only [zwr_id, zT_lt, zF_lt, zT_le, zF_le, zT_eq, zF_eq, zT_neq, zF_neq, zT_nlt, zT_nle, and_true, true_and, and_false, false_and, and_self, or_true, true_or, or_false, false_or, or_self, not_true_eq_false, not_false_eq_true, ↓reduceIte, implies_true, true_imp_iff, false_imp_iff, zcall0, zcall1, zcall2, zcall3, zcall4, zsto_eq, zsto_ne, zsto_fn, zok13, zok6, zok15, znb_0, zrng_hit, zrng_ne, zrng_fn, zcpy_ne, zcpy_fn]
            have e4 : τ 13 m 4 = σ 13 m 4 := by rw [← hτ]; unfold zobB zobA; simp (disch := omega) only [zwr_id, zT_lt, zF_lt, zT_le, zF_le, zT_eq, zF_eq, zT_neq, zF_neq, zT_nlt, zT_nle, and_true, true_and, and_false, false_and, and_self, or_true, true_or, or_false, false_or, or_self, not_true_eq_false, not_false_eq_true, ↓reduceIte, implies_true, true_imp_iff, false_imp_iff, zcall0, zcall1, zcall2, zcall3, zcall4, zsto_eq, zsto_ne, zsto_fn, zok13, zok6, zok15, znb_0, zrng_hit, zrng_ne, zrng_fn, zcpy_ne, zcpy_fn]
            have e5 : τ 13 m 5 = 1 := by rw [← hτ]; unfold zobB zobA; simp (disch := omega) only [zwr_id, zT_lt, zF_lt, zT_le, zF_le, zT_eq, zF_eq, zT_neq, zF_neq, zT_nlt, zT_nle, and_true, true_and, and_false, false_and, and_self, or_true, true_or, or_false, false_or, or_self, not_true_eq_false, not_false_eq_true, ↓reduceIte, implies_true, true_imp_iff, false_imp_iff, zcall0, zcall1, zcall2, zcall3, zcall4, zsto_eq, zsto_ne, zsto_fn, zok13, zok6, zok15, znb_0, zrng_hit, zrng_ne, zrng_fn, zcpy_ne, zcpy_fn]
            have f21 : τ 21 0 m = 1 := by rw [← hτ]; unfold zobB zobA; simp (disch := omega) only [zwr_id, zT_lt, zF_lt, zT_le, zF_le, zT_eq, zF_eq, zT_neq, zF_neq, zT_nlt, zT_nle, and_true, true_and, and_false, false_and, and_self, or_true, true_or, or_false, false_or, or_self, not_true_eq_false, not_false_eq_true, ↓reduceIte, implies_true, true_imp_iff, false_imp_iff, zcall0, zcall1, zcall2, zcall3, zcall4, zsto_eq, zsto_ne, zsto_fn, zok13, zok6, zok15, znb_0, zrng_hit, zrng_ne, zrng_fn, zcpy_ne, zcpy_fn]
            have f22 : τ 22 0 m = 0 := by rw [← hτ]; unfold zobB zobA; simp (disch := omega) only [zwr_id, zT_lt, zF_lt, zT_le, zF_le, zT_eq, zF_eq, zT_neq, zF_neq, zT_nlt, zT_nle, and_true, true_and, and_false, false_and, and_self, or_true, true_or, or_false, false_or, or_self, not_true_eq_false, not_false_eq_true, ↓reduceIte, implies_true, true_imp_iff, false_imp_iff, zcall0, zcall1, zcall2, zcall3, zcall4, zsto_eq, zsto_ne, zsto_fn, zok13, zok6, zok15, znb_0, zrng_hit, zrng_ne, zrng_fn, zcpy_ne, zcpy_fn]
            have f23 : τ 23 0 m = 1 := by rw [← hτ]; unfold zobB zobA; simp (disch := omega) only [zwr_id, zT_lt, zF_lt, zT_le, zF_le, zT_eq, zF_eq, zT_neq, zF_neq, zT_nlt, zT_nle, and_true, true_and, and_false, false_and, and_self, or_true, true_or, or_false, false_or, or_self, not_true_eq_false, not_false_eq_true, ↓reduceIte, implies_true, true_imp_iff, false_imp_iff, zcall0, zcall1, zcall2, zcall3, zcall4, zsto_eq, zsto_ne, zsto_fn, zok13, zok6, zok15, znb_0, zrng_hit, zrng_ne, zrng_fn, zcpy_ne, zcpy_fn]
            have f24 : τ 24 0 m = σ 24 0 m := by rw [← hτ]; unfold zobB zobA; simp (disch := omega) only [zwr_id, zT_lt, zF_lt, zT_le, zF_le, zT_eq, zF_eq, zT_neq, zF_neq, zT_nlt, zT_nle, and_true, true_and, and_false, false_and, and_self, or_true, true_or, or_false, false_or, or_self, not_true_eq_false, not_false_eq_true, ↓reduceIte, implies_true, true_imp_iff, false_imp_iff, zcall0, zcall1, zcall2, zcall3, zcall4, zsto_eq, zsto_ne, zsto_fn, zok13, zok6, zok15, znb_0, zrng_hit, zrng_ne, zrng_fn, zcpy_ne, zcpy_fn]
            have f25 : τ 25 0 m = l := by rw [← hτ]; unfold zobB zobA; simp (disch := omega) only [zwr_id, zT_lt, zF_lt, zT_le, zF_le, zT_eq, zF_eq, zT_neq, zF_neq, zT_nlt, zT_nle, and_true, true_and, and_false, false_and, and_self, or_true, true_or, or_false, false_or, or_self, not_true_eq_false, not_false_eq_true, ↓reduceIte, implies_true, true_imp_iff, false_imp_iff, zcall0, zcall1, zcall2, zcall3, zcall4, zsto_eq, zsto_ne, zsto_fn, zok13, zok6, zok15, znb_0, zrng_hit, zrng_ne, zrng_fn, zcpy_ne, zcpy_fn]
            refine ⟨by omega, by omega, by omega, by omega, by omega, by omega, by omega, by omega, fun q => ⟨by omega, by omega, by omega, by omega, by omega, fun i i1 i2 => ?_⟩⟩
            rw [e1] at i2
            rw [← hτ]
            unfold zobB zobA
            simp (disch := omega) only [zwr_id, zT_lt, zF_lt, zT_le, zF_le, zT_eq, zF_eq, zT_neq, zF_neq, zT_nlt, zT_nle, and_true, true_and, and_false, false_and, and_self, or_true, true_or, or_false, false_or, or_self, not_true_eq_false, not_false_eq_true, ↓reduceIte, implies_true, true_imp_iff, false_imp_iff, zcall0, zcall1, zcall2, zcall3, zcall4, zsto_eq, zsto_ne, zsto_fn, zok13, zok6, zok15, znb_0, zrng_hit, zrng_ne, zrng_fn, zcpy_ne, zcpy_fn]
          · refine (hT m m1 m2).congr (fun s => ?_) (fun s s1 s2 => ?_) ?_ ?_ ?_ ?_ ?_ (fun i i1 i2 => ?_)
            all_goals (unfold zobB zobA; simp (disch := omega) only [zwr_id, zT_lt, zF_lt, zT_le, zF_le, zT_eq, zF_eq, zT_neq, zF_neq, zT_nlt, zT_nle, and_true, true_and, and_false, false_and, and_self, or_true, true_or, or_false, false_or, or_self, not_true_eq_false, not_false_eq_true, ↓reduceIte, implies_true, true_imp_iff, false_imp_iff, zcall0, zcall1, zcall2, zcall3, zcall4, zsto_eq, zsto_ne, zsto_fn, zok13, zok6, zok15, znb_0, zrng_hit, zrng_ne, zrng_fn, zcpy_ne, zcpy_fn])
        · refine hD.fn (fun k hk => by
      simp only [List.mem_cons, List.not_mem_nil, or_false] at hk
      simp (disch := omega) only [zobB, zobA, zsto_fn, zrng_fn, zcpy_fn]) ?_ ?_ ?_
          all_goals (unfold zobB zobA; simp (disch := omega) only [zwr_id, zT_lt, zF_lt, zT_le, zF_le, zT_eq, zF_eq, zT_neq, zF_neq, zT_nlt, zT_nle, and_true, true_and, and_false, false_and, and_self, or_true, true_or, or_false, false_or, or_self, not_true_eq_false, not_false_eq_true, ↓reduceIte, implies_true, true_imp_iff, false_imp_iff, zcall0, zcall1, zcall2, zcall3, zcall4, zsto_eq, zsto_ne, zsto_fn, zok13, zok6, zok15, znb_0, zrng_hit, zrng_ne, zrng_fn, zcpy_ne, zcpy_fn])
        · refine hF.fn (fun k hk => by
      simp only [List.mem_cons, List.not_mem_nil, or_false] at hk
      simp (disch := omega) only [zobB, zobA, zsto_fn, zrng_fn, zcpy_fn]) ?_ ?_ ?_ ?_ ?_
          all_goals (unfold zobB zobA; simp (disch := omega) only [zwr_id, zT_lt, zF_lt, zT_le, zF_le, zT_eq, zF_eq, zT_neq, zF_neq, zT_nlt, zT_nle, and_true, true_and, and_false, false_and, and_self, or_true, true_or, or_false, false_or, or_self, not_true_eq_false, not_false_eq_true, ↓reduceIte, implies_true, true_imp_iff, false_imp_iff, zcall0, zcall1, zcall2, zcall3, zcall4, zsto_eq, zsto_ne, zsto_fn, zok13, zok6, zok15, znb_0, zrng_hit, zrng_ne, zrng_fn, zcpy_ne, zcpy_fn])
        · refine hR.fn (fun k hk => by
      simp only [List.mem_cons, List.not_mem_nil, or_false] at hk
      simp (disch := omega) only [zobB, zobA, zsto_fn, zrng_fn, zcpy_fn]) ?_ ?_ ?_
          all_goals (unfold zobB zobA; simp (disch := omega) only [zwr_id, zT_lt, zF_lt, zT_le, zF_le, zT_eq, zF_eq, zT_neq, zF_neq, zT_nlt, zT_nle, and_true, true_and, and_false, false_and, and_self, or_true, true_or, or_false, false_or, or_self, not_true_eq_false, not_false_eq_true, ↓reduceIte, implies_true, true_imp_iff, false_imp_iff, zcall0, zcall1, zcall2, zcall3, zcall4, zsto_eq, zsto_ne, zsto_fn, zok13, zok6, zok15, znb_0, zrng_hit, zrng_ne, zrng_fn, zcpy_ne, zcpy_fn])
      · unfold zobB zobA
        simp (disch := omega) only [zwr_id, zT_lt, zF_lt, zT_le, zF_le, zT_eq, zF_eq, zT_neq, zF_neq, zT_nlt, zT_nle, and_true, true_and, and_false, false_and, and_self, or_true, true_or, or_false, false_or, or_self, not_true_eq_false, not_false_eq_true, ↓reduceIte, implies_true, true_imp_iff, false_imp_iff, zcall0, zcall1, zcall2, zcall3, zcall4, zsto_eq, zsto_ne, zsto_fn, zok13, zok6, zok15, znb_0, zrng_hit, zrng_ne, zrng_fn, zcpy_ne, zcpy_fn]
      · unfold zobB zobA
        simp (disch := omega) only [zwr_id, zT_lt, zF_lt, zT_le, zF_le, zT_eq, zF_eq, zT_neq, zF_neq, zT_nlt, zT_nle, and_true, true_and, and_false, false_and, and_self, or_true, true_or, or_false, false_or, or_self, not_true_eq_false, not_false_eq_true, ↓reduceIte, implies_true, true_imp_iff, false_imp_iff, zcall0, zcall1, zcall2, zcall3, zcall4, zsto_eq, zsto_ne, zsto_fn, zok13, zok6, zok15, znb_0, zrng_hit, zrng_ne, zrng_fn, zcpy_ne, zcpy_fn]
      · unfold zobB zobA
        simp (disch := omega) only [zwr_id, zT_lt, zF_lt, zT_le, zF_le, zT_eq, zF_eq, zT_neq, zF_neq, zT_nlt, zT_nle, and_true, true_and, and_false, false_and, and_self, or_true, true_or, or_false, false_or, or_self, not_true_eq_false, not_false_eq_true, ↓reduceIte, implies_true, true_imp_iff, false_imp_iff, zcall0, zcall1, zcall2, zcall3, zcall4, zsto_eq, zsto_ne, zsto_fn, zok13, zok6, zok15, znb_0, zrng_hit, zrng_ne, zrng_fn, zcpy_ne, zcpy_fn]
    · exact (zOp.refuse hS (by omega) (by rw [u_Z_object, e_Z_object_0_x1 _ _ _ _ _ _ _ (w_object2 σ hl h1 h2 hg)]) (m_object2 _ hl h1 h2)).to0
  · exact (zOp.refuse hS (by omega) (by rw [u_Z_object, e_Z_object_0_x0 _ _ _ _ _ _ _ (w_object0 σ hn h1 hg)]) (m_object0 _ hn h1)).to0
