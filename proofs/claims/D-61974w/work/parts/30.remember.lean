/-! REMEMBERING A REVISION, SAVING -/
theorem zsto_self (σ : ZT) (k : Nat) (i s : Int) : zsto σ k i s (σ k i s) = σ := by
  funext k' i' s'
  unfold zsto
  split
  · rename_i q
    obtain ⟨rfl, rfl, rfl⟩ := q
    rfl
  · rfl
theorem zrng_sto (σ : ZT) {k k' : Nat} (h : ¬ k' = k) (i a b : Int) (f : Int → Int) (i' s' v : Int) : zrng (zsto σ k' i' s' v) k i a b f = zsto (zrng σ k i a b f) k' i' s' v := by
  funext k1 i1 s1
  unfold zrng zsto
  by_cases q : k1 = k
  · subst q
    rw [if_neg (show ¬ (k1 = k' ∧ i1 = i' ∧ s1 = s') by omega), if_neg (show ¬ (k1 = k' ∧ i1 = i' ∧ s1 = s') by omega)]
  · rw [if_neg (show ¬ (k1 = k ∧ i1 = i ∧ a ≤ s1 ∧ s1 < b) by omega)]
    show _ = (if k1 = k' ∧ i1 = i' ∧ s1 = s' then v else (if k1 = k ∧ i1 = i ∧ a ≤ s1 ∧ s1 < b then f s1 else σ k1 i1 s1))
    rw [if_neg (show ¬ (k1 = k ∧ i1 = i ∧ a ≤ s1 ∧ s1 < b) by omega)]
def zr3 (σ : ZT) (a b : Int) (f g h : Int → Int) : ZT := zrng (zrng (zrng σ 30 0 a b f) 31 0 a b g) 32 0 a b h
theorem zr3_step {σ : ZT} {a b : Int} {f g h : Int → Int} {v1 v2 v3 : Int} (hab : a < b) (h1 : v1 = f a) (h2 : v2 = g a) (h3 : v3 = h a) : zr3 (zsto (zsto (zsto σ 30 0 a v1) 31 0 a v2) 32 0 a v3) (a + 1) b f g h = zr3 σ a b f g h := by
  unfold zr3
  have e1 : zrng (zsto (zsto (zsto σ 30 0 a v1) 31 0 a v2) 32 0 a v3) 30 0 (a + 1) b f = zsto (zsto (zrng σ 30 0 a b f) 31 0 a v2) 32 0 a v3 := by rw [zrng_sto _ (by decide), zrng_sto _ (by decide), zrng_step hab h1]
  have e2 : zrng (zsto (zsto (zrng σ 30 0 a b f) 31 0 a v2) 32 0 a v3) 31 0 (a + 1) b g = zsto (zrng (zrng σ 30 0 a b f) 31 0 a b g) 32 0 a v3 := by rw [zrng_sto _ (by decide), zrng_step hab h2]
  rw [e1, e2, zrng_step hab h3]
theorem zr3_fn (σ : ZT) (a b : Int) (f g h : Int → Int) : (∀ k : Nat, k ≠ 30 → k ≠ 31 → k ≠ 32 → zr3 σ a b f g h k = σ k) ∧ (∀ s, ¬ (a ≤ s ∧ s < b) → zr3 σ a b f g h 30 0 s = σ 30 0 s ∧ zr3 σ a b f g h 31 0 s = σ 31 0 s ∧ zr3 σ a b f g h 32 0 s = σ 32 0 s) ∧ (∀ s, a ≤ s → s < b → zr3 σ a b f g h 30 0 s = f s ∧ zr3 σ a b f g h 31 0 s = g s ∧ zr3 σ a b f g h 32 0 s = h s) := by
  unfold zr3
  refine ⟨fun k k1 k2 k3 => by simp (disch := omega) only [zwr_id, zT_lt, zF_lt, zT_le, zF_le, zT_eq, zF_eq, zT_neq, zF_neq, zT_nlt, zT_nle, and_true, true_and, and_false, false_and, and_self, or_true, true_or, or_false, false_or, or_self, not_true_eq_false, not_false_eq_true, ↓reduceIte, implies_true, true_imp_iff, false_imp_iff, zcall0, zcall1, zcall2, zcall3, zcall4, zsto_eq, zsto_ne, zsto_fn, zok13, zok6, zok15, znb_0, zrng_hit, zrng_ne, zrng_fn, zcpy_ne, zcpy_fn], fun s hs => ⟨by simp (disch := omega) only [zwr_id, zT_lt, zF_lt, zT_le, zF_le, zT_eq, zF_eq, zT_neq, zF_neq, zT_nlt, zT_nle, and_true, true_and, and_false, false_and, and_self, or_true, true_or, or_false, false_or, or_self, not_true_eq_false, not_false_eq_true, ↓reduceIte, implies_true, true_imp_iff, false_imp_iff, zcall0, zcall1, zcall2, zcall3, zcall4, zsto_eq, zsto_ne, zsto_fn, zok13, zok6, zok15, znb_0, zrng_hit, zrng_ne, zrng_fn, zcpy_ne, zcpy_fn], by simp (disch := omega) only [zwr_id, zT_lt, zF_lt, zT_le, zF_le, zT_eq, zF_eq, zT_neq, zF_neq, zT_nlt, zT_nle, and_true, true_and, and_false, false_and, and_self, or_true, true_or, or_false, false_or, or_self, not_true_eq_false, not_false_eq_true, ↓reduceIte, implies_true, true_imp_iff, false_imp_iff, zcall0, zcall1, zcall2, zcall3, zcall4, zsto_eq, zsto_ne, zsto_fn, zok13, zok6, zok15, znb_0, zrng_hit, zrng_ne, zrng_fn, zcpy_ne, zcpy_fn], by simp (disch := omega) only [zwr_id, zT_lt, zF_lt, zT_le, zF_le, zT_eq, zF_eq, zT_neq, zF_neq, zT_nlt, zT_nle, and_true, true_and, and_false, false_and, and_self, or_true, true_or, or_false, false_or, or_self, not_true_eq_false, not_false_eq_true, ↓reduceIte, implies_true, true_imp_iff, false_imp_iff, zcall0, zcall1, zcall2, zcall3, zcall4, zsto_eq, zsto_ne, zsto_fn, zok13, zok6, zok15, znb_0, zrng_hit, zrng_ne, zrng_fn, zcpy_ne, zcpy_fn]⟩, fun s s1 s2 => ⟨by simp (disch := omega) only [zwr_id, zT_lt, zF_lt, zT_le, zF_le, zT_eq, zF_eq, zT_neq, zF_neq, zT_nlt, zT_nle, and_true, true_and, and_false, false_and, and_self, or_true, true_or, or_false, false_or, or_self, not_true_eq_false, not_false_eq_true, ↓reduceIte, implies_true, true_imp_iff, false_imp_iff, zcall0, zcall1, zcall2, zcall3, zcall4, zsto_eq, zsto_ne, zsto_fn, zok13, zok6, zok15, znb_0, zrng_hit, zrng_ne, zrng_fn, zcpy_ne, zcpy_fn], by simp (disch := omega) only [zwr_id, zT_lt, zF_lt, zT_le, zF_le, zT_eq, zF_eq, zT_neq, zF_neq, zT_nlt, zT_nle, and_true, true_and, and_false, false_and, and_self, or_true, true_or, or_false, false_or, or_self, not_true_eq_false, not_false_eq_true, ↓reduceIte, implies_true, true_imp_iff, false_imp_iff, zcall0, zcall1, zcall2, zcall3, zcall4, zsto_eq, zsto_ne, zsto_fn, zok13, zok6, zok15, znb_0, zrng_hit, zrng_ne, zrng_fn, zcpy_ne, zcpy_fn], by simp (disch := omega) only [zwr_id, zT_lt, zF_lt, zT_le, zF_le, zT_eq, zF_eq, zT_neq, zF_neq, zT_nlt, zT_nle, and_true, true_and, and_false, false_and, and_self, or_true, true_or, or_false, false_or, or_self, not_true_eq_false, not_false_eq_true, ↓reduceIte, implies_true, true_imp_iff, false_imp_iff, zcall0, zcall1, zcall2, zcall3, zcall4, zsto_eq, zsto_ne, zsto_fn, zok13, zok6, zok15, znb_0, zrng_hit, zrng_ne, zrng_fn, zcpy_ne, zcpy_fn]⟩⟩
/-- what a revision's table gets -/
def zfA (ρ : ZT) (w r : Int) (s : Int) : Int := if zmean ρ w (s - 41 * r) = 0 then (if w = 0 then ρ 30 0 (s - 41) else -1) else (if ρ 21 0 (s - 41 * r) = 0 then -1 else ρ 33 0 (s - 41 * r))
def zfB (ρ : ZT) (w r : Int) (s : Int) : Int := if zmean ρ w (s - 41 * r) = 0 then (if w = 0 then ρ 31 0 (s - 41) else ρ 31 0 s) else ρ 34 0 (s - 41 * r)
def zfC (ρ : ZT) (w r : Int) (s : Int) : Int := if zmean ρ w (s - 41 * r) = 0 then (if w = 0 then ρ 32 0 (s - 41) else ρ 32 0 s) else ρ 25 0 (s - 41 * r)
def zrm9 (σ : ZT) (r : Int) : ZT := zsto (zsto (zsto σ 28 0 r (σ 20 0 7)) 29 0 r (σ 20 0 26)) 20 0 10 (r + 1)
theorem m_rem_loop (ρ : ZT) (hB : zBs ρ) {w r : Int} (hw : w = 0 ∨ w = 1) (hr : 0 ≤ r ∧ r < 60) (hr0 : w = 0 → 1 ≤ r) : ∀ (m : Nat) (n : Int) (σ : ZT) (u : ZV), σ 21 = ρ 21 → σ 23 = ρ 23 → σ 25 = ρ 25 → σ 33 = ρ 33 → σ 34 = ρ 34 → (∀ s, s < 41 * r + 1 ∨ 41 * r + n ≤ s → σ 30 0 s = ρ 30 0 s ∧ σ 31 0 s = ρ 31 0 s ∧ σ 32 0 s = ρ 32 0 s) → 1 ≤ n → 41 - n = m → zrun C_M_remember (15, [(20, 0), (0, w), (0, r), (0, n), u], [], σ) = some (0, 0, zrm9 (zr3 σ (41 * r + n) (41 * r + 41) (zfA ρ w r) (zfB ρ w r) (zfC ρ w r)) r)
  | 0, n, σ, u, e1, e2, e3, e4, e5, e6, h1, hm => by
    have hz : zr3 σ (41 * r + n) (41 * r + 41) (zfA ρ w r) (zfB ρ w r) (zfC ρ w r) = σ := by
      unfold zr3
      rw [zrng_nil (by omega), zrng_nil (by omega), zrng_nil (by omega)]
    rw [hz, e_M_remember_15]
    unfold zrm9
    simp (disch := omega) only [zwr_id, zT_lt, zF_lt, zT_le, zF_le, zT_eq, zF_eq, zT_neq, zF_neq, zT_nlt, zT_nle, and_true, true_and, and_false, false_and, and_self, or_true, true_or, or_false, false_or, or_self, not_true_eq_false, not_false_eq_true, ↓reduceIte, implies_true, true_imp_iff, false_imp_iff, zcall0, zcall1, zcall2, zcall3, zcall4, zsto_eq, zsto_ne, zsto_fn, zok13, zok6, zok15, znb_0, zrng_hit, zrng_ne, zrng_fn, zcpy_ne, zcpy_fn]
  | m + 1, n, σ, u, e1, e2, e3, e4, e5, e6, h1, hm => by
    obtain ⟨b1, b2, b3⟩ := hB n h1 (by omega)
    have hmb : zmean ρ w n = 0 ∨ zmean ρ w n = 1 := by unfold zmean; split <;> omega
    have hmn : f_M_isMeant [(20, 0), (0, n), (0, w)] σ = some (0, zmean ρ w n, σ) := by
      have := m_isMeant σ (n := n) (w := w) ⟨h1, by omega⟩ hw (by rw [e1]; exact b1) (by rw [e2]; exact b2)
      rw [e1, e2] at this
      exact this
    have hn' : 41 * r + n - 41 * r = n := by omega
    have hs : ∃ v1 v2 v3 : Int, ∃ u', v1 = zfA ρ w r (41 * r + n) ∧ v2 = zfB ρ w r (41 * r + n) ∧ v3 = zfC ρ w r (41 * r + n) ∧ zrun C_M_remember (15, [(20, 0), (0, w), (0, r), (0, n), u], [], σ) = zrun C_M_remember (15, [(20, 0), (0, w), (0, r), (0, n + 1), u'], [], zsto (zsto (zsto σ 30 0 (41 * r + n) v1) 31 0 (41 * r + n) v2) 32 0 (41 * r + n) v3) := by
      rw [e_M_remember_15]
      unfold zfA zfB zfC
      rw [hn']
      rcases hmb with q | q
      · rw [if_pos q, if_pos q, if_pos q]
        rcases hw with hw | hw
        · rw [if_pos hw, if_pos hw, if_pos hw]
          have hr1 := hr0 hw
          obtain ⟨g1, g2, g3⟩ := e6 (41 * r + n - 41) (Or.inl (by omega))
          refine ⟨_, _, _, (0, 41 * r + n), rfl, rfl, rfl, ?_⟩
          simp (disch := omega) only [hmn, q, e_M_remember_159, g1, g2, g3, zwr_id, zT_lt, zF_lt, zT_le, zF_le, zT_eq, zF_eq, zT_neq, zF_neq, zT_nlt, zT_nle, and_true, true_and, and_false, false_and, and_self, or_true, true_or, or_false, false_or, or_self, not_true_eq_false, not_false_eq_true, ↓reduceIte, implies_true, true_imp_iff, false_imp_iff, zcall0, zcall1, zcall2, zcall3, zcall4, zsto_eq, zsto_ne, zsto_fn, zok13, zok6, zok15, znb_0, zrng_hit, zrng_ne, zrng_fn, zcpy_ne, zcpy_fn]
        · rw [if_neg (by omega), if_neg (by omega), if_neg (by omega)]
          obtain ⟨g1, g2, g3⟩ := e6 (41 * r + n) (Or.inr (by omega))
          refine ⟨_, _, _, (0, 41 * r + n), rfl, rfl, rfl, ?_⟩
          have z1 : zsto (zsto (zsto σ 30 0 (41 * r + n) (-1)) 31 0 (41 * r + n) (ρ 31 0 (41 * r + n))) 32 0 (41 * r + n) (ρ 32 0 (41 * r + n)) = zsto σ 30 0 (41 * r + n) (-1) := by
            have t1 : ρ 31 0 (41 * r + n) = zsto σ 30 0 (41 * r + n) (-1) 31 0 (41 * r + n) := by rw [zsto_ne (by omega)]; exact g2.symm
            have t2 : ρ 32 0 (41 * r + n) = zsto σ 30 0 (41 * r + n) (-1) 32 0 (41 * r + n) := by rw [zsto_ne (by omega)]; exact g3.symm
            rw [t1, zsto_self, t2, zsto_self]
          rw [z1]
          simp (disch := omega) only [hmn, q, e_M_remember_159, zwr_id, zT_lt, zF_lt, zT_le, zF_le, zT_eq, zF_eq, zT_neq, zF_neq, zT_nlt, zT_nle, and_true, true_and, and_false, false_and, and_self, or_true, true_or, or_false, false_or, or_self, not_true_eq_false, not_false_eq_true, ↓reduceIte, implies_true, true_imp_iff, false_imp_iff, zcall0, zcall1, zcall2, zcall3, zcall4, zsto_eq, zsto_ne, zsto_fn, zok13, zok6, zok15, znb_0, zrng_hit, zrng_ne, zrng_fn, zcpy_ne, zcpy_fn]
      · rw [if_neg (show ¬ zmean ρ w n = 0 by omega), if_neg (show ¬ zmean ρ w n = 0 by omega), if_neg (show ¬ zmean ρ w n = 0 by omega)]
        refine ⟨_, _, _, (0, 41 * r + n), rfl, rfl, rfl, ?_⟩
        rcases b1 with b1 | b1
        · rw [if_pos b1]
          simp (disch := omega) only [hmn, q, e_M_remember_63, e_M_remember_159, e1, e3, e5, b1, zwr_id, zT_lt, zF_lt, zT_le, zF_le, zT_eq, zF_eq, zT_neq, zF_neq, zT_nlt, zT_nle, and_true, true_and, and_false, false_and, and_self, or_true, true_or, or_false, false_or, or_self, not_true_eq_false, not_false_eq_true, ↓reduceIte, implies_true, true_imp_iff, false_imp_iff, zcall0, zcall1, zcall2, zcall3, zcall4, zsto_eq, zsto_ne, zsto_fn, zok13, zok6, zok15, znb_0, zrng_hit, zrng_ne, zrng_fn, zcpy_ne, zcpy_fn]
        · rw [if_neg (show ¬ ρ 21 0 n = 0 by omega)]
          simp (disch := omega) only [hmn, q, e_M_remember_63, e_M_remember_159, e1, e3, e4, e5, b1, zwr_id, zT_lt, zF_lt, zT_le, zF_le, zT_eq, zF_eq, zT_neq, zF_neq, zT_nlt, zT_nle, and_true, true_and, and_false, false_and, and_self, or_true, true_or, or_false, false_or, or_self, not_true_eq_false, not_false_eq_true, ↓reduceIte, implies_true, true_imp_iff, false_imp_iff, zcall0, zcall1, zcall2, zcall3, zcall4, zsto_eq, zsto_ne, zsto_fn, zok13, zok6, zok15, znb_0, zrng_hit, zrng_ne, zrng_fn, zcpy_ne, zcpy_fn]
    obtain ⟨v1, v2, v3, u', w1, w2, w3, e⟩ := hs
    rw [e]
    have ih := m_rem_loop ρ hB hw hr hr0 m (n + 1) (zsto (zsto (zsto σ 30 0 (41 * r + n) v1) 31 0 (41 * r + n) v2) 32 0 (41 * r + n) v3) u' (by simp (disch := omega) only [zwr_id, zT_lt, zF_lt, zT_le, zF_le, zT_eq, zF_eq, zT_neq, zF_neq, zT_nlt, zT_nle, and_true, true_and, and_false, false_and, and_self, or_true, true_or, or_false, false_or, or_self, not_true_eq_false, not_false_eq_true, ↓reduceIte, implies_true, true_imp_iff, false_imp_iff, zcall0, zcall1, zcall2, zcall3, zcall4, zsto_eq, zsto_ne, zsto_fn, zok13, zok6, zok15, znb_0, zrng_hit, zrng_ne, zrng_fn, zcpy_ne, zcpy_fn]; exact e1) (by simp (disch := omega) only [zwr_id, zT_lt, zF_lt, zT_le, zF_le, zT_eq, zF_eq, zT_neq, zF_neq, zT_nlt, zT_nle, and_true, true_and, and_false, false_and, and_self, or_true, true_or, or_false, false_or, or_self, not_true_eq_false, not_false_eq_true, ↓reduceIte, implies_true, true_imp_iff, false_imp_iff, zcall0, zcall1, zcall2, zcall3, zcall4, zsto_eq, zsto_ne, zsto_fn, zok13, zok6, zok15, znb_0, zrng_hit, zrng_ne, zrng_fn, zcpy_ne, zcpy_fn]; exact e2) (by simp (disch := omega) only [zwr_id, zT_lt, zF_lt, zT_le, zF_le, zT_eq, zF_eq, zT_neq, zF_neq, zT_nlt, zT_nle, and_true, true_and, and_false, false_and, and_self, or_true, true_or, or_false, false_or, or_self, not_true_eq_false, not_false_eq_true, ↓reduceIte, implies_true, true_imp_iff, false_imp_iff, zcall0, zcall1, zcall2, zcall3, zcall4, zsto_eq, zsto_ne, zsto_fn, zok13, zok6, zok15, znb_0, zrng_hit, zrng_ne, zrng_fn, zcpy_ne, zcpy_fn]; exact e3) (by simp (disch := omega) only [zwr_id, zT_lt, zF_lt, zT_le, zF_le, zT_eq, zF_eq, zT_neq, zF_neq, zT_nlt, zT_nle, and_true, true_and, and_false, false_and, and_self, or_true, true_or, or_false, false_or, or_self, not_true_eq_false, not_false_eq_true, ↓reduceIte, implies_true, true_imp_iff, false_imp_iff, zcall0, zcall1, zcall2, zcall3, zcall4, zsto_eq, zsto_ne, zsto_fn, zok13, zok6, zok15, znb_0, zrng_hit, zrng_ne, zrng_fn, zcpy_ne, zcpy_fn]; exact e4) (by simp (disch := omega) only [zwr_id, zT_lt, zF_lt, zT_le, zF_le, zT_eq, zF_eq, zT_neq, zF_neq, zT_nlt, zT_nle, and_true, true_and, and_false, false_and, and_self, or_true, true_or, or_false, false_or, or_self, not_true_eq_false, not_false_eq_true, ↓reduceIte, implies_true, true_imp_iff, false_imp_iff, zcall0, zcall1, zcall2, zcall3, zcall4, zsto_eq, zsto_ne, zsto_fn, zok13, zok6, zok15, znb_0, zrng_hit, zrng_ne, zrng_fn, zcpy_ne, zcpy_fn]; exact e5) (fun s hs => by
      have := e6 s (by omega)
      simp (disch := omega) only [zwr_id, zT_lt, zF_lt, zT_le, zF_le, zT_eq, zF_eq, zT_neq, zF_neq, zT_nlt, zT_nle, and_true, true_and, and_false, false_and, and_self, or_true, true_or, or_false, false_or, or_self, not_true_eq_false, not_false_eq_true, ↓reduceIte, implies_true, true_imp_iff, false_imp_iff, zcall0, zcall1, zcall2, zcall3, zcall4, zsto_eq, zsto_ne, zsto_fn, zok13, zok6, zok15, znb_0, zrng_hit, zrng_ne, zrng_fn, zcpy_ne, zcpy_fn]) (by omega) (by omega)
    rw [← Int.add_assoc, zr3_step (by omega) w1 w2 w3] at ih
    exact ih
def zrmb (σ : ZT) (w r : Int) : ZT := zrm9 (zr3 σ (41 * r + 1) (41 * r + 41) (zfA σ w r) (zfB σ w r) (zfC σ w r)) r
theorem m_remember (σ : ZT) (hB : zBs σ) {w : Int} (hw : w = 0 ∨ w = 1) (hr0 : w = 0 → 1 ≤ σ 20 0 10 ∧ σ 20 0 10 < 60) : f_M_remember [(20, 0), (0, w)] σ = some (0, 0, zrmb σ w (if w = 0 then σ 20 0 10 else 0)) := by
  rw [u_M_remember, e_M_remember_0]
  rcases hw with hw | hw
  · have := hr0 hw
    rw [if_pos hw]
    simp (disch := omega) only [e_M_remember_12, zwr_id, zT_lt, zF_lt, zT_le, zF_le, zT_eq, zF_eq, zT_neq, zF_neq, zT_nlt, zT_nle, and_true, true_and, and_false, false_and, and_self, or_true, true_or, or_false, false_or, or_self, not_true_eq_false, not_false_eq_true, ↓reduceIte, implies_true, true_imp_iff, false_imp_iff, zcall0, zcall1, zcall2, zcall3, zcall4, zsto_eq, zsto_ne, zsto_fn, zok13, zok6, zok15, znb_0, zrng_hit, zrng_ne, zrng_fn, zcpy_ne, zcpy_fn]
    exact m_rem_loop σ hB (Or.inl hw) (by omega) (fun _ => by omega) 40 1 σ _ rfl rfl rfl rfl rfl (fun _ _ => ⟨rfl, rfl, rfl⟩) (by omega) (by omega)
  · rw [if_neg (show ¬ w = 0 by omega)]
    simp (disch := omega) only [e_M_remember_12, zwr_id, zT_lt, zF_lt, zT_le, zF_le, zT_eq, zF_eq, zT_neq, zF_neq, zT_nlt, zT_nle, and_true, true_and, and_false, false_and, and_self, or_true, true_or, or_false, false_or, or_self, not_true_eq_false, not_false_eq_true, ↓reduceIte, implies_true, true_imp_iff, false_imp_iff, zcall0, zcall1, zcall2, zcall3, zcall4, zsto_eq, zsto_ne, zsto_fn, zok13, zok6, zok15, znb_0, zrng_hit, zrng_ne, zrng_fn, zcpy_ne, zcpy_fn]
    exact m_rem_loop σ hB (Or.inr hw) (by omega) (fun _ => by omega) 40 1 σ _ rfl rfl rfl rfl rfl (fun _ _ => ⟨rfl, rfl, rfl⟩) (by omega) (by omega)
/-- saved -/
def zmsv (σ : ZT) (a : Int) : ZT := zrng (zrng σ 23 0 a 41 fun _ => 0) 24 0 a 41 (σ 21 0)
theorem m_save_loop : ∀ (m : Nat) (n : Int) (σ : ZT), (∀ k, 1 ≤ k → k ≤ 40 → σ 21 0 k = 0 ∨ σ 21 0 k = 1) → 1 ≤ n → 41 - n = m → zrun C_M_save (2, [(20, 0), (0, n)], [], σ) = some (0, 0, zmsv σ n)
  | 0, n, σ, h, h1, hm => by
    rw [e_M_save_2]
    unfold zmsv
    rw [zrng_nil (by omega), zrng_nil (by omega)]
    simp (disch := omega) only [zwr_id, zT_lt, zF_lt, zT_le, zF_le, zT_eq, zF_eq, zT_neq, zF_neq, zT_nlt, zT_nle, and_true, true_and, and_false, false_and, and_self, or_true, true_or, or_false, false_or, or_self, not_true_eq_false, not_false_eq_true, ↓reduceIte, implies_true, true_imp_iff, false_imp_iff, zcall0, zcall1, zcall2, zcall3, zcall4, zsto_eq, zsto_ne, zsto_fn, zok13, zok6, zok15, znb_0, zrng_hit, zrng_ne, zrng_fn, zcpy_ne, zcpy_fn]
  | m + 1, n, σ, h, h1, hm => by
    have hn := h n h1 (by omega)
    have ih := m_save_loop m (n + 1) (zsto (zsto σ 23 0 n 0) 24 0 n (σ 21 0 n)) (fun k k1 k2 => by simp (disch := omega) only [zwr_id, zT_lt, zF_lt, zT_le, zF_le, zT_eq, zF_eq, zT_neq, zF_neq, zT_nlt, zT_nle, and_true, true_and, and_false, false_and, and_self, or_true, true_or, or_false, false_or, or_self, not_true_eq_false, not_false_eq_true, ↓reduceIte, implies_true, true_imp_iff, false_imp_iff, zcall0, zcall1, zcall2, zcall3, zcall4, zsto_eq, zsto_ne, zsto_fn, zok13, zok6, zok15, znb_0, zrng_hit, zrng_ne, zrng_fn, zcpy_ne, zcpy_fn]; exact h k k1 k2) (by omega) (by omega)
    have e : zmsv (zsto (zsto σ 23 0 n 0) 24 0 n (σ 21 0 n)) (n + 1) = zmsv σ n := by
      unfold zmsv
      have t : zsto (zsto σ 23 0 n 0) 24 0 n (σ 21 0 n) 21 = σ 21 := by simp (disch := omega) only [zwr_id, zT_lt, zF_lt, zT_le, zF_le, zT_eq, zF_eq, zT_neq, zF_neq, zT_nlt, zT_nle, and_true, true_and, and_false, false_and, and_self, or_true, true_or, or_false, false_or, or_self, not_true_eq_false, not_false_eq_true, ↓reduceIte, implies_true, true_imp_iff, false_imp_iff, zcall0, zcall1, zcall2, zcall3, zcall4, zsto_eq, zsto_ne, zsto_fn, zok13, zok6, zok15, znb_0, zrng_hit, zrng_ne, zrng_fn, zcpy_ne, zcpy_fn]
      rw [t, zrng_sto _ (by decide), zrng_step (v := 0) (by omega) rfl, zrng_step (by omega) rfl]
    have e0 : (0 : Int) % 2 = 0 := rfl
    have e1 : σ 21 0 n % 2 = σ 21 0 n := by omega
    rw [e] at ih
    rw [e_M_save_2, ← ih]
    simp (disch := omega) only [e0, e1, zwr_id, zT_lt, zF_lt, zT_le, zF_le, zT_eq, zF_eq, zT_neq, zF_neq, zT_nlt, zT_nle, and_true, true_and, and_false, false_and, and_self, or_true, true_or, or_false, false_or, or_self, not_true_eq_false, not_false_eq_true, ↓reduceIte, implies_true, true_imp_iff, false_imp_iff, zcall0, zcall1, zcall2, zcall3, zcall4, zsto_eq, zsto_ne, zsto_fn, zok13, zok6, zok15, znb_0, zrng_hit, zrng_ne, zrng_fn, zcpy_ne, zcpy_fn]
theorem m_save (σ : ZT) (h : ∀ k, 1 ≤ k → k ≤ 40 → σ 21 0 k = 0 ∨ σ 21 0 k = 1) : f_M_save [(20, 0)] σ = some (0, 0, zmsv σ 1) := by
  rw [u_M_save, e_M_save_0, m_save_loop 40 1 σ h (by omega) (by omega)]
/-- the class's saving -/
def zsv (σ : ZT) (a : Int) : ZT := fun k i s => if k = 13 ∧ a ≤ i ∧ i < 41 ∧ s = 4 then σ 13 i 2 else if k = 13 ∧ a ≤ i ∧ i < 41 ∧ s = 5 then 0 else σ k i s
theorem t_save (σ : ZT) {n : Int} (h : σ 13 n 2 = 0 ∨ σ 13 n 2 = 1) : f_T_save [(13, n)] σ = some (0, 0, zsto (zsto σ 13 n 4 (σ 13 n 2)) 13 n 5 0) := by
  rw [u_T_save, e_T_save_0]
  rcases h with h | h
  · simp (disch := omega) only [h, zwr_id, zT_lt, zF_lt, zT_le, zF_le, zT_eq, zF_eq, zT_neq, zF_neq, zT_nlt, zT_nle, and_true, true_and, and_false, false_and, and_self, or_true, true_or, or_false, false_or, or_self, not_true_eq_false, not_false_eq_true, ↓reduceIte, implies_true, true_imp_iff, false_imp_iff, zcall0, zcall1, zcall2, zcall3, zcall4, zsto_eq, zsto_ne, zsto_fn, zok13, zok6, zok15, znb_0, zrng_hit, zrng_ne, zrng_fn, zcpy_ne, zcpy_fn]
  · simp (disch := omega) only [h, zwr_id, zT_lt, zF_lt, zT_le, zF_le, zT_eq, zF_eq, zT_neq, zF_neq, zT_nlt, zT_nle, and_true, true_and, and_false, false_and, and_self, or_true, true_or, or_false, false_or, or_self, not_true_eq_false, not_false_eq_true, ↓reduceIte, implies_true, true_imp_iff, false_imp_iff, zcall0, zcall1, zcall2, zcall3, zcall4, zsto_eq, zsto_ne, zsto_fn, zok13, zok6, zok15, znb_0, zrng_hit, zrng_ne, zrng_fn, zcpy_ne, zcpy_fn]
theorem zsv_step (σ : ZT) {n : Int} (h : n < 41) : zsv (zsto (zsto σ 13 n 4 (σ 13 n 2)) 13 n 5 0) (n + 1) = zsv σ n := by
  funext k i s
  unfold zsv
  by_cases hk : k = 13
  · subst hk
    by_cases hi : i = n
    · subst hi
      rw [if_neg (by omega), if_neg (by omega)]
      by_cases h4 : s = 4
      · subst h4
        rw [if_pos (by omega)]
        simp (disch := omega) only [zwr_id, zT_lt, zF_lt, zT_le, zF_le, zT_eq, zF_eq, zT_neq, zF_neq, zT_nlt, zT_nle, and_true, true_and, and_false, false_and, and_self, or_true, true_or, or_false, false_or, or_self, not_true_eq_false, not_false_eq_true, ↓reduceIte, implies_true, true_imp_iff, false_imp_iff, zcall0, zcall1, zcall2, zcall3, zcall4, zsto_eq, zsto_ne, zsto_fn, zok13, zok6, zok15, znb_0, zrng_hit, zrng_ne, zrng_fn, zcpy_ne, zcpy_fn]
      · rw [if_neg (by omega)]
        by_cases h5 : s = 5
        · subst h5
          rw [if_pos (by omega)]
          simp (disch := omega) only [zwr_id, zT_lt, zF_lt, zT_le, zF_le, zT_eq, zF_eq, zT_neq, zF_neq, zT_nlt, zT_nle, and_true, true_and, and_false, false_and, and_self, or_true, true_or, or_false, false_or, or_self, not_true_eq_false, not_false_eq_true, ↓reduceIte, implies_true, true_imp_iff, false_imp_iff, zcall0, zcall1, zcall2, zcall3, zcall4, zsto_eq, zsto_ne, zsto_fn, zok13, zok6, zok15, znb_0, zrng_hit, zrng_ne, zrng_fn, zcpy_ne, zcpy_fn]
        · rw [if_neg (by omega)]
          simp (disch := omega) only [zwr_id, zT_lt, zF_lt, zT_le, zF_le, zT_eq, zF_eq, zT_neq, zF_neq, zT_nlt, zT_nle, and_true, true_and, and_false, false_and, and_self, or_true, true_or, or_false, false_or, or_self, not_true_eq_false, not_false_eq_true, ↓reduceIte, implies_true, true_imp_iff, false_imp_iff, zcall0, zcall1, zcall2, zcall3, zcall4, zsto_eq, zsto_ne, zsto_fn, zok13, zok6, zok15, znb_0, zrng_hit, zrng_ne, zrng_fn, zcpy_ne, zcpy_fn]
    · have e : ∀ s, zsto (zsto σ 13 n 4 (σ 13 n 2)) 13 n 5 0 13 i s = σ 13 i s := fun s => by simp (disch := omega) only [zwr_id, zT_lt, zF_lt, zT_le, zF_le, zT_eq, zF_eq, zT_neq, zF_neq, zT_nlt, zT_nle, and_true, true_and, and_false, false_and, and_self, or_true, true_or, or_false, false_or, or_self, not_true_eq_false, not_false_eq_true, ↓reduceIte, implies_true, true_imp_iff, false_imp_iff, zcall0, zcall1, zcall2, zcall3, zcall4, zsto_eq, zsto_ne, zsto_fn, zok13, zok6, zok15, znb_0, zrng_hit, zrng_ne, zrng_fn, zcpy_ne, zcpy_fn]
      rw [e, e]
      by_cases q1 : n ≤ i ∧ i < 41
      · by_cases h4 : s = 4
        · rw [if_pos (by omega), if_pos (by omega)]
        · rw [if_neg (by omega), if_neg (show ¬ (13 = 13 ∧ n ≤ i ∧ i < 41 ∧ s = 4) by omega)]
          by_cases h5 : s = 5
          · rw [if_pos (by omega), if_pos (by omega)]
          · rw [if_neg (by omega), if_neg (by omega)]
      · rw [if_neg (by omega), if_neg (by omega), if_neg (by omega), if_neg (by omega)]
  · rw [if_neg (by omega), if_neg (by omega), if_neg (by omega), if_neg (by omega)]
    simp (disch := omega) only [zwr_id, zT_lt, zF_lt, zT_le, zF_le, zT_eq, zF_eq, zT_neq, zF_neq, zT_nlt, zT_nle, and_true, true_and, and_false, false_and, and_self, or_true, true_or, or_false, false_or, or_self, not_true_eq_false, not_false_eq_true, ↓reduceIte, implies_true, true_imp_iff, false_imp_iff, zcall0, zcall1, zcall2, zcall3, zcall4, zsto_eq, zsto_ne, zsto_fn, zok13, zok6, zok15, znb_0, zrng_hit, zrng_ne, zrng_fn, zcpy_ne, zcpy_fn]
theorem w_save_loop {p : Int} {x2 : Int} : ∀ (m : Nat) (n : Int) (σ : ZT), (∀ k, 1 ≤ k → k ≤ 40 → σ 13 k 2 = 0 ∨ σ 13 k 2 = 1) → 1 ≤ n → 41 - n = m → zrun C_W_become (48, [(4, 0), (0, p), (6, x2), (0, n)], [], σ) = some (0, 0, zsv σ n)
  | 0, n, σ, h, h1, hm => by
    have e : zsv σ n = σ := by
      funext k i s
      unfold zsv
      rw [if_neg (by omega), if_neg (by omega)]
    rw [e_W_become_48, e]
    simp (disch := omega) only [zwr_id, zT_lt, zF_lt, zT_le, zF_le, zT_eq, zF_eq, zT_neq, zF_neq, zT_nlt, zT_nle, and_true, true_and, and_false, false_and, and_self, or_true, true_or, or_false, false_or, or_self, not_true_eq_false, not_false_eq_true, ↓reduceIte, implies_true, true_imp_iff, false_imp_iff, zcall0, zcall1, zcall2, zcall3, zcall4, zsto_eq, zsto_ne, zsto_fn, zok13, zok6, zok15, znb_0, zrng_hit, zrng_ne, zrng_fn, zcpy_ne, zcpy_fn]
  | m + 1, n, σ, h, h1, hm => by
    have hn := h n h1 (by omega)
    have ih := w_save_loop (p := p) (x2 := x2) m (n + 1) (zsto (zsto σ 13 n 4 (σ 13 n 2)) 13 n 5 0) (fun k k1 k2 => by simp (disch := omega) only [zwr_id, zT_lt, zF_lt, zT_le, zF_le, zT_eq, zF_eq, zT_neq, zF_neq, zT_nlt, zT_nle, and_true, true_and, and_false, false_and, and_self, or_true, true_or, or_false, false_or, or_self, not_true_eq_false, not_false_eq_true, ↓reduceIte, implies_true, true_imp_iff, false_imp_iff, zcall0, zcall1, zcall2, zcall3, zcall4, zsto_eq, zsto_ne, zsto_fn, zok13, zok6, zok15, znb_0, zrng_hit, zrng_ne, zrng_fn, zcpy_ne, zcpy_fn]; exact h k k1 k2) (by omega) (by omega)
    rw [zsv_step σ (by omega)] at ih
    rw [e_W_become_48, ← ih]
    simp (disch := omega) only [t_save σ hn, zwr_id, zT_lt, zF_lt, zT_le, zF_le, zT_eq, zF_eq, zT_neq, zF_neq, zT_nlt, zT_nle, and_true, true_and, and_false, false_and, and_self, or_true, true_or, or_false, false_or, or_self, not_true_eq_false, not_false_eq_true, ↓reduceIte, implies_true, true_imp_iff, false_imp_iff, zcall0, zcall1, zcall2, zcall3, zcall4, zsto_eq, zsto_ne, zsto_fn, zok13, zok6, zok15, znb_0, zrng_hit, zrng_ne, zrng_fn, zcpy_ne, zcpy_fn]
