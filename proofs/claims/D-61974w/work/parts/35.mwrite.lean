/-! THE REFERENCE's write -/
theorem zptl_bd {σ : ZT} (hB : zBs σ) {w how : Int} (hh : 0 ≤ how ∧ how ≤ 2) : 0 ≤ zptl σ w how ∧ zptl σ w how ≤ 5604 := by
  have h1 := znl_len hB (w := w) hh
  have h2 := zrl_nn σ (znl σ w how)
  unfold zptl
  have : (zhdr w).length ≤ 4 := by
    unfold zhdr
    split
    · exact Nat.zero_le _
    · exact Nat.le_refl _
  omega
theorem zpt1_33 {σ : ZT} (hB : zBs σ) {w how from' : Int} (hh : 0 ≤ how ∧ how ≤ 2) (h0 : 0 ≤ from') : ∀ j, 1 ≤ j → j ≤ 40 → σ 21 0 j ≠ 0 → zmean σ w j ≠ 0 → from' ≤ zpt1 σ w how from' 33 0 j ∧ zpt1 σ w how from' 33 0 j ≤ from' + zptl σ w how := fun j j1 j2 h21 hm => by
  have hmem := (znl_mem hB (w := w) (n := j) hh).mpr ⟨j1, j2, hm, h21⟩
  have h := (zmrs_33 (znl σ w how) (zme (zsto σ 20 0 16 from') (zhdr w)) j).2 hmem
  have e := (zpt1_fn σ w how from').2.2.2.2.2
  have e1 := (zme_fn (zsto σ 20 0 16 from') (zhdr w)).1
  rw [zsto_eq] at e1
  unfold zpt1 at e ⊢
  omega
theorem zpt_pos (σ : ZT) (w how from' : Int) : zpt σ w how from' 20 0 16 = from' + zptl σ w how + (zendM (zpt1 σ w how from') w (zbef σ w) (from' + zptl σ w how)).length := by
  have e := (zpt1_fn σ w how from').2.2.2.2.2
  unfold zpt
  simp (disch := omega) only [zwr_id, zT_lt, zF_lt, zT_le, zF_le, zT_eq, zF_eq, zT_neq, zF_neq, zT_nlt, zT_nle, and_true, true_and, and_false, false_and, and_self, or_true, true_or, or_false, false_or, or_self, not_true_eq_false, not_false_eq_true, ↓reduceIte, implies_true, true_imp_iff, false_imp_iff, zcall0, zcall1, zcall2, zcall3, zcall4, zsto_eq, zsto_ne, zsto_fn, zok13, zok6, zok15, znb_0, zrng_hit, zrng_ne, zrng_fn, zcpy_ne, zcpy_fn]
  rw [(zme_fn _ _).1, e]
theorem zendM_bd {σ : ZT} (hB : zBs σ) {w how from' : Int} (hh : 0 ≤ how ∧ how ≤ 2) (h0 : 0 ≤ from' ∧ from' ≤ 12000) (hb : 0 ≤ zbef σ w ∧ zbef σ w ≤ 12000) : (zendM (zpt1 σ w how from') w (zbef σ w) (from' + zptl σ w how)).length ≤ 504 := by
  have h1 := zptl_bd hB (w := w) hh
  obtain ⟨p1, p2, p3, p4, p5, p6⟩ := zpt1_fn σ w how from'
  have e21 := p1 21 (by decide) (by decide) (by decide) (by decide)
  have e23 := p1 23 (by decide) (by decide) (by decide) (by decide)
  refine zendM_le (by omega) (by omega) fun j j1 j2 hm h21 => ?_
  have hm' : zmean σ w j ≠ 0 := by unfold zmean at hm ⊢; rw [e21, e23] at hm; exact hm
  rw [e21] at h21
  have := zpt1_33 hB (how := how) (w := w) hh h0.1 j j1 j2 h21 hm'
  omega
theorem m_part (σ : ZT) (hB : zBs σ) {w how from' : Int} (hw : w = 0 ∨ w = 1) (hh : 0 ≤ how ∧ how ≤ 2) (h17 : σ 20 0 17 = 0 ∨ σ 20 0 17 = 1) (h0 : 0 ≤ from' ∧ from' ≤ 12000) (hb : 0 ≤ zbef σ w ∧ zbef σ w ≤ 12000) (hr : w = 0 → 1 ≤ σ 20 0 10 ∧ σ 20 0 10 ≤ 60) (hM : σ 20 0 17 = 0 → zpt σ w how from' 20 0 16 ≤ 12000) : f_M_putPart [(20, 0), (0, from'), (0, w), (0, how)] σ = some (0, zpt σ w how from' 20 0 16, zpt σ w how from') := by
  have h1 := zptl_bd hB (w := w) hh
  have h2 := zendM_bd hB (w := w) hh h0 hb
  rw [zpt_pos] at hM
  exact m_putPart σ hB hw hh h17 h0.1 (by omega) hr (fun j j1 j2 h21 hm => by have := zpt1_33 hB (how := how) (w := w) hh h0.1 j j1 j2 (by omega) hm; omega) (by omega) hM
theorem zpt_fn (σ : ZT) (w how from' : Int) : (∀ k : Nat, k ≠ 20 → k ≠ 27 → k ≠ 33 → k ≠ 34 → zpt σ w how from' k = σ k) ∧ (∀ s, s ≠ 16 → s ≠ 26 → zpt σ w how from' 20 0 s = σ 20 0 s) ∧ (zSimB σ → zSimB (zpt σ w how from')) ∧ zpt σ w how from' 20 0 26 = from' + zptl σ w how ∧ (0 ≤ zptl σ w how → ∀ j, j < from' → zpt σ w how from' 27 0 j = σ 27 0 j) ∧ (σ 20 0 17 ≠ 0 → zpt σ w how from' 27 = σ 27) := by
  obtain ⟨p1, p2, p3, p4, p5, p6⟩ := zpt1_fn σ w how from'
  obtain ⟨a1, a2, a3, a4, a5, a6⟩ := zme_fn (zpt1 σ w how from') (zendM (zpt1 σ w how from') w (zbef σ w) (zpt1 σ w how from' 20 0 16))
  unfold zpt
  refine ⟨fun k k1 k2 k3 k4 => ?_, fun s s1 s2 => ?_, fun h => zSimB.sto (a6 (p5 h)) (by omega), ?_, fun hl j hj => ?_, fun q => ?_⟩
  · simp (disch := omega) only [zwr_id, zT_lt, zF_lt, zT_le, zF_le, zT_eq, zF_eq, zT_neq, zF_neq, zT_nlt, zT_nle, and_true, true_and, and_false, false_and, and_self, or_true, true_or, or_false, false_or, or_self, not_true_eq_false, not_false_eq_true, ↓reduceIte, implies_true, true_imp_iff, false_imp_iff, zcall0, zcall1, zcall2, zcall3, zcall4, zsto_eq, zsto_ne, zsto_fn, zok13, zok6, zok15, znb_0, zrng_hit, zrng_ne, zrng_fn, zcpy_ne, zcpy_fn]
    rw [a2 k k1 k2, p1 k k1 k2 k3 k4]
  · simp (disch := omega) only [zwr_id, zT_lt, zF_lt, zT_le, zF_le, zT_eq, zF_eq, zT_neq, zF_neq, zT_nlt, zT_nle, and_true, true_and, and_false, false_and, and_self, or_true, true_or, or_false, false_or, or_self, not_true_eq_false, not_false_eq_true, ↓reduceIte, implies_true, true_imp_iff, false_imp_iff, zcall0, zcall1, zcall2, zcall3, zcall4, zsto_eq, zsto_ne, zsto_fn, zok13, zok6, zok15, znb_0, zrng_hit, zrng_ne, zrng_fn, zcpy_ne, zcpy_fn]
    rw [a3 s s1, p2 s s1]
  · simp (disch := omega) only [zwr_id, zT_lt, zF_lt, zT_le, zF_le, zT_eq, zF_eq, zT_neq, zF_neq, zT_nlt, zT_nle, and_true, true_and, and_false, false_and, and_self, or_true, true_or, or_false, false_or, or_self, not_true_eq_false, not_false_eq_true, ↓reduceIte, implies_true, true_imp_iff, false_imp_iff, zcall0, zcall1, zcall2, zcall3, zcall4, zsto_eq, zsto_ne, zsto_fn, zok13, zok6, zok15, znb_0, zrng_hit, zrng_ne, zrng_fn, zcpy_ne, zcpy_fn]
  · simp (disch := omega) only [zwr_id, zT_lt, zF_lt, zT_le, zF_le, zT_eq, zF_eq, zT_neq, zF_neq, zT_nlt, zT_nle, and_true, true_and, and_false, false_and, and_self, or_true, true_or, or_false, false_or, or_self, not_true_eq_false, not_false_eq_true, ↓reduceIte, implies_true, true_imp_iff, false_imp_iff, zcall0, zcall1, zcall2, zcall3, zcall4, zsto_eq, zsto_ne, zsto_fn, zok13, zok6, zok15, znb_0, zrng_hit, zrng_ne, zrng_fn, zcpy_ne, zcpy_fn]
    rw [a4 j (by omega), p3 j hj]
  · simp (disch := omega) only [zwr_id, zT_lt, zF_lt, zT_le, zF_le, zT_eq, zF_eq, zT_neq, zF_neq, zT_nlt, zT_nle, and_true, true_and, and_false, false_and, and_self, or_true, true_or, or_false, false_or, or_self, not_true_eq_false, not_false_eq_true, ↓reduceIte, implies_true, true_imp_iff, false_imp_iff, zcall0, zcall1, zcall2, zcall3, zcall4, zsto_eq, zsto_ne, zsto_fn, zok13, zok6, zok15, znb_0, zrng_hit, zrng_ne, zrng_fn, zcpy_ne, zcpy_fn]
    rw [a5 (by rw [p2 17 (by decide)]; exact q), p4 q]
/-- all of it: written, remembered, saved -/
def zpaC (σ : ZT) (w how from' : Int) : ZT := zsto (zsto (zpt (zsto σ 20 0 17 0) w how from') 20 0 7 (zpt (zsto σ 20 0 17 0) w how from' 20 0 16)) 20 0 9 0
def zpa (σ : ZT) (w how from' : Int) : ZT := zmsv (zrmb (zpaC σ w how from') w (if w = 0 then σ 20 0 10 else 0)) 1
theorem zBs.fn {σ τ : ZT} (h : zBs σ) (h21 : τ 21 = σ 21) (h22 : τ 22 = σ 22) (h23 : τ 23 = σ 23) (h25 : τ 25 = σ 25) : zBs τ := by
  unfold zBs at h ⊢
  rw [h21, h22, h23, h25]
  exact h
theorem zrmb_fn (σ : ZT) (w r : Int) : (∀ k : Nat, k ≠ 20 → k ≠ 28 → k ≠ 29 → k ≠ 30 → k ≠ 31 → k ≠ 32 → zrmb σ w r k = σ k) ∧ (∀ s, s ≠ 10 → zrmb σ w r 20 0 s = σ 20 0 s) ∧ zrmb σ w r 20 0 10 = r + 1 := by
  obtain ⟨a1, a2, a3⟩ := zr3_fn σ (41 * r + 1) (41 * r + 41) (zfA σ w r) (zfB σ w r) (zfC σ w r)
  unfold zrmb zrm9
  refine ⟨fun k k1 k2 k3 k4 k5 k6 => ?_, fun s hs => ?_, ?_⟩
  · simp (disch := omega) only [zwr_id, zT_lt, zF_lt, zT_le, zF_le, zT_eq, zF_eq, zT_neq, zF_neq, zT_nlt, zT_nle, and_true, true_and, and_false, false_and, and_self, or_true, true_or, or_false, false_or, or_self, not_true_eq_false, not_false_eq_true, ↓reduceIte, implies_true, true_imp_iff, false_imp_iff, zcall0, zcall1, zcall2, zcall3, zcall4, zsto_eq, zsto_ne, zsto_fn, zok13, zok6, zok15, znb_0, zrng_hit, zrng_ne, zrng_fn, zcpy_ne, zcpy_fn]
    exact a1 k k4 k5 k6
  · simp (disch := omega) only [zwr_id, zT_lt, zF_lt, zT_le, zF_le, zT_eq, zF_eq, zT_neq, zF_neq, zT_nlt, zT_nle, and_true, true_and, and_false, false_and, and_self, or_true, true_or, or_false, false_or, or_self, not_true_eq_false, not_false_eq_true, ↓reduceIte, implies_true, true_imp_iff, false_imp_iff, zcall0, zcall1, zcall2, zcall3, zcall4, zsto_eq, zsto_ne, zsto_fn, zok13, zok6, zok15, znb_0, zrng_hit, zrng_ne, zrng_fn, zcpy_ne, zcpy_fn]
    rw [a1 20 (by decide) (by decide) (by decide)]
  · simp (disch := omega) only [zwr_id, zT_lt, zF_lt, zT_le, zF_le, zT_eq, zF_eq, zT_neq, zF_neq, zT_nlt, zT_nle, and_true, true_and, and_false, false_and, and_self, or_true, true_or, or_false, false_or, or_self, not_true_eq_false, not_false_eq_true, ↓reduceIte, implies_true, true_imp_iff, false_imp_iff, zcall0, zcall1, zcall2, zcall3, zcall4, zsto_eq, zsto_ne, zsto_fn, zok13, zok6, zok15, znb_0, zrng_hit, zrng_ne, zrng_fn, zcpy_ne, zcpy_fn]
theorem m_putAll (σ : ZT) (hB : zBs σ) {w how from' : Int} (hw : w = 0 ∨ w = 1) (hh : 0 ≤ how ∧ how ≤ 2) (h0 : 0 ≤ from' ∧ from' ≤ 12000) (hb : 0 ≤ zbef σ w ∧ zbef σ w ≤ 12000) (hr : w = 0 → 1 ≤ σ 20 0 10 ∧ σ 20 0 10 < 60) (hM : zpt (zsto σ 20 0 17 0) w how from' 20 0 16 ≤ 12000) : f_M_putAll [(20, 0), (0, from'), (0, w), (0, how)] σ = some (0, 0, zpa σ w how from') := by
  have hB' : zBs (zsto σ 20 0 17 0) := hB.fn (by simp (disch := omega) only [zwr_id, zT_lt, zF_lt, zT_le, zF_le, zT_eq, zF_eq, zT_neq, zF_neq, zT_nlt, zT_nle, and_true, true_and, and_false, false_and, and_self, or_true, true_or, or_false, false_or, or_self, not_true_eq_false, not_false_eq_true, ↓reduceIte, implies_true, true_imp_iff, false_imp_iff, zcall0, zcall1, zcall2, zcall3, zcall4, zsto_eq, zsto_ne, zsto_fn, zok13, zok6, zok15, znb_0, zrng_hit, zrng_ne, zrng_fn, zcpy_ne, zcpy_fn]) (by simp (disch := omega) only [zwr_id, zT_lt, zF_lt, zT_le, zF_le, zT_eq, zF_eq, zT_neq, zF_neq, zT_nlt, zT_nle, and_true, true_and, and_false, false_and, and_self, or_true, true_or, or_false, false_or, or_self, not_true_eq_false, not_false_eq_true, ↓reduceIte, implies_true, true_imp_iff, false_imp_iff, zcall0, zcall1, zcall2, zcall3, zcall4, zsto_eq, zsto_ne, zsto_fn, zok13, zok6, zok15, znb_0, zrng_hit, zrng_ne, zrng_fn, zcpy_ne, zcpy_fn]) (by simp (disch := omega) only [zwr_id, zT_lt, zF_lt, zT_le, zF_le, zT_eq, zF_eq, zT_neq, zF_neq, zT_nlt, zT_nle, and_true, true_and, and_false, false_and, and_self, or_true, true_or, or_false, false_or, or_self, not_true_eq_false, not_false_eq_true, ↓reduceIte, implies_true, true_imp_iff, false_imp_iff, zcall0, zcall1, zcall2, zcall3, zcall4, zsto_eq, zsto_ne, zsto_fn, zok13, zok6, zok15, znb_0, zrng_hit, zrng_ne, zrng_fn, zcpy_ne, zcpy_fn]) (by simp (disch := omega) only [zwr_id, zT_lt, zF_lt, zT_le, zF_le, zT_eq, zF_eq, zT_neq, zF_neq, zT_nlt, zT_nle, and_true, true_and, and_false, false_and, and_self, or_true, true_or, or_false, false_or, or_self, not_true_eq_false, not_false_eq_true, ↓reduceIte, implies_true, true_imp_iff, false_imp_iff, zcall0, zcall1, zcall2, zcall3, zcall4, zsto_eq, zsto_ne, zsto_fn, zok13, zok6, zok15, znb_0, zrng_hit, zrng_ne, zrng_fn, zcpy_ne, zcpy_fn])
  have eb : zbef (zsto σ 20 0 17 0) w = zbef σ w := by unfold zbef; simp (disch := omega) only [zwr_id, zT_lt, zF_lt, zT_le, zF_le, zT_eq, zF_eq, zT_neq, zF_neq, zT_nlt, zT_nle, and_true, true_and, and_false, false_and, and_self, or_true, true_or, or_false, false_or, or_self, not_true_eq_false, not_false_eq_true, ↓reduceIte, implies_true, true_imp_iff, false_imp_iff, zcall0, zcall1, zcall2, zcall3, zcall4, zsto_eq, zsto_ne, zsto_fn, zok13, zok6, zok15, znb_0, zrng_hit, zrng_ne, zrng_fn, zcpy_ne, zcpy_fn]
  have e10 : zsto σ 20 0 17 0 20 0 10 = σ 20 0 10 := by simp (disch := omega) only [zwr_id, zT_lt, zF_lt, zT_le, zF_le, zT_eq, zF_eq, zT_neq, zF_neq, zT_nlt, zT_nle, and_true, true_and, and_false, false_and, and_self, or_true, true_or, or_false, false_or, or_self, not_true_eq_false, not_false_eq_true, ↓reduceIte, implies_true, true_imp_iff, false_imp_iff, zcall0, zcall1, zcall2, zcall3, zcall4, zsto_eq, zsto_ne, zsto_fn, zok13, zok6, zok15, znb_0, zrng_hit, zrng_ne, zrng_fn, zcpy_ne, zcpy_fn]
  have hp := m_part (zsto σ 20 0 17 0) hB' hw hh (Or.inl zsto_eq) h0 (by rw [eb]; exact hb) (by rw [e10]; omega) (fun _ => hM)
  obtain ⟨a1, a2, a3, a4, a5, a6⟩ := zpt_fn (zsto σ 20 0 17 0) w how from'
  have hBc : zBs (zpaC σ w how from') := by
    refine hB.fn ?_ ?_ ?_ ?_
    all_goals (unfold zpaC; simp (disch := omega) only [zwr_id, zT_lt, zF_lt, zT_le, zF_le, zT_eq, zF_eq, zT_neq, zF_neq, zT_nlt, zT_nle, and_true, true_and, and_false, false_and, and_self, or_true, true_or, or_false, false_or, or_self, not_true_eq_false, not_false_eq_true, ↓reduceIte, implies_true, true_imp_iff, false_imp_iff, zcall0, zcall1, zcall2, zcall3, zcall4, zsto_eq, zsto_ne, zsto_fn, zok13, zok6, zok15, znb_0, zrng_hit, zrng_ne, zrng_fn, zcpy_ne, zcpy_fn])
    · rw [a1 21 (by decide) (by decide) (by decide) (by decide)]; simp (disch := omega) only [zwr_id, zT_lt, zF_lt, zT_le, zF_le, zT_eq, zF_eq, zT_neq, zF_neq, zT_nlt, zT_nle, and_true, true_and, and_false, false_and, and_self, or_true, true_or, or_false, false_or, or_self, not_true_eq_false, not_false_eq_true, ↓reduceIte, implies_true, true_imp_iff, false_imp_iff, zcall0, zcall1, zcall2, zcall3, zcall4, zsto_eq, zsto_ne, zsto_fn, zok13, zok6, zok15, znb_0, zrng_hit, zrng_ne, zrng_fn, zcpy_ne, zcpy_fn]
    · rw [a1 22 (by decide) (by decide) (by decide) (by decide)]; simp (disch := omega) only [zwr_id, zT_lt, zF_lt, zT_le, zF_le, zT_eq, zF_eq, zT_neq, zF_neq, zT_nlt, zT_nle, and_true, true_and, and_false, false_and, and_self, or_true, true_or, or_false, false_or, or_self, not_true_eq_false, not_false_eq_true, ↓reduceIte, implies_true, true_imp_iff, false_imp_iff, zcall0, zcall1, zcall2, zcall3, zcall4, zsto_eq, zsto_ne, zsto_fn, zok13, zok6, zok15, znb_0, zrng_hit, zrng_ne, zrng_fn, zcpy_ne, zcpy_fn]
    · rw [a1 23 (by decide) (by decide) (by decide) (by decide)]; simp (disch := omega) only [zwr_id, zT_lt, zF_lt, zT_le, zF_le, zT_eq, zF_eq, zT_neq, zF_neq, zT_nlt, zT_nle, and_true, true_and, and_false, false_and, and_self, or_true, true_or, or_false, false_or, or_self, not_true_eq_false, not_false_eq_true, ↓reduceIte, implies_true, true_imp_iff, false_imp_iff, zcall0, zcall1, zcall2, zcall3, zcall4, zsto_eq, zsto_ne, zsto_fn, zok13, zok6, zok15, znb_0, zrng_hit, zrng_ne, zrng_fn, zcpy_ne, zcpy_fn]
    · rw [a1 25 (by decide) (by decide) (by decide) (by decide)]; simp (disch := omega) only [zwr_id, zT_lt, zF_lt, zT_le, zF_le, zT_eq, zF_eq, zT_neq, zF_neq, zT_nlt, zT_nle, and_true, true_and, and_false, false_and, and_self, or_true, true_or, or_false, false_or, or_self, not_true_eq_false, not_false_eq_true, ↓reduceIte, implies_true, true_imp_iff, false_imp_iff, zcall0, zcall1, zcall2, zcall3, zcall4, zsto_eq, zsto_ne, zsto_fn, zok13, zok6, zok15, znb_0, zrng_hit, zrng_ne, zrng_fn, zcpy_ne, zcpy_fn]
  have ec10 : zpaC σ w how from' 20 0 10 = σ 20 0 10 := by
    unfold zpaC
    simp (disch := omega) only [zwr_id, zT_lt, zF_lt, zT_le, zF_le, zT_eq, zF_eq, zT_neq, zF_neq, zT_nlt, zT_nle, and_true, true_and, and_false, false_and, and_self, or_true, true_or, or_false, false_or, or_self, not_true_eq_false, not_false_eq_true, ↓reduceIte, implies_true, true_imp_iff, false_imp_iff, zcall0, zcall1, zcall2, zcall3, zcall4, zsto_eq, zsto_ne, zsto_fn, zok13, zok6, zok15, znb_0, zrng_hit, zrng_ne, zrng_fn, zcpy_ne, zcpy_fn]
    rw [a2 10 (by decide) (by decide), e10]
  have hrm := m_remember (zpaC σ w how from') hBc hw (by rw [ec10]; exact hr)
  rw [ec10] at hrm
  have q21 := (zrmb_fn (zpaC σ w how from') w (if w = 0 then σ 20 0 10 else 0)).1 21 (by decide) (by decide) (by decide) (by decide) (by decide) (by decide)
  have hsv := m_save (zrmb (zpaC σ w how from') w (if w = 0 then σ 20 0 10 else 0)) (fun k k1 k2 => by rw [q21]; exact (hBc k k1 k2).1)
  rw [u_M_putAll, e_M_putAll_0]
  simp (disch := omega) only [hp, zwr_id, zT_lt, zF_lt, zT_le, zF_le, zT_eq, zF_eq, zT_neq, zF_neq, zT_nlt, zT_nle, and_true, true_and, and_false, false_and, and_self, or_true, true_or, or_false, false_or, or_self, not_true_eq_false, not_false_eq_true, ↓reduceIte, implies_true, true_imp_iff, false_imp_iff, zcall0, zcall1, zcall2, zcall3, zcall4, zsto_eq, zsto_ne, zsto_fn, zok13, zok6, zok15, znb_0, zrng_hit, zrng_ne, zrng_fn, zcpy_ne, zcpy_fn]
  have ec : zsto (zsto (zpt (zsto σ 20 0 17 0) w how from') 20 0 7 (zpt (zsto σ 20 0 17 0) w how from' 20 0 16)) 20 0 9 0 = zpaC σ w how from' := rfl
  rw [ec, hrm, zcall0, hsv, zcall0]
  rfl
/-- before the writing proper: counted -/
def zcnt (σ : ZT) (w how from' : Int) : ZT := zpt (zsto (zsto σ 20 0 0 0) 20 0 17 1) w how from'
theorem m_write1 (σ : ZT) (hB : zBs σ) {how : Int} (hh : 0 ≤ how ∧ how ≤ 2) : f_M_write [(20, 0), (0, how)] σ = some (0, zpa (zcnt σ 1 how 0) 1 how 0 20 0 7, zpa (zcnt σ 1 how 0) 1 how 0) := by
  have hb1 : ∀ τ : ZT, zbef τ 1 = 0 := fun τ => rfl
  have hB1 : zBs (zsto (zsto σ 20 0 0 0) 20 0 17 1) := hB.fn (by simp (disch := omega) only [zwr_id, zT_lt, zF_lt, zT_le, zF_le, zT_eq, zF_eq, zT_neq, zF_neq, zT_nlt, zT_nle, and_true, true_and, and_false, false_and, and_self, or_true, true_or, or_false, false_or, or_self, not_true_eq_false, not_false_eq_true, ↓reduceIte, implies_true, true_imp_iff, false_imp_iff, zcall0, zcall1, zcall2, zcall3, zcall4, zsto_eq, zsto_ne, zsto_fn, zok13, zok6, zok15, znb_0, zrng_hit, zrng_ne, zrng_fn, zcpy_ne, zcpy_fn]) (by simp (disch := omega) only [zwr_id, zT_lt, zF_lt, zT_le, zF_le, zT_eq, zF_eq, zT_neq, zF_neq, zT_nlt, zT_nle, and_true, true_and, and_false, false_and, and_self, or_true, true_or, or_false, false_or, or_self, not_true_eq_false, not_false_eq_true, ↓reduceIte, implies_true, true_imp_iff, false_imp_iff, zcall0, zcall1, zcall2, zcall3, zcall4, zsto_eq, zsto_ne, zsto_fn, zok13, zok6, zok15, znb_0, zrng_hit, zrng_ne, zrng_fn, zcpy_ne, zcpy_fn]) (by simp (disch := omega) only [zwr_id, zT_lt, zF_lt, zT_le, zF_le, zT_eq, zF_eq, zT_neq, zF_neq, zT_nlt, zT_nle, and_true, true_and, and_false, false_and, and_self, or_true, true_or, or_false, false_or, or_self, not_true_eq_false, not_false_eq_true, ↓reduceIte, implies_true, true_imp_iff, false_imp_iff, zcall0, zcall1, zcall2, zcall3, zcall4, zsto_eq, zsto_ne, zsto_fn, zok13, zok6, zok15, znb_0, zrng_hit, zrng_ne, zrng_fn, zcpy_ne, zcpy_fn]) (by simp (disch := omega) only [zwr_id, zT_lt, zF_lt, zT_le, zF_le, zT_eq, zF_eq, zT_neq, zF_neq, zT_nlt, zT_nle, and_true, true_and, and_false, false_and, and_self, or_true, true_or, or_false, false_or, or_self, not_true_eq_false, not_false_eq_true, ↓reduceIte, implies_true, true_imp_iff, false_imp_iff, zcall0, zcall1, zcall2, zcall3, zcall4, zsto_eq, zsto_ne, zsto_fn, zok13, zok6, zok15, znb_0, zrng_hit, zrng_ne, zrng_fn, zcpy_ne, zcpy_fn])
  have hp := m_part (zsto (zsto σ 20 0 0 0) 20 0 17 1) hB1 (w := 1) (from' := 0) (Or.inr rfl) hh (Or.inr zsto_eq) (by omega) (by rw [hb1]; omega) (fun q => by omega) (fun q => by rw [zsto_eq] at q; omega)
  have hl1 := zpt_pos (zsto (zsto σ 20 0 0 0) 20 0 17 1) 1 how 0
  have hl2 := zptl_bd hB1 (w := 1) hh
  have hl3 := zendM_bd hB1 (w := 1) (how := how) (from' := 0) hh (by omega) (by rw [hb1]; omega)
  obtain ⟨a1, a2, a3, a4, a5, a6⟩ := zpt_fn (zsto (zsto σ 20 0 0 0) 20 0 17 1) 1 how 0
  have hB2 : zBs (zcnt σ 1 how 0) := by
    unfold zcnt
    exact hB1.fn (a1 21 (by decide) (by decide) (by decide) (by decide)) (a1 22 (by decide) (by decide) (by decide) (by decide)) (a1 23 (by decide) (by decide) (by decide) (by decide)) (a1 25 (by decide) (by decide) (by decide) (by decide))
  have hB3 : zBs (zsto (zcnt σ 1 how 0) 20 0 17 0) := hB2.fn (by simp (disch := omega) only [zwr_id, zT_lt, zF_lt, zT_le, zF_le, zT_eq, zF_eq, zT_neq, zF_neq, zT_nlt, zT_nle, and_true, true_and, and_false, false_and, and_self, or_true, true_or, or_false, false_or, or_self, not_true_eq_false, not_false_eq_true, ↓reduceIte, implies_true, true_imp_iff, false_imp_iff, zcall0, zcall1, zcall2, zcall3, zcall4, zsto_eq, zsto_ne, zsto_fn, zok13, zok6, zok15, znb_0, zrng_hit, zrng_ne, zrng_fn, zcpy_ne, zcpy_fn]) (by simp (disch := omega) only [zwr_id, zT_lt, zF_lt, zT_le, zF_le, zT_eq, zF_eq, zT_neq, zF_neq, zT_nlt, zT_nle, and_true, true_and, and_false, false_and, and_self, or_true, true_or, or_false, false_or, or_self, not_true_eq_false, not_false_eq_true, ↓reduceIte, implies_true, true_imp_iff, false_imp_iff, zcall0, zcall1, zcall2, zcall3, zcall4, zsto_eq, zsto_ne, zsto_fn, zok13, zok6, zok15, znb_0, zrng_hit, zrng_ne, zrng_fn, zcpy_ne, zcpy_fn]) (by simp (disch := omega) only [zwr_id, zT_lt, zF_lt, zT_le, zF_le, zT_eq, zF_eq, zT_neq, zF_neq, zT_nlt, zT_nle, and_true, true_and, and_false, false_and, and_self, or_true, true_or, or_false, false_or, or_self, not_true_eq_false, not_false_eq_true, ↓reduceIte, implies_true, true_imp_iff, false_imp_iff, zcall0, zcall1, zcall2, zcall3, zcall4, zsto_eq, zsto_ne, zsto_fn, zok13, zok6, zok15, znb_0, zrng_hit, zrng_ne, zrng_fn, zcpy_ne, zcpy_fn]) (by simp (disch := omega) only [zwr_id, zT_lt, zF_lt, zT_le, zF_le, zT_eq, zF_eq, zT_neq, zF_neq, zT_nlt, zT_nle, and_true, true_and, and_false, false_and, and_self, or_true, true_or, or_false, false_or, or_self, not_true_eq_false, not_false_eq_true, ↓reduceIte, implies_true, true_imp_iff, false_imp_iff, zcall0, zcall1, zcall2, zcall3, zcall4, zsto_eq, zsto_ne, zsto_fn, zok13, zok6, zok15, znb_0, zrng_hit, zrng_ne, zrng_fn, zcpy_ne, zcpy_fn])
  have hm1 := zpt_pos (zsto (zcnt σ 1 how 0) 20 0 17 0) 1 how 0
  have hm2 := zptl_bd hB3 (w := 1) hh
  have hm3 := zendM_bd hB3 (w := 1) (how := how) (from' := 0) hh (by omega) (by rw [hb1]; omega)
  have hall := m_putAll (zcnt σ 1 how 0) hB2 (w := 1) (how := how) (from' := 0) (Or.inr rfl) hh (by omega) (by rw [hb1]; omega) (fun q => by omega) (by omega)
  rw [u_M_write, e_M_write_0]
  simp (disch := omega) only [e_M_write_15, hp, zwr_id, zT_lt, zF_lt, zT_le, zF_le, zT_eq, zF_eq, zT_neq, zF_neq, zT_nlt, zT_nle, and_true, true_and, and_false, false_and, and_self, or_true, true_or, or_false, false_or, or_self, not_true_eq_false, not_false_eq_true, ↓reduceIte, implies_true, true_imp_iff, false_imp_iff, zcall0, zcall1, zcall2, zcall3, zcall4, zsto_eq, zsto_ne, zsto_fn, zok13, zok6, zok15, znb_0, zrng_hit, zrng_ne, zrng_fn, zcpy_ne, zcpy_fn]
  have ec : zpt (zsto (zsto σ 20 0 0 0) 20 0 17 1) 1 how 0 = zcnt σ 1 how 0 := rfl
  rw [ec] at hl1 ⊢
  simp (disch := omega) only [hall, zwr_id, zT_lt, zF_lt, zT_le, zF_le, zT_eq, zF_eq, zT_neq, zF_neq, zT_nlt, zT_nle, and_true, true_and, and_false, false_and, and_self, or_true, true_or, or_false, false_or, or_self, not_true_eq_false, not_false_eq_true, ↓reduceIte, implies_true, true_imp_iff, false_imp_iff, zcall0, zcall1, zcall2, zcall3, zcall4, zsto_eq, zsto_ne, zsto_fn, zok13, zok6, zok15, znb_0, zrng_hit, zrng_ne, zrng_fn, zcpy_ne, zcpy_fn]
theorem m_write0 (σ : ZT) {how : Int} (h : zI how) (hh : ¬ (0 ≤ how ∧ how ≤ 2)) : f_M_write [(20, 0), (0, how)] σ = some (0, 0, zsto σ 20 0 0 1) := by
  rw [u_M_write, e_M_write_0]
  by_cases h1 : how < 0
  · simp (disch := omega) only [e_M_write_10, e_M_write_15, zwr_id, zT_lt, zF_lt, zT_le, zF_le, zT_eq, zF_eq, zT_neq, zF_neq, zT_nlt, zT_nle, and_true, true_and, and_false, false_and, and_self, or_true, true_or, or_false, false_or, or_self, not_true_eq_false, not_false_eq_true, ↓reduceIte, implies_true, true_imp_iff, false_imp_iff, zcall0, zcall1, zcall2, zcall3, zcall4, zsto_eq, zsto_ne, zsto_fn, zok13, zok6, zok15, znb_0, zrng_hit, zrng_ne, zrng_fn, zcpy_ne, zcpy_fn]
  · simp (disch := omega) only [e_M_write_10, e_M_write_15, zwr_id, zT_lt, zF_lt, zT_le, zF_le, zT_eq, zF_eq, zT_neq, zF_neq, zT_nlt, zT_nle, and_true, true_and, and_false, false_and, and_self, or_true, true_or, or_false, false_or, or_self, not_true_eq_false, not_false_eq_true, ↓reduceIte, implies_true, true_imp_iff, false_imp_iff, zcall0, zcall1, zcall2, zcall3, zcall4, zsto_eq, zsto_ne, zsto_fn, zok13, zok6, zok15, znb_0, zrng_hit, zrng_ne, zrng_fn, zcpy_ne, zcpy_fn]
