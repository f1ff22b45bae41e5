/-! THE REFERENCE's PART -/
theorem zmean_em (σ : ZT) (bs : List Int) (w : Int) : zmean (zme σ bs) w = zmean σ w := by
  funext k
  unfold zmean
  rw [(zme_fn σ bs).2.1 23 (by decide) (by decide), (zme_fn σ bs).2.1 21 (by decide) (by decide)]
theorem m_part_count {w from' how x : Int} (σ : ZT) (hB : zBs σ) (hw : w = 0 ∨ w = 1) : ∀ (m : Nat) (k a : Int), 1 ≤ k → 41 - k = m → 0 ≤ a → a ≤ k → zrun C_M_putPart (51, [(20, 0), (0, from'), (0, w), (0, how), (0, x), (0, a), (0, k)], [], σ) = zcall (f_M_putTold [(20, 0), (0, 120), (0, zct (zmean σ w) m k a)] σ) (fun v1 σ2 => zrun C_M_putPart (96, [(20, 0), (0, from'), (0, w), (0, how), (0, x), (0, zct (zmean σ w) m k a), (0, 1)], [], σ2)) (fun e3 σ4 => some (e3 + 1, 0, σ4))
  | 0, k, a, h1, hk, h2, h3 => by
    rw [e_M_putPart_51]
    simp (disch := omega) only [zwr_id, zT_lt, zF_lt, zT_le, zF_le, zT_eq, zF_eq, zT_neq, zF_neq, zT_nlt, zT_nle, and_true, true_and, and_false, false_and, and_self, or_true, true_or, or_false, false_or, or_self, not_true_eq_false, not_false_eq_true, ↓reduceIte, implies_true, true_imp_iff, false_imp_iff, zcall0, zcall1, zcall2, zcall3, zcall4, zsto_eq, zsto_ne, zsto_fn, zok13, zok6, zok15, znb_0, zrng_hit, zrng_ne, zrng_fn, zcpy_ne, zcpy_fn]
    rfl
  | m + 1, k, a, h1, hk, h2, h3 => by
    obtain ⟨b1, b2, b3⟩ := hB k h1 (by omega)
    have ih0 := m_part_count (from' := from') (how := how) (x := x) σ hB hw m (k + 1) a (by omega) (by omega) (by omega) (by omega)
    have ih1 := m_part_count (from' := from') (how := how) (x := x) σ hB hw m (k + 1) (a + 1) (by omega) (by omega) (by omega) (by omega)
    have hm : f_M_isMeant [(20, 0), (0, k), (0, w)] σ = some (0, zmean σ w k, σ) := m_isMeant σ ⟨h1, by omega⟩ hw b1 b2
    have hmb : zmean σ w k = 0 ∨ zmean σ w k = 1 := by unfold zmean; split <;> omega
    rw [e_M_putPart_51, zct]
    rcases hmb with q | q
    · rw [if_pos q, ← ih0]
      simp (disch := omega) only [hm, q, e_M_putPart_77, zwr_id, zT_lt, zF_lt, zT_le, zF_le, zT_eq, zF_eq, zT_neq, zF_neq, zT_nlt, zT_nle, and_true, true_and, and_false, false_and, and_self, or_true, true_or, or_false, false_or, or_self, not_true_eq_false, not_false_eq_true, ↓reduceIte, implies_true, true_imp_iff, false_imp_iff, zcall0, zcall1, zcall2, zcall3, zcall4, zsto_eq, zsto_ne, zsto_fn, zok13, zok6, zok15, znb_0, zrng_hit, zrng_ne, zrng_fn, zcpy_ne, zcpy_fn]
    · rw [if_neg (show ¬ zmean σ w k = 0 by omega), ← ih1]
      simp (disch := omega) only [hm, q, e_M_putPart_77, zwr_id, zT_lt, zF_lt, zT_le, zF_le, zT_eq, zF_eq, zT_neq, zF_neq, zT_nlt, zT_nle, and_true, true_and, and_false, false_and, and_self, or_true, true_or, or_false, false_or, or_self, not_true_eq_false, not_false_eq_true, ↓reduceIte, implies_true, true_imp_iff, false_imp_iff, zcall0, zcall1, zcall2, zcall3, zcall4, zsto_eq, zsto_ne, zsto_fn, zok13, zok6, zok15, znb_0, zrng_hit, zrng_ne, zrng_fn, zcpy_ne, zcpy_fn]
theorem zBs.em {σ : ZT} (h : zBs σ) (bs : List Int) : zBs (zme σ bs) := by
  unfold zBs at h ⊢
  rw [(zme_fn σ bs).2.1 21 (by decide) (by decide), (zme_fn σ bs).2.1 22 (by decide) (by decide), (zme_fn σ bs).2.1 23 (by decide) (by decide), (zme_fn σ bs).2.1 25 (by decide) (by decide)]
  exact h
theorem m_part_rows {w from' how x a : Int} (hw : w = 0 ∨ w = 1) : ∀ (m : Nat) (k : Int) (σ : ZT), zBs σ → (∀ j, 1 ≤ j → j ≤ 40 → σ 21 0 j = 1 → zmean σ w j ≠ 0 → 0 ≤ σ 33 0 j ∧ σ 33 0 j ≤ 99999) → zMok σ (zrws (zmean σ w) (σ 21 0) (σ 33 0) m k).length → 1 ≤ k → 41 - k = m → zrun C_M_putPart (96, [(20, 0), (0, from'), (0, w), (0, how), (0, x), (0, a), (0, k)], [], σ) = zrun C_M_putPart (96, [(20, 0), (0, from'), (0, w), (0, how), (0, x), (0, a), (0, 41)], [], zme σ (zrws (zmean σ w) (σ 21 0) (σ 33 0) m k))
  | 0, k, σ, hB, hp, hM, h1, hk => by
    have : k = 41 := by omega
    subst this
    rfl
  | m + 1, k, σ, hB, hp, hM, h1, hk => by
    obtain ⟨b1, b2, b3⟩ := hB k h1 (by omega)
    have hm : f_M_isMeant [(20, 0), (0, k), (0, w)] σ = some (0, zmean σ w k, σ) := m_isMeant σ ⟨h1, by omega⟩ hw b1 b2
    have hmb : zmean σ w k = 0 ∨ zmean σ w k = 1 := by unfold zmean; split <;> omega
    rw [zrws, List.length_append] at hM
    rw [zrws, zme_app]
    generalize hbs : (if zmean σ w k = 0 then [] else zrow k (σ 21 0 k) (σ 33 0 k)) = bs at hM ⊢
    have q := (zme_fn σ bs).2.1
    have ih := m_part_rows (from' := from') (how := how) (x := x) (a := a) hw m (k + 1) (zme σ bs) (hB.em bs) (by rw [q 21 (by decide) (by decide), q 33 (by decide) (by decide), zmean_em]; exact hp) (by rw [q 21 (by decide) (by decide), q 33 (by decide) (by decide), zmean_em]; exact zMok.em bs (hM.le (by omega))) (by omega) (by omega)
    rw [q 21 (by decide) (by decide), q 33 (by decide) (by decide), zmean_em] at ih
    rw [← ih, e_M_putPart_96]
    rcases hmb with q1 | q1
    · rw [if_pos q1] at hbs
      subst hbs
      simp (disch := omega) only [hm, q1, e_M_putPart_119, zwr_id, zT_lt, zF_lt, zT_le, zF_le, zT_eq, zF_eq, zT_neq, zF_neq, zT_nlt, zT_nle, and_true, true_and, and_false, false_and, and_self, or_true, true_or, or_false, false_or, or_self, not_true_eq_false, not_false_eq_true, ↓reduceIte, implies_true, true_imp_iff, false_imp_iff, zcall0, zcall1, zcall2, zcall3, zcall4, zsto_eq, zsto_ne, zsto_fn, zok13, zok6, zok15, znb_0, zrng_hit, zrng_ne, zrng_fn, zcpy_ne, zcpy_fn]
      rfl
    · rw [if_neg (show ¬ zmean σ w k = 0 by omega)] at hbs
      have hr := m_putRow σ (n := k) ⟨h1, by omega⟩ b1 (fun q2 => hp k h1 (by omega) q2 (by omega)) (by rw [hbs]; exact hM.le (by omega))
      rw [hbs] at hr
      simp (disch := omega) only [hm, q1, hr, e_M_putPart_119, zwr_id, zT_lt, zF_lt, zT_le, zF_le, zT_eq, zF_eq, zT_neq, zF_neq, zT_nlt, zT_nle, and_true, true_and, and_false, false_and, and_self, or_true, true_or, or_false, false_or, or_self, not_true_eq_false, not_false_eq_true, ↓reduceIte, implies_true, true_imp_iff, false_imp_iff, zcall0, zcall1, zcall2, zcall3, zcall4, zsto_eq, zsto_ne, zsto_fn, zok13, zok6, zok15, znb_0, zrng_hit, zrng_ne, zrng_fn, zcpy_ne, zcpy_fn]
/-- what comes behind the records -/
def zendM (σ : ZT) (w b x : Int) : List Int := ztd 120 (zct (zmean σ w) 40 1 0) ++ (zrws (zmean σ w) (σ 21 0) (σ 33 0) 40 1 ++ (ztd 112 b ++ ztd 101 x))
/-- the head of a file -/
def zhdr (w : Int) : List Int := if w = 0 then [] else [37, 70, 49, 10]
/-- the part, up to its records -/
def zpt1 (σ : ZT) (w how from' : Int) : ZT := zmrs (zme (zsto σ 20 0 16 from') (zhdr w)) (znl σ w how)
def zbef (σ : ZT) (w : Int) : Int := if w = 0 then σ 29 0 (σ 20 0 10 - 1) else 0
/-- the part -/
def zpt (σ : ZT) (w how from' : Int) : ZT := zsto (zme (zpt1 σ w how from') (zendM (zpt1 σ w how from') w (zbef σ w) (zpt1 σ w how from' 20 0 16))) 20 0 26 (zpt1 σ w how from' 20 0 16)
def zptl (σ : ZT) (w how : Int) : Int := (zhdr w).length + zrl σ (znl σ w how)
theorem zmrs_fn : ∀ (ns : List Int) (σ : ZT), (∀ k : Nat, k ≠ 20 → k ≠ 27 → k ≠ 33 → k ≠ 34 → zmrs σ ns k = σ k) ∧ (∀ s, s ≠ 16 → zmrs σ ns 20 0 s = σ 20 0 s) ∧ (∀ j, j < σ 20 0 16 → zmrs σ ns 27 0 j = σ 27 0 j) ∧ (σ 20 0 17 ≠ 0 → zmrs σ ns 27 = σ 27) ∧ (zSimB σ → zSimB (zmrs σ ns))
  | [], σ => ⟨fun _ _ _ _ _ => rfl, fun _ _ => rfl, fun _ _ => rfl, fun _ => rfl, fun h => h⟩
  | n :: ns, σ => by
    obtain ⟨a1, a2, a3, a4, a5, a6, a7, a8⟩ := zmr_fn σ n
    obtain ⟨c1, c2, c3, c4, c5⟩ := zmrs_fn ns (zmr σ n)
    refine ⟨fun k k1 k2 k3 k4 => (c1 k k1 k2 k3 k4).trans (a1 k k1 k2 k3 k4), fun s hs => (c2 s hs).trans (a2 s hs), fun j hj => (c3 j (by omega)).trans (a4 j hj), fun q => (c4 (by rw [a2 17 (by decide)]; exact q)).trans (a5 q), fun h => c5 (a6 h)⟩
theorem zpt1_fn (σ : ZT) (w how from' : Int) : (∀ k : Nat, k ≠ 20 → k ≠ 27 → k ≠ 33 → k ≠ 34 → zpt1 σ w how from' k = σ k) ∧ (∀ s, s ≠ 16 → zpt1 σ w how from' 20 0 s = σ 20 0 s) ∧ (∀ j, j < from' → zpt1 σ w how from' 27 0 j = σ 27 0 j) ∧ (σ 20 0 17 ≠ 0 → zpt1 σ w how from' 27 = σ 27) ∧ (zSimB σ → zSimB (zpt1 σ w how from')) ∧ zpt1 σ w how from' 20 0 16 = from' + zptl σ w how := by
  unfold zpt1 zptl
  obtain ⟨a1, a2, a3, a4, a5, a6⟩ := zme_fn (zsto σ 20 0 16 from') (zhdr w)
  obtain ⟨c1, c2, c3, c4, c5⟩ := zmrs_fn (znl σ w how) (zme (zsto σ 20 0 16 from') (zhdr w))
  have e16 : zsto σ 20 0 16 from' 20 0 16 = from' := zsto_eq
  refine ⟨fun k k1 k2 k3 k4 => ?_, fun s hs => ?_, fun j hj => ?_, fun q => ?_, fun h => c5 (a6 (zSimB.sto h (by omega))), ?_⟩
  · rw [c1 k k1 k2 k3 k4, a2 k k1 k2]; simp (disch := omega) only [zwr_id, zT_lt, zF_lt, zT_le, zF_le, zT_eq, zF_eq, zT_neq, zF_neq, zT_nlt, zT_nle, and_true, true_and, and_false, false_and, and_self, or_true, true_or, or_false, false_or, or_self, not_true_eq_false, not_false_eq_true, ↓reduceIte, implies_true, true_imp_iff, false_imp_iff, zcall0, zcall1, zcall2, zcall3, zcall4, zsto_eq, zsto_ne, zsto_fn, zok13, zok6, zok15, znb_0, zrng_hit, zrng_ne, zrng_fn, zcpy_ne, zcpy_fn]
  · rw [c2 s hs, a3 s hs]; simp (disch := omega) only [zwr_id, zT_lt, zF_lt, zT_le, zF_le, zT_eq, zF_eq, zT_neq, zF_neq, zT_nlt, zT_nle, and_true, true_and, and_false, false_and, and_self, or_true, true_or, or_false, false_or, or_self, not_true_eq_false, not_false_eq_true, ↓reduceIte, implies_true, true_imp_iff, false_imp_iff, zcall0, zcall1, zcall2, zcall3, zcall4, zsto_eq, zsto_ne, zsto_fn, zok13, zok6, zok15, znb_0, zrng_hit, zrng_ne, zrng_fn, zcpy_ne, zcpy_fn]
  · rw [c3 j (by rw [a1, e16]; omega), a4 j (by rw [e16]; exact hj)]; simp (disch := omega) only [zwr_id, zT_lt, zF_lt, zT_le, zF_le, zT_eq, zF_eq, zT_neq, zF_neq, zT_nlt, zT_nle, and_true, true_and, and_false, false_and, and_self, or_true, true_or, or_false, false_or, or_self, not_true_eq_false, not_false_eq_true, ↓reduceIte, implies_true, true_imp_iff, false_imp_iff, zcall0, zcall1, zcall2, zcall3, zcall4, zsto_eq, zsto_ne, zsto_fn, zok13, zok6, zok15, znb_0, zrng_hit, zrng_ne, zrng_fn, zcpy_ne, zcpy_fn]
  · rw [c4 (by rw [a3 17 (by decide)]; simp (disch := omega) only [zwr_id, zT_lt, zF_lt, zT_le, zF_le, zT_eq, zF_eq, zT_neq, zF_neq, zT_nlt, zT_nle, and_true, true_and, and_false, false_and, and_self, or_true, true_or, or_false, false_or, or_self, not_true_eq_false, not_false_eq_true, ↓reduceIte, implies_true, true_imp_iff, false_imp_iff, zcall0, zcall1, zcall2, zcall3, zcall4, zsto_eq, zsto_ne, zsto_fn, zok13, zok6, zok15, znb_0, zrng_hit, zrng_ne, zrng_fn, zcpy_ne, zcpy_fn]; exact q), a5 (by simp (disch := omega) only [zwr_id, zT_lt, zF_lt, zT_le, zF_le, zT_eq, zF_eq, zT_neq, zF_neq, zT_nlt, zT_nle, and_true, true_and, and_false, false_and, and_self, or_true, true_or, or_false, false_or, or_self, not_true_eq_false, not_false_eq_true, ↓reduceIte, implies_true, true_imp_iff, false_imp_iff, zcall0, zcall1, zcall2, zcall3, zcall4, zsto_eq, zsto_ne, zsto_fn, zok13, zok6, zok15, znb_0, zrng_hit, zrng_ne, zrng_fn, zcpy_ne, zcpy_fn]; exact q)]; simp (disch := omega) only [zwr_id, zT_lt, zF_lt, zT_le, zF_le, zT_eq, zF_eq, zT_neq, zF_neq, zT_nlt, zT_nle, and_true, true_and, and_false, false_and, and_self, or_true, true_or, or_false, false_or, or_self, not_true_eq_false, not_false_eq_true, ↓reduceIte, implies_true, true_imp_iff, false_imp_iff, zcall0, zcall1, zcall2, zcall3, zcall4, zsto_eq, zsto_ne, zsto_fn, zok13, zok6, zok15, znb_0, zrng_hit, zrng_ne, zrng_fn, zcpy_ne, zcpy_fn]
  · have hE : zEq5 (zme (zsto σ 20 0 16 from') (zhdr w)) σ := ⟨by rw [a2 21 (by decide) (by decide)]; simp (disch := omega) only [zwr_id, zT_lt, zF_lt, zT_le, zF_le, zT_eq, zF_eq, zT_neq, zF_neq, zT_nlt, zT_nle, and_true, true_and, and_false, false_and, and_self, or_true, true_or, or_false, false_or, or_self, not_true_eq_false, not_false_eq_true, ↓reduceIte, implies_true, true_imp_iff, false_imp_iff, zcall0, zcall1, zcall2, zcall3, zcall4, zsto_eq, zsto_ne, zsto_fn, zok13, zok6, zok15, znb_0, zrng_hit, zrng_ne, zrng_fn, zcpy_ne, zcpy_fn], by rw [a2 22 (by decide) (by decide)]; simp (disch := omega) only [zwr_id, zT_lt, zF_lt, zT_le, zF_le, zT_eq, zF_eq, zT_neq, zF_neq, zT_nlt, zT_nle, and_true, true_and, and_false, false_and, and_self, or_true, true_or, or_false, false_or, or_self, not_true_eq_false, not_false_eq_true, ↓reduceIte, implies_true, true_imp_iff, false_imp_iff, zcall0, zcall1, zcall2, zcall3, zcall4, zsto_eq, zsto_ne, zsto_fn, zok13, zok6, zok15, znb_0, zrng_hit, zrng_ne, zrng_fn, zcpy_ne, zcpy_fn], by rw [a2 23 (by decide) (by decide)]; simp (disch := omega) only [zwr_id, zT_lt, zF_lt, zT_le, zF_le, zT_eq, zF_eq, zT_neq, zF_neq, zT_nlt, zT_nle, and_true, true_and, and_false, false_and, and_self, or_true, true_or, or_false, false_or, or_self, not_true_eq_false, not_false_eq_true, ↓reduceIte, implies_true, true_imp_iff, false_imp_iff, zcall0, zcall1, zcall2, zcall3, zcall4, zsto_eq, zsto_ne, zsto_fn, zok13, zok6, zok15, znb_0, zrng_hit, zrng_ne, zrng_fn, zcpy_ne, zcpy_fn], by rw [a2 25 (by decide) (by decide)]; simp (disch := omega) only [zwr_id, zT_lt, zF_lt, zT_le, zF_le, zT_eq, zF_eq, zT_neq, zF_neq, zT_nlt, zT_nle, and_true, true_and, and_false, false_and, and_self, or_true, true_or, or_false, false_or, or_self, not_true_eq_false, not_false_eq_true, ↓reduceIte, implies_true, true_imp_iff, false_imp_iff, zcall0, zcall1, zcall2, zcall3, zcall4, zsto_eq, zsto_ne, zsto_fn, zok13, zok6, zok15, znb_0, zrng_hit, zrng_ne, zrng_fn, zcpy_ne, zcpy_fn], by rw [a2 26 (by decide) (by decide)]; simp (disch := omega) only [zwr_id, zT_lt, zF_lt, zT_le, zF_le, zT_eq, zF_eq, zT_neq, zF_neq, zT_nlt, zT_nle, and_true, true_and, and_false, false_and, and_self, or_true, true_or, or_false, false_or, or_self, not_true_eq_false, not_false_eq_true, ↓reduceIte, implies_true, true_imp_iff, false_imp_iff, zcall0, zcall1, zcall2, zcall3, zcall4, zsto_eq, zsto_ne, zsto_fn, zok13, zok6, zok15, znb_0, zrng_hit, zrng_ne, zrng_fn, zcpy_ne, zcpy_fn]⟩
    rw [(zmrs_eq5 (znl σ w how) hE).2.2, a1, e16]
    omega
theorem m_putPart (σ : ZT) (hB : zBs σ) {w how from' : Int} (hw : w = 0 ∨ w = 1) (hh : 0 ≤ how ∧ how ≤ 2) (h17 : σ 20 0 17 = 0 ∨ σ 20 0 17 = 1) (h0 : 0 ≤ from') (hb : 0 ≤ zbef σ w ∧ zbef σ w ≤ 99999) (hr : w = 0 → 1 ≤ σ 20 0 10 ∧ σ 20 0 10 ≤ 60) (hp : ∀ j, 1 ≤ j → j ≤ 40 → σ 21 0 j = 1 → zmean σ w j ≠ 0 → 0 ≤ zpt1 σ w how from' 33 0 j ∧ zpt1 σ w how from' 33 0 j ≤ 99999) (hM1 : from' + zptl σ w how + (zendM (zpt1 σ w how from') w (zbef σ w) (from' + zptl σ w how)).length ≤ 50000) (hM2 : σ 20 0 17 = 0 → from' + zptl σ w how + (zendM (zpt1 σ w how from') w (zbef σ w) (from' + zptl σ w how)).length ≤ 12000) : f_M_putPart [(20, 0), (0, from'), (0, w), (0, how)] σ = some (0, zpt σ w how from' 20 0 16, zpt σ w how from') := by
  have hzl : 0 ≤ zptl σ w how := by unfold zptl; have := zrl_nn σ (znl σ w how); omega
  obtain ⟨p1, p2, p3, p4, p5, p6⟩ := zpt1_fn σ w how from'
  generalize hσ1 : zme (zsto σ 20 0 16 from') (zhdr w) = σ1
  obtain ⟨a1, a2, a3, a4, a5, a6⟩ := zme_fn (zsto σ 20 0 16 from') (zhdr w)
  rw [hσ1] at a1 a2 a3
  have g21 : σ1 21 = σ 21 := by rw [a2 21 (by decide) (by decide)]; simp (disch := omega) only [zwr_id, zT_lt, zF_lt, zT_le, zF_le, zT_eq, zF_eq, zT_neq, zF_neq, zT_nlt, zT_nle, and_true, true_and, and_false, false_and, and_self, or_true, true_or, or_false, false_or, or_self, not_true_eq_false, not_false_eq_true, ↓reduceIte, implies_true, true_imp_iff, false_imp_iff, zcall0, zcall1, zcall2, zcall3, zcall4, zsto_eq, zsto_ne, zsto_fn, zok13, zok6, zok15, znb_0, zrng_hit, zrng_ne, zrng_fn, zcpy_ne, zcpy_fn]
  have g22 : σ1 22 = σ 22 := by rw [a2 22 (by decide) (by decide)]; simp (disch := omega) only [zwr_id, zT_lt, zF_lt, zT_le, zF_le, zT_eq, zF_eq, zT_neq, zF_neq, zT_nlt, zT_nle, and_true, true_and, and_false, false_and, and_self, or_true, true_or, or_false, false_or, or_self, not_true_eq_false, not_false_eq_true, ↓reduceIte, implies_true, true_imp_iff, false_imp_iff, zcall0, zcall1, zcall2, zcall3, zcall4, zsto_eq, zsto_ne, zsto_fn, zok13, zok6, zok15, znb_0, zrng_hit, zrng_ne, zrng_fn, zcpy_ne, zcpy_fn]
  have g23 : σ1 23 = σ 23 := by rw [a2 23 (by decide) (by decide)]; simp (disch := omega) only [zwr_id, zT_lt, zF_lt, zT_le, zF_le, zT_eq, zF_eq, zT_neq, zF_neq, zT_nlt, zT_nle, and_true, true_and, and_false, false_and, and_self, or_true, true_or, or_false, false_or, or_self, not_true_eq_false, not_false_eq_true, ↓reduceIte, implies_true, true_imp_iff, false_imp_iff, zcall0, zcall1, zcall2, zcall3, zcall4, zsto_eq, zsto_ne, zsto_fn, zok13, zok6, zok15, znb_0, zrng_hit, zrng_ne, zrng_fn, zcpy_ne, zcpy_fn]
  have g25 : σ1 25 = σ 25 := by rw [a2 25 (by decide) (by decide)]; simp (disch := omega) only [zwr_id, zT_lt, zF_lt, zT_le, zF_le, zT_eq, zF_eq, zT_neq, zF_neq, zT_nlt, zT_nle, and_true, true_and, and_false, false_and, and_self, or_true, true_or, or_false, false_or, or_self, not_true_eq_false, not_false_eq_true, ↓reduceIte, implies_true, true_imp_iff, false_imp_iff, zcall0, zcall1, zcall2, zcall3, zcall4, zsto_eq, zsto_ne, zsto_fn, zok13, zok6, zok15, znb_0, zrng_hit, zrng_ne, zrng_fn, zcpy_ne, zcpy_fn]
  have g26 : σ1 26 = σ 26 := by rw [a2 26 (by decide) (by decide)]; simp (disch := omega) only [zwr_id, zT_lt, zF_lt, zT_le, zF_le, zT_eq, zF_eq, zT_neq, zF_neq, zT_nlt, zT_nle, and_true, true_and, and_false, false_and, and_self, or_true, true_or, or_false, false_or, or_self, not_true_eq_false, not_false_eq_true, ↓reduceIte, implies_true, true_imp_iff, false_imp_iff, zcall0, zcall1, zcall2, zcall3, zcall4, zsto_eq, zsto_ne, zsto_fn, zok13, zok6, zok15, znb_0, zrng_hit, zrng_ne, zrng_fn, zcpy_ne, zcpy_fn]
  have g17 : σ1 20 0 17 = σ 20 0 17 := by rw [a3 17 (by decide)]; simp (disch := omega) only [zwr_id, zT_lt, zF_lt, zT_le, zF_le, zT_eq, zF_eq, zT_neq, zF_neq, zT_nlt, zT_nle, and_true, true_and, and_false, false_and, and_self, or_true, true_or, or_false, false_or, or_self, not_true_eq_false, not_false_eq_true, ↓reduceIte, implies_true, true_imp_iff, false_imp_iff, zcall0, zcall1, zcall2, zcall3, zcall4, zsto_eq, zsto_ne, zsto_fn, zok13, zok6, zok15, znb_0, zrng_hit, zrng_ne, zrng_fn, zcpy_ne, zcpy_fn]
  have g16 : σ1 20 0 16 = from' + (zhdr w).length := by rw [a1]; simp (disch := omega) only [zwr_id, zT_lt, zF_lt, zT_le, zF_le, zT_eq, zF_eq, zT_neq, zF_neq, zT_nlt, zT_nle, and_true, true_and, and_false, false_and, and_self, or_true, true_or, or_false, false_or, or_self, not_true_eq_false, not_false_eq_true, ↓reduceIte, implies_true, true_imp_iff, false_imp_iff, zcall0, zcall1, zcall2, zcall3, zcall4, zsto_eq, zsto_ne, zsto_fn, zok13, zok6, zok15, znb_0, zrng_hit, zrng_ne, zrng_fn, zcpy_ne, zcpy_fn]
  have hE : zEq5 σ1 σ := ⟨g21, g22, g23, g25, g26⟩
  have hP : zpt1 σ w how from' = zmrs σ1 (znl σ w how) := by unfold zpt1; rw [hσ1]
  have hzn : zptl σ w how = (zhdr w).length + zrl σ (znl σ w how) := rfl
  have h33 : f_M_putRecords [(20, 0), (0, w), (0, how)] σ1 = some (0, 0, zpt1 σ w how from') := by
    rw [u_M_putRecords, e_M_putRecords_0, m_recs_out σ hB hw hh (ztn how) 0 σ1 _ _ hE (by omega) (by omega) (by
      show zMok σ1 (zrl σ (znl σ w how))
      unfold zMok
      rw [g17, g16]
      omega), hP]
    rfl
  have h0s : zrun C_M_putPart (0, [(20, 0), (0, from'), (0, w), (0, how), (2, 0), (2, 0), (2, 0)], [], σ) = zrun C_M_putPart (33, [(20, 0), (0, from'), (0, w), (0, how), (2, 0), (2, 0), (2, 0)], [], σ1) := by
    rw [e_M_putPart_0, ← hσ1]
    rcases hw with hw | hw
    · unfold zhdr
      simp (disch := omega) only [zwr_id, zT_lt, zF_lt, zT_le, zF_le, zT_eq, zF_eq, zT_neq, zF_neq, zT_nlt, zT_nle, and_true, true_and, and_false, false_and, and_self, or_true, true_or, or_false, false_or, or_self, not_true_eq_false, not_false_eq_true, ↓reduceIte, implies_true, true_imp_iff, false_imp_iff, zcall0, zcall1, zcall2, zcall3, zcall4, zsto_eq, zsto_ne, zsto_fn, zok13, zok6, zok15, znb_0, zrng_hit, zrng_ne, zrng_fn, zcpy_ne, zcpy_fn]
      rfl
    · subst hw
      have hz : zhdr 1 = [37, 70, 49, 10] := rfl
      rw [hz] at g16
      rw [hz] at hzn
      have hzn : zptl σ 1 how = 4 + zrl σ (znl σ 1 how) := hzn
      have := zrl_nn σ (znl σ 1 how)
      have k0 : zMok (zsto σ 20 0 16 from') 4 := by
        unfold zMok
        simp (disch := omega) only [zwr_id, zT_lt, zF_lt, zT_le, zF_le, zT_eq, zF_eq, zT_neq, zF_neq, zT_nlt, zT_nle, and_true, true_and, and_false, false_and, and_self, or_true, true_or, or_false, false_or, or_self, not_true_eq_false, not_false_eq_true, ↓reduceIte, implies_true, true_imp_iff, false_imp_iff, zcall0, zcall1, zcall2, zcall3, zcall4, zsto_eq, zsto_ne, zsto_fn, zok13, zok6, zok15, znb_0, zrng_hit, zrng_ne, zrng_fn, zcpy_ne, zcpy_fn]
        omega
      have k1 := zMok.em (n := 3) [37] (k0.le (by show ((1 : Nat) : Int) + _ ≤ _; omega))
      have k2 := zMok.em (n := 2) [70] (k1.le (by show ((1 : Nat) : Int) + _ ≤ _; omega))
      have k3 := zMok.em (n := 1) [49] (k2.le (by show ((1 : Nat) : Int) + _ ≤ _; omega))
      simp (disch := omega) only [m_put _ _ (k0.le (by omega)), m_put _ _ (k1.le (by omega)), m_put _ _ (k2.le (by omega)), m_put _ _ (k3.le (by omega)), zwr_id, zT_lt, zF_lt, zT_le, zF_le, zT_eq, zF_eq, zT_neq, zF_neq, zT_nlt, zT_nle, and_true, true_and, and_false, false_and, and_self, or_true, true_or, or_false, false_or, or_self, not_true_eq_false, not_false_eq_true, ↓reduceIte, implies_true, true_imp_iff, false_imp_iff, zcall0, zcall1, zcall2, zcall3, zcall4, zsto_eq, zsto_ne, zsto_fn, zok13, zok6, zok15, znb_0, zrng_hit, zrng_ne, zrng_fn, zcpy_ne, zcpy_fn]
      rfl
  generalize hτ : zpt1 σ w how from' = τ at h33 p1 p2 p3 p4 p5 p6 hM1 hM2 hp
  have t21 : τ 21 = σ 21 := p1 21 (by decide) (by decide) (by decide) (by decide)
  have t23 : τ 23 = σ 23 := p1 23 (by decide) (by decide) (by decide) (by decide)
  have hBτ : zBs τ := by
    unfold zBs at hB ⊢
    rw [t21, t23, p1 22 (by decide) (by decide) (by decide) (by decide), p1 25 (by decide) (by decide) (by decide) (by decide)]
    exact hB
  have hmn : zmean τ w = zmean σ w := by
    funext k
    unfold zmean
    rw [t21, t23]
  have hz := zct_bd (zmean τ w) 40 1 0
  have hlen : (zendM τ w (zbef σ w) (from' + zptl σ w how)).length = (ztd 120 (zct (zmean τ w) 40 1 0)).length + ((zrws (zmean τ w) (τ 21 0) (τ 33 0) 40 1).length + ((ztd 112 (zbef σ w)).length + (ztd 101 (from' + zptl σ w how)).length)) := by
    unfold zendM
    rw [List.length_append, List.length_append, List.length_append]
  rw [hlen] at hM1 hM2
  have k0 : zMok τ ((ztd 120 (zct (zmean τ w) 40 1 0)).length + ((zrws (zmean τ w) (τ 21 0) (τ 33 0) 40 1).length + ((ztd 112 (zbef σ w)).length + (ztd 101 (from' + zptl σ w how)).length))) := by
    unfold zMok
    rw [p2 17 (by decide), p6]
    omega
  have k1 := zMok.em (n := (zrws (zmean τ w) (τ 21 0) (τ 33 0) 40 1).length + ((ztd 112 (zbef σ w)).length + (ztd 101 (from' + zptl σ w how)).length)) (ztd 120 (zct (zmean τ w) 40 1 0)) (k0.le (by omega))
  have k2 := zMok.em (n := (ztd 112 (zbef σ w)).length + (ztd 101 (from' + zptl σ w how)).length) (zrws (zmean τ w) (τ 21 0) (τ 33 0) 40 1) (k1.le (by omega))
  have k3 := zMok.em (n := (ztd 101 (from' + zptl σ w how)).length) (ztd 112 (zbef σ w)) (k2.le (by omega))
  have c1 := m_part_count (from' := from') (how := how) (x := τ 20 0 16) τ hBτ hw 40 1 0 (by omega) (by omega) (by omega) (by omega)
  have l1 : f_M_putTold [(20, 0), (0, 120), (0, zct (zmean τ w) 40 1 0)] τ = some (0, 0, zme τ (ztd 120 (zct (zmean τ w) 40 1 0))) := m_putTold τ (by omega) (k0.le (by show ((ztd 120 (zct (zmean τ w) 40 1 0)).length : Int) ≤ _; omega))
  rw [l1, zcall0] at c1
  have q1 := (zme_fn τ (ztd 120 (zct (zmean τ w) 40 1 0))).2.1
  have r1 := m_part_rows (from' := from') (how := how) (x := τ 20 0 16) (a := zct (zmean τ w) 40 1 0) hw 40 1 (zme τ (ztd 120 (zct (zmean τ w) 40 1 0))) (hBτ.em _) (by rw [q1 21 (by decide) (by decide), q1 33 (by decide) (by decide), zmean_em, t21, hmn]; exact hp) (by rw [q1 21 (by decide) (by decide), q1 33 (by decide) (by decide), zmean_em]; exact k1.le (by omega)) (by omega) (by omega)
  rw [q1 21 (by decide) (by decide), q1 33 (by decide) (by decide), zmean_em] at r1
  have q2 := zme_fn τ (ztd 120 (zct (zmean τ w) 40 1 0) ++ zrws (zmean τ w) (τ 21 0) (τ 33 0) 40 1)
  rw [zme_app] at q2
  have l2 : f_M_putTold [(20, 0), (0, 112), (0, zbef σ w)] (zme (zme τ (ztd 120 (zct (zmean τ w) 40 1 0))) (zrws (zmean τ w) (τ 21 0) (τ 33 0) 40 1)) = some (0, 0, zme (zme (zme τ (ztd 120 (zct (zmean τ w) 40 1 0))) (zrws (zmean τ w) (τ 21 0) (τ 33 0) 40 1)) (ztd 112 (zbef σ w))) := m_putTold _ hb (k2.le (by show ((ztd 112 (zbef σ w)).length : Int) ≤ _; omega))
  have l3 : f_M_putTold [(20, 0), (0, 101), (0, τ 20 0 16)] (zme (zme (zme τ (ztd 120 (zct (zmean τ w) 40 1 0))) (zrws (zmean τ w) (τ 21 0) (τ 33 0) 40 1)) (ztd 112 (zbef σ w))) = some (0, 0, zme (zme (zme (zme τ (ztd 120 (zct (zmean τ w) 40 1 0))) (zrws (zmean τ w) (τ 21 0) (τ 33 0) 40 1)) (ztd 112 (zbef σ w))) (ztd 101 (τ 20 0 16))) := m_putTold _ (by rw [p6]; omega) (by rw [p6]; exact k3.le (by show ((ztd 101 (from' + zptl σ w how)).length : Int) ≤ _; omega))
  have eall : zme τ (zendM τ w (zbef σ w) (τ 20 0 16)) = zme (zme (zme (zme τ (ztd 120 (zct (zmean τ w) 40 1 0))) (zrws (zmean τ w) (τ 21 0) (τ 33 0) 40 1)) (ztd 112 (zbef σ w))) (ztd 101 (τ 20 0 16)) := by
    unfold zendM
    rw [zme_app, zme_app, zme_app]
  rw [u_M_putPart, h0s, e_M_putPart_33, h33, zcall0, c1, r1]
  unfold zpt
  rw [hτ, eall]
  rw [e_M_putPart_96]
  have e10 : zme (zme τ (ztd 120 (zct (zmean τ w) 40 1 0))) (zrws (zmean τ w) (τ 21 0) (τ 33 0) 40 1) 20 0 10 = σ 20 0 10 := by rw [q2.2.2.1 10 (by decide), p2 10 (by decide)]
  have e29 : zme (zme τ (ztd 120 (zct (zmean τ w) 40 1 0))) (zrws (zmean τ w) (τ 21 0) (τ 33 0) 40 1) 29 = σ 29 := by rw [q2.2.1 29 (by decide) (by decide), p1 29 (by decide) (by decide) (by decide) (by decide)]
  rcases hw with hw | hw
  · have hbe : zbef σ w = σ 29 0 (σ 20 0 10 - 1) := by unfold zbef; rw [if_pos hw]
    have hr' := hr hw
    rw [e10, e29]
    simp (disch := omega) only [e_M_putPart_147, zwr_id, zT_lt, zF_lt, zT_le, zF_le, zT_eq, zF_eq, zT_neq, zF_neq, zT_nlt, zT_nle, and_true, true_and, and_false, false_and, and_self, or_true, true_or, or_false, false_or, or_self, not_true_eq_false, not_false_eq_true, ↓reduceIte, implies_true, true_imp_iff, false_imp_iff, zcall0, zcall1, zcall2, zcall3, zcall4, zsto_eq, zsto_ne, zsto_fn, zok13, zok6, zok15, znb_0, zrng_hit, zrng_ne, zrng_fn, zcpy_ne, zcpy_fn]
    rw [← hbe, l2, zcall0, l3, zcall0]
  · have hbe : zbef σ w = 0 := by unfold zbef; rw [if_neg (by omega)]
    rw [hbe] at l2 l3 ⊢
    simp (disch := omega) only [e_M_putPart_147, zwr_id, zT_lt, zF_lt, zT_le, zF_le, zT_eq, zF_eq, zT_neq, zF_neq, zT_nlt, zT_nle, and_true, true_and, and_false, false_and, and_self, or_true, true_or, or_false, false_or, or_self, not_true_eq_false, not_false_eq_true, ↓reduceIte, implies_true, true_imp_iff, false_imp_iff, zcall0, zcall1, zcall2, zcall3, zcall4, zsto_eq, zsto_ne, zsto_fn, zok13, zok6, zok15, znb_0, zrng_hit, zrng_ne, zrng_fn, zcpy_ne, zcpy_fn]
    rw [l2, zcall0, l3, zcall0]
