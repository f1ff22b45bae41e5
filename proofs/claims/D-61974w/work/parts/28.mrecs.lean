/-! THE REFERENCE's RECORDS, in its order -/
def zin (f : Int → Int) : Nat → Int → List Int
  | 0, _ => []
  | m + 1, n => (if f n = 0 then [] else [n]) ++ zin f m (n + 1)
def zou (f : Int → Int → Int) : Nat → Int → List Int
  | 0, _ => []
  | m + 1, t => zin (f t) 40 1 ++ zou f m (t + 1)
def zmrs : ZT → List Int → ZT
  | σ, [] => σ
  | σ, n :: ns => zmrs (zmr σ n) ns
theorem zmrs_app : ∀ (σ : ZT) (as bs : List Int), zmrs σ (as ++ bs) = zmrs (zmrs σ as) bs
  | _, [], _ => rfl
  | σ, a :: as, bs => zmrs_app (zmr σ a) as bs
/-- how long records are -/
def zrl (ρ : ZT) : List Int → Int
  | [] => 0
  | n :: ns => (zrec n (ρ 25 0 n) fun i => ρ 26 0 (120 * n + i)).length + zrl ρ ns
theorem zrl_app (ρ : ZT) : ∀ as bs, zrl ρ (as ++ bs) = zrl ρ as + zrl ρ bs
  | [], bs => by show zrl ρ bs = 0 + zrl ρ bs; omega
  | a :: as, bs => by
    have := zrl_app ρ as bs
    show _ + zrl ρ (as ++ bs) = _ + zrl ρ as + zrl ρ bs
    omega
theorem zrl_nn (ρ : ZT) : ∀ as, 0 ≤ zrl ρ as
  | [] => by show (0 : Int) ≤ 0; omega
  | a :: as => by have := zrl_nn ρ as; show (0 : Int) ≤ _ + zrl ρ as; omega
theorem zmr_fn (σ : ZT) (n : Int) : (∀ k : Nat, k ≠ 20 → k ≠ 27 → k ≠ 33 → k ≠ 34 → zmr σ n k = σ k) ∧ (∀ s, s ≠ 16 → zmr σ n 20 0 s = σ 20 0 s) ∧ zmr σ n 20 0 16 = σ 20 0 16 + (zrec n (σ 25 0 n) fun i => σ 26 0 (120 * n + i)).length ∧ (∀ j, j < σ 20 0 16 → zmr σ n 27 0 j = σ 27 0 j) ∧ (σ 20 0 17 ≠ 0 → zmr σ n 27 = σ 27) ∧ (zSimB σ → zSimB (zmr σ n)) ∧ zmr σ n 33 = zsto σ 33 0 n (σ 20 0 16) 33 ∧ zmr σ n 34 = zsto σ 34 0 n (σ 20 0 16 + (zhd1 n (σ 25 0 n)).length) 34 := by
  unfold zmr
  generalize hτ : zme (zsto σ 33 0 n (σ 20 0 16)) (zhd1 n (σ 25 0 n)) = τ
  obtain ⟨a1, a2, a3, a4, a5, a6⟩ := zme_fn (zsto σ 33 0 n (σ 20 0 16)) (zhd1 n (σ 25 0 n))
  rw [hτ] at a1 a2 a3 a4 a5 a6
  obtain ⟨c1, c2, c3, c4, c5, c6⟩ := zme_fn (zsto τ 34 0 n (σ 20 0 16 + (zhd1 n (σ 25 0 n)).length)) (zoc (fun i => σ 26 0 (120 * n + i)) (σ 25 0 n).toNat 0 ++ [10])
  refine ⟨fun k k1 k2 k3 k4 => ?_, fun s hs => ?_, ?_, fun j hj => ?_, fun q => ?_, fun hB => ?_, ?_, ?_⟩
  · rw [c2 k k1 k2]
    simp (disch := omega) only [zwr_id, zT_lt, zF_lt, zT_le, zF_le, zT_eq, zF_eq, zT_neq, zF_neq, zT_nlt, zT_nle, and_true, true_and, and_false, false_and, and_self, or_true, true_or, or_false, false_or, or_self, not_true_eq_false, not_false_eq_true, ↓reduceIte, implies_true, true_imp_iff, false_imp_iff, zcall0, zcall1, zcall2, zcall3, zcall4, zsto_eq, zsto_ne, zsto_fn, zok13, zok6, zok15, znb_0, zrng_hit, zrng_ne, zrng_fn, zcpy_ne, zcpy_fn]
    rw [a2 k k1 k2]
    simp (disch := omega) only [zwr_id, zT_lt, zF_lt, zT_le, zF_le, zT_eq, zF_eq, zT_neq, zF_neq, zT_nlt, zT_nle, and_true, true_and, and_false, false_and, and_self, or_true, true_or, or_false, false_or, or_self, not_true_eq_false, not_false_eq_true, ↓reduceIte, implies_true, true_imp_iff, false_imp_iff, zcall0, zcall1, zcall2, zcall3, zcall4, zsto_eq, zsto_ne, zsto_fn, zok13, zok6, zok15, znb_0, zrng_hit, zrng_ne, zrng_fn, zcpy_ne, zcpy_fn]
  · rw [c3 s hs]
    simp (disch := omega) only [zwr_id, zT_lt, zF_lt, zT_le, zF_le, zT_eq, zF_eq, zT_neq, zF_neq, zT_nlt, zT_nle, and_true, true_and, and_false, false_and, and_self, or_true, true_or, or_false, false_or, or_self, not_true_eq_false, not_false_eq_true, ↓reduceIte, implies_true, true_imp_iff, false_imp_iff, zcall0, zcall1, zcall2, zcall3, zcall4, zsto_eq, zsto_ne, zsto_fn, zok13, zok6, zok15, znb_0, zrng_hit, zrng_ne, zrng_fn, zcpy_ne, zcpy_fn]
    rw [a3 s hs]
    simp (disch := omega) only [zwr_id, zT_lt, zF_lt, zT_le, zF_le, zT_eq, zF_eq, zT_neq, zF_neq, zT_nlt, zT_nle, and_true, true_and, and_false, false_and, and_self, or_true, true_or, or_false, false_or, or_self, not_true_eq_false, not_false_eq_true, ↓reduceIte, implies_true, true_imp_iff, false_imp_iff, zcall0, zcall1, zcall2, zcall3, zcall4, zsto_eq, zsto_ne, zsto_fn, zok13, zok6, zok15, znb_0, zrng_hit, zrng_ne, zrng_fn, zcpy_ne, zcpy_fn]
  · rw [c1]
    simp (disch := omega) only [zwr_id, zT_lt, zF_lt, zT_le, zF_le, zT_eq, zF_eq, zT_neq, zF_neq, zT_nlt, zT_nle, and_true, true_and, and_false, false_and, and_self, or_true, true_or, or_false, false_or, or_self, not_true_eq_false, not_false_eq_true, ↓reduceIte, implies_true, true_imp_iff, false_imp_iff, zcall0, zcall1, zcall2, zcall3, zcall4, zsto_eq, zsto_ne, zsto_fn, zok13, zok6, zok15, znb_0, zrng_hit, zrng_ne, zrng_fn, zcpy_ne, zcpy_fn]
    rw [a1]
    simp (disch := omega) only [zwr_id, zT_lt, zF_lt, zT_le, zF_le, zT_eq, zF_eq, zT_neq, zF_neq, zT_nlt, zT_nle, and_true, true_and, and_false, false_and, and_self, or_true, true_or, or_false, false_or, or_self, not_true_eq_false, not_false_eq_true, ↓reduceIte, implies_true, true_imp_iff, false_imp_iff, zcall0, zcall1, zcall2, zcall3, zcall4, zsto_eq, zsto_ne, zsto_fn, zok13, zok6, zok15, znb_0, zrng_hit, zrng_ne, zrng_fn, zcpy_ne, zcpy_fn]
    unfold zrec
    rw [List.length_append (as := zhd1 n (σ 25 0 n))]
    omega
  · rw [zsto_fn (by decide), a1, zsto_fn (by decide)] at c4
    rw [c4 j (by omega)]
    simp (disch := omega) only [zwr_id, zT_lt, zF_lt, zT_le, zF_le, zT_eq, zF_eq, zT_neq, zF_neq, zT_nlt, zT_nle, and_true, true_and, and_false, false_and, and_self, or_true, true_or, or_false, false_or, or_self, not_true_eq_false, not_false_eq_true, ↓reduceIte, implies_true, true_imp_iff, false_imp_iff, zcall0, zcall1, zcall2, zcall3, zcall4, zsto_eq, zsto_ne, zsto_fn, zok13, zok6, zok15, znb_0, zrng_hit, zrng_ne, zrng_fn, zcpy_ne, zcpy_fn]
    rw [zsto_fn (by decide)] at a4
    rw [a4 j hj]
    simp (disch := omega) only [zwr_id, zT_lt, zF_lt, zT_le, zF_le, zT_eq, zF_eq, zT_neq, zF_neq, zT_nlt, zT_nle, and_true, true_and, and_false, false_and, and_self, or_true, true_or, or_false, false_or, or_self, not_true_eq_false, not_false_eq_true, ↓reduceIte, implies_true, true_imp_iff, false_imp_iff, zcall0, zcall1, zcall2, zcall3, zcall4, zsto_eq, zsto_ne, zsto_fn, zok13, zok6, zok15, znb_0, zrng_hit, zrng_ne, zrng_fn, zcpy_ne, zcpy_fn]
  · rw [c5 (by rw [zsto_fn (by decide), a3 17 (by decide), zsto_fn (by decide)]; exact q)]
    simp (disch := omega) only [zwr_id, zT_lt, zF_lt, zT_le, zF_le, zT_eq, zF_eq, zT_neq, zF_neq, zT_nlt, zT_nle, and_true, true_and, and_false, false_and, and_self, or_true, true_or, or_false, false_or, or_self, not_true_eq_false, not_false_eq_true, ↓reduceIte, implies_true, true_imp_iff, false_imp_iff, zcall0, zcall1, zcall2, zcall3, zcall4, zsto_eq, zsto_ne, zsto_fn, zok13, zok6, zok15, znb_0, zrng_hit, zrng_ne, zrng_fn, zcpy_ne, zcpy_fn]
    rw [a5 (by rw [zsto_fn (by decide)]; exact q)]
    simp (disch := omega) only [zwr_id, zT_lt, zF_lt, zT_le, zF_le, zT_eq, zF_eq, zT_neq, zF_neq, zT_nlt, zT_nle, and_true, true_and, and_false, false_and, and_self, or_true, true_or, or_false, false_or, or_self, not_true_eq_false, not_false_eq_true, ↓reduceIte, implies_true, true_imp_iff, false_imp_iff, zcall0, zcall1, zcall2, zcall3, zcall4, zsto_eq, zsto_ne, zsto_fn, zok13, zok6, zok15, znb_0, zrng_hit, zrng_ne, zrng_fn, zcpy_ne, zcpy_fn]
  · exact c6 (zSimB.sto (a6 (zSimB.sto hB (by omega))) (by omega))
  · rw [c2 33 (by decide) (by decide), zsto_fn (by decide), a2 33 (by decide) (by decide)]
  · rw [c2 34 (by decide) (by decide)]
    funext i s
    unfold zsto
    rw [a2 34 (by decide) (by decide), zsto_fn (by decide)]
/-- base facts of an order: what the reference knows of things -/
def zBs (ρ : ZT) : Prop := ∀ n, 1 ≤ n → n ≤ 40 → (ρ 21 0 n = 0 ∨ ρ 21 0 n = 1) ∧ (ρ 23 0 n = 0 ∨ ρ 23 0 n = 1) ∧ (ρ 21 0 n = 1 → 0 ≤ ρ 25 0 n ∧ ρ 25 0 n ≤ 120 ∧ (ρ 22 0 n = 0 ∨ ρ 22 0 n = 1))
def zEq5 (σ ρ : ZT) : Prop := σ 21 = ρ 21 ∧ σ 22 = ρ 22 ∧ σ 23 = ρ 23 ∧ σ 25 = ρ 25 ∧ σ 26 = ρ 26
theorem zEq5.mr {σ ρ : ZT} (h : zEq5 σ ρ) (n : Int) : zEq5 (zmr σ n) ρ := by
  obtain ⟨h1, h2, h3, h4, h5⟩ := h
  have q := (zmr_fn σ n).1
  exact ⟨(q 21 (by decide) (by decide) (by decide) (by decide)).trans h1, (q 22 (by decide) (by decide) (by decide) (by decide)).trans h2, (q 23 (by decide) (by decide) (by decide) (by decide)).trans h3, (q 25 (by decide) (by decide) (by decide) (by decide)).trans h4, (q 26 (by decide) (by decide) (by decide) (by decide)).trans h5⟩
/-- whose record comes at a turn -/
def zmean (ρ : ZT) (w n : Int) : Int := if w = 0 then ρ 23 0 n else ρ 21 0 n
abbrev znow (ρ : ZT) (how t n : Int) : Prop := (how = 1 → ρ 25 0 n = t) ∧ (how = 2 → ρ 22 0 n = (if t = 0 then 1 else 0))
def zcn (ρ : ZT) (w how t n : Int) : Int := if zmean ρ w n ≠ 0 ∧ ρ 21 0 n ≠ 0 ∧ znow ρ how t n then 1 else 0
theorem m_recs29 (σ ρ : ZT) (hE : zEq5 σ ρ) (hB : zBs ρ) {w how t n : Int} {u : ZV} (hh : 0 ≤ how ∧ how ≤ 2) (ht : 0 ≤ t ∧ t ≤ 120) (hn : 1 ≤ n ∧ n ≤ 40) : ∃ y, (y = 0 ∨ y = 1) ∧ (ρ 21 0 n = 1 → (y = 1 ↔ znow ρ how t n)) ∧ zrun C_M_putRecords (29, [(20, 0), (0, w), (0, how), (0, t), (0, n), u], [], σ) = zrun C_M_putRecords (93, [(20, 0), (0, w), (0, how), (0, t), (0, n), u], [(0, y)], σ) := by
  obtain ⟨e1, e2, e3, e4, e5⟩ := hE
  obtain ⟨b1, b2, b3⟩ := hB n hn.1 hn.2
  rw [e_M_putRecords_29]
  by_cases h1 : how = 1
  · subst h1
    by_cases hq : zwr (ρ 25 0 n) = t
    · refine ⟨1, Or.inr rfl, fun q => ⟨fun _ => ⟨fun _ => ?_, fun q2 => by omega⟩, fun _ => rfl⟩, ?_⟩
      · have := b3 q
        rw [zwr_id (by omega) (by omega)] at hq
        exact hq
      · simp (disch := omega) only [e4, hq, zwr_id, zT_lt, zF_lt, zT_le, zF_le, zT_eq, zF_eq, zT_neq, zF_neq, zT_nlt, zT_nle, and_true, true_and, and_false, false_and, and_self, or_true, true_or, or_false, false_or, or_self, not_true_eq_false, not_false_eq_true, ↓reduceIte, implies_true, true_imp_iff, false_imp_iff, zcall0, zcall1, zcall2, zcall3, zcall4, zsto_eq, zsto_ne, zsto_fn, zok13, zok6, zok15, znb_0, zrng_hit, zrng_ne, zrng_fn, zcpy_ne, zcpy_fn]
    · refine ⟨0, Or.inl rfl, fun q => ⟨fun q2 => by omega, fun q2 => ?_⟩, ?_⟩
      · have := b3 q
        rw [zwr_id (by omega) (by omega)] at hq
        exact absurd (q2.1 rfl) hq
      · simp (disch := omega) only [e4, zwr_id, zT_lt, zF_lt, zT_le, zF_le, zT_eq, zF_eq, zT_neq, zF_neq, zT_nlt, zT_nle, and_true, true_and, and_false, false_and, and_self, or_true, true_or, or_false, false_or, or_self, not_true_eq_false, not_false_eq_true, ↓reduceIte, implies_true, true_imp_iff, false_imp_iff, zcall0, zcall1, zcall2, zcall3, zcall4, zsto_eq, zsto_ne, zsto_fn, zok13, zok6, zok15, znb_0, zrng_hit, zrng_ne, zrng_fn, zcpy_ne, zcpy_fn]
  · by_cases h2 : how = 2
    · subst h2
      by_cases hq : zwr (ρ 22 0 n) = (if t = 0 then 1 else 0)
      · refine ⟨1, Or.inr rfl, fun q => ⟨fun _ => ⟨fun q2 => by omega, fun _ => ?_⟩, fun _ => rfl⟩, ?_⟩
        · have := b3 q
          rw [zwr_id (by omega) (by omega)] at hq
          exact hq
        · by_cases ht0 : t = 0
          · rw [if_pos ht0] at hq
            simp (disch := omega) only [e2, e_M_putRecords_81, hq, zwr_id, zT_lt, zF_lt, zT_le, zF_le, zT_eq, zF_eq, zT_neq, zF_neq, zT_nlt, zT_nle, and_true, true_and, and_false, false_and, and_self, or_true, true_or, or_false, false_or, or_self, not_true_eq_false, not_false_eq_true, ↓reduceIte, implies_true, true_imp_iff, false_imp_iff, zcall0, zcall1, zcall2, zcall3, zcall4, zsto_eq, zsto_ne, zsto_fn, zok13, zok6, zok15, znb_0, zrng_hit, zrng_ne, zrng_fn, zcpy_ne, zcpy_fn]
          · rw [if_neg ht0] at hq
            simp (disch := omega) only [e2, e_M_putRecords_81, hq, zwr_id, zT_lt, zF_lt, zT_le, zF_le, zT_eq, zF_eq, zT_neq, zF_neq, zT_nlt, zT_nle, and_true, true_and, and_false, false_and, and_self, or_true, true_or, or_false, false_or, or_self, not_true_eq_false, not_false_eq_true, ↓reduceIte, implies_true, true_imp_iff, false_imp_iff, zcall0, zcall1, zcall2, zcall3, zcall4, zsto_eq, zsto_ne, zsto_fn, zok13, zok6, zok15, znb_0, zrng_hit, zrng_ne, zrng_fn, zcpy_ne, zcpy_fn]
      · refine ⟨0, Or.inl rfl, fun q => ⟨fun q2 => by omega, fun q2 => ?_⟩, ?_⟩
        · have := b3 q
          rw [zwr_id (by omega) (by omega)] at hq
          exact absurd (q2.2 rfl) hq
        · by_cases ht0 : t = 0
          · rw [if_pos ht0] at hq
            simp (disch := omega) only [e2, e_M_putRecords_81, zwr_id, zT_lt, zF_lt, zT_le, zF_le, zT_eq, zF_eq, zT_neq, zF_neq, zT_nlt, zT_nle, and_true, true_and, and_false, false_and, and_self, or_true, true_or, or_false, false_or, or_self, not_true_eq_false, not_false_eq_true, ↓reduceIte, implies_true, true_imp_iff, false_imp_iff, zcall0, zcall1, zcall2, zcall3, zcall4, zsto_eq, zsto_ne, zsto_fn, zok13, zok6, zok15, znb_0, zrng_hit, zrng_ne, zrng_fn, zcpy_ne, zcpy_fn]
          · rw [if_neg ht0] at hq
            simp (disch := omega) only [e2, e_M_putRecords_81, zwr_id, zT_lt, zF_lt, zT_le, zF_le, zT_eq, zF_eq, zT_neq, zF_neq, zT_nlt, zT_nle, and_true, true_and, and_false, false_and, and_self, or_true, true_or, or_false, false_or, or_self, not_true_eq_false, not_false_eq_true, ↓reduceIte, implies_true, true_imp_iff, false_imp_iff, zcall0, zcall1, zcall2, zcall3, zcall4, zsto_eq, zsto_ne, zsto_fn, zok13, zok6, zok15, znb_0, zrng_hit, zrng_ne, zrng_fn, zcpy_ne, zcpy_fn]
    · refine ⟨1, Or.inr rfl, fun q => ⟨fun _ => ⟨fun q2 => by omega, fun q2 => by omega⟩, fun _ => rfl⟩, ?_⟩
      simp (disch := omega) only [zwr_id, zT_lt, zF_lt, zT_le, zF_le, zT_eq, zF_eq, zT_neq, zF_neq, zT_nlt, zT_nle, and_true, true_and, and_false, false_and, and_self, or_true, true_or, or_false, false_or, or_self, not_true_eq_false, not_false_eq_true, ↓reduceIte, implies_true, true_imp_iff, false_imp_iff, zcall0, zcall1, zcall2, zcall3, zcall4, zsto_eq, zsto_ne, zsto_fn, zok13, zok6, zok15, znb_0, zrng_hit, zrng_ne, zrng_fn, zcpy_ne, zcpy_fn]
theorem m_recs_in (ρ : ZT) (hB : zBs ρ) {w how t : Int} (hw : w = 0 ∨ w = 1) (hh : 0 ≤ how ∧ how ≤ 2) (ht : 0 ≤ t ∧ t ≤ 120) : ∀ (m : Nat) (n : Int) (σ : ZT) (u : ZV), zEq5 σ ρ → 1 ≤ n → 41 - n = m → zMok σ (zrl ρ (zin (zcn ρ w how t) m n)) → ∃ u', zrun C_M_putRecords (29, [(20, 0), (0, w), (0, how), (0, t), (0, n), u], [], σ) = zrun C_M_putRecords (2, [(20, 0), (0, w), (0, how), (0, t + 1), (0, 41), u'], [], zmrs σ (zin (zcn ρ w how t) m n))
  | 0, n, σ, u, hE, h1, hm, hM => by
    have : n = 41 := by omega
    subst this
    refine ⟨u, ?_⟩
    rw [e_M_putRecords_29]
    simp (disch := omega) only [zwr_id, zT_lt, zF_lt, zT_le, zF_le, zT_eq, zF_eq, zT_neq, zF_neq, zT_nlt, zT_nle, and_true, true_and, and_false, false_and, and_self, or_true, true_or, or_false, false_or, or_self, not_true_eq_false, not_false_eq_true, ↓reduceIte, implies_true, true_imp_iff, false_imp_iff, zcall0, zcall1, zcall2, zcall3, zcall4, zsto_eq, zsto_ne, zsto_fn, zok13, zok6, zok15, znb_0, zrng_hit, zrng_ne, zrng_fn, zcpy_ne, zcpy_fn]
    rfl
  | m + 1, n, σ, u, hE, h1, hm, hM => by
    obtain ⟨b1, b2, b3⟩ := hB n h1 (by omega)
    obtain ⟨y, hy, hyn, e⟩ := m_recs29 σ ρ hE hB (w := w) (u := u) hh ht ⟨h1, by omega⟩
    have hE' := hE
    obtain ⟨e1, e2, e3, e4, e5⟩ := hE'
    have hmean := m_isMeant σ (n := n) (w := w) ⟨h1, by omega⟩ hw (by rw [e1]; exact b1) (by rw [e3]; exact b2)
    rw [e1, e3] at hmean
    have hmb : zmean ρ w n = 0 ∨ zmean ρ w n = 1 := by unfold zmean; split <;> omega
    have hmean : f_M_isMeant [(20, 0), (0, n), (0, w)] σ = some (0, zmean ρ w n, σ) := hmean
    rw [e, e_M_putRecords_93, hmean, zin]
    rw [zin, zrl_app] at hM
    have hnn := zrl_nn ρ (zin (zcn ρ w how t) m (n + 1))
    by_cases hc : zcn ρ w how t n = 0
    · rw [if_pos hc] at hM ⊢
      have hM : zMok σ (zrl ρ (zin (zcn ρ w how t) m (n + 1))) := hM.le (by show _ ≤ (0 : Int) + _; omega)
      obtain ⟨u', ih⟩ := m_recs_in ρ hB hw hh ht m (n + 1) σ (0, y) hE (by omega) (by omega) hM
      refine ⟨u', ?_⟩
      show _ = zrun C_M_putRecords (2, [(20, 0), (0, w), (0, how), (0, t + 1), (0, 41), u'], [], zmrs σ (zin (zcn ρ w how t) m (n + 1)))
      rw [← ih]
      by_cases q1 : zmean ρ w n = 0
      · simp (disch := omega) only [q1, e_M_putRecords_126, zwr_id, zT_lt, zF_lt, zT_le, zF_le, zT_eq, zF_eq, zT_neq, zF_neq, zT_nlt, zT_nle, and_true, true_and, and_false, false_and, and_self, or_true, true_or, or_false, false_or, or_self, not_true_eq_false, not_false_eq_true, ↓reduceIte, implies_true, true_imp_iff, false_imp_iff, zcall0, zcall1, zcall2, zcall3, zcall4, zsto_eq, zsto_ne, zsto_fn, zok13, zok6, zok15, znb_0, zrng_hit, zrng_ne, zrng_fn, zcpy_ne, zcpy_fn]
      · by_cases q2 : ρ 21 0 n = 0
        · simp (disch := omega) only [e1, q2, e_M_putRecords_126, zwr_id, zT_lt, zF_lt, zT_le, zF_le, zT_eq, zF_eq, zT_neq, zF_neq, zT_nlt, zT_nle, and_true, true_and, and_false, false_and, and_self, or_true, true_or, or_false, false_or, or_self, not_true_eq_false, not_false_eq_true, ↓reduceIte, implies_true, true_imp_iff, false_imp_iff, zcall0, zcall1, zcall2, zcall3, zcall4, zsto_eq, zsto_ne, zsto_fn, zok13, zok6, zok15, znb_0, zrng_hit, zrng_ne, zrng_fn, zcpy_ne, zcpy_fn]
        · have q3 : y = 0 := by
            rcases hy with hy | hy
            · exact hy
            · exfalso
              unfold zcn at hc
              rw [if_pos ⟨q1, q2, (hyn (by omega)).mp hy⟩] at hc
              omega
          simp (disch := omega) only [e1, e_M_putRecords_126, zwr_id, zT_lt, zF_lt, zT_le, zF_le, zT_eq, zF_eq, zT_neq, zF_neq, zT_nlt, zT_nle, and_true, true_and, and_false, false_and, and_self, or_true, true_or, or_false, false_or, or_self, not_true_eq_false, not_false_eq_true, ↓reduceIte, implies_true, true_imp_iff, false_imp_iff, zcall0, zcall1, zcall2, zcall3, zcall4, zsto_eq, zsto_ne, zsto_fn, zok13, zok6, zok15, znb_0, zrng_hit, zrng_ne, zrng_fn, zcpy_ne, zcpy_fn]
    · rw [if_neg hc] at hM ⊢
      have hc' : zmean ρ w n ≠ 0 ∧ ρ 21 0 n ≠ 0 ∧ znow ρ how t n := by
        unfold zcn at hc
        split at hc
        · assumption
        · exact absurd rfl hc
      have h21 : ρ 21 0 n = 1 := by omega
      have hy1 : y = 1 := (hyn h21).mpr hc'.2.2
      have hl := b3 h21
      have hM : zMok σ ((zrec n (ρ 25 0 n) fun i => ρ 26 0 (120 * n + i)).length + zrl ρ (zin (zcn ρ w how t) m (n + 1))) := hM.le (by show _ ≤ _ + (0 : Int) + _; omega)
      have hr := m_putRecord σ (n := n) ⟨h1, by omega⟩ (by rw [e4]; omega) (by rw [e4, e5]; exact hM.le (by omega))
      have q := zmr_fn σ n
      obtain ⟨u', ih⟩ := m_recs_in ρ hB hw hh ht m (n + 1) (zmr σ n) (0, y) (hE.mr n) (by omega) (by omega) (by
        unfold zMok at hM ⊢
        rw [q.2.1 17 (by decide), q.2.2.1, e4, e5]
        omega)
      refine ⟨u', ?_⟩
      show _ = zrun C_M_putRecords (2, [(20, 0), (0, w), (0, how), (0, t + 1), (0, 41), u'], [], zmrs (zmr σ n) (zin (zcn ρ w how t) m (n + 1)))
      rw [← ih]
      simp (disch := omega) only [e1, hr, e_M_putRecords_126, zwr_id, zT_lt, zF_lt, zT_le, zF_le, zT_eq, zF_eq, zT_neq, zF_neq, zT_nlt, zT_nle, and_true, true_and, and_false, false_and, and_self, or_true, true_or, or_false, false_or, or_self, not_true_eq_false, not_false_eq_true, ↓reduceIte, implies_true, true_imp_iff, false_imp_iff, zcall0, zcall1, zcall2, zcall3, zcall4, zsto_eq, zsto_ne, zsto_fn, zok13, zok6, zok15, znb_0, zrng_hit, zrng_ne, zrng_fn, zcpy_ne, zcpy_fn]
/-- how many turns -/
def ztn (how : Int) : Nat := if how = 1 then 121 else if how = 2 then 2 else 1
theorem zmrs_eq5 {ρ : ZT} : ∀ (ns : List Int) {σ : ZT}, zEq5 σ ρ → zEq5 (zmrs σ ns) ρ ∧ zmrs σ ns 20 0 17 = σ 20 0 17 ∧ zmrs σ ns 20 0 16 = σ 20 0 16 + zrl ρ ns
  | [], σ, h => ⟨h, rfl, by show σ 20 0 16 = σ 20 0 16 + 0; omega⟩
  | n :: ns, σ, h => by
    obtain ⟨a1, a2, a3⟩ := zmrs_eq5 ns (h.mr n)
    have q := zmr_fn σ n
    refine ⟨a1, a2.trans (q.2.1 17 (by decide)), ?_⟩
    show zmrs (zmr σ n) ns 20 0 16 = _
    rw [a3, q.2.2.1, h.2.2.2.1, h.2.2.2.2]
    show _ = σ 20 0 16 + (_ + zrl ρ ns)
    omega
theorem m_recs_out (ρ : ZT) (hB : zBs ρ) {w how : Int} (hw : w = 0 ∨ w = 1) (hh : 0 ≤ how ∧ how ≤ 2) : ∀ (m : Nat) (t : Int) (σ : ZT) (u4 u5 : ZV), zEq5 σ ρ → 0 ≤ t → t + m = ztn how → zMok σ (zrl ρ (zou (zcn ρ w how) m t)) → zrun C_M_putRecords (2, [(20, 0), (0, w), (0, how), (0, t), u4, u5], [], σ) = some (0, 0, zmrs σ (zou (zcn ρ w how) m t))
  | 0, t, σ, u4, u5, hE, h0, hm, hM => by
    rw [e_M_putRecords_2]
    unfold ztn at hm
    by_cases h1 : how = 1
    · rw [if_pos h1] at hm
      simp (disch := omega) only [e_M_putRecords_23, zwr_id, zT_lt, zF_lt, zT_le, zF_le, zT_eq, zF_eq, zT_neq, zF_neq, zT_nlt, zT_nle, and_true, true_and, and_false, false_and, and_self, or_true, true_or, or_false, false_or, or_self, not_true_eq_false, not_false_eq_true, ↓reduceIte, implies_true, true_imp_iff, false_imp_iff, zcall0, zcall1, zcall2, zcall3, zcall4, zsto_eq, zsto_ne, zsto_fn, zok13, zok6, zok15, znb_0, zrng_hit, zrng_ne, zrng_fn, zcpy_ne, zcpy_fn]
      rfl
    · rw [if_neg h1] at hm
      by_cases h2 : how = 2
      · rw [if_pos h2] at hm
        simp (disch := omega) only [e_M_putRecords_23, zwr_id, zT_lt, zF_lt, zT_le, zF_le, zT_eq, zF_eq, zT_neq, zF_neq, zT_nlt, zT_nle, and_true, true_and, and_false, false_and, and_self, or_true, true_or, or_false, false_or, or_self, not_true_eq_false, not_false_eq_true, ↓reduceIte, implies_true, true_imp_iff, false_imp_iff, zcall0, zcall1, zcall2, zcall3, zcall4, zsto_eq, zsto_ne, zsto_fn, zok13, zok6, zok15, znb_0, zrng_hit, zrng_ne, zrng_fn, zcpy_ne, zcpy_fn]
        rfl
      · rw [if_neg h2] at hm
        simp (disch := omega) only [e_M_putRecords_23, zwr_id, zT_lt, zF_lt, zT_le, zF_le, zT_eq, zF_eq, zT_neq, zF_neq, zT_nlt, zT_nle, and_true, true_and, and_false, false_and, and_self, or_true, true_or, or_false, false_or, or_self, not_true_eq_false, not_false_eq_true, ↓reduceIte, implies_true, true_imp_iff, false_imp_iff, zcall0, zcall1, zcall2, zcall3, zcall4, zsto_eq, zsto_ne, zsto_fn, zok13, zok6, zok15, znb_0, zrng_hit, zrng_ne, zrng_fn, zcpy_ne, zcpy_fn]
        rfl
  | m + 1, t, σ, u4, u5, hE, h0, hm, hM => by
    rw [zou, zrl_app] at hM
    have hnn := zrl_nn ρ (zou (zcn ρ w how) m (t + 1))
    have hnn2 := zrl_nn ρ (zin (zcn ρ w how t) 40 1)
    have hT : ztn how ≤ 121 := by unfold ztn; split <;> (try split) <;> omega
    obtain ⟨u', e⟩ := m_recs_in ρ hB hw hh (t := t) ⟨h0, by omega⟩ 40 1 σ u5 hE (by omega) (by omega) (hM.le (by omega))
    obtain ⟨q1, q2, q3⟩ := zmrs_eq5 (ρ := ρ) (zin (zcn ρ w how t) 40 1) hE
    have ih := m_recs_out ρ hB hw hh m (t + 1) (zmrs σ (zin (zcn ρ w how t) 40 1)) (0, 41) u' q1 (by omega) (by omega) (by
      unfold zMok at hM ⊢
      rw [q2, q3]
      omega)
    rw [zou, zmrs_app, ← ih, ← e, e_M_putRecords_2]
    unfold ztn at hm
    by_cases h1 : how = 1
    · rw [if_pos h1] at hm
      simp (disch := omega) only [e_M_putRecords_23, zwr_id, zT_lt, zF_lt, zT_le, zF_le, zT_eq, zF_eq, zT_neq, zF_neq, zT_nlt, zT_nle, and_true, true_and, and_false, false_and, and_self, or_true, true_or, or_false, false_or, or_self, not_true_eq_false, not_false_eq_true, ↓reduceIte, implies_true, true_imp_iff, false_imp_iff, zcall0, zcall1, zcall2, zcall3, zcall4, zsto_eq, zsto_ne, zsto_fn, zok13, zok6, zok15, znb_0, zrng_hit, zrng_ne, zrng_fn, zcpy_ne, zcpy_fn]
    · rw [if_neg h1] at hm
      by_cases h2 : how = 2
      · rw [if_pos h2] at hm
        simp (disch := omega) only [e_M_putRecords_23, zwr_id, zT_lt, zF_lt, zT_le, zF_le, zT_eq, zF_eq, zT_neq, zF_neq, zT_nlt, zT_nle, and_true, true_and, and_false, false_and, and_self, or_true, true_or, or_false, false_or, or_self, not_true_eq_false, not_false_eq_true, ↓reduceIte, implies_true, true_imp_iff, false_imp_iff, zcall0, zcall1, zcall2, zcall3, zcall4, zsto_eq, zsto_ne, zsto_fn, zok13, zok6, zok15, znb_0, zrng_hit, zrng_ne, zrng_fn, zcpy_ne, zcpy_fn]
      · rw [if_neg h2] at hm
        simp (disch := omega) only [e_M_putRecords_23, zwr_id, zT_lt, zF_lt, zT_le, zF_le, zT_eq, zF_eq, zT_neq, zF_neq, zT_nlt, zT_nle, and_true, true_and, and_false, false_and, and_self, or_true, true_or, or_false, false_or, or_self, not_true_eq_false, not_false_eq_true, ↓reduceIte, implies_true, true_imp_iff, false_imp_iff, zcall0, zcall1, zcall2, zcall3, zcall4, zsto_eq, zsto_ne, zsto_fn, zok13, zok6, zok15, znb_0, zrng_hit, zrng_ne, zrng_fn, zcpy_ne, zcpy_fn]
/-- the order of records -/
def znl (ρ : ZT) (w how : Int) : List Int := zou (zcn ρ w how) (ztn how) 0
theorem m_putRecords (σ : ZT) (hB : zBs σ) {w how : Int} (hw : w = 0 ∨ w = 1) (hh : 0 ≤ how ∧ how ≤ 2) (hM : zMok σ (zrl σ (znl σ w how))) : f_M_putRecords [(20, 0), (0, w), (0, how)] σ = some (0, 0, zmrs σ (znl σ w how)) := by
  rw [u_M_putRecords, e_M_putRecords_0, m_recs_out σ hB hw hh (ztn how) 0 σ _ _ ⟨rfl, rfl, rfl, rfl, rfl⟩ (by omega) (by omega) hM]
  rfl
