/-! THE CLASS's WRITING -/
theorem zwr1_fn (σ : ZT) {s r n : Int} (h : zSz σ s) : (∀ k : Nat, k ≠ 6 → k ≠ 7 → k ≠ 16 → k ≠ 17 → zwr1 σ s r n k = σ k) ∧ zwr1 σ s r n 16 = zsto σ 16 r n (σ 6 s 1) 16 ∧ zwr1 σ s r n 17 = zsto σ 17 r n (σ 13 n 1) 17 ∧ zSz (zwr1 σ s r n) s ∧ zwr1 σ s r n 6 s 1 = (if 12001 ≤ σ 6 s 1 + (zrec n (σ 13 n 1) (σ 14 n)).length then 12001 else σ 6 s 1 + (zrec n (σ 13 n 1) (σ 14 n)).length) ∧ (∀ j, j ≠ s → zwr1 σ s r n 6 j = σ 6 j ∧ zwr1 σ s r n 7 j = σ 7 j) ∧ (∀ j, j < σ 6 s 1 → zwr1 σ s r n 7 s j = σ 7 s j) ∧ (zSimB σ → zSimB (zwr1 σ s r n)) := by
  unfold zwr1
  generalize hσ' : zsto (zsto σ 16 r n (σ 6 s 1)) 17 r n (σ 13 n 1) = σ'
  have g6 : σ' 6 = σ 6 := by rw [← hσ']; simp (disch := omega) only [zwr_id, zT_lt, zF_lt, zT_le, zF_le, zT_eq, zF_eq, zT_neq, zF_neq, zT_nlt, zT_nle, and_true, true_and, and_false, false_and, and_self, or_true, true_or, or_false, false_or, or_self, not_true_eq_false, not_false_eq_true, ↓reduceIte, implies_true, true_imp_iff, false_imp_iff, zcall0, zcall1, zcall2, zcall3, zcall4, zsto_eq, zsto_ne, zsto_fn, zok13, zok6, zok15, znb_0, zrng_hit, zrng_ne, zrng_fn, zcpy_ne, zcpy_fn]
  have g7 : σ' 7 = σ 7 := by rw [← hσ']; simp (disch := omega) only [zwr_id, zT_lt, zF_lt, zT_le, zF_le, zT_eq, zF_eq, zT_neq, zF_neq, zT_nlt, zT_nle, and_true, true_and, and_false, false_and, and_self, or_true, true_or, or_false, false_or, or_self, not_true_eq_false, not_false_eq_true, ↓reduceIte, implies_true, true_imp_iff, false_imp_iff, zcall0, zcall1, zcall2, zcall3, zcall4, zsto_eq, zsto_ne, zsto_fn, zok13, zok6, zok15, znb_0, zrng_hit, zrng_ne, zrng_fn, zcpy_ne, zcpy_fn]
  have h' : zSz σ' s := by unfold zSz; rw [g6]; exact h
  obtain ⟨a1, a2, a3, a4, a5⟩ := zem_fn s σ' (zrec n (σ 13 n 1) (σ 14 n)) h'
  obtain ⟨b1, b2⟩ := zem_sz (zrec n (σ 13 n 1) (σ 14 n)) h'
  rw [g6] at b2 a4
  refine ⟨fun k k1 k2 k3 k4 => ?_, ?_, ?_, b1, b2, fun j hj => ?_, fun j hj => ?_, fun hB => a5 ?_⟩
  · rw [a1 k k1 k2, ← hσ']; simp (disch := omega) only [zwr_id, zT_lt, zF_lt, zT_le, zF_le, zT_eq, zF_eq, zT_neq, zF_neq, zT_nlt, zT_nle, and_true, true_and, and_false, false_and, and_self, or_true, true_or, or_false, false_or, or_self, not_true_eq_false, not_false_eq_true, ↓reduceIte, implies_true, true_imp_iff, false_imp_iff, zcall0, zcall1, zcall2, zcall3, zcall4, zsto_eq, zsto_ne, zsto_fn, zok13, zok6, zok15, znb_0, zrng_hit, zrng_ne, zrng_fn, zcpy_ne, zcpy_fn]
  · rw [a1 16 (by decide) (by decide), ← hσ']; simp (disch := omega) only [zwr_id, zT_lt, zF_lt, zT_le, zF_le, zT_eq, zF_eq, zT_neq, zF_neq, zT_nlt, zT_nle, and_true, true_and, and_false, false_and, and_self, or_true, true_or, or_false, false_or, or_self, not_true_eq_false, not_false_eq_true, ↓reduceIte, implies_true, true_imp_iff, false_imp_iff, zcall0, zcall1, zcall2, zcall3, zcall4, zsto_eq, zsto_ne, zsto_fn, zok13, zok6, zok15, znb_0, zrng_hit, zrng_ne, zrng_fn, zcpy_ne, zcpy_fn]
  · rw [a1 17 (by decide) (by decide), ← hσ']
    funext i' s'
    unfold zsto
    simp (disch := omega) only [zwr_id, zT_lt, zF_lt, zT_le, zF_le, zT_eq, zF_eq, zT_neq, zF_neq, zT_nlt, zT_nle, and_true, true_and, and_false, false_and, and_self, or_true, true_or, or_false, false_or, or_self, not_true_eq_false, not_false_eq_true, ↓reduceIte, implies_true, true_imp_iff, false_imp_iff, zcall0, zcall1, zcall2, zcall3, zcall4, zsto_eq, zsto_ne, zsto_fn, zok13, zok6, zok15, znb_0, zrng_hit, zrng_ne, zrng_fn, zcpy_ne, zcpy_fn]
  · rw [(a2 j hj).1, (a2 j hj).2, g6, g7]; exact ⟨rfl, rfl⟩
  · rw [a4 j hj, g7]
  · rw [← hσ']; exact zSimB.sto (zSimB.sto hB (by omega)) (by omega)
def zwrs (s r : Int) : ZT → List Int → ZT
  | σ, [] => σ
  | σ, n :: ns => zwrs s r (zwr1 σ s r n) ns
theorem zwrs_fn (s r : Int) : ∀ (ns : List Int) (σ : ZT), zSz σ s → (∀ k : Nat, k ≠ 6 → k ≠ 7 → k ≠ 16 → k ≠ 17 → zwrs s r σ ns k = σ k) ∧ zSz (zwrs s r σ ns) s ∧ (∀ j, j ≠ s → zwrs s r σ ns 6 j = σ 6 j ∧ zwrs s r σ ns 7 j = σ 7 j) ∧ (∀ j, j ≠ r → zwrs s r σ ns 16 j = σ 16 j ∧ zwrs s r σ ns 17 j = σ 17 j) ∧ (zSimB σ → zSimB (zwrs s r σ ns)) ∧ (∀ n, n ∉ ns → zwrs s r σ ns 16 r n = σ 16 r n ∧ zwrs s r σ ns 17 r n = σ 17 r n) ∧ σ 6 s 1 ≤ zwrs s r σ ns 6 s 1
  | [], σ, h => ⟨fun _ _ _ _ _ => rfl, h, fun _ _ => ⟨rfl, rfl⟩, fun _ _ => ⟨rfl, rfl⟩, fun h => h, fun _ _ => ⟨rfl, rfl⟩, Int.le_refl _⟩
  | n :: ns, σ, h => by
    obtain ⟨a1, a2, a3, a4, a5, a6, a7, a8⟩ := zwr1_fn σ (s := s) (r := r) (n := n) h
    obtain ⟨c1, c2, c3, c4, c5, c6, c7⟩ := zwrs_fn s r ns (zwr1 σ s r n) a4
    refine ⟨fun k k1 k2 k3 k4 => (c1 k k1 k2 k3 k4).trans (a1 k k1 k2 k3 k4), c2, fun j hj => ⟨(c3 j hj).1.trans (a6 j hj).1, (c3 j hj).2.trans (a6 j hj).2⟩, fun j hj => ⟨(c4 j hj).1.trans ?_, (c4 j hj).2.trans ?_⟩, fun hB => c5 (a8 hB), fun m hm => ?_, Int.le_trans ?_ c7⟩
    · rw [a2]; funext x; simp (disch := omega) only [zwr_id, zT_lt, zF_lt, zT_le, zF_le, zT_eq, zF_eq, zT_neq, zF_neq, zT_nlt, zT_nle, and_true, true_and, and_false, false_and, and_self, or_true, true_or, or_false, false_or, or_self, not_true_eq_false, not_false_eq_true, ↓reduceIte, implies_true, true_imp_iff, false_imp_iff, zcall0, zcall1, zcall2, zcall3, zcall4, zsto_eq, zsto_ne, zsto_fn, zok13, zok6, zok15, znb_0, zrng_hit, zrng_ne, zrng_fn, zcpy_ne, zcpy_fn]
    · rw [a3]; funext x; simp (disch := omega) only [zwr_id, zT_lt, zF_lt, zT_le, zF_le, zT_eq, zF_eq, zT_neq, zF_neq, zT_nlt, zT_nle, and_true, true_and, and_false, false_and, and_self, or_true, true_or, or_false, false_or, or_self, not_true_eq_false, not_false_eq_true, ↓reduceIte, implies_true, true_imp_iff, false_imp_iff, zcall0, zcall1, zcall2, zcall3, zcall4, zsto_eq, zsto_ne, zsto_fn, zok13, zok6, zok15, znb_0, zrng_hit, zrng_ne, zrng_fn, zcpy_ne, zcpy_fn]
    · have hm' : m ≠ n ∧ m ∉ ns := ⟨fun q => hm (q ▸ List.mem_cons_self), fun q => hm (List.mem_cons_of_mem _ q)⟩
      obtain ⟨d1, d2⟩ := c6 m hm'.2
      have q := hm'.1
      show zwrs s r (zwr1 σ s r n) ns 16 r m = _ ∧ zwrs s r (zwr1 σ s r n) ns 17 r m = _
      rw [d1, d2, a2, a3]
      exact ⟨by simp (disch := omega) only [zwr_id, zT_lt, zF_lt, zT_le, zF_le, zT_eq, zF_eq, zT_neq, zF_neq, zT_nlt, zT_nle, and_true, true_and, and_false, false_and, and_self, or_true, true_or, or_false, false_or, or_self, not_true_eq_false, not_false_eq_true, ↓reduceIte, implies_true, true_imp_iff, false_imp_iff, zcall0, zcall1, zcall2, zcall3, zcall4, zsto_eq, zsto_ne, zsto_fn, zok13, zok6, zok15, znb_0, zrng_hit, zrng_ne, zrng_fn, zcpy_ne, zcpy_fn], by simp (disch := omega) only [zwr_id, zT_lt, zF_lt, zT_le, zF_le, zT_eq, zF_eq, zT_neq, zF_neq, zT_nlt, zT_nle, and_true, true_and, and_false, false_and, and_self, or_true, true_or, or_false, false_or, or_self, not_true_eq_false, not_false_eq_true, ↓reduceIte, implies_true, true_imp_iff, false_imp_iff, zcall0, zcall1, zcall2, zcall3, zcall4, zsto_eq, zsto_ne, zsto_fn, zok13, zok6, zok15, znb_0, zrng_hit, zrng_ne, zrng_fn, zcpy_ne, zcpy_fn]⟩
    · unfold zSz at h
      rw [a5]
      split <;> omega
theorem zrem.step {σ : ZT} {how r s n : Int} {ns : List Int} (h : zSz σ s) (h0 : 0 < σ 6 s 1) (hr : zrem σ how r (n :: ns)) : zrem (zwr1 σ s r n) how r ns := by
  obtain ⟨a1, a2, a3, a4, a5, a6, a7, a8⟩ := zwr1_fn σ (s := s) (r := r) (n := n) h
  obtain ⟨h1, h2⟩ := hr
  obtain ⟨h3, h4⟩ := List.pairwise_cons.mp h1
  have hl : zlex (zwr1 σ s r n) how = zlex σ how := by
    funext x y
    unfold zlex zky
    rw [a1 25 (by decide) (by decide) (by decide) (by decide), a1 22 (by decide) (by decide) (by decide) (by decide)]
  refine ⟨by rw [hl]; exact h4, fun m => ?_⟩
  unfold zcd
  rw [a1 13 (by decide) (by decide) (by decide) (by decide), a2]
  by_cases hm : m = n
  · subst hm
    refine ⟨fun q => ?_, fun q => ?_⟩
    · have := h3 m q
      unfold zlex at this
      omega
    · rw [zsto_eq] at q
      omega
  · rw [zsto_ne (by omega)]
    have := h2 m
    rw [List.mem_cons] at this
    unfold zcd at this
    refine ⟨fun q => this.mp (Or.inr q), fun q => ?_⟩
    rcases this.mpr q with q1 | q1
    · exact absurd q1 hm
    · exact q1
theorem zSimT.wr1 {σ : ZT} {s r n : Int} (h : zSz σ s) (hT : zSimT σ) : zSimT (zwr1 σ s r n) := hT.fn fun k hk => by
  simp only [List.mem_cons, List.not_mem_nil, or_false] at hk
  exact (zwr1_fn σ h).1 k (by omega) (by omega) (by omega) (by omega)
theorem w_write_loop {how r s : Int} (hh : 0 ≤ how ∧ how ≤ 2) (hs : 0 ≤ s ∧ s < 2) : ∀ (ns : List Int) (σ : ZT), zrem σ how r ns → zSimT σ → zSz σ s → 0 < σ 6 s 1 → (∀ n, 1 ≤ n → n ≤ 40 → zI (σ 16 r n)) → σ 4 0 2 = s → zrun C_W_write (79, [(4, 0), (0, how), (15, r), (0, ns.headD (-1))], [], σ) = zrun C_W_write (79, [(4, 0), (0, how), (15, r), (0, -1)], [], zwrs s r σ ns)
  | [], σ, hr, hT, h, h0, h16, h4 => rfl
  | n :: ns, σ, hr, hT, h, h0, h16, h4 => by
    have hn := (hr.2 n).mp List.mem_cons_self
    obtain ⟨b1, b2, b3, b4, b5, b6, b7, b8, b9⟩ := hT n hn.1 hn.2.1
    have c9 := b9 hn.2.2.1
    obtain ⟨a1, a2, a3, a4, a5, a6, a7, a8⟩ := zwr1_fn σ (s := s) (r := r) (n := n) h
    have hrec := w_putRecord σ (n := n) (r := r) (s := s) ⟨hn.1, hn.2.1⟩ hs h4 (by omega) h
    have hrem := zrem.step h h0 hr
    have h16' : ∀ m, 1 ≤ m → m ≤ 40 → zI (zwr1 σ s r n 16 r m) := fun m m1 m2 => by
      have := h16 m m1 m2
      rw [a2]
      unfold zSz at h
      by_cases q : m = n
      · subst q; rw [zsto_eq]; omega
      · rw [zsto_ne (by omega)]; exact this
    have h0' : 0 < zwr1 σ s r n 6 s 1 := by
      unfold zSz at h
      rw [a5]
      split <;> omega
    have hnx := w_next (zwr1 σ s r n) (hT.wr1 h) hh h16' hrem
    have ih := w_write_loop hh hs ns (zwr1 σ s r n) hrem (hT.wr1 h) a4 h0' h16' (by rw [a1 4 (by decide) (by decide) (by decide) (by decide)]; exact h4)
    show zrun C_W_write (79, [(4, 0), (0, how), (15, r), (0, n)], [], σ) = zrun C_W_write (79, [(4, 0), (0, how), (15, r), (0, -1)], [], zwrs s r (zwr1 σ s r n) ns)
    rw [← ih, e_W_write_79]
    have hn1 := hn.1
    have hn2 := hn.2.1
    simp (disch := omega) only [hrec, hnx, zwr_id, zT_lt, zF_lt, zT_le, zF_le, zT_eq, zF_eq, zT_neq, zF_neq, zT_nlt, zT_nle, and_true, true_and, and_false, false_and, and_self, or_true, true_or, or_false, false_or, or_self, not_true_eq_false, not_false_eq_true, ↓reduceIte, implies_true, true_imp_iff, false_imp_iff, zcall0, zcall1, zcall2, zcall3, zcall4, zsto_eq, zsto_ne, zsto_fn, zok13, zok6, zok15, znb_0, zrng_hit, zrng_ne, zrng_fn, zcpy_ne, zcpy_fn]
/-- the class has become what was made -/
def zbec (σ : ZT) (p : Int) : ZT := zsv (zsto (zsto (zsto (zsto σ 4 0 1 (σ 4 0 2)) 4 0 2 (σ 4 0 1)) 4 0 6 p) 4 0 3 0) 1
theorem w_become1 (σ : ZT) {p : Int} (hf : 0 ≤ σ 4 0 1 ∧ σ 4 0 1 < 2) (hs : 0 ≤ σ 4 0 2 ∧ σ 4 0 2 < 2) (hz : 0 ≤ σ 6 (σ 4 0 2) 1 ∧ σ 6 (σ 4 0 2) 1 ≤ 12000) (ht : ∀ k, 1 ≤ k → k ≤ 40 → σ 13 k 2 = 0 ∨ σ 13 k 2 = 1) : f_W_become [(4, 0), (0, p)] σ = some (0, 0, zbec σ p) := by
  have ho : f_R_isOver [(6, σ 4 0 2)] σ = some (0, 0, σ) := by
    rw [u_R_isOver, e_R_isOver_0]
    simp (disch := omega) only [zwr_id, zT_lt, zF_lt, zT_le, zF_le, zT_eq, zF_eq, zT_neq, zF_neq, zT_nlt, zT_nle, and_true, true_and, and_false, false_and, and_self, or_true, true_or, or_false, false_or, or_self, not_true_eq_false, not_false_eq_true, ↓reduceIte, implies_true, true_imp_iff, false_imp_iff, zcall0, zcall1, zcall2, zcall3, zcall4, zsto_eq, zsto_ne, zsto_fn, zok13, zok6, zok15, znb_0, zrng_hit, zrng_ne, zrng_fn, zcpy_ne, zcpy_fn]
  have hl := w_save_loop (p := p) (x2 := σ 4 0 1) 40 1 (zsto (zsto (zsto (zsto σ 4 0 1 (σ 4 0 2)) 4 0 2 (σ 4 0 1)) 4 0 6 p) 4 0 3 0) (fun k k1 k2 => by simp (disch := omega) only [zwr_id, zT_lt, zF_lt, zT_le, zF_le, zT_eq, zF_eq, zT_neq, zF_neq, zT_nlt, zT_nle, and_true, true_and, and_false, false_and, and_self, or_true, true_or, or_false, false_or, or_self, not_true_eq_false, not_false_eq_true, ↓reduceIte, implies_true, true_imp_iff, false_imp_iff, zcall0, zcall1, zcall2, zcall3, zcall4, zsto_eq, zsto_ne, zsto_fn, zok13, zok6, zok15, znb_0, zrng_hit, zrng_ne, zrng_fn, zcpy_ne, zcpy_fn]; exact ht k k1 k2) (by omega) (by omega)
  rw [u_W_become, e_W_become_0]
  unfold zbec
  rw [← hl]
  simp (disch := omega) only [ho, zwr_id, zT_lt, zF_lt, zT_le, zF_le, zT_eq, zF_eq, zT_neq, zF_neq, zT_nlt, zT_nle, and_true, true_and, and_false, false_and, and_self, or_true, true_or, or_false, false_or, or_self, not_true_eq_false, not_false_eq_true, ↓reduceIte, implies_true, true_imp_iff, false_imp_iff, zcall0, zcall1, zcall2, zcall3, zcall4, zsto_eq, zsto_ne, zsto_fn, zok13, zok6, zok15, znb_0, zrng_hit, zrng_ne, zrng_fn, zcpy_ne, zcpy_fn]
theorem w_become0 (σ : ZT) {p : Int} (hs : 0 ≤ σ 4 0 2 ∧ σ 4 0 2 < 2) (hz : σ 6 (σ 4 0 2) 1 = 12001) (hg : 0 < σ 39 0 0) : f_W_become [(4, 0), (0, p)] σ = some (3, 0, zth σ) := by
  have ho : f_R_isOver [(6, σ 4 0 2)] σ = some (0, 1, σ) := by
    rw [u_R_isOver, e_R_isOver_0]
    simp (disch := omega) only [zwr_id, zT_lt, zF_lt, zT_le, zF_le, zT_eq, zF_eq, zT_neq, zF_neq, zT_nlt, zT_nle, and_true, true_and, and_false, false_and, and_self, or_true, true_or, or_false, false_or, or_self, not_true_eq_false, not_false_eq_true, ↓reduceIte, implies_true, true_imp_iff, false_imp_iff, zcall0, zcall1, zcall2, zcall3, zcall4, zsto_eq, zsto_ne, zsto_fn, zok13, zok6, zok15, znb_0, zrng_hit, zrng_ne, zrng_fn, zcpy_ne, zcpy_fn]
  rw [u_W_become, e_W_become_0]
  simp (disch := omega) only [ho, zwr_id, zT_lt, zF_lt, zT_le, zF_le, zT_eq, zF_eq, zT_neq, zF_neq, zT_nlt, zT_nle, and_true, true_and, and_false, false_and, and_self, or_true, true_or, or_false, false_or, or_self, not_true_eq_false, not_false_eq_true, ↓reduceIte, implies_true, true_imp_iff, false_imp_iff, zcall0, zcall1, zcall2, zcall3, zcall4, zsto_eq, zsto_ne, zsto_fn, zok13, zok6, zok15, znb_0, zrng_hit, zrng_ne, zrng_fn, zcpy_ne, zcpy_fn]
  rfl
theorem v_clear_loop {r : Int} : ∀ (m : Nat) (n : Int) (σ : ZT), 0 ≤ n → 41 - n = m → zrun C_V_clear (2, [(15, r), (0, n)], [], σ) = some (0, 0, zrng σ 16 r n 41 fun _ => 0)
  | 0, n, σ, h0, hm => by
    rw [e_V_clear_2, zrng_nil (by omega)]
    simp (disch := omega) only [zwr_id, zT_lt, zF_lt, zT_le, zF_le, zT_eq, zF_eq, zT_neq, zF_neq, zT_nlt, zT_nle, and_true, true_and, and_false, false_and, and_self, or_true, true_or, or_false, false_or, or_self, not_true_eq_false, not_false_eq_true, ↓reduceIte, implies_true, true_imp_iff, false_imp_iff, zcall0, zcall1, zcall2, zcall3, zcall4, zsto_eq, zsto_ne, zsto_fn, zok13, zok6, zok15, znb_0, zrng_hit, zrng_ne, zrng_fn, zcpy_ne, zcpy_fn]
  | m + 1, n, σ, h0, hm => by
    rw [e_V_clear_2]
    simp (disch := omega) only [zwr_id, zT_lt, zF_lt, zT_le, zF_le, zT_eq, zF_eq, zT_neq, zF_neq, zT_nlt, zT_nle, and_true, true_and, and_false, false_and, and_self, or_true, true_or, or_false, false_or, or_self, not_true_eq_false, not_false_eq_true, ↓reduceIte, implies_true, true_imp_iff, false_imp_iff, zcall0, zcall1, zcall2, zcall3, zcall4, zsto_eq, zsto_ne, zsto_fn, zok13, zok6, zok15, znb_0, zrng_hit, zrng_ne, zrng_fn, zcpy_ne, zcpy_fn]
    rw [v_clear_loop m (n + 1) _ (by omega) (by omega), zrng_step (v := 0) (by omega) rfl]
theorem v_clear (σ : ZT) (r : Int) : f_V_clear [(15, r)] σ = some (0, 0, zrng σ 16 r 0 41 fun _ => 0) := by
  rw [u_V_clear, e_V_clear_0, v_clear_loop 41 0 σ (by omega) (by omega)]
