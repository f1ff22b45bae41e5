/-! THE CLASS's RECORDS AND ROWS -/
theorem w_oct_loop {n s l r : Int} (hs : 0 ≤ s ∧ s < 2) (hl : 0 ≤ l ∧ l ≤ 120) : ∀ (m : Nat) (k : Int) (σ : ZT), 0 ≤ k → l - k = m → σ 13 n 1 = l → σ 4 0 2 = s → zSz σ s → zrun C_W_putRecord (47, [(4, 0), (0, n), (15, r), (13, n), (0, k)], [], σ) = some (0, 0, zem s σ (zoc (σ 14 n) m k ++ [10]))
  | 0, k, σ, hk, hm, h13, h4, h => by
    subst h4
    rw [e_W_putRecord_47]
    simp (disch := omega) only [r_put _ _ h, zwr_id, zT_lt, zF_lt, zT_le, zF_le, zT_eq, zF_eq, zT_neq, zF_neq, zT_nlt, zT_nle, and_true, true_and, and_false, false_and, and_self, or_true, true_or, or_false, false_or, or_self, not_true_eq_false, not_false_eq_true, ↓reduceIte, implies_true, true_imp_iff, false_imp_iff, zcall0, zcall1, zcall2, zcall3, zcall4, zsto_eq, zsto_ne, zsto_fn, zok13, zok6, zok15, znb_0, zrng_hit, zrng_ne, zrng_fn, zcpy_ne, zcpy_fn]
    rfl
  | m + 1, k, σ, hk, hm, h13, h4, h => by
    subst h4
    obtain ⟨a1, a2, a3, a4, a5⟩ := zem_fn (σ 4 0 2) σ [σ 14 n k] h
    have ih := w_oct_loop (n := n) (r := r) hs hl m (k + 1) (zem (σ 4 0 2) σ [σ 14 n k]) (by omega) (by omega) (by rw [a1 13 (by decide) (by decide)]; exact h13) (by rw [a1 4 (by decide) (by decide)]) (zem_sz _ h).1
    rw [a1 14 (by decide) (by decide)] at ih
    rw [e_W_putRecord_47]
    simp (disch := omega) only [r_put _ _ h, zwr_id, zT_lt, zF_lt, zT_le, zF_le, zT_eq, zF_eq, zT_neq, zF_neq, zT_nlt, zT_nle, and_true, true_and, and_false, false_and, and_self, or_true, true_or, or_false, false_or, or_self, not_true_eq_false, not_false_eq_true, ↓reduceIte, implies_true, true_imp_iff, false_imp_iff, zcall0, zcall1, zcall2, zcall3, zcall4, zsto_eq, zsto_ne, zsto_fn, zok13, zok6, zok15, znb_0, zrng_hit, zrng_ne, zrng_fn, zcpy_ne, zcpy_fn]
    rw [ih]
    rfl
/-- the class's record -/
def zwr1 (σ : ZT) (s r n : Int) : ZT := zem s (zsto (zsto σ 16 r n (σ 6 s 1)) 17 r n (σ 13 n 1)) (zrec n (σ 13 n 1) (σ 14 n))
theorem w_putRecord (σ : ZT) {n r s : Int} (hn : 1 ≤ n ∧ n ≤ 40) (hs : 0 ≤ s ∧ s < 2) (h4 : σ 4 0 2 = s) (hl : 0 ≤ σ 13 n 1 ∧ σ 13 n 1 ≤ 120) (h : zSz σ s) : f_W_putRecord [(4, 0), (0, n), (15, r)] σ = some (0, 0, zwr1 σ s r n) := by
  generalize hσ' : zsto (zsto σ 16 r n (σ 6 s 1)) 17 r n (σ 13 n 1) = σ'
  have g4 : σ' 4 = σ 4 := by rw [← hσ']; simp (disch := omega) only [zwr_id, zT_lt, zF_lt, zT_le, zF_le, zT_eq, zF_eq, zT_neq, zF_neq, zT_nlt, zT_nle, and_true, true_and, and_false, false_and, and_self, or_true, true_or, or_false, false_or, or_self, not_true_eq_false, not_false_eq_true, ↓reduceIte, implies_true, true_imp_iff, false_imp_iff, zcall0, zcall1, zcall2, zcall3, zcall4, zsto_eq, zsto_ne, zsto_fn, zok13, zok6, zok15, znb_0, zrng_hit, zrng_ne, zrng_fn, zcpy_ne, zcpy_fn]
  have g6 : σ' 6 = σ 6 := by rw [← hσ']; simp (disch := omega) only [zwr_id, zT_lt, zF_lt, zT_le, zF_le, zT_eq, zF_eq, zT_neq, zF_neq, zT_nlt, zT_nle, and_true, true_and, and_false, false_and, and_self, or_true, true_or, or_false, false_or, or_self, not_true_eq_false, not_false_eq_true, ↓reduceIte, implies_true, true_imp_iff, false_imp_iff, zcall0, zcall1, zcall2, zcall3, zcall4, zsto_eq, zsto_ne, zsto_fn, zok13, zok6, zok15, znb_0, zrng_hit, zrng_ne, zrng_fn, zcpy_ne, zcpy_fn]
  have g13 : σ' 13 = σ 13 := by rw [← hσ']; simp (disch := omega) only [zwr_id, zT_lt, zF_lt, zT_le, zF_le, zT_eq, zF_eq, zT_neq, zF_neq, zT_nlt, zT_nle, and_true, true_and, and_false, false_and, and_self, or_true, true_or, or_false, false_or, or_self, not_true_eq_false, not_false_eq_true, ↓reduceIte, implies_true, true_imp_iff, false_imp_iff, zcall0, zcall1, zcall2, zcall3, zcall4, zsto_eq, zsto_ne, zsto_fn, zok13, zok6, zok15, znb_0, zrng_hit, zrng_ne, zrng_fn, zcpy_ne, zcpy_fn]
  have g14 : σ' 14 = σ 14 := by rw [← hσ']; simp (disch := omega) only [zwr_id, zT_lt, zF_lt, zT_le, zF_le, zT_eq, zF_eq, zT_neq, zF_neq, zT_nlt, zT_nle, and_true, true_and, and_false, false_and, and_self, or_true, true_or, or_false, false_or, or_self, not_true_eq_false, not_false_eq_true, ↓reduceIte, implies_true, true_imp_iff, false_imp_iff, zcall0, zcall1, zcall2, zcall3, zcall4, zsto_eq, zsto_ne, zsto_fn, zok13, zok6, zok15, znb_0, zrng_hit, zrng_ne, zrng_fn, zcpy_ne, zcpy_fn]
  have h' : zSz σ' s := by unfold zSz; rw [g6]; exact h
  obtain ⟨a1, a2, a3, a4, a5⟩ := zem_fn s σ' (zhd1 n (σ 13 n 1)) h'
  have hr := r_line2 σ' (i := s) (c := 111) (a := n) (b := σ 13 n 1) h' (by omega) (by omega)
  have ho := w_oct_loop (n := n) (r := r) hs hl (σ 13 n 1).toNat 0 (zem s σ' (zhd1 n (σ 13 n 1))) (by omega) (by omega) (by rw [a1 13 (by decide) (by decide), g13]) (by rw [a1 4 (by decide) (by decide), g4, h4]) (zem_sz _ h').1
  rw [a1 14 (by decide) (by decide), g14, ← zem_app] at ho
  rw [u_W_putRecord, e_W_putRecord_0]
  unfold zwr1
  rw [hσ']
  simp (disch := omega) only [h4, zwr_id, zT_lt, zF_lt, zT_le, zF_le, zT_eq, zF_eq, zT_neq, zF_neq, zT_nlt, zT_nle, and_true, true_and, and_false, false_and, and_self, or_true, true_or, or_false, false_or, or_self, not_true_eq_false, not_false_eq_true, ↓reduceIte, implies_true, true_imp_iff, false_imp_iff, zcall0, zcall1, zcall2, zcall3, zcall4, zsto_eq, zsto_ne, zsto_fn, zok13, zok6, zok15, znb_0, zrng_hit, zrng_ne, zrng_fn, zcpy_ne, zcpy_fn]
  rw [hσ', hr, zcall0]
  exact ho
/-- rows of those that are meant -/
def zrws (me th pl : Int → Int) : Nat → Int → List Int
  | 0, _ => []
  | m + 1, k => (if me k = 0 then [] else zrow k (th k) (pl k)) ++ zrws me th pl m (k + 1)
theorem zrws_congr {me me' th th' pl pl' : Int → Int} : ∀ (m : Nat) (k : Int), (∀ j, k ≤ j → j < k + m → me j = me' j) → (∀ j, k ≤ j → j < k + m → th j = th' j) → (∀ j, k ≤ j → j < k + m → me j ≠ 0 → th j ≠ 0 → pl j = pl' j) → zrws me th pl m k = zrws me' th' pl' m k
  | 0, _, _, _, _ => rfl
  | m + 1, k, h1, h2, h3 => by
    have ih := zrws_congr (me := me) (me' := me') (th := th) (th' := th') (pl := pl) (pl' := pl') m (k + 1) (fun j j1 j2 => h1 j (by omega) (by omega)) (fun j j1 j2 => h2 j (by omega) (by omega)) (fun j j1 j2 => h3 j (by omega) (by omega))
    rw [zrws, zrws, ih]
    congr 1
    rw [h1 k (by omega) (by omega)]
    split
    · rfl
    · rename_i q
      unfold zrow
      rw [h2 k (by omega) (by omega)]
      split
      · rfl
      · rename_i q2
        rw [h3 k (by omega) (by omega) (by rw [h1 k (by omega) (by omega)]; exact q) (by rw [h2 k (by omega) (by omega)]; exact q2)]
/-- whom a part's rows mean: all that are there, or all that are changed -/
def zme1 (σ : ZT) (c : Int) (k : Int) : Int := if c = 0 then σ 13 k 2 else σ 23 0 k
theorem w_rows_count {s r c b : Int} (σ : ZT) (hs : 0 ≤ s ∧ s < 2) (h4 : σ 4 0 2 = s) (hc : c = 0 ∨ c = 1) (hT : zSimT σ) (u : ZV) : ∀ (m : Nat) (k a : Int), 1 ≤ k → 41 - k = m → 0 ≤ a → a ≤ k → zrun C_W_putRows (17, [(4, 0), (15, r), (0, c), (0, b), (0, a), (0, k), u], [], σ) = zcall (f_R_line [(6, s), (0, 120), (0, zct (zme1 σ c) m k a), (0, -1)] σ) (fun v1 σ2 => zrun C_W_putRows (93, [(4, 0), (15, r), (0, c), (0, b), (0, zct (zme1 σ c) m k a), (0, 1), u], [], σ2)) (fun e3 σ4 => some (e3 + 1, 0, σ4))
  | 0, k, a, h1, hk, h2, h3 => by
    rw [e_W_putRows_17]
    simp (disch := omega) only [h4, zwr_id, zT_lt, zF_lt, zT_le, zF_le, zT_eq, zF_eq, zT_neq, zF_neq, zT_nlt, zT_nle, and_true, true_and, and_false, false_and, and_self, or_true, true_or, or_false, false_or, or_self, not_true_eq_false, not_false_eq_true, ↓reduceIte, implies_true, true_imp_iff, false_imp_iff, zcall0, zcall1, zcall2, zcall3, zcall4, zsto_eq, zsto_ne, zsto_fn, zok13, zok6, zok15, znb_0, zrng_hit, zrng_ne, zrng_fn, zcpy_ne, zcpy_fn]
    rfl
  | m + 1, k, a, h1, hk, h2, h3 => by
    have ih0 := w_rows_count (r := r) (b := b) σ hs h4 hc hT u m (k + 1) a (by omega) (by omega) (by omega) (by omega)
    have ih1 := w_rows_count (r := r) (b := b) σ hs h4 hc hT u m (k + 1) (a + 1) (by omega) (by omega) (by omega) (by omega)
    have hTk := hT k h1 (by omega)
    have hch := hTk.ch
    have ht := hTk.1
    rw [e_W_putRows_17, zct]
    rcases hc with hc | hc
    · rcases ht with ht | ht
      · have e : zme1 σ c k = 0 := by unfold zme1; rw [if_pos hc]; exact ht
        rw [if_pos e, ← ih0]
        simp (disch := omega) only [e_W_putRows_69, Int.add_zero, zwr_id, zT_lt, zF_lt, zT_le, zF_le, zT_eq, zF_eq, zT_neq, zF_neq, zT_nlt, zT_nle, and_true, true_and, and_false, false_and, and_self, or_true, true_or, or_false, false_or, or_self, not_true_eq_false, not_false_eq_true, ↓reduceIte, implies_true, true_imp_iff, false_imp_iff, zcall0, zcall1, zcall2, zcall3, zcall4, zsto_eq, zsto_ne, zsto_fn, zok13, zok6, zok15, znb_0, zrng_hit, zrng_ne, zrng_fn, zcpy_ne, zcpy_fn]
      · have e : zme1 σ c k = 1 := by unfold zme1; rw [if_pos hc]; exact ht
        rw [if_neg (show ¬ zme1 σ c k = 0 by omega), ← ih1]
        simp (disch := omega) only [e_W_putRows_69, zwr_id, zT_lt, zF_lt, zT_le, zF_le, zT_eq, zF_eq, zT_neq, zF_neq, zT_nlt, zT_nle, and_true, true_and, and_false, false_and, and_self, or_true, true_or, or_false, false_or, or_self, not_true_eq_false, not_false_eq_true, ↓reduceIte, implies_true, true_imp_iff, false_imp_iff, zcall0, zcall1, zcall2, zcall3, zcall4, zsto_eq, zsto_ne, zsto_fn, zok13, zok6, zok15, znb_0, zrng_hit, zrng_ne, zrng_fn, zcpy_ne, zcpy_fn]
    · rcases hch with hch | hch
      · have e : zme1 σ c k = 0 := by unfold zme1; rw [if_neg (by omega)]; exact hch
        rw [if_pos e, ← ih0]
        simp (disch := omega) only [e_W_putRows_69, Int.add_zero, t_isChanged σ hTk, zwr_id, zT_lt, zF_lt, zT_le, zF_le, zT_eq, zF_eq, zT_neq, zF_neq, zT_nlt, zT_nle, and_true, true_and, and_false, false_and, and_self, or_true, true_or, or_false, false_or, or_self, not_true_eq_false, not_false_eq_true, ↓reduceIte, implies_true, true_imp_iff, false_imp_iff, zcall0, zcall1, zcall2, zcall3, zcall4, zsto_eq, zsto_ne, zsto_fn, zok13, zok6, zok15, znb_0, zrng_hit, zrng_ne, zrng_fn, zcpy_ne, zcpy_fn]
      · have e : zme1 σ c k = 1 := by unfold zme1; rw [if_neg (by omega)]; exact hch
        rw [if_neg (show ¬ zme1 σ c k = 0 by omega), ← ih1]
        simp (disch := omega) only [e_W_putRows_69, t_isChanged σ hTk, zwr_id, zT_lt, zF_lt, zT_le, zF_le, zT_eq, zF_eq, zT_neq, zF_neq, zT_nlt, zT_nle, and_true, true_and, and_false, false_and, and_self, or_true, true_or, or_false, false_or, or_self, not_true_eq_false, not_false_eq_true, ↓reduceIte, implies_true, true_imp_iff, false_imp_iff, zcall0, zcall1, zcall2, zcall3, zcall4, zsto_eq, zsto_ne, zsto_fn, zok13, zok6, zok15, znb_0, zrng_hit, zrng_ne, zrng_fn, zcpy_ne, zcpy_fn]
theorem zSimT.em {σ : ZT} {s : Int} (bs : List Int) (h : zSz σ s) (hT : zSimT σ) : zSimT (zem s σ bs) := hT.fn fun k hk => by
  simp only [List.mem_cons, List.not_mem_nil, or_false] at hk
  exact (zem_fn s σ bs h).1 k (by omega) (by omega)
theorem zme1_em {σ : ZT} {s : Int} (bs : List Int) (h : zSz σ s) (c : Int) : zme1 (zem s σ bs) c = zme1 σ c := by
  funext k
  unfold zme1
  rw [(zem_fn s σ bs h).1 13 (by decide) (by decide), (zem_fn s σ bs h).1 23 (by decide) (by decide)]
theorem w_row1e {s r c b a k : Int} (σ : ZT) (hs : 0 ≤ s ∧ s < 2) (h4 : σ 4 0 2 = s) (hk : 1 ≤ k ∧ k ≤ 40) (ht : σ 13 k 2 = 0 ∨ σ 13 k 2 = 1) (hp : σ 13 k 2 = 1 → 0 ≤ σ 16 r k ∧ σ 16 r k ≤ 99999) (h : zSz σ s) : zrun C_W_putRows (135, [(4, 0), (15, r), (0, c), (0, b), (0, a), (0, k), (13, k)], [], σ) = zrun C_W_putRows (93, [(4, 0), (15, r), (0, c), (0, b), (0, a), (0, k + 1), (13, k)], [], zem s σ (zrow k (σ 13 k 2) (σ 16 r k))) := by
  have s1 := (zem_sz (zdg k) h).1
  have s2 := (zem_sz [32] s1).1
  have q2 := (zem_fn s _ (zdg k ++ [32]) h).1
  rw [zem_app] at q2
  have q1 := (zem_fn s _ (zdg k) h).1
  rw [e_W_putRows_135]
  unfold zrow
  rcases ht with ht | ht
  · have e : zem s σ (zdg k ++ 32 :: ((if σ 13 k 2 = 0 then [45] else zdg (σ 16 r k)) ++ [10])) = zem s (zem s (zem s (zem s σ (zdg k)) [32]) [45]) [10] := by
      rw [if_pos ht, ← zem_app, ← zem_app, ← zem_app]; rfl
    have s3 := (zem_sz [45] s2).1
    have q3 := (zem_fn s _ (zdg k ++ ([32] ++ [45])) h).1
    rw [zem_app, zem_app] at q3
    rw [e]
    simp (disch := omega) only [h4, r_putNumber σ h, q1 4, q2 4, q2 13, q3 4, ht, r_put _ _ s1, r_put _ _ s2, e_W_putRows_187, e_W_putRows_196, r_put _ _ s3, ne_eq, zwr_id, zT_lt, zF_lt, zT_le, zF_le, zT_eq, zF_eq, zT_neq, zF_neq, zT_nlt, zT_nle, and_true, true_and, and_false, false_and, and_self, or_true, true_or, or_false, false_or, or_self, not_true_eq_false, not_false_eq_true, ↓reduceIte, implies_true, true_imp_iff, false_imp_iff, zcall0, zcall1, zcall2, zcall3, zcall4, zsto_eq, zsto_ne, zsto_fn, zok13, zok6, zok15, znb_0, zrng_hit, zrng_ne, zrng_fn, zcpy_ne, zcpy_fn]
  · have e : zem s σ (zdg k ++ 32 :: ((if σ 13 k 2 = 0 then [45] else zdg (σ 16 r k)) ++ [10])) = zem s (zem s (zem s (zem s σ (zdg k)) [32]) (zdg (σ 16 r k))) [10] := by
      rw [if_neg (show ¬ σ 13 k 2 = 0 by omega), ← zem_app, ← zem_app, ← zem_app]; rfl
    have s3 := (zem_sz (zdg (σ 16 r k)) s2).1
    have q3 := (zem_fn s _ (zdg k ++ ([32] ++ zdg (σ 16 r k))) h).1
    rw [zem_app, zem_app] at q3
    have hp' := hp ht
    have rp := r_putNumber _ s2 hp'
    rw [e]
    simp (disch := omega) only [h4, r_putNumber σ h, q1 4, q2 4, q2 13, q2 16, q3 4, ht, r_put _ _ s1, r_put _ _ s2, e_W_putRows_187, e_W_putRows_196, r_put _ _ s3, rp, ne_eq, zwr_id, zT_lt, zF_lt, zT_le, zF_le, zT_eq, zF_eq, zT_neq, zF_neq, zT_nlt, zT_nle, and_true, true_and, and_false, false_and, and_self, or_true, true_or, or_false, false_or, or_self, not_true_eq_false, not_false_eq_true, ↓reduceIte, implies_true, true_imp_iff, false_imp_iff, zcall0, zcall1, zcall2, zcall3, zcall4, zsto_eq, zsto_ne, zsto_fn, zok13, zok6, zok15, znb_0, zrng_hit, zrng_ne, zrng_fn, zcpy_ne, zcpy_fn]
def ztd (c v : Int) : List Int := c :: 32 :: (zdg v ++ [10])
theorem w_rows_loop {s r c b a : Int} (hs : 0 ≤ s ∧ s < 2) (hc : c = 0 ∨ c = 1) (hb : 0 ≤ b ∧ b ≤ 99999) : ∀ (m : Nat) (k : Int) (σ : ZT) (u : ZV), σ 4 0 2 = s → zSimT σ → (0 ≤ σ 15 r 3 ∧ σ 15 r 3 ≤ 99999) → (∀ j, 1 ≤ j → j ≤ 40 → σ 13 j 2 = 1 → zme1 σ c j ≠ 0 → 0 ≤ σ 16 r j ∧ σ 16 r j ≤ 99999) → zSz σ s → 1 ≤ k → 41 - k = m → zrun C_W_putRows (93, [(4, 0), (15, r), (0, c), (0, b), (0, a), (0, k), u], [], σ) = some (0, 0, zsto (zem s σ (zrws (zme1 σ c) (fun j => σ 13 j 2) (σ 16 r) m k ++ (ztd 112 b ++ ztd 101 (σ 15 r 3)))) 15 r 2 (zem s σ (zrws (zme1 σ c) (fun j => σ 13 j 2) (σ 16 r) m k ++ (ztd 112 b ++ ztd 101 (σ 15 r 3))) 6 s 1))
  | 0, k, σ, u, h4, hT, hx, hp, h, h1, hk => by
    have s1 := (zem_sz (ztd 112 b) h).1
    have q1 := (zem_fn s _ (ztd 112 b) h).1
    have q2 := (zem_fn s _ (ztd 112 b ++ ztd 101 (σ 15 r 3)) h).1
    have l1 := r_line1 σ (c := 112) h hb
    have l2 := r_line1 (zem s σ (ztd 112 b)) (c := 101) s1 hx
    have l1 : f_R_line [(6, s), (0, 112), (0, b), (0, -1)] σ = some (0, 0, zem s σ (ztd 112 b)) := l1
    have l2 : f_R_line [(6, s), (0, 101), (0, σ 15 r 3), (0, -1)] (zem s σ (ztd 112 b)) = some (0, 0, zem s (zem s σ (ztd 112 b)) (ztd 101 (σ 15 r 3))) := l2
    rw [← zem_app] at l2
    rw [e_W_putRows_93]
    show _ = some (0, 0, zsto (zem s σ (ztd 112 b ++ ztd 101 (σ 15 r 3))) 15 r 2 (zem s σ (ztd 112 b ++ ztd 101 (σ 15 r 3)) 6 s 1))
    simp (disch := omega) only [h4, l1, l2, q1 4, q1 15, q2 4, ne_eq, zwr_id, zT_lt, zF_lt, zT_le, zF_le, zT_eq, zF_eq, zT_neq, zF_neq, zT_nlt, zT_nle, and_true, true_and, and_false, false_and, and_self, or_true, true_or, or_false, false_or, or_self, not_true_eq_false, not_false_eq_true, ↓reduceIte, implies_true, true_imp_iff, false_imp_iff, zcall0, zcall1, zcall2, zcall3, zcall4, zsto_eq, zsto_ne, zsto_fn, zok13, zok6, zok15, znb_0, zrng_hit, zrng_ne, zrng_fn, zcpy_ne, zcpy_fn]
  | m + 1, k, σ, u, h4, hT, hx, hp, h, h1, hk => by
    have hTk := hT k h1 (by omega)
    have hch := hTk.ch
    have ht := hTk.1
    have ihz : ∀ bs, zrun C_W_putRows (93, [(4, 0), (15, r), (0, c), (0, b), (0, a), (0, k + 1), (13, k)], [], zem s σ bs) = some (0, 0, zsto (zem s σ (bs ++ (zrws (zme1 σ c) (fun j => σ 13 j 2) (σ 16 r) m (k + 1) ++ (ztd 112 b ++ ztd 101 (σ 15 r 3))))) 15 r 2 (zem s σ (bs ++ (zrws (zme1 σ c) (fun j => σ 13 j 2) (σ 16 r) m (k + 1) ++ (ztd 112 b ++ ztd 101 (σ 15 r 3)))) 6 s 1)) := fun bs => by
      have q := (zem_fn s σ bs h).1
      have ih := w_rows_loop (a := a) hs hc hb m (k + 1) (zem s σ bs) (13, k) (by rw [q 4 (by decide) (by decide)]; exact h4) (hT.em bs h) (by rw [q 15 (by decide) (by decide)]; exact hx) (by rw [q 13 (by decide) (by decide), q 16 (by decide) (by decide), zme1_em bs h]; exact hp) (zem_sz bs h).1 (by omega) (by omega)
      rw [ih, zme1_em bs h, q 13 (by decide) (by decide), q 16 (by decide) (by decide), q 15 (by decide) (by decide), ← zem_app]
    rw [zrws, List.append_assoc, ← ihz, e_W_putRows_93]
    by_cases hm : zme1 σ c k = 0
    · rw [if_pos hm]
      show _ = zrun C_W_putRows (93, [(4, 0), (15, r), (0, c), (0, b), (0, a), (0, k + 1), (13, k)], [], σ)
      unfold zme1 at hm
      rcases hc with hc | hc
      · rw [if_pos hc] at hm
        simp (disch := omega) only [e_W_putRows_196, zwr_id, zT_lt, zF_lt, zT_le, zF_le, zT_eq, zF_eq, zT_neq, zF_neq, zT_nlt, zT_nle, and_true, true_and, and_false, false_and, and_self, or_true, true_or, or_false, false_or, or_self, not_true_eq_false, not_false_eq_true, ↓reduceIte, implies_true, true_imp_iff, false_imp_iff, zcall0, zcall1, zcall2, zcall3, zcall4, zsto_eq, zsto_ne, zsto_fn, zok13, zok6, zok15, znb_0, zrng_hit, zrng_ne, zrng_fn, zcpy_ne, zcpy_fn]
      · rw [if_neg (by omega)] at hm
        simp (disch := omega) only [e_W_putRows_196, t_isChanged σ hTk, zwr_id, zT_lt, zF_lt, zT_le, zF_le, zT_eq, zF_eq, zT_neq, zF_neq, zT_nlt, zT_nle, and_true, true_and, and_false, false_and, and_self, or_true, true_or, or_false, false_or, or_self, not_true_eq_false, not_false_eq_true, ↓reduceIte, implies_true, true_imp_iff, false_imp_iff, zcall0, zcall1, zcall2, zcall3, zcall4, zsto_eq, zsto_ne, zsto_fn, zok13, zok6, zok15, znb_0, zrng_hit, zrng_ne, zrng_fn, zcpy_ne, zcpy_fn]
    · have hr := w_row1e (r := r) (c := c) (b := b) (a := a) σ hs h4 ⟨h1, by omega⟩ ht (fun q => hp k h1 (by omega) q hm) h
      rw [if_neg hm, ← hr]
      unfold zme1 at hm
      rcases hc with hc | hc
      · rw [if_pos hc] at hm
        simp (disch := omega) only [zwr_id, zT_lt, zF_lt, zT_le, zF_le, zT_eq, zF_eq, zT_neq, zF_neq, zT_nlt, zT_nle, and_true, true_and, and_false, false_and, and_self, or_true, true_or, or_false, false_or, or_self, not_true_eq_false, not_false_eq_true, ↓reduceIte, implies_true, true_imp_iff, false_imp_iff, zcall0, zcall1, zcall2, zcall3, zcall4, zsto_eq, zsto_ne, zsto_fn, zok13, zok6, zok15, znb_0, zrng_hit, zrng_ne, zrng_fn, zcpy_ne, zcpy_fn]
      · rw [if_neg (by omega)] at hm
        simp (disch := omega) only [t_isChanged σ hTk, zwr_id, zT_lt, zF_lt, zT_le, zF_le, zT_eq, zF_eq, zT_neq, zF_neq, zT_nlt, zT_nle, and_true, true_and, and_false, false_and, and_self, or_true, true_or, or_false, false_or, or_self, not_true_eq_false, not_false_eq_true, ↓reduceIte, implies_true, true_imp_iff, false_imp_iff, zcall0, zcall1, zcall2, zcall3, zcall4, zsto_eq, zsto_ne, zsto_fn, zok13, zok6, zok15, znb_0, zrng_hit, zrng_ne, zrng_fn, zcpy_ne, zcpy_fn]
/-- all that a part has behind its records -/
def zend1 (σ : ZT) (r c b x : Int) : List Int := ztd 120 (zct (zme1 σ c) 40 1 0) ++ (zrws (zme1 σ c) (fun j => σ 13 j 2) (σ 16 r) 40 1 ++ (ztd 112 b ++ ztd 101 x))
theorem w_putRows (σ : ZT) {s r c b : Int} (hs : 0 ≤ s ∧ s < 2) (hc : c = 0 ∨ c = 1) (hb : 0 ≤ b ∧ b ≤ 99999) (h4 : σ 4 0 2 = s) (hT : zSimT σ) (hp : ∀ j, 1 ≤ j → j ≤ 40 → σ 13 j 2 = 1 → zme1 σ c j ≠ 0 → 0 ≤ σ 16 r j ∧ σ 16 r j ≤ 99999) (h : zSz σ s) : f_W_putRows [(4, 0), (15, r), (0, c), (0, b)] σ = some (0, 0, zsto (zem s (zsto σ 15 r 3 (σ 6 s 1)) (zend1 σ r c b (σ 6 s 1))) 15 r 2 (zem s (zsto σ 15 r 3 (σ 6 s 1)) (zend1 σ r c b (σ 6 s 1)) 6 s 1)) := by
  generalize hσ' : zsto σ 15 r 3 (σ 6 s 1) = σ'
  have g4 : σ' 4 = σ 4 := by rw [← hσ']; simp (disch := omega) only [zwr_id, zT_lt, zF_lt, zT_le, zF_le, zT_eq, zF_eq, zT_neq, zF_neq, zT_nlt, zT_nle, and_true, true_and, and_false, false_and, and_self, or_true, true_or, or_false, false_or, or_self, not_true_eq_false, not_false_eq_true, ↓reduceIte, implies_true, true_imp_iff, false_imp_iff, zcall0, zcall1, zcall2, zcall3, zcall4, zsto_eq, zsto_ne, zsto_fn, zok13, zok6, zok15, znb_0, zrng_hit, zrng_ne, zrng_fn, zcpy_ne, zcpy_fn]
  have g6 : σ' 6 = σ 6 := by rw [← hσ']; simp (disch := omega) only [zwr_id, zT_lt, zF_lt, zT_le, zF_le, zT_eq, zF_eq, zT_neq, zF_neq, zT_nlt, zT_nle, and_true, true_and, and_false, false_and, and_self, or_true, true_or, or_false, false_or, or_self, not_true_eq_false, not_false_eq_true, ↓reduceIte, implies_true, true_imp_iff, false_imp_iff, zcall0, zcall1, zcall2, zcall3, zcall4, zsto_eq, zsto_ne, zsto_fn, zok13, zok6, zok15, znb_0, zrng_hit, zrng_ne, zrng_fn, zcpy_ne, zcpy_fn]
  have g13 : σ' 13 = σ 13 := by rw [← hσ']; simp (disch := omega) only [zwr_id, zT_lt, zF_lt, zT_le, zF_le, zT_eq, zF_eq, zT_neq, zF_neq, zT_nlt, zT_nle, and_true, true_and, and_false, false_and, and_self, or_true, true_or, or_false, false_or, or_self, not_true_eq_false, not_false_eq_true, ↓reduceIte, implies_true, true_imp_iff, false_imp_iff, zcall0, zcall1, zcall2, zcall3, zcall4, zsto_eq, zsto_ne, zsto_fn, zok13, zok6, zok15, znb_0, zrng_hit, zrng_ne, zrng_fn, zcpy_ne, zcpy_fn]
  have g16 : σ' 16 = σ 16 := by rw [← hσ']; simp (disch := omega) only [zwr_id, zT_lt, zF_lt, zT_le, zF_le, zT_eq, zF_eq, zT_neq, zF_neq, zT_nlt, zT_nle, and_true, true_and, and_false, false_and, and_self, or_true, true_or, or_false, false_or, or_self, not_true_eq_false, not_false_eq_true, ↓reduceIte, implies_true, true_imp_iff, false_imp_iff, zcall0, zcall1, zcall2, zcall3, zcall4, zsto_eq, zsto_ne, zsto_fn, zok13, zok6, zok15, znb_0, zrng_hit, zrng_ne, zrng_fn, zcpy_ne, zcpy_fn]
  have g15 : σ' 15 r 3 = σ 6 s 1 := by rw [← hσ']; simp (disch := omega) only [zwr_id, zT_lt, zF_lt, zT_le, zF_le, zT_eq, zF_eq, zT_neq, zF_neq, zT_nlt, zT_nle, and_true, true_and, and_false, false_and, and_self, or_true, true_or, or_false, false_or, or_self, not_true_eq_false, not_false_eq_true, ↓reduceIte, implies_true, true_imp_iff, false_imp_iff, zcall0, zcall1, zcall2, zcall3, zcall4, zsto_eq, zsto_ne, zsto_fn, zok13, zok6, zok15, znb_0, zrng_hit, zrng_ne, zrng_fn, zcpy_ne, zcpy_fn]
  have gm : zme1 σ' c = zme1 σ c := by
    funext k
    unfold zme1
    rw [g13, ← hσ']
    simp (disch := omega) only [zwr_id, zT_lt, zF_lt, zT_le, zF_le, zT_eq, zF_eq, zT_neq, zF_neq, zT_nlt, zT_nle, and_true, true_and, and_false, false_and, and_self, or_true, true_or, or_false, false_or, or_self, not_true_eq_false, not_false_eq_true, ↓reduceIte, implies_true, true_imp_iff, false_imp_iff, zcall0, zcall1, zcall2, zcall3, zcall4, zsto_eq, zsto_ne, zsto_fn, zok13, zok6, zok15, znb_0, zrng_hit, zrng_ne, zrng_fn, zcpy_ne, zcpy_fn]
  have hT' : zSimT σ' := by rw [← hσ']; exact hT.fn (fun k hk => by
      simp only [List.mem_cons, List.not_mem_nil, or_false] at hk
      simp (disch := omega) only [zsto_fn, zrng_fn, zcpy_fn])
  have h' : zSz σ' s := by unfold zSz; rw [g6]; exact h
  have hz := zct_bd (zme1 σ c) 40 1 0
  have l1 : f_R_line [(6, s), (0, 120), (0, zct (zme1 σ c) 40 1 0), (0, -1)] σ' = some (0, 0, zem s σ' (ztd 120 (zct (zme1 σ c) 40 1 0))) := r_line1 σ' h' (by omega)
  have hcnt := w_rows_count (r := r) (b := b) σ' hs (by rw [g4]; exact h4) hc hT' (2, 0) 40 1 0 (by omega) (by omega) (by omega) (by omega)
  rw [gm, l1, zcall0] at hcnt
  have q := (zem_fn s σ' (ztd 120 (zct (zme1 σ c) 40 1 0)) h').1
  have hl := w_rows_loop (r := r) (c := c) (b := b) (a := zct (zme1 σ c) 40 1 0) hs hc hb 40 1 (zem s σ' (ztd 120 (zct (zme1 σ c) 40 1 0))) (2, 0) (by rw [q 4 (by decide) (by decide), g4]; exact h4) (hT'.em _ h') (by rw [q 15 (by decide) (by decide), g15]; unfold zSz at h; omega) (by rw [zme1_em _ h', gm, q 13 (by decide) (by decide), q 16 (by decide) (by decide), g13, g16]; exact hp) (zem_sz _ h').1 (by omega) (by omega)
  rw [zme1_em _ h', gm, q 13 (by decide) (by decide), q 16 (by decide) (by decide), g13, g16, q 15 (by decide) (by decide), g15, ← zem_app] at hl
  rw [u_W_putRows, e_W_putRows_0]
  simp (disch := omega) only [h4, zwr_id, zT_lt, zF_lt, zT_le, zF_le, zT_eq, zF_eq, zT_neq, zF_neq, zT_nlt, zT_nle, and_true, true_and, and_false, false_and, and_self, or_true, true_or, or_false, false_or, or_self, not_true_eq_false, not_false_eq_true, ↓reduceIte, implies_true, true_imp_iff, false_imp_iff, zcall0, zcall1, zcall2, zcall3, zcall4, zsto_eq, zsto_ne, zsto_fn, zok13, zok6, zok15, znb_0, zrng_hit, zrng_ne, zrng_fn, zcpy_ne, zcpy_fn]
  rw [hσ', hcnt, hl]
  rfl
