/-! BOTH WRITE ALIKE -/
/-- the class's row s and the reference's file: alike as far as written, or both too long -/
def zLk (σ υ : ZT) (s : Int) : Prop := (υ 20 0 16 ≤ 12000 ∧ σ 6 s 1 = υ 20 0 16 ∧ (υ 20 0 17 = 0 → ∀ j, 0 ≤ j → j < υ 20 0 16 → υ 27 0 j = σ 7 s j)) ∨ (12000 < υ 20 0 16 ∧ σ 6 s 1 = 12001)
theorem zLk.congr {σ σ' υ υ' : ZT} {s : Int} (h : zLk σ υ s) (h6 : σ' 6 = σ 6) (h7 : σ' 7 = σ 7) (h20 : υ' 20 = υ 20) (h27 : υ' 27 = υ 27) : zLk σ' υ' s := by
  unfold zLk at h ⊢
  rw [h6, h7, h20, h27]
  exact h
theorem zLk.em {σ υ : ZT} {s : Int} {bs bs' : List Int} (h : zLk σ υ s) (hz : zSz σ s) (h0 : 0 ≤ υ 20 0 16) (hb : υ 20 0 16 ≤ 12000 → bs' = bs) : zLk (zem s σ bs') (zme υ bs) s := by
  obtain ⟨a1, a2, a3, a4, a5, a6⟩ := zme_fn υ bs
  obtain ⟨b1, b2⟩ := zem_sz bs' hz
  obtain ⟨c1, c2, c3, c4, c5⟩ := zem_fn s σ bs' hz
  unfold zLk
  rw [a1, a3 17 (by decide), b2]
  rcases h with ⟨h1, h2, h3⟩ | ⟨h1, h2⟩
  · have hbb := hb h1
    subst hbb
    by_cases hl : υ 20 0 16 + bs'.length ≤ 12000
    · left
      refine ⟨hl, by rw [if_neg (by omega)]; omega, fun h17 j j0 j1 => ?_⟩
      by_cases hj : j < υ 20 0 16
      · rw [a4 j hj, c4 j (by omega)]
        exact h3 h17 j j0 hj
      · have hn : (j - υ 20 0 16).toNat < bs'.length := by omega
        have e : j = υ 20 0 16 + ((j - υ 20 0 16).toNat : Int) := by omega
        have g := List.getElem?_eq_getElem hn
        have k1 := zme_at υ bs' _ _ h17 g
        have k2 := zem_at s σ bs' _ _ hz g (by omega)
        rw [← e] at k1
        rw [h2, ← e] at k2
        rw [k1, k2]
    · right
      refine ⟨by omega, by rw [if_pos (by omega)]⟩
  · right
    refine ⟨by omega, by rw [if_pos (by omega)]⟩
def zLn (σ υ : ZT) (r n : Int) : Prop := σ 16 r n = υ 33 0 n ∧ 0 < σ 16 r n ∧ σ 17 r n = υ 25 0 n ∧ υ 34 0 n = zbh (υ 33 0 n) n (υ 25 0 n) ∧ υ 34 0 n + υ 25 0 n < υ 20 0 16
/-- what the two know of an object is alike -/
def zTw (σ υ : ZT) (n : Int) : Prop := σ 13 n 1 = υ 25 0 n ∧ 0 ≤ υ 25 0 n ∧ υ 25 0 n ≤ 120 ∧ ∀ i, 0 ≤ i → i < υ 25 0 n → σ 14 n i = υ 26 0 (120 * n + i)
theorem zLk.rec {σ υ : ZT} {s r n : Int} (h : zLk σ υ s) (hz : zSz σ s) (h0 : 0 ≤ υ 20 0 16) (hn : 1 ≤ n ∧ n ≤ 40) (ht : zTw σ υ n) : zLk (zwr1 σ s r n) (zmr υ n) s := by
  obtain ⟨t1, t2, t3, t4⟩ := ht
  have hoc : zoc (σ 14 n) (σ 13 n 1).toNat 0 = zoc (fun i => υ 26 0 (120 * n + i)) (υ 25 0 n).toNat 0 := by
    rw [t1]
    exact zoc_congr _ _ fun j j1 j2 => t4 j j1 (by omega)
  unfold zwr1 zmr zrec
  generalize hσ' : zsto (zsto σ 16 r n (σ 6 s 1)) 17 r n (σ 13 n 1) = σ'
  have g6 : σ' 6 = σ 6 := by rw [← hσ']; simp (disch := omega) only [zwr_id, zT_lt, zF_lt, zT_le, zF_le, zT_eq, zF_eq, zT_neq, zF_neq, zT_nlt, zT_nle, and_true, true_and, and_false, false_and, and_self, or_true, true_or, or_false, false_or, or_self, not_true_eq_false, not_false_eq_true, ↓reduceIte, implies_true, true_imp_iff, false_imp_iff, zcall0, zcall1, zcall2, zcall3, zcall4, zsto_eq, zsto_ne, zsto_fn, zok13, zok6, zok15, znb_0, zrng_hit, zrng_ne, zrng_fn, zcpy_ne, zcpy_fn]
  have g7 : σ' 7 = σ 7 := by rw [← hσ']; simp (disch := omega) only [zwr_id, zT_lt, zF_lt, zT_le, zF_le, zT_eq, zF_eq, zT_neq, zF_neq, zT_nlt, zT_nle, and_true, true_and, and_false, false_and, and_self, or_true, true_or, or_false, false_or, or_self, not_true_eq_false, not_false_eq_true, ↓reduceIte, implies_true, true_imp_iff, false_imp_iff, zcall0, zcall1, zcall2, zcall3, zcall4, zsto_eq, zsto_ne, zsto_fn, zok13, zok6, zok15, znb_0, zrng_hit, zrng_ne, zrng_fn, zcpy_ne, zcpy_fn]
  have hz' : zSz σ' s := by unfold zSz; rw [g6]; exact hz
  have l0 : zLk σ' (zsto υ 33 0 n (υ 20 0 16)) s := h.congr g6 g7 (by simp (disch := omega) only [zwr_id, zT_lt, zF_lt, zT_le, zF_le, zT_eq, zF_eq, zT_neq, zF_neq, zT_nlt, zT_nle, and_true, true_and, and_false, false_and, and_self, or_true, true_or, or_false, false_or, or_self, not_true_eq_false, not_false_eq_true, ↓reduceIte, implies_true, true_imp_iff, false_imp_iff, zcall0, zcall1, zcall2, zcall3, zcall4, zsto_eq, zsto_ne, zsto_fn, zok13, zok6, zok15, znb_0, zrng_hit, zrng_ne, zrng_fn, zcpy_ne, zcpy_fn]) (by simp (disch := omega) only [zwr_id, zT_lt, zF_lt, zT_le, zF_le, zT_eq, zF_eq, zT_neq, zF_neq, zT_nlt, zT_nle, and_true, true_and, and_false, false_and, and_self, or_true, true_or, or_false, false_or, or_self, not_true_eq_false, not_false_eq_true, ↓reduceIte, implies_true, true_imp_iff, false_imp_iff, zcall0, zcall1, zcall2, zcall3, zcall4, zsto_eq, zsto_ne, zsto_fn, zok13, zok6, zok15, znb_0, zrng_hit, zrng_ne, zrng_fn, zcpy_ne, zcpy_fn])
  have l1 := l0.em (bs := zhd1 n (υ 25 0 n)) (bs' := zhd1 n (υ 25 0 n)) hz' (by simp (disch := omega) only [zwr_id, zT_lt, zF_lt, zT_le, zF_le, zT_eq, zF_eq, zT_neq, zF_neq, zT_nlt, zT_nle, and_true, true_and, and_false, false_and, and_self, or_true, true_or, or_false, false_or, or_self, not_true_eq_false, not_false_eq_true, ↓reduceIte, implies_true, true_imp_iff, false_imp_iff, zcall0, zcall1, zcall2, zcall3, zcall4, zsto_eq, zsto_ne, zsto_fn, zok13, zok6, zok15, znb_0, zrng_hit, zrng_ne, zrng_fn, zcpy_ne, zcpy_fn]) (fun _ => rfl)
  obtain ⟨a1, a2, a3, a4, a5, a6⟩ := zme_fn (zsto υ 33 0 n (υ 20 0 16)) (zhd1 n (υ 25 0 n))
  have l2 : zLk (zem s σ' (zhd1 n (υ 25 0 n))) (zsto (zme (zsto υ 33 0 n (υ 20 0 16)) (zhd1 n (υ 25 0 n))) 34 0 n (υ 20 0 16 + (zhd1 n (υ 25 0 n)).length)) s := l1.congr rfl rfl (by simp (disch := omega) only [zwr_id, zT_lt, zF_lt, zT_le, zF_le, zT_eq, zF_eq, zT_neq, zF_neq, zT_nlt, zT_nle, and_true, true_and, and_false, false_and, and_self, or_true, true_or, or_false, false_or, or_self, not_true_eq_false, not_false_eq_true, ↓reduceIte, implies_true, true_imp_iff, false_imp_iff, zcall0, zcall1, zcall2, zcall3, zcall4, zsto_eq, zsto_ne, zsto_fn, zok13, zok6, zok15, znb_0, zrng_hit, zrng_ne, zrng_fn, zcpy_ne, zcpy_fn]) (by simp (disch := omega) only [zwr_id, zT_lt, zF_lt, zT_le, zF_le, zT_eq, zF_eq, zT_neq, zF_neq, zT_nlt, zT_nle, and_true, true_and, and_false, false_and, and_self, or_true, true_or, or_false, false_or, or_self, not_true_eq_false, not_false_eq_true, ↓reduceIte, implies_true, true_imp_iff, false_imp_iff, zcall0, zcall1, zcall2, zcall3, zcall4, zsto_eq, zsto_ne, zsto_fn, zok13, zok6, zok15, znb_0, zrng_hit, zrng_ne, zrng_fn, zcpy_ne, zcpy_fn])
  have l3 := l2.em (bs := zoc (fun i => υ 26 0 (120 * n + i)) (υ 25 0 n).toNat 0 ++ [10]) (bs' := zoc (fun i => υ 26 0 (120 * n + i)) (υ 25 0 n).toNat 0 ++ [10]) (zem_sz _ hz').1 (by
    rw [zsto_fn (by decide), a1, zsto_fn (by decide)]
    omega) (fun _ => rfl)
  rw [zem_app, hoc, t1]
  exact l3
theorem zrec_len {n l : Int} (hn : 1 ≤ n ∧ n ≤ 40) (hl : 0 ≤ l ∧ l ≤ 120) (f : Int → Int) (p : Int) : p + (zrec n l f).length = zbh p n l + l + 1 := by
  have h1 := zhd1_len hn hl p
  unfold zrec
  rw [List.length_append, List.length_append, zoc_len, List.length_singleton]
  omega
theorem zbh_bd (p n l : Int) : p + 6 ≤ zbh p n l ∧ zbh p n l ≤ p + 9 := by
  unfold zbh
  split <;> split <;> split <;> omega
theorem zLn.rec {σ υ : ZT} {s r n : Int} (h : zLk σ υ s) (hz : zSz σ s) (h0 : 0 < υ 20 0 16) (hn : 1 ≤ n ∧ n ≤ 40) (ht : zTw σ υ n) (hp : zmr υ n 20 0 16 ≤ 12000) : zLn (zwr1 σ s r n) (zmr υ n) r n := by
  obtain ⟨t1, t2, t3, t4⟩ := ht
  obtain ⟨a1, a2, a3, a4, a5, a6, a7, a8⟩ := zmr_fn υ n
  obtain ⟨c1, c2, c3, c4, c5, c6, c7, c8⟩ := zwr1_fn σ (s := s) (r := r) (n := n) hz
  have hl := zrec_len hn ⟨t2, t3⟩ (fun i => υ 26 0 (120 * n + i)) (υ 20 0 16)
  have hb := zbh_bd (υ 20 0 16) n (υ 25 0 n)
  have hh := zhd1_len hn ⟨t2, t3⟩ (υ 20 0 16)
  rw [a3] at hp
  unfold zLn
  rw [c2, c3, a7, a8, a1 25 (by decide) (by decide) (by decide) (by decide), a3]
  rw [zsto_eq, zsto_eq, zsto_eq, zsto_eq]
  unfold zLk at h
  exact ⟨by omega, by omega, t1, hh, by omega⟩
theorem zLn.keep {σ υ : ZT} {s r n m : Int} (hz : zSz σ s) (h : zLn σ υ r m) (hm : m ≠ n) : zLn (zwr1 σ s r n) (zmr υ n) r m := by
  obtain ⟨a1, a2, a3, a4, a5, a6, a7, a8⟩ := zmr_fn υ n
  obtain ⟨c1, c2, c3, c4, c5, c6, c7, c8⟩ := zwr1_fn σ (s := s) (r := r) (n := n) hz
  unfold zLn at h ⊢
  rw [c2, c3, a7, a8, a1 25 (by decide) (by decide) (by decide) (by decide), a3]
  rw [zsto_ne (by omega), zsto_ne (by omega), zsto_ne (by omega), zsto_ne (by omega)]
  omega
theorem zTw.keep {σ υ : ZT} {s r n m : Int} (hz : zSz σ s) (h : zTw σ υ m) : zTw (zwr1 σ s r n) (zmr υ n) m := by
  have a1 := (zmr_fn υ n).1
  have c1 := (zwr1_fn σ (s := s) (r := r) (n := n) hz).1
  unfold zTw at h ⊢
  rw [a1 25 (by decide) (by decide) (by decide) (by decide), a1 26 (by decide) (by decide) (by decide) (by decide), c1 13 (by decide) (by decide) (by decide) (by decide), c1 14 (by decide) (by decide) (by decide) (by decide)]
  exact h
theorem zmrs_ge : ∀ (ns : List Int) (υ : ZT), υ 20 0 16 ≤ zmrs υ ns 20 0 16
  | [], υ => Int.le_refl _
  | n :: ns, υ => by
    have h1 := zmrs_ge ns (zmr υ n)
    have h2 := (zmr_fn υ n).2.2.1
    show υ 20 0 16 ≤ zmrs (zmr υ n) ns 20 0 16
    omega
/-- all records of a list -/
theorem zLk.recs {s r : Int} : ∀ (ns : List Int) (σ υ : ZT) (D : Int → Prop), zLk σ υ s → zSz σ s → 0 < υ 20 0 16 → (∀ n, n ∈ ns → (1 ≤ n ∧ n ≤ 40) ∧ zTw σ υ n) → ns.Pairwise (fun a b => a ≠ b) → (∀ n, n ∈ ns → ¬ D n) → (υ 20 0 16 ≤ 12000 → ∀ n, D n → zLn σ υ r n) → zLk (zwrs s r σ ns) (zmrs υ ns) s ∧ (zmrs υ ns 20 0 16 ≤ 12000 → ∀ n, D n ∨ n ∈ ns → zLn (zwrs s r σ ns) (zmrs υ ns) r n)
  | [], σ, υ, D, h, hz, h0, hn, hp, hD, hL => ⟨h, fun q n hn => hL q n (hn.resolve_right (fun q => by cases q))⟩
  | n :: ns, σ, υ, D, h, hz, h0, hn, hp, hD, hL => by
    obtain ⟨hp1, hp2⟩ := List.pairwise_cons.mp hp
    have hn1 := hn n List.mem_cons_self
    have l1 := h.rec (r := r) hz (by omega) hn1.1 hn1.2
    have z1 := (zwr1_fn σ (s := s) (r := r) (n := n) hz).2.2.2.1
    have e16 := (zmr_fn υ n).2.2.1
    have ih := zLk.recs (s := s) (r := r) ns (zwr1 σ s r n) (zmr υ n) (fun m => D m ∨ m = n) l1 z1 (by omega) (fun m hm => ⟨(hn m (List.mem_cons_of_mem _ hm)).1, (hn m (List.mem_cons_of_mem _ hm)).2.keep hz⟩) hp2 (fun m hm q => by
      rcases q with q | q
      · exact hD m (List.mem_cons_of_mem _ hm) q
      · exact hp1 m hm q.symm) (fun q m hm => by
      rcases hm with hm | hm
      · refine (hL (by omega) m hm).keep hz fun q2 => ?_
        subst q2
        exact hD m List.mem_cons_self hm
      · subst hm
        exact zLn.rec h hz h0 hn1.1 hn1.2 q)
    refine ⟨ih.1, fun q m hm => ih.2 q m ?_⟩
    rcases hm with hm | hm
    · exact Or.inl (Or.inl hm)
    · rcases List.mem_cons.mp hm with hm | hm
      · exact Or.inl (Or.inr hm)
      · exact Or.inr hm
