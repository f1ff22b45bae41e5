/-! READING LINES, the class's side: a file as a function -/
theorem zsto_sto (σ : ZT) (k : Nat) (i s v w : Int) : zsto (zsto σ k i s v) k i s w = zsto σ k i s w := by
  funext k' i' s'
  unfold zsto
  by_cases h : k' = k ∧ i' = i ∧ s' = s
  · rw [if_pos h, if_pos h]
  · rw [if_neg h, if_neg h, if_neg h]
def zVv (σ : ZT) (f : Int) (j : Int) : Int := if 0 ≤ j ∧ j < σ 6 f 1 then σ 7 f j else -1000
def zdc (V : Int → Int) : Nat → Int → Nat
  | 0, _ => 0
  | m + 1, p => if 48 ≤ V p ∧ V p ≤ 57 then zdc V m (p + 1) + 1 else 0
def zvl (V : Int → Int) : Nat → Int → Int → Int
  | 0, _, a => a
  | n + 1, p, a => zvl V n (p + 1) (10 * a + V p - 48)
abbrev znm (V : Int → Int) (p : Int) : Prop := 1 ≤ zdc V 6 p ∧ zdc V 6 p ≤ 5 ∧ (zdc V 6 p = 1 ∨ V p ≠ 48)
theorem zdc_le (V : Int → Int) : ∀ (m : Nat) (p : Int), zdc V m p ≤ m
  | 0, _ => Nat.le_refl _
  | m + 1, p => by
    have := zdc_le V m (p + 1)
    rw [zdc]
    split <;> omega
theorem zdc_0 {V : Int → Int} {m : Nat} {p : Int} (h : 1 ≤ zdc V m p) : 48 ≤ V p ∧ V p ≤ 57 := by
  cases m with
  | zero => unfold zdc at h; omega
  | succ m =>
    rw [zdc] at h
    split at h
    · assumption
    · omega
/-- the cursor's store is in order -/
def zLe (σ : ZT) (f : Int) : Prop := (0 ≤ f ∧ f < 2) ∧ σ 9 0 0 = f ∧ (0 ≤ σ 6 f 1 ∧ σ 6 f 1 ≤ 12000) ∧ zSimB σ
theorem zLe.fn {σ τ : ZT} {f : Int} (h : zLe σ f) (h0 : τ 9 0 0 = f) (hk : ∀ k : Nat, k ≠ 9 → τ k = σ k) : zLe τ f := by
  obtain ⟨a1, a2, a3, a4⟩ := h
  refine ⟨a1, h0, by rw [hk 6 (by decide)]; exact a3, ?_⟩
  unfold zSimB at a4 ⊢
  rw [hk 7 (by decide), hk 14 (by decide), hk 26 (by decide), hk 27 (by decide)]
  exact a4
theorem zVv.fn {σ τ : ZT} {f : Int} (hk : ∀ k : Nat, k ≠ 9 → τ k = σ k) : zVv τ f = zVv σ f := by
  funext j
  unfold zVv
  rw [hk 6 (by decide), hk 7 (by decide)]
theorem zLe.sto {σ : ZT} {f s v : Int} (h : zLe σ f) (hs : s ≠ 0) : zLe (zsto σ 9 0 s v) f := h.fn (by rw [zsto_ne (by omega)]; exact h.2.1) (fun k hk => zsto_fn hk)
theorem l_isAt (σ : ZT) {f b p : Int} (h : zLe σ f) (h1 : σ 9 0 1 = p) (hp : 0 ≤ p ∧ p ≤ 2000000) (hb : 0 ≤ b ∧ b < 128) : f_L_isAt [(9, 0), (0, b)] σ = some (0, (if zVv σ f p = b then 1 else 0), σ) := by
  obtain ⟨a1, a2, a3, a4⟩ := h
  have hB := (a4 f p).1
  rw [u_L_isAt, e_L_isAt_0]
  unfold zVv
  by_cases hs : p < σ 6 f 1
  · rw [if_pos (show 0 ≤ p ∧ p < σ 6 f 1 by omega)]
    by_cases q : σ 7 f p = b
    · rw [if_pos q]
      simp (disch := omega) only [a2, h1, q, zwr_id, zT_lt, zF_lt, zT_le, zF_le, zT_eq, zF_eq, zT_neq, zF_neq, zT_nlt, zT_nle, and_true, true_and, and_false, false_and, and_self, or_true, true_or, or_false, false_or, or_self, not_true_eq_false, not_false_eq_true, ↓reduceIte, implies_true, true_imp_iff, false_imp_iff, zcall0, zcall1, zcall2, zcall3, zcall4, zsto_eq, zsto_ne, zsto_fn, zok13, zok6, zok15, znb_0, zrng_hit, zrng_ne, zrng_fn, zcpy_ne, zcpy_fn]
    · rw [if_neg q]
      simp (disch := omega) only [a2, h1, e_L_isAt_34, zwr_id, zT_lt, zF_lt, zT_le, zF_le, zT_eq, zF_eq, zT_neq, zF_neq, zT_nlt, zT_nle, and_true, true_and, and_false, false_and, and_self, or_true, true_or, or_false, false_or, or_self, not_true_eq_false, not_false_eq_true, ↓reduceIte, implies_true, true_imp_iff, false_imp_iff, zcall0, zcall1, zcall2, zcall3, zcall4, zsto_eq, zsto_ne, zsto_fn, zok13, zok6, zok15, znb_0, zrng_hit, zrng_ne, zrng_fn, zcpy_ne, zcpy_fn]
  · rw [if_neg (show ¬ (0 ≤ p ∧ p < σ 6 f 1) by omega), if_neg (show ¬ ((-1000 : Int) = b) by omega)]
    simp (disch := omega) only [a2, h1, e_L_isAt_34, zwr_id, zT_lt, zF_lt, zT_le, zF_le, zT_eq, zF_eq, zT_neq, zF_neq, zT_nlt, zT_nle, and_true, true_and, and_false, false_and, and_self, or_true, true_or, or_false, false_or, or_self, not_true_eq_false, not_false_eq_true, ↓reduceIte, implies_true, true_imp_iff, false_imp_iff, zcall0, zcall1, zcall2, zcall3, zcall4, zsto_eq, zsto_ne, zsto_fn, zok13, zok6, zok15, znb_0, zrng_hit, zrng_ne, zrng_fn, zcpy_ne, zcpy_fn]
/-- what a reader of lines leaves alone -/
def zLw (σ τ : ZT) : Prop := (∀ k : Nat, k ≠ 9 → τ k = σ k) ∧ τ 9 0 0 = σ 9 0 0
theorem zLw.refl (σ : ZT) : zLw σ σ := ⟨fun _ _ => rfl, rfl⟩
theorem zLw.trans {σ τ υ : ZT} (h : zLw σ τ) (h' : zLw τ υ) : zLw σ υ := ⟨fun k hk => (h'.1 k hk).trans (h.1 k hk), h'.2.trans h.2⟩
theorem zLw.sto {σ τ : ZT} {s v : Int} (h : zLw σ τ) (hs : s ≠ 0) : zLw σ (zsto τ 9 0 s v) := ⟨fun k hk => (zsto_fn hk).trans (h.1 k hk), by rw [zsto_ne (by omega)]; exact h.2⟩
theorem zLw.le {σ τ : ZT} {f : Int} (h : zLw σ τ) (hl : zLe σ f) : zLe τ f := hl.fn (h.2.trans hl.2.1) h.1
theorem zLw.vv {σ τ : ZT} (h : zLw σ τ) (f : Int) : zVv τ f = zVv σ f := zVv.fn h.1
theorem l_want (σ : ZT) {f b p o : Int} (h : zLe σ f) (h1 : σ 9 0 1 = p) (h2 : σ 9 0 2 = o) (ho : o = 0 ∨ o = 1) (hp : 0 ≤ p ∧ p ≤ 2000000) (hb : 0 ≤ b ∧ b < 128) : ∃ τ, f_L_want [(9, 0), (0, b)] σ = some (0, 0, τ) ∧ zLw σ τ ∧ τ 9 0 1 = p + 1 ∧ (τ 9 0 2 = 0 ∨ τ 9 0 2 = 1) ∧ (τ 9 0 2 = 1 ↔ o = 1 ∧ zVv σ f p = b) ∧ τ 9 0 3 = σ 9 0 3 ∧ τ 9 0 4 = σ 9 0 4 := by
  have e := l_isAt σ h h1 hp hb
  rw [u_L_want, e_L_want_0, e, zcall0, h2]
  generalize hv : (if zVv σ f p = b then (1 : Int) else 0) = v
  have hv2 : (v = 0 ∨ v = 1) ∧ (v = 1 ↔ zVv σ f p = b) := by
    by_cases q : zVv σ f p = b
    · rw [if_pos q] at hv; exact ⟨Or.inr hv.symm, fun _ => q, fun _ => hv.symm⟩
    · rw [if_neg q] at hv; exact ⟨Or.inl hv.symm, fun q2 => by omega, fun q2 => absurd q2 q⟩
  have hz := zand01 ho hv2.1
  have hz2 : zand o v = 0 ∨ zand o v = 1 := by rw [hz]; split <;> omega
  refine ⟨zsto (zsto σ 9 0 2 (zand o v)) 9 0 1 (p + 1), ?_, ((zLw.refl σ).sto (by decide)).sto (by decide), by simp (disch := omega) only [zwr_id, zT_lt, zF_lt, zT_le, zF_le, zT_eq, zF_eq, zT_neq, zF_neq, zT_nlt, zT_nle, and_true, true_and, and_false, false_and, and_self, or_true, true_or, or_false, false_or, or_self, not_true_eq_false, not_false_eq_true, ↓reduceIte, implies_true, true_imp_iff, false_imp_iff, zcall0, zcall1, zcall2, zcall3, zcall4, zsto_eq, zsto_ne, zsto_fn, zok13, zok6, zok15, znb_0, zrng_hit, zrng_ne, zrng_fn, zcpy_ne, zcpy_fn], ?_, ?_, by simp (disch := omega) only [zwr_id, zT_lt, zF_lt, zT_le, zF_le, zT_eq, zF_eq, zT_neq, zF_neq, zT_nlt, zT_nle, and_true, true_and, and_false, false_and, and_self, or_true, true_or, or_false, false_or, or_self, not_true_eq_false, not_false_eq_true, ↓reduceIte, implies_true, true_imp_iff, false_imp_iff, zcall0, zcall1, zcall2, zcall3, zcall4, zsto_eq, zsto_ne, zsto_fn, zok13, zok6, zok15, znb_0, zrng_hit, zrng_ne, zrng_fn, zcpy_ne, zcpy_fn], by simp (disch := omega) only [zwr_id, zT_lt, zF_lt, zT_le, zF_le, zT_eq, zF_eq, zT_neq, zF_neq, zT_nlt, zT_nle, and_true, true_and, and_false, false_and, and_self, or_true, true_or, or_false, false_or, or_self, not_true_eq_false, not_false_eq_true, ↓reduceIte, implies_true, true_imp_iff, false_imp_iff, zcall0, zcall1, zcall2, zcall3, zcall4, zsto_eq, zsto_ne, zsto_fn, zok13, zok6, zok15, znb_0, zrng_hit, zrng_ne, zrng_fn, zcpy_ne, zcpy_fn]⟩
  · simp (disch := omega) only [h1, zwr_id, zT_lt, zF_lt, zT_le, zF_le, zT_eq, zF_eq, zT_neq, zF_neq, zT_nlt, zT_nle, and_true, true_and, and_false, false_and, and_self, or_true, true_or, or_false, false_or, or_self, not_true_eq_false, not_false_eq_true, ↓reduceIte, implies_true, true_imp_iff, false_imp_iff, zcall0, zcall1, zcall2, zcall3, zcall4, zsto_eq, zsto_ne, zsto_fn, zok13, zok6, zok15, znb_0, zrng_hit, zrng_ne, zrng_fn, zcpy_ne, zcpy_fn]
  · simp (disch := omega) only [zwr_id, zT_lt, zF_lt, zT_le, zF_le, zT_eq, zF_eq, zT_neq, zF_neq, zT_nlt, zT_nle, and_true, true_and, and_false, false_and, and_self, or_true, true_or, or_false, false_or, or_self, not_true_eq_false, not_false_eq_true, ↓reduceIte, implies_true, true_imp_iff, false_imp_iff, zcall0, zcall1, zcall2, zcall3, zcall4, zsto_eq, zsto_ne, zsto_fn, zok13, zok6, zok15, znb_0, zrng_hit, zrng_ne, zrng_fn, zcpy_ne, zcpy_fn]
  · rw [zsto_ne (by omega), zsto_eq, hz, ← hv2.2]
    split <;> omega
theorem l_num_loop {f g : Int} {u : ZV} : ∀ (m : Nat) (p a : Int) (σ : ZT), zLe σ f → σ 9 0 1 = p → 0 ≤ g → p ≤ 1000000 → m ≤ 6 → p - g = 6 - m → zrun C_L_number (7, [(9, 0), (0, g), (0, a), u], [], σ) = zrun C_L_number (96, [(9, 0), (0, g), (0, zvl (zVv σ f) (zdc (zVv σ f) m p) p a), u], [], zsto σ 9 0 1 (p + zdc (zVv σ f) m p))
  | 0, p, a, σ, h, h1, hg, hp, hm, hd => by
    obtain ⟨a1, a2, a3, a4⟩ := h
    have hB := (a4 f p).1
    have ez : zsto σ 9 0 1 (p + ((0 : Nat) : Int)) = σ := by
      have : p + ((0 : Nat) : Int) = σ 9 0 1 := by omega
      rw [this, zsto_self]
    show _ = zrun C_L_number (96, [(9, 0), (0, g), (0, a), u], [], zsto σ 9 0 1 (p + ((0 : Nat) : Int)))
    rw [ez, e_L_number_7]
    by_cases hs : p < σ 6 f 1
    · by_cases q1 : σ 7 f p < 48
      · simp (disch := omega) only [a2, h1, zwr_id, zT_lt, zF_lt, zT_le, zF_le, zT_eq, zF_eq, zT_neq, zF_neq, zT_nlt, zT_nle, and_true, true_and, and_false, false_and, and_self, or_true, true_or, or_false, false_or, or_self, not_true_eq_false, not_false_eq_true, ↓reduceIte, implies_true, true_imp_iff, false_imp_iff, zcall0, zcall1, zcall2, zcall3, zcall4, zsto_eq, zsto_ne, zsto_fn, zok13, zok6, zok15, znb_0, zrng_hit, zrng_ne, zrng_fn, zcpy_ne, zcpy_fn]
      · by_cases q2 : 57 < σ 7 f p
        · simp (disch := omega) only [a2, h1, zwr_id, zT_lt, zF_lt, zT_le, zF_le, zT_eq, zF_eq, zT_neq, zF_neq, zT_nlt, zT_nle, and_true, true_and, and_false, false_and, and_self, or_true, true_or, or_false, false_or, or_self, not_true_eq_false, not_false_eq_true, ↓reduceIte, implies_true, true_imp_iff, false_imp_iff, zcall0, zcall1, zcall2, zcall3, zcall4, zsto_eq, zsto_ne, zsto_fn, zok13, zok6, zok15, znb_0, zrng_hit, zrng_ne, zrng_fn, zcpy_ne, zcpy_fn]
        · simp (disch := omega) only [a2, h1, zwr_id, zT_lt, zF_lt, zT_le, zF_le, zT_eq, zF_eq, zT_neq, zF_neq, zT_nlt, zT_nle, and_true, true_and, and_false, false_and, and_self, or_true, true_or, or_false, false_or, or_self, not_true_eq_false, not_false_eq_true, ↓reduceIte, implies_true, true_imp_iff, false_imp_iff, zcall0, zcall1, zcall2, zcall3, zcall4, zsto_eq, zsto_ne, zsto_fn, zok13, zok6, zok15, znb_0, zrng_hit, zrng_ne, zrng_fn, zcpy_ne, zcpy_fn]
    · simp (disch := omega) only [a2, h1, zwr_id, zT_lt, zF_lt, zT_le, zF_le, zT_eq, zF_eq, zT_neq, zF_neq, zT_nlt, zT_nle, and_true, true_and, and_false, false_and, and_self, or_true, true_or, or_false, false_or, or_self, not_true_eq_false, not_false_eq_true, ↓reduceIte, implies_true, true_imp_iff, false_imp_iff, zcall0, zcall1, zcall2, zcall3, zcall4, zsto_eq, zsto_ne, zsto_fn, zok13, zok6, zok15, znb_0, zrng_hit, zrng_ne, zrng_fn, zcpy_ne, zcpy_fn]
  | m + 1, p, a, σ, h, h1, hg, hp, hm, hd => by
    have h' := h
    obtain ⟨a1, a2, a3, a4⟩ := h'
    have hB := (a4 f p).1
    by_cases hs : p < σ 6 f 1 ∧ 48 ≤ σ 7 f p ∧ σ 7 f p ≤ 57
    · have hV : zVv σ f p = σ 7 f p := if_pos (by omega)
      have hz : zdc (zVv σ f) (m + 1) p = zdc (zVv σ f) m (p + 1) + 1 := by rw [zdc, if_pos (by omega)]
      have hw : zVv (zsto σ 9 0 1 (p + 1)) f = zVv σ f := zVv.fn fun k hk => zsto_fn hk
      have ih := l_num_loop (f := f) (g := g) (u := u) m (p + 1) (10 * a + σ 7 f p - 48) (zsto σ 9 0 1 (p + 1)) (h.sto (by decide)) zsto_eq hg (by omega) (by omega) (by omega)
      rw [hw, zsto_sto] at ih
      rw [hz, zvl, hV]
      have e : p + ((zdc (zVv σ f) m (p + 1) + 1 : Nat) : Int) = p + 1 + (zdc (zVv σ f) m (p + 1) : Int) := by omega
      rw [e, ← ih, e_L_number_7]
      simp (disch := omega) only [a2, h1, zwr_id, zT_lt, zF_lt, zT_le, zF_le, zT_eq, zF_eq, zT_neq, zF_neq, zT_nlt, zT_nle, and_true, true_and, and_false, false_and, and_self, or_true, true_or, or_false, false_or, or_self, not_true_eq_false, not_false_eq_true, ↓reduceIte, implies_true, true_imp_iff, false_imp_iff, zcall0, zcall1, zcall2, zcall3, zcall4, zsto_eq, zsto_ne, zsto_fn, zok13, zok6, zok15, znb_0, zrng_hit, zrng_ne, zrng_fn, zcpy_ne, zcpy_fn]
    · have hz : zdc (zVv σ f) (m + 1) p = 0 := by
        rw [zdc, if_neg]
        unfold zVv
        split <;> omega
      have ez : zsto σ 9 0 1 (p + ((0 : Nat) : Int)) = σ := by
        have : p + ((0 : Nat) : Int) = σ 9 0 1 := by omega
        rw [this, zsto_self]
      rw [hz, ez, e_L_number_7]
      show _ = zrun C_L_number (96, [(9, 0), (0, g), (0, a), u], [], σ)
      by_cases hs : p < σ 6 f 1
      · by_cases q1 : σ 7 f p < 48
        · simp (disch := omega) only [a2, h1, zwr_id, zT_lt, zF_lt, zT_le, zF_le, zT_eq, zF_eq, zT_neq, zF_neq, zT_nlt, zT_nle, and_true, true_and, and_false, false_and, and_self, or_true, true_or, or_false, false_or, or_self, not_true_eq_false, not_false_eq_true, ↓reduceIte, implies_true, true_imp_iff, false_imp_iff, zcall0, zcall1, zcall2, zcall3, zcall4, zsto_eq, zsto_ne, zsto_fn, zok13, zok6, zok15, znb_0, zrng_hit, zrng_ne, zrng_fn, zcpy_ne, zcpy_fn]
        · simp (disch := omega) only [a2, h1, zwr_id, zT_lt, zF_lt, zT_le, zF_le, zT_eq, zF_eq, zT_neq, zF_neq, zT_nlt, zT_nle, and_true, true_and, and_false, false_and, and_self, or_true, true_or, or_false, false_or, or_self, not_true_eq_false, not_false_eq_true, ↓reduceIte, implies_true, true_imp_iff, false_imp_iff, zcall0, zcall1, zcall2, zcall3, zcall4, zsto_eq, zsto_ne, zsto_fn, zok13, zok6, zok15, znb_0, zrng_hit, zrng_ne, zrng_fn, zcpy_ne, zcpy_fn]
      · simp (disch := omega) only [a2, h1, zwr_id, zT_lt, zF_lt, zT_le, zF_le, zT_eq, zF_eq, zT_neq, zF_neq, zT_nlt, zT_nle, and_true, true_and, and_false, false_and, and_self, or_true, true_or, or_false, false_or, or_self, not_true_eq_false, not_false_eq_true, ↓reduceIte, implies_true, true_imp_iff, false_imp_iff, zcall0, zcall1, zcall2, zcall3, zcall4, zsto_eq, zsto_ne, zsto_fn, zok13, zok6, zok15, znb_0, zrng_hit, zrng_ne, zrng_fn, zcpy_ne, zcpy_fn]
theorem l_number (σ : ZT) {f p o : Int} (h : zLe σ f) (h1 : σ 9 0 1 = p) (h2 : σ 9 0 2 = o) (ho : o = 0 ∨ o = 1) (hp : 0 ≤ p ∧ p ≤ 900000) : ∃ τ, f_L_number [(9, 0)] σ = some (0, zvl (zVv σ f) (zdc (zVv σ f) 6 p) p 0, τ) ∧ zLw σ τ ∧ τ 9 0 1 = p + zdc (zVv σ f) 6 p ∧ (τ 9 0 2 = 0 ∨ τ 9 0 2 = 1) ∧ (τ 9 0 2 = 1 ↔ o = 1 ∧ znm (zVv σ f) p) ∧ τ 9 0 3 = σ 9 0 3 ∧ τ 9 0 4 = σ 9 0 4 := by
  have hl := l_num_loop (g := p) (u := (2, 0)) 6 p 0 σ h h1 hp.1 (by omega) (by omega) (by omega)
  rw [u_L_number, e_L_number_0, h1, hl]
  have h' := h
  obtain ⟨a1, a2, a3, a4⟩ := h'
  have hd := zdc_le (zVv σ f) 6 p
  have h0 : 1 ≤ zdc (zVv σ f) 6 p → zVv σ f p = σ 7 f p ∧ p < σ 6 f 1 ∧ 48 ≤ σ 7 f p ∧ σ 7 f p ≤ 57 := fun q => by
    have := zdc_0 q
    unfold zVv at this ⊢
    split at this
    · rename_i q2
      rw [if_pos q2]
      exact ⟨rfl, q2.2, this⟩
    · omega
  generalize zvl (zVv σ f) (zdc (zVv σ f) 6 p) p 0 = v
  simp only [znm]
  generalize zdc (zVv σ f) 6 p = d at *
  have key : ∀ y, (y = 0 ∨ y = 1) → (y = 1 ↔ (1 ≤ d ∧ d ≤ 5 ∧ (d = 1 ∨ zVv σ f p ≠ 48))) → zrun C_L_number (96, [(9, 0), (0, p), (0, v), (2, 0)], [], zsto σ 9 0 1 (p + d)) = zrun C_L_number (141, [(9, 0), (0, p), (0, v), (0, p + d - p)], [(0, y), (0, o), (9, 0)], zsto σ 9 0 1 (p + d)) → ∃ τ, zrun C_L_number (96, [(9, 0), (0, p), (0, v), (2, 0)], [], zsto σ 9 0 1 (p + d)) = some (0, v, τ) ∧ zLw σ τ ∧ τ 9 0 1 = p + d ∧ (τ 9 0 2 = 0 ∨ τ 9 0 2 = 1) ∧ (τ 9 0 2 = 1 ↔ o = 1 ∧ 1 ≤ d ∧ d ≤ 5 ∧ (d = 1 ∨ zVv σ f p ≠ 48)) ∧ τ 9 0 3 = σ 9 0 3 ∧ τ 9 0 4 = σ 9 0 4 := fun y hy hyd e => by
    have hz := zand01 ho hy
    have hz2 : zand o y = 0 ∨ zand o y = 1 := by rw [hz]; split <;> omega
    refine ⟨zsto (zsto σ 9 0 1 (p + d)) 9 0 2 (zand o y), ?_, ((zLw.refl σ).sto (by decide)).sto (by decide), by simp (disch := omega) only [zwr_id, zT_lt, zF_lt, zT_le, zF_le, zT_eq, zF_eq, zT_neq, zF_neq, zT_nlt, zT_nle, and_true, true_and, and_false, false_and, and_self, or_true, true_or, or_false, false_or, or_self, not_true_eq_false, not_false_eq_true, ↓reduceIte, implies_true, true_imp_iff, false_imp_iff, zcall0, zcall1, zcall2, zcall3, zcall4, zsto_eq, zsto_ne, zsto_fn, zok13, zok6, zok15, znb_0, zrng_hit, zrng_ne, zrng_fn, zcpy_ne, zcpy_fn], ?_, ?_, by simp (disch := omega) only [zwr_id, zT_lt, zF_lt, zT_le, zF_le, zT_eq, zF_eq, zT_neq, zF_neq, zT_nlt, zT_nle, and_true, true_and, and_false, false_and, and_self, or_true, true_or, or_false, false_or, or_self, not_true_eq_false, not_false_eq_true, ↓reduceIte, implies_true, true_imp_iff, false_imp_iff, zcall0, zcall1, zcall2, zcall3, zcall4, zsto_eq, zsto_ne, zsto_fn, zok13, zok6, zok15, znb_0, zrng_hit, zrng_ne, zrng_fn, zcpy_ne, zcpy_fn], by simp (disch := omega) only [zwr_id, zT_lt, zF_lt, zT_le, zF_le, zT_eq, zF_eq, zT_neq, zF_neq, zT_nlt, zT_nle, and_true, true_and, and_false, false_and, and_self, or_true, true_or, or_false, false_or, or_self, not_true_eq_false, not_false_eq_true, ↓reduceIte, implies_true, true_imp_iff, false_imp_iff, zcall0, zcall1, zcall2, zcall3, zcall4, zsto_eq, zsto_ne, zsto_fn, zok13, zok6, zok15, znb_0, zrng_hit, zrng_ne, zrng_fn, zcpy_ne, zcpy_fn]⟩
    · rw [e, e_L_number_141]
      simp (disch := omega) only [zwr_id, zT_lt, zF_lt, zT_le, zF_le, zT_eq, zF_eq, zT_neq, zF_neq, zT_nlt, zT_nle, and_true, true_and, and_false, false_and, and_self, or_true, true_or, or_false, false_or, or_self, not_true_eq_false, not_false_eq_true, ↓reduceIte, implies_true, true_imp_iff, false_imp_iff, zcall0, zcall1, zcall2, zcall3, zcall4, zsto_eq, zsto_ne, zsto_fn, zok13, zok6, zok15, znb_0, zrng_hit, zrng_ne, zrng_fn, zcpy_ne, zcpy_fn]
    · simp (disch := omega) only [zwr_id, zT_lt, zF_lt, zT_le, zF_le, zT_eq, zF_eq, zT_neq, zF_neq, zT_nlt, zT_nle, and_true, true_and, and_false, false_and, and_self, or_true, true_or, or_false, false_or, or_self, not_true_eq_false, not_false_eq_true, ↓reduceIte, implies_true, true_imp_iff, false_imp_iff, zcall0, zcall1, zcall2, zcall3, zcall4, zsto_eq, zsto_ne, zsto_fn, zok13, zok6, zok15, znb_0, zrng_hit, zrng_ne, zrng_fn, zcpy_ne, zcpy_fn]
    · rw [zsto_eq, hz, ← hyd]
      split <;> omega
  by_cases hd0 : d = 0
  · refine key 0 (Or.inl rfl) (by omega) ?_
    rw [e_L_number_96]
    simp (disch := omega) only [h2, e_L_number_140, zwr_id, zT_lt, zF_lt, zT_le, zF_le, zT_eq, zF_eq, zT_neq, zF_neq, zT_nlt, zT_nle, and_true, true_and, and_false, false_and, and_self, or_true, true_or, or_false, false_or, or_self, not_true_eq_false, not_false_eq_true, ↓reduceIte, implies_true, true_imp_iff, false_imp_iff, zcall0, zcall1, zcall2, zcall3, zcall4, zsto_eq, zsto_ne, zsto_fn, zok13, zok6, zok15, znb_0, zrng_hit, zrng_ne, zrng_fn, zcpy_ne, zcpy_fn]
  · obtain ⟨g1, g2, g3, g4⟩ := h0 (by omega)
    by_cases hd5 : 5 < d
    · refine key 0 (Or.inl rfl) (by omega) ?_
      rw [e_L_number_96]
      simp (disch := omega) only [h2, e_L_number_140, zwr_id, zT_lt, zF_lt, zT_le, zF_le, zT_eq, zF_eq, zT_neq, zF_neq, zT_nlt, zT_nle, and_true, true_and, and_false, false_and, and_self, or_true, true_or, or_false, false_or, or_self, not_true_eq_false, not_false_eq_true, ↓reduceIte, implies_true, true_imp_iff, false_imp_iff, zcall0, zcall1, zcall2, zcall3, zcall4, zsto_eq, zsto_ne, zsto_fn, zok13, zok6, zok15, znb_0, zrng_hit, zrng_ne, zrng_fn, zcpy_ne, zcpy_fn]
    · by_cases hd1 : d = 1
      · refine key 1 (Or.inr rfl) (by omega) ?_
        rw [e_L_number_96]
        simp (disch := omega) only [h2, e_L_number_136, zwr_id, zT_lt, zF_lt, zT_le, zF_le, zT_eq, zF_eq, zT_neq, zF_neq, zT_nlt, zT_nle, and_true, true_and, and_false, false_and, and_self, or_true, true_or, or_false, false_or, or_self, not_true_eq_false, not_false_eq_true, ↓reduceIte, implies_true, true_imp_iff, false_imp_iff, zcall0, zcall1, zcall2, zcall3, zcall4, zsto_eq, zsto_ne, zsto_fn, zok13, zok6, zok15, znb_0, zrng_hit, zrng_ne, zrng_fn, zcpy_ne, zcpy_fn]
      · by_cases h48 : σ 7 f p = 48
        · refine key 0 (Or.inl rfl) (by omega) ?_
          rw [e_L_number_96]
          simp (disch := omega) only [h2, a2, e_L_number_140, zwr_id, zT_lt, zF_lt, zT_le, zF_le, zT_eq, zF_eq, zT_neq, zF_neq, zT_nlt, zT_nle, and_true, true_and, and_false, false_and, and_self, or_true, true_or, or_false, false_or, or_self, not_true_eq_false, not_false_eq_true, ↓reduceIte, implies_true, true_imp_iff, false_imp_iff, zcall0, zcall1, zcall2, zcall3, zcall4, zsto_eq, zsto_ne, zsto_fn, zok13, zok6, zok15, znb_0, zrng_hit, zrng_ne, zrng_fn, zcpy_ne, zcpy_fn]
        · refine key 1 (Or.inr rfl) (by omega) ?_
          rw [e_L_number_96]
          simp (disch := omega) only [h2, a2, e_L_number_136, zwr_id, zT_lt, zF_lt, zT_le, zF_le, zT_eq, zF_eq, zT_neq, zF_neq, zT_nlt, zT_nle, and_true, true_and, and_false, false_and, and_self, or_true, true_or, or_false, false_or, or_self, not_true_eq_false, not_false_eq_true, ↓reduceIte, implies_true, true_imp_iff, false_imp_iff, zcall0, zcall1, zcall2, zcall3, zcall4, zsto_eq, zsto_ne, zsto_fn, zok13, zok6, zok15, znb_0, zrng_hit, zrng_ne, zrng_fn, zcpy_ne, zcpy_fn]
theorem zdc_dig {V : Int → Int} : ∀ (m : Nat) (p : Int) (i : Nat), i < zdc V m p → 48 ≤ V (p + i) ∧ V (p + i) ≤ 57
  | 0, p, i, h => by unfold zdc at h; omega
  | m + 1, p, 0, h => by
    have := zdc_0 (V := V) (m := m + 1) (p := p) (by omega)
    have e : p + ((0 : Nat) : Int) = p := by omega
    rw [e]; exact this
  | m + 1, p, i + 1, h => by
    rw [zdc] at h
    split at h
    · have := zdc_dig m (p + 1) i (by omega)
      have e : p + ((i + 1 : Nat) : Int) = p + 1 + (i : Int) := by omega
      rw [e]; exact this
    · omega
theorem zvl_bd {V : Int → Int} : ∀ (n : Nat) (p a : Int), (∀ i : Nat, i < n → 48 ≤ V (p + i) ∧ V (p + i) ≤ 57) → 0 ≤ a → 0 ≤ zvl V n p a ∧ zvl V n p a < zp10 n * (a + 1)
  | 0, p, a, _, h => by
    show 0 ≤ a ∧ a < 1 * (a + 1)
    omega
  | n + 1, p, a, h, ha => by
    have h0 := h 0 (by omega)
    have e0 : p + ((0 : Nat) : Int) = p := by omega
    rw [e0] at h0
    have ih := zvl_bd (V := V) n (p + 1) (10 * a + V p - 48) (fun i hi => by
      have := h (i + 1) (by omega)
      have e : p + ((i + 1 : Nat) : Int) = p + 1 + (i : Int) := by omega
      rw [e] at this; exact this) (by omega)
    rw [zvl]
    refine ⟨ih.1, Int.lt_of_lt_of_le ih.2 ?_⟩
    show _ ≤ 10 * zp10 n * (a + 1)
    have e : 10 * zp10 n * (a + 1) = zp10 n * (10 * (a + 1)) := by rw [Int.mul_comm 10 (zp10 n), Int.mul_assoc]
    rw [e]
    exact Int.mul_le_mul_of_nonneg_left (by omega) (by have := zp10_pos n; omega)
/-- a number's value -/
abbrev znv (V : Int → Int) (p : Int) : Int := zvl V (zdc V 6 p) p 0
theorem znv_bd (V : Int → Int) (p : Int) : 0 ≤ znv V p ∧ znv V p < 1000000 := by
  have h := zvl_bd (V := V) (zdc V 6 p) p 0 (fun i hi => zdc_dig 6 p i hi) (by omega)
  have hd := zdc_le V 6 p
  refine ⟨h.1, Int.lt_of_lt_of_le h.2 ?_⟩
  have : ∀ n : Nat, n ≤ 6 → zp10 n * (0 + 1) ≤ 1000000 := by decide
  exact this _ hd
/-- a line of a sign and a number -/
abbrev zlo (V : Int → Int) (c p : Int) : Prop := V p = c ∧ V (p + 1) = 32 ∧ znm V (p + 2) ∧ V (p + 2 + zdc V 6 (p + 2)) = 10
theorem l_one (σ : ZT) {f c p : Int} (h : zLe σ f) (h1 : σ 9 0 1 = p) (hp : 0 ≤ p ∧ p ≤ 800000) (hc : 0 ≤ c ∧ c < 128) : ∃ v τ, f_L_one [(9, 0), (0, c)] σ = some (0, v, τ) ∧ zLw σ τ ∧ τ 9 0 1 = p + 3 + zdc (zVv σ f) 6 (p + 2) ∧ (zlo (zVv σ f) c p → v = znv (zVv σ f) (p + 2)) ∧ (¬ zlo (zVv σ f) c p → v = -1) := by
  have w0 : zLw σ (zsto σ 9 0 2 1) := (zLw.refl σ).sto (by decide)
  obtain ⟨τ1, e1, w1, x1, y1, z1, _, _⟩ := l_want (zsto σ 9 0 2 1) (b := c) (p := p) (o := 1) (w0.le h) (by simp (disch := omega) only [zwr_id, zT_lt, zF_lt, zT_le, zF_le, zT_eq, zF_eq, zT_neq, zF_neq, zT_nlt, zT_nle, and_true, true_and, and_false, false_and, and_self, or_true, true_or, or_false, false_or, or_self, not_true_eq_false, not_false_eq_true, ↓reduceIte, implies_true, true_imp_iff, false_imp_iff, zcall0, zcall1, zcall2, zcall3, zcall4, zsto_eq, zsto_ne, zsto_fn, zok13, zok6, zok15, znb_0, zrng_hit, zrng_ne, zrng_fn, zcpy_ne, zcpy_fn]; exact h1) zsto_eq (Or.inr rfl) (by omega) hc
  have v1 := w0.trans w1
  obtain ⟨τ2, e2, w2, x2, y2, z2, _, _⟩ := l_want τ1 (b := 32) (p := p + 1) (o := τ1 9 0 2) (v1.le h) x1 rfl y1 (by omega) (by omega)
  have v2 := v1.trans w2
  obtain ⟨τ3, e3, w3, x3, y3, z3, _, _⟩ := l_number τ2 (p := p + 1 + 1) (o := τ2 9 0 2) (v2.le h) x2 rfl y2 (by omega)
  have v3 := v2.trans w3
  have hd := zdc_le (zVv σ f) 6 (p + 1 + 1)
  rw [v2.vv f] at e3 x3 z3
  obtain ⟨τ4, e4, w4, x4, y4, z4, _, _⟩ := l_want τ3 (b := 10) (p := p + 1 + 1 + zdc (zVv σ f) 6 (p + 1 + 1)) (o := τ3 9 0 2) (v3.le h) x3 rfl y3 (by omega) (by omega)
  have v4 := v3.trans w4
  rw [w0.vv f] at z1
  rw [v1.vv f] at z2
  rw [v3.vv f] at z4
  have ep : p + 1 + 1 = p + 2 := by omega
  rw [ep] at e3 x3 z3 x4 z4
  have hb : τ4 9 0 2 = 1 ↔ zlo (zVv σ f) c p := by
    rw [z4, z3, z2, z1]
    exact ⟨fun ⟨⟨⟨⟨_, q1⟩, q2⟩, q3⟩, q4⟩ => ⟨q1, q2, q3, q4⟩, fun ⟨q1, q2, q3, q4⟩ => ⟨⟨⟨⟨rfl, q1⟩, q2⟩, q3⟩, q4⟩⟩
  rw [u_L_one, e_L_one_0]
  simp (disch := omega) only [e1, zwr_id, zT_lt, zF_lt, zT_le, zF_le, zT_eq, zF_eq, zT_neq, zF_neq, zT_nlt, zT_nle, and_true, true_and, and_false, false_and, and_self, or_true, true_or, or_false, false_or, or_self, not_true_eq_false, not_false_eq_true, ↓reduceIte, implies_true, true_imp_iff, false_imp_iff, zcall0, zcall1, zcall2, zcall3, zcall4, zsto_eq, zsto_ne, zsto_fn, zok13, zok6, zok15, znb_0, zrng_hit, zrng_ne, zrng_fn, zcpy_ne, zcpy_fn]
  rw [e2, zcall0, e3, zcall0, e4, zcall0]
  rcases y4 with y4 | y4
  · refine ⟨-1, τ4, by simp (disch := omega) only [zwr_id, zT_lt, zF_lt, zT_le, zF_le, zT_eq, zF_eq, zT_neq, zF_neq, zT_nlt, zT_nle, and_true, true_and, and_false, false_and, and_self, or_true, true_or, or_false, false_or, or_self, not_true_eq_false, not_false_eq_true, ↓reduceIte, implies_true, true_imp_iff, false_imp_iff, zcall0, zcall1, zcall2, zcall3, zcall4, zsto_eq, zsto_ne, zsto_fn, zok13, zok6, zok15, znb_0, zrng_hit, zrng_ne, zrng_fn, zcpy_ne, zcpy_fn], v4, by omega, fun q => ?_, fun _ => rfl⟩
    have := hb.mpr q
    omega
  · refine ⟨_, τ4, by simp (disch := omega) only [zwr_id, zT_lt, zF_lt, zT_le, zF_le, zT_eq, zF_eq, zT_neq, zF_neq, zT_nlt, zT_nle, and_true, true_and, and_false, false_and, and_self, or_true, true_or, or_false, false_or, or_self, not_true_eq_false, not_false_eq_true, ↓reduceIte, implies_true, true_imp_iff, false_imp_iff, zcall0, zcall1, zcall2, zcall3, zcall4, zsto_eq, zsto_ne, zsto_fn, zok13, zok6, zok15, znb_0, zrng_hit, zrng_ne, zrng_fn, zcpy_ne, zcpy_fn], v4, by omega, fun q => rfl, fun q => absurd (hb.mp y4) q⟩
theorem l_two64 (σ : ZT) {f p o y : Int} {g : Int} (x2 : Int) (h : zLe σ f) (h1 : σ 9 0 1 = p) (h2 : σ 9 0 2 = o) (ho : o = 0 ∨ o = 1) (hp : 0 ≤ p ∧ p ≤ 900000) : ∃ v τ, zrun C_L_two (64, [(9, 0), (0, g), (0, x2)], [(0, y), (9, 0)], σ) = some (0, v, τ) ∧ zLw σ τ ∧ τ 9 0 1 = p + 1 ∧ (v = 0 ∨ v = 1) ∧ (v = 1 ↔ o = 1 ∧ zVv σ f p = 10) ∧ τ 9 0 3 = σ 9 0 3 ∧ τ 9 0 4 = y := by
  have w0 : zLw σ (zsto σ 9 0 4 y) := (zLw.refl σ).sto (by decide)
  obtain ⟨τ1, e1, w1, x1, y1, z1, u3, u4⟩ := l_want (zsto σ 9 0 4 y) (b := 10) (p := p) (o := o) (w0.le h) (by simp (disch := omega) only [zwr_id, zT_lt, zF_lt, zT_le, zF_le, zT_eq, zF_eq, zT_neq, zF_neq, zT_nlt, zT_nle, and_true, true_and, and_false, false_and, and_self, or_true, true_or, or_false, false_or, or_self, not_true_eq_false, not_false_eq_true, ↓reduceIte, implies_true, true_imp_iff, false_imp_iff, zcall0, zcall1, zcall2, zcall3, zcall4, zsto_eq, zsto_ne, zsto_fn, zok13, zok6, zok15, znb_0, zrng_hit, zrng_ne, zrng_fn, zcpy_ne, zcpy_fn]; exact h1) (by simp (disch := omega) only [zwr_id, zT_lt, zF_lt, zT_le, zF_le, zT_eq, zF_eq, zT_neq, zF_neq, zT_nlt, zT_nle, and_true, true_and, and_false, false_and, and_self, or_true, true_or, or_false, false_or, or_self, not_true_eq_false, not_false_eq_true, ↓reduceIte, implies_true, true_imp_iff, false_imp_iff, zcall0, zcall1, zcall2, zcall3, zcall4, zsto_eq, zsto_ne, zsto_fn, zok13, zok6, zok15, znb_0, zrng_hit, zrng_ne, zrng_fn, zcpy_ne, zcpy_fn]; exact h2) ho (by omega) (by omega)
  rw [w0.vv f] at z1
  refine ⟨τ1 9 0 2, τ1, ?_, w0.trans w1, x1, y1, z1, by rw [u3]; simp (disch := omega) only [zwr_id, zT_lt, zF_lt, zT_le, zF_le, zT_eq, zF_eq, zT_neq, zF_neq, zT_nlt, zT_nle, and_true, true_and, and_false, false_and, and_self, or_true, true_or, or_false, false_or, or_self, not_true_eq_false, not_false_eq_true, ↓reduceIte, implies_true, true_imp_iff, false_imp_iff, zcall0, zcall1, zcall2, zcall3, zcall4, zsto_eq, zsto_ne, zsto_fn, zok13, zok6, zok15, znb_0, zrng_hit, zrng_ne, zrng_fn, zcpy_ne, zcpy_fn], by rw [u4]; simp (disch := omega) only [zwr_id, zT_lt, zF_lt, zT_le, zF_le, zT_eq, zF_eq, zT_neq, zF_neq, zT_nlt, zT_nle, and_true, true_and, and_false, false_and, and_self, or_true, true_or, or_false, false_or, or_self, not_true_eq_false, not_false_eq_true, ↓reduceIte, implies_true, true_imp_iff, false_imp_iff, zcall0, zcall1, zcall2, zcall3, zcall4, zsto_eq, zsto_ne, zsto_fn, zok13, zok6, zok15, znb_0, zrng_hit, zrng_ne, zrng_fn, zcpy_ne, zcpy_fn]⟩
  rw [e_L_two_64, e1, zcall0]
  rcases y1 with y1 | y1
  · simp (disch := omega) only [y1, zwr_id, zT_lt, zF_lt, zT_le, zF_le, zT_eq, zF_eq, zT_neq, zF_neq, zT_nlt, zT_nle, and_true, true_and, and_false, false_and, and_self, or_true, true_or, or_false, false_or, or_self, not_true_eq_false, not_false_eq_true, ↓reduceIte, implies_true, true_imp_iff, false_imp_iff, zcall0, zcall1, zcall2, zcall3, zcall4, zsto_eq, zsto_ne, zsto_fn, zok13, zok6, zok15, znb_0, zrng_hit, zrng_ne, zrng_fn, zcpy_ne, zcpy_fn]
  · simp (disch := omega) only [y1, zwr_id, zT_lt, zF_lt, zT_le, zF_le, zT_eq, zF_eq, zT_neq, zF_neq, zT_nlt, zT_nle, and_true, true_and, and_false, false_and, and_self, or_true, true_or, or_false, false_or, or_self, not_true_eq_false, not_false_eq_true, ↓reduceIte, implies_true, true_imp_iff, false_imp_iff, zcall0, zcall1, zcall2, zcall3, zcall4, zsto_eq, zsto_ne, zsto_fn, zok13, zok6, zok15, znb_0, zrng_hit, zrng_ne, zrng_fn, zcpy_ne, zcpy_fn]
/-- two numbers; a row: a number, and a number or none -/
abbrev zlt (V : Int → Int) (p : Int) : Prop := znm V p ∧ V (p + zdc V 6 p) = 32 ∧ znm V (p + zdc V 6 p + 1) ∧ V (p + zdc V 6 p + 1 + zdc V 6 (p + zdc V 6 p + 1)) = 10
abbrev zlg (V : Int → Int) (p : Int) : Prop := znm V p ∧ V (p + zdc V 6 p) = 32 ∧ V (p + zdc V 6 p + 1) = 45 ∧ V (p + zdc V 6 p + 2) = 10
theorem l_two (σ : ZT) {f p o g : Int} (h : zLe σ f) (h1 : σ 9 0 1 = p) (h2 : σ 9 0 2 = o) (ho : o = 0 ∨ o = 1) (hg : g = 0 ∨ g = 1) (hp : 0 ≤ p ∧ p ≤ 700000) : ∃ v τ, f_L_two [(9, 0), (0, g)] σ = some (0, v, τ) ∧ zLw σ τ ∧ (0 ≤ τ 9 0 1 ∧ τ 9 0 1 ≤ p + 20) ∧ (v = 0 ∨ v = 1) ∧ τ 9 0 3 = znv (zVv σ f) p ∧ (¬ (g = 1 ∧ zVv σ f (p + zdc (zVv σ f) 6 p + 1) = 45) → (v = 1 ↔ o = 1 ∧ zlt (zVv σ f) p) ∧ τ 9 0 4 = znv (zVv σ f) (p + zdc (zVv σ f) 6 p + 1) ∧ τ 9 0 1 = p + zdc (zVv σ f) 6 p + 1 + zdc (zVv σ f) 6 (p + zdc (zVv σ f) 6 p + 1) + 1) ∧ (g = 1 ∧ zVv σ f (p + zdc (zVv σ f) 6 p + 1) = 45 → (v = 1 ↔ o = 1 ∧ zlg (zVv σ f) p) ∧ τ 9 0 4 = -1 ∧ τ 9 0 1 = p + zdc (zVv σ f) 6 p + 3) := by
  obtain ⟨τ1, e1, w1, x1, y1, z1, _, _⟩ := l_number σ (p := p) h h1 h2 ho (by omega)
  have hd := zdc_le (zVv σ f) 6 p
  have w1' := w1.sto (s := 3) (v := znv (zVv σ f) p) (by decide)
  obtain ⟨τ2, e2, w2, x2, y2, z2, u3, _⟩ := l_want (zsto τ1 9 0 3 (znv (zVv σ f) p)) (b := 32) (p := p + zdc (zVv σ f) 6 p) (o := τ1 9 0 2) (w1'.le h) (by simp (disch := omega) only [zwr_id, zT_lt, zF_lt, zT_le, zF_le, zT_eq, zF_eq, zT_neq, zF_neq, zT_nlt, zT_nle, and_true, true_and, and_false, false_and, and_self, or_true, true_or, or_false, false_or, or_self, not_true_eq_false, not_false_eq_true, ↓reduceIte, implies_true, true_imp_iff, false_imp_iff, zcall0, zcall1, zcall2, zcall3, zcall4, zsto_eq, zsto_ne, zsto_fn, zok13, zok6, zok15, znb_0, zrng_hit, zrng_ne, zrng_fn, zcpy_ne, zcpy_fn]; exact x1) (by simp (disch := omega) only [zwr_id, zT_lt, zF_lt, zT_le, zF_le, zT_eq, zF_eq, zT_neq, zF_neq, zT_nlt, zT_nle, and_true, true_and, and_false, false_and, and_self, or_true, true_or, or_false, false_or, or_self, not_true_eq_false, not_false_eq_true, ↓reduceIte, implies_true, true_imp_iff, false_imp_iff, zcall0, zcall1, zcall2, zcall3, zcall4, zsto_eq, zsto_ne, zsto_fn, zok13, zok6, zok15, znb_0, zrng_hit, zrng_ne, zrng_fn, zcpy_ne, zcpy_fn]) y1 (by omega) (by omega)
  have v2 := w1'.trans w2
  rw [zsto_eq] at u3
  rw [w1'.vv f] at z2
  have hV2 := v2.vv f
  have hat := l_isAt τ2 (b := 45) (p := p + zdc (zVv σ f) 6 p + 1) (v2.le h) x2 (by omega) (by omega)
  rw [hV2] at hat
  have ez : zsto τ2 9 0 1 (p + zdc (zVv σ f) 6 p + 1 + 0) = τ2 := by
    have : p + zdc (zVv σ f) 6 p + 1 + 0 = τ2 9 0 1 := by omega
    rw [this, zsto_self]
  rw [u_L_two, e_L_two_0, e1, zcall0, e2, zcall0]
  generalize hV : zVv σ f = V at *
  generalize hdd : zdc V 6 p = d at *
  by_cases hq : g = 1 ∧ V (p + d + 1) = 45
  · obtain ⟨τ4, ⟨τ5, e4, w4, x4, y4, z4, u4, u5⟩⟩ := l_two64 (zsto τ2 9 0 1 (p + d + 1 + 1)) (g := g) (y := -1) (p := p + d + 1 + 1) (o := τ2 9 0 2) 1 ((v2.sto (by decide)).le h) zsto_eq (by simp (disch := omega) only [zwr_id, zT_lt, zF_lt, zT_le, zF_le, zT_eq, zF_eq, zT_neq, zF_neq, zT_nlt, zT_nle, and_true, true_and, and_false, false_and, and_self, or_true, true_or, or_false, false_or, or_self, not_true_eq_false, not_false_eq_true, ↓reduceIte, implies_true, true_imp_iff, false_imp_iff, zcall0, zcall1, zcall2, zcall3, zcall4, zsto_eq, zsto_ne, zsto_fn, zok13, zok6, zok15, znb_0, zrng_hit, zrng_ne, zrng_fn, zcpy_ne, zcpy_fn]) y2 (by omega)
    have hVv : zVv (zsto τ2 9 0 1 (p + d + 1 + 1)) f = V := ((v2.sto (by decide)).vv f).trans hV
    rw [hVv] at z4
    refine ⟨τ4, τ5, ?_, (v2.sto (by decide)).trans w4, by omega, y4, by rw [u4]; simp (disch := omega) only [zwr_id, zT_lt, zF_lt, zT_le, zF_le, zT_eq, zF_eq, zT_neq, zF_neq, zT_nlt, zT_nle, and_true, true_and, and_false, false_and, and_self, or_true, true_or, or_false, false_or, or_self, not_true_eq_false, not_false_eq_true, ↓reduceIte, implies_true, true_imp_iff, false_imp_iff, zcall0, zcall1, zcall2, zcall3, zcall4, zsto_eq, zsto_ne, zsto_fn, zok13, zok6, zok15, znb_0, zrng_hit, zrng_ne, zrng_fn, zcpy_ne, zcpy_fn]; exact u3, fun q => absurd hq q, fun _ => ⟨?_, u5, by omega⟩⟩
    · rw [if_pos hq.2] at hat
      simp (disch := omega) only [hat, e_L_two_32, x2, e_L_two_47, e4, zwr_id, zT_lt, zF_lt, zT_le, zF_le, zT_eq, zF_eq, zT_neq, zF_neq, zT_nlt, zT_nle, and_true, true_and, and_false, false_and, and_self, or_true, true_or, or_false, false_or, or_self, not_true_eq_false, not_false_eq_true, ↓reduceIte, implies_true, true_imp_iff, false_imp_iff, zcall0, zcall1, zcall2, zcall3, zcall4, zsto_eq, zsto_ne, zsto_fn, zok13, zok6, zok15, znb_0, zrng_hit, zrng_ne, zrng_fn, zcpy_ne, zcpy_fn]
    · rw [z4, z2, z1, show p + (d : Int) + 1 + 1 = p + d + 2 by omega]
      exact ⟨fun ⟨⟨⟨q0, q1⟩, q2⟩, q3⟩ => ⟨q0, q1, q2, hq.2, q3⟩, fun ⟨q0, q1, q2, q3, q4⟩ => ⟨⟨⟨q0, q1⟩, q2⟩, q4⟩⟩
  · obtain ⟨τ3, e3, w3, x3, y3, z3, t3, t4⟩ := l_number τ2 (p := p + d + 1) (o := τ2 9 0 2) (v2.le h) x2 rfl y2 (by omega)
    rw [hV2] at e3 x3 z3
    have v3 := v2.trans w3
    have hd2 := zdc_le V 6 (p + d + 1)
    obtain ⟨τ4, ⟨τ5, e4, w4, x4, y4, z4, u4, u5⟩⟩ := l_two64 τ3 (g := g) (y := znv V (p + d + 1)) (p := p + d + 1 + zdc V 6 (p + d + 1)) (o := τ3 9 0 2) 0 (v3.le h) x3 rfl y3 (by omega)
    have hVv : zVv τ3 f = V := (v3.vv f).trans hV
    rw [hVv] at z4
    have e31 : zrun C_L_two (31, [(9, 0), (0, g), (2, 0)], [], τ2) = some (0, τ4, τ5) := by
      rw [e_L_two_31, e_L_two_32]
      simp (disch := omega) only [x2, e_L_two_47, ez, e3, e4, zwr_id, zT_lt, zF_lt, zT_le, zF_le, zT_eq, zF_eq, zT_neq, zF_neq, zT_nlt, zT_nle, and_true, true_and, and_false, false_and, and_self, or_true, true_or, or_false, false_or, or_self, not_true_eq_false, not_false_eq_true, ↓reduceIte, implies_true, true_imp_iff, false_imp_iff, zcall0, zcall1, zcall2, zcall3, zcall4, zsto_eq, zsto_ne, zsto_fn, zok13, zok6, zok15, znb_0, zrng_hit, zrng_ne, zrng_fn, zcpy_ne, zcpy_fn]
    refine ⟨τ4, τ5, ?_, v3.trans w4, by omega, y4, by rw [u4, t3]; exact u3, fun q => ⟨?_, u5, by omega⟩, fun q => absurd q hq⟩
    · rcases hg with hg | hg
      · simp (disch := omega) only [e31, zwr_id, zT_lt, zF_lt, zT_le, zF_le, zT_eq, zF_eq, zT_neq, zF_neq, zT_nlt, zT_nle, and_true, true_and, and_false, false_and, and_self, or_true, true_or, or_false, false_or, or_self, not_true_eq_false, not_false_eq_true, ↓reduceIte, implies_true, true_imp_iff, false_imp_iff, zcall0, zcall1, zcall2, zcall3, zcall4, zsto_eq, zsto_ne, zsto_fn, zok13, zok6, zok15, znb_0, zrng_hit, zrng_ne, zrng_fn, zcpy_ne, zcpy_fn]
      · have hne : ¬ V (p + d + 1) = 45 := fun q => hq ⟨hg, q⟩
        rw [if_neg hne] at hat
        simp (disch := omega) only [hat, e31, zwr_id, zT_lt, zF_lt, zT_le, zF_le, zT_eq, zF_eq, zT_neq, zF_neq, zT_nlt, zT_nle, and_true, true_and, and_false, false_and, and_self, or_true, true_or, or_false, false_or, or_self, not_true_eq_false, not_false_eq_true, ↓reduceIte, implies_true, true_imp_iff, false_imp_iff, zcall0, zcall1, zcall2, zcall3, zcall4, zsto_eq, zsto_ne, zsto_fn, zok13, zok6, zok15, znb_0, zrng_hit, zrng_ne, zrng_fn, zcpy_ne, zcpy_fn]
    · rw [z4, z3, z2, z1]
      exact ⟨fun ⟨⟨⟨⟨q0, q1⟩, q2⟩, q3⟩, q4⟩ => ⟨q0, q1, q2, q3, q4⟩, fun ⟨q0, q1, q2, q3, q4⟩ => ⟨⟨⟨⟨q0, q1⟩, q2⟩, q3⟩, q4⟩⟩
/-- a row, what it tells, where it ends; a record's first line -/
abbrev zrB (V : Int → Int) (p : Int) : Prop := zlg V p ∨ zlt V p
def zrS (V : Int → Int) (p : Int) : Int := if V (p + zdc V 6 p + 1) = 45 then -1 else znv V (p + zdc V 6 p + 1)
def zrE (V : Int → Int) (p : Int) : Int := if V (p + zdc V 6 p + 1) = 45 then p + zdc V 6 p + 3 else p + zdc V 6 p + 2 + zdc V 6 (p + zdc V 6 p + 1)
theorem znm_ne {V : Int → Int} {p : Int} (h : znm V p) : V p ≠ 45 ∧ V p ≠ 10 ∧ V p ≠ 32 := by
  have := zdc_0 h.1
  omega
theorem l_row (σ : ZT) {f p : Int} (h : zLe σ f) (h1 : σ 9 0 1 = p) (hp : 0 ≤ p ∧ p ≤ 700000) : ∃ v τ, f_L_row [(9, 0)] σ = some (0, v, τ) ∧ zLw σ τ ∧ (v = 0 ∨ v = 1) ∧ (v = 1 ↔ zrB (zVv σ f) p) ∧ (zrB (zVv σ f) p → τ 9 0 3 = znv (zVv σ f) p ∧ τ 9 0 4 = zrS (zVv σ f) p ∧ τ 9 0 1 = zrE (zVv σ f) p) := by
  have w0 : zLw σ (zsto σ 9 0 2 1) := (zLw.refl σ).sto (by decide)
  obtain ⟨v, τ, e, w, x, y, t3, ha, hb⟩ := l_two (zsto σ 9 0 2 1) (p := p) (o := 1) (g := 1) (w0.le h) (by simp (disch := omega) only [zwr_id, zT_lt, zF_lt, zT_le, zF_le, zT_eq, zF_eq, zT_neq, zF_neq, zT_nlt, zT_nle, and_true, true_and, and_false, false_and, and_self, or_true, true_or, or_false, false_or, or_self, not_true_eq_false, not_false_eq_true, ↓reduceIte, implies_true, true_imp_iff, false_imp_iff, zcall0, zcall1, zcall2, zcall3, zcall4, zsto_eq, zsto_ne, zsto_fn, zok13, zok6, zok15, znb_0, zrng_hit, zrng_ne, zrng_fn, zcpy_ne, zcpy_fn]; exact h1) zsto_eq (Or.inr rfl) (Or.inr rfl) hp
  rw [w0.vv f] at t3 ha hb
  generalize zVv σ f = V at *
  unfold zrS zrE
  refine ⟨v, τ, ?_, w0.trans w, y, ?_, fun _ => ?_⟩
  · rw [u_L_row, e_L_row_0]
    simp (disch := omega) only [e, zwr_id, zT_lt, zF_lt, zT_le, zF_le, zT_eq, zF_eq, zT_neq, zF_neq, zT_nlt, zT_nle, and_true, true_and, and_false, false_and, and_self, or_true, true_or, or_false, false_or, or_self, not_true_eq_false, not_false_eq_true, ↓reduceIte, implies_true, true_imp_iff, false_imp_iff, zcall0, zcall1, zcall2, zcall3, zcall4, zsto_eq, zsto_ne, zsto_fn, zok13, zok6, zok15, znb_0, zrng_hit, zrng_ne, zrng_fn, zcpy_ne, zcpy_fn]
    rcases y with y | y
    · simp (disch := omega) only [y, zwr_id, zT_lt, zF_lt, zT_le, zF_le, zT_eq, zF_eq, zT_neq, zF_neq, zT_nlt, zT_nle, and_true, true_and, and_false, false_and, and_self, or_true, true_or, or_false, false_or, or_self, not_true_eq_false, not_false_eq_true, ↓reduceIte, implies_true, true_imp_iff, false_imp_iff, zcall0, zcall1, zcall2, zcall3, zcall4, zsto_eq, zsto_ne, zsto_fn, zok13, zok6, zok15, znb_0, zrng_hit, zrng_ne, zrng_fn, zcpy_ne, zcpy_fn]
    · simp (disch := omega) only [y, zwr_id, zT_lt, zF_lt, zT_le, zF_le, zT_eq, zF_eq, zT_neq, zF_neq, zT_nlt, zT_nle, and_true, true_and, and_false, false_and, and_self, or_true, true_or, or_false, false_or, or_self, not_true_eq_false, not_false_eq_true, ↓reduceIte, implies_true, true_imp_iff, false_imp_iff, zcall0, zcall1, zcall2, zcall3, zcall4, zsto_eq, zsto_ne, zsto_fn, zok13, zok6, zok15, znb_0, zrng_hit, zrng_ne, zrng_fn, zcpy_ne, zcpy_fn]
  · by_cases hq : V (p + zdc V 6 p + 1) = 45
    · rw [(hb ⟨rfl, hq⟩).1]
      exact ⟨fun q => Or.inl q.2, fun q => ⟨rfl, q.resolve_right fun q2 => (znm_ne q2.2.2.1).1 hq⟩⟩
    · rw [(ha (fun q => hq q.2)).1]
      exact ⟨fun q => Or.inr q.2, fun q => ⟨rfl, q.resolve_left fun q2 => hq q2.2.2.1⟩⟩
  · by_cases hq : V (p + zdc V 6 p + 1) = 45
    · have := hb ⟨rfl, hq⟩
      rw [if_pos hq, if_pos hq]
      exact ⟨t3, this.2.1, by omega⟩
    · have := ha (fun q => hq q.2)
      rw [if_neg hq, if_neg hq]
      exact ⟨t3, this.2.1, by omega⟩
abbrev zcB (V : Int → Int) (p : Int) : Prop := V p = 111 ∧ V (p + 1) = 32 ∧ zlt V (p + 2)
theorem l_record (σ : ZT) {f p : Int} (h : zLe σ f) (h1 : σ 9 0 1 = p) (hp : 0 ≤ p ∧ p ≤ 600000) : ∃ v τ, f_L_record [(9, 0)] σ = some (0, v, τ) ∧ zLw σ τ ∧ (v = 0 ∨ v = 1) ∧ (v = 1 ↔ zcB (zVv σ f) p) ∧ τ 9 0 3 = znv (zVv σ f) (p + 2) ∧ τ 9 0 4 = znv (zVv σ f) (p + 2 + zdc (zVv σ f) 6 (p + 2) + 1) ∧ τ 9 0 1 = p + 2 + zdc (zVv σ f) 6 (p + 2) + 2 + zdc (zVv σ f) 6 (p + 2 + zdc (zVv σ f) 6 (p + 2) + 1) := by
  have w0 : zLw σ (zsto σ 9 0 2 1) := (zLw.refl σ).sto (by decide)
  obtain ⟨τ1, e1, w1, x1, y1, z1, _, _⟩ := l_want (zsto σ 9 0 2 1) (b := 111) (p := p) (o := 1) (w0.le h) (by simp (disch := omega) only [zwr_id, zT_lt, zF_lt, zT_le, zF_le, zT_eq, zF_eq, zT_neq, zF_neq, zT_nlt, zT_nle, and_true, true_and, and_false, false_and, and_self, or_true, true_or, or_false, false_or, or_self, not_true_eq_false, not_false_eq_true, ↓reduceIte, implies_true, true_imp_iff, false_imp_iff, zcall0, zcall1, zcall2, zcall3, zcall4, zsto_eq, zsto_ne, zsto_fn, zok13, zok6, zok15, znb_0, zrng_hit, zrng_ne, zrng_fn, zcpy_ne, zcpy_fn]; exact h1) zsto_eq (Or.inr rfl) (by omega) (by omega)
  have v1 := w0.trans w1
  obtain ⟨τ2, e2, w2, x2, y2, z2, _, _⟩ := l_want τ1 (b := 32) (p := p + 1) (o := τ1 9 0 2) (v1.le h) x1 rfl y1 (by omega) (by omega)
  have v2 := v1.trans w2
  have ep : p + 1 + 1 = p + 2 := by omega
  rw [ep] at x2
  obtain ⟨v, τ, e, w, x, y, t3, ha, hb⟩ := l_two τ2 (p := p + 2) (o := τ2 9 0 2) (g := 0) (v2.le h) x2 rfl y2 (Or.inl rfl) (by omega)
  rw [v2.vv f] at t3 ha
  rw [w0.vv f] at z1
  rw [v1.vv f] at z2
  obtain ⟨a1, a2, a3⟩ := ha (fun q => by omega)
  refine ⟨v, τ, ?_, v2.trans w, y, ?_, t3, a2, by omega⟩
  · rw [u_L_record, e_L_record_0]
    simp (disch := omega) only [e1, zwr_id, zT_lt, zF_lt, zT_le, zF_le, zT_eq, zF_eq, zT_neq, zF_neq, zT_nlt, zT_nle, and_true, true_and, and_false, false_and, and_self, or_true, true_or, or_false, false_or, or_self, not_true_eq_false, not_false_eq_true, ↓reduceIte, implies_true, true_imp_iff, false_imp_iff, zcall0, zcall1, zcall2, zcall3, zcall4, zsto_eq, zsto_ne, zsto_fn, zok13, zok6, zok15, znb_0, zrng_hit, zrng_ne, zrng_fn, zcpy_ne, zcpy_fn]
    rw [e2, zcall0, e, zcall0]
    rcases y with y | y
    · simp (disch := omega) only [y, zwr_id, zT_lt, zF_lt, zT_le, zF_le, zT_eq, zF_eq, zT_neq, zF_neq, zT_nlt, zT_nle, and_true, true_and, and_false, false_and, and_self, or_true, true_or, or_false, false_or, or_self, not_true_eq_false, not_false_eq_true, ↓reduceIte, implies_true, true_imp_iff, false_imp_iff, zcall0, zcall1, zcall2, zcall3, zcall4, zsto_eq, zsto_ne, zsto_fn, zok13, zok6, zok15, znb_0, zrng_hit, zrng_ne, zrng_fn, zcpy_ne, zcpy_fn]
    · simp (disch := omega) only [y, zwr_id, zT_lt, zF_lt, zT_le, zF_le, zT_eq, zF_eq, zT_neq, zF_neq, zT_nlt, zT_nle, and_true, true_and, and_false, false_and, and_self, or_true, true_or, or_false, false_or, or_self, not_true_eq_false, not_false_eq_true, ↓reduceIte, implies_true, true_imp_iff, false_imp_iff, zcall0, zcall1, zcall2, zcall3, zcall4, zsto_eq, zsto_ne, zsto_fn, zok13, zok6, zok15, znb_0, zrng_hit, zrng_ne, zrng_fn, zcpy_ne, zcpy_fn]
  · rw [a1, z2, z1]
    exact ⟨fun ⟨⟨⟨_, q1⟩, q2⟩, q3⟩ => ⟨q1, q2, q3⟩, fun ⟨q1, q2, q3⟩ => ⟨⟨⟨rfl, q1⟩, q2⟩, q3⟩⟩
theorem l_begin (σ : ZT) {f p : Int} (hf : 0 ≤ f ∧ f < 2) (hz : 0 ≤ σ 6 f 1 ∧ σ 6 f 1 ≤ 12000) (hB : zSimB σ) : ∃ τ, f_L_begin [(9, 0), (6, f), (0, p)] σ = some (0, 0, τ) ∧ (∀ k : Nat, k ≠ 9 → τ k = σ k) ∧ τ 9 0 1 = p ∧ zLe τ f ∧ zVv τ f = zVv σ f := by
  have hk : ∀ k : Nat, k ≠ 9 → zsto (zsto (zsto σ 9 0 0 f) 9 0 1 p) 9 0 2 1 k = σ k := fun k hk => by simp (disch := omega) only [zwr_id, zT_lt, zF_lt, zT_le, zF_le, zT_eq, zF_eq, zT_neq, zF_neq, zT_nlt, zT_nle, and_true, true_and, and_false, false_and, and_self, or_true, true_or, or_false, false_or, or_self, not_true_eq_false, not_false_eq_true, ↓reduceIte, implies_true, true_imp_iff, false_imp_iff, zcall0, zcall1, zcall2, zcall3, zcall4, zsto_eq, zsto_ne, zsto_fn, zok13, zok6, zok15, znb_0, zrng_hit, zrng_ne, zrng_fn, zcpy_ne, zcpy_fn]
  refine ⟨zsto (zsto (zsto σ 9 0 0 f) 9 0 1 p) 9 0 2 1, ?_, hk, by simp (disch := omega) only [zwr_id, zT_lt, zF_lt, zT_le, zF_le, zT_eq, zF_eq, zT_neq, zF_neq, zT_nlt, zT_nle, and_true, true_and, and_false, false_and, and_self, or_true, true_or, or_false, false_or, or_self, not_true_eq_false, not_false_eq_true, ↓reduceIte, implies_true, true_imp_iff, false_imp_iff, zcall0, zcall1, zcall2, zcall3, zcall4, zsto_eq, zsto_ne, zsto_fn, zok13, zok6, zok15, znb_0, zrng_hit, zrng_ne, zrng_fn, zcpy_ne, zcpy_fn], ⟨hf, by simp (disch := omega) only [zwr_id, zT_lt, zF_lt, zT_le, zF_le, zT_eq, zF_eq, zT_neq, zF_neq, zT_nlt, zT_nle, and_true, true_and, and_false, false_and, and_self, or_true, true_or, or_false, false_or, or_self, not_true_eq_false, not_false_eq_true, ↓reduceIte, implies_true, true_imp_iff, false_imp_iff, zcall0, zcall1, zcall2, zcall3, zcall4, zsto_eq, zsto_ne, zsto_fn, zok13, zok6, zok15, znb_0, zrng_hit, zrng_ne, zrng_fn, zcpy_ne, zcpy_fn], by rw [hk 6 (by decide)]; exact hz, zSimB.sto (zSimB.sto (zSimB.sto hB (by omega)) (by omega)) (by omega)⟩, zVv.fn hk⟩
  rw [u_L_begin, e_L_begin_0]
  simp (disch := omega) only [zwr_id, zT_lt, zF_lt, zT_le, zF_le, zT_eq, zF_eq, zT_neq, zF_neq, zT_nlt, zT_nle, and_true, true_and, and_false, false_and, and_self, or_true, true_or, or_false, false_or, or_self, not_true_eq_false, not_false_eq_true, ↓reduceIte, implies_true, true_imp_iff, false_imp_iff, zcall0, zcall1, zcall2, zcall3, zcall4, zsto_eq, zsto_ne, zsto_fn, zok13, zok6, zok15, znb_0, zrng_hit, zrng_ne, zrng_fn, zcpy_ne, zcpy_fn]
