/-! THE ORDER OF RECORDS: the class's choice is the reference's scan -/
def zky (ρ : ZT) (how n : Int) : Int := if how = 1 then ρ 25 0 n else if how = 2 then (if ρ 22 0 n = 0 then 1 else 0) else 0
def zlex (ρ : ZT) (how a b : Int) : Prop := zky ρ how a < zky ρ how b ∨ (zky ρ how a = zky ρ how b ∧ a < b)
theorem zin_mem (f : Int → Int) : ∀ (m : Nat) (a n : Int), n ∈ zin f m a ↔ a ≤ n ∧ n < a + m ∧ f n ≠ 0
  | 0, a, n => by
    unfold zin
    refine ⟨fun h => (by cases h), fun h => ?_⟩
    omega
  | m + 1, a, n => by
    rw [zin, List.mem_append, zin_mem f m (a + 1) n]
    by_cases hf : f a = 0
    · rw [if_pos hf]
      refine ⟨fun h => ?_, fun h => Or.inr ?_⟩
      · rcases h with h | h
        · cases h
        · exact ⟨by omega, by omega, h.2.2⟩
      · refine ⟨?_, by omega, h.2.2⟩
        by_cases q : n = a
        · subst q; exact absurd hf h.2.2
        · omega
    · rw [if_neg hf, List.mem_singleton]
      refine ⟨fun h => ?_, fun h => ?_⟩
      · rcases h with h | h
        · subst h; exact ⟨by omega, by omega, hf⟩
        · exact ⟨by omega, by omega, h.2.2⟩
      · by_cases q : n = a
        · exact Or.inl q
        · exact Or.inr ⟨by omega, by omega, h.2.2⟩
theorem zin_pw {R : Int → Int → Prop} (f : Int → Int) : ∀ (m : Nat) (a : Int), (∀ x y, x ∈ zin f m a → y ∈ zin f m a → x < y → R x y) → (zin f m a).Pairwise R
  | 0, a, h => List.Pairwise.nil
  | m + 1, a, h => by
    rw [zin] at h ⊢
    have ih := zin_pw (R := R) f m (a + 1) fun x y hx hy hxy => h x y (List.mem_append.mpr (Or.inr hx)) (List.mem_append.mpr (Or.inr hy)) hxy
    by_cases hf : f a = 0
    · rw [if_pos hf] at h ⊢
      exact ih
    · rw [if_neg hf] at h ⊢
      refine List.Pairwise.cons (fun y hy => ?_) ih
      have := (zin_mem f m (a + 1) y).mp hy
      exact h a y (List.mem_append.mpr (Or.inl (List.mem_singleton.mpr rfl))) (List.mem_append.mpr (Or.inr hy)) (by omega)
theorem zou_mem (f : Int → Int → Int) : ∀ (m : Nat) (t n : Int), n ∈ zou f m t ↔ 1 ≤ n ∧ n ≤ 40 ∧ ∃ t', t ≤ t' ∧ t' < t + m ∧ f t' n ≠ 0
  | 0, t, n => by
    unfold zou
    refine ⟨fun h => (by cases h), fun ⟨_, _, t', h1, h2, _⟩ => ?_⟩
    omega
  | m + 1, t, n => by
    rw [zou, List.mem_append, zin_mem, zou_mem f m (t + 1) n]
    refine ⟨fun h => ?_, fun ⟨h1, h2, t', h3, h4, h5⟩ => ?_⟩
    · rcases h with h | ⟨h1, h2, t', h3, h4, h5⟩
      · exact ⟨by omega, by omega, t, by omega, by omega, h.2.2⟩
      · exact ⟨h1, h2, t', by omega, by omega, h5⟩
    · by_cases q : t' = t
      · subst q; exact Or.inl ⟨by omega, by omega, h5⟩
      · exact Or.inr ⟨h1, h2, t', by omega, by omega, h5⟩
theorem zcn_ne {ρ : ZT} {w how t n : Int} : zcn ρ w how t n ≠ 0 ↔ zmean ρ w n ≠ 0 ∧ ρ 21 0 n ≠ 0 ∧ znow ρ how t n := by
  unfold zcn
  split
  · exact ⟨fun _ => by assumption, fun _ => by decide⟩
  · exact ⟨fun h => absurd rfl h, fun h => absurd h (by assumption)⟩
theorem znow_ky {ρ : ZT} (hB : zBs ρ) {how t n : Int} (hh : 0 ≤ how ∧ how ≤ 2) (hn : 1 ≤ n ∧ n ≤ 40) (h1 : ρ 21 0 n = 1) (ht : 0 ≤ t ∧ t < ztn how) : znow ρ how t n ↔ zky ρ how n = t := by
  obtain ⟨b1, b2, b3⟩ := hB n hn.1 hn.2
  have := b3 h1
  have k0 : zky ρ 0 n = 0 := rfl
  have k1 : zky ρ 1 n = ρ 25 0 n := rfl
  have k2 : zky ρ 2 n = (if ρ 22 0 n = 0 then 1 else 0) := rfl
  rcases (show how = 0 ∨ how = 1 ∨ how = 2 by omega) with rfl | rfl | rfl
  · have ht : 0 ≤ t ∧ t < ((1 : Nat) : Int) := ht
    rw [k0]
    exact ⟨fun _ => by omega, fun _ => ⟨fun q => by omega, fun q => by omega⟩⟩
  · rw [k1]
    exact ⟨fun q => q.1 rfl, fun q => ⟨fun _ => q, fun q2 => by omega⟩⟩
  · have ht : 0 ≤ t ∧ t < ((2 : Nat) : Int) := ht
    rw [k2]
    refine ⟨fun q => ?_, fun q => ⟨fun q2 => by omega, fun _ => ?_⟩⟩
    · have q3 := q.2 rfl
      by_cases z1 : t = 0
      · rw [if_pos z1] at q3
        rw [if_neg (by omega)]
        exact z1.symm
      · rw [if_neg z1] at q3
        rw [if_pos q3]
        omega
    · by_cases z1 : ρ 22 0 n = 0
      · rw [if_pos z1] at q
        rw [if_neg (by omega)]
        exact z1
      · rw [if_neg z1] at q
        rw [if_pos q.symm]
        omega
theorem zky_bd {ρ : ZT} (hB : zBs ρ) {how n : Int} (hh : 0 ≤ how ∧ how ≤ 2) (hn : 1 ≤ n ∧ n ≤ 40) (h1 : ρ 21 0 n = 1) : 0 ≤ zky ρ how n ∧ zky ρ how n < ztn how := by
  obtain ⟨b1, b2, b3⟩ := hB n hn.1 hn.2
  have := b3 h1
  rcases (show how = 0 ∨ how = 1 ∨ how = 2 by omega) with rfl | rfl | rfl
  · show (0 : Int) ≤ 0 ∧ (0 : Int) < ((1 : Nat) : Int); omega
  · show 0 ≤ ρ 25 0 n ∧ ρ 25 0 n < ((121 : Nat) : Int); omega
  · show 0 ≤ (if ρ 22 0 n = 0 then (1 : Int) else 0) ∧ (if ρ 22 0 n = 0 then (1 : Int) else 0) < ((2 : Nat) : Int)
    split <;> omega
theorem znl_mem {ρ : ZT} (hB : zBs ρ) {w how n : Int} (hh : 0 ≤ how ∧ how ≤ 2) : n ∈ znl ρ w how ↔ 1 ≤ n ∧ n ≤ 40 ∧ zmean ρ w n ≠ 0 ∧ ρ 21 0 n ≠ 0 := by
  unfold znl
  rw [zou_mem]
  refine ⟨fun ⟨h1, h2, t', h3, h4, h5⟩ => ?_, fun ⟨h1, h2, h3, h4⟩ => ?_⟩
  · have := zcn_ne.mp h5
    exact ⟨h1, h2, this.1, this.2.1⟩
  · have h21 : ρ 21 0 n = 1 := by have := (hB n h1 h2).1; omega
    have hk := zky_bd hB hh ⟨h1, h2⟩ h21
    exact ⟨h1, h2, zky ρ how n, hk.1, by omega, zcn_ne.mpr ⟨h3, h4, (znow_ky hB hh ⟨h1, h2⟩ h21 hk).mpr rfl⟩⟩
theorem zou_pw {ρ : ZT} (hB : zBs ρ) {w how : Int} (hh : 0 ≤ how ∧ how ≤ 2) : ∀ (m : Nat) (t : Int), 0 ≤ t → t + m ≤ ztn how → (zou (zcn ρ w how) m t).Pairwise (zlex ρ how)
  | 0, _, _, _ => List.Pairwise.nil
  | m + 1, t, h0, ht => by
    have key : ∀ t' : Int, 0 ≤ t' → t' < ztn how → ∀ n, 1 ≤ n → n ≤ 40 → zcn ρ w how t' n ≠ 0 → zky ρ how n = t' := fun t' q1 q2 n n1 n2 hc => by
      have := zcn_ne.mp hc
      have h21 : ρ 21 0 n = 1 := by have := (hB n n1 n2).1; omega
      exact (znow_ky hB hh ⟨n1, n2⟩ h21 ⟨q1, q2⟩).mp this.2.2
    rw [zou, List.pairwise_append]
    refine ⟨zin_pw _ _ _ fun x y hx hy hxy => ?_, zou_pw hB hh m (t + 1) (by omega) (by omega), fun a ha b hb => ?_⟩
    · have h1 := (zin_mem _ _ _ _).mp hx
      have h2 := (zin_mem _ _ _ _).mp hy
      exact Or.inr ⟨by rw [key t h0 (by omega) x (by omega) (by omega) h1.2.2, key t h0 (by omega) y (by omega) (by omega) h2.2.2], hxy⟩
    · have h1 := (zin_mem _ _ _ _).mp ha
      obtain ⟨h2, h3, t', h4, h5, h6⟩ := (zou_mem _ _ _ _).mp hb
      left
      rw [key t h0 (by omega) a (by omega) (by omega) h1.2.2, key t' (by omega) (by omega) b h2 h3 h6]
      omega
theorem znl_pw {ρ : ZT} (hB : zBs ρ) {w how : Int} (hh : 0 ≤ how ∧ how ≤ 2) : (znl ρ w how).Pairwise (zlex ρ how) := zou_pw hB hh (ztn how) 0 (by omega) (by omega)
/-- a candidate: there, with no record yet -/
def zcd (σ : ZT) (r n : Int) : Prop := σ 13 n 2 = 1 ∧ σ 16 r n ≤ 0
def zbst (σ : ZT) (how r n best : Int) : Prop := (best = -1 ∧ ∀ c, 1 ≤ c → c < n → ¬ zcd σ r c) ∨ (1 ≤ best ∧ best < n ∧ zcd σ r best ∧ ∀ c, 1 ≤ c → c < n → zcd σ r c → c = best ∨ zlex σ how best c)
theorem w_next_step (σ : ZT) (hT : zSimT σ) {how r n best : Int} {u5 u6 : ZV} (hh : 0 ≤ how ∧ how ≤ 2) (hn : 1 ≤ n ∧ n ≤ 40) (h16 : zI (σ 16 r n)) (hb : zbst σ how r n best) : ∃ best' v5 v6, zbst σ how r (n + 1) best' ∧ zrun C_W_next (5, [(4, 0), (0, how), (15, r), (0, best), (0, n), u5, u6], [], σ) = zrun C_W_next (5, [(4, 0), (0, how), (15, r), (0, best'), (0, n + 1), v5, v6], [], σ) := by
  obtain ⟨a1, a2, a3, a4, a5, a6, a7, a8, a9⟩ := hT n hn.1 hn.2
  rw [e_W_next_5]
  by_cases hc : zcd σ r n
  · obtain ⟨c1, c2⟩ := hc
    have d9 := a9 c1
    rcases hb with ⟨hb1, hb2⟩ | ⟨hb1, hb2, hb3, hb4⟩
    · refine ⟨n, (13, n), (0, 1), Or.inr ⟨by omega, by omega, ⟨c1, c2⟩, fun c q1 q2 q3 => ?_⟩, ?_⟩
      · by_cases hcn : c = n
        · exact Or.inl hcn
        · exact absurd q3 (hb2 c q1 (by omega))
      · simp (disch := omega) only [e_W_next_94, e_W_next_99, e_W_next_112, e_W_next_113, zwr_id, zT_lt, zF_lt, zT_le, zF_le, zT_eq, zF_eq, zT_neq, zF_neq, zT_nlt, zT_nle, and_true, true_and, and_false, false_and, and_self, or_true, true_or, or_false, false_or, or_self, not_true_eq_false, not_false_eq_true, ↓reduceIte, implies_true, true_imp_iff, false_imp_iff, zcall0, zcall1, zcall2, zcall3, zcall4, zsto_eq, zsto_ne, zsto_fn, zok13, zok6, zok15, znb_0, zrng_hit, zrng_ne, zrng_fn, zcpy_ne, zcpy_fn]
    · obtain ⟨o1, o2, o3, o4, o5, o6, o7, o8, o9⟩ := hT best hb1 (by omega)
      have p9 := o9 hb3.1
      have key : (zky σ how n < zky σ how best → ∃ v5 v6, zrun C_W_next (5, [(4, 0), (0, how), (15, r), (0, best), (0, n), u5, u6], [], σ) = zrun C_W_next (5, [(4, 0), (0, how), (15, r), (0, n), (0, n + 1), v5, v6], [], σ)) ∧ (¬ zky σ how n < zky σ how best → ∃ v5 v6, zrun C_W_next (5, [(4, 0), (0, how), (15, r), (0, best), (0, n), u5, u6], [], σ) = zrun C_W_next (5, [(4, 0), (0, how), (15, r), (0, best), (0, n + 1), v5, v6], [], σ)) := by
        rcases (show how = 0 ∨ how = 1 ∨ how = 2 by omega) with rfl | rfl | rfl
        · have kn : zky σ 0 n = 0 := rfl
          have kb : zky σ 0 best = 0 := rfl
          rw [kn, kb]
          refine ⟨fun q => by omega, fun q => ⟨(13, n), (0, 0), ?_⟩⟩
          rw [e_W_next_5]
          simp (disch := omega) only [e_W_next_69, e_W_next_94, e_W_next_98, e_W_next_99, e_W_next_112, e_W_next_113, zwr_id, zT_lt, zF_lt, zT_le, zF_le, zT_eq, zF_eq, zT_neq, zF_neq, zT_nlt, zT_nle, and_true, true_and, and_false, false_and, and_self, or_true, true_or, or_false, false_or, or_self, not_true_eq_false, not_false_eq_true, ↓reduceIte, implies_true, true_imp_iff, false_imp_iff, zcall0, zcall1, zcall2, zcall3, zcall4, zsto_eq, zsto_ne, zsto_fn, zok13, zok6, zok15, znb_0, zrng_hit, zrng_ne, zrng_fn, zcpy_ne, zcpy_fn]
        · have kn : zky σ 1 n = σ 25 0 n := rfl
          have kb : zky σ 1 best = σ 25 0 best := rfl
          rw [kn, kb, d9.1, p9.1]
          refine ⟨fun q => ⟨(13, n), (0, 1), ?_⟩, fun q => ⟨(13, n), (0, 0), ?_⟩⟩
          · rw [e_W_next_5]
            simp (disch := omega) only [e_W_next_69, e_W_next_94, e_W_next_98, e_W_next_99, e_W_next_112, e_W_next_113, zwr_id, zT_lt, zF_lt, zT_le, zF_le, zT_eq, zF_eq, zT_neq, zF_neq, zT_nlt, zT_nle, and_true, true_and, and_false, false_and, and_self, or_true, true_or, or_false, false_or, or_self, not_true_eq_false, not_false_eq_true, ↓reduceIte, implies_true, true_imp_iff, false_imp_iff, zcall0, zcall1, zcall2, zcall3, zcall4, zsto_eq, zsto_ne, zsto_fn, zok13, zok6, zok15, znb_0, zrng_hit, zrng_ne, zrng_fn, zcpy_ne, zcpy_fn]
          · rw [e_W_next_5]
            simp (disch := omega) only [e_W_next_69, e_W_next_94, e_W_next_98, e_W_next_99, e_W_next_112, e_W_next_113, zwr_id, zT_lt, zF_lt, zT_le, zF_le, zT_eq, zF_eq, zT_neq, zF_neq, zT_nlt, zT_nle, and_true, true_and, and_false, false_and, and_self, or_true, true_or, or_false, false_or, or_self, not_true_eq_false, not_false_eq_true, ↓reduceIte, implies_true, true_imp_iff, false_imp_iff, zcall0, zcall1, zcall2, zcall3, zcall4, zsto_eq, zsto_ne, zsto_fn, zok13, zok6, zok15, znb_0, zrng_hit, zrng_ne, zrng_fn, zcpy_ne, zcpy_fn]
        · have kn : zky σ 2 n = (if σ 22 0 n = 0 then 1 else 0) := rfl
          have kb : zky σ 2 best = (if σ 22 0 best = 0 then 1 else 0) := rfl
          rw [kn, kb, d9.2.2.2.1, p9.2.2.2.1]
          refine ⟨fun q => ⟨(13, n), (0, 1), ?_⟩, fun q => ⟨(13, n), (0, 0), ?_⟩⟩
          · have q1 : σ 13 n 3 = 1 := by
              by_cases z1 : σ 13 n 3 = 0
              · rw [if_pos z1] at q; split at q <;> omega
              · omega
            have q2 : σ 13 best 3 = 0 := by
              by_cases z1 : σ 13 best 3 = 0
              · exact z1
              · rw [if_neg z1] at q; split at q <;> omega
            rw [e_W_next_5]
            simp (disch := omega) only [e_W_next_69, e_W_next_94, e_W_next_98, e_W_next_99, e_W_next_112, e_W_next_113, zwr_id, zT_lt, zF_lt, zT_le, zF_le, zT_eq, zF_eq, zT_neq, zF_neq, zT_nlt, zT_nle, and_true, true_and, and_false, false_and, and_self, or_true, true_or, or_false, false_or, or_self, not_true_eq_false, not_false_eq_true, ↓reduceIte, implies_true, true_imp_iff, false_imp_iff, zcall0, zcall1, zcall2, zcall3, zcall4, zsto_eq, zsto_ne, zsto_fn, zok13, zok6, zok15, znb_0, zrng_hit, zrng_ne, zrng_fn, zcpy_ne, zcpy_fn]
          · rw [e_W_next_5]
            by_cases z1 : σ 13 n 3 = 0
            · simp (disch := omega) only [e_W_next_69, e_W_next_94, e_W_next_98, e_W_next_99, e_W_next_112, e_W_next_113, zwr_id, zT_lt, zF_lt, zT_le, zF_le, zT_eq, zF_eq, zT_neq, zF_neq, zT_nlt, zT_nle, and_true, true_and, and_false, false_and, and_self, or_true, true_or, or_false, false_or, or_self, not_true_eq_false, not_false_eq_true, ↓reduceIte, implies_true, true_imp_iff, false_imp_iff, zcall0, zcall1, zcall2, zcall3, zcall4, zsto_eq, zsto_ne, zsto_fn, zok13, zok6, zok15, znb_0, zrng_hit, zrng_ne, zrng_fn, zcpy_ne, zcpy_fn]
            · have z2 : σ 13 best 3 = 1 := by
                by_cases z3 : σ 13 best 3 = 0
                · rw [if_neg z1, if_pos z3] at q; omega
                · omega
              simp (disch := omega) only [e_W_next_69, e_W_next_94, e_W_next_98, e_W_next_99, e_W_next_112, e_W_next_113, zwr_id, zT_lt, zF_lt, zT_le, zF_le, zT_eq, zF_eq, zT_neq, zF_neq, zT_nlt, zT_nle, and_true, true_and, and_false, false_and, and_self, or_true, true_or, or_false, false_or, or_self, not_true_eq_false, not_false_eq_true, ↓reduceIte, implies_true, true_imp_iff, false_imp_iff, zcall0, zcall1, zcall2, zcall3, zcall4, zsto_eq, zsto_ne, zsto_fn, zok13, zok6, zok15, znb_0, zrng_hit, zrng_ne, zrng_fn, zcpy_ne, zcpy_fn]
      rw [← e_W_next_5]
      by_cases hk : zky σ how n < zky σ how best
      · obtain ⟨v5, v6, e⟩ := key.1 hk
        refine ⟨n, v5, v6, Or.inr ⟨by omega, by omega, ⟨c1, c2⟩, fun c q1 q2 q3 => ?_⟩, e⟩
        by_cases hcn : c = n
        · exact Or.inl hcn
        · right
          rcases hb4 c q1 (by omega) q3 with q4 | q4
          · subst q4; exact Or.inl hk
          · left
            rcases q4 with q4 | q4 <;> omega
      · obtain ⟨v5, v6, e⟩ := key.2 hk
        refine ⟨best, v5, v6, Or.inr ⟨hb1, by omega, hb3, fun c q1 q2 q3 => ?_⟩, e⟩
        by_cases hcn : c = n
        · subst hcn
          right
          unfold zlex
          omega
        · exact hb4 c q1 (by omega) q3
  · refine ⟨best, (13, n), u6, ?_, ?_⟩
    · rcases hb with ⟨hb1, hb2⟩ | ⟨hb1, hb2, hb3, hb4⟩
      · refine Or.inl ⟨hb1, fun c q1 q2 => ?_⟩
        by_cases hcn : c = n
        · subst hcn; exact hc
        · exact hb2 c q1 (by omega)
      · refine Or.inr ⟨hb1, by omega, hb3, fun c q1 q2 q3 => ?_⟩
        by_cases hcn : c = n
        · subst hcn; exact absurd q3 hc
        · exact hb4 c q1 (by omega) q3
    · rcases a1 with a1 | a1
      · simp (disch := omega) only [e_W_next_113, zwr_id, zT_lt, zF_lt, zT_le, zF_le, zT_eq, zF_eq, zT_neq, zF_neq, zT_nlt, zT_nle, and_true, true_and, and_false, false_and, and_self, or_true, true_or, or_false, false_or, or_self, not_true_eq_false, not_false_eq_true, ↓reduceIte, implies_true, true_imp_iff, false_imp_iff, zcall0, zcall1, zcall2, zcall3, zcall4, zsto_eq, zsto_ne, zsto_fn, zok13, zok6, zok15, znb_0, zrng_hit, zrng_ne, zrng_fn, zcpy_ne, zcpy_fn]
      · have : 0 < σ 16 r n := by
          by_cases q : 0 < σ 16 r n
          · exact q
          · exact absurd ⟨a1, by omega⟩ hc
        simp (disch := omega) only [e_W_next_113, zwr_id, zT_lt, zF_lt, zT_le, zF_le, zT_eq, zF_eq, zT_neq, zF_neq, zT_nlt, zT_nle, and_true, true_and, and_false, false_and, and_self, or_true, true_or, or_false, false_or, or_self, not_true_eq_false, not_false_eq_true, ↓reduceIte, implies_true, true_imp_iff, false_imp_iff, zcall0, zcall1, zcall2, zcall3, zcall4, zsto_eq, zsto_ne, zsto_fn, zok13, zok6, zok15, znb_0, zrng_hit, zrng_ne, zrng_fn, zcpy_ne, zcpy_fn]
theorem w_next_loop (σ : ZT) (hT : zSimT σ) {how r : Int} (hh : 0 ≤ how ∧ how ≤ 2) (h16 : ∀ n, 1 ≤ n → n ≤ 40 → zI (σ 16 r n)) : ∀ (m : Nat) (n best : Int) (u5 u6 : ZV), 1 ≤ n → 41 - n = m → zbst σ how r n best → ∃ v, zbst σ how r 41 v ∧ zrun C_W_next (5, [(4, 0), (0, how), (15, r), (0, best), (0, n), u5, u6], [], σ) = some (0, v, σ)
  | 0, n, best, u5, u6, h1, hm, hb => by
    have : n = 41 := by omega
    subst this
    refine ⟨best, hb, ?_⟩
    rw [e_W_next_5]
    simp (disch := omega) only [zwr_id, zT_lt, zF_lt, zT_le, zF_le, zT_eq, zF_eq, zT_neq, zF_neq, zT_nlt, zT_nle, and_true, true_and, and_false, false_and, and_self, or_true, true_or, or_false, false_or, or_self, not_true_eq_false, not_false_eq_true, ↓reduceIte, implies_true, true_imp_iff, false_imp_iff, zcall0, zcall1, zcall2, zcall3, zcall4, zsto_eq, zsto_ne, zsto_fn, zok13, zok6, zok15, znb_0, zrng_hit, zrng_ne, zrng_fn, zcpy_ne, zcpy_fn]
  | m + 1, n, best, u5, u6, h1, hm, hb => by
    obtain ⟨b', v5, v6, q1, q2⟩ := w_next_step σ hT (u5 := u5) (u6 := u6) hh ⟨h1, by omega⟩ (h16 n h1 (by omega)) hb
    obtain ⟨v, q3, q4⟩ := w_next_loop σ hT hh h16 m (n + 1) b' v5 v6 (by omega) (by omega) q1
    exact ⟨v, q3, q2.trans q4⟩
/-- the list of those that have no record yet, in order -/
def zrem (σ : ZT) (how r : Int) (ns : List Int) : Prop := ns.Pairwise (zlex σ how) ∧ ∀ n, n ∈ ns ↔ 1 ≤ n ∧ n ≤ 40 ∧ zcd σ r n
theorem w_next (σ : ZT) (hT : zSimT σ) {how r : Int} (hh : 0 ≤ how ∧ how ≤ 2) (h16 : ∀ n, 1 ≤ n → n ≤ 40 → zI (σ 16 r n)) {ns : List Int} (hr : zrem σ how r ns) : f_W_next [(4, 0), (0, how), (15, r)] σ = some (0, ns.headD (-1), σ) := by
  obtain ⟨v, hv, e⟩ := w_next_loop σ hT hh h16 40 1 (-1) (2, 0) (2, 0) (by omega) (by omega) (Or.inl ⟨rfl, fun c q1 q2 => by omega⟩)
  rw [u_W_next, e_W_next_0, e]
  obtain ⟨h1, h2⟩ := hr
  cases ns with
  | nil =>
    rcases hv with ⟨hv, _⟩ | ⟨q1, q2, q3, q4⟩
    · rw [hv]; rfl
    · have := (h2 v).mpr ⟨q1, by omega, q3⟩
      cases this
  | cons n ns =>
    have hn := (h2 n).mp List.mem_cons_self
    rcases hv with ⟨_, hv⟩ | ⟨q1, q2, q3, q4⟩
    · exact absurd hn.2.2 (hv n hn.1 (by omega))
    · have hvm := (h2 v).mpr ⟨q1, by omega, q3⟩
      rcases q4 n hn.1 (by omega) hn.2.2 with q5 | q5
      · rw [← q5]; rfl
      · rcases List.mem_cons.mp hvm with q6 | q6
        · rw [q6]; rfl
        · have q7 := (List.pairwise_cons.mp h1).1 v q6
          exfalso
          unfold zlex at q5 q7
          omega
