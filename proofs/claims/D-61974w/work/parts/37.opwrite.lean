/-! write: both alike -/
theorem zend_eq {τ π : ZT} {r c w b x : Int} (hT : zSimT τ) (hcw : (c = 0 ∧ w = 1) ∨ (c = 1 ∧ w = 0)) (h21 : ∀ j, 1 ≤ j → j ≤ 40 → τ 21 0 j = π 21 0 j) (h23 : ∀ j, 1 ≤ j → j ≤ 40 → τ 23 0 j = π 23 0 j) (hp : ∀ j, 1 ≤ j → j ≤ 40 → zme1 τ c j ≠ 0 → τ 13 j 2 ≠ 0 → τ 16 r j = π 33 0 j) : zend1 τ r c b x = zendM π w b x := by
  have hme : ∀ j, 1 ≤ j → j ≤ 40 → zme1 τ c j = zmean π w j := fun j j1 j2 => by
    have := (hT j j1 j2).2.1
    have q1 := h21 j j1 j2
    have q2 := h23 j j1 j2
    unfold zme1 zmean
    rcases hcw with ⟨hc, hw⟩ | ⟨hc, hw⟩
    · rw [if_pos hc, if_neg (by omega)]; omega
    · rw [if_neg (by omega), if_pos hw]; omega
  unfold zend1 zendM
  rw [zct_congr (f := zme1 τ c) (g := zmean π w) 40 1 0 fun j j1 j2 => hme j j1 (by omega)]
  rw [zrws_congr (me := zme1 τ c) (me' := zmean π w) (th := fun j => τ 13 j 2) (th' := π 21 0) (pl := τ 16 r) (pl' := π 33 0) 40 1 (fun j j1 j2 => hme j j1 (by omega)) (fun j j1 j2 => by
    have := (hT j j1 (by omega)).2.1
    have q1 := h21 j j1 (by omega)
    show τ 13 j 2 = π 21 0 j
    omega) (fun j j1 j2 => hp j j1 (by omega))]
theorem zSimT.bs {σ : ZT} (h : zSimT σ) : zBs σ := fun n n1 n2 => by
  have hc := (h n n1 n2).ch
  obtain ⟨a1, a2, a3, a4, a5, a6, a7, a8, a9⟩ := h n n1 n2
  exact ⟨by omega, hc, fun q => by have := a9 (by omega); omega⟩
theorem zSimT.tw {σ υ : ZT} (h : zSimT σ) (h25 : υ 25 = σ 25) (h26 : υ 26 = σ 26) {n : Int} (n1 : 1 ≤ n) (n2 : n ≤ 40) (ht : σ 13 n 2 = 1) : zTw σ υ n := by
  obtain ⟨a1, a2, a3, a4, a5, a6, a7, a8, a9⟩ := h n n1 n2
  obtain ⟨c1, c2, c3, c4, c5, c6⟩ := a9 ht
  unfold zTw
  rw [h25, h26]
  exact ⟨by omega, by omega, by omega, fun i i1 i2 => (c6 i i1 (by omega)).symm⟩
theorem pw_ne {ρ : ZT} {how : Int} {ns : List Int} (h : ns.Pairwise (zlex ρ how)) : ns.Pairwise (fun a b => a ≠ b) := h.imp fun {a b} q e => by
  subst e
  unfold zlex at q
  omega
theorem znl_congr {σ υ : ZT} (h21 : υ 21 = σ 21) (h22 : υ 22 = σ 22) (h23 : υ 23 = σ 23) (h25 : υ 25 = σ 25) (w how : Int) : znl υ w how = znl σ w how := by
  have e : zcn υ w how = zcn σ w how := by
    funext t n
    unfold zcn zmean
    simp only [znow, h21, h22, h23, h25]
  unfold znl
  rw [e]
theorem zwB_rem {σ : ZT} (hT : zSimT σ) {s r how : Int} (hh : 0 ≤ how ∧ how ≤ 2) : zrem (zwB σ s r) how r (znl σ 1 how) := by
  obtain ⟨a1, a2, a3, a4, a5⟩ := zwA_fn σ s
  have g : ∀ k : Nat, k ≠ 6 → k ≠ 7 → k ≠ 16 → zwB σ s r k = σ k := fun k k1 k2 k3 => by
    unfold zwB
    simp (disch := omega) only [zwr_id, zT_lt, zF_lt, zT_le, zF_le, zT_eq, zF_eq, zT_neq, zF_neq, zT_nlt, zT_nle, and_true, true_and, and_false, false_and, and_self, or_true, true_or, or_false, false_or, or_self, not_true_eq_false, not_false_eq_true, ↓reduceIte, implies_true, true_imp_iff, false_imp_iff, zcall0, zcall1, zcall2, zcall3, zcall4, zsto_eq, zsto_ne, zsto_fn, zok13, zok6, zok15, znb_0, zrng_hit, zrng_ne, zrng_fn, zcpy_ne, zcpy_fn]
    rw [a3 k k1 k2]
  have hl : zlex (zwB σ s r) how = zlex σ how := by
    funext x y
    unfold zlex zky
    rw [g 25 (by decide) (by decide) (by decide), g 22 (by decide) (by decide) (by decide)]
  refine ⟨by rw [hl]; exact znl_pw hT.bs hh, fun n => ?_⟩
  rw [znl_mem hT.bs hh]
  unfold zcd
  rw [g 13 (by decide) (by decide) (by decide)]
  have hm : zmean σ 1 n = σ 21 0 n := rfl
  rw [hm]
  refine ⟨fun ⟨n1, n2, q1, q2⟩ => ?_, fun ⟨n1, n2, q1, q2⟩ => ?_⟩
  · have t1 := (hT n n1 n2).1
    have t2 := (hT n n1 n2).2.1
    refine ⟨n1, n2, by omega, ?_⟩
    unfold zwB
    rw [zrng_hit (by omega)]
    exact Int.le_refl 0
  · have t2 := (hT n n1 n2).2.1
    exact ⟨n1, n2, by omega, by omega⟩
theorem write_lock {σ υ : ZT} (hT : zSimT σ) {s r how : Int} (hh : 0 ≤ how ∧ how ≤ 2) (h21 : υ 21 = σ 21) (h22 : υ 22 = σ 22) (h23 : υ 23 = σ 23) (h25 : υ 25 = σ 25) (h26 : υ 26 = σ 26) : zLk (zwD (zwrs s r (zwB σ s r) (znl σ 1 how)) s r 0 0) (zpt υ 1 how 0) s ∧ (zpt1 υ 1 how 0 20 0 16 ≤ 12000 → zwrs s r (zwB σ s r) (znl σ 1 how) 6 s 1 = zpt1 υ 1 how 0 20 0 16 ∧ ∀ n, n ∈ znl σ 1 how → zLn (zwrs s r (zwB σ s r) (znl σ 1 how)) (zpt1 υ 1 how 0) r n) := by
  obtain ⟨a1, a2, a3, a4, a5⟩ := zwA_fn σ s
  have hA0 : zSz (zsto σ 6 s 1 0) s := by unfold zSz; rw [zsto_eq]; omega
  have l0 : zLk (zsto σ 6 s 1 0) (zsto υ 20 0 16 0) s := by
    left
    rw [zsto_eq, zsto_eq]
    exact ⟨by omega, rfl, fun _ j j0 j1 => by omega⟩
  have l1 : zLk (zwA σ s) (zme (zsto υ 20 0 16 0) (zhdr 1)) s := l0.em (bs := zhdr 1) hA0 (by rw [zsto_eq]; omega) (fun _ => rfl)
  generalize hυ1 : zme (zsto υ 20 0 16 0) (zhdr 1) = υ1 at l1
  obtain ⟨m1, m2, m3, m4, m5, m6⟩ := zme_fn (zsto υ 20 0 16 0) (zhdr 1)
  rw [hυ1] at m1 m2 m3
  rw [zsto_eq] at m1
  have m1 : υ1 20 0 16 = 4 := m1
  have v25 : υ1 25 = σ 25 := by rw [m2 25 (by decide) (by decide)]; simp (disch := omega) only [zwr_id, zT_lt, zF_lt, zT_le, zF_le, zT_eq, zF_eq, zT_neq, zF_neq, zT_nlt, zT_nle, and_true, true_and, and_false, false_and, and_self, or_true, true_or, or_false, false_or, or_self, not_true_eq_false, not_false_eq_true, ↓reduceIte, implies_true, true_imp_iff, false_imp_iff, zcall0, zcall1, zcall2, zcall3, zcall4, zsto_eq, zsto_ne, zsto_fn, zok13, zok6, zok15, znb_0, zrng_hit, zrng_ne, zrng_fn, zcpy_ne, zcpy_fn]; exact h25
  have v26 : υ1 26 = σ 26 := by rw [m2 26 (by decide) (by decide)]; simp (disch := omega) only [zwr_id, zT_lt, zF_lt, zT_le, zF_le, zT_eq, zF_eq, zT_neq, zF_neq, zT_nlt, zT_nle, and_true, true_and, and_false, false_and, and_self, or_true, true_or, or_false, false_or, or_self, not_true_eq_false, not_false_eq_true, ↓reduceIte, implies_true, true_imp_iff, false_imp_iff, zcall0, zcall1, zcall2, zcall3, zcall4, zsto_eq, zsto_ne, zsto_fn, zok13, zok6, zok15, znb_0, zrng_hit, zrng_ne, zrng_fn, zcpy_ne, zcpy_fn]; exact h26
  have g : ∀ k : Nat, k ≠ 6 → k ≠ 7 → k ≠ 16 → zwB σ s r k = σ k := fun k k1 k2 k3 => by
    unfold zwB
    simp (disch := omega) only [zwr_id, zT_lt, zF_lt, zT_le, zF_le, zT_eq, zF_eq, zT_neq, zF_neq, zT_nlt, zT_nle, and_true, true_and, and_false, false_and, and_self, or_true, true_or, or_false, false_or, or_self, not_true_eq_false, not_false_eq_true, ↓reduceIte, implies_true, true_imp_iff, false_imp_iff, zcall0, zcall1, zcall2, zcall3, zcall4, zsto_eq, zsto_ne, zsto_fn, zok13, zok6, zok15, znb_0, zrng_hit, zrng_ne, zrng_fn, zcpy_ne, zcpy_fn]
    rw [a3 k k1 k2]
  have g6 : zwB σ s r 6 = zwA σ s 6 := by unfold zwB; simp (disch := omega) only [zwr_id, zT_lt, zF_lt, zT_le, zF_le, zT_eq, zF_eq, zT_neq, zF_neq, zT_nlt, zT_nle, and_true, true_and, and_false, false_and, and_self, or_true, true_or, or_false, false_or, or_self, not_true_eq_false, not_false_eq_true, ↓reduceIte, implies_true, true_imp_iff, false_imp_iff, zcall0, zcall1, zcall2, zcall3, zcall4, zsto_eq, zsto_ne, zsto_fn, zok13, zok6, zok15, znb_0, zrng_hit, zrng_ne, zrng_fn, zcpy_ne, zcpy_fn]
  have g7 : zwB σ s r 7 = zwA σ s 7 := by unfold zwB; simp (disch := omega) only [zwr_id, zT_lt, zF_lt, zT_le, zF_le, zT_eq, zF_eq, zT_neq, zF_neq, zT_nlt, zT_nle, and_true, true_and, and_false, false_and, and_self, or_true, true_or, or_false, false_or, or_self, not_true_eq_false, not_false_eq_true, ↓reduceIte, implies_true, true_imp_iff, false_imp_iff, zcall0, zcall1, zcall2, zcall3, zcall4, zsto_eq, zsto_ne, zsto_fn, zok13, zok6, zok15, znb_0, zrng_hit, zrng_ne, zrng_fn, zcpy_ne, zcpy_fn]
  have zB : zSz (zwB σ s r) s := by unfold zSz; rw [g6]; exact a1
  have l2 : zLk (zwB σ s r) υ1 s := l1.congr g6 g7 rfl rfl
  have TB : zSimT (zwB σ s r) := hT.fn fun k hk => by
    simp only [List.mem_cons, List.not_mem_nil, or_false] at hk
    exact g k (by omega) (by omega) (by omega)
  have hns := znl_congr h21 h22 h23 h25 1 how
  have hP : zpt1 υ 1 how 0 = zmrs υ1 (znl σ 1 how) := by unfold zpt1; rw [hυ1, hns]
  have l3 := zLk.recs (s := s) (r := r) (znl σ 1 how) (zwB σ s r) υ1 (fun _ => False) l2 zB (by omega) (fun n hn => by
    obtain ⟨n1, n2, q1, q2⟩ := (znl_mem hT.bs hh).mp hn
    refine ⟨⟨n1, n2⟩, TB.tw ?_ ?_ n1 n2 ?_⟩
    · rw [v25, g 25 (by decide) (by decide) (by decide)]
    · rw [v26, g 26 (by decide) (by decide) (by decide)]
    · rw [g 13 (by decide) (by decide) (by decide)]
      have t1 := (hT n n1 n2).1
      have t2 := (hT n n1 n2).2.1
      omega) (pw_ne (znl_pw hT.bs hh)) (fun n hn q => q) (fun q n hn => absurd hn (fun z => z))
  rw [← hP] at l3
  obtain ⟨c1, c2, c3, c4, c5, c6, c7⟩ := zwrs_fn s r (znl σ 1 how) (zwB σ s r) zB
  generalize hτ : zwrs s r (zwB σ s r) (znl σ 1 how) = τ at l3 c1 c2 c3 c4 c5 c6 c7 ⊢
  obtain ⟨p1, p2, p3, p4, p5, p6⟩ := zpt1_fn υ 1 how 0
  generalize hπ : zpt1 υ 1 how 0 = π at l3 p1 p2 p3 p4 p5 p6 ⊢
  have Tτ : zSimT τ := TB.fn fun k hk => by
    simp only [List.mem_cons, List.not_mem_nil, or_false] at hk
    exact c1 k (by omega) (by omega) (by omega) (by omega)
  have t21 : τ 21 = σ 21 := by rw [c1 21 (by decide) (by decide) (by decide) (by decide), g 21 (by decide) (by decide) (by decide)]
  have t23 : τ 23 = σ 23 := by rw [c1 23 (by decide) (by decide) (by decide) (by decide), g 23 (by decide) (by decide) (by decide)]
  have t13 : τ 13 = σ 13 := by rw [c1 13 (by decide) (by decide) (by decide) (by decide), g 13 (by decide) (by decide) (by decide)]
  obtain ⟨l3a, l3b⟩ := l3
  have hsz : π 20 0 16 ≤ 12000 → τ 6 s 1 = π 20 0 16 := fun q => by
    rcases l3a with ⟨_, q2, _⟩ | ⟨q2, _⟩
    · exact q2
    · omega
  refine ⟨?_, fun q => ⟨hsz q, fun n hn => l3b q n (Or.inr hn)⟩⟩
  have hz0 := zrl_nn υ (znl υ 1 how)
  have hpos : 0 ≤ π 20 0 16 := by rw [p6]; unfold zptl; omega
  have l4 : zLk (zsto τ 15 r 3 (τ 6 s 1)) π s := l3a.congr (by simp (disch := omega) only [zwr_id, zT_lt, zF_lt, zT_le, zF_le, zT_eq, zF_eq, zT_neq, zF_neq, zT_nlt, zT_nle, and_true, true_and, and_false, false_and, and_self, or_true, true_or, or_false, false_or, or_self, not_true_eq_false, not_false_eq_true, ↓reduceIte, implies_true, true_imp_iff, false_imp_iff, zcall0, zcall1, zcall2, zcall3, zcall4, zsto_eq, zsto_ne, zsto_fn, zok13, zok6, zok15, znb_0, zrng_hit, zrng_ne, zrng_fn, zcpy_ne, zcpy_fn]) (by simp (disch := omega) only [zwr_id, zT_lt, zF_lt, zT_le, zF_le, zT_eq, zF_eq, zT_neq, zF_neq, zT_nlt, zT_nle, and_true, true_and, and_false, false_and, and_self, or_true, true_or, or_false, false_or, or_self, not_true_eq_false, not_false_eq_true, ↓reduceIte, implies_true, true_imp_iff, false_imp_iff, zcall0, zcall1, zcall2, zcall3, zcall4, zsto_eq, zsto_ne, zsto_fn, zok13, zok6, zok15, znb_0, zrng_hit, zrng_ne, zrng_fn, zcpy_ne, zcpy_fn]) rfl rfl
  have l5 := l4.em (bs := zendM π 1 0 (π 20 0 16)) (bs' := zend1 τ r 0 0 (τ 6 s 1)) (by unfold zSz; rw [zsto_fn (by decide)]; exact c2) hpos (fun q => by
    rw [hsz q]
    refine zend_eq Tτ (Or.inl ⟨rfl, rfl⟩) (fun j j1 j2 => by rw [t21, p1 21 (by decide) (by decide) (by decide) (by decide), h21]) (fun j j1 j2 => by rw [t23, p1 23 (by decide) (by decide) (by decide) (by decide), h23]) fun j j1 j2 hm ht => ?_
    have hj : j ∈ znl σ 1 how := (znl_mem hT.bs hh).mpr ⟨j1, j2, by
      have t2 := (hT j j1 j2).2.1
      show σ 21 0 j ≠ 0
      rw [t13] at ht
      omega, by
      have t2 := (hT j j1 j2).2.1
      rw [t13] at ht
      omega⟩
    exact (l3b q j (Or.inr hj)).1)
  have hb0 : zbef υ 1 = 0 := rfl
  obtain ⟨e1, e2, e3, e4, e5, e6, e7, e8, e9⟩ := zwD_fn τ (s := s) (r := r) (c := 0) (b := 0) c2
  unfold zpt
  rw [hπ, hb0]
  unfold zLk at l5 ⊢
  rw [e8, e9]
  simp (disch := omega) only [zwr_id, zT_lt, zF_lt, zT_le, zF_le, zT_eq, zF_eq, zT_neq, zF_neq, zT_nlt, zT_nle, and_true, true_and, and_false, false_and, and_self, or_true, true_or, or_false, false_or, or_self, not_true_eq_false, not_false_eq_true, ↓reduceIte, implies_true, true_imp_iff, false_imp_iff, zcall0, zcall1, zcall2, zcall3, zcall4, zsto_eq, zsto_ne, zsto_fn, zok13, zok6, zok15, znb_0, zrng_hit, zrng_ne, zrng_fn, zcpy_ne, zcpy_fn]
  exact l5
