/-! HOW LONG PARTS ARE -/
def zsum (f : Int → Int) : Nat → Int → Int
  | 0, _ => 0
  | m + 1, n => f n + zsum f m (n + 1)
theorem zsum_bd {f : Int → Int} {c : Int} (h : ∀ n, f n ≤ c) : ∀ (m : Nat) (n : Int), zsum f m n ≤ c * m
  | 0, _ => by show (0 : Int) ≤ c * ((0 : Nat) : Int); rw [Int.natCast_zero, Int.mul_zero]; exact Int.le_refl 0
  | m + 1, n => by
    have h1 := zsum_bd h m (n + 1)
    have h2 := h n
    show f n + zsum f m (n + 1) ≤ c * ((m + 1 : Nat) : Int)
    rw [Int.natCast_add, Int.mul_add]
    show f n + zsum f m (n + 1) ≤ c * (m : Int) + c * 1
    omega
def zgt (ρ : ZT) (how t n : Int) : Int := if ρ 21 0 n = 1 ∧ t ≤ zky ρ how n then 140 else 0
theorem zin_len {ρ : ZT} (hB : zBs ρ) {w how t : Int} (hh : 0 ≤ how ∧ how ≤ 2) (ht : 0 ≤ t ∧ t < ztn how) : ∀ (m : Nat) (a : Int), 1 ≤ a → a + m ≤ 41 → zrl ρ (zin (zcn ρ w how t) m a) + zsum (zgt ρ how (t + 1)) m a ≤ zsum (zgt ρ how t) m a
  | 0, _, _, _ => by show (0 : Int) + 0 ≤ 0; omega
  | m + 1, a, h1, h2 => by
    have ih := zin_len hB (w := w) hh ht m (a + 1) (by omega) (by omega)
    rw [zin, zrl_app]
    show _ + _ + (zgt ρ how (t + 1) a + zsum (zgt ρ how (t + 1)) m (a + 1)) ≤ zgt ρ how t a + zsum (zgt ρ how t) m (a + 1)
    by_cases hc : zcn ρ w how t a = 0
    · rw [if_pos hc]
      have : zgt ρ how (t + 1) a ≤ zgt ρ how t a := by
        unfold zgt
        split <;> split <;> omega
      show (0 : Int) + _ + _ ≤ _
      omega
    · rw [if_neg hc]
      have q := zcn_ne.mp hc
      have h21 : ρ 21 0 a = 1 := by have := (hB a h1 (by omega)).1; omega
      have hl := (hB a h1 (by omega)).2.2 h21
      have hk := (znow_ky hB hh ⟨h1, by omega⟩ h21 ht).mp q.2.2
      have e1 : zgt ρ how (t + 1) a = 0 := by unfold zgt; rw [if_neg (by omega)]
      have e2 : zgt ρ how t a = 140 := by unfold zgt; rw [if_pos (by omega)]
      have e3 := zrec_len (n := a) (l := ρ 25 0 a) ⟨h1, by omega⟩ ⟨hl.1, hl.2.1⟩ (fun i => ρ 26 0 (120 * a + i)) 0
      have e4 := zbh_bd 0 a (ρ 25 0 a)
      rw [e1, e2]
      show (_ + (0 : Int)) + _ + _ ≤ _
      omega
theorem zou_len {ρ : ZT} (hB : zBs ρ) {w how : Int} (hh : 0 ≤ how ∧ how ≤ 2) : ∀ (m : Nat) (t : Int), 0 ≤ t → t + m ≤ ztn how → zrl ρ (zou (zcn ρ w how) m t) ≤ zsum (zgt ρ how t) 40 1
  | 0, t, h0, ht => by
    have : ∀ (m : Nat) (n : Int), 0 ≤ zsum (zgt ρ how t) m n := fun m => by
      induction m with
      | zero => intro n; exact Int.le_refl 0
      | succ m ih =>
        intro n
        have := ih (n + 1)
        have h2 : 0 ≤ zgt ρ how t n := by unfold zgt; split <;> omega
        show 0 ≤ zgt ρ how t n + zsum (zgt ρ how t) m (n + 1)
        omega
    exact this 40 1
  | m + 1, t, h0, ht => by
    have ih := zou_len hB (w := w) hh m (t + 1) (by omega) (by omega)
    have h1 := zin_len hB (w := w) hh (t := t) ⟨h0, by omega⟩ 40 1 (by omega) (by omega)
    rw [zou, zrl_app]
    omega
theorem znl_len {ρ : ZT} (hB : zBs ρ) {w how : Int} (hh : 0 ≤ how ∧ how ≤ 2) : zrl ρ (znl ρ w how) ≤ 5600 := by
  have h1 := zou_len hB (w := w) hh (ztn how) 0 (by omega) (by omega)
  have h2 := zsum_bd (f := zgt ρ how 0) (c := 140) (fun n => by unfold zgt; split <;> omega) 40 1
  unfold znl
  omega
theorem zdg_le {v : Int} (hv : 0 ≤ v ∧ v ≤ 99999) : (zdg v).length ≤ 5 := by
  have := zdg_len hv
  split at this <;> split at this <;> split at this <;> split at this <;> omega
theorem ztd_le {c v : Int} (hv : 0 ≤ v ∧ v ≤ 99999) : (ztd c v).length ≤ 8 := by
  have := zdg_le hv
  unfold ztd
  rw [List.length_cons, List.length_cons, List.length_append, List.length_singleton]
  omega
theorem zrws_le {me th pl : Int → Int} : ∀ (m : Nat) (k : Int), 0 ≤ k → k + m ≤ 99999 → (∀ j, k ≤ j → j < k + m → me j ≠ 0 → th j ≠ 0 → 0 ≤ pl j ∧ pl j ≤ 99999) → (zrws me th pl m k).length ≤ 12 * m
  | 0, _, _, _, _ => Nat.le_refl _
  | m + 1, k, h0, h1, h => by
    have ih := zrws_le (me := me) (th := th) (pl := pl) m (k + 1) (by omega) (by omega) fun j j1 j2 => h j (by omega) (by omega)
    rw [zrws, List.length_append]
    have : (if me k = 0 then [] else zrow k (th k) (pl k)).length ≤ 12 := by
      split
      · exact Nat.zero_le _
      · rename_i q
        unfold zrow
        have h2 := zdg_le (v := k) (by omega)
        rw [List.length_append, List.length_cons, List.length_append, List.length_singleton]
        split
        · rw [List.length_singleton]; omega
        · rename_i q2
          have h3 := zdg_le (h k (by omega) (by omega) q q2)
          omega
    omega
theorem zendM_le {τ : ZT} {w b x : Int} (hb : 0 ≤ b ∧ b ≤ 99999) (hx : 0 ≤ x ∧ x ≤ 99999) (hp : ∀ j, 1 ≤ j → j ≤ 40 → zmean τ w j ≠ 0 → τ 21 0 j ≠ 0 → 0 ≤ τ 33 0 j ∧ τ 33 0 j ≤ 99999) : (zendM τ w b x).length ≤ 504 := by
  have hz := zct_bd (zmean τ w) 40 1 0
  have h1 := ztd_le (c := 120) (v := zct (zmean τ w) 40 1 0) (by omega)
  have h2 := zrws_le (me := zmean τ w) (th := τ 21 0) (pl := τ 33 0) 40 1 (by omega) (by omega) fun j j1 j2 => hp j j1 (by omega)
  have h3 := ztd_le (c := 112) hb
  have h4 := ztd_le (c := 101) hx
  unfold zendM
  rw [List.length_append, List.length_append, List.length_append]
  omega
theorem zmrs_33 : ∀ (ns : List Int) (υ : ZT) (n : Int), (n ∉ ns → zmrs υ ns 33 0 n = υ 33 0 n) ∧ (n ∈ ns → υ 20 0 16 ≤ zmrs υ ns 33 0 n ∧ zmrs υ ns 33 0 n ≤ zmrs υ ns 20 0 16)
  | [], υ, n => ⟨fun _ => rfl, fun h => (by cases h)⟩
  | a :: ns, υ, n => by
    obtain ⟨i1, i2⟩ := zmrs_33 ns (zmr υ a) n
    obtain ⟨a1, a2, a3, a4, a5, a6, a7, a8⟩ := zmr_fn υ a
    have hge := zmrs_ge ns (zmr υ a)
    refine ⟨fun h => ?_, fun h => ?_⟩
    · have q1 : n ≠ a := fun q => h (q ▸ List.mem_cons_self)
      have q2 : n ∉ ns := fun q => h (List.mem_cons_of_mem _ q)
      show zmrs (zmr υ a) ns 33 0 n = _
      rw [i1 q2, a7, zsto_ne (by omega)]
    · show υ 20 0 16 ≤ zmrs (zmr υ a) ns 33 0 n ∧ zmrs (zmr υ a) ns 33 0 n ≤ zmrs (zmr υ a) ns 20 0 16
      by_cases q2 : n ∈ ns
      · have := i2 q2
        omega
      · have q1 : n = a := by
          rcases List.mem_cons.mp h with q | q
          · exact q
          · exact absurd q q2
        subst q1
        rw [i1 q2, a7, zsto_eq]
        omega
