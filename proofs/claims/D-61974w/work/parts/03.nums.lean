/-! ints of the machine and their numbers -/
theorem zI_toInt (a : Int) : (Int32.ofInt a).toInt = zwr a := by
  rw [Int32.toInt_ofInt, Int.bmod_def, show ((Int32.size : Nat) : Int) = 4294967296 from rfl]
  unfold zwr
  split <;> omega
theorem zwr_lt (a : Int) : zwr a < 2147483648 := by unfold zwr; omega
theorem zwr_ge (a : Int) : -2147483648 ≤ zwr a := by unfold zwr; omega
theorem zwr_id {a : Int} (h1 : -2147483648 ≤ a) (h2 : a < 2147483648) : zwr a = a := by unfold zwr; omega
theorem zwr_wr (a : Int) : zwr (zwr a) = zwr a := zwr_id (zwr_ge a) (zwr_lt a)
theorem zI_wr (a : Int) : Int32.ofInt (zwr a) = Int32.ofInt a := Int32.toInt_inj.mp (by rw [zI_toInt, zI_toInt, zwr_wr])
theorem zI_of (x : Int32) : Int32.ofInt x.toInt = x := Int32.ofInt_toInt x
theorem zI_0 : (0 : Int32).toInt = 0 := by decide
theorem zI_eq {a b : Int} : Int32.ofInt a = Int32.ofInt b ↔ zwr a = zwr b := by rw [← Int32.toInt_inj, zI_toInt, zI_toInt]
theorem zI_lt {a b : Int} : Int32.ofInt a < Int32.ofInt b ↔ zwr a < zwr b := by rw [Int32.lt_iff_toInt_lt, zI_toInt, zI_toInt]
theorem zI_le {a b : Int} : Int32.ofInt a ≤ Int32.ofInt b ↔ zwr a ≤ zwr b := by rw [Int32.le_iff_toInt_le, zI_toInt, zI_toInt]
theorem zI_eq0 {a : Int} : Int32.ofInt a = 0 ↔ zwr a = 0 := by rw [← Int32.toInt_inj, zI_toInt, zI_0]
theorem zI_lt0 {a : Int} : Int32.ofInt a < 0 ↔ zwr a < 0 := by rw [Int32.lt_iff_toInt_lt, zI_toInt, zI_0]
theorem zI_le0 {a : Int} : Int32.ofInt a ≤ 0 ↔ zwr a ≤ 0 := by rw [Int32.le_iff_toInt_le, zI_toInt, zI_0]
theorem zI_0lt {a : Int} : 0 < Int32.ofInt a ↔ 0 < zwr a := by rw [Int32.lt_iff_toInt_lt, zI_toInt, zI_0]
theorem zI_0le {a : Int} : 0 ≤ Int32.ofInt a ↔ 0 ≤ zwr a := by rw [Int32.le_iff_toInt_le, zI_toInt, zI_0]
theorem zI_div (a b : Int) : Int32.ofInt a / Int32.ofInt b = Int32.ofInt ((zwr a).tdiv (zwr b)) := Int32.toInt_inj.mp (by
  rw [Int32.toInt_div, zI_toInt, zI_toInt, Int32.toInt_ofInt])
theorem zI_rem (a b : Int) : Int32.ofInt a - Int32.ofInt a / Int32.ofInt b * Int32.ofInt b = Int32.ofInt (zwr a - (zwr a).tdiv (zwr b) * zwr b) := by
  rw [zI_div, Int32.ofInt_sub, Int32.ofInt_mul, zI_wr, zI_wr]
theorem znb_lt (a : Int) : znb a < 128 := by unfold znb; omega
theorem znb_ge (a : Int) : -128 ≤ znb a := by unfold znb; omega
theorem znb_id {a : Int} (h1 : -128 ≤ a) (h2 : a < 128) : znb a = a := by unfold znb; omega
theorem zwr_nb (a : Int) : zwr (znb a) = znb a := zwr_id (by have := znb_ge a; omega) (by have := znb_lt a; omega)
theorem zI_b (a : Int) : (Int32.ofInt a).toInt8.toInt32 = Int32.ofInt (znb a) := Int32.toInt_inj.mp (by
  rw [Int8.toInt_toInt32, Int32.toInt_toInt8, zI_toInt, zI_toInt, zwr_nb, Int.bmod_def, show (((2 ^ 8 : Nat)) : Int) = 256 from rfl]
  unfold zwr znb
  split <;> omega)
theorem zI_bi {n : Int} (h1 : -128 ≤ n) (h2 : n < 128) : (Int8.ofInt n).toInt32 = Int32.ofInt n := Int32.toInt_inj.mp (by
  rw [Int8.toInt_toInt32, Int8.toInt_ofInt, zI_toInt, zwr_id (by omega) (by omega), Int.bmod_def, show ((Int8.size : Nat) : Int) = 256 from rfl]
  split <;> omega)
theorem zI_si {n : Int} (h1 : -32768 ≤ n) (h2 : n < 32768) : (Int16.ofInt n).toInt32 = Int32.ofInt n := Int32.toInt_inj.mp (by
  rw [Int16.toInt_toInt32, Int16.toInt_ofInt, zI_toInt, zwr_id (by omega) (by omega), Int.bmod_def, show ((Int16.size : Nat) : Int) = 65536 from rfl]
  split <;> omega)
theorem zL_toInt (a : Int) : (Int64.ofInt a).toInt = zwl a := by
  rw [Int64.toInt_ofInt, Int.bmod_def, show ((Int64.size : Nat) : Int) = 18446744073709551616 from rfl]
  unfold zwl
  split <;> omega
theorem zI_l (a : Int) : (Int32.ofInt a).toInt64 = Int64.ofInt (zwr a) := Int64.toInt_inj.mp (by
  rw [Int32.toInt_toInt64, zI_toInt, zL_toInt]
  unfold zwr zwl
  omega)
theorem zL_cmp (a b : Int) : lg_cmp (Int64.ofInt a) (Int64.ofInt b) = Int32.ofInt (zlc a b) := by
  unfold lg_cmp zlc
  have h1 : (Int64.ofInt a > Int64.ofInt b) ↔ zwl b < zwl a := by rw [gt_iff_lt, Int64.lt_iff_toInt_lt, zL_toInt, zL_toInt]
  have h2 : (Int64.ofInt a = Int64.ofInt b) ↔ zwl a = zwl b := by rw [← Int64.toInt_inj, zL_toInt, zL_toInt]
  by_cases c1 : zwl b < zwl a
  · rw [if_pos c1, if_pos (h1.mpr c1)]; rfl
  · rw [if_neg c1, if_neg (fun q => c1 (h1.mp q))]
    by_cases c2 : zwl a = zwl b
    · rw [if_pos c2, if_pos (h2.mpr c2)]; rfl
    · rw [if_neg c2, if_neg (fun q => c2 (h2.mp q))]; rfl
theorem zI_and (a b : Int) : Int32.ofInt a &&& Int32.ofInt b = Int32.ofInt (zand a b) := (Int32.ofInt_toInt _).symm
theorem zI_or (a b : Int) : Int32.ofInt a ||| Int32.ofInt b = Int32.ofInt (zor a b) := (Int32.ofInt_toInt _).symm
theorem zI_clamp (a : Int) : (Int32.ofInt a).toNatClampNeg = (zwr a).toNat := by
  show (Int32.ofInt a).toInt.toNat = _
  rw [zI_toInt]
theorem zI_in {a : Int} {n : Nat} (h0 : 0 ≤ zwr a) (h1 : zwr a < (n : Int)) : ¬ (Int32.ofInt a < 0 ∨ n ≤ (Int32.ofInt a).toNatClampNeg) := by
  rw [zI_lt0, zI_clamp]
  omega
theorem zI_bool (a : Int) : Int32.ofInt a &&& 1 = Int32.ofInt (a % 2) := by
  rw [pk_and (Int32.ofInt a) (m := 1) 1 (by decide)]
  have h : ((Int32.ofInt a).toBitVec.toNat % 2 ^ 1 : Nat) = (a % 2).toNat := by
    rw [Int32.toBitVec_ofInt, BitVec.toNat_ofInt]
    have : ((2 ^ 32 : Nat) : Int) = 4294967296 := rfl
    omega
  rw [h]
  show Int32.ofNat _ = _
  rw [← Int32.ofInt_eq_ofNat]
  congr 1
  omega
theorem zI_fitB {a : Int} (h1 : -128 ≤ a) (h2 : a < 128) : fits .byte (.int (Int32.ofInt a)) = true := by
  rw [← znb_id h1 h2, ← zI_b]
  exact pk_fb _
theorem zI_fitZ {a : Int} (h : a = 0 ∨ a = 1) : fits .boolean (.int (Int32.ofInt a)) = true ∧ narrow .boolean (.int (Int32.ofInt a)) = .int (Int32.ofInt a) := by
  rcases h with rfl | rfl <;> decide
theorem zI_narB (a : Int) : narrow .byte (.int (Int32.ofInt a)) = .int (Int32.ofInt (znb a)) := by
  rw [← zI_b]; rfl
theorem zI_narZ (a : Int) : narrow .boolean (.int (Int32.ofInt a)) = .int (Int32.ofInt (a % 2)) := by
  rw [← zI_bool]; rfl
