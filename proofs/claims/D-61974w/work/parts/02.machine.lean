/-! THE ABSTRACT MACHINE: values, store, kinds of cells, one step (in continuation form), runs -/
/-- a value: tag and payload: 0 int, 1 long, 2 unknown, k from 4 on: the cell of kind k with that number -/
abbrev ZV : Type := Nat × Int
/-- the store: kind, number, slot -/
abbrev ZT : Type := Nat → Int → Int → Int
/-- an end: 0 returned, e + 1 threw the exception e; the answer; the store -/
abbrev ZR : Type := Nat × Int × ZT
/-- a state: pc, locals, operand stack, store -/
abbrev ZS : Type := Nat × List ZV × List ZV × ZT
/-- a method: code; fields (pool index to kind and slot); calls (pool index to number of arguments, tag of the answer, function); throws (pc to exception); handlers (pc and exception to the pc behind the store, and the local); return type; number of locals -/
abbrev ZC : Type := (Nat → Option (Instr × Nat)) × (Nat → Option (Nat × Int)) × (Nat → Option (Nat × Nat × (List ZV → ZT → Option ZR))) × (Nat → Option Nat) × (Nat → Nat → Option (Nat × Nat)) × Nat × Nat
def zwr (a : Int) : Int := (a + 2147483648) % 4294967296 - 2147483648
def zwl (a : Int) : Int := (a + 9223372036854775808) % 18446744073709551616 - 9223372036854775808
def znb (a : Int) : Int := (a + 128) % 256 - 128
def zand (a b : Int) : Int := (Int32.ofInt a &&& Int32.ofInt b).toInt
def zor (a b : Int) : Int := (Int32.ofInt a ||| Int32.ofInt b).toInt
def zlc (a b : Int) : Int := if zwl b < zwl a then 1 else if zwl a = zwl b then 0 else -1
def zsto (σ : ZT) (k : Nat) (i s v : Int) : ZT := fun k' i' s' => if k' = k ∧ i' = i ∧ s' = s then v else σ k' i' s'
def zcpy (σ : ZT) (k : Nat) (i sp : Int) (k1 : Nat) (i1 dp n : Int) : ZT := fun k' i' s' => if k' = k1 ∧ i' = i1 ∧ dp ≤ s' ∧ s' < dp + n then σ k i (sp + (s' - dp)) else σ k' i' s'
/-- the numbers of a kind's cells -/
def zlo (k : Nat) : Int := match k with
  | 13 => 1
  | 14 => 1
  | _ => 0
def zhi (k : Nat) : Int := match k with
  | 0 => 0
  | 1 => 0
  | 2 => 0
  | 3 => 0
  | 6 => 2
  | 7 => 2
  | 13 => 41
  | 14 => 41
  | 15 => 120
  | 16 => 120
  | 17 => 120
  | k => if k < 39 then 1 else 0
abbrev zok (k : Nat) (i : Int) : Prop := zlo k ≤ i ∧ i < zhi k
/-- an array kind's length -/
def zlen (k : Nat) (σ : ZT) : Int := match k with
  | 5 => 41
  | 7 => 12001
  | 8 => 60
  | 10 => 80
  | 11 => 60
  | 12 => 60
  | 14 => 120
  | 16 => 41
  | 17 => 41
  | 18 => 1
  | 19 => σ 19 0 (-1)
  | 21 => 41
  | 22 => 41
  | 23 => 41
  | 24 => 41
  | 25 => 41
  | 26 => 4920
  | 27 => 12000
  | 28 => 60
  | 29 => 60
  | 30 => 2460
  | 31 => 2460
  | 32 => 2460
  | 33 => 41
  | 34 => 41
  | 35 => 60
  | 36 => 40
  | 37 => 40
  | 38 => 60
  | _ => 0
/-- an array kind's components: 0 int, 1 byte, 2 boolean, 3 long, 4 the things, 5 revisions, 9 no array -/
def zet (k : Nat) : Nat := match k with
  | 5 => 4
  | 7 => 1
  | 8 => 5
  | 10 => 0
  | 11 => 0
  | 12 => 0
  | 14 => 1
  | 16 => 0
  | 17 => 0
  | 18 => 3
  | 19 => 0
  | 21 => 2
  | 22 => 2
  | 23 => 2
  | 24 => 2
  | 25 => 0
  | 26 => 1
  | 27 => 1
  | 28 => 0
  | 29 => 0
  | 30 => 0
  | 31 => 0
  | 32 => 0
  | 33 => 0
  | 34 => 0
  | 35 => 0
  | 36 => 0
  | 37 => 0
  | 38 => 5
  | _ => 9
/-- an object kind's fields: (0, _) int, (2, _) boolean, (4, k) the cell of kind k with the same number, (5, k) a cell of kind k that the store names, (9, _) none -/
def zftM (s : Nat) : Nat × Nat := match s with
  | 0 => (0, 0)
  | 1 => (4, 21)
  | 2 => (4, 22)
  | 3 => (4, 23)
  | 4 => (4, 24)
  | 5 => (4, 25)
  | 6 => (4, 26)
  | 7 => (0, 0)
  | 8 => (4, 27)
  | 9 => (2, 0)
  | 10 => (0, 0)
  | 11 => (4, 28)
  | 12 => (4, 29)
  | 13 => (4, 30)
  | 14 => (4, 31)
  | 15 => (4, 32)
  | 16 => (0, 0)
  | 17 => (2, 0)
  | 18 => (4, 33)
  | 19 => (4, 34)
  | 20 => (0, 0)
  | 21 => (0, 0)
  | 22 => (0, 0)
  | 23 => (0, 0)
  | 24 => (0, 0)
  | 25 => (4, 35)
  | 26 => (0, 0)
  | 27 => (0, 0)
  | 28 => (2, 0)
  | 29 => (0, 0)
  | 30 => (4, 36)
  | 31 => (4, 37)
  | _ => (9, 0)
def zftW (s : Nat) : Nat × Nat := match s with
  | 0 => (4, 5)
  | 1 => (5, 6)
  | 2 => (5, 6)
  | 3 => (2, 0)
  | 4 => (4, 8)
  | 5 => (4, 38)
  | 6 => (0, 0)
  | 7 => (4, 9)
  | 8 => (4, 10)
  | 9 => (0, 0)
  | 10 => (4, 11)
  | 11 => (4, 12)
  | 12 => (0, 0)
  | 13 => (0, 0)
  | _ => (9, 0)
def zftL (s : Nat) : Nat × Nat := match s with
  | 0 => (5, 6)
  | 1 => (0, 0)
  | 2 => (2, 0)
  | 3 => (0, 0)
  | 4 => (0, 0)
  | _ => (9, 0)
def zftR (s : Nat) : Nat × Nat := match s with
  | 0 => (4, 7)
  | 1 => (0, 0)
  | _ => (9, 0)
def zftT (s : Nat) : Nat × Nat := match s with
  | 0 => (4, 14)
  | 1 => (0, 0)
  | 2 => (2, 0)
  | 3 => (2, 0)
  | 4 => (2, 0)
  | 5 => (2, 0)
  | _ => (9, 0)
def zftV (s : Nat) : Nat × Nat := match s with
  | 0 => (4, 16)
  | 1 => (4, 17)
  | 2 => (0, 0)
  | 3 => (0, 0)
  | _ => (9, 0)
def zft (k : Nat) (s : Nat) : Nat × Nat := match k with
  | 4 => zftW s
  | 6 => zftR s
  | 9 => zftL s
  | 13 => zftT s
  | 15 => zftV s
  | 20 => zftM s
  | _ => (9, 0)
section ZSTEP
variable {ρ : Type}
def z1 (st : List ZV) (k : Int → List ZV → Option ρ) : Option ρ := match st with
  | (0, a) :: r => k a r
  | _ => none
def z2 (st : List ZV) (k : Int → Int → List ZV → Option ρ) : Option ρ := match st with
  | (0, b) :: (0, a) :: r => k a b r
  | _ => none
def zl1 (st : List ZV) (k : Int → List ZV → Option ρ) : Option ρ := match st with
  | (1, a) :: r => k a r
  | _ => none
def zr1 (st : List ZV) (k : Nat → Int → List ZV → Option ρ) : Option ρ := match st with
  | (t, a) :: r => if 4 ≤ t then k t a r else none
  | [] => none
/-- a value that is no long -/
def zn1 (st : List ZV) (k : Nat → Int → List ZV → Option ρ) : Option ρ := match st with
  | (t, a) :: r => if t = 1 then none else k t a r
  | [] => none
def zldI (ls : List ZV) (i : Nat) (k : Int → Option ρ) : Option ρ := match ls[i]? with
  | some (0, a) => k a
  | _ => none
def zldR (ls : List ZV) (i : Nat) (k : Nat → Int → Option ρ) : Option ρ := match ls[i]? with
  | some (t, a) => if 4 ≤ t then k t a else none
  | none => none
def zset (ls : List ZV) (i : Nat) (v : ZV) (k : List ZV → Option ρ) : Option ρ := if i < ls.length then k (ls.set i v) else none
def zcmp (c : ClassFile.Cond) (a b : Int) (y n : Option ρ) : Option ρ := match c with
  | .eq => if a = b then y else n
  | .ne => if a = b then n else y
  | .lt => if a < b then y else n
  | .ge => if a < b then n else y
  | .gt => if b < a then y else n
  | .le => if b < a then n else y
def ztg (pc : Nat) (o : Int) : Nat := ((pc : Int) + o).toNat
def zsw (k : Nat → Option ρ) (pc : Nat) (d a : Int) : List Int → Int → Option ρ
  | [], _ => k (ztg pc d)
  | o :: r, lo => if a = lo then k (ztg pc o) else zsw k pc d a r (lo + 1)
def zfld (σ : ZT) (k : Nat) (i s : Int) (c : Nat → Int → Option ρ) : Option ρ := match zft k s.toNat with
  | (0, _) => c 0 (σ k i s)
  | (2, _) => c 0 (σ k i s)
  | (4, k') => c k' i
  | (5, k') => if zok k' (σ k i s) then c k' (σ k i s) else none
  | _ => none
def zput (σ : ZT) (k : Nat) (i s : Int) (t : Nat) (a : Int) (c : ZT → Option ρ) : Option ρ := match zft k s.toNat with
  | (0, _) => if t = 0 then c (zsto σ k i s a) else none
  | (2, _) => if t = 0 ∧ (a = 0 ∨ a = 1) then c (zsto σ k i s a) else none
  | (5, k') => if t = k' then c (zsto σ k i s a) else none
  | _ => none
def zbd (t : Nat) (σ : ZT) (j : Int) (c : Option ρ) : Option ρ := if 0 ≤ zwr j ∧ zwr j < zlen t σ then c else none
def zcall (r : Option ZR) (c : Int → ZT → Option ρ) (x : Nat → ZT → Option ρ) : Option ρ := match r with
  | none => none
  | some (0, v, τ) => c v τ
  | some (e + 1, _, τ) => x e τ
def zpush (t : Nat) (v : Int) (r : List ZV) : List ZV := if t = 2 then r else (t, v) :: r
def zret (rt : Nat) (a : Int) (c : Option ρ) : Option ρ := match rt with
  | 1 => c
  | 2 => if a = 0 ∨ a = 1 then c else none
  | 3 => if -128 ≤ a ∧ a < 128 then c else none
  | _ => none
def zend (r : List ZV) (c : Option ρ) : Option ρ := match r with
  | [] => c
  | _ => none
def zhd (o : Option (Nat × Nat)) (a : Nat × Nat → Option ρ) (b : Option ρ) : Option ρ := match o with
  | some h => a h
  | none => b
def zarm (C : ZC) (pc : Nat) (ls st : List ZV) (σ : ZT) (K : ZS → Option ρ) (F : ZR → Option ρ) (ins : Instr) : Option ρ := match ins with
  | .iconst v => K (pc + 1, ls, (0, v) :: st, σ)
  | .bipush v => K (pc + 2, ls, (0, v) :: st, σ)
  | .sipush v => K (pc + 3, ls, (0, v) :: st, σ)
  | .lconst v => K (pc + 1, ls, (1, ((v.val : Nat) : Int)) :: st, σ)
  | .iload_n i => zldI ls i.val fun a => K (pc + 1, ls, (0, a) :: st, σ)
  | .iload i => zldI ls i fun a => K (pc + 2, ls, (0, a) :: st, σ)
  | .aload_n i => zldR ls i.val fun t a => K (pc + 1, ls, (t, a) :: st, σ)
  | .aload i => zldR ls i fun t a => K (pc + 2, ls, (t, a) :: st, σ)
  | .istore_n i => z1 st fun a r => zset ls i.val (0, a) fun l => K (pc + 1, l, r, σ)
  | .istore i => z1 st fun a r => zset ls i (0, a) fun l => K (pc + 2, l, r, σ)
  | .astore_n i => zr1 st fun t a r => zset ls i.val (t, a) fun l => K (pc + 1, l, r, σ)
  | .astore i => zr1 st fun t a r => zset ls i (t, a) fun l => K (pc + 2, l, r, σ)
  | .iinc i v => zldI ls i fun a => zset ls i (0, a + v) fun l => K (pc + 3, l, st, σ)
  | .iadd => z2 st fun a b r => K (pc + 1, ls, (0, a + b) :: r, σ)
  | .isub => z2 st fun a b r => K (pc + 1, ls, (0, a - b) :: r, σ)
  | .imul => z2 st fun a b r => K (pc + 1, ls, (0, a * b) :: r, σ)
  | .idiv => z2 st fun a b r => if zwr b = 0 then none else K (pc + 1, ls, (0, (zwr a).tdiv (zwr b)) :: r, σ)
  | .irem => z2 st fun a b r => if zwr b = 0 then none else K (pc + 1, ls, (0, zwr a - (zwr a).tdiv (zwr b) * zwr b) :: r, σ)
  | .iand => z2 st fun a b r => K (pc + 1, ls, (0, zand a b) :: r, σ)
  | .ior => z2 st fun a b r => K (pc + 1, ls, (0, zor a b) :: r, σ)
  | .i2b => z1 st fun a r => K (pc + 1, ls, (0, znb a) :: r, σ)
  | .i2l => z1 st fun a r => K (pc + 1, ls, (1, zwr a) :: r, σ)
  | .lcmp => zl1 st fun b r => zl1 r fun a r' => K (pc + 1, ls, (0, zlc a b) :: r', σ)
  | .dup => zn1 st fun t a r => K (pc + 1, ls, (t, a) :: (t, a) :: r, σ)
  | .dup_x1 => zn1 st fun t a r => zn1 r fun u b r' => K (pc + 1, ls, (t, a) :: (u, b) :: (t, a) :: r', σ)
  | .pop => zn1 st fun _ _ r => K (pc + 1, ls, r, σ)
  | .ifCond c o => z1 st fun a r => zcmp c (zwr a) 0 (K (ztg pc o, ls, r, σ)) (K (pc + 3, ls, r, σ))
  | .if_icmp c o => z2 st fun a b r => zcmp c (zwr a) (zwr b) (K (ztg pc o, ls, r, σ)) (K (pc + 3, ls, r, σ))
  | .goto o => K (ztg pc o, ls, st, σ)
  | .tableswitch d lo _ offs => z1 st fun a r => zsw (fun g => K (g, ls, r, σ)) pc d (zwr a) offs.toList lo
  | .getfield ix => (C.2.1 ix).bind fun ks => zr1 st fun t i r => if t = ks.1 then zfld σ ks.1 i ks.2 fun u v => K (pc + 3, ls, (u, v) :: r, σ) else none
  | .putfield ix => (C.2.1 ix).bind fun ks => zn1 st fun u v r => zr1 r fun t i r' => if t = ks.1 then zput σ ks.1 i ks.2 u v fun τ => K (pc + 3, ls, r', τ) else none
  | .iaload => z1 st fun j r => zr1 r fun t i r' => if zet t = 0 then zbd t σ j (K (pc + 1, ls, (0, σ t i (zwr j)) :: r', σ)) else none
  | .baload => z1 st fun j r => zr1 r fun t i r' => if zet t = 1 ∨ zet t = 2 then zbd t σ j (K (pc + 1, ls, (0, σ t i (zwr j)) :: r', σ)) else none
  | .laload => z1 st fun j r => zr1 r fun t i r' => if zet t = 3 then zbd t σ j (K (pc + 1, ls, (1, σ t i (zwr j)) :: r', σ)) else none
  | .aaload => z1 st fun j r => zr1 r fun t i r' => if zet t = 4 then (if zok 13 (zwr j) then K (pc + 1, ls, (13, zwr j) :: r', σ) else none) else if zet t = 5 then zbd t σ j (if zok 15 (σ t i (zwr j)) then K (pc + 1, ls, (15, σ t i (zwr j)) :: r', σ) else none) else none
  | .iastore => z2 st fun j v r => zr1 r fun t i r' => if zet t = 0 ∧ t ≠ 19 then zbd t σ j (K (pc + 1, ls, r', zsto σ t i (zwr j) v)) else none
  | .bastore => z2 st fun j v r => zr1 r fun t i r' => if zet t = 1 then zbd t σ j (K (pc + 1, ls, r', zsto σ t i (zwr j) (znb v))) else if zet t = 2 then zbd t σ j (K (pc + 1, ls, r', zsto σ t i (zwr j) (v % 2))) else none
  | .lastore => zl1 st fun v r => z1 r fun j r' => zr1 r' fun t i r'' => if zet t = 3 then zbd t σ j (K (pc + 1, ls, r'', zsto σ t i (zwr j) v)) else none
  | .aastore => zr1 st fun u v r => z1 r fun j r' => zr1 r' fun t i r'' => if zet t = 5 ∧ u = 15 then zbd t σ j (K (pc + 1, ls, r'', zsto σ t i (zwr j) v)) else none
  | .arraylength => zr1 st fun t i r => if t = 19 ∧ 0 ≤ zlen t σ then K (pc + 1, ls, (0, zlen t σ) :: r, σ) else none
  | .invokevirtual ix => (C.2.2.1 ix).bind fun c => if c.1 ≤ st.length ∧ (st.drop c.1).length ≤ 4 ∧ ls.length = C.2.2.2.2.2.2 then zcall (c.2.2 (st.take c.1).reverse σ) (fun v τ => K (pc + 3, ls, zpush c.2.1 v (st.drop c.1), τ)) (fun e τ => zhd (C.2.2.2.2.1 pc e) (fun hj => zset ls hj.2 (2, 0) fun l => K (hj.1, l, [], τ)) (F (e + 1, 0, τ))) else none
  | .invokestatic ix => (C.2.2.1 ix).bind fun c => if c.1 ≤ st.length ∧ (st.drop c.1).length ≤ 4 ∧ ls.length = C.2.2.2.2.2.2 then zcall (c.2.2 (st.take c.1).reverse σ) (fun v τ => K (pc + 3, ls, zpush c.2.1 v (st.drop c.1), τ)) (fun e τ => zhd (C.2.2.2.2.1 pc e) (fun hj => zset ls hj.2 (2, 0) fun l => K (hj.1, l, [], τ)) (F (e + 1, 0, τ))) else none
  | .new _ => (C.2.2.2.1 pc).bind fun e => zend st (if 0 < σ 39 0 0 ∧ ls.length = C.2.2.2.2.2.2 then F (e + 1, 0, zsto σ 39 0 0 (σ 39 0 0 - 1)) else none)
  | .ireturn => z1 st fun a r => zend r (zret C.2.2.2.2.2.1 a (F (0, a, σ)))
  | .areturn => zr1 st fun t i r => zend r (if t = C.2.2.2.2.2.1 then F (0, i, σ) else none)
  | .return_ => zend st (if C.2.2.2.2.2.1 = 0 then F (0, 0, σ) else none)
  | _ => none
def zstep (C : ZC) (x : ZS) (K : ZS → Option ρ) (F : ZR → Option ρ) : Option ρ := (C.1 x.1).bind fun q => zarm C x.1 x.2.1 x.2.2.1 x.2.2.2 K F q.1
end ZSTEP
section ZBIND
variable {ρ κ : Type} (g : ρ → Option κ)
theorem z1_bind (st : List ZV) (k : Int → List ZV → Option ρ) : (z1 st k).bind g = z1 st fun a r => (k a r).bind g := by
  unfold z1; split <;> rfl
theorem z2_bind (st : List ZV) (k : Int → Int → List ZV → Option ρ) : (z2 st k).bind g = z2 st fun a b r => (k a b r).bind g := by
  unfold z2; split <;> rfl
theorem zl1_bind (st : List ZV) (k : Int → List ZV → Option ρ) : (zl1 st k).bind g = zl1 st fun a r => (k a r).bind g := by
  unfold zl1; split <;> rfl
theorem zif_bind (c : Prop) [Decidable c] (a b : Option ρ) : (if c then a else b).bind g = if c then a.bind g else b.bind g := by
  split <;> rfl
theorem zr1_bind (st : List ZV) (k : Nat → Int → List ZV → Option ρ) : (zr1 st k).bind g = zr1 st fun t a r => (k t a r).bind g := by
  unfold zr1
  split
  · exact zif_bind g _ _ _
  · rfl
theorem zn1_bind (st : List ZV) (k : Nat → Int → List ZV → Option ρ) : (zn1 st k).bind g = zn1 st fun t a r => (k t a r).bind g := by
  unfold zn1
  split
  · exact zif_bind g _ _ _
  · rfl
theorem zldI_bind (ls : List ZV) (i : Nat) (k : Int → Option ρ) : (zldI ls i k).bind g = zldI ls i fun a => (k a).bind g := by
  unfold zldI; split <;> rfl
theorem zldR_bind (ls : List ZV) (i : Nat) (k : Nat → Int → Option ρ) : (zldR ls i k).bind g = zldR ls i fun t a => (k t a).bind g := by
  unfold zldR
  split
  · exact zif_bind g _ _ _
  · rfl
theorem zset_bind (ls : List ZV) (i : Nat) (v : ZV) (k : List ZV → Option ρ) : (zset ls i v k).bind g = zset ls i v fun l => (k l).bind g := by
  unfold zset; exact zif_bind g _ _ _
theorem zcmp_bind (c : ClassFile.Cond) (a b : Int) (y n : Option ρ) : (zcmp c a b y n).bind g = zcmp c a b (y.bind g) (n.bind g) := by
  cases c <;> exact zif_bind g _ _ _
theorem zsw_bind (k : Nat → Option ρ) (pc : Nat) (d a : Int) : ∀ (os : List Int) (lo : Int), (zsw k pc d a os lo).bind g = zsw (fun n => (k n).bind g) pc d a os lo
  | [], _ => rfl
  | o :: r, lo => by
    rw [zsw, zsw, zif_bind, zsw_bind k pc d a r]
theorem zfld_bind (σ : ZT) (k : Nat) (i s : Int) (c : Nat → Int → Option ρ) : (zfld σ k i s c).bind g = zfld σ k i s fun u v => (c u v).bind g := by
  unfold zfld
  split
  · rfl
  · rfl
  · rfl
  · exact zif_bind g _ _ _
  · rfl
theorem zput_bind (σ : ZT) (k : Nat) (i s : Int) (t : Nat) (a : Int) (c : ZT → Option ρ) : (zput σ k i s t a c).bind g = zput σ k i s t a fun τ => (c τ).bind g := by
  unfold zput
  split
  · exact zif_bind g _ _ _
  · exact zif_bind g _ _ _
  · exact zif_bind g _ _ _
  · rfl
theorem zbd_bind (t : Nat) (σ : ZT) (j : Int) (c : Option ρ) : (zbd t σ j c).bind g = zbd t σ j (c.bind g) := by
  unfold zbd; exact zif_bind g _ _ _
theorem zcall_bind (r : Option ZR) (c : Int → ZT → Option ρ) (x : Nat → ZT → Option ρ) : (zcall r c x).bind g = zcall r (fun v τ => (c v τ).bind g) (fun e τ => (x e τ).bind g) := by
  unfold zcall; split <;> rfl
theorem zret_bind (rt : Nat) (a : Int) (c : Option ρ) : (zret rt a c).bind g = zret rt a (c.bind g) := by
  unfold zret
  split
  · rfl
  · exact zif_bind g _ _ _
  · exact zif_bind g _ _ _
  · rfl
theorem zend_bind (r : List ZV) (c : Option ρ) : (zend r c).bind g = zend r (c.bind g) := by
  unfold zend; split <;> rfl
theorem zhd_bind (o : Option (Nat × Nat)) (a : Nat × Nat → Option ρ) (b : Option ρ) : (zhd o a b).bind g = zhd o (fun h => (a h).bind g) (b.bind g) := by
  unfold zhd; split <;> rfl
theorem zop_bind {α : Type} (o : Option α) (k : α → Option ρ) : (o.bind k).bind g = o.bind fun a => (k a).bind g := by
  cases o <;> rfl
end ZBIND
def znext (C : ZC) (x : ZS) : Option (ZS ⊕ ZR) := zstep C x (fun y => some (.inl y)) (fun r => some (.inr r))
theorem zarm_next {ρ : Type} (C : ZC) (pc : Nat) (ls st : List ZV) (σ : ZT) (K : ZS → Option ρ) (F : ZR → Option ρ) (ins : Instr) : (zarm C pc ls st σ (fun y => some (.inl y)) (fun r => some (.inr r)) ins).bind (fun z => Sum.elim K F z) = zarm C pc ls st σ K F ins := by
  cases ins <;> first | rfl | (simp only [zarm, z1_bind, z2_bind, zl1_bind, zif_bind, zr1_bind, zn1_bind, zldI_bind, zldR_bind, zset_bind, zcmp_bind, zsw_bind, zfld_bind, zput_bind, zbd_bind, zcall_bind, zret_bind, zend_bind, zhd_bind, zop_bind, Option.bind_some, Option.bind_none, Sum.elim_inl, Sum.elim_inr])
theorem zstep_next {ρ : Type} (C : ZC) (x : ZS) (K : ZS → Option ρ) (F : ZR → Option ρ) : zstep C x K F = (znext C x).bind (fun z => Sum.elim K F z) := by
  unfold znext zstep
  rw [zop_bind]
  congr 1
  funext q
  exact (zarm_next C _ _ _ _ K F q.1).symm
/-- runs of at most n steps -/
def zitr (C : ZC) : Nat → ZS → Option ZR
  | 0, _ => none
  | n + 1, x => (znext C x).bind (fun z => Sum.elim (zitr C n) some z)
theorem zitr_mono (C : ZC) : ∀ (n : Nat) (x : ZS) (r : ZR), zitr C n x = some r → zitr C (n + 1) x = some r
  | 0, _, _, h => by cases h
  | n + 1, x, r, h => by
    rw [zitr] at h ⊢
    cases hx : znext C x with
    | none => rw [hx] at h; cases h
    | some z =>
      rw [hx] at h
      cases z with
      | inl y => exact zitr_mono C n y r h
      | inr q => exact h
theorem zitr_le (C : ZC) {n m : Nat} {x : ZS} {r : ZR} (hnm : n ≤ m) (h : zitr C n x = some r) : zitr C m x = some r := by
  induction hnm with
  | refl => exact h
  | step _ ih => exact zitr_mono C _ x r ih
noncomputable def zrun (C : ZC) (x : ZS) : Option ZR := @dite (Option ZR) (∃ n, (zitr C n x).isSome = true) (Classical.propDecidable _) (fun h => zitr C (Classical.choose h) x) (fun _ => none)
theorem zrun_some {C : ZC} {x : ZS} {r : ZR} : zrun C x = some r ↔ ∃ n, zitr C n x = some r := by
  unfold zrun
  constructor
  · intro h
    by_cases hx : ∃ n, (zitr C n x).isSome = true
    · rw [dif_pos hx] at h
      exact ⟨_, h⟩
    · rw [dif_neg hx] at h
      cases h
  · rintro ⟨n, hn⟩
    have hx : ∃ n, (zitr C n x).isSome = true := ⟨n, by rw [hn]; rfl⟩
    rw [dif_pos hx]
    obtain ⟨q, hq⟩ := Option.isSome_iff_exists.mp (Classical.choose_spec hx)
    have h1 := zitr_le C (Nat.le_max_left n (Classical.choose hx)) hn
    have h2 := zitr_le C (Nat.le_max_right n (Classical.choose hx)) hq
    rw [hq]
    exact h2.symm.trans h1
theorem zrun_none {C : ZC} {x : ZS} : zrun C x = none ↔ ∀ n, zitr C n x = none := by
  constructor
  · intro h n
    cases hn : zitr C n x with
    | none => rfl
    | some r => rw [zrun_some.mpr ⟨n, hn⟩] at h; cases h
  · intro h
    cases hx : zrun C x with
    | none => rfl
    | some r =>
      obtain ⟨n, hn⟩ := zrun_some.mp hx
      rw [h n] at hn
      cases hn
theorem zrun_next (C : ZC) (x : ZS) : zrun C x = (znext C x).bind (fun z => Sum.elim (zrun C) some z) := by
  cases hx : znext C x with
  | none =>
    refine zrun_none.mpr fun n => ?_
    cases n with
    | zero => rfl
    | succ n => rw [zitr, hx]; rfl
  | some z =>
    cases z with
    | inr r =>
      refine zrun_some.mpr ⟨1, ?_⟩
      rw [zitr, hx]
      rfl
    | inl y =>
      show zrun C x = zrun C y
      cases hy : zrun C y with
      | some r =>
        obtain ⟨n, hn⟩ := zrun_some.mp hy
        refine zrun_some.mpr ⟨n + 1, ?_⟩
        rw [zitr, hx]
        exact hn
      | none =>
        refine zrun_none.mpr fun n => ?_
        cases n with
        | zero => rfl
        | succ n => rw [zitr, hx]; exact zrun_none.mp hy n
theorem zrun_eq (C : ZC) (x : ZS) : zrun C x = zstep C x (zrun C) some := by
  rw [zstep_next, zrun_next]
/-- a run unrolled up to the places where it is to stop -/
noncomputable def zun (C : ZC) (stop : Nat → Bool) : Nat → ZS → Option ZR
  | 0, x => zrun C x
  | n + 1, x => zstep C x (fun y => match stop y.1 with
    | true => zrun C y
    | false => zun C stop n y) some
theorem zun_eq (C : ZC) (stop : Nat → Bool) : ∀ (n : Nat) (x : ZS), zun C stop n x = zrun C x
  | 0, _ => rfl
  | n + 1, x => by
    rw [zun, zrun_eq C x]
    congr 1
    funext y
    rw [zun_eq C stop n y]
    cases stop y.1 <;> rfl
