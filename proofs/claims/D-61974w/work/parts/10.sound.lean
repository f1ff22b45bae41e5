/-! SOUNDNESS: a run of the abstract machine is a run of the JVM; contracts -/
/-- what a method's tables must satisfy; a decidable part of it is checked by program -/
def zMeth (E : ZE) (C : ZC) (l : Launch) (own : String) (cc : ByteArray) (d : Nat) : Prop := zCode C cc ∧ zFld C own ∧ (∀ pc n ix ca, C.1 pc = some (.invokevirtual ix, n) → C.2.2.1 ix = some ca → zVirt E l own d ix ca.1 ca.2.1 ca.2.2) ∧
  (∀ pc n ix ca, C.1 pc = some (.invokestatic ix, n) → C.2.2.1 ix = some ca → (zStat E l own d ix ca.1 ca.2.1 ca.2.2 ∨ (Cond.methodLink own ix arraycopyName ∈ zTT ∧ ca = (5, 2, zcopyf)))) ∧ (∀ pc x, C.2.2.2.1 pc = some x → zThr C own pc x)
section ZSOUND
variable {E : ZE} {C : ZC} {own : String} {cc : ByteArray} {G d : Nat} {p : Program} {l : Launch} {e : Env} {R : Room} {s : State} {m : MethodId} {args : Array Value} {below : List Frame} {meth : Method} {c : Code} {Q : State → Prop}
set_option maxHeartbeats 4000000 in
theorem zarm_sound (hV : zEV E) (hx : p.tables.exec = Jvm.exec) (hb : c.code = cc) (hown : s.vm.findClass own = some m.cls) (hts : ∀ w ∈ zTT, w.before args s = true) (hK : zKK E s) (hM : zMeth E C l own cc d) (hfl : l.flags = flags0) (hl : meth.locks = false) (hr : zRt C.2.2.2.2.2.1 meth.sig.returnType) (hLv : zLeave C c) (hCt : zCatch E C p l e R s m args below meth c)
    (hRf : 8 + d ≤ R.frames) (hRl : 100 + 40 * d ≤ R.locals) (hRc : G ≤ R.cells) (hRs : 6 * G ≤ R.slots) (hml : c.maxLocals = C.2.2.2.2.2.2) (hnew : ∀ pc x, C.2.2.2.1 pc = some x → ∀ h ∈ c.exceptionTable.toList, covers h (pc + 7) = false)
    {pc n : Nat} {ls st : List ZV} {σ : ZT} {ins : Instr} {z : ZS ⊕ ZR} (hq : C.1 pc = some (ins, n)) (hz : zarm C pc ls st σ (fun y => some (Sum.inl y)) (fun r => some (Sum.inr r)) ins = some z) (hy : zThen E G C.2.2.2.2.2.1 p l e R s m args below meth c Q z) : zW E G p l e R s m args below meth c Q (pc, ls, st, σ) := by
  have X : zCx E C own cc p s m args c := ⟨hV, hx, hb, hown, hts, hK, hM.1⟩
  have go : ∀ {y : ZS}, z = .inl y → zW E G p l e R s m args below meth c Q y := fun h => by subst h; exact hy
  have fin : ∀ {f : ZS → Option (ZS ⊕ ZR)}, True := fun {_} => trivial
  cases ins with
  | iconst v => cases hz; exact zs_iconst X hq hy
  | bipush v => cases hz; exact zs_bipush X hq hy
  | sipush v => cases hz; exact zs_sipush X hq hy
  | lconst v => cases hz; exact zs_lconst X hq hy
  | goto o => cases hz; exact zs_goto X hq hy
  | iload_n i =>
    obtain ⟨a, h1, h2⟩ := zldI_inv hz
    cases h2
    exact zs_iload_n X hq hz hy
  | iload i =>
    obtain ⟨a, h1, h2⟩ := zldI_inv hz
    cases h2
    exact zs_iload X hq hz hy
  | aload_n i =>
    obtain ⟨t, a, h1, h2, h3⟩ := zldR_inv hz
    cases h3
    exact zs_aload_n X hq hz hy
  | aload i =>
    obtain ⟨t, a, h1, h2, h3⟩ := zldR_inv hz
    cases h3
    exact zs_aload X hq hz hy
  | istore_n i =>
    obtain ⟨a, r, h1, h2⟩ := z1_inv hz
    obtain ⟨h3, h4⟩ := zset_inv h2
    cases h4
    exact zs_istore_n X hq hz hy
  | istore i =>
    obtain ⟨a, r, h1, h2⟩ := z1_inv hz
    obtain ⟨h3, h4⟩ := zset_inv h2
    cases h4
    exact zs_istore X hq hz hy
  | astore_n i =>
    obtain ⟨t, a, r, h1, h0, h2⟩ := zr1_inv hz
    obtain ⟨h3, h4⟩ := zset_inv h2
    cases h4
    exact zs_astore_n X hq hz hy
  | astore i =>
    obtain ⟨t, a, r, h1, h0, h2⟩ := zr1_inv hz
    obtain ⟨h3, h4⟩ := zset_inv h2
    cases h4
    exact zs_astore X hq hz hy
  | iinc i v =>
    obtain ⟨a, h1, h2⟩ := zldI_inv hz
    obtain ⟨h3, h4⟩ := zset_inv h2
    cases h4
    exact zs_iinc X hq hz hy
  | iadd =>
    obtain ⟨a, b, r, h1, h2⟩ := z2_inv hz
    cases h2
    exact zs_iadd X hq hz hy
  | isub =>
    obtain ⟨a, b, r, h1, h2⟩ := z2_inv hz
    cases h2
    exact zs_isub X hq hz hy
  | imul =>
    obtain ⟨a, b, r, h1, h2⟩ := z2_inv hz
    cases h2
    exact zs_imul X hq hz hy
  | idiv =>
    obtain ⟨a, b, r, h1, h2⟩ := z2_inv hz
    obtain ⟨h3, h4⟩ := zifn_inv h2
    cases h4
    exact zs_idiv X hq hz hy
  | irem =>
    obtain ⟨a, b, r, h1, h2⟩ := z2_inv hz
    obtain ⟨h3, h4⟩ := zifn_inv h2
    cases h4
    exact zs_irem X hq hz hy
  | iand =>
    obtain ⟨a, b, r, h1, h2⟩ := z2_inv hz
    cases h2
    exact zs_iand X hq hz hy
  | ior =>
    obtain ⟨a, b, r, h1, h2⟩ := z2_inv hz
    cases h2
    exact zs_ior X hq hz hy
  | i2b =>
    obtain ⟨a, r, h1, h2⟩ := z1_inv hz
    cases h2
    exact zs_i2b X hq hz hy
  | i2l =>
    obtain ⟨a, r, h1, h2⟩ := z1_inv hz
    cases h2
    exact zs_i2l X hq hz hy
  | lcmp =>
    obtain ⟨a, r, h1, h2⟩ := zl1_inv hz
    obtain ⟨b, r', h3, h4⟩ := zl1_inv h2
    cases h4
    exact zs_lcmp X hq hz hy
  | dup =>
    obtain ⟨t, a, r, h1, h0, h2⟩ := zn1_inv hz
    cases h2
    exact zs_dup X hq hz hy
  | dup_x1 =>
    obtain ⟨t, a, r, h1, h0, h2⟩ := zn1_inv hz
    obtain ⟨u, b, r', h3, h4, h5⟩ := zn1_inv h2
    cases h5
    exact zs_dup_x1 X hq hz hy
  | pop =>
    obtain ⟨t, a, r, h1, h0, h2⟩ := zn1_inv hz
    cases h2
    exact zs_pop X hq hz hy
  | ifCond k o =>
    obtain ⟨a, r, h1, h2⟩ := z1_inv hz
    obtain ⟨w, hw⟩ : ∃ w, z = .inl w := by
      cases k <;> simp only [zcmp] at h2 <;> split at h2 <;> exact ⟨_, (Option.some.inj h2).symm⟩
    subst hw
    exact zs_ifCond X hq hz hy
  | if_icmp k o =>
    obtain ⟨a, b, r, h1, h2⟩ := z2_inv hz
    obtain ⟨w, hw⟩ : ∃ w, z = .inl w := by
      cases k <;> simp only [zcmp] at h2 <;> split at h2 <;> exact ⟨_, (Option.some.inj h2).symm⟩
    subst hw
    exact zs_if_icmp X hq hz hy
  | tableswitch dd lo hi offs =>
    obtain ⟨a, r, h1, h2⟩ := z1_inv hz
    obtain ⟨w, hw⟩ : ∃ w, z = .inl w := by
      rcases zsw_inv _ _ h2 with ⟨-, g2⟩ | ⟨o, -, -, g3⟩
      · exact ⟨_, (Option.some.inj g2).symm⟩
      · exact ⟨_, (Option.some.inj g3).symm⟩
    subst hw
    exact zs_tableswitch X hq hz hy
  | getfield ix =>
    obtain ⟨ks, h1, h2⟩ := zop_inv hz
    obtain ⟨t, i, r, h3, h4, h5⟩ := zr1_inv h2
    obtain ⟨h6, h7⟩ := zif_inv h5
    obtain ⟨w, hw⟩ : ∃ w, z = .inl w := by
      unfold zfld at h7
      split at h7
      · exact ⟨_, (Option.some.inj h7).symm⟩
      · exact ⟨_, (Option.some.inj h7).symm⟩
      · exact ⟨_, (Option.some.inj h7).symm⟩
      · exact ⟨_, (Option.some.inj (zif_inv h7).2).symm⟩
      · cases h7
    subst hw
    exact zs_getfield X hM.2.1 hq hz hy
  | putfield ix =>
    obtain ⟨ks, h1, h2⟩ := zop_inv hz
    obtain ⟨u, v, r, h3, h4, h5⟩ := zn1_inv h2
    obtain ⟨t, i, r', h6, h7, h8⟩ := zr1_inv h5
    obtain ⟨h9, h10⟩ := zif_inv h8
    obtain ⟨w, hw⟩ : ∃ w, z = .inl w := by
      unfold zput at h10
      split at h10
      · exact ⟨_, (Option.some.inj (zif_inv h10).2).symm⟩
      · exact ⟨_, (Option.some.inj (zif_inv h10).2).symm⟩
      · exact ⟨_, (Option.some.inj (zif_inv h10).2).symm⟩
      · cases h10
    subst hw
    exact zs_putfield X hM.2.1 hq hz hy
  | iaload =>
    obtain ⟨j, r, h1, h2⟩ := z1_inv hz
    obtain ⟨t, i, r', h3, h4, h5⟩ := zr1_inv h2
    obtain ⟨h6, h7⟩ := zif_inv h5
    obtain ⟨h8, h9, h10⟩ := zbd_inv h7
    cases h10
    exact zs_iaload X hq hz hy
  | baload =>
    obtain ⟨j, r, h1, h2⟩ := z1_inv hz
    obtain ⟨t, i, r', h3, h4, h5⟩ := zr1_inv h2
    obtain ⟨h6, h7⟩ := zif_inv h5
    obtain ⟨h8, h9, h10⟩ := zbd_inv h7
    cases h10
    exact zs_baload X hq hz hy
  | laload =>
    obtain ⟨j, r, h1, h2⟩ := z1_inv hz
    obtain ⟨t, i, r', h3, h4, h5⟩ := zr1_inv h2
    obtain ⟨h6, h7⟩ := zif_inv h5
    obtain ⟨h8, h9, h10⟩ := zbd_inv h7
    cases h10
    exact zs_laload X hq hz hy
  | aaload =>
    obtain ⟨j, r, h1, h2⟩ := z1_inv hz
    obtain ⟨t, i, r', h3, h4, h5⟩ := zr1_inv h2
    obtain ⟨w, hw⟩ : ∃ w, z = .inl w := by
      split at h5
      · exact ⟨_, (Option.some.inj (zif_inv h5).2).symm⟩
      · obtain ⟨h6, h7⟩ := zif_inv h5
        obtain ⟨h8, h9, h10⟩ := zbd_inv h7
        exact ⟨_, (Option.some.inj (zif_inv h10).2).symm⟩
    subst hw
    exact zs_aaload X hq hz hy
  | iastore =>
    obtain ⟨j, v, r, h1, h2⟩ := z2_inv hz
    obtain ⟨t, i, r', h3, h4, h5⟩ := zr1_inv h2
    obtain ⟨h6, h7⟩ := zif_inv h5
    obtain ⟨h8, h9, h10⟩ := zbd_inv h7
    cases h10
    exact zs_iastore X hq hz hy
  | bastore =>
    obtain ⟨j, v, r, h1, h2⟩ := z2_inv hz
    obtain ⟨t, i, r', h3, h4, h5⟩ := zr1_inv h2
    obtain ⟨w, hw⟩ : ∃ w, z = .inl w := by
      split at h5
      · exact ⟨_, (Option.some.inj (zbd_inv h5).2.2).symm⟩
      · exact ⟨_, (Option.some.inj (zbd_inv (zif_inv h5).2).2.2).symm⟩
    subst hw
    exact zs_bastore X hq hz hy
  | lastore =>
    obtain ⟨v, r, h1, h2⟩ := zl1_inv hz
    obtain ⟨j, r', h3, h4⟩ := z1_inv h2
    obtain ⟨t, i, r'', h5, h6, h7⟩ := zr1_inv h4
    obtain ⟨h8, h9⟩ := zif_inv h7
    obtain ⟨h10, h11, h12⟩ := zbd_inv h9
    cases h12
    exact zs_lastore X hq hz hy
  | aastore =>
    obtain ⟨u, v, r, h1, h0, h2⟩ := zr1_inv hz
    obtain ⟨j, r', h3, h4⟩ := z1_inv h2
    obtain ⟨t, i, r'', h5, h6, h7⟩ := zr1_inv h4
    obtain ⟨h8, h9⟩ := zif_inv h7
    obtain ⟨h10, h11, h12⟩ := zbd_inv h9
    cases h12
    exact zs_aastore X hq hz hy
  | arraylength =>
    obtain ⟨t, i, r, h1, h2, h3⟩ := zr1_inv hz
    obtain ⟨h4, h5⟩ := zif_inv h3
    cases h5
    exact zs_arraylength X hq hz hy
  | invokevirtual ix => exact zs_invokevirtual X hl hLv hCt hRf hRl hRc hRs hml hq (fun ca h => hM.2.2.1 pc n ix ca hq h) hz hy
  | invokestatic ix =>
    obtain ⟨ca, h1, h2⟩ := zop_inv hz
    rcases hM.2.2.2.1 pc n ix ca hq h1 with h3 | ⟨h3, h4⟩
    · exact zs_invokestatic X hl hLv hCt hRf hRl hRc hRs hml hq h1 h3 h2 hy
    · subst h4
      exact zs_copy X hRf hRl hml hq h3 h2 hy
  | new ix =>
    refine zs_new X hfl hl hRf hRl hRc hRs hml ?_ hq (hM.2.2.2.2 pc) hz hy
    obtain ⟨x, h1, -⟩ := zop_inv hz
    exact hnew pc x h1
  | ireturn => exact zs_ireturn X hl hr hq hz hy
  | areturn => exact zs_areturn X hl hr hq hz hy
  | return_ => exact zs_return X hl hr hq hz hy
  | _ => cases hz
end ZSOUND
