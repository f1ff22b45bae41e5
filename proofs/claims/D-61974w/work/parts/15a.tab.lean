abbrev b_W_index : ByteArray := prog_1_method_1_code
def y_W_index : MethodName := ⟨"RevisionWrite", "index", "(Z)V"⟩
def k_W_index (q : Nat) : Option (Instr × Nat) := cond (Nat.blt q 13) (cond (Nat.blt q 7) (cond (Nat.blt q 1) (cond (Nat.beq q 0) (some (.iload_n 0, 1)) none) (cond (Nat.blt q 4) (cond (Nat.beq q 1) (some (.ifCond .ne 11, 3)) none) (cond (Nat.beq q 4) (some (.new 1, 3)) none))) (cond (Nat.blt q 11) (cond (Nat.blt q 8) (cond (Nat.beq q 7) (some (.dup, 1)) none) (cond (Nat.beq q 8) (some (.invokespecial 3, 3)) none)) (cond (Nat.blt q 12) (cond (Nat.beq q 11) (some (.athrow, 1)) none) (cond (Nat.beq q 12) (some (.return_, 1)) none)))) none
def s_W_index (q : Nat) : Bool := false
noncomputable def C_W_index : ZC := (k_W_index, fl_W, fun _ => none, fun q => cond (Nat.beq q 4) (some 0) (none), fun _ _ => none, 0, 1)
noncomputable def f_W_index : List ZV → ZT → Option ZR := zfn C_W_index [0] []
set_option maxRecDepth 20000 in
theorem kc_W_index : zchk b_W_index k_W_index 13 = true := by decide +kernel
set_option maxRecDepth 20000 in
theorem wl_W_index : ∀ w ∈ ([.static y_W_index, .code y_W_index b_W_index 1 none, .initialized "RevisionWrite"] : List Cond), w ∈ zTT := by decide +kernel
set_option maxRecDepth 20000 in
theorem zk_W_index : ∀ pc, 13 ≤ pc → k_W_index pc = none := fun pc h => by unfold k_W_index; rw [zblt_f h]; rfl
set_option maxRecDepth 20000 in
theorem th_W_index_4 : zThr C_W_index "RevisionWrite" 4 0 := ⟨1, 3, rfl, rfl, rfl, rfl, by decide +kernel, by decide +kernel, by decide +kernel, by decide, by decide +kernel⟩
set_option maxRecDepth 20000 in
theorem t_W_index {E : ZE} (hV : zEV E) {l : Launch} (hfl : l.flags = flags0) : zMet E l y_W_index (.code y_W_index b_W_index 1 none) 0 0 f_W_index := zmet hV hfl (C := C_W_index) (by decide +kernel) ⟨zcode_of (N := 13) kc_W_index zk_W_index, ff_W, (fun pc n ix ca hq hca => by cases hca), (fun pc n ix ca hq hca => by cases hca), (fun pc x hx => by
    rcases zcond_inv (show cond (Nat.beq pc 4) (some 0) _ = some x from hx) with ⟨rfl, rfl⟩ | hx
    · exact th_W_index_4
    cases hx)⟩ zrt0 rfl rfl (by decide) (by decide) (fun _ _ => rfl)
set_option maxRecDepth 20000 in
theorem v_W_index {E : ZE} (hV : zEV E) {l : Launch} (hfl : l.flags = flags0) {own : String} {ix d : Nat} (hl : Cond.methodLink own ix y_W_index ∈ zTT) (hd : 0 < d) : zStat E l own d ix 1 2 f_W_index := ⟨y_W_index, 1, 0, 0, b_W_index, none, .code y_W_index b_W_index 1 none, Or.inl rfl, hl, (wl_W_index _ (List.mem_of_getElem? (i := 0) rfl)), (wl_W_index _ (List.mem_of_getElem? (i := 1) rfl)), (wl_W_index _ (List.mem_of_getElem? (i := 2) rfl)), by decide +kernel, zpar_of (by decide +kernel), by decide, hd, rfl, t_W_index hV hfl⟩
abbrev b_W_want : ByteArray := prog_1_method_2_code
def y_W_want : MethodName := ⟨"RevisionWrite", "want", "(Z)V"⟩
def k_W_want (q : Nat) : Option (Instr × Nat) := cond (Nat.blt q 13) (cond (Nat.blt q 7) (cond (Nat.blt q 1) (cond (Nat.beq q 0) (some (.iload_n 0, 1)) none) (cond (Nat.blt q 4) (cond (Nat.beq q 1) (some (.ifCond .ne 11, 3)) none) (cond (Nat.beq q 4) (some (.new 7, 3)) none))) (cond (Nat.blt q 11) (cond (Nat.blt q 8) (cond (Nat.beq q 7) (some (.dup, 1)) none) (cond (Nat.beq q 8) (some (.invokespecial 9, 3)) none)) (cond (Nat.blt q 12) (cond (Nat.beq q 11) (some (.athrow, 1)) none) (cond (Nat.beq q 12) (some (.return_, 1)) none)))) none
def s_W_want (q : Nat) : Bool := false
noncomputable def C_W_want : ZC := (k_W_want, fl_W, fun _ => none, fun q => cond (Nat.beq q 4) (some 1) (none), fun _ _ => none, 0, 1)
noncomputable def f_W_want : List ZV → ZT → Option ZR := zfn C_W_want [0] []
set_option maxRecDepth 20000 in
theorem kc_W_want : zchk b_W_want k_W_want 13 = true := by decide +kernel
set_option maxRecDepth 20000 in
theorem wl_W_want : ∀ w ∈ ([.static y_W_want, .code y_W_want b_W_want 1 none, .initialized "RevisionWrite"] : List Cond), w ∈ zTT := by decide +kernel
set_option maxRecDepth 20000 in
theorem zk_W_want : ∀ pc, 13 ≤ pc → k_W_want pc = none := fun pc h => by unfold k_W_want; rw [zblt_f h]; rfl
set_option maxRecDepth 20000 in
theorem th_W_want_4 : zThr C_W_want "RevisionWrite" 4 1 := ⟨7, 9, rfl, rfl, rfl, rfl, by decide +kernel, by decide +kernel, by decide +kernel, by decide, by decide +kernel⟩
set_option maxRecDepth 20000 in
theorem t_W_want {E : ZE} (hV : zEV E) {l : Launch} (hfl : l.flags = flags0) : zMet E l y_W_want (.code y_W_want b_W_want 1 none) 0 0 f_W_want := zmet hV hfl (C := C_W_want) (by decide +kernel) ⟨zcode_of (N := 13) kc_W_want zk_W_want, ff_W, (fun pc n ix ca hq hca => by cases hca), (fun pc n ix ca hq hca => by cases hca), (fun pc x hx => by
    rcases zcond_inv (show cond (Nat.beq pc 4) (some 1) _ = some x from hx) with ⟨rfl, rfl⟩ | hx
    · exact th_W_want_4
    cases hx)⟩ zrt0 rfl rfl (by decide) (by decide) (fun _ _ => rfl)
set_option maxRecDepth 20000 in
theorem v_W_want {E : ZE} (hV : zEV E) {l : Launch} (hfl : l.flags = flags0) {own : String} {ix d : Nat} (hl : Cond.methodLink own ix y_W_want ∈ zTT) (hd : 0 < d) : zStat E l own d ix 1 2 f_W_want := ⟨y_W_want, 1, 0, 0, b_W_want, none, .code y_W_want b_W_want 1 none, Or.inl rfl, hl, (wl_W_want _ (List.mem_of_getElem? (i := 0) rfl)), (wl_W_want _ (List.mem_of_getElem? (i := 1) rfl)), (wl_W_want _ (List.mem_of_getElem? (i := 2) rfl)), by decide +kernel, zpar_of (by decide +kernel), by decide, hd, rfl, t_W_want hV hfl⟩
abbrev b_W_isObject : ByteArray := prog_1_method_3_code
def y_W_isObject : MethodName := ⟨"RevisionWrite", "isObject", "(I)Z"⟩
def k_W_isObject (q : Nat) : Option (Instr × Nat) := cond (Nat.blt q 17) (cond (Nat.blt q 8) (cond (Nat.blt q 2) (cond (Nat.blt q 1) (cond (Nat.beq q 0) (some (.iload_n 0, 1)) none) (cond (Nat.beq q 1) (some (.iconst 1, 1)) none)) (cond (Nat.blt q 5) (cond (Nat.beq q 2) (some (.if_icmp .lt 13, 3)) none) (cond (Nat.blt q 6) (cond (Nat.beq q 5) (some (.iload_n 0, 1)) none) (cond (Nat.beq q 6) (some (.bipush 40, 2)) none)))) (cond (Nat.blt q 12) (cond (Nat.blt q 11) (cond (Nat.beq q 8) (some (.if_icmp .gt 7, 3)) none) (cond (Nat.beq q 11) (some (.iconst 1, 1)) none)) (cond (Nat.blt q 15) (cond (Nat.beq q 12) (some (.goto 4, 3)) none) (cond (Nat.blt q 16) (cond (Nat.beq q 15) (some (.iconst 0, 1)) none) (cond (Nat.beq q 16) (some (.ireturn, 1)) none))))) none
def s_W_isObject (q : Nat) : Bool := Nat.beq q 15
noncomputable def C_W_isObject : ZC := (k_W_isObject, fl_W, fun _ => none, fun _ => none, fun _ _ => none, 2, 1)
noncomputable def f_W_isObject : List ZV → ZT → Option ZR := zfn C_W_isObject [0] []
set_option maxRecDepth 20000 in
theorem kc_W_isObject : zchk b_W_isObject k_W_isObject 17 = true := by decide +kernel
set_option maxRecDepth 20000 in
theorem wl_W_isObject : ∀ w ∈ ([.static y_W_isObject, .code y_W_isObject b_W_isObject 1 (some .boolean), .initialized "RevisionWrite"] : List Cond), w ∈ zTT := by decide +kernel
set_option maxRecDepth 20000 in
theorem zk_W_isObject : ∀ pc, 17 ≤ pc → k_W_isObject pc = none := fun pc h => by unfold k_W_isObject; rw [zblt_f h]; rfl
set_option maxRecDepth 20000 in
theorem t_W_isObject {E : ZE} (hV : zEV E) {l : Launch} (hfl : l.flags = flags0) : zMet E l y_W_isObject (.code y_W_isObject b_W_isObject 1 (some .boolean)) 0 2 f_W_isObject := zmet hV hfl (C := C_W_isObject) (by decide +kernel) ⟨zcode_of (N := 17) kc_W_isObject zk_W_isObject, ff_W, (fun pc n ix ca hq hca => by cases hca), (fun pc n ix ca hq hca => by cases hca), (fun pc x hx => by cases hx)⟩ zrt2 rfl rfl (by decide) (by decide) (fun _ _ => rfl)
set_option maxRecDepth 20000 in
theorem v_W_isObject {E : ZE} (hV : zEV E) {l : Launch} (hfl : l.flags = flags0) {own : String} {ix d : Nat} (hl : Cond.methodLink own ix y_W_isObject ∈ zTT) (hd : 0 < d) : zStat E l own d ix 1 0 f_W_isObject := ⟨y_W_isObject, 1, 0, 2, b_W_isObject, (some .boolean), .code y_W_isObject b_W_isObject 1 (some .boolean), Or.inl rfl, hl, (wl_W_isObject _ (List.mem_of_getElem? (i := 0) rfl)), (wl_W_isObject _ (List.mem_of_getElem? (i := 1) rfl)), (wl_W_isObject _ (List.mem_of_getElem? (i := 2) rfl)), by decide +kernel, zpar_of (by decide +kernel), by decide, hd, rfl, t_W_isObject hV hfl⟩
abbrev b_W_thing : ByteArray := prog_1_method_5_code
def y_W_thing : MethodName := ⟨"RevisionWrite", "thing", "(I)LRevisionWrite$Thing;"⟩
def k_W_thing (q : Nat) : Option (Instr × Nat) := cond (Nat.blt q 14) (cond (Nat.blt q 8) (cond (Nat.blt q 4) (cond (Nat.blt q 1) (cond (Nat.beq q 0) (some (.iload_n 1, 1)) none) (cond (Nat.beq q 1) (some (.invokestatic 59, 3)) none)) (cond (Nat.blt q 7) (cond (Nat.beq q 4) (some (.invokestatic 63, 3)) none) (cond (Nat.beq q 7) (some (.aload_n 0, 1)) none))) (cond (Nat.blt q 12) (cond (Nat.blt q 11) (cond (Nat.beq q 8) (some (.getfield 17, 3)) none) (cond (Nat.beq q 11) (some (.iload_n 1, 1)) none)) (cond (Nat.blt q 13) (cond (Nat.beq q 12) (some (.aaload, 1)) none) (cond (Nat.beq q 13) (some (.areturn, 1)) none)))) none
def s_W_thing (q : Nat) : Bool := false
noncomputable def C_W_thing : ZC := (k_W_thing, fl_W, fun q => cond (Nat.beq q 59) (some (1, 0, f_W_isObject)) (cond (Nat.beq q 63) (some (1, 2, f_W_index)) (none)), fun _ => none, fun _ _ => none, 13, 2)
noncomputable def f_W_thing : List ZV → ZT → Option ZR := zfn C_W_thing [4, 0] []
set_option maxRecDepth 20000 in
theorem kc_W_thing : zchk b_W_thing k_W_thing 14 = true := by decide +kernel
set_option maxRecDepth 20000 in
theorem kk_W_thing : zck k_W_thing 14 [] [59, 63] = true := by decide +kernel
set_option maxRecDepth 20000 in
theorem wl_W_thing : ∀ w ∈ ([.instanceMethod y_W_thing, .selects "RevisionWrite" y_W_thing y_W_thing, .code y_W_thing b_W_thing 2 (some (.object "RevisionWrite$Thing")), .initialized "RevisionWrite", .methodLink "RevisionWrite" 59 y_W_isObject, .methodLink "RevisionWrite" 63 y_W_index] : List Cond), w ∈ zTT := by decide +kernel
set_option maxRecDepth 20000 in
theorem zk_W_thing : ∀ pc, 14 ≤ pc → k_W_thing pc = none := fun pc h => by unfold k_W_thing; rw [zblt_f h]; rfl
set_option maxRecDepth 20000 in
theorem t_W_thing {E : ZE} (hV : zEV E) {l : Launch} (hfl : l.flags = flags0) : zMet E l y_W_thing (.code y_W_thing b_W_thing 2 (some (.object "RevisionWrite$Thing"))) 1 13 f_W_thing := zmet hV hfl (C := C_W_thing) (by decide +kernel) ⟨zcode_of (N := 14) kc_W_thing zk_W_thing, ff_W, (fun pc n ix ca hq _ => absurd (zck_v kk_W_thing (zk_W_thing) hq) (by simp)), (fun pc n ix ca hq hca => by
    have h9 := zck_s kk_W_thing (zk_W_thing) hq
    simp only [List.mem_cons, List.not_mem_nil, or_false] at h9
    rcases h9 with rfl | rfl
    · cases hca
      exact Or.inl (v_W_isObject hV hfl (wl_W_thing _ (List.mem_of_getElem? (i := 4) rfl)) (by decide))
    · cases hca
      exact Or.inl (v_W_index hV hfl (wl_W_thing _ (List.mem_of_getElem? (i := 5) rfl)) (by decide))), (fun pc x hx => by cases hx)⟩ (zrtR (by decide) _) rfl rfl (by decide) (by decide) (fun _ _ => rfl)
set_option maxRecDepth 20000 in
theorem v_W_thing {E : ZE} (hV : zEV E) {l : Launch} (hfl : l.flags = flags0) {own : String} {ix d : Nat} (hl : Cond.methodLink own ix y_W_thing ∈ zTT) (hd : 1 < d) : zVirt E l own d ix 2 13 f_W_thing := ⟨y_W_thing, 4, 2, 1, 13, b_W_thing, (some (.object "RevisionWrite$Thing")), rfl, hl, (wl_W_thing _ (List.mem_of_getElem? (i := 0) rfl)), (wl_W_thing _ (List.mem_of_getElem? (i := 1) rfl)), (wl_W_thing _ (List.mem_of_getElem? (i := 2) rfl)), (wl_W_thing _ (List.mem_of_getElem? (i := 3) rfl)), by decide +kernel, zpar_of1 (by decide +kernel), by decide, hd, rfl, fun as σ r h => zfn_recv h, t_W_thing hV hfl⟩
abbrev b_W_thereOf : ByteArray := prog_1_method_6_code
def y_W_thereOf : MethodName := ⟨"RevisionWrite", "thereOf", "(I)LRevisionWrite$Thing;"⟩
def k_W_thereOf (q : Nat) : Option (Instr × Nat) := cond (Nat.blt q 15) (cond (Nat.blt q 6) (cond (Nat.blt q 2) (cond (Nat.blt q 1) (cond (Nat.beq q 0) (some (.aload_n 0, 1)) none) (cond (Nat.beq q 1) (some (.iload_n 1, 1)) none)) (cond (Nat.blt q 5) (cond (Nat.beq q 2) (some (.invokevirtual 67, 3)) none) (cond (Nat.beq q 5) (some (.astore_n 2, 1)) none))) (cond (Nat.blt q 10) (cond (Nat.blt q 7) (cond (Nat.beq q 6) (some (.aload_n 2, 1)) none) (cond (Nat.beq q 7) (some (.getfield 71, 3)) none)) (cond (Nat.blt q 13) (cond (Nat.beq q 10) (some (.invokestatic 63, 3)) none) (cond (Nat.blt q 14) (cond (Nat.beq q 13) (some (.aload_n 2, 1)) none) (cond (Nat.beq q 14) (some (.areturn, 1)) none))))) none
def s_W_thereOf (q : Nat) : Bool := false
noncomputable def C_W_thereOf : ZC := (k_W_thereOf, fl_W, fun q => cond (Nat.beq q 63) (some (1, 2, f_W_index)) (cond (Nat.beq q 67) (some (2, 13, f_W_thing)) (none)), fun _ => none, fun _ _ => none, 13, 3)
noncomputable def f_W_thereOf : List ZV → ZT → Option ZR := zfn C_W_thereOf [4, 0] [(2, 0)]
set_option maxRecDepth 20000 in
theorem kc_W_thereOf : zchk b_W_thereOf k_W_thereOf 15 = true := by decide +kernel
set_option maxRecDepth 20000 in
theorem kk_W_thereOf : zck k_W_thereOf 15 [67] [63] = true := by decide +kernel
set_option maxRecDepth 20000 in
theorem wl_W_thereOf : ∀ w ∈ ([.instanceMethod y_W_thereOf, .selects "RevisionWrite" y_W_thereOf y_W_thereOf, .code y_W_thereOf b_W_thereOf 3 (some (.object "RevisionWrite$Thing")), .initialized "RevisionWrite", .methodLink "RevisionWrite" 67 y_W_thing, .methodLink "RevisionWrite" 63 y_W_index] : List Cond), w ∈ zTT := by decide +kernel
set_option maxRecDepth 20000 in
theorem zk_W_thereOf : ∀ pc, 15 ≤ pc → k_W_thereOf pc = none := fun pc h => by unfold k_W_thereOf; rw [zblt_f h]; rfl
set_option maxRecDepth 20000 in
theorem t_W_thereOf {E : ZE} (hV : zEV E) {l : Launch} (hfl : l.flags = flags0) : zMet E l y_W_thereOf (.code y_W_thereOf b_W_thereOf 3 (some (.object "RevisionWrite$Thing"))) 2 13 f_W_thereOf := zmet hV hfl (C := C_W_thereOf) (by decide +kernel) ⟨zcode_of (N := 15) kc_W_thereOf zk_W_thereOf, ff_W, (fun pc n ix ca hq hca => by
    have h9 := zck_v kk_W_thereOf (zk_W_thereOf) hq
    simp only [List.mem_cons, List.not_mem_nil, or_false] at h9
    rcases h9 with rfl
    · cases hca
      exact v_W_thing hV hfl (wl_W_thereOf _ (List.mem_of_getElem? (i := 4) rfl)) (by decide)), (fun pc n ix ca hq hca => by
    have h9 := zck_s kk_W_thereOf (zk_W_thereOf) hq
    simp only [List.mem_cons, List.not_mem_nil, or_false] at h9
    rcases h9 with rfl
    · cases hca
      exact Or.inl (v_W_index hV hfl (wl_W_thereOf _ (List.mem_of_getElem? (i := 5) rfl)) (by decide))), (fun pc x hx => by cases hx)⟩ (zrtR (by decide) _) rfl rfl (by decide) (by decide) (fun _ _ => rfl)
set_option maxRecDepth 20000 in
theorem v_W_thereOf {E : ZE} (hV : zEV E) {l : Launch} (hfl : l.flags = flags0) {own : String} {ix d : Nat} (hl : Cond.methodLink own ix y_W_thereOf ∈ zTT) (hd : 2 < d) : zVirt E l own d ix 2 13 f_W_thereOf := ⟨y_W_thereOf, 4, 3, 2, 13, b_W_thereOf, (some (.object "RevisionWrite$Thing")), rfl, hl, (wl_W_thereOf _ (List.mem_of_getElem? (i := 0) rfl)), (wl_W_thereOf _ (List.mem_of_getElem? (i := 1) rfl)), (wl_W_thereOf _ (List.mem_of_getElem? (i := 2) rfl)), (wl_W_thereOf _ (List.mem_of_getElem? (i := 3) rfl)), by decide +kernel, zpar_of1 (by decide +kernel), by decide, hd, rfl, fun as σ r h => zfn_recv h, t_W_thereOf hV hfl⟩
abbrev b_T_become : ByteArray := prog_5_method_3_code
def y_T_become : MethodName := ⟨"RevisionWrite$Thing", "become", "(I)V"⟩
def k_T_become (q : Nat) : Option (Instr × Nat) := cond (Nat.blt q 41) (cond (Nat.blt q 18) (cond (Nat.blt q 8) (cond (Nat.blt q 5) (cond (Nat.blt q 1) (cond (Nat.beq q 0) (some (.aload_n 0, 1)) none) (cond (Nat.blt q 2) (cond (Nat.beq q 1) (some (.iload_n 1, 1)) none) (cond (Nat.beq q 2) (some (.putfield 25, 3)) none))) (cond (Nat.blt q 6) (cond (Nat.beq q 5) (some (.iconst 0, 1)) none) (cond (Nat.blt q 7) (cond (Nat.beq q 6) (some (.istore_n 2, 1)) none) (cond (Nat.beq q 7) (some (.iload_n 2, 1)) none)))) (cond (Nat.blt q 13) (cond (Nat.blt q 9) (cond (Nat.beq q 8) (some (.iload_n 1, 1)) none) (cond (Nat.blt q 12) (cond (Nat.beq q 9) (some (.if_icmp .ge 16, 3)) none) (cond (Nat.beq q 12) (some (.aload_n 0, 1)) none))) (cond (Nat.blt q 16) (cond (Nat.beq q 13) (some (.getfield 9, 3)) none) (cond (Nat.blt q 17) (cond (Nat.beq q 16) (some (.iload_n 2, 1)) none) (cond (Nat.beq q 17) (some (.iconst 0, 1)) none))))) (cond (Nat.blt q 30) (cond (Nat.blt q 25) (cond (Nat.blt q 19) (cond (Nat.beq q 18) (some (.bastore, 1)) none) (cond (Nat.blt q 22) (cond (Nat.beq q 19) (some (.iinc 2 1, 3)) none) (cond (Nat.beq q 22) (some (.goto (-15), 3)) none))) (cond (Nat.blt q 26) (cond (Nat.beq q 25) (some (.aload_n 0, 1)) none) (cond (Nat.blt q 27) (cond (Nat.beq q 26) (some (.iconst 1, 1)) none) (cond (Nat.beq q 27) (some (.putfield 15, 3)) none)))) (cond (Nat.blt q 35) (cond (Nat.blt q 31) (cond (Nat.beq q 30) (some (.aload_n 0, 1)) none) (cond (Nat.blt q 32) (cond (Nat.beq q 31) (some (.iconst 0, 1)) none) (cond (Nat.beq q 32) (some (.putfield 29, 3)) none))) (cond (Nat.blt q 37) (cond (Nat.blt q 36) (cond (Nat.beq q 35) (some (.aload_n 0, 1)) none) (cond (Nat.beq q 36) (some (.iconst 1, 1)) none)) (cond (Nat.blt q 40) (cond (Nat.beq q 37) (some (.putfield 19, 3)) none) (cond (Nat.beq q 40) (some (.return_, 1)) none)))))) none
def s_T_become (q : Nat) : Bool := Nat.beq q 7
noncomputable def C_T_become : ZC := (k_T_become, fl_T, fun _ => none, fun _ => none, fun _ _ => none, 0, 3)
noncomputable def f_T_become : List ZV → ZT → Option ZR := zfn C_T_become [13, 0] [(2, 0)]
set_option maxRecDepth 20000 in
theorem kc_T_become : zchk b_T_become k_T_become 41 = true := by decide +kernel
set_option maxRecDepth 20000 in
theorem wl_T_become : ∀ w ∈ ([.instanceMethod y_T_become, .selects "RevisionWrite$Thing" y_T_become y_T_become, .code y_T_become b_T_become 3 none, .initialized "RevisionWrite$Thing"] : List Cond), w ∈ zTT := by decide +kernel
set_option maxRecDepth 20000 in
theorem zk_T_become : ∀ pc, 41 ≤ pc → k_T_become pc = none := fun pc h => by unfold k_T_become; rw [zblt_f h]; rfl
set_option maxRecDepth 20000 in
theorem t_T_become {E : ZE} (hV : zEV E) {l : Launch} (hfl : l.flags = flags0) : zMet E l y_T_become (.code y_T_become b_T_become 3 none) 0 0 f_T_become := zmet hV hfl (C := C_T_become) (by decide +kernel) ⟨zcode_of (N := 41) kc_T_become zk_T_become, ff_T, (fun pc n ix ca hq hca => by cases hca), (fun pc n ix ca hq hca => by cases hca), (fun pc x hx => by cases hx)⟩ zrt0 rfl rfl (by decide) (by decide) (fun _ _ => rfl)
set_option maxRecDepth 20000 in
theorem v_T_become {E : ZE} (hV : zEV E) {l : Launch} (hfl : l.flags = flags0) {own : String} {ix d : Nat} (hl : Cond.methodLink own ix y_T_become ∈ zTT) (hd : 0 < d) : zVirt E l own d ix 2 2 f_T_become := ⟨y_T_become, 13, 3, 0, 0, b_T_become, none, rfl, hl, (wl_T_become _ (List.mem_of_getElem? (i := 0) rfl)), (wl_T_become _ (List.mem_of_getElem? (i := 1) rfl)), (wl_T_become _ (List.mem_of_getElem? (i := 2) rfl)), (wl_T_become _ (List.mem_of_getElem? (i := 3) rfl)), by decide +kernel, zpar_of1 (by decide +kernel), by decide, hd, rfl, fun as σ r h => zfn_recv h, t_T_become hV hfl⟩
abbrev b_W_object : ByteArray := prog_1_method_7_code
def y_W_object : MethodName := ⟨"RevisionWrite", "object", "(II)V"⟩
def k_W_object (q : Nat) : Option (Instr × Nat) := cond (Nat.blt q 30) (cond (Nat.blt q 13) (cond (Nat.blt q 6) (cond (Nat.blt q 2) (cond (Nat.blt q 1) (cond (Nat.beq q 0) (some (.aload_n 0, 1)) none) (cond (Nat.beq q 1) (some (.iload_n 1, 1)) none)) (cond (Nat.blt q 5) (cond (Nat.beq q 2) (some (.invokevirtual 67, 3)) none) (cond (Nat.beq q 5) (some (.astore_n 3, 1)) none))) (cond (Nat.blt q 10) (cond (Nat.blt q 7) (cond (Nat.beq q 6) (some (.iload_n 2, 1)) none) (cond (Nat.beq q 7) (some (.ifCond .lt 13, 3)) none)) (cond (Nat.blt q 11) (cond (Nat.beq q 10) (some (.iload_n 2, 1)) none) (cond (Nat.beq q 11) (some (.bipush 120, 2)) none)))) (cond (Nat.blt q 21) (cond (Nat.blt q 17) (cond (Nat.blt q 16) (cond (Nat.beq q 13) (some (.if_icmp .gt 7, 3)) none) (cond (Nat.beq q 16) (some (.iconst 1, 1)) none)) (cond (Nat.blt q 20) (cond (Nat.beq q 17) (some (.goto 4, 3)) none) (cond (Nat.beq q 20) (some (.iconst 0, 1)) none))) (cond (Nat.blt q 25) (cond (Nat.blt q 24) (cond (Nat.beq q 21) (some (.invokestatic 75, 3)) none) (cond (Nat.beq q 24) (some (.aload_n 3, 1)) none)) (cond (Nat.blt q 26) (cond (Nat.beq q 25) (some (.iload_n 2, 1)) none) (cond (Nat.blt q 29) (cond (Nat.beq q 26) (some (.invokevirtual 78, 3)) none) (cond (Nat.beq q 29) (some (.return_, 1)) none)))))) none
def s_W_object (q : Nat) : Bool := Nat.beq q 20 || Nat.beq q 21
noncomputable def C_W_object : ZC := (k_W_object, fl_W, fun q => cond (Nat.beq q 67) (some (2, 13, f_W_thing)) (cond (Nat.beq q 75) (some (1, 2, f_W_want)) (cond (Nat.beq q 78) (some (2, 2, f_T_become)) (none))), fun _ => none, fun _ _ => none, 0, 4)
noncomputable def f_W_object : List ZV → ZT → Option ZR := zfn C_W_object [4, 0, 0] [(2, 0)]
set_option maxRecDepth 20000 in
theorem kc_W_object : zchk b_W_object k_W_object 30 = true := by decide +kernel
set_option maxRecDepth 20000 in
theorem kk_W_object : zck k_W_object 30 [67, 78] [75] = true := by decide +kernel
set_option maxRecDepth 20000 in
theorem wl_W_object : ∀ w ∈ ([.instanceMethod y_W_object, .selects "RevisionWrite" y_W_object y_W_object, .code y_W_object b_W_object 4 none, .initialized "RevisionWrite", .methodLink "RevisionWrite" 67 y_W_thing, .methodLink "RevisionWrite" 78 y_T_become, .methodLink "RevisionWrite" 75 y_W_want] : List Cond), w ∈ zTT := by decide +kernel
set_option maxRecDepth 20000 in
theorem zk_W_object : ∀ pc, 30 ≤ pc → k_W_object pc = none := fun pc h => by unfold k_W_object; rw [zblt_f h]; rfl
set_option maxRecDepth 20000 in
theorem t_W_object {E : ZE} (hV : zEV E) {l : Launch} (hfl : l.flags = flags0) : zMet E l y_W_object (.code y_W_object b_W_object 4 none) 2 0 f_W_object := zmet hV hfl (C := C_W_object) (by decide +kernel) ⟨zcode_of (N := 30) kc_W_object zk_W_object, ff_W, (fun pc n ix ca hq hca => by
    have h9 := zck_v kk_W_object (zk_W_object) hq
    simp only [List.mem_cons, List.not_mem_nil, or_false] at h9
    rcases h9 with rfl | rfl
    · cases hca
      exact v_W_thing hV hfl (wl_W_object _ (List.mem_of_getElem? (i := 4) rfl)) (by decide)
    · cases hca
      exact v_T_become hV hfl (wl_W_object _ (List.mem_of_getElem? (i := 5) rfl)) (by decide)), (fun pc n ix ca hq hca => by
    have h9 := zck_s kk_W_object (zk_W_object) hq
    simp only [List.mem_cons, List.not_mem_nil, or_false] at h9
    rcases h9 with rfl
    · cases hca
      exact Or.inl (v_W_want hV hfl (wl_W_object _ (List.mem_of_getElem? (i := 6) rfl)) (by decide))), (fun pc x hx => by cases hx)⟩ zrt0 rfl rfl (by decide) (by decide) (fun _ _ => rfl)
set_option maxRecDepth 20000 in
theorem v_W_object {E : ZE} (hV : zEV E) {l : Launch} (hfl : l.flags = flags0) {own : String} {ix d : Nat} (hl : Cond.methodLink own ix y_W_object ∈ zTT) (hd : 2 < d) : zVirt E l own d ix 3 2 f_W_object := ⟨y_W_object, 4, 4, 2, 0, b_W_object, none, rfl, hl, (wl_W_object _ (List.mem_of_getElem? (i := 0) rfl)), (wl_W_object _ (List.mem_of_getElem? (i := 1) rfl)), (wl_W_object _ (List.mem_of_getElem? (i := 2) rfl)), (wl_W_object _ (List.mem_of_getElem? (i := 3) rfl)), by decide +kernel, zpar_of1 (by decide +kernel), by decide, hd, rfl, fun as σ r h => zfn_recv h, t_W_object hV hfl⟩
abbrev b_W_octet : ByteArray := prog_1_method_8_code
def y_W_octet : MethodName := ⟨"RevisionWrite", "octet", "(IIB)B"⟩
def k_W_octet (q : Nat) : Option (Instr × Nat) := cond (Nat.blt q 69) (cond (Nat.blt q 35) (cond (Nat.blt q 17) (cond (Nat.blt q 7) (cond (Nat.blt q 2) (cond (Nat.blt q 1) (cond (Nat.beq q 0) (some (.aload_n 0, 1)) none) (cond (Nat.beq q 1) (some (.iload_n 1, 1)) none)) (cond (Nat.blt q 5) (cond (Nat.beq q 2) (some (.invokevirtual 82, 3)) none) (cond (Nat.beq q 5) (some (.astore 4, 2)) none))) (cond (Nat.blt q 11) (cond (Nat.blt q 8) (cond (Nat.beq q 7) (some (.iload_n 2, 1)) none) (cond (Nat.beq q 8) (some (.ifCond .lt 16, 3)) none)) (cond (Nat.blt q 12) (cond (Nat.beq q 11) (some (.iload_n 2, 1)) none) (cond (Nat.blt q 14) (cond (Nat.beq q 12) (some (.aload 4, 2)) none) (cond (Nat.beq q 14) (some (.getfield 85, 3)) none))))) (cond (Nat.blt q 25) (cond (Nat.blt q 21) (cond (Nat.blt q 20) (cond (Nat.beq q 17) (some (.if_icmp .ge 7, 3)) none) (cond (Nat.beq q 20) (some (.iconst 1, 1)) none)) (cond (Nat.blt q 24) (cond (Nat.beq q 21) (some (.goto 4, 3)) none) (cond (Nat.beq q 24) (some (.iconst 0, 1)) none))) (cond (Nat.blt q 30) (cond (Nat.blt q 28) (cond (Nat.beq q 25) (some (.invokestatic 63, 3)) none) (cond (Nat.beq q 28) (some (.aload 4, 2)) none)) (cond (Nat.blt q 33) (cond (Nat.beq q 30) (some (.getfield 89, 3)) none) (cond (Nat.blt q 34) (cond (Nat.beq q 33) (some (.iload_n 2, 1)) none) (cond (Nat.beq q 34) (some (.baload, 1)) none)))))) (cond (Nat.blt q 53) (cond (Nat.blt q 43) (cond (Nat.blt q 39) (cond (Nat.blt q 37) (cond (Nat.beq q 35) (some (.istore 5, 2)) none) (cond (Nat.beq q 37) (some (.aload 4, 2)) none)) (cond (Nat.blt q 40) (cond (Nat.beq q 39) (some (.dup, 1)) none) (cond (Nat.beq q 40) (some (.getfield 93, 3)) none))) (cond (Nat.blt q 46) (cond (Nat.blt q 45) (cond (Nat.beq q 43) (some (.iload 5, 2)) none) (cond (Nat.beq q 45) (some (.iload_n 3, 1)) none)) (cond (Nat.blt q 49) (cond (Nat.beq q 46) (some (.if_icmp .eq 7, 3)) none) (cond (Nat.blt q 50) (cond (Nat.beq q 49) (some (.iconst 1, 1)) none) (cond (Nat.beq q 50) (some (.goto 4, 3)) none))))) (cond (Nat.blt q 63) (cond (Nat.blt q 55) (cond (Nat.blt q 54) (cond (Nat.beq q 53) (some (.iconst 0, 1)) none) (cond (Nat.beq q 54) (some (.ior, 1)) none)) (cond (Nat.blt q 58) (cond (Nat.beq q 55) (some (.putfield 93, 3)) none) (cond (Nat.blt q 60) (cond (Nat.beq q 58) (some (.aload 4, 2)) none) (cond (Nat.beq q 60) (some (.getfield 89, 3)) none)))) (cond (Nat.blt q 65) (cond (Nat.blt q 64) (cond (Nat.beq q 63) (some (.iload_n 2, 1)) none) (cond (Nat.beq q 64) (some (.iload_n 3, 1)) none)) (cond (Nat.blt q 66) (cond (Nat.beq q 65) (some (.bastore, 1)) none) (cond (Nat.blt q 68) (cond (Nat.beq q 66) (some (.iload 5, 2)) none) (cond (Nat.beq q 68) (some (.ireturn, 1)) none))))))) none
def s_W_octet (q : Nat) : Bool := Nat.beq q 24 || Nat.beq q 25 || Nat.beq q 54
noncomputable def C_W_octet : ZC := (k_W_octet, fl_W, fun q => cond (Nat.beq q 63) (some (1, 2, f_W_index)) (cond (Nat.beq q 82) (some (2, 13, f_W_thereOf)) (none)), fun _ => none, fun _ _ => none, 3, 6)
noncomputable def f_W_octet : List ZV → ZT → Option ZR := zfn C_W_octet [4, 0, 0, 0] [(2, 0), (2, 0)]
set_option maxRecDepth 20000 in
theorem kc_W_octet : zchk b_W_octet k_W_octet 69 = true := by decide +kernel
set_option maxRecDepth 20000 in
theorem kk_W_octet : zck k_W_octet 69 [82] [63] = true := by decide +kernel
set_option maxRecDepth 20000 in
theorem wl_W_octet : ∀ w ∈ ([.instanceMethod y_W_octet, .selects "RevisionWrite" y_W_octet y_W_octet, .code y_W_octet b_W_octet 6 (some .byte), .initialized "RevisionWrite", .methodLink "RevisionWrite" 82 y_W_thereOf, .methodLink "RevisionWrite" 63 y_W_index] : List Cond), w ∈ zTT := by decide +kernel
set_option maxRecDepth 20000 in
theorem zk_W_octet : ∀ pc, 69 ≤ pc → k_W_octet pc = none := fun pc h => by unfold k_W_octet; rw [zblt_f h]; rfl
set_option maxRecDepth 20000 in
theorem t_W_octet {E : ZE} (hV : zEV E) {l : Launch} (hfl : l.flags = flags0) : zMet E l y_W_octet (.code y_W_octet b_W_octet 6 (some .byte)) 3 3 f_W_octet := zmet hV hfl (C := C_W_octet) (by decide +kernel) ⟨zcode_of (N := 69) kc_W_octet zk_W_octet, ff_W, (fun pc n ix ca hq hca => by
    have h9 := zck_v kk_W_octet (zk_W_octet) hq
    simp only [List.mem_cons, List.not_mem_nil, or_false] at h9
    rcases h9 with rfl
    · cases hca
      exact v_W_thereOf hV hfl (wl_W_octet _ (List.mem_of_getElem? (i := 4) rfl)) (by decide)), (fun pc n ix ca hq hca => by
    have h9 := zck_s kk_W_octet (zk_W_octet) hq
    simp only [List.mem_cons, List.not_mem_nil, or_false] at h9
    rcases h9 with rfl
    · cases hca
      exact Or.inl (v_W_index hV hfl (wl_W_octet _ (List.mem_of_getElem? (i := 5) rfl)) (by decide))), (fun pc x hx => by cases hx)⟩ zrt3 rfl rfl (by decide) (by decide) (fun _ _ => rfl)
set_option maxRecDepth 20000 in
theorem v_W_octet {E : ZE} (hV : zEV E) {l : Launch} (hfl : l.flags = flags0) {own : String} {ix d : Nat} (hl : Cond.methodLink own ix y_W_octet ∈ zTT) (hd : 3 < d) : zVirt E l own d ix 4 0 f_W_octet := ⟨y_W_octet, 4, 6, 3, 3, b_W_octet, (some .byte), rfl, hl, (wl_W_octet _ (List.mem_of_getElem? (i := 0) rfl)), (wl_W_octet _ (List.mem_of_getElem? (i := 1) rfl)), (wl_W_octet _ (List.mem_of_getElem? (i := 2) rfl)), (wl_W_octet _ (List.mem_of_getElem? (i := 3) rfl)), by decide +kernel, zpar_of1 (by decide +kernel), by decide, hd, rfl, fun as σ r h => zfn_recv h, t_W_octet hV hfl⟩
abbrev b_W_drop : ByteArray := prog_1_method_9_code
def y_W_drop : MethodName := ⟨"RevisionWrite", "drop", "(I)Z"⟩
def k_W_drop (q : Nat) : Option (Instr × Nat) := cond (Nat.blt q 18) (cond (Nat.blt q 10) (cond (Nat.blt q 5) (cond (Nat.blt q 1) (cond (Nat.beq q 0) (some (.aload_n 0, 1)) none) (cond (Nat.blt q 2) (cond (Nat.beq q 1) (some (.iload_n 1, 1)) none) (cond (Nat.beq q 2) (some (.invokevirtual 67, 3)) none))) (cond (Nat.blt q 6) (cond (Nat.beq q 5) (some (.astore_n 2, 1)) none) (cond (Nat.blt q 7) (cond (Nat.beq q 6) (some (.aload_n 2, 1)) none) (cond (Nat.beq q 7) (some (.getfield 71, 3)) none)))) (cond (Nat.blt q 13) (cond (Nat.blt q 11) (cond (Nat.beq q 10) (some (.istore_n 3, 1)) none) (cond (Nat.blt q 12) (cond (Nat.beq q 11) (some (.aload_n 2, 1)) none) (cond (Nat.beq q 12) (some (.iconst 0, 1)) none))) (cond (Nat.blt q 16) (cond (Nat.beq q 13) (some (.putfield 71, 3)) none) (cond (Nat.blt q 17) (cond (Nat.beq q 16) (some (.iload_n 3, 1)) none) (cond (Nat.beq q 17) (some (.ireturn, 1)) none))))) none
def s_W_drop (q : Nat) : Bool := false
noncomputable def C_W_drop : ZC := (k_W_drop, fl_W, fun q => cond (Nat.beq q 67) (some (2, 13, f_W_thing)) (none), fun _ => none, fun _ _ => none, 2, 4)
noncomputable def f_W_drop : List ZV → ZT → Option ZR := zfn C_W_drop [4, 0] [(2, 0), (2, 0)]
set_option maxRecDepth 20000 in
theorem kc_W_drop : zchk b_W_drop k_W_drop 18 = true := by decide +kernel
set_option maxRecDepth 20000 in
theorem kk_W_drop : zck k_W_drop 18 [67] [] = true := by decide +kernel
set_option maxRecDepth 20000 in
theorem wl_W_drop : ∀ w ∈ ([.instanceMethod y_W_drop, .selects "RevisionWrite" y_W_drop y_W_drop, .code y_W_drop b_W_drop 4 (some .boolean), .initialized "RevisionWrite", .methodLink "RevisionWrite" 67 y_W_thing] : List Cond), w ∈ zTT := by decide +kernel
set_option maxRecDepth 20000 in
theorem zk_W_drop : ∀ pc, 18 ≤ pc → k_W_drop pc = none := fun pc h => by unfold k_W_drop; rw [zblt_f h]; rfl
set_option maxRecDepth 20000 in
theorem t_W_drop {E : ZE} (hV : zEV E) {l : Launch} (hfl : l.flags = flags0) : zMet E l y_W_drop (.code y_W_drop b_W_drop 4 (some .boolean)) 2 2 f_W_drop := zmet hV hfl (C := C_W_drop) (by decide +kernel) ⟨zcode_of (N := 18) kc_W_drop zk_W_drop, ff_W, (fun pc n ix ca hq hca => by
    have h9 := zck_v kk_W_drop (zk_W_drop) hq
    simp only [List.mem_cons, List.not_mem_nil, or_false] at h9
    rcases h9 with rfl
    · cases hca
      exact v_W_thing hV hfl (wl_W_drop _ (List.mem_of_getElem? (i := 4) rfl)) (by decide)), (fun pc n ix ca hq _ => absurd (zck_s kk_W_drop (zk_W_drop) hq) (by simp)), (fun pc x hx => by cases hx)⟩ zrt2 rfl rfl (by decide) (by decide) (fun _ _ => rfl)
set_option maxRecDepth 20000 in
theorem v_W_drop {E : ZE} (hV : zEV E) {l : Launch} (hfl : l.flags = flags0) {own : String} {ix d : Nat} (hl : Cond.methodLink own ix y_W_drop ∈ zTT) (hd : 2 < d) : zVirt E l own d ix 2 0 f_W_drop := ⟨y_W_drop, 4, 4, 2, 2, b_W_drop, (some .boolean), rfl, hl, (wl_W_drop _ (List.mem_of_getElem? (i := 0) rfl)), (wl_W_drop _ (List.mem_of_getElem? (i := 1) rfl)), (wl_W_drop _ (List.mem_of_getElem? (i := 2) rfl)), (wl_W_drop _ (List.mem_of_getElem? (i := 3) rfl)), by decide +kernel, zpar_of1 (by decide +kernel), by decide, hd, rfl, fun as σ r h => zfn_recv h, t_W_drop hV hfl⟩
abbrev b_W_first : ByteArray := prog_1_method_10_code
def y_W_first : MethodName := ⟨"RevisionWrite", "first", "(IZ)Z"⟩
def k_W_first (q : Nat) : Option (Instr × Nat) := cond (Nat.blt q 29) (cond (Nat.blt q 14) (cond (Nat.blt q 6) (cond (Nat.blt q 2) (cond (Nat.blt q 1) (cond (Nat.beq q 0) (some (.aload_n 0, 1)) none) (cond (Nat.beq q 1) (some (.iload_n 1, 1)) none)) (cond (Nat.blt q 5) (cond (Nat.beq q 2) (some (.invokevirtual 82, 3)) none) (cond (Nat.beq q 5) (some (.astore_n 3, 1)) none))) (cond (Nat.blt q 10) (cond (Nat.blt q 7) (cond (Nat.beq q 6) (some (.aload_n 3, 1)) none) (cond (Nat.beq q 7) (some (.getfield 96, 3)) none)) (cond (Nat.blt q 11) (cond (Nat.beq q 10) (some (.iload_n 2, 1)) none) (cond (Nat.beq q 11) (some (.if_icmp .eq 7, 3)) none)))) (cond (Nat.blt q 21) (cond (Nat.blt q 18) (cond (Nat.blt q 15) (cond (Nat.beq q 14) (some (.iconst 1, 1)) none) (cond (Nat.beq q 15) (some (.goto 4, 3)) none)) (cond (Nat.blt q 19) (cond (Nat.beq q 18) (some (.iconst 0, 1)) none) (cond (Nat.beq q 19) (some (.istore 4, 2)) none))) (cond (Nat.blt q 23) (cond (Nat.blt q 22) (cond (Nat.beq q 21) (some (.aload_n 3, 1)) none) (cond (Nat.beq q 22) (some (.iload_n 2, 1)) none)) (cond (Nat.blt q 26) (cond (Nat.beq q 23) (some (.putfield 96, 3)) none) (cond (Nat.blt q 28) (cond (Nat.beq q 26) (some (.iload 4, 2)) none) (cond (Nat.beq q 28) (some (.ireturn, 1)) none)))))) none
def s_W_first (q : Nat) : Bool := Nat.beq q 19
noncomputable def C_W_first : ZC := (k_W_first, fl_W, fun q => cond (Nat.beq q 82) (some (2, 13, f_W_thereOf)) (none), fun _ => none, fun _ _ => none, 2, 5)
noncomputable def f_W_first : List ZV → ZT → Option ZR := zfn C_W_first [4, 0, 0] [(2, 0), (2, 0)]
set_option maxRecDepth 20000 in
theorem kc_W_first : zchk b_W_first k_W_first 29 = true := by decide +kernel
set_option maxRecDepth 20000 in
theorem kk_W_first : zck k_W_first 29 [82] [] = true := by decide +kernel
set_option maxRecDepth 20000 in
theorem wl_W_first : ∀ w ∈ ([.instanceMethod y_W_first, .selects "RevisionWrite" y_W_first y_W_first, .code y_W_first b_W_first 5 (some .boolean), .initialized "RevisionWrite", .methodLink "RevisionWrite" 82 y_W_thereOf] : List Cond), w ∈ zTT := by decide +kernel
set_option maxRecDepth 20000 in
theorem zk_W_first : ∀ pc, 29 ≤ pc → k_W_first pc = none := fun pc h => by unfold k_W_first; rw [zblt_f h]; rfl
set_option maxRecDepth 20000 in
theorem t_W_first {E : ZE} (hV : zEV E) {l : Launch} (hfl : l.flags = flags0) : zMet E l y_W_first (.code y_W_first b_W_first 5 (some .boolean)) 3 2 f_W_first := zmet hV hfl (C := C_W_first) (by decide +kernel) ⟨zcode_of (N := 29) kc_W_first zk_W_first, ff_W, (fun pc n ix ca hq hca => by
    have h9 := zck_v kk_W_first (zk_W_first) hq
    simp only [List.mem_cons, List.not_mem_nil, or_false] at h9
    rcases h9 with rfl
    · cases hca
      exact v_W_thereOf hV hfl (wl_W_first _ (List.mem_of_getElem? (i := 4) rfl)) (by decide)), (fun pc n ix ca hq _ => absurd (zck_s kk_W_first (zk_W_first) hq) (by simp)), (fun pc x hx => by cases hx)⟩ zrt2 rfl rfl (by decide) (by decide) (fun _ _ => rfl)
set_option maxRecDepth 20000 in
theorem v_W_first {E : ZE} (hV : zEV E) {l : Launch} (hfl : l.flags = flags0) {own : String} {ix d : Nat} (hl : Cond.methodLink own ix y_W_first ∈ zTT) (hd : 3 < d) : zVirt E l own d ix 3 0 f_W_first := ⟨y_W_first, 4, 5, 3, 2, b_W_first, (some .boolean), rfl, hl, (wl_W_first _ (List.mem_of_getElem? (i := 0) rfl)), (wl_W_first _ (List.mem_of_getElem? (i := 1) rfl)), (wl_W_first _ (List.mem_of_getElem? (i := 2) rfl)), (wl_W_first _ (List.mem_of_getElem? (i := 3) rfl)), by decide +kernel, zpar_of1 (by decide +kernel), by decide, hd, rfl, fun as σ r h => zfn_recv h, t_W_first hV hfl⟩
abbrev b_R_put : ByteArray := prog_4_method_2_code
def y_R_put : MethodName := ⟨"RevisionWrite$Row", "put", "(I)V"⟩
def k_R_put (q : Nat) : Option (Instr × Nat) := cond (Nat.blt q 29) (cond (Nat.blt q 16) (cond (Nat.blt q 10) (cond (Nat.blt q 4) (cond (Nat.blt q 1) (cond (Nat.beq q 0) (some (.aload_n 0, 1)) none) (cond (Nat.beq q 1) (some (.getfield 15, 3)) none)) (cond (Nat.blt q 7) (cond (Nat.beq q 4) (some (.sipush 12000, 3)) none) (cond (Nat.beq q 7) (some (.if_icmp .gt 21, 3)) none))) (cond (Nat.blt q 14) (cond (Nat.blt q 11) (cond (Nat.beq q 10) (some (.aload_n 0, 1)) none) (cond (Nat.beq q 11) (some (.getfield 9, 3)) none)) (cond (Nat.blt q 15) (cond (Nat.beq q 14) (some (.aload_n 0, 1)) none) (cond (Nat.beq q 15) (some (.dup, 1)) none)))) (cond (Nat.blt q 22) (cond (Nat.blt q 20) (cond (Nat.blt q 19) (cond (Nat.beq q 16) (some (.getfield 15, 3)) none) (cond (Nat.beq q 19) (some (.dup_x1, 1)) none)) (cond (Nat.blt q 21) (cond (Nat.beq q 20) (some (.iconst 1, 1)) none) (cond (Nat.beq q 21) (some (.iadd, 1)) none))) (cond (Nat.blt q 26) (cond (Nat.blt q 25) (cond (Nat.beq q 22) (some (.putfield 15, 3)) none) (cond (Nat.beq q 25) (some (.iload_n 1, 1)) none)) (cond (Nat.blt q 27) (cond (Nat.beq q 26) (some (.i2b, 1)) none) (cond (Nat.blt q 28) (cond (Nat.beq q 27) (some (.bastore, 1)) none) (cond (Nat.beq q 28) (some (.return_, 1)) none)))))) none
def s_R_put (q : Nat) : Bool := false
noncomputable def C_R_put : ZC := (k_R_put, fl_R, fun _ => none, fun _ => none, fun _ _ => none, 0, 2)
noncomputable def f_R_put : List ZV → ZT → Option ZR := zfn C_R_put [6, 0] []
set_option maxRecDepth 20000 in
theorem kc_R_put : zchk b_R_put k_R_put 29 = true := by decide +kernel
set_option maxRecDepth 20000 in
theorem wl_R_put : ∀ w ∈ ([.instanceMethod y_R_put, .selects "RevisionWrite$Row" y_R_put y_R_put, .code y_R_put b_R_put 2 none, .initialized "RevisionWrite$Row"] : List Cond), w ∈ zTT := by decide +kernel
set_option maxRecDepth 20000 in
theorem zk_R_put : ∀ pc, 29 ≤ pc → k_R_put pc = none := fun pc h => by unfold k_R_put; rw [zblt_f h]; rfl
set_option maxRecDepth 20000 in
theorem t_R_put {E : ZE} (hV : zEV E) {l : Launch} (hfl : l.flags = flags0) : zMet E l y_R_put (.code y_R_put b_R_put 2 none) 0 0 f_R_put := zmet hV hfl (C := C_R_put) (by decide +kernel) ⟨zcode_of (N := 29) kc_R_put zk_R_put, ff_R, (fun pc n ix ca hq hca => by cases hca), (fun pc n ix ca hq hca => by cases hca), (fun pc x hx => by cases hx)⟩ zrt0 rfl rfl (by decide) (by decide) (fun _ _ => rfl)
set_option maxRecDepth 20000 in
theorem v_R_put {E : ZE} (hV : zEV E) {l : Launch} (hfl : l.flags = flags0) {own : String} {ix d : Nat} (hl : Cond.methodLink own ix y_R_put ∈ zTT) (hd : 0 < d) : zVirt E l own d ix 2 2 f_R_put := ⟨y_R_put, 6, 2, 0, 0, b_R_put, none, rfl, hl, (wl_R_put _ (List.mem_of_getElem? (i := 0) rfl)), (wl_R_put _ (List.mem_of_getElem? (i := 1) rfl)), (wl_R_put _ (List.mem_of_getElem? (i := 2) rfl)), (wl_R_put _ (List.mem_of_getElem? (i := 3) rfl)), by decide +kernel, zpar_of1 (by decide +kernel), by decide, hd, rfl, fun as σ r h => zfn_recv h, t_R_put hV hfl⟩
abbrev b_R_putNumber : ByteArray := prog_4_method_3_code
def y_R_putNumber : MethodName := ⟨"RevisionWrite$Row", "putNumber", "(I)V"⟩
def k_R_putNumber (q : Nat) : Option (Instr × Nat) := cond (Nat.blt q 26) (cond (Nat.blt q 14) (cond (Nat.blt q 7) (cond (Nat.blt q 3) (cond (Nat.blt q 1) (cond (Nat.beq q 0) (some (.iload_n 1, 1)) none) (cond (Nat.beq q 1) (some (.bipush 9, 2)) none)) (cond (Nat.blt q 6) (cond (Nat.beq q 3) (some (.if_icmp .le 11, 3)) none) (cond (Nat.beq q 6) (some (.aload_n 0, 1)) none))) (cond (Nat.blt q 10) (cond (Nat.blt q 8) (cond (Nat.beq q 7) (some (.iload_n 1, 1)) none) (cond (Nat.beq q 8) (some (.bipush 10, 2)) none)) (cond (Nat.blt q 11) (cond (Nat.beq q 10) (some (.idiv, 1)) none) (cond (Nat.beq q 11) (some (.invokevirtual 19, 3)) none)))) (cond (Nat.blt q 20) (cond (Nat.blt q 17) (cond (Nat.blt q 15) (cond (Nat.beq q 14) (some (.aload_n 0, 1)) none) (cond (Nat.beq q 15) (some (.bipush 48, 2)) none)) (cond (Nat.blt q 18) (cond (Nat.beq q 17) (some (.iload_n 1, 1)) none) (cond (Nat.beq q 18) (some (.bipush 10, 2)) none))) (cond (Nat.blt q 22) (cond (Nat.blt q 21) (cond (Nat.beq q 20) (some (.irem, 1)) none) (cond (Nat.beq q 21) (some (.iadd, 1)) none)) (cond (Nat.blt q 25) (cond (Nat.beq q 22) (some (.invokevirtual 23, 3)) none) (cond (Nat.beq q 25) (some (.return_, 1)) none))))) none
def s_R_putNumber (q : Nat) : Bool := Nat.beq q 14
noncomputable def D_R_putNumber (g : List ZV → ZT → Option ZR) : ZC := (k_R_putNumber, fl_R, fun q => cond (Nat.beq q 19) (some (2, 2, g)) (cond (Nat.beq q 23) (some (2, 2, f_R_put)) (none)), fun _ => none, fun _ _ => none, 0, 2)
noncomputable def g_R_putNumber : Nat → List ZV → ZT → Option ZR
  | 0 => fun _ _ => none
  | n + 1 => zfn (D_R_putNumber (g_R_putNumber n)) [6, 0] []
noncomputable abbrev f_R_putNumber : List ZV → ZT → Option ZR := g_R_putNumber 7
set_option maxRecDepth 20000 in
theorem kc_R_putNumber : zchk b_R_putNumber k_R_putNumber 26 = true := by decide +kernel
set_option maxRecDepth 20000 in
theorem kk_R_putNumber : zck k_R_putNumber 26 [19, 23] [] = true := by decide +kernel
set_option maxRecDepth 20000 in
theorem wl_R_putNumber : ∀ w ∈ ([.instanceMethod y_R_putNumber, .selects "RevisionWrite$Row" y_R_putNumber y_R_putNumber, .code y_R_putNumber b_R_putNumber 2 none, .initialized "RevisionWrite$Row", .methodLink "RevisionWrite$Row" 19 y_R_putNumber, .methodLink "RevisionWrite$Row" 23 y_R_put] : List Cond), w ∈ zTT := by decide +kernel
set_option maxRecDepth 20000 in
theorem zk_R_putNumber : ∀ pc, 26 ≤ pc → k_R_putNumber pc = none := fun pc h => by unfold k_R_putNumber; rw [zblt_f h]; rfl
set_option maxRecDepth 20000 in
theorem t_R_putNumber_n {E : ZE} (hV : zEV E) {l : Launch} (hfl : l.flags = flags0) : ∀ n, zMet E l y_R_putNumber (.code y_R_putNumber b_R_putNumber 2 none) (1 + n) 0 (g_R_putNumber n)
  | 0 => fun as σ r h => by cases h
  | n + 1 => by
    have ih := t_R_putNumber_n hV hfl n
    refine zmet hV hfl (C := D_R_putNumber (g_R_putNumber n)) (by decide +kernel) ⟨zcode_of (N := 26) kc_R_putNumber zk_R_putNumber, ff_R, ?_, ?_, fun pc x hx => by cases hx⟩ zrt0 rfl rfl (by decide) (by decide) (fun _ _ => rfl)
    · intro pc k ix ca hq hca
      have h9 := zck_v kk_R_putNumber zk_R_putNumber hq
      simp only [List.mem_cons, List.not_mem_nil, or_false] at h9
      rcases h9 with rfl | rfl
      · cases hca
        exact ⟨y_R_putNumber, 6, 2, 1 + n, 0, b_R_putNumber, none, rfl, (wl_R_putNumber _ (List.mem_of_getElem? (i := 4) rfl)), (wl_R_putNumber _ (List.mem_of_getElem? (i := 0) rfl)), (wl_R_putNumber _ (List.mem_of_getElem? (i := 1) rfl)), (wl_R_putNumber _ (List.mem_of_getElem? (i := 2) rfl)), (wl_R_putNumber _ (List.mem_of_getElem? (i := 3) rfl)), by decide +kernel, zpar_of1 (k := 2) (by decide +kernel), by decide, by omega, rfl, fun as σ r h => by cases n with
          | zero => cases h
          | succ n => exact zfn_recv h, ih⟩
      · cases hca
        exact v_R_put hV hfl (wl_R_putNumber _ (List.mem_of_getElem? (i := 5) rfl)) (by omega)
    · intro pc k ix ca hq hca
      exact absurd (zck_s kk_R_putNumber zk_R_putNumber hq) (by simp)
set_option maxRecDepth 20000 in
theorem t_R_putNumber {E : ZE} (hV : zEV E) {l : Launch} (hfl : l.flags = flags0) : zMet E l y_R_putNumber (.code y_R_putNumber b_R_putNumber 2 none) 8 0 f_R_putNumber := t_R_putNumber_n hV hfl 7
set_option maxRecDepth 20000 in
theorem v_R_putNumber {E : ZE} (hV : zEV E) {l : Launch} (hfl : l.flags = flags0) {own : String} {ix d : Nat} (hl : Cond.methodLink own ix y_R_putNumber ∈ zTT) (hd : 8 < d) : zVirt E l own d ix 2 2 f_R_putNumber := ⟨y_R_putNumber, 6, 2, 8, 0, b_R_putNumber, none, rfl, hl, (wl_R_putNumber _ (List.mem_of_getElem? (i := 0) rfl)), (wl_R_putNumber _ (List.mem_of_getElem? (i := 1) rfl)), (wl_R_putNumber _ (List.mem_of_getElem? (i := 2) rfl)), (wl_R_putNumber _ (List.mem_of_getElem? (i := 3) rfl)), by decide +kernel, zpar_of1 (by decide +kernel), by decide, hd, rfl, fun as σ r h => zfn_recv h, t_R_putNumber hV hfl⟩
abbrev b_R_line : ByteArray := prog_4_method_4_code
def y_R_line : MethodName := ⟨"RevisionWrite$Row", "line", "(III)V"⟩
def k_R_line (q : Nat) : Option (Instr × Nat) := cond (Nat.blt q 39) (cond (Nat.blt q 18) (cond (Nat.blt q 8) (cond (Nat.blt q 2) (cond (Nat.blt q 1) (cond (Nat.beq q 0) (some (.aload_n 0, 1)) none) (cond (Nat.beq q 1) (some (.iload_n 1, 1)) none)) (cond (Nat.blt q 5) (cond (Nat.beq q 2) (some (.invokevirtual 23, 3)) none) (cond (Nat.blt q 6) (cond (Nat.beq q 5) (some (.aload_n 0, 1)) none) (cond (Nat.beq q 6) (some (.bipush 32, 2)) none)))) (cond (Nat.blt q 13) (cond (Nat.blt q 11) (cond (Nat.beq q 8) (some (.invokevirtual 23, 3)) none) (cond (Nat.blt q 12) (cond (Nat.beq q 11) (some (.aload_n 0, 1)) none) (cond (Nat.beq q 12) (some (.iload_n 2, 1)) none))) (cond (Nat.blt q 16) (cond (Nat.beq q 13) (some (.invokevirtual 19, 3)) none) (cond (Nat.blt q 17) (cond (Nat.beq q 16) (some (.iload_n 3, 1)) none) (cond (Nat.beq q 17) (some (.iconst (-1), 1)) none))))) (cond (Nat.blt q 28) (cond (Nat.blt q 22) (cond (Nat.blt q 21) (cond (Nat.beq q 18) (some (.if_icmp .eq 14, 3)) none) (cond (Nat.beq q 21) (some (.aload_n 0, 1)) none)) (cond (Nat.blt q 24) (cond (Nat.beq q 22) (some (.bipush 32, 2)) none) (cond (Nat.blt q 27) (cond (Nat.beq q 24) (some (.invokevirtual 23, 3)) none) (cond (Nat.beq q 27) (some (.aload_n 0, 1)) none)))) (cond (Nat.blt q 33) (cond (Nat.blt q 29) (cond (Nat.beq q 28) (some (.iload_n 3, 1)) none) (cond (Nat.blt q 32) (cond (Nat.beq q 29) (some (.invokevirtual 19, 3)) none) (cond (Nat.beq q 32) (some (.aload_n 0, 1)) none))) (cond (Nat.blt q 35) (cond (Nat.beq q 33) (some (.bipush 10, 2)) none) (cond (Nat.blt q 38) (cond (Nat.beq q 35) (some (.invokevirtual 23, 3)) none) (cond (Nat.beq q 38) (some (.return_, 1)) none)))))) none
def s_R_line (q : Nat) : Bool := Nat.beq q 32
noncomputable def C_R_line : ZC := (k_R_line, fl_R, fun q => cond (Nat.beq q 19) (some (2, 2, f_R_putNumber)) (cond (Nat.beq q 23) (some (2, 2, f_R_put)) (none)), fun _ => none, fun _ _ => none, 0, 4)
noncomputable def f_R_line : List ZV → ZT → Option ZR := zfn C_R_line [6, 0, 0, 0] []
set_option maxRecDepth 20000 in
theorem kc_R_line : zchk b_R_line k_R_line 39 = true := by decide +kernel
set_option maxRecDepth 20000 in
theorem kk_R_line : zck k_R_line 39 [19, 23] [] = true := by decide +kernel
set_option maxRecDepth 20000 in
theorem wl_R_line : ∀ w ∈ ([.instanceMethod y_R_line, .selects "RevisionWrite$Row" y_R_line y_R_line, .code y_R_line b_R_line 4 none, .initialized "RevisionWrite$Row", .methodLink "RevisionWrite$Row" 19 y_R_putNumber, .methodLink "RevisionWrite$Row" 23 y_R_put] : List Cond), w ∈ zTT := by decide +kernel
set_option maxRecDepth 20000 in
theorem zk_R_line : ∀ pc, 39 ≤ pc → k_R_line pc = none := fun pc h => by unfold k_R_line; rw [zblt_f h]; rfl
set_option maxRecDepth 20000 in
theorem t_R_line {E : ZE} (hV : zEV E) {l : Launch} (hfl : l.flags = flags0) : zMet E l y_R_line (.code y_R_line b_R_line 4 none) 9 0 f_R_line := zmet hV hfl (C := C_R_line) (by decide +kernel) ⟨zcode_of (N := 39) kc_R_line zk_R_line, ff_R, (fun pc n ix ca hq hca => by
    have h9 := zck_v kk_R_line (zk_R_line) hq
    simp only [List.mem_cons, List.not_mem_nil, or_false] at h9
    rcases h9 with rfl | rfl
    · cases hca
      exact v_R_putNumber hV hfl (wl_R_line _ (List.mem_of_getElem? (i := 4) rfl)) (by decide)
    · cases hca
      exact v_R_put hV hfl (wl_R_line _ (List.mem_of_getElem? (i := 5) rfl)) (by decide)), (fun pc n ix ca hq _ => absurd (zck_s kk_R_line (zk_R_line) hq) (by simp)), (fun pc x hx => by cases hx)⟩ zrt0 rfl rfl (by decide) (by decide) (fun _ _ => rfl)
set_option maxRecDepth 20000 in
theorem v_R_line {E : ZE} (hV : zEV E) {l : Launch} (hfl : l.flags = flags0) {own : String} {ix d : Nat} (hl : Cond.methodLink own ix y_R_line ∈ zTT) (hd : 9 < d) : zVirt E l own d ix 4 2 f_R_line := ⟨y_R_line, 6, 4, 9, 0, b_R_line, none, rfl, hl, (wl_R_line _ (List.mem_of_getElem? (i := 0) rfl)), (wl_R_line _ (List.mem_of_getElem? (i := 1) rfl)), (wl_R_line _ (List.mem_of_getElem? (i := 2) rfl)), (wl_R_line _ (List.mem_of_getElem? (i := 3) rfl)), by decide +kernel, zpar_of1 (by decide +kernel), by decide, hd, rfl, fun as σ r h => zfn_recv h, t_R_line hV hfl⟩
abbrev b_W_putRecord : ByteArray := prog_1_method_11_code
def y_W_putRecord : MethodName := ⟨"RevisionWrite", "putRecord", "(ILRevisionWrite$Revision;)V"⟩
def k_W_putRecord (q : Nat) : Option (Instr × Nat) := cond (Nat.blt q 86) (cond (Nat.blt q 37) (cond (Nat.blt q 19) (cond (Nat.blt q 7) (cond (Nat.blt q 4) (cond (Nat.blt q 1) (cond (Nat.beq q 0) (some (.aload_n 0, 1)) none) (cond (Nat.beq q 1) (some (.getfield 17, 3)) none)) (cond (Nat.blt q 5) (cond (Nat.beq q 4) (some (.iload_n 1, 1)) none) (cond (Nat.blt q 6) (cond (Nat.beq q 5) (some (.aaload, 1)) none) (cond (Nat.beq q 6) (some (.astore_n 3, 1)) none)))) (cond (Nat.blt q 12) (cond (Nat.blt q 8) (cond (Nat.beq q 7) (some (.aload_n 2, 1)) none) (cond (Nat.blt q 11) (cond (Nat.beq q 8) (some (.getfield 99, 3)) none) (cond (Nat.beq q 11) (some (.iload_n 1, 1)) none))) (cond (Nat.blt q 13) (cond (Nat.beq q 12) (some (.aload_n 0, 1)) none) (cond (Nat.blt q 16) (cond (Nat.beq q 13) (some (.getfield 28, 3)) none) (cond (Nat.beq q 16) (some (.getfield 102, 3)) none))))) (cond (Nat.blt q 26) (cond (Nat.blt q 21) (cond (Nat.blt q 20) (cond (Nat.beq q 19) (some (.iastore, 1)) none) (cond (Nat.beq q 20) (some (.aload_n 2, 1)) none)) (cond (Nat.blt q 24) (cond (Nat.beq q 21) (some (.getfield 103, 3)) none) (cond (Nat.blt q 25) (cond (Nat.beq q 24) (some (.iload_n 1, 1)) none) (cond (Nat.beq q 25) (some (.aload_n 3, 1)) none)))) (cond (Nat.blt q 31) (cond (Nat.blt q 29) (cond (Nat.beq q 26) (some (.getfield 85, 3)) none) (cond (Nat.blt q 30) (cond (Nat.beq q 29) (some (.iastore, 1)) none) (cond (Nat.beq q 30) (some (.aload_n 0, 1)) none))) (cond (Nat.blt q 34) (cond (Nat.beq q 31) (some (.getfield 28, 3)) none) (cond (Nat.blt q 36) (cond (Nat.beq q 34) (some (.bipush 111, 2)) none) (cond (Nat.beq q 36) (some (.iload_n 1, 1)) none)))))) (cond (Nat.blt q 60) (cond (Nat.blt q 47) (cond (Nat.blt q 41) (cond (Nat.blt q 38) (cond (Nat.beq q 37) (some (.aload_n 3, 1)) none) (cond (Nat.beq q 38) (some (.getfield 85, 3)) none)) (cond (Nat.blt q 44) (cond (Nat.beq q 41) (some (.invokevirtual 106, 3)) none) (cond (Nat.blt q 45) (cond (Nat.beq q 44) (some (.iconst 0, 1)) none) (cond (Nat.beq q 45) (some (.istore 4, 2)) none)))) (cond (Nat.blt q 53) (cond (Nat.blt q 49) (cond (Nat.beq q 47) (some (.iload 4, 2)) none) (cond (Nat.blt q 50) (cond (Nat.beq q 49) (some (.aload_n 3, 1)) none) (cond (Nat.beq q 50) (some (.getfield 85, 3)) none))) (cond (Nat.blt q 56) (cond (Nat.beq q 53) (some (.if_icmp .ge 23, 3)) none) (cond (Nat.blt q 57) (cond (Nat.beq q 56) (some (.aload_n 0, 1)) none) (cond (Nat.beq q 57) (some (.getfield 28, 3)) none))))) (cond (Nat.blt q 73) (cond (Nat.blt q 66) (cond (Nat.blt q 61) (cond (Nat.beq q 60) (some (.aload_n 3, 1)) none) (cond (Nat.blt q 64) (cond (Nat.beq q 61) (some (.getfield 89, 3)) none) (cond (Nat.beq q 64) (some (.iload 4, 2)) none))) (cond (Nat.blt q 67) (cond (Nat.beq q 66) (some (.baload, 1)) none) (cond (Nat.blt q 70) (cond (Nat.beq q 67) (some (.invokevirtual 110, 3)) none) (cond (Nat.beq q 70) (some (.iinc 4 1, 3)) none)))) (cond (Nat.blt q 80) (cond (Nat.blt q 76) (cond (Nat.beq q 73) (some (.goto (-26), 3)) none) (cond (Nat.blt q 77) (cond (Nat.beq q 76) (some (.aload_n 0, 1)) none) (cond (Nat.beq q 77) (some (.getfield 28, 3)) none))) (cond (Nat.blt q 82) (cond (Nat.beq q 80) (some (.bipush 10, 2)) none) (cond (Nat.blt q 85) (cond (Nat.beq q 82) (some (.invokevirtual 110, 3)) none) (cond (Nat.beq q 85) (some (.return_, 1)) none))))))) none
def s_W_putRecord (q : Nat) : Bool := Nat.beq q 47
noncomputable def C_W_putRecord : ZC := (k_W_putRecord, fl_W, fun q => cond (Nat.beq q 106) (some (4, 2, f_R_line)) (cond (Nat.beq q 110) (some (2, 2, f_R_put)) (none)), fun _ => none, fun _ _ => none, 0, 5)
noncomputable def f_W_putRecord : List ZV → ZT → Option ZR := zfn C_W_putRecord [4, 0, 15] [(2, 0), (2, 0)]
set_option maxRecDepth 20000 in
theorem kc_W_putRecord : zchk b_W_putRecord k_W_putRecord 86 = true := by decide +kernel
set_option maxRecDepth 20000 in
theorem kk_W_putRecord : zck k_W_putRecord 86 [106, 110] [] = true := by decide +kernel
set_option maxRecDepth 20000 in
theorem wl_W_putRecord : ∀ w ∈ ([.instanceMethod y_W_putRecord, .selects "RevisionWrite" y_W_putRecord y_W_putRecord, .code y_W_putRecord b_W_putRecord 5 none, .initialized "RevisionWrite", .methodLink "RevisionWrite" 106 y_R_line, .methodLink "RevisionWrite" 110 y_R_put] : List Cond), w ∈ zTT := by decide +kernel
set_option maxRecDepth 20000 in
theorem zk_W_putRecord : ∀ pc, 86 ≤ pc → k_W_putRecord pc = none := fun pc h => by unfold k_W_putRecord; rw [zblt_f h]; rfl
set_option maxRecDepth 20000 in
theorem t_W_putRecord {E : ZE} (hV : zEV E) {l : Launch} (hfl : l.flags = flags0) : zMet E l y_W_putRecord (.code y_W_putRecord b_W_putRecord 5 none) 10 0 f_W_putRecord := zmet hV hfl (C := C_W_putRecord) (by decide +kernel) ⟨zcode_of (N := 86) kc_W_putRecord zk_W_putRecord, ff_W, (fun pc n ix ca hq hca => by
    have h9 := zck_v kk_W_putRecord (zk_W_putRecord) hq
    simp only [List.mem_cons, List.not_mem_nil, or_false] at h9
    rcases h9 with rfl | rfl
    · cases hca
      exact v_R_line hV hfl (wl_W_putRecord _ (List.mem_of_getElem? (i := 4) rfl)) (by decide)
    · cases hca
      exact v_R_put hV hfl (wl_W_putRecord _ (List.mem_of_getElem? (i := 5) rfl)) (by decide)), (fun pc n ix ca hq _ => absurd (zck_s kk_W_putRecord (zk_W_putRecord) hq) (by simp)), (fun pc x hx => by cases hx)⟩ zrt0 rfl rfl (by decide) (by decide) (fun _ _ => rfl)
set_option maxRecDepth 20000 in
theorem v_W_putRecord {E : ZE} (hV : zEV E) {l : Launch} (hfl : l.flags = flags0) {own : String} {ix d : Nat} (hl : Cond.methodLink own ix y_W_putRecord ∈ zTT) (hd : 10 < d) : zVirt E l own d ix 3 2 f_W_putRecord := ⟨y_W_putRecord, 4, 5, 10, 0, b_W_putRecord, none, rfl, hl, (wl_W_putRecord _ (List.mem_of_getElem? (i := 0) rfl)), (wl_W_putRecord _ (List.mem_of_getElem? (i := 1) rfl)), (wl_W_putRecord _ (List.mem_of_getElem? (i := 2) rfl)), (wl_W_putRecord _ (List.mem_of_getElem? (i := 3) rfl)), by decide +kernel, zpar_of1 (by decide +kernel), by decide, hd, rfl, fun as σ r h => zfn_recv h, t_W_putRecord hV hfl⟩
abbrev b_W_next : ByteArray := prog_1_method_12_code
def y_W_next : MethodName := ⟨"RevisionWrite", "next", "(ILRevisionWrite$Revision;)I"⟩
def k_W_next (q : Nat) : Option (Instr × Nat) := cond (Nat.blt q 121) (cond (Nat.blt q 58) (cond (Nat.blt q 29) (cond (Nat.blt q 12) (cond (Nat.blt q 3) (cond (Nat.blt q 1) (cond (Nat.beq q 0) (some (.iconst (-1), 1)) none) (cond (Nat.blt q 2) (cond (Nat.beq q 1) (some (.istore_n 3, 1)) none) (cond (Nat.beq q 2) (some (.iconst 1, 1)) none))) (cond (Nat.blt q 7) (cond (Nat.blt q 5) (cond (Nat.beq q 3) (some (.istore 4, 2)) none) (cond (Nat.beq q 5) (some (.iload 4, 2)) none)) (cond (Nat.blt q 9) (cond (Nat.beq q 7) (some (.bipush 40, 2)) none) (cond (Nat.beq q 9) (some (.if_icmp .gt 110, 3)) none)))) (cond (Nat.blt q 19) (cond (Nat.blt q 16) (cond (Nat.blt q 13) (cond (Nat.beq q 12) (some (.aload_n 0, 1)) none) (cond (Nat.beq q 13) (some (.getfield 17, 3)) none)) (cond (Nat.blt q 18) (cond (Nat.beq q 16) (some (.iload 4, 2)) none) (cond (Nat.beq q 18) (some (.aaload, 1)) none))) (cond (Nat.blt q 23) (cond (Nat.blt q 21) (cond (Nat.beq q 19) (some (.astore 5, 2)) none) (cond (Nat.beq q 21) (some (.aload 5, 2)) none)) (cond (Nat.blt q 26) (cond (Nat.beq q 23) (some (.getfield 71, 3)) none) (cond (Nat.beq q 26) (some (.ifCond .eq 87, 3)) none))))) (cond (Nat.blt q 43) (cond (Nat.blt q 35) (cond (Nat.blt q 30) (cond (Nat.beq q 29) (some (.aload_n 2, 1)) none) (cond (Nat.blt q 33) (cond (Nat.beq q 30) (some (.getfield 99, 3)) none) (cond (Nat.beq q 33) (some (.iload 4, 2)) none))) (cond (Nat.blt q 39) (cond (Nat.blt q 36) (cond (Nat.beq q 35) (some (.iaload, 1)) none) (cond (Nat.beq q 36) (some (.ifCond .le 6, 3)) none)) (cond (Nat.blt q 42) (cond (Nat.beq q 39) (some (.goto 74, 3)) none) (cond (Nat.beq q 42) (some (.iload_n 3, 1)) none)))) (cond (Nat.blt q 49) (cond (Nat.blt q 47) (cond (Nat.blt q 44) (cond (Nat.beq q 43) (some (.iconst (-1), 1)) none) (cond (Nat.beq q 44) (some (.if_icmp .eq 50, 3)) none)) (cond (Nat.blt q 48) (cond (Nat.beq q 47) (some (.iload_n 1, 1)) none) (cond (Nat.beq q 48) (some (.iconst 1, 1)) none))) (cond (Nat.blt q 54) (cond (Nat.blt q 52) (cond (Nat.beq q 49) (some (.if_icmp .ne 20, 3)) none) (cond (Nat.beq q 52) (some (.aload 5, 2)) none)) (cond (Nat.blt q 57) (cond (Nat.beq q 54) (some (.getfield 85, 3)) none) (cond (Nat.beq q 57) (some (.aload_n 0, 1)) none)))))) (cond (Nat.blt q 88) (cond (Nat.blt q 71) (cond (Nat.blt q 63) (cond (Nat.blt q 61) (cond (Nat.beq q 58) (some (.getfield 17, 3)) none) (cond (Nat.blt q 62) (cond (Nat.beq q 61) (some (.iload_n 3, 1)) none) (cond (Nat.beq q 62) (some (.aaload, 1)) none))) (cond (Nat.blt q 69) (cond (Nat.blt q 66) (cond (Nat.beq q 63) (some (.getfield 85, 3)) none) (cond (Nat.beq q 66) (some (.if_icmp .lt 28, 3)) none)) (cond (Nat.blt q 70) (cond (Nat.beq q 69) (some (.iload_n 1, 1)) none) (cond (Nat.beq q 70) (some (.iconst 2, 1)) none)))) (cond (Nat.blt q 82) (cond (Nat.blt q 76) (cond (Nat.blt q 74) (cond (Nat.beq q 71) (some (.if_icmp .ne 27, 3)) none) (cond (Nat.beq q 74) (some (.aload 5, 2)) none)) (cond (Nat.blt q 79) (cond (Nat.beq q 76) (some (.getfield 96, 3)) none) (cond (Nat.beq q 79) (some (.ifCond .eq 19, 3)) none))) (cond (Nat.blt q 86) (cond (Nat.blt q 83) (cond (Nat.beq q 82) (some (.aload_n 0, 1)) none) (cond (Nat.beq q 83) (some (.getfield 17, 3)) none)) (cond (Nat.blt q 87) (cond (Nat.beq q 86) (some (.iload_n 3, 1)) none) (cond (Nat.beq q 87) (some (.aaload, 1)) none))))) (cond (Nat.blt q 106) (cond (Nat.blt q 98) (cond (Nat.blt q 94) (cond (Nat.blt q 91) (cond (Nat.beq q 88) (some (.getfield 96, 3)) none) (cond (Nat.beq q 91) (some (.ifCond .ne 7, 3)) none)) (cond (Nat.blt q 95) (cond (Nat.beq q 94) (some (.iconst 1, 1)) none) (cond (Nat.beq q 95) (some (.goto 4, 3)) none))) (cond (Nat.blt q 101) (cond (Nat.blt q 99) (cond (Nat.beq q 98) (some (.iconst 0, 1)) none) (cond (Nat.beq q 99) (some (.istore 6, 2)) none)) (cond (Nat.blt q 103) (cond (Nat.beq q 101) (some (.iload 6, 2)) none) (cond (Nat.beq q 103) (some (.ifCond .eq 8, 3)) none)))) (cond (Nat.blt q 113) (cond (Nat.blt q 111) (cond (Nat.blt q 108) (cond (Nat.beq q 106) (some (.iload 4, 2)) none) (cond (Nat.beq q 108) (some (.goto 4, 3)) none)) (cond (Nat.blt q 112) (cond (Nat.beq q 111) (some (.iload_n 3, 1)) none) (cond (Nat.beq q 112) (some (.istore_n 3, 1)) none))) (cond (Nat.blt q 119) (cond (Nat.blt q 116) (cond (Nat.beq q 113) (some (.iinc 4 1, 3)) none) (cond (Nat.beq q 116) (some (.goto (-111), 3)) none)) (cond (Nat.blt q 120) (cond (Nat.beq q 119) (some (.iload_n 3, 1)) none) (cond (Nat.beq q 120) (some (.ireturn, 1)) none))))))) none
def s_W_next (q : Nat) : Bool := Nat.beq q 5 || Nat.beq q 69 || Nat.beq q 94 || Nat.beq q 98 || Nat.beq q 99 || Nat.beq q 112 || Nat.beq q 113
noncomputable def C_W_next : ZC := (k_W_next, fl_W, fun _ => none, fun _ => none, fun _ _ => none, 1, 7)
noncomputable def f_W_next : List ZV → ZT → Option ZR := zfn C_W_next [4, 0, 15] [(2, 0), (2, 0), (2, 0), (2, 0)]
set_option maxRecDepth 20000 in
theorem kc_W_next : zchk b_W_next k_W_next 121 = true := by decide +kernel
set_option maxRecDepth 20000 in
theorem wl_W_next : ∀ w ∈ ([.instanceMethod y_W_next, .selects "RevisionWrite" y_W_next y_W_next, .code y_W_next b_W_next 7 (some .int), .initialized "RevisionWrite"] : List Cond), w ∈ zTT := by decide +kernel
set_option maxRecDepth 20000 in
theorem zk_W_next : ∀ pc, 121 ≤ pc → k_W_next pc = none := fun pc h => by unfold k_W_next; rw [zblt_f h]; rfl
set_option maxRecDepth 20000 in
theorem t_W_next {E : ZE} (hV : zEV E) {l : Launch} (hfl : l.flags = flags0) : zMet E l y_W_next (.code y_W_next b_W_next 7 (some .int)) 0 1 f_W_next := zmet hV hfl (C := C_W_next) (by decide +kernel) ⟨zcode_of (N := 121) kc_W_next zk_W_next, ff_W, (fun pc n ix ca hq hca => by cases hca), (fun pc n ix ca hq hca => by cases hca), (fun pc x hx => by cases hx)⟩ zrt1 rfl rfl (by decide) (by decide) (fun _ _ => rfl)
set_option maxRecDepth 20000 in
theorem v_W_next {E : ZE} (hV : zEV E) {l : Launch} (hfl : l.flags = flags0) {own : String} {ix d : Nat} (hl : Cond.methodLink own ix y_W_next ∈ zTT) (hd : 0 < d) : zVirt E l own d ix 3 0 f_W_next := ⟨y_W_next, 4, 7, 0, 1, b_W_next, (some .int), rfl, hl, (wl_W_next _ (List.mem_of_getElem? (i := 0) rfl)), (wl_W_next _ (List.mem_of_getElem? (i := 1) rfl)), (wl_W_next _ (List.mem_of_getElem? (i := 2) rfl)), (wl_W_next _ (List.mem_of_getElem? (i := 3) rfl)), by decide +kernel, zpar_of1 (by decide +kernel), by decide, hd, rfl, fun as σ r h => zfn_recv h, t_W_next hV hfl⟩
abbrev b_T_isChanged : ByteArray := prog_5_method_2_code
def y_T_isChanged : MethodName := ⟨"RevisionWrite$Thing", "isChanged", "()Z"⟩
def k_T_isChanged (q : Nat) : Option (Instr × Nat) := cond (Nat.blt q 34) (cond (Nat.blt q 18) (cond (Nat.blt q 8) (cond (Nat.blt q 4) (cond (Nat.blt q 1) (cond (Nat.beq q 0) (some (.aload_n 0, 1)) none) (cond (Nat.beq q 1) (some (.getfield 15, 3)) none)) (cond (Nat.blt q 7) (cond (Nat.beq q 4) (some (.ifCond .eq 25, 3)) none) (cond (Nat.beq q 7) (some (.aload_n 0, 1)) none))) (cond (Nat.blt q 14) (cond (Nat.blt q 11) (cond (Nat.beq q 8) (some (.getfield 19, 3)) none) (cond (Nat.beq q 11) (some (.ifCond .ne 10, 3)) none)) (cond (Nat.blt q 15) (cond (Nat.beq q 14) (some (.aload_n 0, 1)) none) (cond (Nat.beq q 15) (some (.getfield 22, 3)) none)))) (cond (Nat.blt q 26) (cond (Nat.blt q 22) (cond (Nat.blt q 21) (cond (Nat.beq q 18) (some (.ifCond .ne 7, 3)) none) (cond (Nat.beq q 21) (some (.iconst 1, 1)) none)) (cond (Nat.blt q 25) (cond (Nat.beq q 22) (some (.goto 11, 3)) none) (cond (Nat.beq q 25) (some (.iconst 0, 1)) none))) (cond (Nat.blt q 30) (cond (Nat.blt q 29) (cond (Nat.beq q 26) (some (.goto 7, 3)) none) (cond (Nat.beq q 29) (some (.aload_n 0, 1)) none)) (cond (Nat.blt q 33) (cond (Nat.beq q 30) (some (.getfield 22, 3)) none) (cond (Nat.beq q 33) (some (.ireturn, 1)) none))))) none
def s_T_isChanged (q : Nat) : Bool := Nat.beq q 21
noncomputable def C_T_isChanged : ZC := (k_T_isChanged, fl_T, fun _ => none, fun _ => none, fun _ _ => none, 2, 1)
noncomputable def f_T_isChanged : List ZV → ZT → Option ZR := zfn C_T_isChanged [13] []
set_option maxRecDepth 20000 in
theorem kc_T_isChanged : zchk b_T_isChanged k_T_isChanged 34 = true := by decide +kernel
set_option maxRecDepth 20000 in
theorem wl_T_isChanged : ∀ w ∈ ([.instanceMethod y_T_isChanged, .selects "RevisionWrite$Thing" y_T_isChanged y_T_isChanged, .code y_T_isChanged b_T_isChanged 1 (some .boolean), .initialized "RevisionWrite$Thing"] : List Cond), w ∈ zTT := by decide +kernel
set_option maxRecDepth 20000 in
theorem zk_T_isChanged : ∀ pc, 34 ≤ pc → k_T_isChanged pc = none := fun pc h => by unfold k_T_isChanged; rw [zblt_f h]; rfl
set_option maxRecDepth 20000 in
theorem t_T_isChanged {E : ZE} (hV : zEV E) {l : Launch} (hfl : l.flags = flags0) : zMet E l y_T_isChanged (.code y_T_isChanged b_T_isChanged 1 (some .boolean)) 0 2 f_T_isChanged := zmet hV hfl (C := C_T_isChanged) (by decide +kernel) ⟨zcode_of (N := 34) kc_T_isChanged zk_T_isChanged, ff_T, (fun pc n ix ca hq hca => by cases hca), (fun pc n ix ca hq hca => by cases hca), (fun pc x hx => by cases hx)⟩ zrt2 rfl rfl (by decide) (by decide) (fun _ _ => rfl)
set_option maxRecDepth 20000 in
theorem v_T_isChanged {E : ZE} (hV : zEV E) {l : Launch} (hfl : l.flags = flags0) {own : String} {ix d : Nat} (hl : Cond.methodLink own ix y_T_isChanged ∈ zTT) (hd : 0 < d) : zVirt E l own d ix 1 0 f_T_isChanged := ⟨y_T_isChanged, 13, 1, 0, 2, b_T_isChanged, (some .boolean), rfl, hl, (wl_T_isChanged _ (List.mem_of_getElem? (i := 0) rfl)), (wl_T_isChanged _ (List.mem_of_getElem? (i := 1) rfl)), (wl_T_isChanged _ (List.mem_of_getElem? (i := 2) rfl)), (wl_T_isChanged _ (List.mem_of_getElem? (i := 3) rfl)), by decide +kernel, zpar_of1 (by decide +kernel), by decide, hd, rfl, fun as σ r h => zfn_recv h, t_T_isChanged hV hfl⟩
abbrev b_W_putRows : ByteArray := prog_1_method_13_code
def y_W_putRows : MethodName := ⟨"RevisionWrite", "putRows", "(LRevisionWrite$Revision;ZI)V"⟩
def k_W_putRows (q : Nat) : Option (Instr × Nat) := cond (Nat.blt q 239) (cond (Nat.blt q 113) (cond (Nat.blt q 57) (cond (Nat.blt q 27) (cond (Nat.blt q 14) (cond (Nat.blt q 5) (cond (Nat.blt q 1) (cond (Nat.beq q 0) (some (.aload_n 1, 1)) none) (cond (Nat.blt q 2) (cond (Nat.beq q 1) (some (.aload_n 0, 1)) none) (cond (Nat.beq q 2) (some (.getfield 28, 3)) none))) (cond (Nat.blt q 11) (cond (Nat.blt q 8) (cond (Nat.beq q 5) (some (.getfield 102, 3)) none) (cond (Nat.beq q 8) (some (.putfield 113, 3)) none)) (cond (Nat.blt q 12) (cond (Nat.beq q 11) (some (.iconst 0, 1)) none) (cond (Nat.beq q 12) (some (.istore 4, 2)) none)))) (cond (Nat.blt q 19) (cond (Nat.blt q 15) (cond (Nat.beq q 14) (some (.iconst 1, 1)) none) (cond (Nat.blt q 17) (cond (Nat.beq q 15) (some (.istore 5, 2)) none) (cond (Nat.beq q 17) (some (.iload 5, 2)) none))) (cond (Nat.blt q 24) (cond (Nat.blt q 21) (cond (Nat.beq q 19) (some (.bipush 40, 2)) none) (cond (Nat.beq q 21) (some (.if_icmp .gt 57, 3)) none)) (cond (Nat.blt q 26) (cond (Nat.beq q 24) (some (.iload 4, 2)) none) (cond (Nat.beq q 26) (some (.iload_n 2, 1)) none))))) (cond (Nat.blt q 43) (cond (Nat.blt q 34) (cond (Nat.blt q 30) (cond (Nat.beq q 27) (some (.ifCond .eq 24, 3)) none) (cond (Nat.blt q 31) (cond (Nat.beq q 30) (some (.aload_n 0, 1)) none) (cond (Nat.beq q 31) (some (.getfield 17, 3)) none))) (cond (Nat.blt q 37) (cond (Nat.blt q 36) (cond (Nat.beq q 34) (some (.iload 5, 2)) none) (cond (Nat.beq q 36) (some (.aaload, 1)) none)) (cond (Nat.blt q 40) (cond (Nat.beq q 37) (some (.invokevirtual 116, 3)) none) (cond (Nat.beq q 40) (some (.ifCond .eq 7, 3)) none)))) (cond (Nat.blt q 48) (cond (Nat.blt q 44) (cond (Nat.beq q 43) (some (.iconst 1, 1)) none) (cond (Nat.blt q 47) (cond (Nat.beq q 44) (some (.goto 25, 3)) none) (cond (Nat.beq q 47) (some (.iconst 0, 1)) none))) (cond (Nat.blt q 52) (cond (Nat.blt q 51) (cond (Nat.beq q 48) (some (.goto 21, 3)) none) (cond (Nat.beq q 51) (some (.aload_n 0, 1)) none)) (cond (Nat.blt q 55) (cond (Nat.beq q 52) (some (.getfield 17, 3)) none) (cond (Nat.beq q 55) (some (.iload 5, 2)) none)))))) (cond (Nat.blt q 86) (cond (Nat.blt q 70) (cond (Nat.blt q 64) (cond (Nat.blt q 58) (cond (Nat.beq q 57) (some (.aaload, 1)) none) (cond (Nat.blt q 61) (cond (Nat.beq q 58) (some (.getfield 71, 3)) none) (cond (Nat.beq q 61) (some (.ifCond .eq 7, 3)) none))) (cond (Nat.blt q 68) (cond (Nat.blt q 65) (cond (Nat.beq q 64) (some (.iconst 1, 1)) none) (cond (Nat.beq q 65) (some (.goto 4, 3)) none)) (cond (Nat.blt q 69) (cond (Nat.beq q 68) (some (.iconst 0, 1)) none) (cond (Nat.beq q 69) (some (.iadd, 1)) none)))) (cond (Nat.blt q 78) (cond (Nat.blt q 72) (cond (Nat.beq q 70) (some (.istore 4, 2)) none) (cond (Nat.blt q 75) (cond (Nat.beq q 72) (some (.iinc 5 1, 3)) none) (cond (Nat.beq q 75) (some (.goto (-58), 3)) none))) (cond (Nat.blt q 82) (cond (Nat.blt q 79) (cond (Nat.beq q 78) (some (.aload_n 0, 1)) none) (cond (Nat.beq q 79) (some (.getfield 28, 3)) none)) (cond (Nat.blt q 84) (cond (Nat.beq q 82) (some (.bipush 120, 2)) none) (cond (Nat.beq q 84) (some (.iload 4, 2)) none))))) (cond (Nat.blt q 100) (cond (Nat.blt q 91) (cond (Nat.blt q 87) (cond (Nat.beq q 86) (some (.iconst (-1), 1)) none) (cond (Nat.blt q 90) (cond (Nat.beq q 87) (some (.invokevirtual 106, 3)) none) (cond (Nat.beq q 90) (some (.iconst 1, 1)) none))) (cond (Nat.blt q 95) (cond (Nat.blt q 93) (cond (Nat.beq q 91) (some (.istore 5, 2)) none) (cond (Nat.beq q 93) (some (.iload 5, 2)) none)) (cond (Nat.blt q 97) (cond (Nat.beq q 95) (some (.bipush 40, 2)) none) (cond (Nat.beq q 97) (some (.if_icmp .gt 105, 3)) none)))) (cond (Nat.blt q 106) (cond (Nat.blt q 101) (cond (Nat.beq q 100) (some (.aload_n 0, 1)) none) (cond (Nat.blt q 104) (cond (Nat.beq q 101) (some (.getfield 17, 3)) none) (cond (Nat.beq q 104) (some (.iload 5, 2)) none))) (cond (Nat.blt q 109) (cond (Nat.blt q 107) (cond (Nat.beq q 106) (some (.aaload, 1)) none) (cond (Nat.beq q 107) (some (.astore 6, 2)) none)) (cond (Nat.blt q 110) (cond (Nat.beq q 109) (some (.iload_n 2, 1)) none) (cond (Nat.beq q 110) (some (.ifCond .eq 14, 3)) none))))))) (cond (Nat.blt q 179) (cond (Nat.blt q 148) (cond (Nat.blt q 132) (cond (Nat.blt q 121) (cond (Nat.blt q 115) (cond (Nat.beq q 113) (some (.aload 6, 2)) none) (cond (Nat.blt q 118) (cond (Nat.beq q 115) (some (.invokevirtual 116, 3)) none) (cond (Nat.beq q 118) (some (.ifCond .ne 17, 3)) none))) (cond (Nat.blt q 126) (cond (Nat.blt q 124) (cond (Nat.beq q 121) (some (.goto 75, 3)) none) (cond (Nat.beq q 124) (some (.aload 6, 2)) none)) (cond (Nat.blt q 129) (cond (Nat.beq q 126) (some (.getfield 71, 3)) none) (cond (Nat.beq q 129) (some (.ifCond .ne 6, 3)) none)))) (cond (Nat.blt q 139) (cond (Nat.blt q 135) (cond (Nat.beq q 132) (some (.goto 64, 3)) none) (cond (Nat.blt q 136) (cond (Nat.beq q 135) (some (.aload_n 0, 1)) none) (cond (Nat.beq q 136) (some (.getfield 28, 3)) none))) (cond (Nat.blt q 144) (cond (Nat.blt q 141) (cond (Nat.beq q 139) (some (.iload 5, 2)) none) (cond (Nat.beq q 141) (some (.invokevirtual 120, 3)) none)) (cond (Nat.blt q 145) (cond (Nat.beq q 144) (some (.aload_n 0, 1)) none) (cond (Nat.beq q 145) (some (.getfield 28, 3)) none))))) (cond (Nat.blt q 165) (cond (Nat.blt q 155) (cond (Nat.blt q 150) (cond (Nat.beq q 148) (some (.bipush 32, 2)) none) (cond (Nat.blt q 153) (cond (Nat.beq q 150) (some (.invokevirtual 110, 3)) none) (cond (Nat.beq q 153) (some (.aload 6, 2)) none))) (cond (Nat.blt q 161) (cond (Nat.blt q 158) (cond (Nat.beq q 155) (some (.getfield 71, 3)) none) (cond (Nat.beq q 158) (some (.ifCond .eq 20, 3)) none)) (cond (Nat.blt q 162) (cond (Nat.beq q 161) (some (.aload_n 0, 1)) none) (cond (Nat.beq q 162) (some (.getfield 28, 3)) none)))) (cond (Nat.blt q 171) (cond (Nat.blt q 166) (cond (Nat.beq q 165) (some (.aload_n 1, 1)) none) (cond (Nat.blt q 169) (cond (Nat.beq q 166) (some (.getfield 99, 3)) none) (cond (Nat.beq q 169) (some (.iload 5, 2)) none))) (cond (Nat.blt q 175) (cond (Nat.blt q 172) (cond (Nat.beq q 171) (some (.iaload, 1)) none) (cond (Nat.beq q 172) (some (.invokevirtual 120, 3)) none)) (cond (Nat.blt q 178) (cond (Nat.beq q 175) (some (.goto 12, 3)) none) (cond (Nat.beq q 178) (some (.aload_n 0, 1)) none)))))) (cond (Nat.blt q 210) (cond (Nat.blt q 196) (cond (Nat.blt q 187) (cond (Nat.blt q 182) (cond (Nat.beq q 179) (some (.getfield 28, 3)) none) (cond (Nat.blt q 184) (cond (Nat.beq q 182) (some (.bipush 45, 2)) none) (cond (Nat.beq q 184) (some (.invokevirtual 110, 3)) none))) (cond (Nat.blt q 191) (cond (Nat.blt q 188) (cond (Nat.beq q 187) (some (.aload_n 0, 1)) none) (cond (Nat.beq q 188) (some (.getfield 28, 3)) none)) (cond (Nat.blt q 193) (cond (Nat.beq q 191) (some (.bipush 10, 2)) none) (cond (Nat.beq q 193) (some (.invokevirtual 110, 3)) none)))) (cond (Nat.blt q 203) (cond (Nat.blt q 199) (cond (Nat.beq q 196) (some (.iinc 5 1, 3)) none) (cond (Nat.blt q 202) (cond (Nat.beq q 199) (some (.goto (-106), 3)) none) (cond (Nat.beq q 202) (some (.aload_n 0, 1)) none))) (cond (Nat.blt q 208) (cond (Nat.blt q 206) (cond (Nat.beq q 203) (some (.getfield 28, 3)) none) (cond (Nat.beq q 206) (some (.bipush 112, 2)) none)) (cond (Nat.blt q 209) (cond (Nat.beq q 208) (some (.iload_n 3, 1)) none) (cond (Nat.beq q 209) (some (.iconst (-1), 1)) none))))) (cond (Nat.blt q 224) (cond (Nat.blt q 217) (cond (Nat.blt q 213) (cond (Nat.beq q 210) (some (.invokevirtual 106, 3)) none) (cond (Nat.blt q 214) (cond (Nat.beq q 213) (some (.aload_n 0, 1)) none) (cond (Nat.beq q 214) (some (.getfield 28, 3)) none))) (cond (Nat.blt q 220) (cond (Nat.blt q 219) (cond (Nat.beq q 217) (some (.bipush 101, 2)) none) (cond (Nat.beq q 219) (some (.aload_n 1, 1)) none)) (cond (Nat.blt q 223) (cond (Nat.beq q 220) (some (.getfield 113, 3)) none) (cond (Nat.beq q 223) (some (.iconst (-1), 1)) none)))) (cond (Nat.blt q 229) (cond (Nat.blt q 227) (cond (Nat.beq q 224) (some (.invokevirtual 106, 3)) none) (cond (Nat.blt q 228) (cond (Nat.beq q 227) (some (.aload_n 1, 1)) none) (cond (Nat.beq q 228) (some (.aload_n 0, 1)) none))) (cond (Nat.blt q 235) (cond (Nat.blt q 232) (cond (Nat.beq q 229) (some (.getfield 28, 3)) none) (cond (Nat.beq q 232) (some (.getfield 102, 3)) none)) (cond (Nat.blt q 238) (cond (Nat.beq q 235) (some (.putfield 123, 3)) none) (cond (Nat.beq q 238) (some (.return_, 1)) none)))))))) none
def s_W_putRows (q : Nat) : Bool := Nat.beq q 17 || Nat.beq q 69 || Nat.beq q 93 || Nat.beq q 135 || Nat.beq q 187 || Nat.beq q 196
noncomputable def C_W_putRows : ZC := (k_W_putRows, fl_W, fun q => cond (Nat.beq q 106) (some (4, 2, f_R_line)) (cond (Nat.beq q 110) (some (2, 2, f_R_put)) (cond (Nat.beq q 116) (some (1, 0, f_T_isChanged)) (cond (Nat.beq q 120) (some (2, 2, f_R_putNumber)) (none)))), fun _ => none, fun _ _ => none, 0, 7)
noncomputable def f_W_putRows : List ZV → ZT → Option ZR := zfn C_W_putRows [4, 15, 0, 0] [(2, 0), (2, 0), (2, 0)]
set_option maxRecDepth 20000 in
theorem kc_W_putRows : zchk b_W_putRows k_W_putRows 239 = true := by decide +kernel
set_option maxRecDepth 20000 in
theorem kk_W_putRows : zck k_W_putRows 239 [106, 110, 116, 120] [] = true := by decide +kernel
set_option maxRecDepth 20000 in
theorem wl_W_putRows : ∀ w ∈ ([.instanceMethod y_W_putRows, .selects "RevisionWrite" y_W_putRows y_W_putRows, .code y_W_putRows b_W_putRows 7 none, .initialized "RevisionWrite", .methodLink "RevisionWrite" 106 y_R_line, .methodLink "RevisionWrite" 110 y_R_put, .methodLink "RevisionWrite" 116 y_T_isChanged, .methodLink "RevisionWrite" 120 y_R_putNumber] : List Cond), w ∈ zTT := by decide +kernel
set_option maxRecDepth 20000 in
theorem zk_W_putRows : ∀ pc, 239 ≤ pc → k_W_putRows pc = none := fun pc h => by unfold k_W_putRows; rw [zblt_f h]; rfl
set_option maxRecDepth 20000 in
theorem t_W_putRows {E : ZE} (hV : zEV E) {l : Launch} (hfl : l.flags = flags0) : zMet E l y_W_putRows (.code y_W_putRows b_W_putRows 7 none) 10 0 f_W_putRows := zmet hV hfl (C := C_W_putRows) (by decide +kernel) ⟨zcode_of (N := 239) kc_W_putRows zk_W_putRows, ff_W, (fun pc n ix ca hq hca => by
    have h9 := zck_v kk_W_putRows (zk_W_putRows) hq
    simp only [List.mem_cons, List.not_mem_nil, or_false] at h9
    rcases h9 with rfl | rfl | rfl | rfl
    · cases hca
      exact v_R_line hV hfl (wl_W_putRows _ (List.mem_of_getElem? (i := 4) rfl)) (by decide)
    · cases hca
      exact v_R_put hV hfl (wl_W_putRows _ (List.mem_of_getElem? (i := 5) rfl)) (by decide)
    · cases hca
      exact v_T_isChanged hV hfl (wl_W_putRows _ (List.mem_of_getElem? (i := 6) rfl)) (by decide)
    · cases hca
      exact v_R_putNumber hV hfl (wl_W_putRows _ (List.mem_of_getElem? (i := 7) rfl)) (by decide)), (fun pc n ix ca hq _ => absurd (zck_s kk_W_putRows (zk_W_putRows) hq) (by simp)), (fun pc x hx => by cases hx)⟩ zrt0 rfl rfl (by decide) (by decide) (fun _ _ => rfl)
set_option maxRecDepth 20000 in
theorem v_W_putRows {E : ZE} (hV : zEV E) {l : Launch} (hfl : l.flags = flags0) {own : String} {ix d : Nat} (hl : Cond.methodLink own ix y_W_putRows ∈ zTT) (hd : 10 < d) : zVirt E l own d ix 4 2 f_W_putRows := ⟨y_W_putRows, 4, 7, 10, 0, b_W_putRows, none, rfl, hl, (wl_W_putRows _ (List.mem_of_getElem? (i := 0) rfl)), (wl_W_putRows _ (List.mem_of_getElem? (i := 1) rfl)), (wl_W_putRows _ (List.mem_of_getElem? (i := 2) rfl)), (wl_W_putRows _ (List.mem_of_getElem? (i := 3) rfl)), by decide +kernel, zpar_of1 (by decide +kernel), by decide, hd, rfl, fun as σ r h => zfn_recv h, t_W_putRows hV hfl⟩
abbrev b_R_isOver : ByteArray := prog_4_method_5_code
def y_R_isOver : MethodName := ⟨"RevisionWrite$Row", "isOver", "()Z"⟩
def k_R_isOver (q : Nat) : Option (Instr × Nat) := cond (Nat.blt q 16) (cond (Nat.blt q 10) (cond (Nat.blt q 4) (cond (Nat.blt q 1) (cond (Nat.beq q 0) (some (.aload_n 0, 1)) none) (cond (Nat.beq q 1) (some (.getfield 15, 3)) none)) (cond (Nat.blt q 7) (cond (Nat.beq q 4) (some (.sipush 12000, 3)) none) (cond (Nat.beq q 7) (some (.if_icmp .le 7, 3)) none))) (cond (Nat.blt q 14) (cond (Nat.blt q 11) (cond (Nat.beq q 10) (some (.iconst 1, 1)) none) (cond (Nat.beq q 11) (some (.goto 4, 3)) none)) (cond (Nat.blt q 15) (cond (Nat.beq q 14) (some (.iconst 0, 1)) none) (cond (Nat.beq q 15) (some (.ireturn, 1)) none)))) none
def s_R_isOver (q : Nat) : Bool := false
noncomputable def C_R_isOver : ZC := (k_R_isOver, fl_R, fun _ => none, fun _ => none, fun _ _ => none, 2, 1)
noncomputable def f_R_isOver : List ZV → ZT → Option ZR := zfn C_R_isOver [6] []
set_option maxRecDepth 20000 in
theorem kc_R_isOver : zchk b_R_isOver k_R_isOver 16 = true := by decide +kernel
set_option maxRecDepth 20000 in
theorem wl_R_isOver : ∀ w ∈ ([.instanceMethod y_R_isOver, .selects "RevisionWrite$Row" y_R_isOver y_R_isOver, .code y_R_isOver b_R_isOver 1 (some .boolean), .initialized "RevisionWrite$Row"] : List Cond), w ∈ zTT := by decide +kernel
set_option maxRecDepth 20000 in
theorem zk_R_isOver : ∀ pc, 16 ≤ pc → k_R_isOver pc = none := fun pc h => by unfold k_R_isOver; rw [zblt_f h]; rfl
set_option maxRecDepth 20000 in
theorem t_R_isOver {E : ZE} (hV : zEV E) {l : Launch} (hfl : l.flags = flags0) : zMet E l y_R_isOver (.code y_R_isOver b_R_isOver 1 (some .boolean)) 0 2 f_R_isOver := zmet hV hfl (C := C_R_isOver) (by decide +kernel) ⟨zcode_of (N := 16) kc_R_isOver zk_R_isOver, ff_R, (fun pc n ix ca hq hca => by cases hca), (fun pc n ix ca hq hca => by cases hca), (fun pc x hx => by cases hx)⟩ zrt2 rfl rfl (by decide) (by decide) (fun _ _ => rfl)
set_option maxRecDepth 20000 in
theorem v_R_isOver {E : ZE} (hV : zEV E) {l : Launch} (hfl : l.flags = flags0) {own : String} {ix d : Nat} (hl : Cond.methodLink own ix y_R_isOver ∈ zTT) (hd : 0 < d) : zVirt E l own d ix 1 0 f_R_isOver := ⟨y_R_isOver, 6, 1, 0, 2, b_R_isOver, (some .boolean), rfl, hl, (wl_R_isOver _ (List.mem_of_getElem? (i := 0) rfl)), (wl_R_isOver _ (List.mem_of_getElem? (i := 1) rfl)), (wl_R_isOver _ (List.mem_of_getElem? (i := 2) rfl)), (wl_R_isOver _ (List.mem_of_getElem? (i := 3) rfl)), by decide +kernel, zpar_of1 (by decide +kernel), by decide, hd, rfl, fun as σ r h => zfn_recv h, t_R_isOver hV hfl⟩
abbrev b_T_save : ByteArray := prog_5_method_4_code
def y_T_save : MethodName := ⟨"RevisionWrite$Thing", "save", "()V"⟩
def k_T_save (q : Nat) : Option (Instr × Nat) := cond (Nat.blt q 14) (cond (Nat.blt q 8) (cond (Nat.blt q 2) (cond (Nat.blt q 1) (cond (Nat.beq q 0) (some (.aload_n 0, 1)) none) (cond (Nat.beq q 1) (some (.aload_n 0, 1)) none)) (cond (Nat.blt q 5) (cond (Nat.beq q 2) (some (.getfield 15, 3)) none) (cond (Nat.beq q 5) (some (.putfield 22, 3)) none))) (cond (Nat.blt q 10) (cond (Nat.blt q 9) (cond (Nat.beq q 8) (some (.aload_n 0, 1)) none) (cond (Nat.beq q 9) (some (.iconst 0, 1)) none)) (cond (Nat.blt q 13) (cond (Nat.beq q 10) (some (.putfield 19, 3)) none) (cond (Nat.beq q 13) (some (.return_, 1)) none)))) none
def s_T_save (q : Nat) : Bool := false
noncomputable def C_T_save : ZC := (k_T_save, fl_T, fun _ => none, fun _ => none, fun _ _ => none, 0, 1)
noncomputable def f_T_save : List ZV → ZT → Option ZR := zfn C_T_save [13] []
set_option maxRecDepth 20000 in
theorem kc_T_save : zchk b_T_save k_T_save 14 = true := by decide +kernel
set_option maxRecDepth 20000 in
theorem wl_T_save : ∀ w ∈ ([.instanceMethod y_T_save, .selects "RevisionWrite$Thing" y_T_save y_T_save, .code y_T_save b_T_save 1 none, .initialized "RevisionWrite$Thing"] : List Cond), w ∈ zTT := by decide +kernel
set_option maxRecDepth 20000 in
theorem zk_T_save : ∀ pc, 14 ≤ pc → k_T_save pc = none := fun pc h => by unfold k_T_save; rw [zblt_f h]; rfl
set_option maxRecDepth 20000 in
theorem t_T_save {E : ZE} (hV : zEV E) {l : Launch} (hfl : l.flags = flags0) : zMet E l y_T_save (.code y_T_save b_T_save 1 none) 0 0 f_T_save := zmet hV hfl (C := C_T_save) (by decide +kernel) ⟨zcode_of (N := 14) kc_T_save zk_T_save, ff_T, (fun pc n ix ca hq hca => by cases hca), (fun pc n ix ca hq hca => by cases hca), (fun pc x hx => by cases hx)⟩ zrt0 rfl rfl (by decide) (by decide) (fun _ _ => rfl)
set_option maxRecDepth 20000 in
theorem v_T_save {E : ZE} (hV : zEV E) {l : Launch} (hfl : l.flags = flags0) {own : String} {ix d : Nat} (hl : Cond.methodLink own ix y_T_save ∈ zTT) (hd : 0 < d) : zVirt E l own d ix 1 2 f_T_save := ⟨y_T_save, 13, 1, 0, 0, b_T_save, none, rfl, hl, (wl_T_save _ (List.mem_of_getElem? (i := 0) rfl)), (wl_T_save _ (List.mem_of_getElem? (i := 1) rfl)), (wl_T_save _ (List.mem_of_getElem? (i := 2) rfl)), (wl_T_save _ (List.mem_of_getElem? (i := 3) rfl)), by decide +kernel, zpar_of1 (by decide +kernel), by decide, hd, rfl, fun as σ r h => zfn_recv h, t_T_save hV hfl⟩
abbrev b_W_become : ByteArray := prog_1_method_14_code
def y_W_become : MethodName := ⟨"RevisionWrite", "become", "(I)V"⟩
def k_W_become (q : Nat) : Option (Instr × Nat) := cond (Nat.blt q 70) (cond (Nat.blt q 36) (cond (Nat.blt q 19) (cond (Nat.blt q 10) (cond (Nat.blt q 4) (cond (Nat.blt q 1) (cond (Nat.beq q 0) (some (.aload_n 0, 1)) none) (cond (Nat.beq q 1) (some (.getfield 28, 3)) none)) (cond (Nat.blt q 7) (cond (Nat.beq q 4) (some (.invokevirtual 124, 3)) none) (cond (Nat.beq q 7) (some (.ifCond .eq 11, 3)) none))) (cond (Nat.blt q 14) (cond (Nat.blt q 13) (cond (Nat.beq q 10) (some (.new 127, 3)) none) (cond (Nat.beq q 13) (some (.dup, 1)) none)) (cond (Nat.blt q 17) (cond (Nat.beq q 14) (some (.invokespecial 129, 3)) none) (cond (Nat.blt q 18) (cond (Nat.beq q 17) (some (.athrow, 1)) none) (cond (Nat.beq q 18) (some (.aload_n 0, 1)) none))))) (cond (Nat.blt q 25) (cond (Nat.blt q 23) (cond (Nat.blt q 22) (cond (Nat.beq q 19) (some (.getfield 24, 3)) none) (cond (Nat.beq q 22) (some (.astore_n 2, 1)) none)) (cond (Nat.blt q 24) (cond (Nat.beq q 23) (some (.aload_n 0, 1)) none) (cond (Nat.beq q 24) (some (.aload_n 0, 1)) none))) (cond (Nat.blt q 31) (cond (Nat.blt q 28) (cond (Nat.beq q 25) (some (.getfield 28, 3)) none) (cond (Nat.beq q 28) (some (.putfield 24, 3)) none)) (cond (Nat.blt q 32) (cond (Nat.beq q 31) (some (.aload_n 0, 1)) none) (cond (Nat.blt q 33) (cond (Nat.beq q 32) (some (.aload_n 2, 1)) none) (cond (Nat.beq q 33) (some (.putfield 28, 3)) none)))))) (cond (Nat.blt q 49) (cond (Nat.blt q 42) (cond (Nat.blt q 38) (cond (Nat.blt q 37) (cond (Nat.beq q 36) (some (.aload_n 0, 1)) none) (cond (Nat.beq q 37) (some (.iload_n 1, 1)) none)) (cond (Nat.blt q 41) (cond (Nat.beq q 38) (some (.putfield 130, 3)) none) (cond (Nat.beq q 41) (some (.aload_n 0, 1)) none))) (cond (Nat.blt q 46) (cond (Nat.blt q 43) (cond (Nat.beq q 42) (some (.iconst 0, 1)) none) (cond (Nat.beq q 43) (some (.putfield 133, 3)) none)) (cond (Nat.blt q 47) (cond (Nat.beq q 46) (some (.iconst 1, 1)) none) (cond (Nat.blt q 48) (cond (Nat.beq q 47) (some (.istore_n 3, 1)) none) (cond (Nat.beq q 48) (some (.iload_n 3, 1)) none))))) (cond (Nat.blt q 59) (cond (Nat.blt q 54) (cond (Nat.blt q 51) (cond (Nat.beq q 49) (some (.bipush 40, 2)) none) (cond (Nat.beq q 51) (some (.if_icmp .gt 18, 3)) none)) (cond (Nat.blt q 55) (cond (Nat.beq q 54) (some (.aload_n 0, 1)) none) (cond (Nat.blt q 58) (cond (Nat.beq q 55) (some (.getfield 17, 3)) none) (cond (Nat.beq q 58) (some (.iload_n 3, 1)) none)))) (cond (Nat.blt q 63) (cond (Nat.blt q 60) (cond (Nat.beq q 59) (some (.aaload, 1)) none) (cond (Nat.beq q 60) (some (.invokevirtual 136, 3)) none)) (cond (Nat.blt q 66) (cond (Nat.beq q 63) (some (.iinc 3 1, 3)) none) (cond (Nat.blt q 69) (cond (Nat.beq q 66) (some (.goto (-18), 3)) none) (cond (Nat.beq q 69) (some (.return_, 1)) none))))))) none
def s_W_become (q : Nat) : Bool := Nat.beq q 48
noncomputable def C_W_become : ZC := (k_W_become, fl_W, fun q => cond (Nat.beq q 124) (some (1, 0, f_R_isOver)) (cond (Nat.beq q 136) (some (1, 2, f_T_save)) (none)), fun q => cond (Nat.beq q 10) (some 2) (none), fun _ _ => none, 0, 4)
noncomputable def f_W_become : List ZV → ZT → Option ZR := zfn C_W_become [4, 0] [(2, 0), (2, 0)]
set_option maxRecDepth 20000 in
theorem kc_W_become : zchk b_W_become k_W_become 70 = true := by decide +kernel
set_option maxRecDepth 20000 in
theorem kk_W_become : zck k_W_become 70 [124, 136] [] = true := by decide +kernel
set_option maxRecDepth 20000 in
theorem wl_W_become : ∀ w ∈ ([.instanceMethod y_W_become, .selects "RevisionWrite" y_W_become y_W_become, .code y_W_become b_W_become 4 none, .initialized "RevisionWrite", .methodLink "RevisionWrite" 124 y_R_isOver, .methodLink "RevisionWrite" 136 y_T_save] : List Cond), w ∈ zTT := by decide +kernel
set_option maxRecDepth 20000 in
theorem zk_W_become : ∀ pc, 70 ≤ pc → k_W_become pc = none := fun pc h => by unfold k_W_become; rw [zblt_f h]; rfl
set_option maxRecDepth 20000 in
theorem th_W_become_10 : zThr C_W_become "RevisionWrite" 10 2 := ⟨127, 129, rfl, rfl, rfl, rfl, by decide +kernel, by decide +kernel, by decide +kernel, by decide, by decide +kernel⟩
set_option maxRecDepth 20000 in
theorem t_W_become {E : ZE} (hV : zEV E) {l : Launch} (hfl : l.flags = flags0) : zMet E l y_W_become (.code y_W_become b_W_become 4 none) 1 0 f_W_become := zmet hV hfl (C := C_W_become) (by decide +kernel) ⟨zcode_of (N := 70) kc_W_become zk_W_become, ff_W, (fun pc n ix ca hq hca => by
    have h9 := zck_v kk_W_become (zk_W_become) hq
    simp only [List.mem_cons, List.not_mem_nil, or_false] at h9
    rcases h9 with rfl | rfl
    · cases hca
      exact v_R_isOver hV hfl (wl_W_become _ (List.mem_of_getElem? (i := 4) rfl)) (by decide)
    · cases hca
      exact v_T_save hV hfl (wl_W_become _ (List.mem_of_getElem? (i := 5) rfl)) (by decide)), (fun pc n ix ca hq _ => absurd (zck_s kk_W_become (zk_W_become) hq) (by simp)), (fun pc x hx => by
    rcases zcond_inv (show cond (Nat.beq pc 10) (some 2) _ = some x from hx) with ⟨rfl, rfl⟩ | hx
    · exact th_W_become_10
    cases hx)⟩ zrt0 rfl rfl (by decide) (by decide) (fun _ _ => rfl)
set_option maxRecDepth 20000 in
theorem v_W_become {E : ZE} (hV : zEV E) {l : Launch} (hfl : l.flags = flags0) {own : String} {ix d : Nat} (hl : Cond.methodLink own ix y_W_become ∈ zTT) (hd : 1 < d) : zVirt E l own d ix 2 2 f_W_become := ⟨y_W_become, 4, 4, 1, 0, b_W_become, none, rfl, hl, (wl_W_become _ (List.mem_of_getElem? (i := 0) rfl)), (wl_W_become _ (List.mem_of_getElem? (i := 1) rfl)), (wl_W_become _ (List.mem_of_getElem? (i := 2) rfl)), (wl_W_become _ (List.mem_of_getElem? (i := 3) rfl)), by decide +kernel, zpar_of1 (by decide +kernel), by decide, hd, rfl, fun as σ r h => zfn_recv h, t_W_become hV hfl⟩
